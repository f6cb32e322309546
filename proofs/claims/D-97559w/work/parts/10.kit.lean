/-! ps_: the kit of this claim: contracts over a named heap, rows over single cells -/
set_option maxRecDepth 100000
/-- the classes whose objects stand in the worlds (Promise kinds 1..5 at 7..11) -/
abbrev ps_CL : List vw_C := [(RX0, TX0, 11), (RX1, TX1, 1), (RX2, TX2, 7), (RX3, TX3, 2), (RX4, TX4, 24), (RX5, TX5, 7), (RX6, TX6, 8), (RX8, TX8, 5), (RX9, TX9, 5), (RX10, TX10, 5), (RX11, TX11, 5), (RX12, TX12, 5), (RX13, TX13, 2), (RJ2, TJ2, 3)]
/-- classes' numbers and slots; array classes; where the law's own heap begins; what else the tables and statics say -/
abbrev ps_E : Type := va_G × (Nat → ClassId) × Nat × (State → Prop)
def ps_A (E : ps_E) : Nat → Prop := fun q => E.2.2.1 ≤ q
abbrev ps_TY (dA : Nat → ClassId) : List (ClassId × FieldType) := [(dA 0, .int), (dA 1, .byte), (dA 2, .short), (dA 3, .boolean), (dA 4, .object RX1), (dA 5, .object RX2), (dA 6, .object "java/lang/Object")]
def ps_Kn (E : ps_E) (U : State) : Prop := va_K E.1 ps_CL (ps_TY E.2.1) U ∧ E.2.2.2 U
/-- what else is known goes along -/
def ps_ZT (E : ps_E) : Prop := (∀ U V : State, V.vm = U.vm → V.heap = U.heap → E.2.2.2 U → E.2.2.2 V) ∧ ∀ (s U : State) (locs : List Loc), E.2.2.2 s → va_S (ps_A E) s.heap U.heap locs → s.WarmedH U.vm → E.2.2.2 U
theorem ps_Kn.go {E : ps_E} (hE : ps_ZT E) {s U : State} {locs : List Loc} (h : ps_Kn E s) (hS : va_S (ps_A E) s.heap U.heap locs) (hW : s.WarmedH U.vm) : ps_Kn E U := ⟨va_K.moved hW.alike h.1, hE.2 s U locs h.2 hS hW⟩
theorem ps_Kn.same {E : ps_E} (hE : ps_ZT E) {U V : State} (h : ps_Kn E U) (h1 : V.vm = U.vm) (h2 : V.heap = U.heap) : ps_Kn E V :=
  ⟨va_K.moved (by rw [h1]; exact Vm.Alike.refl _) h.1, hE.1 U V h1 h2 h.2⟩
/-- a contract's start: these arguments, this heap -/
def ps_Pc (E : ps_E) (as : List Value) (H0 : Heap) : Array Value → State → Prop := fun v U => v = as.toArray ∧ U.heap = H0 ∧ ps_Kn E U
theorem ps_blind {E : ps_E} (hE : ps_ZT E) {as : List Value} {H0 : Heap} : FrameBlind (ps_Pc E as H0) := fun _ U g mk h => ⟨h.1, h.2.1, h.2.2.same hE rfl rfl⟩
/-- an answer, the heap untouched -/
def ps_ro (v : Option Value) : Array Value → State → Outcome → State → Prop := fun _ st oc t => oc = .returned v ∧ t.heap = st.heap
/-- an answer and a heap, by a post -/
def ps_ge (post : Option Value → Heap → Prop) (A : Nat → Prop) : Array Value → State → Outcome → State → Prop := fun _ st oc t => ∃ v, oc = .returned v ∧ post v t.heap ∧ va_F A st t
def ps_Ro (l : Launch) (E : ps_E) (y : MethodName) (b : ByteArray) (nL : Nat) (ret : Option FieldType) (fr lo : Nat) (as : List Value) (H0 : Heap) (v : Option Value) : Prop :=
  Met l y (ws_ y b nL ret) ({ frames := fr, cells := 0, slots := 0, locals := lo } : Room) (ps_Pc E as H0) (ps_ro v) 0 0 (fun _ => False)
def ps_Ge (l : Launch) (E : ps_E) (y : MethodName) (b : ByteArray) (nL : Nat) (ret : Option FieldType) (fr lo mc ms : Nat) (as : List Value) (H0 : Heap) (post : Option Value → Heap → Prop) : Prop :=
  Met l y (ws_ y b nL ret) ({ frames := fr, cells := mc, slots := ms, locals := lo } : Room) (ps_Pc E as H0) (ps_ge post (ps_A E)) mc ms (ps_A E)
/-- what holds inside a method -/
def ps_X (p : Program) (E : ps_E) (s : State) (m : MethodId) (args : Array Value) (meth : Method) (c : Code) (cc : ByteArray) (nL : Nat) (ret : Option FieldType) (own : String) (H0 : Heap) (nm : String) : Prop :=
  p.tables.exec = Jvm.exec ∧ c.code = cc ∧ c.maxLocals = nL ∧ s.vm.findClass own = some m.cls ∧ (∀ w ∈ lw_all, w.before args s = true) ∧ meth.locks = false ∧ meth.sig.returnType = ret ∧ ps_Kn E s ∧ s.heap = H0 ∧ meth.name = nm
section PSB
variable {l : Launch} {E : ps_E} {y : MethodName} {b : ByteArray} {nL fr lo mc ms : Nat} {ret : Option FieldType} {as : List Value} {H0 : Heap} {v : Option Value} {post : Option Value → Heap → Prop}
theorem ps_Ro.of (hy : plainName y.cls = true) (hn : (lg_sl as).length ≤ nL)
    (body : ∀ (p : Program) (e : Env) (s : State) (m : MethodId) (args : Array Value) (below : List Frame) (meth : Method) (c : Code), ps_X p E s m args meth c b nL ret y.cls H0 y.name → ∀ ls : Array Slot, lv_has ls nL (lv_args 0 as) → W p l e ({ frames := fr, cells := 0, slots := 0, locals := lo } : Room) s m args below meth c H0 [] 0 0 (MQ below (ps_ro v) args s 0 0 (fun _ => False)) (F0 m 0 ls [])) :
    ps_Ro l E y b nL ret fr lo as H0 v := by
  refine Met.ofW (cc := b) (maxL := nL) (ret := ret) hy rfl ?_
  intro p e s m args below meth c s₁ B hml hv
  obtain ⟨rfl, hh, hK⟩ := hv
  have hts := atoms_spec (ws := ws_ y b nL ret) B.pre
  have hts : ∀ w ∈ lw_all, w.before _ s = true := fun w h => hts w (List.mem_cons_of_mem _ h)
  have hl := lv_entry as (n := nL) hn
  rw [lg_entry_eq]
  subst hh
  exact body p e s m _ below meth c ⟨B.exec, B.bytes, hml, findClass_of_methodNamed B.named, hts, B.notSynchronized, B.returns, hK, rfl, (name_of_methodNamed B.named B.method).1⟩ _ hl
theorem ps_Ge.of (hy : plainName y.cls = true) (hn : (lg_sl as).length ≤ nL)
    (body : ∀ (p : Program) (e : Env) (s : State) (m : MethodId) (args : Array Value) (below : List Frame) (meth : Method) (c : Code), ps_X p E s m args meth c b nL ret y.cls H0 y.name → ∀ ls : Array Slot, lv_has ls nL (lv_args 0 as) → W p l e ({ frames := fr, cells := mc, slots := ms, locals := lo } : Room) s m args below meth c H0 [] 0 0 (MQ below (ps_ge post (ps_A E)) args s mc ms (ps_A E)) (F0 m 0 ls [])) :
    ps_Ge l E y b nL ret fr lo mc ms as H0 post := by
  refine Met.ofW (cc := b) (maxL := nL) (ret := ret) hy rfl ?_
  intro p e s m args below meth c s₁ B hml hv
  obtain ⟨rfl, hh, hK⟩ := hv
  have hts := atoms_spec (ws := ws_ y b nL ret) B.pre
  have hts : ∀ w ∈ lw_all, w.before _ s = true := fun w h => hts w (List.mem_cons_of_mem _ h)
  have hl := lv_entry as (n := nL) hn
  rw [lg_entry_eq]
  subst hh
  exact body p e s m _ below meth c ⟨B.exec, B.bytes, hml, findClass_of_methodNamed B.named, hts, B.notSynchronized, B.returns, hK, rfl, (name_of_methodNamed B.named B.method).1⟩ _ hl
end PSB
/-- a boolean as an int -/
def bI (b : Bool) : Int32 := if b = true then nI 1 else nI 0
theorem bI_t : bI true = nI 1 := rfl
theorem bI_f : bI false = nI 0 := rfl
section PSR
variable {p : Program} {l : Launch} {e : Env} {R : Room} {s : State} {m : MethodId} {args : Array Value} {below : List Frame} {meth : Method} {c : Code} {H : Heap} {locs : List Loc} {cells slots : Nat} {Q : State → Prop}
variable {E : ps_E} {cc : ByteArray} {nL : Nat} {ret : Option FieldType} {own nm : String} {H0 : Heap} {pc : Nat} {ls : Array Slot} {rest st : List Value}
-- ends
theorem ps_iretR {x : Int32} {w : Option Value} (X : ps_X p E s m args meth c cc nL (some .int) own H0 nm) (hdg : decode cc pc = .ok (.ireturn, 1)) (he : some (.int x) = w) :
    W p l e R s m args below meth c H0 [] 0 0 (MQ below (ps_ro w) args s 0 0 (fun _ => False)) (F0 m pc ls [.int x]) := by
  obtain ⟨hx, hb, hml, ho, hts, hlk, hr, hK, hh, hnm⟩ := X
  exact W.iret hx hb hr (fun t ht _ => ⟨by rw [he], by rw [ht, hh]⟩) (fun q hq => by cases hq) hdg hlk
theorem ps_zretR {x : Int32} {b : Bool} {w : Option Value} (X : ps_X p E s m args meth c cc nL (some .boolean) own H0 nm) (hdg : decode cc pc = .ok (.ireturn, 1)) (hx0 : x = bI b) (he : some (.int (bI b)) = w) :
    W p l e R s m args below meth c H0 [] 0 0 (MQ below (ps_ro w) args s 0 0 (fun _ => False)) (F0 m pc ls [.int x]) := by
  obtain ⟨hx, hb, hml, ho, hts, hlk, hr, hK, hh, hnm⟩ := X
  subst hx0
  exact W.zret hx hb hr (by cases b <;> rfl) (fun t ht _ => ⟨by rw [he], by rw [ht, hh]⟩) (fun q hq => by cases hq) hdg hlk
theorem ps_vretR (X : ps_X p E s m args meth c cc nL none own H0 nm) (hdg : decode cc pc = .ok (.return_, 1)) :
    W p l e R s m args below meth c H0 [] 0 0 (MQ below (ps_ro none) args s 0 0 (fun _ => False)) (F0 m pc ls []) := by
  obtain ⟨hx, hb, hml, ho, hts, hlk, hr, hK, hh, hnm⟩ := X
  exact W.vret hx hb hr (fun t ht _ => ⟨rfl, by rw [ht, hh]⟩) (fun q hq => by cases hq) hdg hlk
theorem ps_aretR {x : Value} {w : Option Value} {rt : FieldType} (X : ps_X p E s m args meth c cc nL (some rt) own H0 nm) (hrt : (∃ n, rt = .object n) ∨ ∃ t, rt = .array t) (hv : x = .null ∨ ∃ a, x = .ref a) (hdg : decode cc pc = .ok (.areturn, 1)) (he : some x = w) :
    W p l e R s m args below meth c H0 [] 0 0 (MQ below (ps_ro w) args s 0 0 (fun _ => False)) (F0 m pc ls [x]) := by
  obtain ⟨hx, hb, hml, ho, hts, hlk, hr, hK, hh, hnm⟩ := X
  exact W.aret hx hb hr hrt hv (fun t ht _ => ⟨by rw [he], by rw [ht, hh]⟩) (fun q hq => by cases hq) hdg hlk
variable {mc ms : Nat} {post : Option Value → Heap → Prop}
theorem ps_iretG {x : Int32} (X : ps_X p E s m args meth c cc nL (some .int) own H0 nm) (hS : va_S (ps_A E) s.heap H locs) (hc : cells ≤ mc) (hs : slots ≤ ms) (hdg : decode cc pc = .ok (.ireturn, 1)) (hp : post (some (.int x)) H) :
    W p l e R s m args below meth c H locs cells slots (MQ below (ps_ge post (ps_A E)) args s mc ms (ps_A E)) (F0 m pc ls [.int x]) := by
  obtain ⟨hx, hb, hml, ho, hts, hlk, hr, hK, hh, hnm⟩ := X
  refine W.widen hc hs ?_
  exact W.iret hx hb hr (fun t ht _ => ⟨_, rfl, by rw [ht]; exact hp, hS.F ht⟩) hS.2.2 hdg hlk
theorem ps_zretG {x : Int32} {b : Bool} (X : ps_X p E s m args meth c cc nL (some .boolean) own H0 nm) (hS : va_S (ps_A E) s.heap H locs) (hc : cells ≤ mc) (hs : slots ≤ ms) (hdg : decode cc pc = .ok (.ireturn, 1)) (hx0 : x = bI b) (hp : post (some (.int (bI b))) H) :
    W p l e R s m args below meth c H locs cells slots (MQ below (ps_ge post (ps_A E)) args s mc ms (ps_A E)) (F0 m pc ls [.int x]) := by
  obtain ⟨hx, hb, hml, ho, hts, hlk, hr, hK, hh, hnm⟩ := X
  subst hx0
  refine W.widen hc hs ?_
  exact W.zret hx hb hr (by cases b <;> rfl) (fun t ht _ => ⟨_, rfl, by rw [ht]; exact hp, hS.F ht⟩) hS.2.2 hdg hlk
theorem ps_vretG (X : ps_X p E s m args meth c cc nL none own H0 nm) (hS : va_S (ps_A E) s.heap H locs) (hc : cells ≤ mc) (hs : slots ≤ ms) (hdg : decode cc pc = .ok (.return_, 1)) (hp : post none H) :
    W p l e R s m args below meth c H locs cells slots (MQ below (ps_ge post (ps_A E)) args s mc ms (ps_A E)) (F0 m pc ls []) := by
  obtain ⟨hx, hb, hml, ho, hts, hlk, hr, hK, hh, hnm⟩ := X
  refine W.widen hc hs ?_
  exact W.vret hx hb hr (fun t ht _ => ⟨_, rfl, by rw [ht]; exact hp, hS.F ht⟩) hS.2.2 hdg hlk
theorem ps_aretG {x : Value} {rt : FieldType} (X : ps_X p E s m args meth c cc nL (some rt) own H0 nm) (hrt : (∃ n, rt = .object n) ∨ ∃ t, rt = .array t) (hv : x = .null ∨ ∃ a, x = .ref a) (hS : va_S (ps_A E) s.heap H locs) (hc : cells ≤ mc) (hs : slots ≤ ms) (hdg : decode cc pc = .ok (.areturn, 1)) (hp : post (some x) H) :
    W p l e R s m args below meth c H locs cells slots (MQ below (ps_ge post (ps_A E)) args s mc ms (ps_A E)) (F0 m pc ls [x]) := by
  obtain ⟨hx, hb, hml, ho, hts, hlk, hr, hK, hh, hnm⟩ := X
  refine W.widen hc hs ?_
  exact W.aret hx hb hr hrt hv (fun t ht _ => ⟨_, rfl, by rw [ht]; exact hp, hS.F ht⟩) hS.2.2 hdg hlk
-- calls
variable {y : MethodName} {b : ByteArray} {nL' fr lo mc' ms' idx : Nat} {ret' : Option FieldType} {a : Nat} {As : List Value} {v : Option Value} {C : String} {post' : Option Value → Heap → Prop}
theorem ps_runR {free : Addr → Prop} {g : JFrame} {Hx : Array Value} (hr : va_Run p l e R s m args below meth c H locs cells slots 0 0 (F0 m pc ls st) rest (ps_ro v Hx) (fun _ => False)) (k : W p l e R s m args below meth c H locs cells slots Q (F0 m (pc + 3) ls (v.toList ++ rest))) : W p l e R s m args below meth c H locs cells slots Q (F0 m pc ls st) := by
  intro T hT X'
  obtain ⟨v', st₀, t, T', L, h0, X2, hL, e1, e2, ⟨hv, hh⟩, hg⟩ := hr T hT X'
  cases hv
  obtain ⟨t2, a1, b1⟩ := k T' (by rw [e1, hh, h0]) (Stand.forget X2 (fun q h => (hL q h).elim))
  exact ⟨t2, hg t2 a1, b1⟩
theorem ps_runG {A0 : Nat → Prop} {Hx : Array Value} (hr : va_Run p l e R s m args below meth c H locs cells slots mc' ms' (F0 m pc ls st) rest (ps_ge post' A0 Hx) A0) (hS : va_S A0 s.heap H locs)
    (k : ∀ (v : Option Value) (H1 : Heap) (locs1 : List Loc), post' v H1 → va_S A0 s.heap H1 locs1 → W p l e R s m args below meth c H1 locs1 (cells + mc') (slots + ms') Q (F0 m (pc + 3) ls (v.toList ++ rest))) : W p l e R s m args below meth c H locs cells slots Q (F0 m pc ls st) := by
  intro T hT X'
  obtain ⟨v', st₀, t, T', L, h0, X2, hL, e1, e2, ⟨v2, hv, hp, hz, hk⟩, hg⟩ := hr T hT X'
  cases hv
  rw [h0] at hz hk
  obtain ⟨t2, a1, b1⟩ := k v' T'.heap (locs ++ L) (by rw [e1]; exact hp) ⟨Nat.le_trans hS.1 (by rw [e1]; exact hz), fun q h1 h2 => by rw [e1, hk q (Nat.lt_of_lt_of_le h1 hS.1) h2]; exact hS.2.1 q h1 h2, fun q hq => by
      rcases List.mem_append.mp hq with h | h
      · exact hS.2.2 q h
      · exact hL q h⟩ T' rfl X2
  exact ⟨t2, hg t2 a1, b1⟩
abbrev ps_recv (s : State) (H : Heap) (a : Nat) (C : String) : Prop := ∃ cell : Cell, H[a]? = some cell ∧ cell.vm.isStatics = false ∧ s.vm.findClass C = some cell.cls
theorem ps_roV (X : ps_X p E s m args meth c cc nL ret own H0 nm) (hE : ps_ZT E) (hM : ps_Ro l E y b nL' ret' fr lo (.ref a :: As) H v) (hw : GoodIn lw_all (wsV own idx C y (ws_ y b nL' ret')))
    {n : Nat} (hd : y.cls = C ∧ y.cls ≠ "java/lang/invoke/MethodHandle" ∧ y.cls ≠ "java/lang/invoke/VarHandle" ∧ (parseMethodDescriptor y.desc).map (fun d => d.parameters.length) = some n) (hR : (fr + 1 ≤ R.frames ∧ 8 + (nL' + 11) + lo ≤ R.locals) ∧ cells ≤ R.cells ∧ slots ≤ R.slots) (hrc : ps_recv s H a C) (hS : va_S (ps_A E) s.heap H locs) (hl : ls.size = nL) (hnA : As.length = n) (hst : st = As.reverse ++ .ref a :: rest) (hcat : (rest.map fun v => v.category).sum ≤ 8) (hdg : decode cc pc = .ok (.invokevirtual idx, 3))
    (k : W p l e R s m args below meth c H locs cells slots Q (F0 m (pc + 3) ls (v.toList ++ rest))) : W p l e R s m args below meth c H locs cells slots Q (F0 m pc ls st) := by
  obtain ⟨hx, hb, hml, ho, hts, hlk, hr, hK, hh, hnm⟩ := X
  exact ps_runR (free := fun _ => False) (g := F0 m pc ls st) (va_runV ⟨hx, hb, hml, ho, hts⟩ hM (cwV n hts hw rfl rfl rfl hd hR.1) ⟨ps_blind hE, hrc, fun U hU hW => ⟨rfl, hU, hK.go hE (by rw [hU]; exact hS) hW⟩⟩ rfl hnA hl hst (lv_room (pc := pc) (ls := ls) (rest := st) (m := m) hcat) hdg hR.2) k
theorem ps_roS (X : ps_X p E s m args meth c cc nL ret own H0 nm) (hE : ps_ZT E) (hM : ps_Ro l E y b nL' ret' fr lo As H v) (hw : GoodIn lw_all (va_wsS own idx y (ws_ y b nL' ret')))
    {n : Nat} (hd : y.cls ≠ "java/lang/invoke/MethodHandle" ∧ y.cls ≠ "java/lang/invoke/VarHandle" ∧ (parseMethodDescriptor y.desc).map (fun d => d.parameters.length) = some n) (hR : (fr + 1 ≤ R.frames ∧ 8 + (nL' + 11) + lo ≤ R.locals) ∧ cells ≤ R.cells ∧ slots ≤ R.slots) (hS : va_S (ps_A E) s.heap H locs) (hl : ls.size = nL) (hnA : As.length = n) (hst : st = As.reverse ++ rest) (hcat : (rest.map fun v => v.category).sum ≤ 8) (hdg : decode cc pc = .ok (.invokestatic idx, 3))
    (k : W p l e R s m args below meth c H locs cells slots Q (F0 m (pc + 3) ls (v.toList ++ rest))) : W p l e R s m args below meth c H locs cells slots Q (F0 m pc ls st) := by
  obtain ⟨hx, hb, hml, ho, hts, hlk, hr, hK, hh, hnm⟩ := X
  exact ps_runR (free := fun _ => False) (g := F0 m pc ls st) (va_runS ⟨hx, hb, hml, ho, hts⟩ hM (va_cwS n hts hw rfl rfl rfl hd hR.1) ⟨ps_blind hE, fun U hU hW => ⟨rfl, hU, hK.go hE (by rw [hU]; exact hS) hW⟩⟩ rfl hnA hl hst (lv_room (pc := pc) (ls := ls) (rest := st) (m := m) hcat) hdg hR.2) k
theorem ps_geV (X : ps_X p E s m args meth c cc nL ret own H0 nm) (hE : ps_ZT E) (hM : ps_Ge l E y b nL' ret' fr lo mc' ms' (.ref a :: As) H post') (hw : GoodIn lw_all (wsV own idx C y (ws_ y b nL' ret')))
    {n : Nat} (hd : y.cls = C ∧ y.cls ≠ "java/lang/invoke/MethodHandle" ∧ y.cls ≠ "java/lang/invoke/VarHandle" ∧ (parseMethodDescriptor y.desc).map (fun d => d.parameters.length) = some n) (hR : (fr + 1 ≤ R.frames ∧ 8 + (nL' + 11) + lo ≤ R.locals) ∧ cells + mc' ≤ R.cells ∧ slots + ms' ≤ R.slots) (hrc : ps_recv s H a C) (hS : va_S (ps_A E) s.heap H locs) (hl : ls.size = nL) (hnA : As.length = n) (hst : st = As.reverse ++ .ref a :: rest) (hcat : (rest.map fun v => v.category).sum ≤ 8) (hdg : decode cc pc = .ok (.invokevirtual idx, 3))
    (k : ∀ (v : Option Value) (H1 : Heap) (locs1 : List Loc), post' v H1 → va_S (ps_A E) s.heap H1 locs1 → W p l e R s m args below meth c H1 locs1 (cells + mc') (slots + ms') Q (F0 m (pc + 3) ls (v.toList ++ rest))) : W p l e R s m args below meth c H locs cells slots Q (F0 m pc ls st) := by
  obtain ⟨hx, hb, hml, ho, hts, hlk, hr, hK, hh, hnm⟩ := X
  exact ps_runG (va_runV ⟨hx, hb, hml, ho, hts⟩ hM (cwV n hts hw rfl rfl rfl hd hR.1) ⟨ps_blind hE, hrc, fun U hU hW => ⟨rfl, hU, hK.go hE (by rw [hU]; exact hS) hW⟩⟩ rfl hnA hl hst (lv_room (pc := pc) (ls := ls) (rest := st) (m := m) hcat) hdg hR.2) hS k
theorem ps_geS (X : ps_X p E s m args meth c cc nL ret own H0 nm) (hE : ps_ZT E) (hM : ps_Ge l E y b nL' ret' fr lo mc' ms' As H post') (hw : GoodIn lw_all (va_wsS own idx y (ws_ y b nL' ret')))
    {n : Nat} (hd : y.cls ≠ "java/lang/invoke/MethodHandle" ∧ y.cls ≠ "java/lang/invoke/VarHandle" ∧ (parseMethodDescriptor y.desc).map (fun d => d.parameters.length) = some n) (hR : (fr + 1 ≤ R.frames ∧ 8 + (nL' + 11) + lo ≤ R.locals) ∧ cells + mc' ≤ R.cells ∧ slots + ms' ≤ R.slots) (hS : va_S (ps_A E) s.heap H locs) (hl : ls.size = nL) (hnA : As.length = n) (hst : st = As.reverse ++ rest) (hcat : (rest.map fun v => v.category).sum ≤ 8) (hdg : decode cc pc = .ok (.invokestatic idx, 3))
    (k : ∀ (v : Option Value) (H1 : Heap) (locs1 : List Loc), post' v H1 → va_S (ps_A E) s.heap H1 locs1 → W p l e R s m args below meth c H1 locs1 (cells + mc') (slots + ms') Q (F0 m (pc + 3) ls (v.toList ++ rest))) : W p l e R s m args below meth c H locs cells slots Q (F0 m pc ls st) := by
  obtain ⟨hx, hb, hml, ho, hts, hlk, hr, hK, hh, hnm⟩ := X
  exact ps_runG (va_runS ⟨hx, hb, hml, ho, hts⟩ hM (va_cwS n hts hw rfl rfl rfl hd hR.1) ⟨ps_blind hE, fun U hU hW => ⟨rfl, hU, hK.go hE (by rw [hU]; exact hS) hW⟩⟩ rfl hnA hl hst (lv_room (pc := pc) (ls := ls) (rest := st) (m := m) hcat) hdg hR.2) hS k
theorem ps_geI (X : ps_X p E s m args meth c cc nL ret own H0 nm) (hE : ps_ZT E) (hM : ps_Ge l E y b nL' none fr lo mc' ms' (.ref a :: As) H post') (hw : GoodIn lw_all (ws_ y b nL' none)) (hini : Cond.initialized y.cls ∈ lw_all) (hlk0 : Cond.methodLink own idx y ∈ lw_all) (hinst : Cond.instanceMethod y ∈ lw_all) (hy1 : y.name = "<init>")
    {n : Nat} (hd : y.cls ≠ "java/lang/invoke/MethodHandle" ∧ y.cls ≠ "java/lang/invoke/VarHandle" ∧ (parseMethodDescriptor y.desc).map (fun d => d.parameters.length) = some n) (hR : (fr + 1 ≤ R.frames ∧ 8 + (nL' + 11) + lo ≤ R.locals) ∧ cells + mc' ≤ R.cells ∧ slots + ms' ≤ R.slots) (hS : va_S (ps_A E) s.heap H locs) (hl : ls.size = nL) (hnA : As.length = n) (hst : st = As.reverse ++ .ref a :: rest) (hcat : (rest.map fun v => v.category).sum ≤ 8) (hdg : decode cc pc = .ok (.invokespecial idx, 3))
    (k : ∀ (v : Option Value) (H1 : Heap) (locs1 : List Loc), post' v H1 → va_S (ps_A E) s.heap H1 locs1 → W p l e R s m args below meth c H1 locs1 (cells + mc') (slots + ms') Q (F0 m (pc + 3) ls (v.toList ++ rest))) : W p l e R s m args below meth c H locs cells slots Q (F0 m pc ls st) := by
  obtain ⟨hx, hb, hml, ho, hts, hlk, hr, hK, hh, hnm⟩ := X
  exact ps_runG (va_runI ⟨hx, hb, hml, ho, hts⟩ hM (cwI n hts hw rfl rfl rfl (hts _ hini) (hts _ hlk0) (hts _ hinst) hy1 hd hR.1) ⟨ps_blind hE, fun U hU hW => ⟨rfl, hU, hK.go hE (by rw [hU]; exact hS) hW⟩⟩ rfl hnA hl hst (lv_room (pc := pc) (ls := ls) (rest := st) (m := m) hcat) hdg hR.2) hS k
end PSR
