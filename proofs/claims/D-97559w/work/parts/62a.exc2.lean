/-! ps_: methods that throw, methods that catch; what the machine throws -/
set_option maxRecDepth 100000
/-- pairs of classes that no cast joins -/
def ps_ncs : List (String × String) := [("[S", "[B"), ("[I", "[B"), ("[I", "[S"), (ps_nI, ps_nN), (ps_nI, ps_nS), (ps_nS, ps_nN)] ++
  (["PromiseScales$Plain", "PromiseScales$If", "PromiseScales$Twice"].flatMap fun a => ["PromiseScales$Oath", "PromiseScales$About"].map fun b => (a, b)) ++
  (["PromiseScales$Oath", "PromiseScales$About"].flatMap fun a => ["PromiseScales$Plain", "PromiseScales$If", "PromiseScales$Twice"].map fun b => (a, b)) ++
  [("PromiseScales$Plain", "PromiseScales$If"), ("PromiseScales$Plain", "PromiseScales$Twice"), ("PromiseScales$If", "PromiseScales$Twice"), ("PromiseScales$Twice", "PromiseScales$If"), ("PromiseScales$Oath", "PromiseScales$About")]
/-- what else is known: no casts, Throwable's two statics -/
def ps_Zy (E : ps_E) (U : State) : Prop := (∀ q ∈ ps_ncs, va_Nc q.1 q.2 U) ∧ vx_Zq Bundle.tN "UNASSIGNED_STACK" Bundle.steD (ps_A E) U U.heap ∧ vx_Zq Bundle.tN "SUPPRESSED_SENTINEL" Bundle.listD (ps_A E) U U.heap
theorem ps_Zy.same {E : ps_E} {U V : State} (h1 : V.vm = U.vm) (h2 : V.heap = U.heap) (h : ps_Zy E U) : ps_Zy E V := by
  obtain ⟨a, b, c⟩ := h
  have hA : U.vm.Alike V.vm := by rw [h1]; exact Vm.Alike.refl _
  exact ⟨fun q hq => (a q hq).moved hA, by rw [h2]; exact vx_Zq.moved hA b, by rw [h2]; exact vx_Zq.moved hA c⟩
theorem ps_Zy.go {E : ps_E} {s U : State} {locs : List Loc} (h : ps_Zy E s) (hS : va_S (ps_A E) s.heap U.heap locs) (hW : s.WarmedH U.vm) : ps_Zy E U := by
  obtain ⟨a, b, c⟩ := h
  exact ⟨fun q hq => (a q hq).moved hW.alike, (vx_Zq.moved hW.alike b).kept hS.2.1, (vx_Zq.moved hW.alike c).kept hS.2.1⟩
def ps_Zx (E : ps_E) : Prop := ∀ U : State, E.2.2.2 U → ps_Zy E U
/-- what a throw leaves: which exception, the heap -/
def ps_XC (postX : String → Heap → Prop) (A : Nat → Prop) : String → State → State → Prop := fun N st t => postX N t.heap ∧ va_F A st t
/-- a method that answers or throws -/
def ps_Gx (l : Launch) (E : ps_E) (y : MethodName) (b : ByteArray) (nL : Nat) (ret : Option FieldType) (fr lo mc ms : Nat) (as : List Value) (H0 : Heap) (post : Option Value → Heap → Prop) (postX : String → Heap → Prop) : Prop :=
  vx_Met l y (ws_ y b nL ret) ({ frames := fr, cells := mc, slots := ms, locals := lo } : Room) (ps_Pc E as H0) (ps_ge post (ps_A E)) (ps_XC postX (ps_A E)) mc ms (ps_A E)
/-- a method with handlers that throws nothing -/
def ps_GW (l : Launch) (E : ps_E) (y : MethodName) (b : ByteArray) (nL : Nat) (ret : Option FieldType) (hh : List (Nat × Nat × Nat × Nat)) (fr lo mc ms : Nat) (as : List Value) (H0 : Heap) (post : Option Value → Heap → Prop) : Prop :=
  Met l y (wsW_ y b nL ret hh) ({ frames := fr, cells := mc, slots := ms, locals := lo } : Room) (ps_Pc E as H0) (ps_ge post (ps_A E)) mc ms (ps_A E)
section PSX
variable {l : Launch} {E : ps_E} {y : MethodName} {b : ByteArray} {nL fr lo mc ms : Nat} {ret : Option FieldType} {hh : List (Nat × Nat × Nat × Nat)} {as : List Value} {H0 : Heap} {post : Option Value → Heap → Prop} {postX : String → Heap → Prop}
theorem ps_Gx.of (hy : plainName y.cls = true) (hn : (lg_sl as).length ≤ nL)
    (body : ∀ (p : Program) (e : Env) (s : State) (m : MethodId) (args : Array Value) (below : List Frame) (meth : Method) (c : Code), ps_X p E s m args meth c b nL ret y.cls H0 y.name → (∀ x ∈ c.exceptionTable.toList, False) → ∀ ls : Array Slot, lv_has ls nL (lv_args 0 as) → W p l e ({ frames := fr, cells := mc, slots := ms, locals := lo } : Room) s m args below meth c H0 [] 0 0 (vx_MQ below (ps_ge post (ps_A E)) (ps_XC postX (ps_A E)) args s mc ms (ps_A E)) (F0 m 0 ls [])) :
    ps_Gx l E y b nL ret fr lo mc ms as H0 post postX := by
  refine vx_ofW (cc := b) (maxL := nL) (ret := ret) hy rfl ?_
  intro p e s m args below meth c s₁ B hml ht hv
  obtain ⟨rfl, hh, hK⟩ := hv
  have hts := atoms_spec (ws := ws_ y b nL ret) B.pre
  have hts : ∀ w ∈ lw_all, w.before _ s = true := fun w h => hts w (List.mem_cons_of_mem _ h)
  have hl := lv_entry as (n := nL) hn
  rw [lg_entry_eq]
  subst hh
  exact body p e s m _ below meth c ⟨B.exec, B.bytes, hml, findClass_of_methodNamed B.named, hts, B.notSynchronized, B.returns, hK, rfl, (name_of_methodNamed B.named B.method).1⟩ ht _ hl
theorem ps_GW.of (hy : plainName y.cls = true) (hn : (lg_sl as).length ≤ nL)
    (body : ∀ (p : Program) (e : Env) (s : State) (m : MethodId) (args : Array Value) (below : List Frame) (meth : Method) (c : Code), ps_X p E s m args meth c b nL ret y.cls H0 y.name → c.exceptionTable.toList = tableOf hh → ∀ ls : Array Slot, lv_has ls nL (lv_args 0 as) → W p l e ({ frames := fr, cells := mc, slots := ms, locals := lo } : Room) s m args below meth c H0 [] 0 0 (MQ below (ps_ge post (ps_A E)) args s mc ms (ps_A E)) (F0 m 0 ls [])) :
    ps_GW l E y b nL ret hh fr lo mc ms as H0 post := by
  have h : vx_Met l y (wsW_ y b nL ret hh) ({ frames := fr, cells := mc, slots := ms, locals := lo } : Room) (ps_Pc E as H0) (ps_ge post (ps_A E)) (fun _ _ _ => False) mc ms (ps_A E) := by
    refine vx_ofWH (cc := b) (maxL := nL) (ret := ret) (hh := hh) hy rfl ?_
    intro p e s m args below meth c s₁ B hml hv
    obtain ⟨rfl, hh9, hK⟩ := hv
    have hts0 := atoms_spec (ws := wsW_ y b nL ret hh) B.pre
    have hts : ∀ w ∈ lw_all, w.before _ s = true := fun w h => hts0 w (List.mem_cons_of_mem _ h)
    have hl := lv_entry as (n := nL) hn
    have ht := vx_table (x := y) B (hts0 _ List.mem_cons_self)
    rw [lg_entry_eq]
    subst hh9
    exact vx_ret (body p e s m _ below meth c ⟨B.exec, B.bytes, hml, findClass_of_methodNamed B.named, hts, B.notSynchronized, B.returns, hK, rfl, (name_of_methodNamed B.named B.method).1⟩ ht _ hl)
  unfold ps_GW Met
  unfold vx_Met at h
  refine MetFree.mono h (fun _ _ q => q) (fun _ _ _ _ _ q => q) (fun a st o t _ q => ?_)
  rcases q with q | ⟨z, -, E9, ce, L, q, -⟩
  · exact q
  · exact q.elim
end PSX
section PSXR
variable {p : Program} {l : Launch} {e : Env} {R : Room} {s : State} {m : MethodId} {args : Array Value} {below : List Frame} {meth : Method} {c : Code} {H : Heap} {locs : List Loc} {cells slots : Nat} {Q : State → Prop}
variable {E : ps_E} {cc : ByteArray} {nL : Nat} {ret : Option FieldType} {own nm : String} {H0 : Heap} {pc idx : Nat} {ls : Array Slot} {rest st : List Value} {z : Nat}
variable {x y : MethodName} {b : ByteArray} {nL' fr lo mc' ms' mc ms a : Nat} {ret' : Option FieldType} {As : List Value} {C host : String} {post' : Option Value → Heap → Prop} {postX postX' : String → Heap → Prop}
theorem ps_runX {Hx : Array Value} (hr : vx_Run p l e R s m args below meth c H locs cells slots mc' ms' (F0 m pc ls st) rest (ps_ge post' (ps_A E) Hx) (ps_XC postX' (ps_A E)) (ps_A E)) (hS : va_S (ps_A E) s.heap H locs)
    (k : ∀ (v : Option Value) (H1 : Heap) (locs1 : List Loc), post' v H1 → va_S (ps_A E) s.heap H1 locs1 → W p l e R s m args below meth c H1 locs1 (cells + mc') (slots + ms') Q (F0 m (pc + 3) ls (v.toList ++ rest)))
    (kx : ∀ (N : String) (H1 : Heap) (locs1 : List Loc) (q : Addr) (ce : Cell), postX' N H1 → va_S (ps_A E) s.heap H1 locs1 → H1[q]? = some ce → ce.vm = .none → s.vm.findClass N = some ce.cls → vx_W p l e R s m args below meth c H1 locs1 (cells + mc') (slots + ms') Q (F0 m pc ls rest) q) : W p l e R s m args below meth c H locs cells slots Q (F0 m pc ls st) := by
  intro T hT X'
  rcases hr T hT X' with ⟨v', st₀, t, T', L, h0, X2, hL, e1, e2, ⟨v2, hv, hp, hz, hk⟩, hg⟩ | ⟨q, st₀, t, T', L, N, ce, h0, X2, hL, e1, e2, ⟨hp, hz, hk⟩, hce, hcv, hcl, hg⟩
  · cases hv
    rw [h0] at hz hk
    obtain ⟨t2, a1, b1⟩ := k v' T'.heap (locs ++ L) (by rw [e1]; exact hp) ⟨Nat.le_trans hS.1 (by rw [e1]; exact hz), fun q h1 h2 => by rw [e1, hk q (Nat.lt_of_lt_of_le h1 hS.1) h2]; exact hS.2.1 q h1 h2, fun q hq => by
        rcases List.mem_append.mp hq with h | h
        · exact hS.2.2 q h
        · exact hL q h⟩ T' rfl X2
    exact ⟨t2, hg t2 a1, b1⟩
  · rw [h0] at hz hk
    obtain ⟨t2, a1, b1⟩ := kx N T'.heap (locs ++ L) q ce (by rw [e1]; exact hp) ⟨Nat.le_trans hS.1 (by rw [e1]; exact hz), fun q h1 h2 => by rw [e1, hk q (Nat.lt_of_lt_of_le h1 hS.1) h2]; exact hS.2.1 q h1 h2, fun q hq => by
        rcases List.mem_append.mp hq with h | h
        · exact hS.2.2 q h
        · exact hL q h⟩ (by rw [e1]; exact hce) hcv hcl T' rfl X2
    exact ⟨t2, hg.trans a1, b1⟩
abbrev ps_kX (p : Program) (l : Launch) (e : Env) (R : Room) (s : State) (m : MethodId) (args : Array Value) (below : List Frame) (meth : Method) (c : Code) (cells slots : Nat) (Q : State → Prop) (E : ps_E) (pc : Nat) (ls : Array Slot) (rest : List Value) (postX' : String → Heap → Prop) : Prop :=
  ∀ (N : String) (H1 : Heap) (locs1 : List Loc) (q : Addr) (ce : Cell), postX' N H1 → va_S (ps_A E) s.heap H1 locs1 → H1[q]? = some ce → ce.vm = .none → s.vm.findClass N = some ce.cls → vx_W p l e R s m args below meth c H1 locs1 cells slots Q (F0 m pc ls rest) q
theorem ps_gxV (X : ps_X p E s m args meth c cc nL ret own H0 nm) (hE : ps_ZT E) (hM : ps_Gx l E y b nL' ret' fr lo mc' ms' (.ref a :: As) H post' postX') (hw : GoodIn lw_all (wsV own idx C y (ws_ y b nL' ret')))
    {n : Nat} (hd : y.cls = C ∧ y.cls ≠ "java/lang/invoke/MethodHandle" ∧ y.cls ≠ "java/lang/invoke/VarHandle" ∧ (parseMethodDescriptor y.desc).map (fun d => d.parameters.length) = some n) (hR : (fr + 1 ≤ R.frames ∧ 8 + (nL' + 11) + lo ≤ R.locals) ∧ cells + mc' ≤ R.cells ∧ slots + ms' ≤ R.slots) (hrc : ps_recv s H a C) (hS : va_S (ps_A E) s.heap H locs) (hl : ls.size = nL) (hnA : As.length = n) (hst : st = As.reverse ++ .ref a :: rest) (hcat : (rest.map fun v => v.category).sum ≤ 8) (hdg : decode cc pc = .ok (.invokevirtual idx, 3))
    (k : ∀ (v : Option Value) (H1 : Heap) (locs1 : List Loc), post' v H1 → va_S (ps_A E) s.heap H1 locs1 → W p l e R s m args below meth c H1 locs1 (cells + mc') (slots + ms') Q (F0 m (pc + 3) ls (v.toList ++ rest)))
    (kx : ps_kX p l e R s m args below meth c (cells + mc') (slots + ms') Q E pc ls rest postX') : W p l e R s m args below meth c H locs cells slots Q (F0 m pc ls st) := by
  obtain ⟨hx, hb, hml, ho, hts, hlk, hr, hK, hh, hnm⟩ := X
  exact ps_runX (vx_runV ⟨hx, hb, hml, ho, hts⟩ hM (cwV n hts hw rfl rfl rfl hd hR.1) ⟨ps_blind hE, hrc, fun U hU hW => ⟨rfl, hU, hK.go hE (by rw [hU]; exact hS) hW⟩⟩ rfl hnA hl hst (lv_room (pc := pc) (ls := ls) (rest := st) (m := m) hcat) hdg hR.2) hS k kx
theorem ps_gxVN (X : ps_X p E s m args meth c cc nL ret own H0 nm) (hE : ps_ZT E) (hM : ps_Gx l E y b nL' ret' fr lo mc' ms' (.ref a :: As) H post' postX') (hw : GoodIn lw_all (ws_ y b nL' ret')) (hZ : ps_Zk E z) (hz : Cond.methodLinkNest own idx y host ∈ lw_tbl) (hini : Cond.initialized y.cls ∈ lw_all) (hinst : Cond.instanceMethod y ∈ lw_all) (hsel : Cond.selects C y y ∈ lw_all)
    {n : Nat} (hd : y.cls ≠ "java/lang/invoke/MethodHandle" ∧ y.cls ≠ "java/lang/invoke/VarHandle" ∧ (parseMethodDescriptor y.desc).map (fun d => d.parameters.length) = some n) (hR : (fr + 1 ≤ R.frames ∧ 8 + (nL' + 11) + lo ≤ R.locals) ∧ cells + mc' ≤ R.cells ∧ slots + ms' ≤ R.slots) (hrc : ps_recv s H a C) (hS : va_S (ps_A E) s.heap H locs) (hl : ls.size = nL) (hnA : As.length = n) (hst : st = As.reverse ++ .ref a :: rest) (hcat : (rest.map fun v => v.category).sum ≤ 8) (hdg : decode cc pc = .ok (.invokevirtual idx, 3))
    (k : ∀ (v : Option Value) (H1 : Heap) (locs1 : List Loc), post' v H1 → va_S (ps_A E) s.heap H1 locs1 → W p l e R s m args below meth c H1 locs1 (cells + mc') (slots + ms') Q (F0 m (pc + 3) ls (v.toList ++ rest)))
    (kx : ps_kX p l e R s m args below meth c (cells + mc') (slots + ms') Q E pc ls rest postX') : W p l e R s m args below meth c H locs cells slots Q (F0 m pc ls st) := by
  have X0 := X
  obtain ⟨hx, hb, hml, ho, hts, hlk, hr, hK, hh, hnm⟩ := X
  exact ps_runX (vx_runVN ⟨hx, hb, hml, ho, hts⟩ hM ⟨va_cnB n hts hw rfl rfl rfl (X0.nw hZ hz rfl) (hts _ hini) hd hR.1, hts _ hinst, hts _ hsel⟩ ⟨ps_blind hE, hrc, fun U hU hW => ⟨rfl, hU, hK.go hE (by rw [hU]; exact hS) hW⟩⟩ rfl hnA hl hst (lv_room (pc := pc) (ls := ls) (rest := st) (m := m) hcat) hdg hR.2) hS k kx
/-- thrown on, out of a method without handlers -/
theorem ps_out {N : String} {q : Addr} {ce : Cell} (X : ps_X p E s m args meth c cc nL ret own H0 nm) (ht : ∀ x ∈ c.exceptionTable.toList, False) (hS : va_S (ps_A E) s.heap H locs) (hce : H[q]? = some ce) (hcv : ce.vm = .none) (hcl : s.vm.findClass N = some ce.cls) (hp : postX N H) (hc : cells ≤ mc) (hs : slots ≤ ms) {Qc : Array Value → State → Outcome → State → Prop} :
    vx_W p l e R s m args below meth c H locs cells slots (vx_MQ below Qc (ps_XC postX (ps_A E)) args s mc ms (ps_A E)) (F0 m pc ls rest) q :=
  vx_out (fun x hx => (ht x hx).elim) X.2.2.2.2.2.1 hce hcv hcl (fun t h1 _ => ⟨by rw [h1]; exact hp, hS.F h1⟩) hS.2.2 hc hs
/-- the words of a throw -/
theorem ps_okAll (X : ps_X p E s m args meth c cc nL ret own H0 nm) (hZ : ps_Zk E z) {L : List Cond} (h : L.all ps_okw = true) : ∀ w ∈ L, w.before args s = true := by
  intro w hw
  have h1 := List.all_eq_true.mp h w hw
  simp only [ps_okw, Bool.and_eq_true, Bool.or_eq_true, decide_eq_true_eq] at h1
  rcases h1.1 with g | g
  · exact X.2.2.2.2.1 w (lw_g h1.2 g)
  · exact va_Nw.use g.2 (X.nw hZ h1.2 g.1)
theorem ps_allot {L : List Cond} (h : L.all vx_ot = true) : ∀ w ∈ L, vx_ot w = true := fun w hw => List.all_eq_true.mp h w hw
abbrev ps_kM (p : Program) (l : Launch) (e : Env) (R : Room) (s : State) (m : MethodId) (args : Array Value) (below : List Frame) (meth : Method) (c : Code) (H : Heap) (locs : List Loc) (cells slots : Nat) (Q : State → Prop) (E : ps_E) (pc : Nat) (ls : Array Slot) (rest : List Value) (N : String) : Prop :=
  ∀ (H1 : Heap) (q9 : Addr) (ce : Cell), H.size ≤ H1.size → (∀ q : Nat, q < H.size → H1[q]? = H[q]?) → va_S (ps_A E) s.heap H1 locs → H1[q9]? = some ce → ce.vm = .none → s.vm.findClass N = some ce.cls → vx_W p l e R s m args below meth c H1 locs cells slots Q (F0 m pc ls rest) q9
theorem ps_npe (X : ps_X p E s m args meth c cc nL ret own H0 nm) (hZ : ps_Zk E z) (hX : ps_Zx E) (hLT : l.stackTraces = false) (hS : va_S (ps_A E) s.heap H locs) (hl : ls.size = nL) (hR : (8 ≤ R.frames ∧ 10260 ≤ R.locals) ∧ cells + 1 ≤ R.cells ∧ slots + 8 ≤ R.slots) (hcat : (rest.map fun v => v.category).sum ≤ 8)
    (k : ps_kM p l e R s m args below meth c H locs (cells + 1) (slots + 8) Q E pc ls rest ps_nN) : vx_NoteN p l e R s m args below meth c H locs cells slots Q (F0 m pc ls rest) := by
  have hw := ps_okAll X hZ ps_aN
  obtain ⟨hx, hb, hml, ho, hts, hlk, hr, hK, hh, hnm⟩ := X
  obtain ⟨-, hU, hN⟩ := hX s hK.2
  exact vx_npe hx hLT hw (ps_allot ps_oN) hU hN hS (hl.trans hml.symm) (by omega) (by omega) hR.2.1 hR.2.2 hlk k
theorem ps_vm {cls text : String} {names : List String} {nb : Nat} (X : ps_X p E s m args meth c cc nL ret own H0 nm) (hZ : ps_Zk E z) (hX : ps_Zx E) (hLT : l.stackTraces = false) (hok : (vx_atM cls names).all ps_okw = true) (hot : (vx_atM cls names).all vx_ot = true) (hcls : Bundle.fit cls = true) (hnames : ∀ n ∈ names, Bundle.fit n = true) (hso : (cls == "java/lang/StackOverflowError") = false ∧ (cls == "java/lang/OutOfMemoryError") = false) (htx : (text == notModelled) = false) (hnb : (stringBytes (stringToUtf16 text)).size ≤ nb) (hnb1 : nb ≤ 1000)
    (hS : va_S (ps_A E) s.heap H locs) (hl : ls.size = nL) (hlen : names.length ≤ 3) (hR : (8 ≤ R.frames ∧ 10260 ≤ R.locals) ∧ cells + 3 ≤ R.cells ∧ slots + (nb + 10) ≤ R.slots) (hcat : (rest.map fun v => v.category).sum ≤ 8)
    (k : ps_kM p l e R s m args below meth c H locs (cells + 3) (slots + (nb + 10)) Q E pc ls rest cls) : vx_Note p l e R s m args below meth c H locs cells slots Q (F0 m pc ls rest) cls text := by
  have hw := ps_okAll X hZ hok
  obtain ⟨hx, hb, hml, ho, hts, hlk, hr, hK, hh, hnm⟩ := X
  obtain ⟨-, hU, hN⟩ := hX s hK.2
  exact vx_vm hx hLT hcls hnames hso.1 hso.2 hw (ps_allot hot) hU hN hS (hl.trans hml.symm) htx hnb hnb1 (by omega) (by omega) (by omega) hR.2.1 hR.2.2 hlk k
/-- behind a throw of the machine: the component's cells are as they were -/
theorem ps_W.thrown {Γ : ps_Gh} {H1 : Heap} (h : ps_W E Γ H) (hz : H.size ≤ H1.size) (hk : ∀ q : Nat, q < H.size → H1[q]? = H[q]?) : ps_W E Γ H1 ∧ ps_gf Γ H Γ H1 := ⟨h.kept fun q hq => by
  obtain ⟨e, he⟩ := Option.ne_none_iff_exists'.mp hq
  exact hk q (h.lt he), hz, fun q hq hn => ⟨hn, hk q hq⟩⟩
end PSXR
