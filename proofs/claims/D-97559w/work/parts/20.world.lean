/-! ps_: the component's world: a ghost heap; what the tables and statics say beside the words that are carried along; rows for them (printed by gen/world.py) -/
set_option maxRecDepth 100000
abbrev ps_Gh : Type := Nat → Option va_E
def ps_W (E : ps_E) (Γ : ps_Gh) (H : Heap) : Prop := ∀ (a : Nat) (e : va_E), Γ a = some e → ps_A E a ∧ va_at E.1 ps_CL (a, e) H
theorem ps_W.at {E : ps_E} {Γ : ps_Gh} {H : Heap} {a : Nat} {e : va_E} (h : ps_W E Γ H) (ha : Γ a = some e) : va_at E.1 ps_CL (a, e) H := (h a e ha).2
theorem ps_W.A {E : ps_E} {Γ : ps_Gh} {H : Heap} {a : Nat} {e : va_E} (h : ps_W E Γ H) (ha : Γ a = some e) : ps_A E a := (h a e ha).1
theorem ps_W.lt {E : ps_E} {Γ : ps_Gh} {H : Heap} {a : Nat} {e : va_E} (h : ps_W E Γ H) (ha : Γ a = some e) : a < H.size := (h.at ha).lt
theorem ps_W.put {E : ps_E} {Γ : ps_Gh} {H H1 : Heap} {a : Nat} {e : va_E} (h : ps_W E Γ H) (hA : ps_A E a) (ha : va_at E.1 ps_CL (a, e) H1) (oq : ∀ q : Nat, q ≠ a → H1[q]? = H[q]?) : ps_W E (va_up Γ a (some e)) H1 := by
  intro b x hb
  by_cases q : b = a
  · subst q; rw [va_up_self] at hb; cases hb; exact ⟨hA, ha⟩
  · rw [va_up_ne _ _ q] at hb; exact ⟨(h b x hb).1, (h b x hb).2.kept (oq b q)⟩
theorem ps_W.new {E : ps_E} {Γ : ps_Gh} {H H1 : Heap} {e : va_E} (h : ps_W E Γ H) (hA : ps_A E H.size) (ha : va_at E.1 ps_CL (H.size, e) H1) (oq : ∀ q : Nat, q < H.size → H1[q]? = H[q]?) : ps_W E (va_up Γ H.size (some e)) H1 := by
  intro b x hb
  by_cases q : b = H.size
  · subst q; rw [va_up_self] at hb; cases hb; exact ⟨hA, ha⟩
  · rw [va_up_ne _ _ q] at hb; exact ⟨(h b x hb).1, (h b x hb).2.kept (oq b (h.lt hb))⟩
theorem ps_W.kept {E : ps_E} {Γ : ps_Gh} {H H1 : Heap} (h : ps_W E Γ H) (oq : ∀ q : Nat, Γ q ≠ none → H1[q]? = H[q]?) : ps_W E Γ H1 := fun b x hb => ⟨(h b x hb).1, (h b x hb).2.kept (oq b (by rw [hb]; exact fun z => nomatch z))⟩
/-- kinds of words that hold on, though no program carries them -/
def ps_kw : Cond → Bool := fun w => match w with
  | .castable _ _ => true
  | .methodLinkNest _ _ _ _ => true
  | .fieldLinkNest _ _ _ _ _ _ => true
  | .declares _ => true
  | .publicMethod _ => true
  | .unhidden _ _ _ => true
  | .arrayOver (.object _) => true
  | _ => false
theorem ps_kw_same {w : Cond} (hk : ps_kw w = true) {u U : State} (h : U.vm = u.vm) (hw : va_Nw w u) : va_Nw w U := by
  cases w <;> first | exact Bool.noConfusion (show false = true from hk) | exact va_Nw.same rfl h.symm hw | skip
  rename_i t
  cases t <;> first | exact Bool.noConfusion (show false = true from hk) | exact va_AO.moved (by rw [h]; exact Vm.Alike.refl _) hw
theorem ps_kw_warm {w : Cond} (hk : ps_kw w = true) {s U : State} (hW : s.WarmedH U.vm) (hw : va_Nw w s) : va_Nw w U := by
  have tr : ∀ {c : Cond}, c.onTables = true → c.before #[] (s.setVm U.vm) = true → c.before #[] U = true := by
    intro c hc h
    have e := Cond.onTables_vm (A := #[]) (A' := #[]) (U := s) (U' := U) U.vm c hc
    have hU : U.setVm U.vm = U := rfl
    rw [hU] at e
    rw [← e]
    exact h
  cases w <;> first | exact Bool.noConfusion (show false = true from hk) | exact va_Nw.warmC hW hw | exact va_Nw.warmM hW hw | exact va_Nw.warmF hW hw | exact va_Nw.warmD hW hw | exact tr rfl (by rw [Cond.publicMethod_setVm hW.alike]; exact hw) | exact tr rfl (by rw [Cond.unhidden_setVm hW.alike]; exact hw) | skip
  rename_i t
  cases t <;> first | exact Bool.noConfusion (show false = true from hk) | exact va_AO.moved hW.alike hw
/-- calls by an interface: the class of the object, what is named, what runs -/
def ps_Fws : List (String × MethodName × MethodName) := [("java/util/ArrayList", ⟨"java/util/List", "size", "()I"⟩, ⟨"java/util/ArrayList", "size", "()I"⟩), ("java/util/ArrayList", ⟨"java/util/List", "add", "(Ljava/lang/Object;)Z"⟩, ⟨"java/util/ArrayList", "add", "(Ljava/lang/Object;)Z"⟩), ("java/util/ArrayList", ⟨"java/util/List", "clear", "()V"⟩, ⟨"java/util/ArrayList", "clear", "()V"⟩), ("java/util/ArrayList", ⟨"java/util/List", "get", "(I)Ljava/lang/Object;"⟩, ⟨"java/util/ArrayList", "get", "(I)Ljava/lang/Object;"⟩), ("PromiseScales$Has", ⟨"PromiseScales$Held", "weight", "()I"⟩, ⟨"PromiseScales$Has", "weight", "()I"⟩), ("PromiseScales$Plain", ⟨"PromiseScales$Marked", "number", "()I"⟩, ⟨"PromiseScales$Promise", "number", "()I"⟩), ("PromiseScales$Plain", ⟨"PromiseScales$Marked", "likely", "()I"⟩, ⟨"PromiseScales$Promise", "likely", "()I"⟩), ("PromiseScales$If", ⟨"PromiseScales$Marked", "number", "()I"⟩, ⟨"PromiseScales$Promise", "number", "()I"⟩), ("PromiseScales$If", ⟨"PromiseScales$Marked", "likely", "()I"⟩, ⟨"PromiseScales$Promise", "likely", "()I"⟩), ("PromiseScales$Twice", ⟨"PromiseScales$Marked", "number", "()I"⟩, ⟨"PromiseScales$Promise", "number", "()I"⟩), ("PromiseScales$Twice", ⟨"PromiseScales$Marked", "likely", "()I"⟩, ⟨"PromiseScales$Promise", "likely", "()I"⟩), ("PromiseScales$Oath", ⟨"PromiseScales$Marked", "number", "()I"⟩, ⟨"PromiseScales$Promise", "number", "()I"⟩), ("PromiseScales$Oath", ⟨"PromiseScales$Marked", "likely", "()I"⟩, ⟨"PromiseScales$Promise", "likely", "()I"⟩), ("PromiseScales$About", ⟨"PromiseScales$Marked", "number", "()I"⟩, ⟨"PromiseScales$Promise", "number", "()I"⟩), ("PromiseScales$About", ⟨"PromiseScales$Marked", "likely", "()I"⟩, ⟨"PromiseScales$Promise", "likely", "()I"⟩)]
theorem ps_Fws_x : ∀ q ∈ ps_Fws, q.2.1.cls ≠ "java/lang/invoke/MethodHandle" ∧ q.2.1.cls ≠ "java/lang/invoke/VarHandle" := by decide
abbrev ps_zN : String := "DEFAULTCAPACITY_EMPTY_ELEMENTDATA"
abbrev ps_e0 (E : ps_E) : va_E := .inl (E.2.1 6, 0, .inr (.inr (.inr (.inr fun _ => none))))
/-- what else is known: words, calls by interfaces, the empty list's array at z -/
def ps_Zc (E : ps_E) (z : Nat) (U : State) : Prop := (∀ w ∈ lw_tbl, ps_kw w = true → va_Nw w U) ∧ (∀ q ∈ ps_Fws, va_Fw q.1 q.2.1 q.2.2 U) ∧ va_Z "java/util/ArrayList" ps_zN "[Ljava/lang/Object;" (.ref z) (ps_A E) U U.heap ∧ ¬ ps_A E z ∧ va_at E.1 ps_CL (z, ps_e0 E) U.heap
theorem ps_Zc.same {E : ps_E} {z : Nat} {U V : State} (h1 : V.vm = U.vm) (h2 : V.heap = U.heap) (h : ps_Zc E z U) : ps_Zc E z V := by
  obtain ⟨a, b, c, d, e⟩ := h
  have hA : U.vm.Alike V.vm := by rw [h1]; exact Vm.Alike.refl _
  exact ⟨fun w hw hk => ps_kw_same hk h1 (a w hw hk), fun q hq => (b q hq).moved (ps_Fws_x q hq) hA, by rw [h2]; exact c.moved hA, d, by rw [h2]; exact e⟩
theorem ps_Zc.go {E : ps_E} {z : Nat} {s U : State} {locs : List Loc} (h : ps_Zc E z s) (hS : va_S (ps_A E) s.heap U.heap locs) (hW : s.WarmedH U.vm) : ps_Zc E z U := by
  obtain ⟨a, b, c, d, e⟩ := h
  exact ⟨fun w hw hk => ps_kw_warm hk hW (a w hw hk), fun q hq => (b q hq).moved (ps_Fws_x q hq) hW.alike, (c.moved hW.alike).kept hS.2.1, d, e.kept (hS.2.1 z e.lt d)⟩
def ps_Zk (E : ps_E) (z : Nat) : Prop := ∀ U : State, E.2.2.2 U → ps_Zc E z U
section PSW
variable {p : Program} {l : Launch} {e : Env} {R : Room} {s : State} {m : MethodId} {args : Array Value} {below : List Frame} {meth : Method} {c : Code} {H : Heap} {locs : List Loc} {cells slots : Nat} {Q : State → Prop}
variable {E : ps_E} {cc : ByteArray} {nL : Nat} {ret : Option FieldType} {own nm : String} {H0 : Heap} {pc : Nat} {ls : Array Slot} {rest st : List Value} {z : Nat}
theorem ps_X.zc (X : ps_X p E s m args meth c cc nL ret own H0 nm) (hZ : ps_Zk E z) : ps_Zc E z s := hZ s X.2.2.2.2.2.2.2.1.2
theorem ps_X.nw (X : ps_X p E s m args meth c cc nL ret own H0 nm) (hZ : ps_Zk E z) {w : Cond} (hw : w ∈ lw_tbl) (hk : ps_kw w = true) : va_Nw w s := (X.zc hZ).1 w hw hk
variable {y x : MethodName} {b : ByteArray} {nL' fr lo mc' ms' idx count : Nat} {ret' : Option FieldType} {a : Nat} {As : List Value} {v : Option Value} {C owner host : String} {post' : Option Value → Heap → Prop}
theorem ps_runR5 {free : Addr → Prop} {g : JFrame} {Hx : Array Value} (hr : va_Run5 p l e R s m args below meth c H locs cells slots 0 0 (F0 m pc ls st) rest (ps_ro v Hx) (fun _ => False)) (k : W p l e R s m args below meth c H locs cells slots Q (F0 m (pc + 5) ls (v.toList ++ rest))) : W p l e R s m args below meth c H locs cells slots Q (F0 m pc ls st) := by
  intro T hT X'
  obtain ⟨v', st₀, t, T', L, h0, X2, hL, e1, e2, ⟨hv, hh⟩, hg⟩ := hr T hT X'
  cases hv
  obtain ⟨t2, a1, b1⟩ := k T' (by rw [e1, hh, h0]) (Stand.forget X2 (fun q h => (hL q h).elim))
  exact ⟨t2, hg t2 a1, b1⟩
theorem ps_runG5 {A0 : Nat → Prop} {Hx : Array Value} (hr : va_Run5 p l e R s m args below meth c H locs cells slots mc' ms' (F0 m pc ls st) rest (ps_ge post' A0 Hx) A0) (hS : va_S A0 s.heap H locs)
    (k : ∀ (v : Option Value) (H1 : Heap) (locs1 : List Loc), post' v H1 → va_S A0 s.heap H1 locs1 → W p l e R s m args below meth c H1 locs1 (cells + mc') (slots + ms') Q (F0 m (pc + 5) ls (v.toList ++ rest))) : W p l e R s m args below meth c H locs cells slots Q (F0 m pc ls st) := by
  intro T hT X'
  obtain ⟨v', st₀, t, T', L, h0, X2, hL, e1, e2, ⟨v2, hv, hp, hz, hk⟩, hg⟩ := hr T hT X'
  cases hv
  rw [h0] at hz hk
  obtain ⟨t2, a1, b1⟩ := k v' T'.heap (locs ++ L) (by rw [e1]; exact hp) ⟨Nat.le_trans hS.1 (by rw [e1]; exact hz), fun q h1 h2 => by rw [e1, hk q (Nat.lt_of_lt_of_le h1 hS.1) h2]; exact hS.2.1 q h1 h2, fun q hq => by
      rcases List.mem_append.mp hq with h | h
      · exact hS.2.2 q h
      · exact hL q h⟩ T' rfl X2
  exact ⟨t2, hg t2 a1, b1⟩
theorem ps_roU (X : ps_X p E s m args meth c cc nL ret own H0 nm) (hE : ps_ZT E) (hM : ps_Ro l E y b nL' ret' fr lo (.ref a :: As) H v) (hw : GoodIn lw_all (va_wsU own idx C owner x y (ws_ y b nL' ret'))) (hyx : y = ⟨owner, x.name, x.desc⟩)
    {n : Nat} (hd : owner ≠ "java/lang/invoke/MethodHandle" ∧ owner ≠ "java/lang/invoke/VarHandle" ∧ (parseMethodDescriptor x.desc).map (fun d => d.parameters.length) = some n) (hR : (fr + 1 ≤ R.frames ∧ 8 + (nL' + 11) + lo ≤ R.locals) ∧ cells ≤ R.cells ∧ slots ≤ R.slots) (hrc : ps_recv s H a C) (hS : va_S (ps_A E) s.heap H locs) (hl : ls.size = nL) (hnA : As.length = n) (hst : st = As.reverse ++ .ref a :: rest) (hcat : (rest.map fun v => v.category).sum ≤ 8) (hdg : decode cc pc = .ok (.invokevirtual idx, 3))
    (k : W p l e R s m args below meth c H locs cells slots Q (F0 m (pc + 3) ls (v.toList ++ rest))) : W p l e R s m args below meth c H locs cells slots Q (F0 m pc ls st) := by
  have X0 := X
  obtain ⟨hx, hb, hml, ho, hts, hlk, hr, hK, hh, hnm⟩ := X
  exact (ps_runR (free := fun _ => False) (g := F0 m pc ls st) (va_runU ⟨hx, hb, hml, ho, hts⟩ hM (va_cwU n hts hw rfl rfl rfl hyx hd hR.1) ⟨ps_blind hE, hrc, fun U hU hW => ⟨rfl, hU, hK.go hE (by rw [hU]; exact hS) hW⟩⟩ rfl hnA hl hst (lv_room (pc := pc) (ls := ls) (rest := st) (m := m) hcat) hdg hR.2) k)
theorem ps_roO (X : ps_X p E s m args meth c cc nL ret own H0 nm) (hE : ps_ZT E) (hM : ps_Ro l E y b nL' ret' fr lo (.ref a :: As) H v) (hw : GoodIn lw_all (va_wsO own idx C owner x y (ws_ y b nL' ret'))) {b0 : ByteArray} {m0 : Nat} {r0 : Option FieldType} (h0 : Cond.code ⟨owner, x.name, x.desc⟩ b0 m0 r0 ∈ lw_all)
    {n : Nat} (hd : owner ≠ "java/lang/invoke/MethodHandle" ∧ owner ≠ "java/lang/invoke/VarHandle" ∧ (parseMethodDescriptor x.desc).map (fun d => d.parameters.length) = some n) (hR : (fr + 1 ≤ R.frames ∧ 8 + (nL' + 11) + lo ≤ R.locals) ∧ cells ≤ R.cells ∧ slots ≤ R.slots) (hrc : ps_recv s H a C) (hS : va_S (ps_A E) s.heap H locs) (hl : ls.size = nL) (hnA : As.length = n) (hst : st = As.reverse ++ .ref a :: rest) (hcat : (rest.map fun v => v.category).sum ≤ 8) (hdg : decode cc pc = .ok (.invokevirtual idx, 3))
    (k : W p l e R s m args below meth c H locs cells slots Q (F0 m (pc + 3) ls (v.toList ++ rest))) : W p l e R s m args below meth c H locs cells slots Q (F0 m pc ls st) := by
  have X0 := X
  obtain ⟨hx, hb, hml, ho, hts, hlk, hr, hK, hh, hnm⟩ := X
  exact (ps_runR (free := fun _ => False) (g := F0 m pc ls st) (va_runU ⟨hx, hb, hml, ho, hts⟩ hM (va_cwO n hts hw rfl rfl rfl h0 hd hR.1) ⟨ps_blind hE, hrc, fun U hU hW => ⟨rfl, hU, hK.go hE (by rw [hU]; exact hS) hW⟩⟩ rfl hnA hl hst (lv_room (pc := pc) (ls := ls) (rest := st) (m := m) hcat) hdg hR.2) k)
theorem ps_roA (X : ps_X p E s m args meth c cc nL ret own H0 nm) (hE : ps_ZT E) (hM : ps_Ro l E y b nL' ret' fr lo (.ref a :: As) H v) (hw : GoodIn lw_all (va_wsU own idx C owner x y (ws_ y b nL' ret'))) (hZ : ps_Zk E z) (hz : Cond.declares ⟨owner, x.name, x.desc⟩ ∈ lw_tbl)
    {n : Nat} (hd : owner ≠ "java/lang/invoke/MethodHandle" ∧ owner ≠ "java/lang/invoke/VarHandle" ∧ (parseMethodDescriptor x.desc).map (fun d => d.parameters.length) = some n) (hR : (fr + 1 ≤ R.frames ∧ 8 + (nL' + 11) + lo ≤ R.locals) ∧ cells ≤ R.cells ∧ slots ≤ R.slots) (hrc : ps_recv s H a C) (hS : va_S (ps_A E) s.heap H locs) (hl : ls.size = nL) (hnA : As.length = n) (hst : st = As.reverse ++ .ref a :: rest) (hcat : (rest.map fun v => v.category).sum ≤ 8) (hdg : decode cc pc = .ok (.invokevirtual idx, 3))
    (k : W p l e R s m args below meth c H locs cells slots Q (F0 m (pc + 3) ls (v.toList ++ rest))) : W p l e R s m args below meth c H locs cells slots Q (F0 m pc ls st) := by
  have X0 := X
  obtain ⟨hx, hb, hml, ho, hts, hlk, hr, hK, hh, hnm⟩ := X
  exact (ps_runR (free := fun _ => False) (g := F0 m pc ls st) (va_runU ⟨hx, hb, hml, ho, hts⟩ hM (va_cwA n hts hw rfl rfl rfl (X0.nw hZ hz rfl) hd hR.1) ⟨ps_blind hE, hrc, fun U hU hW => ⟨rfl, hU, hK.go hE (by rw [hU]; exact hS) hW⟩⟩ rfl hnA hl hst (lv_room (pc := pc) (ls := ls) (rest := st) (m := m) hcat) hdg hR.2) k)
theorem ps_roF (X : ps_X p E s m args meth c cc nL ret own H0 nm) (hE : ps_ZT E) (hM : ps_Ro l E y b nL' ret' fr lo (.ref a :: As) H v) (hw : GoodIn lw_all (va_wsF own idx C x y (ws_ y b nL' ret'))) (hZ : ps_Zk E z) (hF : (C, x, y) ∈ ps_Fws)
    {n : Nat} (hd : x.cls ≠ "java/lang/invoke/MethodHandle" ∧ x.cls ≠ "java/lang/invoke/VarHandle" ∧ (parseMethodDescriptor x.desc).map (fun d => d.parameters.length) = some n) {cC : ClassId} (hat : ClassAt s C cC) (hR : (fr + 1 ≤ R.frames ∧ 8 + (nL' + 11) + lo ≤ R.locals) ∧ cells ≤ R.cells ∧ slots ≤ R.slots) (hrc : ps_recv s H a C) (hS : va_S (ps_A E) s.heap H locs) (hl : ls.size = nL) (hnA : As.length = n) (hst : st = As.reverse ++ .ref a :: rest) (hcat : (rest.map fun v => v.category).sum ≤ 8) (hdg : decode cc pc = .ok (.invokeinterface idx count, 5))
    (k : W p l e R s m args below meth c H locs cells slots Q (F0 m (pc + 5) ls (v.toList ++ rest))) : W p l e R s m args below meth c H locs cells slots Q (F0 m pc ls st) := by
  have X0 := X
  obtain ⟨hx, hb, hml, ho, hts, hlk, hr, hK, hh, hnm⟩ := X
  exact (ps_runR5 (free := fun _ => False) (g := F0 m pc ls st) (va_runF hat ⟨hx, hb, hml, ho, hts⟩ hM (va_cwF n hts hw rfl rfl rfl ((X0.zc hZ).2.1 _ hF) hd hR.1) ⟨ps_blind hE, hrc, fun U hU hW => ⟨rfl, hU, hK.go hE (by rw [hU]; exact hS) hW⟩⟩ rfl hnA hl hst (lv_room (pc := pc) (ls := ls) (rest := st) (m := m) hcat) hdg hR.2) k)
theorem ps_roSU (X : ps_X p E s m args meth c cc nL ret own H0 nm) (hE : ps_ZT E) (hM : ps_Ro l E y b nL' ret' fr lo (.ref a :: As) H v) (hw : GoodIn lw_all (va_wsSU own idx y (ws_ y b nL' ret')))
    {n : Nat} (hd : y.name ≠ "<init>" ∧ (parseMethodDescriptor y.desc).map (fun d => d.parameters.length) = some n) {cC : ClassId} (hat : ClassAt s C cC) (hR : (fr + 1 ≤ R.frames ∧ 8 + (nL' + 11) + lo ≤ R.locals) ∧ cells ≤ R.cells ∧ slots ≤ R.slots) (hrc : ps_recv s H a C) (hS : va_S (ps_A E) s.heap H locs) (hl : ls.size = nL) (hnA : As.length = n) (hst : st = As.reverse ++ .ref a :: rest) (hcat : (rest.map fun v => v.category).sum ≤ 8) (hdg : decode cc pc = .ok (.invokespecial idx, 3))
    (k : W p l e R s m args below meth c H locs cells slots Q (F0 m (pc + 3) ls (v.toList ++ rest))) : W p l e R s m args below meth c H locs cells slots Q (F0 m pc ls st) := by
  have X0 := X
  obtain ⟨hx, hb, hml, ho, hts, hlk, hr, hK, hh, hnm⟩ := X
  exact (ps_runR (free := fun _ => False) (g := F0 m pc ls st) (va_runSU hat ⟨hx, hb, hml, ho, hts⟩ hM (va_cwSU n hts hw rfl rfl rfl hd hR.1) ⟨ps_blind hE, hrc, fun U hU hW => ⟨rfl, hU, hK.go hE (by rw [hU]; exact hS) hW⟩⟩ rfl hnA hl hst (lv_room (pc := pc) (ls := ls) (rest := st) (m := m) hcat) hdg hR.2) k)
theorem ps_roSN (X : ps_X p E s m args meth c cc nL ret own H0 nm) (hE : ps_ZT E) (hM : ps_Ro l E y b nL' ret' fr lo As H v) (hw : GoodIn lw_all (ws_ y b nL' ret')) (hZ : ps_Zk E z) (hz : Cond.methodLinkNest own idx y host ∈ lw_tbl) (hini : Cond.initialized y.cls ∈ lw_all) (hstat : Cond.static y ∈ lw_all)
    {n : Nat} (hd : y.cls ≠ "java/lang/invoke/MethodHandle" ∧ y.cls ≠ "java/lang/invoke/VarHandle" ∧ (parseMethodDescriptor y.desc).map (fun d => d.parameters.length) = some n) (hR : (fr + 1 ≤ R.frames ∧ 8 + (nL' + 11) + lo ≤ R.locals) ∧ cells ≤ R.cells ∧ slots ≤ R.slots) (hS : va_S (ps_A E) s.heap H locs) (hl : ls.size = nL) (hnA : As.length = n) (hst : st = As.reverse ++ rest) (hcat : (rest.map fun v => v.category).sum ≤ 8) (hdg : decode cc pc = .ok (.invokestatic idx, 3))
    (k : W p l e R s m args below meth c H locs cells slots Q (F0 m (pc + 3) ls (v.toList ++ rest))) : W p l e R s m args below meth c H locs cells slots Q (F0 m pc ls st) := by
  have X0 := X
  obtain ⟨hx, hb, hml, ho, hts, hlk, hr, hK, hh, hnm⟩ := X
  exact (ps_runR (free := fun _ => False) (g := F0 m pc ls st) (va_runSN ⟨hx, hb, hml, ho, hts⟩ hM ⟨va_cnB n hts hw rfl rfl rfl (X0.nw hZ hz rfl) (hts _ hini) hd hR.1, hts _ hstat, trivial⟩ ⟨ps_blind hE, fun U hU hW => ⟨rfl, hU, hK.go hE (by rw [hU]; exact hS) hW⟩⟩ rfl hnA hl hst (lv_room (pc := pc) (ls := ls) (rest := st) (m := m) hcat) hdg hR.2) k)
theorem ps_geU (X : ps_X p E s m args meth c cc nL ret own H0 nm) (hE : ps_ZT E) (hM : ps_Ge l E y b nL' ret' fr lo mc' ms' (.ref a :: As) H post') (hw : GoodIn lw_all (va_wsU own idx C owner x y (ws_ y b nL' ret'))) (hyx : y = ⟨owner, x.name, x.desc⟩)
    {n : Nat} (hd : owner ≠ "java/lang/invoke/MethodHandle" ∧ owner ≠ "java/lang/invoke/VarHandle" ∧ (parseMethodDescriptor x.desc).map (fun d => d.parameters.length) = some n) (hR : (fr + 1 ≤ R.frames ∧ 8 + (nL' + 11) + lo ≤ R.locals) ∧ cells + mc' ≤ R.cells ∧ slots + ms' ≤ R.slots) (hrc : ps_recv s H a C) (hS : va_S (ps_A E) s.heap H locs) (hl : ls.size = nL) (hnA : As.length = n) (hst : st = As.reverse ++ .ref a :: rest) (hcat : (rest.map fun v => v.category).sum ≤ 8) (hdg : decode cc pc = .ok (.invokevirtual idx, 3))
    (k : ∀ (v : Option Value) (H1 : Heap) (locs1 : List Loc), post' v H1 → va_S (ps_A E) s.heap H1 locs1 → W p l e R s m args below meth c H1 locs1 (cells + mc') (slots + ms') Q (F0 m (pc + 3) ls (v.toList ++ rest))) : W p l e R s m args below meth c H locs cells slots Q (F0 m pc ls st) := by
  have X0 := X
  obtain ⟨hx, hb, hml, ho, hts, hlk, hr, hK, hh, hnm⟩ := X
  exact (ps_runG (va_runU ⟨hx, hb, hml, ho, hts⟩ hM (va_cwU n hts hw rfl rfl rfl hyx hd hR.1) ⟨ps_blind hE, hrc, fun U hU hW => ⟨rfl, hU, hK.go hE (by rw [hU]; exact hS) hW⟩⟩ rfl hnA hl hst (lv_room (pc := pc) (ls := ls) (rest := st) (m := m) hcat) hdg hR.2) hS k)
theorem ps_geO (X : ps_X p E s m args meth c cc nL ret own H0 nm) (hE : ps_ZT E) (hM : ps_Ge l E y b nL' ret' fr lo mc' ms' (.ref a :: As) H post') (hw : GoodIn lw_all (va_wsO own idx C owner x y (ws_ y b nL' ret'))) {b0 : ByteArray} {m0 : Nat} {r0 : Option FieldType} (h0 : Cond.code ⟨owner, x.name, x.desc⟩ b0 m0 r0 ∈ lw_all)
    {n : Nat} (hd : owner ≠ "java/lang/invoke/MethodHandle" ∧ owner ≠ "java/lang/invoke/VarHandle" ∧ (parseMethodDescriptor x.desc).map (fun d => d.parameters.length) = some n) (hR : (fr + 1 ≤ R.frames ∧ 8 + (nL' + 11) + lo ≤ R.locals) ∧ cells + mc' ≤ R.cells ∧ slots + ms' ≤ R.slots) (hrc : ps_recv s H a C) (hS : va_S (ps_A E) s.heap H locs) (hl : ls.size = nL) (hnA : As.length = n) (hst : st = As.reverse ++ .ref a :: rest) (hcat : (rest.map fun v => v.category).sum ≤ 8) (hdg : decode cc pc = .ok (.invokevirtual idx, 3))
    (k : ∀ (v : Option Value) (H1 : Heap) (locs1 : List Loc), post' v H1 → va_S (ps_A E) s.heap H1 locs1 → W p l e R s m args below meth c H1 locs1 (cells + mc') (slots + ms') Q (F0 m (pc + 3) ls (v.toList ++ rest))) : W p l e R s m args below meth c H locs cells slots Q (F0 m pc ls st) := by
  have X0 := X
  obtain ⟨hx, hb, hml, ho, hts, hlk, hr, hK, hh, hnm⟩ := X
  exact (ps_runG (va_runU ⟨hx, hb, hml, ho, hts⟩ hM (va_cwO n hts hw rfl rfl rfl h0 hd hR.1) ⟨ps_blind hE, hrc, fun U hU hW => ⟨rfl, hU, hK.go hE (by rw [hU]; exact hS) hW⟩⟩ rfl hnA hl hst (lv_room (pc := pc) (ls := ls) (rest := st) (m := m) hcat) hdg hR.2) hS k)
theorem ps_geA (X : ps_X p E s m args meth c cc nL ret own H0 nm) (hE : ps_ZT E) (hM : ps_Ge l E y b nL' ret' fr lo mc' ms' (.ref a :: As) H post') (hw : GoodIn lw_all (va_wsU own idx C owner x y (ws_ y b nL' ret'))) (hZ : ps_Zk E z) (hz : Cond.declares ⟨owner, x.name, x.desc⟩ ∈ lw_tbl)
    {n : Nat} (hd : owner ≠ "java/lang/invoke/MethodHandle" ∧ owner ≠ "java/lang/invoke/VarHandle" ∧ (parseMethodDescriptor x.desc).map (fun d => d.parameters.length) = some n) (hR : (fr + 1 ≤ R.frames ∧ 8 + (nL' + 11) + lo ≤ R.locals) ∧ cells + mc' ≤ R.cells ∧ slots + ms' ≤ R.slots) (hrc : ps_recv s H a C) (hS : va_S (ps_A E) s.heap H locs) (hl : ls.size = nL) (hnA : As.length = n) (hst : st = As.reverse ++ .ref a :: rest) (hcat : (rest.map fun v => v.category).sum ≤ 8) (hdg : decode cc pc = .ok (.invokevirtual idx, 3))
    (k : ∀ (v : Option Value) (H1 : Heap) (locs1 : List Loc), post' v H1 → va_S (ps_A E) s.heap H1 locs1 → W p l e R s m args below meth c H1 locs1 (cells + mc') (slots + ms') Q (F0 m (pc + 3) ls (v.toList ++ rest))) : W p l e R s m args below meth c H locs cells slots Q (F0 m pc ls st) := by
  have X0 := X
  obtain ⟨hx, hb, hml, ho, hts, hlk, hr, hK, hh, hnm⟩ := X
  exact (ps_runG (va_runU ⟨hx, hb, hml, ho, hts⟩ hM (va_cwA n hts hw rfl rfl rfl (X0.nw hZ hz rfl) hd hR.1) ⟨ps_blind hE, hrc, fun U hU hW => ⟨rfl, hU, hK.go hE (by rw [hU]; exact hS) hW⟩⟩ rfl hnA hl hst (lv_room (pc := pc) (ls := ls) (rest := st) (m := m) hcat) hdg hR.2) hS k)
theorem ps_geF (X : ps_X p E s m args meth c cc nL ret own H0 nm) (hE : ps_ZT E) (hM : ps_Ge l E y b nL' ret' fr lo mc' ms' (.ref a :: As) H post') (hw : GoodIn lw_all (va_wsF own idx C x y (ws_ y b nL' ret'))) (hZ : ps_Zk E z) (hF : (C, x, y) ∈ ps_Fws)
    {n : Nat} (hd : x.cls ≠ "java/lang/invoke/MethodHandle" ∧ x.cls ≠ "java/lang/invoke/VarHandle" ∧ (parseMethodDescriptor x.desc).map (fun d => d.parameters.length) = some n) {cC : ClassId} (hat : ClassAt s C cC) (hR : (fr + 1 ≤ R.frames ∧ 8 + (nL' + 11) + lo ≤ R.locals) ∧ cells + mc' ≤ R.cells ∧ slots + ms' ≤ R.slots) (hrc : ps_recv s H a C) (hS : va_S (ps_A E) s.heap H locs) (hl : ls.size = nL) (hnA : As.length = n) (hst : st = As.reverse ++ .ref a :: rest) (hcat : (rest.map fun v => v.category).sum ≤ 8) (hdg : decode cc pc = .ok (.invokeinterface idx count, 5))
    (k : ∀ (v : Option Value) (H1 : Heap) (locs1 : List Loc), post' v H1 → va_S (ps_A E) s.heap H1 locs1 → W p l e R s m args below meth c H1 locs1 (cells + mc') (slots + ms') Q (F0 m (pc + 5) ls (v.toList ++ rest))) : W p l e R s m args below meth c H locs cells slots Q (F0 m pc ls st) := by
  have X0 := X
  obtain ⟨hx, hb, hml, ho, hts, hlk, hr, hK, hh, hnm⟩ := X
  exact (ps_runG5 (va_runF hat ⟨hx, hb, hml, ho, hts⟩ hM (va_cwF n hts hw rfl rfl rfl ((X0.zc hZ).2.1 _ hF) hd hR.1) ⟨ps_blind hE, hrc, fun U hU hW => ⟨rfl, hU, hK.go hE (by rw [hU]; exact hS) hW⟩⟩ rfl hnA hl hst (lv_room (pc := pc) (ls := ls) (rest := st) (m := m) hcat) hdg hR.2) hS k)
theorem ps_geSU (X : ps_X p E s m args meth c cc nL ret own H0 nm) (hE : ps_ZT E) (hM : ps_Ge l E y b nL' ret' fr lo mc' ms' (.ref a :: As) H post') (hw : GoodIn lw_all (va_wsSU own idx y (ws_ y b nL' ret')))
    {n : Nat} (hd : y.name ≠ "<init>" ∧ (parseMethodDescriptor y.desc).map (fun d => d.parameters.length) = some n) {cC : ClassId} (hat : ClassAt s C cC) (hR : (fr + 1 ≤ R.frames ∧ 8 + (nL' + 11) + lo ≤ R.locals) ∧ cells + mc' ≤ R.cells ∧ slots + ms' ≤ R.slots) (hrc : ps_recv s H a C) (hS : va_S (ps_A E) s.heap H locs) (hl : ls.size = nL) (hnA : As.length = n) (hst : st = As.reverse ++ .ref a :: rest) (hcat : (rest.map fun v => v.category).sum ≤ 8) (hdg : decode cc pc = .ok (.invokespecial idx, 3))
    (k : ∀ (v : Option Value) (H1 : Heap) (locs1 : List Loc), post' v H1 → va_S (ps_A E) s.heap H1 locs1 → W p l e R s m args below meth c H1 locs1 (cells + mc') (slots + ms') Q (F0 m (pc + 3) ls (v.toList ++ rest))) : W p l e R s m args below meth c H locs cells slots Q (F0 m pc ls st) := by
  have X0 := X
  obtain ⟨hx, hb, hml, ho, hts, hlk, hr, hK, hh, hnm⟩ := X
  exact (ps_runG (va_runSU hat ⟨hx, hb, hml, ho, hts⟩ hM (va_cwSU n hts hw rfl rfl rfl hd hR.1) ⟨ps_blind hE, hrc, fun U hU hW => ⟨rfl, hU, hK.go hE (by rw [hU]; exact hS) hW⟩⟩ rfl hnA hl hst (lv_room (pc := pc) (ls := ls) (rest := st) (m := m) hcat) hdg hR.2) hS k)
theorem ps_geSN (X : ps_X p E s m args meth c cc nL ret own H0 nm) (hE : ps_ZT E) (hM : ps_Ge l E y b nL' ret' fr lo mc' ms' As H post') (hw : GoodIn lw_all (ws_ y b nL' ret')) (hZ : ps_Zk E z) (hz : Cond.methodLinkNest own idx y host ∈ lw_tbl) (hini : Cond.initialized y.cls ∈ lw_all) (hstat : Cond.static y ∈ lw_all)
    {n : Nat} (hd : y.cls ≠ "java/lang/invoke/MethodHandle" ∧ y.cls ≠ "java/lang/invoke/VarHandle" ∧ (parseMethodDescriptor y.desc).map (fun d => d.parameters.length) = some n) (hR : (fr + 1 ≤ R.frames ∧ 8 + (nL' + 11) + lo ≤ R.locals) ∧ cells + mc' ≤ R.cells ∧ slots + ms' ≤ R.slots) (hS : va_S (ps_A E) s.heap H locs) (hl : ls.size = nL) (hnA : As.length = n) (hst : st = As.reverse ++ rest) (hcat : (rest.map fun v => v.category).sum ≤ 8) (hdg : decode cc pc = .ok (.invokestatic idx, 3))
    (k : ∀ (v : Option Value) (H1 : Heap) (locs1 : List Loc), post' v H1 → va_S (ps_A E) s.heap H1 locs1 → W p l e R s m args below meth c H1 locs1 (cells + mc') (slots + ms') Q (F0 m (pc + 3) ls (v.toList ++ rest))) : W p l e R s m args below meth c H locs cells slots Q (F0 m pc ls st) := by
  have X0 := X
  obtain ⟨hx, hb, hml, ho, hts, hlk, hr, hK, hh, hnm⟩ := X
  exact (ps_runG (va_runSN ⟨hx, hb, hml, ho, hts⟩ hM ⟨va_cnB n hts hw rfl rfl rfl (X0.nw hZ hz rfl) (hts _ hini) hd hR.1, hts _ hstat, trivial⟩ ⟨ps_blind hE, fun U hU hW => ⟨rfl, hU, hK.go hE (by rw [hU]; exact hS) hW⟩⟩ rfl hnA hl hst (lv_room (pc := pc) (ls := ls) (rest := st) (m := m) hcat) hdg hR.2) hS k)
theorem ps_geIN (X : ps_X p E s m args meth c cc nL ret own H0 nm) (hE : ps_ZT E) (hM : ps_Ge l E y b nL' none fr lo mc' ms' (.ref a :: As) H post') (hw : GoodIn lw_all (ws_ y b nL' none)) (hZ : ps_Zk E z) (hz : Cond.methodLinkNest own idx y host ∈ lw_tbl) (hini : Cond.initialized y.cls ∈ lw_all) (hinst : Cond.instanceMethod y ∈ lw_all) (hy1 : y.name = "<init>")
    {n : Nat} (hd : y.cls ≠ "java/lang/invoke/MethodHandle" ∧ y.cls ≠ "java/lang/invoke/VarHandle" ∧ (parseMethodDescriptor y.desc).map (fun d => d.parameters.length) = some n) (hR : (fr + 1 ≤ R.frames ∧ 8 + (nL' + 11) + lo ≤ R.locals) ∧ cells + mc' ≤ R.cells ∧ slots + ms' ≤ R.slots) (hS : va_S (ps_A E) s.heap H locs) (hl : ls.size = nL) (hnA : As.length = n) (hst : st = As.reverse ++ .ref a :: rest) (hcat : (rest.map fun v => v.category).sum ≤ 8) (hdg : decode cc pc = .ok (.invokespecial idx, 3))
    (k : ∀ (v : Option Value) (H1 : Heap) (locs1 : List Loc), post' v H1 → va_S (ps_A E) s.heap H1 locs1 → W p l e R s m args below meth c H1 locs1 (cells + mc') (slots + ms') Q (F0 m (pc + 3) ls (v.toList ++ rest))) : W p l e R s m args below meth c H locs cells slots Q (F0 m pc ls st) := by
  have X0 := X
  obtain ⟨hx, hb, hml, ho, hts, hlk, hr, hK, hh, hnm⟩ := X
  exact (ps_runG (va_runIN ⟨hx, hb, hml, ho, hts⟩ hM ⟨va_cnB n hts hw rfl rfl rfl (X0.nw hZ hz rfl) (hts _ hini) hd hR.1, hy1, hts _ hinst⟩ ⟨ps_blind hE, fun U hU hW => ⟨rfl, hU, hK.go hE (by rw [hU]; exact hS) hW⟩⟩ rfl hnA hl hst (lv_room (pc := pc) (ls := ls) (rest := st) (m := m) hcat) hdg hR.2) hS k)
end PSW
