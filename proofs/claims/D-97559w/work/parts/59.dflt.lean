/-! ps_: default methods: a reference that names a class lands in an interface's default (virtual and super calls) -/
set_option maxRecDepth 100000
theorem ps_pig : ∀ (n : Nat) (f : Nat → Nat), (∀ k, k ≤ n → f k < n) → ∃ i j, i < j ∧ j ≤ n ∧ f i = f j := by
  intro n
  induction n with
  | zero => intro f h; exact absurd (h 0 (Nat.le_refl _)) (Nat.not_lt_zero _)
  | succ n ih =>
    intro f h
    by_cases q : ∃ i, i ≤ n ∧ f i = f (n + 1)
    · obtain ⟨i, h1, h2⟩ := q
      exact ⟨i, n + 1, by omega, Nat.le_refl _, h2⟩
    · obtain ⟨i, j, h1, h2, h3⟩ := ih (fun k => if f k = n then f (n + 1) else f k) (fun k hk => by
        have a := h k (by omega)
        have b := h (n + 1) (Nat.le_refl _)
        have c : f k ≠ f (n + 1) := fun e => q ⟨k, hk, e⟩
        show (if f k = n then f (n + 1) else f k) < n
        split <;> omega)
      have ci : f i ≠ f (n + 1) := fun e => q ⟨i, by omega, e⟩
      have cj : f j ≠ f (n + 1) := fun e => q ⟨j, h2, e⟩
      refine ⟨i, j, h1, by omega, ?_⟩
      split at h3 <;> split at h3 <;> omega
def ps_up (vm : Vm) : Nat → ClassId → Option ClassId
  | 0, c => some c
  | k + 1, c => (vm.classes[c]?.bind (·.super)).bind (ps_up vm k)
theorem ps_up_add {vm : Vm} (j : Nat) : ∀ (i : Nat) (c : ClassId), ps_up vm (i + j) c = (ps_up vm i c).bind (ps_up vm j) := by
  intro i
  induction i with
  | zero => intro c; rw [Nat.zero_add]; rfl
  | succ i ih =>
    intro c
    rw [show i + 1 + j = (i + j) + 1 by omega]
    show (vm.classes[c]?.bind (·.super)).bind (ps_up vm (i + j)) = ((vm.classes[c]?.bind (·.super)).bind (ps_up vm i)).bind (ps_up vm j)
    cases vm.classes[c]?.bind (·.super) with
    | none => rfl
    | some q => exact ih q
theorem ps_up_none {vm : Vm} {name desc : String} : ∀ (n : Nat) (c : ClassId), lookupInSuperclasses vm name desc n c = none → ∀ k, k < n → ∀ p, ps_up vm k c = some p → ownMethod vm name desc p = none := by
  intro n
  induction n with
  | zero => intro c _ k hk; omega
  | succ n ih =>
    intro c h k hk p hp
    unfold lookupInSuperclasses at h
    cases hc : vm.classes[c]? with
    | none =>
      cases k with
      | zero => cases hp; simp [ownMethod, hc]
      | succ k => simp [ps_up, hc] at hp
    | some kc =>
      simp only [hc, Option.bind_eq_bind, Option.bind_some] at h
      cases hf : kc.findMethod name desc with
      | some i => simp [hf] at h
      | none =>
        simp only [hf] at h
        cases k with
        | zero => cases hp; simp [ownMethod, hc, hf]
        | succ k =>
          cases hs : kc.super with
          | none => simp [ps_up, hc, hs] at hp
          | some q =>
            simp only [hs, Option.bind_some] at h
            simp only [ps_up, hc, Option.bind_some, hs] at hp
            exact ih q h k (by omega) p hp
theorem ps_up_mem {vm : Vm} : ∀ (n : Nat) (c p : ClassId), p ∈ vm.superclassesAux n c → ∃ k, k < n ∧ ps_up vm (k + 1) c = some p := by
  intro n
  induction n with
  | zero => intro c p h; simp [Vm.superclassesAux] at h
  | succ n ih =>
    intro c p h
    unfold Vm.superclassesAux at h
    cases hc : vm.classes[c]?.bind (·.super) with
    | none => simp [hc] at h
    | some q =>
      simp only [hc] at h
      rcases List.mem_cons.mp h with rfl | h
      · exact ⟨0, by omega, by simp [ps_up, hc]⟩
      · obtain ⟨k, h1, h2⟩ := ih q p h
        exact ⟨k + 1, by omega, by show (vm.classes[c]?.bind (·.super)).bind (ps_up vm (k + 1)) = some p; rw [hc]; exact h2⟩
theorem ps_up_size {vm : Vm} {k : Nat} {c p : ClassId} (h : ps_up vm (k + 1) c = some p) : ∀ j, j ≤ k → ∃ q, ps_up vm j c = some q ∧ q < vm.classes.size := by
  intro j hj
  have e := ps_up_add (vm := vm) (k + 1 - j) j c
  rw [show j + (k + 1 - j) = k + 1 by omega, h] at e
  cases hq : ps_up vm j c with
  | none => rw [hq] at e; cases e
  | some q =>
    rw [hq] at e
    refine ⟨q, rfl, ?_⟩
    obtain ⟨n, hn⟩ : ∃ n, k + 1 - j = n + 1 := ⟨k - j, by omega⟩
    rw [hn] at e
    by_cases hlt : q < vm.classes.size
    · exact hlt
    · have h0 : vm.classes[q]? = none := Array.getElem?_eq_none_iff.mpr (Nat.le_of_not_lt hlt)
      simp [ps_up, h0] at e
/-- no class from c up declares it, however far up -/
theorem ps_up_all {vm : Vm} {name desc : String} {c : ClassId} (h : lookupInSuperclasses vm name desc (vm.classes.size + 1) c = none) {k : Nat} (hk : k ≤ vm.classes.size + 1) {p : ClassId} (hp : ps_up vm k c = some p) : ownMethod vm name desc p = none := by
  by_cases q : k ≤ vm.classes.size
  · exact ps_up_none _ _ h k (by omega) p hp
  · obtain rfl : k = vm.classes.size + 1 := by omega
    have hs := ps_up_size hp
    obtain ⟨i, j, h1, h2, h3⟩ := ps_pig vm.classes.size (fun j => (ps_up vm j c).getD 0) (fun k hk => by
      obtain ⟨q, a, b⟩ := hs k hk
      show (ps_up vm k c).getD 0 < _
      rw [a]; exact b)
    obtain ⟨qi, a1, -⟩ := hs i (by omega)
    obtain ⟨qj, b1, -⟩ := hs j h2
    rw [a1, b1] at h3
    have e : qi = qj := h3
    subst e
    have e1 := ps_up_add (vm := vm) (vm.classes.size + 1 - j) j c
    have e2 := ps_up_add (vm := vm) (vm.classes.size + 1 - j) i c
    rw [b1] at e1
    rw [a1] at e2
    rw [show j + (vm.classes.size + 1 - j) = vm.classes.size + 1 by omega, hp] at e1
    exact ps_up_none _ _ h (i + (vm.classes.size + 1 - j)) (by omega) p (e2.trans e1.symm)
theorem ps_up_above {vm : Vm} {name desc : String} {c : ClassId} (h : lookupInSuperclasses vm name desc (vm.classes.size + 1) c = none) : superclassMethods vm c name desc = [] := by
  unfold superclassMethods
  rw [List.filterMap_eq_nil_iff]
  intro p hp
  obtain ⟨k, h1, h2⟩ := ps_up_mem _ _ _ hp
  exact ps_up_all h (by omega) h2
theorem ps_sel_none {vm : Vm} {mR : MethodId} {name desc : String} : ∀ (n : Nat) (c : ClassId), lookupInSuperclasses vm name desc n c = none → selectInSuperclasses vm mR name desc n c = none := by
  intro n
  induction n with
  | zero => intro c _; rfl
  | succ n ih =>
    intro c h
    unfold lookupInSuperclasses at h
    unfold selectInSuperclasses
    cases hc : vm.classes[c]? with
    | none => simp
    | some kc =>
      simp only [hc, Option.bind_eq_bind, Option.bind_some] at h ⊢
      cases hf : kc.findMethod name desc with
      | some i => simp [hf] at h
      | none =>
        simp only [hf] at h
        cases hs : kc.super with
        | none => simp
        | some q =>
          simp only [hs, Option.bind_some] at h
          simpa using ih q h
/-- **the super call's lookup lands in the default** -/
theorem ps_lks {s : State} {args : Array Value} {P mkN name desc : String} {y : MethodName} {r0 : MethodId} {r : Method} (hL : (Cond.landsInDefault P ⟨P, name, desc⟩ y).before args s = true) (hsame : (Cond.sameMethod P mkN name desc).before args s = true) (hy : y = ⟨mkN, name, desc⟩) (hP : P ≠ "java/lang/invoke/MethodHandle" ∧ P ≠ "java/lang/invoke/VarHandle")
    (hn : s.methodNamed? y = some r0) (hrm : s.vm.method? r0 = some r) (hst : r.isStatic = false) {cn : ClassId} (hcn : s.vm.findClass P = some cn) : lookupSpecial s.vm cn name desc = .method r0 := by
  subst hy
  obtain ⟨cn', ck, r1, hcn', hck, hni, hf, hn1⟩ := Cond.sameMethod_found hsame
  cases hcn.symm.trans hcn'
  cases hn.symm.trans hn1
  obtain ⟨c2, r2, m2, rm, q1, q2, q3, q5, q4, -, -, -⟩ := Cond.landsInDefault_spec hL
  cases hcn.symm.trans q1
  cases hf.symm.trans q2
  cases hn.symm.trans q3
  cases hrm.symm.trans q5
  obtain ⟨hrn, hrd⟩ := name_of_methodNamed hn hrm
  have hpoly : ∀ z, signaturePolymorphic ck z = false := fun z => by
    obtain ⟨k9, e9, n9⟩ := Vm.findClass_spec hcn
    cases hck.symm.trans e9
    simp [signaturePolymorphic, n9, hP.1, hP.2]
  have hup : s.vm.lookupUp cn name desc = some r0 := ((State.methodFound?_class hcn hck hni hpoly r0).mp hf).1
  cases hx : lookupInSuperclasses s.vm name desc (s.vm.classes.size + 1) cn with
  | some m => exact lookupSpecial_of_lookupUp hck hni hup (by rw [hx]; rfl) hrm hst
  | none =>
    have ha := ps_up_above hx
    have ho : ownMethod s.vm name desc cn = none := ps_up_all hx (Nat.zero_le _) rfl
    have hsi : lookupInSuperinterfaces s.vm cn name desc = some r0 := by simpa [Vm.lookupUp, hx] using hup
    have hmem : r0 ∈ superinterfaceMethods s.vm cn name desc := by
      unfold lookupInSuperinterfaces at hsi
      split at hsi
      · rename_i m hm
        cases hsi
        have h1 : r0 ∈ (maximallySpecific s.vm cn name desc).filter fun m => (s.vm.method? m).any (!·.isAbstract) := by rw [hm]; exact List.mem_cons_self
        exact (List.mem_filter.mp (List.mem_filter.mp h1).1).1
      · obtain ⟨i, -, hi⟩ := List.exists_of_findSome?_eq_some hsi
        exact List.mem_of_find?_eq_some hi
    have hpriv : r.isPrivate = false := by
      unfold superinterfaceMethods at hmem
      obtain ⟨i, -, hi⟩ := List.mem_filterMap.mp hmem
      simp only [Option.bind_eq_bind, Option.bind_eq_some_iff] at hi
      obtain ⟨k, -, j, -, m, hm, hi⟩ := hi
      split at hi
      · cases hi
      · rename_i hps
        cases hi
        cases hrm.symm.trans hm
        simp only [Bool.or_eq_true, not_or, Bool.not_eq_true] at hps
        exact hps.1
    have hro : refusedOverriding {} s.vm cn name desc = false := by
      simp only [refusedOverriding, ha, List.append_nil]
      rw [show ((s.vm.classes[cn]?.bind (·.findMethod name desc)).map fun i => (⟨cn, i⟩ : MethodId)) = none from ho]
      rfl
    have h4 : (match (maximallySpecific s.vm cn name desc).filter fun m => (s.vm.method? m).any (!·.isAbstract) with
        | [m] => Selection.method m
        | [] => Selection.none
        | _ => Selection.several) = .method r0 := by
      have h5 := q4
      unfold selectMethod at h5
      simp only [hrm, hpriv, hrn, hrd, hro, Bool.false_and, Bool.false_eq_true, if_false, ps_sel_none _ _ hx] at h5
      exact h5
    unfold lookupSpecial
    rw [show ((s.vm.classes[cn]?.bind (·.findMethod name desc)).map fun i => (⟨cn, i⟩ : MethodId)) = none from ho]
    simp only [ha, List.filter_nil, Option.toList_none, List.append_nil, List.find?_nil]
    exact h4

/-! the knowledge: the premise's words for the two defaults -/
abbrev ps_Mk : String := "PromiseScales$Marked"
abbrev ps_Pm : String := "PromiseScales$Promise"
abbrev ps_sD : String := "(LPromiseScales$Trail;LPromiseScales$Held;)I"
def ps_mD : List String := ["size", "mark"]
def ps_Zd (U : State) : Prop := (∀ w ∈ defaultWords_1, w.before #[] U = true) ∧ ∀ n ∈ ps_mD, (Cond.landsInDefault ps_Pm ⟨ps_Pm, n, ps_sD⟩ ⟨ps_Mk, n, ps_sD⟩).before #[] U = true
theorem ps_dw_ok : ∀ w ∈ defaultWords_1, (w.onTables && w.keeps) = true := by decide
theorem ps_Zd.warm {s U : State} (h : ps_Zd s) (hW : s.WarmedH U.vm) (args : Array Value) : (∀ w ∈ defaultWords_1, w.before args U = true) ∧ ∀ n ∈ ps_mD, (Cond.landsInDefault ps_Pm ⟨ps_Pm, n, ps_sD⟩ ⟨ps_Mk, n, ps_sD⟩).before args U = true := by
  refine ⟨fun w hw => word_at hW (Or.inl (ps_dw_ok w hw)) (h.1 w hw), fun n hn => ?_⟩
  have := (Cond.landsInDefault_setVm (args := #[]) (args' := args) hW.alike (State.methodFound?_setVm hW.alike _ _ _)).trans (h.2 n hn)
  exact this

theorem ps_Zd.same {U V : State} (h : V.vm = U.vm) (hz : ps_Zd U) : ps_Zd V := by
  obtain ⟨a, b⟩ := hz.warm (U := V) (by rw [h]; exact State.WarmedH.refl _) #[]
  exact ⟨a, b⟩
theorem ps_Zd.go {s U : State} (h : ps_Zd s) (hW : s.WarmedH U.vm) : ps_Zd U := h.warm hW #[]
theorem ps_Zd.at {s : State} (h : ps_Zd s) (args : Array Value) : (∀ w ∈ defaultWords_1, w.before args s = true) ∧ ∀ n ∈ ps_mD, (Cond.landsInDefault ps_Pm ⟨ps_Pm, n, ps_sD⟩ ⟨ps_Mk, n, ps_sD⟩).before args s = true := h.warm (State.WarmedH.refl _) args
def ps_Zm (E : ps_E) : Prop := ∀ U : State, E.2.2.2 U → ps_Zd U
theorem ps_selM {args : Array Value} {s : State} {C A B nm ds : String} {y : MethodName} {r0 : MethodId} (hA : s.methodFound? A nm ds = some r0) (hB : s.methodFound? B nm ds = some r0) (h : (Cond.selects C ⟨A, nm, ds⟩ y).before args s = true) : (Cond.selects C ⟨B, nm, ds⟩ y).before args s = true := by
  have e : s.methodFound? B nm ds = s.methodFound? A nm ds := hB.trans hA.symm
  simp only [Cond.before, Cond.holds, Cond.value] at h ⊢
  rw [e]
  exact h
section PSD
variable {p : Program} {l : Launch} {e : Env} {R : Room} {s : State} {m : MethodId} {args : Array Value} {below : List Frame} {meth : Method} {c : Code} {H : Heap} {locs : List Loc} {cells slots : Nat} {Q : State → Prop}
variable {E : ps_E} {cc : ByteArray} {nL : Nat} {ret : Option FieldType} {own nm : String} {H0 : Heap} {pc : Nat} {ls : Array Slot} {rest st : List Value}
variable {x y : MethodName} {b : ByteArray} {nL' fr lo mc' ms' idx a : Nat} {ret' : Option FieldType} {As : List Value} {C mkN : String} {post' : Option Value → Heap → Prop}
/-- a virtual call that names the class and means the interface's default, which the receiver's class overrides -/
theorem ps_geM (X : ps_X p E s m args meth c cc nL ret own H0 nm) (hE : ps_ZT E) (hD : ps_Zm E) (hM : ps_Ge l E y b nL' ret' fr lo mc' ms' (.ref a :: As) H post') (h1 : Cond.methodLink own idx x ∈ defaultWords_1) (h2 : Cond.sameMethod x.cls mkN x.name x.desc ∈ defaultWords_1) (h3 : Cond.selects C ⟨mkN, x.name, x.desc⟩ y ∈ lw_all)
    {b0 : ByteArray} {m0 : Nat} {r0 : Option FieldType} (h4 : Cond.instanceMethod ⟨mkN, x.name, x.desc⟩ ∈ lw_all) (h5 : Cond.code ⟨mkN, x.name, x.desc⟩ b0 m0 r0 ∈ lw_all) (h6 : Cond.instanceMethod y ∈ lw_all) (h7 : Cond.initialized y.cls ∈ lw_all) (h8 : Cond.code y b nL' ret' ∈ lw_all)
    {n : Nat} (hd : mkN ≠ "java/lang/invoke/MethodHandle" ∧ mkN ≠ "java/lang/invoke/VarHandle" ∧ (parseMethodDescriptor x.desc).map (fun d => d.parameters.length) = some n) (hR : (fr + 1 ≤ R.frames ∧ 8 + (nL' + 11) + lo ≤ R.locals) ∧ cells + mc' ≤ R.cells ∧ slots + ms' ≤ R.slots) (hrc : ps_recv s H a C) (hS : va_S (ps_A E) s.heap H locs) (hl : ls.size = nL) (hnA : As.length = n) (hst : st = As.reverse ++ .ref a :: rest) (hcat : (rest.map fun v => v.category).sum ≤ 8) (hdg : decode cc pc = .ok (.invokevirtual idx, 3))
    (k : ∀ (v : Option Value) (H1 : Heap) (locs1 : List Loc), post' v H1 → va_S (ps_A E) s.heap H1 locs1 → W p l e R s m args below meth c H1 locs1 (cells + mc') (slots + ms') Q (F0 m (pc + 3) ls (v.toList ++ rest))) : W p l e R s m args below meth c H locs cells slots Q (F0 m pc ls st) := by
  obtain ⟨hx, hb, hml, ho, hts, hlk, hr, hK, hh, hnm⟩ := X
  have hw := ((hD s hK.2).at args).1
  obtain ⟨cn, ck, r1, hcn, hck, hni, hf, hn1⟩ := Cond.sameMethod_found (hw _ h2)
  have hsel := ps_selM (State.methodFound?_of_named hn1 ⟨hd.1, hd.2.1⟩) hf (hts _ h3)
  exact ps_runG (va_runU ⟨hx, hb, hml, ho, hts⟩ hM ⟨⟨rfl, rfl, hR.1.1, hR.1.2, pay_in hts (lw_meth h8), List.mem_cons_self⟩, hts _ h8, hts _ h7, ⟨hd.1, hd.2.1⟩, fun sig h => by have h9 := hd.2.2; rw [h] at h9; exact (Option.some.inj h9).symm, hw _ h1, hw _ h2, va_Decl.of (hts _ h4) (hts _ h5), hsel, hts _ h6⟩ ⟨ps_blind hE, hrc, fun U hU hW => ⟨rfl, hU, hK.go hE (by rw [hU]; exact hS) hW⟩⟩ rfl hnA hl hst (lv_room (pc := pc) (ls := ls) (rest := st) (m := m) hcat) hdg hR.2) hS k
theorem ps_specM {T : State} (X : Stand p l e R s m args below meth c T locs cells slots) (hexec : p.tables.exec = Jvm.exec) {index : Nat} (hown : s.vm.findClass own = some m.cls) (hlink : (Cond.methodLink own index x).before args s = true) (hsame : (Cond.sameMethod x.cls mkN x.name x.desc).before args s = true)
    {r0 : MethodId} {r : Method} (hn : s.methodNamed? ⟨mkN, x.name, x.desc⟩ = some r0) (hrm : s.vm.method? r0 = some r) (hstatic : r.isStatic = false) (habs : r.isAbstract = false) (hnoinit : x.name ≠ "<init>")
    {dk : Class} {cn : ClassId} (hd : s.vm.classes[m.cls]? = some dk) (hnid : dk.isInterface = false) (hcn : s.vm.findClass x.cls = some cn) (hsuper : dk.super = some cn) (hfound0 : lookupSpecial s.vm cn x.name x.desc = .method r0)
    {a : Addr} {cell : Cell} {kcell : Class} (hcell : T.heap[a]? = some cell) (hobj : ∀ c, cell.vm ≠ .statics c) (hkcell : s.vm.classes[cell.cls]? = some kcell)
    {g : JFrame} (hg : g.method = m) {argsL rest : List Value} (hlen : argsL.length = r.sig.parameters.length) (hstack : g.stack = argsL.reverse ++ .ref a :: rest) (hdg : decode c.code g.pc = .ok (.invokespecial index, 3)) :
    ∃ vm', Stand p l e R s m args below meth c (T.setVm vm') locs cells slots ∧
      ∀ target, Steps p.tables e below (doInvoke e ((T.setVm vm').setTop { g with stack := rest }) [] r0 (.ref a :: argsL).toArray).1 target → Steps p.tables e below (T.setTop g) target := by
  have hpl : e.platform.magicAccessors = ({} : Platform).magicAccessors := by rw [X.admits.platform]
  obtain ⟨cn', ck, r1, hcn', hck, hni, hf, hn1⟩ := Cond.sameMethod_found hsame
  cases hn.symm.trans hn1
  cases hcn.symm.trans hcn'
  obtain ⟨ci, hl, hright⟩ := Cond.methodLink_specUp hown hcn hck hni hf hlink e.platform hpl (by rw [X.admits.platform])
  obtain ⟨kr, hkr, -⟩ := className_of_methodNamed hn
  obtain ⟨hrn, hrd⟩ := name_of_methodNamed hn hrm
  obtain ⟨dk₀, cfile, nt, _, _, ck₀, _, _, hd₀, hcf, hcp, -, -, -, hc₀, -, hpoly, -⟩ := hl.here
  cases hd.symm.trans hd₀
  cases hck.symm.trans hc₀
  subst hg
  obtain ⟨vm', hW', st⟩ := Steps.invokeSuperColdArgs (tb := p.tables) (e := e) (s₀ := s) (U := T) (f := g) (args := argsL) (rest := rest) (a := a) (cell := cell) (m := r0) X.here hexec hdg X.warmed hl hright hd hcf hcp hrm hck
    (by rw [hrn]; simp [hnoinit]) hstatic (by rw [hrn, hrd, hsuper]; simpa using hfound0) hnid hkr habs hlen hstack hcell hobj hkcell
  exact ⟨vm', X.noted hW', st⟩
theorem ps_runSM {maxL mc ms n index : Nat} {ws : List Cond} {rm : Room} {Pc : Array Value → State → Prop} {Qc : Array Value → State → Outcome → State → Prop} {free : Addr → Prop} {Ts : List Cond} {cC : ClassId} {b : Addr} {bytes : ByteArray} {g : JFrame}
    (hat : ClassAt s C cC) (S : CallFix p m c cc nL s args Ts own) (hM : Met l y ws rm Pc Qc mc ms free) (hrm : rm.cells = mc ∧ rm.slots = ms ∧ rm.frames + 1 ≤ R.frames ∧ 8 + (maxL + 11) + rm.locals ≤ R.locals) (hws : ∀ w ∈ ws, ∀ (a' : Array Value) (U : State), s.WarmedH U.vm → w.before a' U = true) (hcw : Cond.code y bytes maxL ret' ∈ ws)
    (hlink : (Cond.methodLink own index x).before args s = true) (hsame : (Cond.sameMethod x.cls y.cls x.name x.desc).before args s = true) (hsup1 : (Cond.superclass own x.cls).before args s = true) (hL : (Cond.landsInDefault x.cls x y).before args s = true) (hinst : (Cond.instanceMethod y).before args s = true) (hini : (Cond.initialized y.cls).before args s = true) (hcode : (Cond.code y bytes maxL ret').before args s = true)
    (hyx : y.name = x.name ∧ y.desc = x.desc ∧ x.name ≠ "<init>" ∧ (parseMethodDescriptor y.desc).map (fun d => d.parameters.length) = some n) (hnh : x.cls ≠ "java/lang/invoke/MethodHandle" ∧ x.cls ≠ "java/lang/invoke/VarHandle") (hp : PreV s H C b Pc As)
    (hg : g.method = m) (hn : As.length = n) (hsize : g.locals.size = nL) (hstack : g.stack = As.reverse ++ .ref b :: rest) (hW : 2 * g.monitorRoom + (rest.map fun v => v.category).sum ≤ 8) (hdg : decode cc g.pc = .ok (.invokespecial index, 3)) (hf : cells + mc ≤ R.cells ∧ slots + ms ≤ R.slots) :
    va_Run p l e R s m args below meth c H locs cells slots mc ms g rest (Qc (Value.ref b :: As).toArray) (free) := by
  obtain ⟨hrc, hrs, hfr, hlo⟩ := hrm
  have hK : Back l R p e below s args y 3 8 (PreOf R mc ms Pc) (PostOf Qc mc ms free) := back_of (bytes := bytes) (maxL := maxL) (ret := ret') hM hp.1 hrc hrs hfr hlo hws hcw (fun a' U hW => word_at hW (Or.inl (by first | rfl | simp [Cond.onTables, Cond.keeps, Cond.steady])) hini)
  obtain ⟨hx, hb, hml, ho, -⟩ := S
  obtain ⟨-, ⟨cellB, hcB, hoB, hclB⟩, hPc⟩ := hp
  obtain ⟨hfc, kB, hkB, -⟩ := hat
  cases hfc.symm.trans hclB
  intro T hT X
  obtain ⟨mk, methM, hnamed, hmethM, hstM, habM⟩ := Cond.instanceMethod_spec hinst
  obtain ⟨methM', cM, hmethM', -, -, -, -, -, -, hsigM⟩ := Cond.code_spec hnamed hcode
  cases hmethM.symm.trans hmethM'
  obtain ⟨ps, dk, kp, hps, hdk, hkp, hsuper, -, -, hnid⟩ := Cond.superclass_spec ho hsup1
  have hn0 : s.methodNamed? ⟨y.cls, x.name, x.desc⟩ = some mk := by rw [← hyx.1, ← hyx.2.1]; exact hnamed
  have hlk : lookupSpecial s.vm ps x.name x.desc = .method mk := ps_lks (mkN := y.cls) (y := y) hL hsame (by rw [← hyx.1, ← hyx.2.1]) hnh hnamed hmethM hstM hps
  have hlen : ∀ sig, parseMethodDescriptor y.desc = some sig → As.length = sig.parameters.length := fun sig h => by
    have h2 := hyx.2.2.2
    rw [h] at h2
    rw [hn]; exact (Option.some.inj h2).symm
  obtain ⟨vm₁, X₁, hstep₁⟩ := ps_specM X hx ho hlink hsame hn0 hmethM hstM habM hyx.2.2.1 hdk hnid hps hsuper hlk (a := b) (cell := cellB) (by rw [hT]; exact hcB)
    (fun z h => by rw [h] at hoB; cases hoB) hkB (g := g) hg (argsL := As) (rest := rest) (hlen _ hsigM) hstack (by rw [hb]; exact hdg)
  obtain ⟨v, ⟨U', l2, c2, s2⟩, X', ⟨g', mk2, t, L, e1, e2, hq, h1, hL, h2, h3⟩, hsteps⟩ := hK m meth c ⟨T.setVm vm₁, locs, cells, slots⟩ { g with stack := rest } (.invokespecial index) mk (Value.ref b :: As).toArray X₁ hg (hsize.trans hml.symm) (by rw [hb]; exact hdg) hW (X₁.named hnamed) ⟨hf.1, hf.2, hPc (T.setVm vm₁) hT X₁.warmed⟩
  dsimp only [Pt.U, Pt.locs, Pt.cells, Pt.slots] at X' e1 e2 h1 h2 h3 hsteps
  subst h1; subst h2; subst h3
  exact ⟨v, (T.setVm vm₁).calling g' mk2 (Value.ref b :: As).toArray, t, U', L, hT, X', hL, e1, e2, hq, fun target h => hstep₁ _ (by rw [doInvoke_state]; exact hsteps.trans h)⟩
/-- a super call that lands in the default -/
theorem ps_geSM (X : ps_X p E s m args meth c cc nL ret own H0 nm) (hE : ps_ZT E) (hD : ps_Zm E) (hM : ps_Ge l E y b nL' ret' fr lo mc' ms' (.ref a :: As) H post') (h1 : Cond.methodLink own idx ⟨ps_Pm, y.name, ps_sD⟩ ∈ defaultWords_1) (h2 : Cond.sameMethod ps_Pm ps_Mk y.name ps_sD ∈ defaultWords_1) (hy : y = ⟨ps_Mk, y.name, ps_sD⟩) (hq : y.name ∈ ps_mD)
    (h3 : Cond.superclass own ps_Pm ∈ lw_all) (h6 : Cond.instanceMethod y ∈ lw_all) (h7 : Cond.initialized y.cls ∈ lw_all) (h8 : Cond.code y b nL' ret' ∈ lw_all) {cC : ClassId} (hat : ClassAt s C cC)
    (hR : (fr + 1 ≤ R.frames ∧ 8 + (nL' + 11) + lo ≤ R.locals) ∧ cells + mc' ≤ R.cells ∧ slots + ms' ≤ R.slots) (hrc : ps_recv s H a C) (hS : va_S (ps_A E) s.heap H locs) (hl : ls.size = nL) (hnA : As.length = 2) (hst : st = As.reverse ++ .ref a :: rest) (hcat : (rest.map fun v => v.category).sum ≤ 8) (hdg : decode cc pc = .ok (.invokespecial idx, 3))
    (k : ∀ (v : Option Value) (H1 : Heap) (locs1 : List Loc), post' v H1 → va_S (ps_A E) s.heap H1 locs1 → W p l e R s m args below meth c H1 locs1 (cells + mc') (slots + ms') Q (F0 m (pc + 3) ls (v.toList ++ rest))) : W p l e R s m args below meth c H locs cells slots Q (F0 m pc ls st) := by
  obtain ⟨hx, hb, hml, ho, hts, hlk, hr, hK, hh, hnm⟩ := X
  have hw := (hD s hK.2).at args
  obtain ⟨yc, yn, yd⟩ := y
  cases hy
  exact ps_runG (ps_runSM (x := ⟨ps_Pm, yn, ps_sD⟩) hat ⟨hx, hb, hml, ho, hts⟩ hM ⟨rfl, rfl, hR.1.1, hR.1.2⟩ (pay_in hts (lw_meth h8)) List.mem_cons_self (hw.1 _ h1) (hw.1 _ h2) (hts _ h3) (hw.2 _ hq) (hts _ h6) (hts _ h7) (hts _ h8) ⟨rfl, rfl, (by intro q; have q : yn = _ := q; subst q; revert hq; decide), (show (parseMethodDescriptor ps_sD).map (fun d => d.parameters.length) = some 2 by decide +kernel)⟩ (show ps_Pm ≠ _ ∧ ps_Pm ≠ _ by decide) ⟨ps_blind hE, hrc, fun U hU hW => ⟨rfl, hU, hK.go hE (by rw [hU]; exact hS) hW⟩⟩ rfl hnA hl hst (lv_room (pc := pc) (ls := ls) (rest := st) (m := m) hcat) hdg hR.2) hS k
end PSD
