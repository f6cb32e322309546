/-! ps_: NullPointerException out of a native (the law of a throw over a Java frame, vx_npeAt, turned to a native frame on it) -/
set_option maxRecDepth 100000
set_option maxHeartbeats 1000000 in
theorem ps_npeNat {p : Program} {l : Launch} {e : Env} {R : Room} {s : State} {m₀ : MethodId} {args : Array Value} {below : List Frame} {meth : Method} {c : Code} {W : State} {locs : List Loc} {cells slots : Nat}
    (X : Stand p l e R s m₀ args below meth c W locs cells slots) (hexec : p.tables.exec = Jvm.exec) (htr : e.platform.stackTraces = false) {n : Nat}
    (h : ∀ a ∈ Bundle.npeArmAtoms n, a.before args s = true)
    (hlocs : ∀ x ∈ locs, ∀ cell, s.heap[x.base]? = some cell → cell.vm.isStatics = false)
    {g : JFrame} (hsize : g.locals.size = c.maxLocals) {nf : NFrame} (hnf : nf.words = 0)
    (hRframes : 8 < R.frames) (hRlocals : 2 * g.monitorRoom + (g.stack.map fun v => v.category).sum + 10240 ≤ R.locals)
    (hRcells : cells + 1 ≤ R.cells) (hRslots : slots + n ≤ R.slots) :
    ∃ (S : State) (q : Addr) (ce : Cell), Stand p l e R s m₀ args below meth c S locs (cells + 1) (slots + n) ∧ S.heap[q]? = some ce ∧ s.vm.findClass "java/lang/NullPointerException" = some ce.cls ∧ ce.vm = .none ∧
      Steps p.tables e below (W.setFrames (.throwNew "java/lang/NullPointerException" none none :: .native nf :: .java g :: below)) (S.setFrames (.throwing q :: .native nf :: .java g :: below)) := by
  have howns : e.platform.frameOwnsMonitors = true := by rw [X.admits.platform]
  have hfin : e.platform.finalization = false := by rw [X.admits.platform]
  have hpl : e.platform.magicAccessors = ({} : Platform).magicAccessors := by rw [X.admits.platform]
  have hpl2 : e.platform.arrayCloneIsPublic = true := by rw [X.admits.platform]
  have a' : ∀ x, x ∈ Bundle.npeArmAtoms n → x.holds args s none s [] = true := fun x hx => h x hx
  obtain ⟨T, Z, L, LZ, Y⟩ := ThrowableC.of_atoms (args := args) howns hfin hpl (fun x hx => h x (by simp [Bundle.npeArmAtoms, hx]))
  obtain ⟨N, LN, hcN, hnNF, hordN, hffS⟩ := NpeC.of_atoms (args := args) hpl hpl2 L Y (fun x hx => h x (by simp [Bundle.npeArmAtoms, hx]))
  obtain ⟨P1, L1, hP1m, hP1s⟩ := PassC.of_atoms (args := args) (s := s) hpl (X := Bundle.nN) (Y := Bundle.rN) (by decide) (by decide) LibCode.NullPointerException.Init0.at_0 LibCode.NullPointerException.Init0.at_1 LibCode.NullPointerException.Init0.at_4 (fun x hx => h x (by simp [Bundle.npeArmAtoms, hx]))
  obtain ⟨PR, LR, hPRm, hPRs⟩ := PassC.of_atoms (args := args) (s := s) hpl (X := Bundle.rN) (Y := Bundle.eN) (by decide) (by decide) LibCode.RuntimeException.Init0.at_0 LibCode.RuntimeException.Init0.at_1 LibCode.RuntimeException.Init0.at_4 (fun x hx => h x (by simp [Bundle.npeArmAtoms, hx]))
  obtain ⟨PE, LEx, hPEm, hPEs⟩ := PassC.of_atoms (args := args) (s := s) hpl (X := Bundle.eN) (Y := Bundle.tN) (by decide) (by decide) LibCode.Exception.Init0.at_0 LibCode.Exception.Init0.at_1 LibCode.Exception.Init0.at_4 (fun x hx => h x (by simp [Bundle.npeArmAtoms, hx]))
  have hfound : s.vm.findClass Bundle.nN = some P1.m.cls := findClass_of_methodNamed hP1m
  have ecls : N.cN = P1.m.cls := Option.some.inj (hcN.symm.trans hfound)
  have hk : s.vm.classes[P1.m.cls]? = some N.kN := by rw [← ecls]; exact LN.cls
  have hinit := Cond.initialized_spec hfound hk (a' (.initialized Bundle.nN) (by simp [Bundle.npeArmAtoms]))
  have hctor : N.kN.findMethod "<init>" "()V" = some P1.m.idx := findMethod_of_methodNamed hP1m hk
  obtain ⟨c1, k1, hc1, hk1, -, -, -, hn⟩ := Cond.instantiable_spec (a' (.instantiable Bundle.nN n) (by simp [Bundle.npeArmAtoms]))
  cases Option.some.inj (hc1.symm.trans hfound)
  cases Option.some.inj (hk1.symm.trans hk)
  have hfsz : (freshCell P1.m.cls N.kN).slots.size = n := by simp [hn]
  have hlink1 : P1.sup = PR.m := Option.some.inj (hP1s.symm.trans hPRm)
  have hlinkR : PR.sup = PE.m := Option.some.inj (hPRs.symm.trans hPEm)
  have hlinkE : PE.sup = Z.m T.toThrowableT := Option.some.inj (hPEs.symm.trans Y.init0)
  have hLs : ∀ P, P ∈ [PR, PE] → P.Links0 e.platform s := fun P hP => by
    simp only [List.mem_cons, List.not_mem_nil, or_false] at hP
    rcases hP with rfl | rfl
    · exact LR
    · exact LEx
  have hsel0 : selectMethod e.platform s.vm P1.m.cls T.fill0 = .method T.fill0 := by
    obtain ⟨c2, r2, m2, q1, q2, q3, q4, -⟩ := Cond.selects_spec (a' (.selects Bundle.nN Bundle.tFill0 Bundle.tFill0) (by simp [Bundle.npeArmAtoms]))
    cases Option.some.inj (q1.symm.trans hfound)
    cases Option.some.inj (q2.symm.trans (State.methodFound?_of_named Y.fill0 (by decide)))
    cases Option.some.inj (q3.symm.trans Y.fill0)
    rw [Launch.admits_selectMethod X.admits]; exact q4
  have hselF : selectMethod e.platform s.vm P1.m.cls T.fill = .method N.fill := by
    obtain ⟨c2, r2, m2, q1, q2, q3, q4, -⟩ := Cond.selects_spec (a' (.selects Bundle.nN Bundle.tFill Bundle.nFill) (by simp [Bundle.npeArmAtoms]))
    cases Option.some.inj (q1.symm.trans hfound)
    cases Option.some.inj (q2.symm.trans (State.methodFound?_of_named Y.fill (by decide)))
    cases Option.some.inj (q3.symm.trans hnNF)
    rw [Launch.admits_selectMethod X.admits]; exact q4
  obtain ⟨cellS0, hcS0, hiss⟩ := Y.statics
  obtain ⟨u0, hu0⟩ := Cond.staticRefV Y.unassigned L.unassignedStatic L.statics hcS0 hiss (a' (.isRef (.static Bundle.tN "UNASSIGNED_STACK" Bundle.steD)) (by simp [Bundle.npeArmAtoms]))
  obtain ⟨sen, hsen⟩ := Cond.staticRefV Y.sentinel L.sentinelStatic L.statics hcS0 hiss (a' (.isRef (.static Bundle.tN "SUPPRESSED_SENTINEL" Bundle.listD)) (by simp [Bundle.npeArmAtoms]))
  obtain ⟨ci198, i198, fB, hk198, hg198, ha198, hsB, -, hnB, htB, hffB⟩ := Cond.ownField (t := .object "java/lang/Object") Y.found L.cls (by decide +kernel) (a' (.fieldLink Bundle.tN 198 Bundle.tN "backtrace" Bundle.objD) (by simp [Bundle.npeArmAtoms])) (a' (.lays Bundle.tN Bundle.tN "backtrace" Bundle.objD) (by simp [Bundle.npeArmAtoms])) e.platform hpl
  obtain ⟨cellS, hcS', heS, -, hkeep⟩ := X.same.2.2.2.2.2 T.aS cellS0 hcS0
  have hcellS : W.heap[T.aS]? = some cellS := hcS'
  have hout' : ∀ i, (⟨T.aS, i⟩ : Loc) ∉ locs := fun i hmem => by
    have := hlocs _ hmem cellS0 hcS0
    rw [hiss] at this; cases this
  have hknownS : cellS.vm ≠ .unknown := by
    rw [heS]; intro hu
    rw [show cellS0.vm = .unknown from hu] at hiss
    cases hiss
  have hvU : cellS.slots[T.fUnassigned.slot]? = some u0.v := by rw [hkeep _ (hout' _)]; exact hu0
  have hvSen : cellS.slots[T.fSentinel.slot]? = some sen.v := by rw [hkeep _ (hout' _)]; exact hsen
  obtain ⟨tyC, dC, hdC, hdnC⟩ := Cond.laysAt hfound hk Y.cause (a' (.lays Bundle.nN Bundle.tN "cause" "Ljava/lang/Throwable;") (by simp [Bundle.npeArmAtoms]))
  obtain ⟨tyS, dS, hdS, hdnS⟩ := Cond.laysAt hfound hk Y.stack (a' (.lays Bundle.nN Bundle.tN "stackTrace" Bundle.steD) (by simp [Bundle.npeArmAtoms]))
  obtain ⟨tyP, dP, hdP, hdnP⟩ := Cond.laysAt hfound hk Y.supp (a' (.lays Bundle.nN Bundle.tN "suppressedExceptions" Bundle.listD) (by simp [Bundle.npeArmAtoms]))
  obtain ⟨tyX, dX, hdX, hdnX⟩ := Cond.laysAt hfound hk hffS (a' (.lays Bundle.nN Bundle.nN "extendedMessageState" "I") (by simp [Bundle.npeArmAtoms, Bundle.npeAtoms]))
  obtain ⟨hnX, htX⟩ := State.fieldFound?_type hffS (t := .int) (by decide +kernel)
  have xC := Cond.laysApart hdC hdX hdnC hdnX (by rw [hnX, Y.causeName]; decide)
  have xS := Cond.laysApart hdS hdX hdnS hdnX (by rw [hnX, Y.stackName]; decide)
  have xP := Cond.laysApart hdP hdX hdnP hdnX (by rw [hnX, Y.suppName]; decide)
  have hv0 : (freshCell P1.m.cls N.kN).slots[N.fState.slot]? = some (.int 0) := by
    have := fresh_default (c := P1.m.cls) tyX
    rw [htX] at this; exact this
  obtain ⟨tyB, dB, hdB, hdnB⟩ := Cond.laysAt hfound hk hffB (a' (.lays Bundle.nN Bundle.tN "backtrace" Bundle.objD) (by simp [Bundle.npeArmAtoms]))
  have bC := Cond.laysApart hdB hdC hdnB hdnC (by rw [hnB, Y.causeName]; decide)
  have bS := Cond.laysApart hdB hdS hdnB hdnS (by rw [hnB, Y.stackName]; decide)
  have bP := Cond.laysApart hdB hdP hdnB hdnP (by rw [hnB, Y.suppName]; decide)
  have bX := Cond.laysApart hdB hdX hdnB hdnX (by rw [hnB, hnX]; decide)
  have hbk : ((npeCell N.toNpeT (preparedCellV T.toThrowableT (freshCell P1.m.cls N.kN) W.heap.size u0 sen) W.cur).withEntry W.cur).slots[fB.slot]? = some .null := by
    have := fresh_default (c := P1.m.cls) tyB
    rw [htB] at this
    simpa [npeCell, preparedCellV, Cell.setSlot, Cell.withEntry, Array.getElem?_setIfInBounds, bC, bS, bP, bX, bC.symm, bS.symm, bP.symm, bX.symm, defaultValue] using this
  have tkC := Takes.of_laid (v := .ref W.heap.size) hk hordN tyC (by rw [Y.causeType]; rfl)
  have tkS := Takes.of_laid (v := u0.v) hk hordN tyS (by rw [Y.stackType]; exact fits_refV_array _ u0)
  have tkP := Takes.of_laid (v := sen.v) hk hordN tyP (by rw [Y.suppType]; exact fits_refV_object _ sen)
  have tkX := Takes.of_laid (v := .int 1) hk hordN tyX (by rw [htX]; rfl)
  have hskip : SkipFacts T e.platform s (fun u => u) u0 ((npeCell N.toNpeT (preparedCellV T.toThrowableT (freshCell P1.m.cls N.kN) W.heap.size u0 sen) W.cur).withEntry W.cur) := ⟨{ ci198 := ci198, i198 := i198, fBack := fB }, ⟨hk198, hg198, ha198, hsB⟩, hbk, fun _ _ => rfl⟩
  have h9 := X.overNative g nf
  obtain ⟨hbeyond, hfreeW⟩ := X.vmMayThrowNative hsize hnf (.throwNew "java/lang/NullPointerException" none none) (fun f hf => by cases hf) rfl hRlocals
  have hfr9 : (Frame.native nf :: .java g :: below).length + 7 < (e.platform.stackLimits W.me).1 := by
    have := X.framesAboveNative g nf (n := 7) (by omega)
    omega
  have hwd9 : (stackUse (.native nf :: .java g :: below)).2 + 94 ≤ (e.platform.stackLimits W.me).2 := by
    have := X.stackAboveNative hsize hnf (K := 94) (by omega)
    omega
  obtain ⟨base, hbase⟩ : ∃ y, y = (Frame.native nf :: .java g :: below) := ⟨_, rfl⟩
  rw [← hbase] at h9 hbeyond hfreeW hfr9 hwd9
  have hO1 : Over (W.pushCell (freshCell P1.m.cls N.kN)) base below := (Over.pushCell_iff _).mpr h9
  obtain ⟨kX', hk', he'⟩ := X.warmed.alike.2.2 _ _ hk
  have hty : kX'.instanceTypes = N.kN.instanceTypes := by rw [he']
  have hfresh : freshCell P1.m.cls kX' = freshCell P1.m.cls N.kN := by
    show ({ cls := P1.m.cls, slots := kX'.instanceTypes.map defaultValue, vm := .none } : Cell) = _
    rw [hty]
  have hltS : T.aS < W.heap.size := (Array.getElem?_eq_some_iff.mp hcellS).1
  have w5 : (W.pushCell (freshCell P1.m.cls N.kN)).heap[T.aS]? = some cellS := by
    rw [← hcellS]
    simp [State.pushCell, Array.getElem?_push, Nat.ne_of_lt hltS]
  obtain ⟨cN, hcN⟩ : ∃ y, y = ((npeCell N.toNpeT (preparedCellV T.toThrowableT (freshCell P1.m.cls N.kN) W.heap.size u0 sen) W.cur).withEntry W.cur) := ⟨_, rfl⟩
  have hlimN : e.platform.stackLimits ((W.pushCell (freshCell P1.m.cls N.kN)).setFrames (.thenThrow W.heap.size :: base)).me = e.platform.stackLimits W.me := State.stackLimits_setFrames ..
  obtain ⟨-, -, hfN⟩ := ps_npI (a := W.heap.size) hO1 (show (W.pushCell (freshCell P1.m.cls N.kN)).vm.method? P1.m = some P1.meth from X.warmed.methodAt L1.method) L1.code (X.warmed.plainAt (U := W.pushCell (freshCell P1.m.cls N.kN)) L1.plain)
  have hroom := roomAbove (pl := e.platform) (u := (W.pushCell (freshCell P1.m.cls N.kN)).setFrames (.thenThrow W.heap.size :: base)) (vars := 1) (pushed := [.thenThrow W.heap.size]) (base := base) (free := 94) (lim := e.platform.stackLimits W.me) hfN hlimN
    (by simp only [List.length_cons, List.length_nil]; omega) (by omega) (by rw [stackUse_light _ _ (fun f hf => by cases hf) rfl, stackUse_nil]; show 0 + 1 + 11 ≤ _; omega)
  have key : ∃ v, s.WarmedH v ∧ ∀ target, Steps p.tables e below ((((W.pushCell (freshCell P1.m.cls N.kN)).setVm v).setCell W.heap.size (cN.setSlot T.fStack.slot u0.v).left.left).setFrames (.throwing W.heap.size :: base)) target → Steps p.tables e below (doInvoke e ((W.pushCell (freshCell P1.m.cls N.kN)).setFrames (.thenThrow W.heap.size :: base)) [] P1.m #[.ref W.heap.size]).1 target := by
    refine ps_npC hO1 hexec (F := fun u => u.setCell W.heap.size (cN.setSlot T.fStack.slot u0.v).left.left) (heapOnly_id.thenSetCell W.heap.size _) P1 L1 X.warmed hroom (fun v1 hW1 hI1 => ?_)
    rw [hlink1]
    obtain ⟨-, hfI, -⟩ := ps_npI (a := W.heap.size) (hO1.setVm (X.warmed.alike.symm.trans hW1.alike)) (show ((W.pushCell (freshCell P1.m.cls N.kN)).setVm v1).vm.method? P1.m = some P1.meth from hW1.methodAt L1.method) L1.code (hW1.plainAt (U := (W.pushCell (freshCell P1.m.cls N.kN)).setVm v1) L1.plain)
    have hVv : ∀ w, (ps_npV ((W.pushCell (freshCell P1.m.cls N.kN)).setVm v1) base P1.m W.heap.size).setVm w = ps_npV ((W.pushCell (freshCell P1.m.cls N.kN)).setVm w) base P1.m W.heap.size := fun w => by rw [State.pushFrame_setVm, State.setFrames_setVm, State.setVm_twice]
    have hVc : (ps_npV ((W.pushCell (freshCell P1.m.cls N.kN)).setVm v1) base P1.m W.heap.size).heap[W.heap.size]? = some (freshCell P1.m.cls N.kN) := State.heap_pushCell_size W (freshCell P1.m.cls N.kN)
    have hVS : (ps_npV ((W.pushCell (freshCell P1.m.cls N.kN)).setVm v1) base P1.m W.heap.size).heap[T.aS]? = some cellS := w5
    have hVcur : (ps_npV ((W.pushCell (freshCell P1.m.cls N.kN)).setVm v1) base P1.m W.heap.size).cur = W.cur := rfl
    have hVW : s.WarmedH (ps_npV ((W.pushCell (freshCell P1.m.cls N.kN)).setVm v1) base P1.m W.heap.size).vm := hW1
    have hVlim : e.platform.stackLimits (ps_npV ((W.pushCell (freshCell P1.m.cls N.kN)).setVm v1) base P1.m W.heap.size).me = e.platform.stackLimits W.me := by rw [State.stackLimits_pushFrame, State.stackLimits_setFrames]; rfl
    suffices hs : ∃ v2, s.WarmedH v2 ∧ ∀ t : State, Steps p.tables e below ((((ps_npV ((W.pushCell (freshCell P1.m.cls N.kN)).setVm v1) base P1.m W.heap.size).setVm v2).setCell W.heap.size (cN.setSlot T.fStack.slot u0.v).left.left).setTop (pass0J P1.m W.heap.size 4 [])) t →
        Steps p.tables e below (doInvoke e ((ps_npV ((W.pushCell (freshCell P1.m.cls N.kN)).setVm v1) base P1.m W.heap.size).setTop (pass0J P1.m W.heap.size 1 [])) [] (firstOf (Z.m T.toThrowableT) ([PR, PE].map (·.toPassT))) #[.ref W.heap.size]).1 t by
      obtain ⟨v2, hW2, st2⟩ := hs
      exact ⟨v2, hW2, fun t ht => st2 t (by rw [hVv]; exact ht)⟩
    clear hVv
    generalize ps_npV ((W.pushCell (freshCell P1.m.cls N.kN)).setVm v1) base P1.m W.heap.size = V at hI1 hfI hVc hVS hVcur hVW hVlim ⊢
    exact Steps.initNpe0ColdByV p (V := V) (g := pass0J P1.m W.heap.size 1 []) (c := P1.code) (self := W.heap.size) hI1 hexec T L Z LZ N LN hVW hVcur (Nn := fun u => u) heapOnly_id (fun _ _ => rfl) (fun _ => rfl) (fun u x y => setCell_twice _ _ _ _) (fun _ => Nat.le_refl _) hVc (by intro k hk; cases hk) (by intro hk; cases hk) rfl hk hsel0 hVS (Nat.ne_of_lt hltS) hknownS hvU hv0 xC xS xP tkS tkX
      (cN := cN) (fun _ hu => by rw [hcN]; exact hu) (fun _ hu => hu) (by rw [hcN]; rfl) (by rw [hcN]; rfl) (by rw [hcN]) (by rw [hcN]; simp [npeCell, preparedCellV, Cell.setSlot, Cell.withEntry]) hskip (fun _ _ hA hW _ hroom _ hrest => L.nativeOff p htr hA hW hroom hrest) hselF hvSen tkC tkP Y.objLocals [PR, PE] hLs ⟨hlinkR, hlinkE, trivial⟩ (ig := .invokespecial P1.index) (len := 3) [] hVlim
      (by rw [hfI]; simp only [List.length_cons, List.length_nil]; omega)
      (by rw [hfI, List.tail_cons, stackUse_java, stackUse_light _ _ (fun f hf => by cases hf) rfl]
          show (stackUse base).2 + (1 + 11 + 2 * 0 + operandWords []) + 13 * 2 + 55 ≤ _
          simp only [operandWords, List.foldl_nil]
          omega)
      L1.at1
  obtain ⟨vm', hW9, st0⟩ := key
  have st : ∀ target, Steps p.tables e below ((((W.pushCell (freshCell P1.m.cls N.kN)).setVm vm').setCell W.heap.size (cN.setSlot T.fStack.slot u0.v).left.left).setFrames (.throwing W.heap.size :: base)) target → Steps p.tables e below (W.setFrames (.throwNew "java/lang/NullPointerException" none none :: base)) target := fun target ht =>
    ps_npS h9 (cX := P1.m.cls) (kX := kX') (i := P1.m.idx) (by rw [X.warmed.alike.findClass]; exact hfound) hk' (by rw [he']; exact hinit) (by rw [he']; exact hordN) (Launch.admits_hotImplicitExceptions X.admits) hbeyond hfreeW (by rw [he']; exact hctor) (X.cellsAbove hRcells) (by rw [hty]; exact X.slotsAbove (by rw [hn]; exact hRslots)) (by rw [hfresh]; exact st0 target ht)
  rw [hcN, npeBareV_eq T.toThrowableT N.toNpeT W.heap.size u0 sen W.cur rfl rfl] at st
  have hsz9 : ((W.pushCell (freshCell P1.m.cls N.kN)).setVm vm').heap.size = W.heap.size + 1 := State.heap_size_pushCell _ _
  have ha9 : W.heap.size < ((W.pushCell (freshCell P1.m.cls N.kN)).setVm vm').heap.size := by rw [hsz9]; omega
  have hcell9 : ((W.pushCell (freshCell P1.m.cls N.kN)).setVm vm').heap[W.heap.size]? = some (freshCell P1.m.cls N.kN) := State.heap_pushCell_size W (freshCell P1.m.cls N.kN)
  have X3 := (((((X.pushed (freshCell P1.m.cls N.kN)).noted hW9).stored hcell9 T.fCause.slot (.ref W.heap.size)).storedAgain ha9 T.fStack.slot u0.v).storedAgain ha9 T.fSupp.slot sen.v).storedAgain ha9 N.fState.slot (.int 1)
  have X3 := X3.storedAgain ha9 T.fStack.slot u0.v
  simp only [List.append_assoc, List.cons_append, List.nil_append] at X3
  rw [hfsz] at X3
  subst hbase
  refine ⟨_, W.heap.size, _, X3.forget (fun y hy => ?_), heapAt_setCell_self _ ha9, hfound, rfl, st _ (Steps.refl _)⟩
  simp only [List.mem_cons, List.not_mem_nil, or_false] at hy
  have hge : s.heap.size ≤ W.heap.size := X.same.2.1
  rcases hy with rfl | rfl | rfl | rfl | rfl <;> exact hge
