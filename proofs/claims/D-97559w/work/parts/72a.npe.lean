/-! ps_: NullPointerException thrown by the machine over any frames (a native's among them) -/
set_option maxRecDepth 100000
section NPO
variable {p : Program} {e : Env} {below base : List Frame} {s W : State} {a : Addr}
/-- the constructor's frame, the note to throw below it -/
abbrev ps_npV (W : State) (base : List Frame) (m : MethodId) (a : Addr) : State := (W.setFrames (.thenThrow a :: base)).pushFrame (.java (pass0J m a 0 []))
theorem ps_npI (hO : Over W base below) {m : MethodId} {meth : Method} {code : Code} (hm : W.vm.method? m = some meth) (hc : meth.code = some code) (hp : W.plainMethod m) :
    At (ps_npV W base m a) m code below ∧ (ps_npV W base m a).frames = .java (pass0J m a 0 []) :: .thenThrow a :: base ∧ (W.setFrames (.thenThrow a :: base)).frames = .thenThrow a :: base := by
  obtain ⟨mid, hmid⟩ := hO.above
  have h1 : (W.setFrames (.thenThrow a :: base)).frames = .thenThrow a :: base := State.frames_setFrames _ hO.cur
  have h2 : (W.setFrames (.thenThrow a :: base)).cur < (W.setFrames (.thenThrow a :: base)).threads.size := State.cur_lt_of_frames h1
  have h3 : (ps_npV W base m a).frames = .java (pass0J m a 0 []) :: (W.setFrames (.thenThrow a :: base)).frames := State.frames_setFrames _ h2
  exact ⟨At.pushOn _ ⟨hO.running, by simpa using hO.runnable, by simpa using hO.alone⟩ h2 ⟨.thenThrow a :: mid, by rw [h1, hmid]; rfl⟩ hm hc hp, by rw [h3, h1], h1⟩
/-- the constructor's end: the exception is thrown over the base -/
theorem ps_npR (hO : Over W base below) (hexec : p.tables.exec = Jvm.exec) {F : State → State} (hF : HeapOnly F) {m : MethodId} {meth : Method} {code : Code} (hm : W.vm.method? m = some meth) (hc : meth.code = some code) (hp : W.plainMethod m) (hl : meth.locks = false) (h4 : decode code.code 4 = .ok (.return_, 1)) {target : State}
    (hrest : Steps p.tables e below ((F W).setFrames (.throwing a :: base)) target) : Steps p.tables e below ((F (ps_npV W base m a)).setTop (pass0J m a 4 [])) target := by
  obtain ⟨hI, hfI, hfN⟩ := ps_npI (a := a) hO hm hc hp
  obtain ⟨mid, hmid⟩ := hO.above
  have hB : At (F (ps_npV W base m a)) m code below := hF.at_ hI
  have hfF : (F (ps_npV W base m a)).frames = .java (pass0J m a 0 []) :: .thenThrow a :: base := by rw [hF.frames]; exact hfI
  have hall : ∀ fs, (F (ps_npV W base m a)).setFrames fs = (F W).setFrames fs := fun fs => by
    show (F ((W.setFrames (.thenThrow a :: base)).pushFrame _)).setFrames fs = _
    rw [State.pushFrame, hF.setFrames, hF.setFrames, State.setFrames_setFrames, State.setFrames_setFrames]
  have hf1 : ((F (ps_npV W base m a)).setFrames (.thenThrow a :: base)).frames = .thenThrow a :: base := State.frames_setFrames _ (State.cur_lt_of_frames hfF)
  jvm_step hB [hexec, h4, return_.wp_sem]
  intro acts
  rw [ret_to (t := F (ps_npV W base m a)) (f := pass0J m a 4 []) (f₀ := pass0J m a 0 []) (below := .thenThrow a :: base) (fs := .thenThrow a :: base) (meth := meth) hfF (by rw [hF.vm]; exact hm) hl rfl rfl rfl acts]
  refine Steps.head ⟨hB.running, by simpa using hB.runnable, by simpa using hB.alone⟩ ⟨.thenThrow a :: mid, by rw [hf1, hmid]; rfl, by simp, by simp⟩ ?_
  rw [stepThread_thenThrow hf1]
  show Steps p.tables e below (((F (ps_npV W base m a)).setFrames (.thenThrow a :: base)).setFrames (.throwing a :: base)) target
  rw [State.setFrames_setFrames, hall]
  exact hrest
/-- the constructor of NullPointerException, whole: what its superclass's does is 'hsup' -/
theorem ps_npC (hO : Over W base below) (hexec : p.tables.exec = Jvm.exec) {F : State → State} (hF : HeapOnly F) (P1 : PassC) (L1 : P1.Links0 e.platform s) (hW : s.WarmedH W.vm)
    (hroom : e.platform.stackFull (((W.setFrames (.thenThrow a :: base)).threads[(W.setFrames (.thenThrow a :: base)).cur]?).getD { frames := [] }) (W.setFrames (.thenThrow a :: base)).frames 1 = false)
    (hsup : ∀ v1, s.WarmedH v1 → At (ps_npV (W.setVm v1) base P1.m a) P1.m P1.code below → ∃ v2, s.WarmedH v2 ∧ ∀ t : State, Steps p.tables e below ((F (ps_npV (W.setVm v2) base P1.m a)).setTop (pass0J P1.m a 4 [])) t → Steps p.tables e below (doInvoke e ((ps_npV (W.setVm v1) base P1.m a).setTop (pass0J P1.m a 1 [])) [] P1.sup #[.ref a]).1 t) :
    ∃ v, s.WarmedH v ∧ ∀ target, Steps p.tables e below ((F (W.setVm v)).setFrames (.throwing a :: base)) target → Steps p.tables e below (doInvoke e (W.setFrames (.thenThrow a :: base)) [] P1.m #[.ref a]).1 target := by
  have hmW := hW.methodAt L1.method
  obtain ⟨hI, hfI, hfN⟩ := ps_npI (a := a) hO hmW L1.code (hW.plainAt L1.plain)
  obtain ⟨v1, hW1, st1⟩ := Steps.invokeInitCold (tb := p.tables) (s₀ := s) (U := ps_npV W base P1.m a) (f := pass0J P1.m a 1 [.ref a]) (args := []) (rest := []) (a := a) hI hexec L1.at1 hW L1.links L1.right L1.notHandle L1.cls L1.file L1.pool
    L1.supClass L1.supMethod L1.supName L1.supStatic L1.supAbstract L1.supFound L1.supParams.symm rfl
  obtain ⟨v2, hW2, st2⟩ := hsup v1 hW1 (hI.setVm (hW.alike.symm.trans hW1.alike))
  refine ⟨v2, hW2, fun target hrest => ?_⟩
  rw [(doInvoke_java (s := W.setFrames (.thenThrow a :: base)) (e := e) (acts := []) (args := #[.ref a]) (meth := P1.meth) (code := P1.code) hmW L1.code L1.locks (by rw [L1.locals]; exact hroom)).1, L1.locals]
  show Steps p.tables e below (ps_npV W base P1.m a) target
  rw [← State.setTop_self (s := ps_npV W base P1.m a) (State.topJava?_of_frames hfI)]
  jvm_step hI [hexec, L1.at0, Value.isRef]
  exact st1 target (st2 target (ps_npR (W := W.setVm v2) (hO.setVm (hW.alike.symm.trans hW2.alike)) hexec hF (hW2.methodAt L1.method) L1.code (hW2.plainAt (U := W.setVm v2) L1.plain) L1.locks L1.at4 hrest))
/-- the machine's note that NullPointerException is thrown: its cell is made, its constructor called -/
theorem ps_npS (hO : Over W base below) {cX : ClassId} {kX : Class} {i : Nat} (hfound : W.vm.findClass Bundle.nN = some cX) (hk : W.vm.classes[cX]? = some kX) (hinit : kX.init = .initialized) (hord : kX.kind = .ordinary) (hhot : e.platform.hotImplicitExceptions = false)
    (hbeyond : e.platform.stackBeyond ((((W.setFrames (.throwNew Bundle.nN none none :: base)).threads[W.cur]?).map (·.stackBytes)).getD 0) (W.setFrames (.throwNew Bundle.nN none none :: base)).frames = false)
    (hfree : e.platform.vmThrowRoom ≤ e.platform.stackFree ((((W.setFrames (.throwNew Bundle.nN none none :: base)).threads[W.cur]?).map (·.stackBytes)).getD 0) (W.setFrames (.throwNew Bundle.nN none none :: base)).frames)
    (hctor : kX.findMethod "<init>" "()V" = some i) (hcells : W.heap.size + 1 ≤ e.platform.maxCells) (hslots : W.slotsUsed + kX.instanceTypes.size ≤ e.platform.maxSlots) {target : State}
    (hrest : Steps p.tables e below (doInvoke e ((W.pushCell (freshCell cX kX)).setFrames (.thenThrow W.heap.size :: base)) [] ⟨cX, i⟩ #[.ref W.heap.size]).1 target) : Steps p.tables e below (W.setFrames (.throwNew Bundle.nN none none :: base)) target := by
  obtain ⟨mid, hmid⟩ := hO.above
  have hf : (W.setFrames (.throwNew Bundle.nN none none :: base)).frames = .throwNew Bundle.nN none none :: base := State.frames_setFrames _ hO.cur
  refine Steps.head ⟨hO.running, by simpa using hO.runnable, by simpa using hO.alone⟩ ⟨.throwNew Bundle.nN none none :: mid, by rw [hf, hmid]; rfl, by simp, by simp⟩ ?_
  rw [stepThread_throwNew hf, stepThrowNew_plain (s := W.setFrames (.throwNew Bundle.nN none none :: base)) (c := cX) (k := kX) (i := i) (by decide) (by decide) hfound hk hinit hord hhot hbeyond hfree hctor hcells hslots]
  have e1 : ((W.setFrames (.throwNew Bundle.nN none none :: base)).pushCell (freshCell cX kX)).setFrames (.thenThrow (W.setFrames (.throwNew Bundle.nN none none :: base)).heap.size :: base) = (W.pushCell (freshCell cX kX)).setFrames (.thenThrow W.heap.size :: base) := by
    rw [State.pushCell_setFrames, State.setFrames_setFrames]
    rfl
  rw [e1]
  exact hrest
end NPO
