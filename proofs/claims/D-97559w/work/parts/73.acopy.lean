/-! ps_: System.arraycopy, where it throws -/
set_option maxRecDepth 100000
section PSAC
variable {p : Program} {l : Launch} {e : Env} {R : Room} {s : State} {m : MethodId} {args : Array Value} {below : List Frame} {meth : Method} {c : Code} {H : Heap} {locs : List Loc} {cells slots : Nat} {Q : State → Prop}
variable {E : ps_E} {cc : ByteArray} {nL : Nat} {ret : Option FieldType} {own nm : String} {H0 : Heap} {pc idx : Nat} {ls : Array Slot} {rest : List Value} {z : Nat}
/-- the throw over the native's frame, seen from here -/
abbrev ps_ntL (p : Program) (l : Launch) (e : Env) (R : Room) (s : State) (args : Array Value) (below : List Frame) (H : Heap) (cls : String) (msg : Option String) (dc ds : Nat) : Prop :=
  ∀ (s' W : State) (m : MethodId) (meth : Method) (c : Code) (g : JFrame) (nf : NFrame), s'.vm = s.vm → s'.heap = H → Stand p l e ({ frames := R.frames, locals := R.locals, cells := dc, slots := ds } : Room) s' m args below meth c W [] 0 0 → g.locals.size = c.maxLocals → nf.words = 0 → 2 * g.monitorRoom + (g.stack.map fun v => v.category).sum ≤ 8 →
    ∃ (S : State) (q : Addr) (ce : Cell), Stand p l e ({ frames := R.frames, locals := R.locals, cells := dc, slots := ds } : Room) s' m args below meth c S [] dc ds ∧ S.heap[q]? = some ce ∧ s'.vm.findClass cls = some ce.cls ∧ ce.vm = .none ∧
      Steps p.tables e below (W.setFrames (.throwNew cls msg none :: .native nf :: .java g :: below)) (S.setFrames (.throwing q :: .native nf :: .java g :: below))
theorem ps_acv {v1 v2 : Value} {i1 i2 i3 : Int32} (hv : v1.isRef = true ∧ v2.isRef = true) : operandWords (#[v1, .int i1, v2, .int i2, .int i3] : Array Value).toList = 5 ∧ ∀ x : Method, x.isStatic = true → x.sig.parameters = [.object "java/lang/Object", .int, .object "java/lang/Object", .int, .int] → seenByNative x #[v1, .int i1, v2, .int i2, .int i3] = #[v1, .int i1, v2, .int i2, .int i3] := by
  obtain ⟨h1, h2⟩ := hv
  refine ⟨?_, fun x hst hps => ?_⟩
  · cases v1 <;> first | cases h1; done | (cases v2 <;> first | rfl | cases h2)
  · cases v1 <;> first | cases h1; done | (cases v2 <;> first | (simp [seenByNative, hst, hps, narrow]; done) | cases h2)
theorem ps_acGo {cls : String} {msg : Option String} {dc ds : Nat} {v1 v2 : Value} {i1 i2 i3 : Int32} (X : ps_X p E s m args meth c cc nL ret own H0 nm) (hlink : Cond.methodLink own idx arraycopyName ∈ lw_all) (hnat : Cond.native arraycopyName ∈ lw_all) (hstat : Cond.static arraycopyName ∈ lw_all) (hini : Cond.initialized "java/lang/System" ∈ lw_all)
    (hv : v1.isRef = true ∧ v2.isRef = true) (hwp : ∀ (U : State) (fs : List Frame) (E9 : CtlPost), U.heap = H → s.vm.Alike U.vm → (∀ acts', E9 (.throwNew cls msg) acts' (U.setFrames fs)) → wp (Native.java_lang_System.arraycopy.sem #[v1, .int i1, v2, .int i2, .int i3]) (fun _ _ _ _ => False) E9 e false [] (U.setFrames fs))
    (hnt : ps_ntL p l e R s args below H cls msg dc ds) (hS : va_S (ps_A E) s.heap H locs) (hl : ls.size = nL) (hR : (10 ≤ R.frames ∧ 10260 ≤ R.locals) ∧ cells + dc ≤ R.cells ∧ slots + ds ≤ R.slots) (hcat : (rest.map fun v => v.category).sum ≤ 8) (hdg : decode cc pc = .ok (.invokestatic idx, 3))
    (k : ps_kM p l e R s m args below meth c H locs (cells + dc) (slots + ds) Q E pc ls rest cls) : W p l e R s m args below meth c H locs cells slots Q (F0 m pc ls (.int i3 :: .int i2 :: v2 :: .int i1 :: v1 :: rest)) := by
  obtain ⟨hx, hb, hml, ho, hts, hlk, hr2, hK, hh, hnm⟩ := X
  intro T hT X'
  have Y := vx_rebase X' (R' := { frames := R.frames, locals := R.locals, cells := dc, slots := ds }) (Nat.le_refl _) (Nat.le_refl _) hR.2.1 hR.2.2
  obtain ⟨s', hA⟩ : ∃ y, y = (T.setVm s.vm).setFrames (.invoking m args :: below) := ⟨_, rfl⟩
  have hvm : s'.vm = s.vm := by rw [hA]; rfl
  have hhp : s'.heap = H := by rw [hA]; exact hT
  have hW0 : s.WarmedH s'.vm := by rw [hvm]; exact State.WarmedH.refl s
  have hl' : (Cond.methodLink own idx arraycopyName).before args s' = true := word_at hW0 (Or.inl rfl) (hts _ hlink)
  have hn' : (Cond.native arraycopyName).before args s' = true := word_at hW0 (Or.inl rfl) (hts _ hnat)
  have hs' : (Cond.static arraycopyName).before args s' = true := word_at hW0 (Or.inl rfl) (hts _ hstat)
  have hi' : (Cond.initialized "java/lang/System").before args s' = true := word_at hW0 (Or.inl rfl) (hts _ hini)
  obtain ⟨mk, methN, hnamed, hmeth, -, -, -, hsig⟩ := Cond.native_spec hn'
  have Y0 := Y
  rw [← hA] at Y0
  have hK : Jvm.Free.BackT l ({ frames := R.frames, locals := R.locals, cells := dc, slots := ds } : Room) p e below s' args arraycopyName 3 8
      (fun A a => a = #[v1, .int i1, v2, .int i2, .int i3] ∧ A.U.heap = H ∧ A.locs = [] ∧ A.cells = 0 ∧ A.slots = 0)
      (fun A a t B => ∃ ce, B.locs = [] ∧ B.cells = dc ∧ B.slots = ds ∧ B.U.heap[t]? = some ce ∧ s'.vm.findClass cls = some ce.cls ∧ ce.vm = .none) := by
    refine Jvm.Free.BackT.of_native (row := arraycopyRow) (words := 5) (arraycopy_row p) (Jvm.Free.nativeStatic hn' hs' Jvm.Free.NT.descCopy) (by show 1 ≤ R.frames; omega) (by rw [show nativeFrameWords arraycopyName.cls arraycopyName.name 5 = 7 from nativeFrameWords_plain 5 (by decide)]; show 8 + (7 + 11) ≤ R.locals; omega) (fun m9 meth9 c9 A a x g mk9 Z hg9 hsz hW9 hn9 hst9 hps hask => ?_)
    obtain ⟨U, Ls, c0, s0⟩ := A
    obtain ⟨rfl, hU, rfl, rfl, rfl⟩ := hask
    dsimp only [Pt.U, Pt.locs, Pt.cells, Pt.slots] at Z hn9 hU ⊢
    obtain ⟨S, q, ce, Z1, hce, hcl, hcv, st⟩ := hnt s' U m9 meth9 c9 g { method := mk9, args := #[v1, .int i1, v2, .int i2, .int i3], locked := none } hvm hhp Z hsz rfl hW9
    obtain ⟨w1, w2⟩ := ps_acv (i1 := i1) (i2 := i2) (i3 := i3) hv
    exact ⟨w1, w2 x hst9 hps, cls, msg, id, fun _ => rfl, rfl, fun fs E9 hE => by rw [arraycopyRow_sem]; exact hwp U fs E9 hU (by rw [← hvm]; exact Z.warmed.alike) hE, q, ⟨S, [], dc, ds⟩, Z1, ⟨ce, rfl, rfl, rfl, hce, hcl, hcv⟩, st⟩
  obtain ⟨v, vm₁, ⟨BU, bl, bc, bs⟩, -, XB, ⟨ce, b1, b2, b3, hce, hcl, hcv⟩, steps⟩ := Y0.staticThrows hx (show s'.vm.findClass own = some m.cls by rw [hvm]; exact ho) hl' hs' hi' hnamed hmeth hsig (by decide) hK (g := F0 m pc ls (.int i3 :: .int i2 :: v2 :: .int i1 :: v1 :: rest)) rfl (hl.trans hml.symm) (Steps.refl _) (argsL := [v1, .int i1, v2, .int i2, .int i3]) (rest := rest)
    (fun sig h => by have h9 : parseMethodDescriptor arraycopyName.desc = _ := Jvm.Free.NT.descCopy; rw [h9] at h; cases h; rfl) rfl (by show 2 * 0 + _ ≤ 8; omega) (by rw [hb]; exact hdg) (fun vm₁ _ => ⟨rfl, hT, rfl, rfl, rfl⟩)
  dsimp only [Pt.U, Pt.locs, Pt.cells, Pt.slots] at b1 b2 b3 hce XB steps
  subst b1; subst b2; subst b3
  obtain ⟨f1, f2⟩ := vx_frame XB.same
  rw [hhp] at f1 f2
  have f2' : ∀ q : Nat, q < H.size → BU.heap[q]? = H[q]? := fun q hq => f2 q hq (fun z9 hz => nomatch hz)
  have hclS : s.vm.findClass cls = some ce.cls := by rw [← hvm]; exact hcl
  subst hA
  have X5 := vx_back9 X' Y XB
  obtain ⟨t, a1, a2⟩ := k BU.heap v ce f1 f2' ⟨Nat.le_trans hS.1 f1, fun q h1 h2 => (f2' q (Nat.lt_of_lt_of_le h1 hS.1)).trans (hS.2.1 q h1 h2), hS.2.2⟩ hce hcv hclS BU rfl X5
  exact ⟨t, steps.trans a1, a2⟩
end PSAC
