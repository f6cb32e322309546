/-! ps_: the model is made: its twelve arrays one after another -/
set_option maxRecDepth 100000
def ps_Mi (E : ps_E) (H0 H : Heap) (o k : Nat) (fs : List Value) : Prop :=
  ps_A E o ∧ H.size = o + k ∧ fs.length = 24 ∧ va_at E.1 ps_CL (o, .inr (4, fs)) H ∧ (∀ j, 1 ≤ j → j < k → j ≠ 10 → va_at E.1 ps_CL (o + j, .inl (E.2.1 0, ps_ml j, .inl fun _ => 0)) H) ∧ (10 < k → va_at E.1 ps_CL (o + 10, .inl (E.2.1 3, 2, .inl fun _ => 0)) H) ∧ ∀ q : Nat, q < o → H[q]? = H0[q]?
section PSI
variable {p : Program} {l : Launch} {e : Env} {R : Room} {s : State} {m : MethodId} {args : Array Value} {below : List Frame} {meth : Method} {c : Code} {H : Heap} {locs : List Loc} {cells slots : Nat} {Q : State → Prop}
variable {E : ps_E} {cc : ByteArray} {nL : Nat} {ret : Option FieldType} {H0 H00 : Heap} {pc : Nat} {ls : Array Slot} {rest st : List Value} {o k kf idx n : Nat} {fs : List Value}
theorem ps_mna {i : Int32} (X : ps_X p E s m args meth c cc nL ret RX4 H0 "<init>") (hI : ps_Mi E H00 H o k fs) (hk : 1 ≤ k ∧ k < 13) (hk10 : k ≠ 10) (hi : i = nI (ps_ml k)) (harr : Cond.arrayClass .int ∈ lw_all) (hkf : kf < 24) (hlink : Cond.fieldLink RX4 idx RX4 (TX4 kf).2.1 (TX4 kf).2.2.1 ∈ lw_all) (hsame : RX4 = (TX4 kf).1) (hfin : (TX4 kf).2.2.2 = true) (hn : narrow (tyX4 kf) (.ref (o + k)) = .ref (o + k)) (hfit : fits (tyX4 kf) (.ref (o + k)) = true)
    (hcs : cells + 1 ≤ R.cells ∧ slots + ps_ml k ≤ R.slots) (hS : va_S (ps_A E) s.heap H locs) (hd1 : decode cc pc = .ok (.newarray .int, 2)) (hd2 : decode cc (pc + 2) = .ok (.putfield idx, 3))
    (kk : ∀ (H1 : Heap) (locs1 : List Loc), ps_Mi E H00 H1 o (k + 1) (fs.set kf (.ref (o + k))) → va_S (ps_A E) s.heap H1 locs1 → W p l e R s m args below meth c H1 locs1 (cells + 1) (slots + ps_ml k) Q (F0 m (pc + 5) ls rest)) : W p l e R s m args below meth c H locs cells slots Q (F0 m pc ls (.int i :: .ref o :: rest)) := by
  obtain ⟨h1, h2, h3, h4, h5, h6, h7⟩ := hI
  have h9 : ps_ml k ≤ 1368 := by
    obtain ⟨h1, h2⟩ := hk
    obtain rfl | rfl | rfl | rfl | rfl | rfl | rfl | rfl | rfl | rfl | rfl : k = 1 ∨ k = 2 ∨ k = 3 ∨ k = 4 ∨ k = 5 ∨ k = 6 ∨ k = 7 ∨ k = 8 ∨ k = 9 ∨ k = 11 ∨ k = 12 := by omega
    all_goals decide
  refine ps_newP (atype := .int) (t := 0) (ty := .int) X harr rfl rfl rfl (fun U cA h => h) hi (by show ps_ml k * 4 ≤ 536870912; omega) (by omega) hcs hS hd1 (fun H1 f1 z1 oq1 hS1 => ?_)
  rw [h2] at f1 ⊢
  have g4 := h4.kept (oq1 o (by omega))
  refine ps_putF X in_X4 tyX4_ok nmX4 (ci := 4) rfl kf hkf hlink hsame hfin rfl hsame.symm hn hfit (by omega) g4 h1 hS1 hd2 (fun H2 locs2 f2 z2 oq2 hS2 => ?_)
  refine kk H2 locs2 ⟨h1, by rw [z2, z1, h2]; rfl, by rw [List.length_set]; exact h3, f2, fun j j1 j2 j3 => ?_, fun j2 => ?_, fun q hq => ?_⟩ hS2
  · by_cases e : j = k
    · subst e; exact f1.kept (oq2 _ (by simp; omega))
    · exact ((h5 j j1 (by omega) j3).kept (oq1 _ (by simp; omega))).kept (oq2 _ (by simp; omega))
  · exact ((h6 (by omega)).kept (oq1 _ (by simp; omega))).kept (oq2 _ (by simp))
  · exact (oq2 q (by omega)).trans ((oq1 q (by omega)).trans (h7 q hq))
theorem ps_mnaZ (X : ps_X p E s m args meth c cc nL ret RX4 H0 "<init>") (hI : ps_Mi E H00 H o 10 fs) (harr : Cond.arrayClass .boolean ∈ lw_all) (hkf : kf < 24) (hlink : Cond.fieldLink RX4 idx RX4 (TX4 kf).2.1 (TX4 kf).2.2.1 ∈ lw_all) (hsame : RX4 = (TX4 kf).1) (hfin : (TX4 kf).2.2.2 = true) (hn : narrow (tyX4 kf) (.ref (o + 10)) = .ref (o + 10)) (hfit : fits (tyX4 kf) (.ref (o + 10)) = true)
    (hcs : cells + 1 ≤ R.cells ∧ slots + 2 ≤ R.slots) (hS : va_S (ps_A E) s.heap H locs) (hd1 : decode cc pc = .ok (.newarray .boolean, 2)) (hd2 : decode cc (pc + 2) = .ok (.putfield idx, 3))
    (kk : ∀ (H1 : Heap) (locs1 : List Loc), ps_Mi E H00 H1 o 11 (fs.set kf (.ref (o + 10))) → va_S (ps_A E) s.heap H1 locs1 → W p l e R s m args below meth c H1 locs1 (cells + 1) (slots + 2) Q (F0 m (pc + 5) ls rest)) : W p l e R s m args below meth c H locs cells slots Q (F0 m pc ls (.int (nI 2) :: .ref o :: rest)) := by
  obtain ⟨h1, h2, h3, h4, h5, h6, h7⟩ := hI
  refine ps_newP (atype := .boolean) (t := 3) (ty := .boolean) X harr rfl rfl rfl (fun U cA h => h) rfl (by decide) (by omega) hcs hS hd1 (fun H1 f1 z1 oq1 hS1 => ?_)
  rw [h2] at f1 ⊢
  have g4 := h4.kept (oq1 o (by omega))
  refine ps_putF X in_X4 tyX4_ok nmX4 (ci := 4) rfl kf hkf hlink hsame hfin rfl hsame.symm hn hfit (by omega) g4 h1 hS1 hd2 (fun H2 locs2 f2 z2 oq2 hS2 => ?_)
  refine kk H2 locs2 ⟨h1, by rw [z2, z1, h2], by rw [List.length_set]; exact h3, f2, fun j j1 j2 j3 => ?_, fun j2 => ?_, fun q hq => ?_⟩ hS2
  · exact ((h5 j j1 (by omega) j3).kept (oq1 _ (by simp; omega))).kept (oq2 _ (by simp; omega))
  · exact f1.kept (oq2 _ (by simp))
  · exact (oq2 q (by omega)).trans ((oq1 q (by omega)).trans (h7 q hq))
theorem ps_Mi.Mo (h : ps_Mi E H00 H o 13 (ps_mfs o fun _ => 0)) : ps_Mo E H o (fun _ => 0) (fun _ _ => 0) := ⟨h.1, h.2.2.2.1, fun k h1 h2 h3 => h.2.2.2.2.1 k h1 h2 h3, h.2.2.2.2.2.1 (by decide)⟩
end PSI
/-- the whole at the start -/
def S_0 : SS := (fun _ => 0, fun _ _ => 0, fun _ => 0)
theorem sp_ok_0 : sp_ok (fun _ => 0) := ⟨Nat.zero_le _, Nat.zero_le _, Nat.zero_le _, Nat.zero_le _, (by decide : 0 < 256), fun _ _ => Nat.zero_le _, fun p hp => absurd hp (Nat.not_lt_zero _), fun _ _ => Nat.zero_le _, fun _ => ⟨rfl, rfl⟩⟩
theorem wf_0 : wf S_0 := ⟨sp_ok_0, ⟨Nat.zero_le _, Nat.zero_le _, Nat.zero_le _, Nat.zero_le _, Nat.zero_le _⟩, fun i hi => absurd hi (Nat.not_lt_zero _), fun i hi => absurd hi (Nat.not_lt_zero _), fun r hr => ⟨Nat.zero_le _, Nat.zero_le _⟩, fun r i hr hi => absurd hi (Nat.not_lt_zero _), fun k hk => absurd hk (Nat.not_lt_zero _), fun k hk h => absurd h (by decide : ¬ (0 : Nat) = 1), fun h => absurd h (Nat.lt_irrefl _)⟩
theorem sm_0 {g : Nat → Int32} (hg : ∀ r, r < 8 → g r = -1) : sm (fun _ => 0) (va_up (fun _ _ => 0) 2 g) S_0 := by
  refine ⟨⟨rfl, rfl, rfl, rfl, rfl, rfl⟩, fun i hi => rfl, fun r hr => (hg r hr).trans (by decide : (-1 : Int32) = nI 0 - nI 1), fun i hi => rfl, fun i hi => rfl, fun i hi => rfl, fun k hk => absurd hk (Nat.not_lt_zero _), fun k hk => rfl, fun k hk h => absurd h (by decide : ¬ (0 : Nat) = 1), fun i hi => absurd hi (Nat.not_lt_zero _)⟩
