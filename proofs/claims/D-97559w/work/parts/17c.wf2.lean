/-! ps_: what holds of the whole holds after every call, on -/
set_option maxRecDepth 100000
theorem tk_sign_f {tb : Nat → Nat} {n c b : Nat} {σ : Nat → Nat} : (tk_sign tb n c b σ).1 ≤ 3 := by
  unfold tk_sign; split
  · exact (by decide : 0 ≤ 3)
  · exact (by decide : 1 ≤ 3)
theorem tk_fig_f {tb : Nat → Nat} {n lo hi at_ c b : Nat} {σ : Nat → Nat} : (tk_fig tb n lo hi at_ c b σ).1 ≤ 3 := by
  unfold tk_fig; split
  · split
    · exact tk_sign_f
    · exact (by decide : 2 ≤ 3)
  · exact (by decide : 1 ≤ 3)
theorem tk_then_f {r : tk_R} {f : Nat → (Nat → Nat) → tk_R} (h1 : r.1 ≤ 3) (h2 : ∀ b σ, (f b σ).1 ≤ 3) : (tk_then r f).1 ≤ 3 := by
  unfold tk_then; split
  · exact h2 _ _
  · exact h1
theorem tk_step_f {tb : Nat → Nat} {n b : Nat} {σ : Nat → Nat} : (tk_step tb n b σ).1 ≤ 3 := by
  unfold tk_step; split
  · unfold tk_promise; split
    · exact (by decide : 3 ≤ 3)
    · exact tk_then_f tk_fig_f fun _ _ => tk_then_f tk_fig_f fun _ _ => tk_then_f tk_fig_f fun _ _ => tk_fig_f
  · split
    · unfold tk_giver; split
      · dsimp only; split <;> decide
      · exact tk_fig_f
    · exact (by decide : 1 ≤ 3)
theorem tk_all_f {tb : Nat → Nat} {n : Nat} : ∀ {k : Nat} {r : tk_R}, r.1 ≤ 3 → (tk_all tb n k r).1 ≤ 3
  | 0, _, h => h
  | k + 1, r, h => by
    rw [tk_all]; split
    · exact tk_all_f tk_step_f
    · exact h
theorem tk_text_f {tb : Nat → Nat} {n : Nat} : (tk_text tb n).1 ≤ 3 := tk_then_f tk_sign_f fun _ _ => tk_then_f tk_fig_f fun _ _ => tk_then_f tk_fig_f fun _ _ => tk_all_f (Nat.zero_le _)
section WF2
variable {S : SS}
theorem wf_scales (h : wf S) : wf (op_scales S).2 := by
  have hn := h.n
  unfold op_scales
  split
  · rename_i h1
    have ho := tk_text_ok h1
    refine ⟨ho.1, ⟨hn.1, hn.2.1, Nat.zero_le _, Nat.zero_le _, hn.2.2.2.2⟩, fun i hi => absurd hi (Nat.not_lt_zero _), h.2.2.2.1, h.2.2.2.2.1, h.2.2.2.2.2.1, fun k hk => absurd hk (Nat.not_lt_zero _), fun q hq hq1 => ?_, fun _ => ho.2.1⟩
    have := h.im hq hq1
    refine ⟨?_, ?_, ho.2.1⟩
    · show sp_ok (va_up S.2.1 0 _ (40 + q)); rw [va_up_ne _ _ (by omega)]; exact this.1
    · show 1 ≤ va_up S.2.1 0 _ (40 + q) 1; rw [va_up_ne _ _ (by omega)]; exact this.2.1
  · exact ⟨h.1, ⟨hn.1, tk_text_f, Nat.zero_le _, hn.2.2.2⟩, fun i hi => absurd hi (Nat.not_lt_zero _), h.2.2.2⟩
theorem wf_sNote {σ : Nat → Nat} (h : wf S) (h1 : 1 ≤ S.2.1 0 1) (hσ : sp_ok σ) (hs : 1 ≤ σ 1) : wf (sSt (sNote S) σ) := by
  have hn := h.n
  have e : ∀ t, t ≠ 0 → t < 10 → va_up (sNote S).2.1 0 σ t = S.2.1 t := fun t h0 ht => by rw [va_up_ne _ _ h0]; exact sNote_lt ht
  refine ⟨hσ, ⟨hn.1, hn.2.1, hn.2.2.1, ?_, hn.2.2.2.2⟩, fun i hi => ?_, fun i hi => ?_, fun r hr => ?_, fun r i hr hi => ?_, fun k hk => ?_, fun k hk hk1 => ?_, fun _ => hs⟩
  · show (sNote S).1 3 ≤ 24
    rw [sNote_n]; split <;> omega
  · show va_up (sNote S).2.1 0 σ 1 i < 256
    rw [e 1 (by decide) (by decide)]; exact h.t hi
  · show va_up (sNote S).2.1 0 σ 2 i < 256
    rw [e 2 (by decide) (by decide)]; exact h.tr hi
  · show va_up (sNote S).2.1 0 σ 3 r ≤ 2 ∧ va_up (sNote S).2.1 0 σ 4 r ≤ 41
    rw [e 3 (by decide) (by decide), e 4 (by decide) (by decide)]; exact h.r hr
  · have hi2 : i + 1 < S.2.1 4 r := by
      have hi3 : i + 1 < va_up (sNote S).2.1 0 σ 4 r := hi
      rwa [e 4 (by decide) (by decide)] at hi3
    show asl (va_up (sNote S).2.1 0 σ 3 r) (S.2.2 _) = S.2.2 _
    rw [e 3 (by decide) (by decide)]; exact h.i hr hi2
  · have hk2 : k < (sNote S).1 3 := hk
    rw [sNote_n] at hk2
    show sp_ok (va_up (sNote S).2.1 0 σ (10 + k)) ∧ 1 ≤ va_up (sNote S).2.1 0 σ (10 + k) 1
    rw [va_up_ne _ _ (by omega)]
    show sp_ok (if S.1 3 = 24 then (if 10 ≤ 10 + k ∧ 10 + k < 33 then S.2.1 (10 + k + 1) else if 10 + k = 33 then S.2.1 0 else S.2.1 (10 + k)) else if 10 + k = 10 + S.1 3 then S.2.1 0 else S.2.1 (10 + k)) ∧ 1 ≤ (if S.1 3 = 24 then (if 10 ≤ 10 + k ∧ 10 + k < 33 then S.2.1 (10 + k + 1) else if 10 + k = 33 then S.2.1 0 else S.2.1 (10 + k)) else if 10 + k = 10 + S.1 3 then S.2.1 0 else S.2.1 (10 + k)) 1
    by_cases q : S.1 3 = 24
    · rw [if_pos q] at hk2
      rw [if_pos q]
      by_cases q2 : k < 23
      · rw [if_pos (by omega)]; exact h.a (k := k + 1) (by omega)
      · rw [if_neg (by omega), if_pos (by omega)]; exact ⟨h.1, h1⟩
    · rw [if_neg q] at hk2
      rw [if_neg q]
      by_cases q2 : k = S.1 3
      · rw [if_pos (by omega)]; exact ⟨h.1, h1⟩
      · rw [if_neg (by omega)]; exact h.a (by omega)
  · have h5 : S.2.1 5 k = 1 := by
      have h6 : va_up (sNote S).2.1 0 σ 5 k = 1 := hk1
      rwa [e 5 (by decide) (by decide)] at h6
    have := h.im hk h5
    refine ⟨?_, ?_, hs⟩
    · show sp_ok (va_up (sNote S).2.1 0 σ (40 + k)); rw [va_up_ne _ _ (by omega), sNote_im hn.2.2.2.1]; exact this.1
    · show 1 ≤ va_up (sNote S).2.1 0 σ (40 + k) 1; rw [va_up_ne _ _ (by omega), sNote_im hn.2.2.2.1]; exact this.2.1
theorem wf_there (h : wf S) {k : Nat} (hk : k < S.2.1 0 3) : 1 ≤ S.2.1 0 1 := by
  have := h.1.n
  omega
theorem xor_lt_256 {a p : Nat} (ha : a < 256) (hp : p < 8) : a ^^^ 2 ^ p < 256 := Nat.xor_lt_two_pow (n := 8) ha (Nat.pow_lt_pow_right (by decide) hp)
theorem wf_lay (h : wf S) (x y : Int32) : wf (op_lay S x y).2 := by
  have hm := h.1.m
  unfold op_lay
  split
  · rename_i h1
    split
    · obtain ⟨k, rfl, -, hk, -⟩ := rng_t h1.1
      rw [nI_clamp (by omega)]
      have h2 := wf_there h hk
      exact wf_sNote h h2 (sp_ok_pan h.1 (xor_lt_256 hm.2.2.2.2 (by omega))) (by rw [va_up_ne _ _ (by decide)]; exact h2)
    · exact h
  · exact h
theorem wf_settle (h : wf S) (x y : Int32) : wf (op_settle S x y).2 := by
  have hm := h.1.m
  unfold op_settle
  split
  · rename_i h1
    split
    · obtain ⟨k, rfl, -, hk, -⟩ := rng_t h1.1
      rw [nI_clamp (by omega)]
      have h2 := wf_there h hk
      have hp := h.1.p hk
      exact wf_sNote h h2 (sp_ok_settle h.1 hk) (by rw [sp_settle_o (by omega) (by omega) (by omega)]; exact h2)
    · exact h
  · exact h
theorem sp_ok_wax {σ : Nat → Nat} {v : Nat} (h : sp_ok σ) (hv : v ≤ 9) : sp_ok (va_up σ 0 v) := by
  obtain ⟨h2, h3, h4, h5, h6, h7, h8, h9, h10⟩ := h
  refine ⟨hv, h3, h4, h5, h6, fun g hg => ?_, fun p hp => ?_, fun p hp => ?_, h10⟩
  · rw [va_up_ne _ _ (by omega)]; exact h7 g hg
  · have := h8 p hp
    rw [va_up_ne _ _ (by omega), va_up_ne _ _ (by omega), va_up_ne _ _ (by omega), va_up_ne _ _ (by omega), va_up_ne _ _ (by omega), va_up_ne _ _ (by omega)]; exact this
  · rw [va_up_ne _ _ (by omega)]; exact h9 p hp
theorem wf_wax (h : wf S) (x : Int32) : wf (op_wax S x).2 := by
  unfold op_wax
  split
  · rename_i h2
    split
    · rename_i h1
      obtain ⟨k, rfl, -, hk, -⟩ := rng_t h1
      rw [nI_clamp (by omega)]
      exact wf_sNote h h2 (sp_ok_wax h.1 (by omega)) (by rw [va_up_ne _ _ (by decide)]; exact h2)
    · exact h
  · exact h
theorem wf_undo (h : wf S) : wf (op_undo S).2 := by
  have hn := h.n
  unfold op_undo
  split
  · exact h
  · rename_i h1
    have ha := h.a (k := S.1 3 - 1) (by omega)
    refine ⟨ha.1, ⟨hn.1, hn.2.1, hn.2.2.1, (by show S.1 3 - 1 ≤ 24; omega), hn.2.2.2.2⟩, h.2.2.1, h.2.2.2.1, h.2.2.2.2.1, h.2.2.2.2.2.1, fun k hk => ?_, fun k hk hk1 => ?_, fun _ => ha.2⟩
    · have hk2 : k < S.1 3 - 1 := hk
      show sp_ok (va_up S.2.1 0 _ (10 + k)) ∧ 1 ≤ va_up S.2.1 0 _ (10 + k) 1
      rw [va_up_ne _ _ (by omega)]; exact h.a (by omega)
    · have := h.im hk hk1
      show sp_ok (va_up S.2.1 0 _ (40 + k)) ∧ 1 ≤ va_up S.2.1 0 _ (40 + k) 1 ∧ _
      rw [va_up_ne _ _ (by omega)]; exact ⟨this.1, this.2.1, ha.2⟩
theorem wf_image (h : wf S) (x : Int32) : wf (op_image S x).2 := by
  unfold op_image
  split
  · rename_i h1
    split
    · rename_i h2
      obtain ⟨j, rfl, -, hj, -⟩ := rng_t h1
      rw [nI_clamp (by omega)]
      have e : ∀ t, t ≠ 5 → t ≠ 40 + j → va_up (va_up S.2.1 5 (va_up (S.2.1 5) j 1)) (40 + j) (S.2.1 0) t = S.2.1 t := fun t a b => by rw [va_up_ne _ _ b, va_up_ne _ _ a]
      refine ⟨?_, h.n, fun i hi => ?_, fun i hi => ?_, fun r hr => ?_, fun r i hr hi => ?_, fun k hk => ?_, fun k hk hk1 => ?_, fun q => ?_⟩
      · show sp_ok (va_up (va_up S.2.1 5 (va_up (S.2.1 5) j 1)) (40 + j) (S.2.1 0) 0)
        rw [e 0 (by decide) (by omega)]; exact h.1
      · show va_up (va_up S.2.1 5 (va_up (S.2.1 5) j 1)) (40 + j) (S.2.1 0) 1 i < 256
        rw [e 1 (by decide) (by omega)]; exact h.t hi
      · show va_up (va_up S.2.1 5 (va_up (S.2.1 5) j 1)) (40 + j) (S.2.1 0) 2 i < 256
        rw [e 2 (by decide) (by omega)]; exact h.tr hi
      · show va_up (va_up S.2.1 5 (va_up (S.2.1 5) j 1)) (40 + j) (S.2.1 0) 3 r ≤ 2 ∧ va_up (va_up S.2.1 5 (va_up (S.2.1 5) j 1)) (40 + j) (S.2.1 0) 4 r ≤ 41
        rw [e 3 (by decide) (by omega), e 4 (by decide) (by omega)]; exact h.r hr
      · have hi3 : i + 1 < va_up (va_up S.2.1 5 (va_up (S.2.1 5) j 1)) (40 + j) (S.2.1 0) 4 r := hi
        rw [e 4 (by decide) (by omega)] at hi3
        show asl (va_up (va_up S.2.1 5 (va_up (S.2.1 5) j 1)) (40 + j) (S.2.1 0) 3 r) (S.2.2 _) = S.2.2 _
        rw [e 3 (by decide) (by omega)]; exact h.i hr hi3
      · have hk2 : k < S.1 3 := hk
        have hn := h.n
        show sp_ok (va_up (va_up S.2.1 5 (va_up (S.2.1 5) j 1)) (40 + j) (S.2.1 0) (10 + k)) ∧ 1 ≤ va_up (va_up S.2.1 5 (va_up (S.2.1 5) j 1)) (40 + j) (S.2.1 0) (10 + k) 1
        rw [e (10 + k) (by omega) (by omega)]; exact h.a hk2
      · show sp_ok (va_up (va_up S.2.1 5 (va_up (S.2.1 5) j 1)) (40 + j) (S.2.1 0) (40 + k)) ∧ 1 ≤ va_up (va_up S.2.1 5 (va_up (S.2.1 5) j 1)) (40 + j) (S.2.1 0) (40 + k) 1 ∧ 1 ≤ va_up (va_up S.2.1 5 (va_up (S.2.1 5) j 1)) (40 + j) (S.2.1 0) 0 1
        rw [e 0 (by decide) (by omega)]
        by_cases q : k = j
        · subst q; rw [va_up_self]; exact ⟨h.1, h2, h2⟩
        · rw [e (40 + k) (by omega) (by omega)]
          have h6 : va_up (va_up S.2.1 5 (va_up (S.2.1 5) j 1)) (40 + j) (S.2.1 0) 5 k = 1 := hk1
          rw [va_up_ne _ _ (by omega), va_up_self, va_up_ne _ _ q] at h6
          exact h.im hk h6
      · show 1 ≤ va_up (va_up S.2.1 5 (va_up (S.2.1 5) j 1)) (40 + j) (S.2.1 0) 0 1
        rw [e 0 (by decide) (by omega)]; exact h2
    · exact h
  · exact h
theorem wf_restore (h : wf S) (x : Int32) : wf (op_restore S x).2 := by
  have hn := h.n
  unfold op_restore
  split
  · rename_i h1
    split
    · rename_i h2
      obtain ⟨j, rfl, -, hj, -⟩ := rng_t h1
      rw [nI_clamp (by omega)] at h2 ⊢
      have ha := h.im hj h2
      refine ⟨ha.1, ⟨hn.1, hn.2.1, hn.2.2.1, Nat.zero_le _, hn.2.2.2.2⟩, h.2.2.1, h.2.2.2.1, h.2.2.2.2.1, h.2.2.2.2.2.1, fun k hk => absurd hk (Nat.not_lt_zero _), fun k hk hk1 => ?_, fun _ => ha.2.1⟩
      have := h.im hk hk1
      show sp_ok (va_up S.2.1 0 _ (40 + k)) ∧ 1 ≤ va_up S.2.1 0 _ (40 + k) 1 ∧ _
      rw [va_up_ne _ _ (by omega)]; exact ⟨this.1, this.2.1, ha.2.1⟩
    · exact h
  · exact h
theorem wf_as (h : wf S) (x y : Int32) : wf (op_as S x y).2 := by
  unfold op_as
  split
  · split <;> exact wf_stat h (by decide)
  · exact h
theorem wf_found (h : wf S) (x y z t : Int32) : wf (op_found S x y z t).2 := by
  unfold op_found
  split
  · split
    · split
      · exact wf_stat h (by decide)
      · split
        · split
          · exact wf_stat h (by decide)
          · exact h
        · exact wf_stat h (by decide)
    · exact h
  · exact h
theorem wf_keepsFound (h : wf S) (x y z : Int32) : wf (op_keepsFound S x y z).2 := by
  unfold op_keepsFound
  split
  · split
    · exact wf_stat h (by decide)
    · split <;> exact wf_stat h (by decide)
  · exact h
theorem wf_sTr {L : List Nat} (h : wf S) (h1 : L.length ≤ 16) (h2 : ∀ b ∈ L, b < 256) : wf (sTr S L) := by
  have hn := h.n
  refine ⟨h.1, ⟨hn.1, hn.2.1, hn.2.2.1, hn.2.2.2.1, h1⟩, h.2.2.1, fun i hi => ?_, h.2.2.2.2.1, h.2.2.2.2.2.1, fun k hk => ?_, fun k hk hk1 => ?_, h.2.2.2.2.2.2.2.2⟩
  · have hi2 : i < L.length := hi
    show L.getD i 0 < 256
    rw [List.getD_eq_getElem?_getD, List.getElem?_eq_getElem hi2]
    exact h2 _ (List.getElem_mem hi2)
  · show sp_ok (va_up S.2.1 2 _ (10 + k)) ∧ 1 ≤ va_up S.2.1 2 _ (10 + k) 1
    rw [va_up_ne _ _ (by omega)]; exact h.a hk
  · show sp_ok (va_up S.2.1 2 _ (40 + k)) ∧ 1 ≤ va_up S.2.1 2 _ (40 + k) 1 ∧ _
    rw [va_up_ne _ _ (by omega)]; exact h.im hk hk1
theorem sp_oL_b {σ : Nat → Nat} {p : Nat} : (sp_oL σ p).length ≤ 3 ∧ ∀ b ∈ sp_oL σ p, b < 256 := by unfold sp_oL; split <;> decide
theorem sp_mL_b {σ : Nat → Nat} {p : Nat} : (sp_mL σ p).length ≤ 5 ∧ ∀ b ∈ sp_mL σ p, b < 256 := by
  have := @sp_oL_b σ p
  unfold sp_mL
  repeat' split
  · decide
  · decide
  · decide
  · refine ⟨by rw [List.length_append]; show 2 + _ ≤ 5; omega, fun b hb => ?_⟩
    rcases List.mem_append.mp hb with q | q
    · clear hb; revert b; decide
    · exact this.2 b q
theorem sp_sL_b {σ : Nat → Nat} {p : Nat} : (sp_sL σ p).length ≤ 8 ∧ ∀ b ∈ sp_sL σ p, b < 256 := by
  have h1 := @sp_oL_b σ p
  have h2 := @sp_mL_b σ p
  unfold sp_sL
  repeat' split
  · refine ⟨by rw [List.length_append]; show 3 + _ ≤ 8; omega, fun b hb => ?_⟩
    rcases List.mem_append.mp hb with q | q
    · clear hb; revert b; decide
    · exact h2.2 b q
  · exact ⟨by omega, h1.2⟩
  · refine ⟨by rw [List.length_append]; show 2 + _ ≤ 8; omega, fun b hb => ?_⟩
    rcases List.mem_append.mp hb with q | q
    · clear hb; revert b; decide
    · exact h2.2 b q
theorem wf_ask (h : wf S) (x y : Int32) : wf (op_ask S x y).2 := by
  unfold op_ask
  split
  · split
    · exact wf_sTr h (Nat.le_trans sp_sL_b.1 (by decide)) sp_sL_b.2
    · exact wf_sTr h (Nat.le_trans sp_mL_b.1 (by decide)) sp_mL_b.2
  · exact h
end WF2
