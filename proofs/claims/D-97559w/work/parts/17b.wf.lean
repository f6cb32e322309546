/-! ps_: what holds of the whole holds after every call -/
set_option maxRecDepth 100000
theorem asl_asl (k : Nat) (x : Int32) : asl k (asl k x) = asl k x := by
  unfold asl
  split
  · simp
  · split
    · simp
    · rfl
theorem asl_0 (k : Nat) : asl k 0 = 0 := by
  unfold asl
  split
  · decide
  · split
    · decide
    · rfl
section WF
variable {S : SS}
theorem wf_stat (h : wf S) {v : Nat} (hv : v ≤ 5) : wf (sStat S v) := ⟨h.1, ⟨hv, h.2.1.2⟩, h.2.2⟩
theorem wf_rows {L Z : Nat → Nat} {it : Nat → Int32} (h : wf S) (h5 : ∀ r, r < 8 → L r ≤ 2 ∧ Z r ≤ 41) (h6 : ∀ r i, r < 8 → i + 1 < Z r → asl (L r) (it (40 * r + i)) = it (40 * r + i)) : wf (va_up S.1 0 0, va_up (va_up S.2.1 3 L) 4 Z, it) := by
  refine ⟨h.1, ⟨Nat.zero_le _, h.2.1.2⟩, h.2.2.1, h.2.2.2.1, h5, h6, fun k hk => ?_, fun k hk h1 => ?_, h.2.2.2.2.2.2.2.2⟩
  · show sp_ok (va_up (va_up S.2.1 3 L) 4 Z (10 + k)) ∧ 1 ≤ va_up (va_up S.2.1 3 L) 4 Z (10 + k) 1
    rw [va_up_ne _ _ (by omega), va_up_ne _ _ (by omega)]; exact h.a hk
  · show sp_ok (va_up (va_up S.2.1 3 L) 4 Z (40 + k)) ∧ 1 ≤ va_up (va_up S.2.1 3 L) 4 Z (40 + k) 1 ∧ _
    rw [va_up_ne _ _ (by omega), va_up_ne _ _ (by omega)]; exact h.im hk h1
theorem wf_it {it : Nat → Int32} (h : wf S) (h6 : ∀ r i, r < 8 → i + 1 < S.2.1 4 r → asl (S.2.1 3 r) (it (40 * r + i)) = it (40 * r + i)) : wf (va_up S.1 0 0, S.2.1, it) := ⟨h.1, ⟨Nat.zero_le _, h.2.1.2⟩, h.2.2.1, h.2.2.2.1, h.2.2.2.2.1, h6, h.2.2.2.2.2.2.1, h.2.2.2.2.2.2.2.1, h.2.2.2.2.2.2.2.2⟩
theorem wf_row (h : wf S) (x y z : Int32) : wf (op_row S x y z).2 := by
  unfold op_row
  split
  · rename_i hc
    obtain ⟨h1, h2, h3⟩ := hc
    split
    · rename_i h4
      obtain ⟨n, hn, rfl⟩ := ps_zin h4 h3
      obtain ⟨k, rfl, -, hk, -⟩ := rng_t h1
      obtain ⟨j, rfl, -, hj, -⟩ := rng_t h2
      rw [nI_clamp (by omega), nI_clamp (by omega), nI_clamp (by omega)]
      refine wf_rows h (fun r hr => ?_) (fun r i hr hi => ?_)
      · have := h.r hr
        refine ⟨?_, ?_⟩
        · unfold va_up; split <;> omega
        · unfold va_up; split <;> omega
      · have := h.r hr
        by_cases e : r = k
        · subst e
          rw [va_up_self] at hi
          rw [if_pos (by omega)]; exact asl_0 _
        · rw [va_up_ne _ _ e] at hi
          rw [va_up_ne _ _ e, if_neg (by omega)]; exact h.i hr hi
    · exact wf_stat h (by decide)
  · exact h
theorem wf_set (h : wf S) (x y v : Int32) : wf (op_set S x y v).2 := by
  unfold op_set
  split
  · rename_i h1
    split
    · exact wf_stat h (by decide)
    · split
      · rename_i h2 h3
        obtain ⟨k, rfl, -, hk, -⟩ := rng_t h1
        rw [nI_clamp (by omega)] at h2 h3 ⊢
        have hr := h.r hk
        obtain ⟨j, rfl, -, hj, -⟩ := rng_t h3
        rw [nI_clamp (by omega)]
        refine wf_it h (fun r i hr2 hi => ?_)
        have hr3 := h.r hr2
        by_cases e : 40 * r + i = 40 * k + j
        · rw [e, pk_us, show r = k by omega]; exact asl_asl _ _
        · rw [pk_un e]; exact h.i hr2 hi
      · exact wf_stat h (by decide)
  · exact h
theorem wf_copy (h : wf S) (x i y j n : Int32) : wf (op_copy S x i y j n).2 := by
  unfold op_copy
  split
  · rename_i h1
    obtain ⟨h1, h2⟩ := h1
    split
    · exact wf_stat h (by decide)
    · split
      · exact wf_stat h (by decide)
      · split
        · rename_i h3 h4 h5
          obtain ⟨k, rfl, -, hk, -⟩ := rng_t h1
          obtain ⟨m, rfl, -, hm, -⟩ := rng_t h2
          rw [nI_clamp (show k < 2147483648 by omega), nI_clamp (show m < 2147483648 by omega)] at h3 h4 h5 ⊢
          obtain ⟨h5, h6, h7⟩ := h5
          have hrk := h.r hk
          have hrm := h.r hm
          generalize n.toNatClampNeg = u at *
          obtain ⟨a, rfl, -, ha, -⟩ := rng_t h6
          obtain ⟨b, rfl, -, hb, -⟩ := rng_t h7
          rw [nI_clamp (show a < 2147483648 by omega), nI_clamp (show b < 2147483648 by omega)]
          refine wf_it h (fun r q hr2 hi => ?_)
          have hr3 := h.r hr2
          by_cases e : 40 * m + b ≤ 40 * r + q ∧ 40 * r + q < 40 * m + b + u
          · have er : r = m := by omega
            subst er
            simp only [if_pos e]
            have he : S.2.1 3 k = S.2.1 3 r := Classical.byContradiction h4
            rw [show 40 * k + a + (40 * r + q - (40 * r + b)) = 40 * k + (a + (q - b)) by omega, ← he]
            exact h.i hk (by omega)
          · simp only [if_neg e]; exact h.i hr2 hi
        · exact wf_stat h (by decide)
  · exact h
theorem wf_drop (h : wf S) (x : Int32) : wf (op_drop S x).2 := by
  unfold op_drop
  split
  · rename_i h1
    split
    · exact wf_stat h (by decide)
    · obtain ⟨k, rfl, -, hk, -⟩ := rng_t h1
      rw [nI_clamp (by omega)]
      have he : va_up S.2.1 3 (S.2.1 3) = S.2.1 := by
        funext t; unfold va_up; split
        · rename_i e; rw [e]
        · rfl
      have := wf_rows (L := S.2.1 3) (Z := va_up (S.2.1 4) k 0) (it := S.2.2) h (fun r hr => ?_) (fun r i hr hi => ?_)
      · rw [he] at this; exact this
      · have := h.r hr
        refine ⟨this.1, ?_⟩
        unfold va_up; split <;> omega
      · by_cases e : r = k
        · subst e; rw [va_up_self] at hi; omega
        · rw [va_up_ne _ _ e] at hi; exact h.i hr hi
  · exact h
theorem wf_feed (h : wf S) (x : Int32) : wf (op_feed S x).2 := by
  unfold op_feed
  split
  · rename_i h1
    split
    · exact h
    · rename_i h2
      obtain ⟨k, rfl, -, hk, -⟩ := rng_t h1
      rw [nI_clamp (by omega)]
      have hn := h.n
      refine ⟨h.1, ⟨hn.1, hn.2.1, (by show S.1 2 + 1 ≤ 120; omega), hn.2.2.2.1, hn.2.2.2.2⟩, fun i hi => ?_, h.2.2.2.1, h.2.2.2.2.1, h.2.2.2.2.2.1, fun q hq => ?_, fun q hq h1 => ?_, h.2.2.2.2.2.2.2.2⟩
      · show va_up (S.2.1 1) (S.1 2) k i < 256
        unfold va_up
        split
        · omega
        · exact h.t (Nat.lt_of_le_of_ne (Nat.le_of_lt_succ hi) ‹_›)
      · show sp_ok (va_up S.2.1 1 _ (10 + q)) ∧ 1 ≤ va_up S.2.1 1 _ (10 + q) 1
        rw [va_up_ne _ _ (by omega)]; exact h.a hq
      · show sp_ok (va_up S.2.1 1 _ (40 + q)) ∧ 1 ≤ va_up S.2.1 1 _ (40 + q) 1 ∧ _
        rw [va_up_ne _ _ (by omega)]; exact h.im hq h1
  · exact h
end WF
