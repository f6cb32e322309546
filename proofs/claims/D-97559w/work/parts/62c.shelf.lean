/-! ps_: a shelf -/
set_option maxRecDepth 100000
/-- the shelf at a: its lane L, its array's length + 1 (0: none), the array at h holds f -/
def ps_Rq (E : ps_E) (Γ : ps_Gh) (a L Zr h : Nat) (f : Nat → Int32) : Prop := (L ≤ 2 ∧ Zr ≤ 41) ∧ ((Zr = 0 ∧ Γ a = some (.inr (1, [.null]))) ∨ (Zr ≠ 0 ∧ Γ a = some (.inr (1, [.ref h])) ∧ Γ h = some (.inl (E.2.1 (ps_la L), Zr - 1, .inl f))))
theorem ps_Rq.four {E : ps_E} {Γ : ps_Gh} {a L Zr h : Nat} {f : Nat → Int32} (hq : ps_Rq E Γ a L Zr h f) : (Zr = 0 ∧ Γ a = some (.inr (1, [.null]))) ∨ (L = 0 ∧ Zr ≠ 0 ∧ Γ a = some (.inr (1, [.ref h])) ∧ Γ h = some (.inl (E.2.1 1, Zr - 1, .inl f))) ∨ (L = 1 ∧ Zr ≠ 0 ∧ Γ a = some (.inr (1, [.ref h])) ∧ Γ h = some (.inl (E.2.1 2, Zr - 1, .inl f))) ∨ (L = 2 ∧ Zr ≠ 0 ∧ Γ a = some (.inr (1, [.ref h])) ∧ Γ h = some (.inl (E.2.1 0, Zr - 1, .inl f))) := by
  obtain ⟨⟨h1, h2⟩, h3 | ⟨h3, h4, h5⟩⟩ := hq
  · exact Or.inl h3
  · obtain rfl | rfl | rfl : L = 0 ∨ L = 1 ∨ L = 2 := by omega
    · exact Or.inr (Or.inl ⟨rfl, h3, h4, h5⟩)
    · exact Or.inr (Or.inr (Or.inl ⟨rfl, h3, h4, h5⟩))
    · exact Or.inr (Or.inr (Or.inr ⟨rfl, h3, h4, h5⟩))
theorem ps_rin (i : Int32) {n : Nat} (hn : n ≤ 40) : (∃ k, i = nI k ∧ k < n ∧ rng i 0 n = true) ∨ (¬ vp_in i n ∧ rng i 0 n = false) := by
  cases h : rng i 0 n with
  | true =>
    obtain ⟨k, h1, -, h2, -⟩ := rng_t h
    exact Or.inl ⟨k, h1, h2, rfl⟩
  | false =>
    refine Or.inr ⟨fun hin => ?_, rfl⟩
    simp only [vp_in, not_or, Int32.not_lt, Nat.not_le] at hin
    have h0 : (0 : Int32) ≤ i := hin.1
    have h1 : 0 ≤ i.toInt := by simpa using Int32.le_iff_toInt_le.mp h0
    have h2 : i.toNatClampNeg = i.toInt.toNat := rfl
    simp only [rng, Bool.and_eq_false_iff, decide_eq_false_iff_not] at h
    omega
/-- a shelf's value, asked or written -/
def ps_shX (E : ps_E) (Γ : ps_Gh) (H : Heap) (Zr : Nat) (i : Int32) : String → Heap → Prop := fun N H1 => ((Zr = 0 ∧ N = ps_nN) ∨ (Zr ≠ 0 ∧ rng i 0 (Zr - 1) = false ∧ N = ps_nI)) ∧ ps_W E Γ H1 ∧ ps_gf Γ H Γ H1
