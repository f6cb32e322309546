/-! ps_: laws for the component's loops -/
set_option maxRecDepth 100000
def cl_n (σ : Nat → Nat) (i j : Nat) : Nat := sumR (fun a => sp_ccnt σ a (σ 3 - a - 1)) 0 i + sumR (fun b => if sp_clash σ i b = true then 1 else 0) (i + 1) (j - i - 1)
def cl_f (σ : Nat → Nat) (i j : Nat) : Option Nat := (fstR (fun a => sp_cfst σ a (σ 3 - a - 1)) 0 i).or (fstR (fun b => if sp_clash σ i b = true then some (8 * i + b) else none) (i + 1) (j - i - 1))
theorem sf_0 {f : Nat → Nat} {g : Nat → Option Nat} {lo : Nat} (h : ∀ a, f a = 0 ↔ g a = none) : ∀ n, sumR f lo n = 0 ↔ fstR g lo n = none
  | 0 => by simp [sumR, fstR]
  | n + 1 => by
    have h1 := sf_0 (lo := lo) h n
    have h2 := h (lo + n)
    rw [sumR, fstR]
    cases e : fstR g lo n with
    | none =>
      have h3 := h1.mpr e
      simp only [Option.none_or]
      rw [← h2]; omega
    | some v =>
      have h3 : ¬ sumR f lo n = 0 := fun z => by have := h1.mp z; rw [e] at this; cases this
      simp only [Option.some_or]
      constructor
      · intro z; omega
      · intro z; cases z
theorem cl_0 {σ : Nat → Nat} {i j : Nat} : cl_n σ i j = 0 ↔ cl_f σ i j = none := by
  have h1 := sf_0 (f := fun b => if sp_clash σ i b = true then 1 else 0) (g := fun b => if sp_clash σ i b = true then some (8 * i + b) else none) (lo := i + 1) (fun a => by split <;> simp) (j - i - 1)
  have h2 := sf_0 (f := fun a => sp_ccnt σ a (σ 3 - a - 1)) (g := fun a => sp_cfst σ a (σ 3 - a - 1)) (lo := 0) (fun a => sf_0 (fun b => by split <;> simp) _) i
  unfold cl_n cl_f
  constructor
  · intro z
    rw [h2.mp (by omega), h1.mp (by omega)]; rfl
  · intro z
    cases e : fstR (fun a => sp_cfst σ a (σ 3 - a - 1)) 0 i with
    | none =>
      rw [e, Option.none_or] at z
      have := h1.mpr z
      have := h2.mpr e
      omega
    | some v => rw [e, Option.some_or] at z; cases z
theorem cl_ns {σ : Nat → Nat} {i j : Nat} (h : i < j) : cl_n σ i (j + 1) = cl_n σ i j + (if sp_clash σ i j = true then 1 else 0) := by
  unfold cl_n
  rw [show j + 1 - i - 1 = (j - i - 1) + 1 by omega, sumR, show i + 1 + (j - i - 1) = j by omega]
  omega
theorem cl_fs {σ : Nat → Nat} {i j : Nat} (h : i < j) : cl_f σ i (j + 1) = (cl_f σ i j).or (if sp_clash σ i j = true then some (8 * i + j) else none) := by
  unfold cl_f
  rw [show j + 1 - i - 1 = (j - i - 1) + 1 by omega, fstR, show i + 1 + (j - i - 1) = j by omega, Option.or_assoc]
theorem cl_n1 {σ : Nat → Nat} {i j : Nat} (h : i < j) (hc : sp_clash σ i j = true) : cl_n σ i j + 1 = cl_n σ i (j + 1) := by rw [cl_ns h, if_pos hc]
theorem cl_n3 {σ : Nat → Nat} {i j : Nat} (h : i < j) (hc : sp_clash σ i j = false) : cl_n σ i j = cl_n σ i (j + 1) := by rw [cl_ns h, hc]; simp
theorem cl_f1 {σ : Nat → Nat} {i j : Nat} (h : i < j) (hc : sp_clash σ i j = true) (h0 : cl_n σ i j = 0) : cl_f σ i (j + 1) = some (8 * i + j) := by rw [cl_fs h, cl_0.mp h0, if_pos hc]; rfl
theorem cl_f2 {σ : Nat → Nat} {i j : Nat} (h : i < j) (h0 : ¬ cl_n σ i j = 0) : cl_f σ i (j + 1) = cl_f σ i j := by
  rw [cl_fs h]
  cases e : cl_f σ i j with
  | none => exact absurd (cl_0.mpr e) h0
  | some v => rfl
theorem cl_f3 {σ : Nat → Nat} {i j : Nat} (h : i < j) (hc : sp_clash σ i j = false) : cl_f σ i (j + 1) = cl_f σ i j := by
  rw [cl_fs h, hc]
  cases cl_f σ i j <;> rfl
theorem cl_ne {σ : Nat → Nat} {i : Nat} : cl_n σ i (σ 3) = cl_n σ (i + 1) (i + 1 + 1) := by
  unfold cl_n
  rw [show i + 1 + 1 - (i + 1) - 1 = 0 by omega]
  show _ = (sumR _ 0 i + sp_ccnt σ (0 + i) (σ 3 - (0 + i) - 1)) + 0
  rw [Nat.zero_add]; rfl
theorem cl_fe {σ : Nat → Nat} {i : Nat} : cl_f σ i (σ 3) = cl_f σ (i + 1) (i + 1 + 1) := by
  unfold cl_f
  rw [show i + 1 + 1 - (i + 1) - 1 = 0 by omega]
  show _ = ((fstR _ 0 i).or (sp_cfst σ (0 + i) (σ 3 - (0 + i) - 1))).or none
  rw [Nat.zero_add, Option.or_none]; rfl
theorem cl_nf {σ : Nat → Nat} : cl_n σ (σ 3) (σ 3 + 1) = sp_cnt σ := by
  unfold cl_n sp_cnt
  rw [show σ 3 + 1 - σ 3 - 1 = 0 by omega]; rfl
theorem cl_ff {σ : Nat → Nat} : cl_f σ (σ 3) (σ 3 + 1) = sp_fst σ := by
  unfold cl_f sp_fst
  rw [show σ 3 + 1 - σ 3 - 1 = 0 by omega]
  simp only [fstR, Option.or_none]
theorem cl_nle {σ : Nat → Nat} {i j : Nat} (h : σ 3 ≤ 8) (hi : i ≤ 8) (hj : j ≤ 9) : cl_n σ i j ≤ 100 := by
  have h1 := sumR_le (fun a => sp_ccnt σ a (σ 3 - a - 1)) 0 8 (fun a => by
    have := sumR_le (fun b => if sp_clash σ a b = true then 1 else 0) (a + 1) 1 (fun b => by split <;> omega) (σ 3 - a - 1)
    show sumR _ _ _ ≤ 8
    omega) i
  have h2 := sumR_le (fun b => if sp_clash σ i b = true then 1 else 0) (i + 1) 1 (fun b => by split <;> omega) (j - i - 1)
  unfold cl_n
  omega
-- bags: all is open, and no two clash
theorem or_bit {f : Nat → Bool} : ∀ {n k : Nat}, (orR f n).testBit k = (decide (k < n) && f k)
  | 0, k => by simp [orR]
  | n + 1, k => by
    rw [orR, Nat.testBit_or, or_bit]
    by_cases e : k = n
    · subst e
      simp only [Nat.lt_irrefl, decide_false, Bool.false_and, Bool.false_or, Nat.lt_succ_self, decide_true, Bool.true_and]
      cases f k <;> simp
    · by_cases h : f n = true
      · rw [if_pos h, Nat.testBit_two_pow]
        have : decide (n = k) = false := decide_eq_false (fun q => e q.symm)
        rw [this, Bool.or_false]
        have : decide (k < n + 1) = decide (k < n) := by simp; omega
        rw [this]
      · rw [if_neg h, Nat.zero_testBit, Bool.or_false]
        have : decide (k < n + 1) = decide (k < n) := by simp; omega
        rw [this]
theorem or_lt {f : Nat → Bool} {n : Nat} (h : n ≤ 8) : orR f n < 256 := by
  refine Nat.lt_of_not_le fun q => ?_
  obtain ⟨i, h1, h2⟩ := Nat.exists_ge_and_testBit_of_ge_two_pow (n := 8) q
  rw [or_bit] at h2
  have := (Bool.and_eq_true _ _).mp h2
  have := of_decide_eq_true this.1
  omega
/-- the pairs below (i, j) don't clash -/
def bg_c (σ : Nat → Nat) (u i j : Nat) : Bool := allR (fun a => sp_bagI σ u a (σ 3 - a - 1)) 0 i && sp_bagI σ u i (j - i - 1)
theorem bg_0 {σ : Nat → Nat} {u : Nat} : bg_c σ u 0 (0 + 1) = true := rfl
theorem bg_s {σ : Nat → Nat} {u i j : Nat} (h : i < j) (h1 : bg_c σ u i j = true) (h2 : ¬ (u.testBit i = true ∧ u.testBit j = true ∧ sp_clash σ i j = true)) : bg_c σ u i (j + 1) = true := by
  have h3 : (u.testBit i && u.testBit j && sp_clash σ i j) = false := Bool.eq_false_iff.mpr (fun q => h2 (by rw [Bool.and_eq_true, Bool.and_eq_true] at q; exact ⟨q.1.1, q.1.2, q.2⟩))
  unfold bg_c sp_bagI at h1 ⊢
  rw [show j + 1 - i - 1 = (j - i - 1) + 1 by omega, allR, show i + 1 + (j - i - 1) = j by omega, ← Bool.and_assoc, h1]
  show (true && !(u.testBit i && u.testBit j && sp_clash σ i j)) = true
  rw [h3]; rfl
theorem bg_e {σ : Nat → Nat} {u i : Nat} (h1 : bg_c σ u i (σ 3) = true) : bg_c σ u (i + 1) (i + 1 + 1) = true := by
  unfold bg_c at h1 ⊢
  rw [show i + 1 + 1 - (i + 1) - 1 = 0 by omega, allR, Nat.zero_add, h1]; rfl
theorem bg_open {σ : Nat → Nat} {u : Nat} (h8 : σ 3 ≤ 8) (h0 : u &&& (orR (fun p => sp_open σ p) (σ 3) ^^^ 4294967295) = 0) : ∀ a, a < σ 3 → (!(u.testBit a) || sp_open σ a) = true := by
  intro a ha
  have h1 : (u &&& (orR (fun p => sp_open σ p) (σ 3) ^^^ 4294967295)).testBit a = false := by rw [h0, Nat.zero_testBit]
  rw [Nat.testBit_and, Nat.testBit_xor, or_bit] at h1
  have h2 : (4294967295 : Nat).testBit a = decide (a < 32) := by
    rw [show (4294967295 : Nat) = 2 ^ 32 - 1 by decide, Nat.testBit_two_pow_sub_one]
  rw [h2, decide_eq_true ha] at h1
  rw [decide_eq_true (show a < 32 by omega)] at h1
  cases e1 : u.testBit a <;> cases e2 : sp_open σ a <;> simp_all
theorem bg_t {σ : Nat → Nat} {u : Nat} (h0 : ∀ a, a < σ 3 → (!(u.testBit a) || sp_open σ a) = true) (h1 : bg_c σ u (σ 3) (σ 3 + 1) = true) : sp_bag σ u = true := by
  unfold bg_c at h1
  have h2 := ((Bool.and_eq_true _ _).mp h1).1
  rw [allR_iff] at h2
  unfold sp_bag sp_bagA
  rw [allR_iff]
  intro i hi
  rw [Nat.zero_add]
  have := h2 i hi
  rw [Nat.zero_add] at this
  rw [h0 i hi, this]; rfl
theorem bg_f0 {σ : Nat → Nat} {u : Nat} (h8 : σ 3 ≤ 8) (hu : u < 2 ^ σ 3) (h0 : ¬ (u &&& (orR (fun p => sp_open σ p) (σ 3) ^^^ 4294967295)) = 0) : sp_bag σ u = false := by
  refine Bool.eq_false_iff.mpr fun hb => h0 ?_
  unfold sp_bag sp_bagA at hb
  rw [allR_iff] at hb
  apply Nat.eq_of_testBit_eq
  intro a
  rw [Nat.zero_testBit, Nat.testBit_and, Nat.testBit_xor, or_bit]
  by_cases ha : a < σ 3
  · have h1 := hb a ha
    rw [Nat.zero_add] at h1
    have h2 := ((Bool.and_eq_true _ _).mp h1).1
    have h3 : (4294967295 : Nat).testBit a = true := by
      rw [show (4294967295 : Nat) = 2 ^ 32 - 1 by decide, Nat.testBit_two_pow_sub_one]; exact decide_eq_true (by omega)
    rw [h3, decide_eq_true ha]
    cases e1 : u.testBit a <;> cases e2 : sp_open σ a <;> simp_all
  · rw [Nat.testBit_lt_two_pow (Nat.lt_of_lt_of_le hu (Nat.pow_le_pow_right (by decide) (by omega)))]; rfl
theorem bg_f {σ : Nat → Nat} {u i j : Nat} (h : i < j) (hj : j < σ 3) (h1 : u.testBit i = true) (h2 : u.testBit j = true) (h3 : sp_clash σ i j = true) : sp_bag σ u = false := by
  refine Bool.eq_false_iff.mpr fun hb => ?_
  unfold sp_bag sp_bagA at hb
  rw [allR_iff] at hb
  have h4 := hb i (by omega)
  rw [Nat.zero_add] at h4
  have h5 := ((Bool.and_eq_true _ _).mp h4).2
  unfold sp_bagI at h5
  rw [allR_iff] at h5
  have h6 := h5 (j - i - 1) (by omega)
  rw [show i + 1 + (j - i - 1) = j by omega, h1, h2, h3] at h6
  cases h6
theorem nI_xm1 (n : Nat) : nI n ^^^ (-1) = nI (n ^^^ 4294967295) := by
  rw [show (-1 : Int32) = nI 4294967295 by decide, nI_xor]
