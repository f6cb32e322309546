/-! ps_: small laws of ints, ranges and bits -/
set_option maxRecDepth 100000
theorem ps_in_1 {x : Int32} {b c : Int64} {lo hi : Nat} (hb : b.toInt = (lo : Int)) (hc : ∀ y : Int, 0 ≤ y → (y ≤ c.toInt ↔ y < (hi : Int))) (h1 : ¬ lg_cmp x.toInt64 b < 0) (h2 : ¬ 0 < lg_cmp x.toInt64 c) : rng x lo hi = true := by
  rw [lg_cmp_lt, Int64.lt_iff_toInt_lt, Int32.toInt_toInt64, hb] at h1
  rw [lg_cmp_gt, Int64.lt_iff_toInt_lt, Int32.toInt_toInt64] at h2
  have := (hc x.toInt (by omega)).mp (by omega)
  simp only [rng, Bool.and_eq_true, decide_eq_true_eq]
  omega
theorem ps_in_a {x : Int32} {b : Int64} {lo hi : Nat} (hb : b.toInt = (lo : Int)) (h1 : lg_cmp x.toInt64 b < 0) : rng x lo hi = false := by
  rw [lg_cmp_lt, Int64.lt_iff_toInt_lt, Int32.toInt_toInt64, hb] at h1
  simp only [rng, Bool.and_eq_false_iff, decide_eq_false_iff_not]
  omega
theorem ps_in_b {x : Int32} {b c : Int64} {lo hi : Nat} (hb : b.toInt = (lo : Int)) (hc : ∀ y : Int, 0 ≤ y → (y ≤ c.toInt ↔ y < (hi : Int))) (h1 : ¬ lg_cmp x.toInt64 b < 0) (h2 : 0 < lg_cmp x.toInt64 c) : rng x lo hi = false := by
  rw [lg_cmp_lt, Int64.lt_iff_toInt_lt, Int32.toInt_toInt64, hb] at h1
  rw [lg_cmp_gt, Int64.lt_iff_toInt_lt, Int32.toInt_toInt64] at h2
  have := hc x.toInt (by omega)
  simp only [rng, Bool.and_eq_false_iff, decide_eq_false_iff_not]
  omega
theorem ps_hcL {c : Int64} {k : Nat} (h : c.toInt = (k : Int)) : ∀ y : Int, 0 ≤ y → (y ≤ c.toInt ↔ y < ((k + 1 : Nat) : Int)) := fun y _ => by rw [h]; omega
theorem ps_hcN (k : Nat) (h : k < 2147483648) : ∀ y : Int, 0 ≤ y → (y ≤ (lN k).toInt ↔ y < ((k + 1 : Nat) : Int)) := ps_hcL (lN_toInt (by omega))
theorem ps_hcI {k : Nat} (h : k < 2147483648) : ∀ y : Int, 0 ≤ y → (y ≤ ((nI k).toInt64).toInt ↔ y < ((k + 1 : Nat) : Int)) := ps_hcL (by rw [Int32.toInt_toInt64, nI_toInt (by omega)])
theorem ps_hcQ {k : Nat} (h1 : 1 ≤ k) (h : k < 2147483648) : ∀ y : Int, 0 ≤ y → (y ≤ ((nI (k - 1)).toInt64).toInt ↔ y < (k : Int)) := fun y _ => by
  rw [Int32.toInt_toInt64, nI_toInt (by omega)]; omega
theorem ps_hcP {k : Nat} (h : k < 2147483648) : ∀ y : Int, 0 ≤ y → (y ≤ ((nI k - nI 1).toInt64).toInt ↔ y < (k : Int)) := fun y hy => by
  rw [Int32.toInt_toInt64]
  rcases Nat.eq_zero_or_pos k with rfl | hk
  · rw [show (nI 0 - nI 1).toInt = -1 by decide]; omega
  · rw [pk_sub (by omega), nI_toInt (by omega)]; omega
theorem ps_sl : ∀ n, n < 32 → ((nI n &&& 31).toBitVec.smod 32).toNat = n := by decide +kernel
theorem ps_shr {n k : Nat} (hn : n < 2147483648) (hk : k < 32) : nI n >>> (nI k &&& 31) = nI (n / 2 ^ k) := pk_shrN (by omega) _ _ (ps_sl k hk)
theorem ps_shl1 {k : Nat} (hk : k < 31) : nI 1 <<< (nI k &&& 31) = nI (2 ^ k) := by
  have h1 : 2 ^ k ≤ 2 ^ 30 := Nat.pow_le_pow_right (by decide) (by omega)
  rw [pk_shlN _ k (ps_sl k (by omega)) (by omega), Nat.one_mul]
theorem ps_and1 {n : Nat} (h : n < 4294967296) : nI n &&& nI 1 = nI (n % 2) := pk_andN (by omega) (m := nI 1) 1 (by decide)
theorem ps_divlt {n k : Nat} (h : n < 2147483648) : n / 2 ^ k < 4294967296 := Nat.lt_of_le_of_lt (Nat.div_le_self _ _) (by omega)
theorem ps_m2 (a : Nat) : a % 2 < 2147483648 ∧ 1 < 2147483648 := by omega
theorem ps_tb1 {u k : Nat} (h : u / 2 ^ k % 2 = 1) : u.testBit k = true := by rw [Nat.testBit_eq_decide_div_mod_eq]; simpa using h
theorem ps_tb0 {u k : Nat} (h : u / 2 ^ k % 2 ≠ 1) : u.testBit k = false := by rw [Nat.testBit_eq_decide_div_mod_eq]; simpa using h
theorem ps_by_mod {u x y : Nat} : u + x - (u + x) % y = sp_by u x y := by
  have := Nat.div_add_mod (u + x) y
  unfold sp_by
  rw [Nat.mul_comm] at this
  omega
theorem ps_p2 {k : Nat} (h : k ≤ 8) : 1 ≤ 2 ^ k ∧ 2 ^ k ≤ 256 := ⟨Nat.one_le_two_pow, Nat.pow_le_pow_right (by decide) h⟩
theorem ps_rng_out {x : Int32} {n : Nat} (h : rng x 0 (n + 1) = false) : x.toInt < 0 ∨ (n : Int) < x.toInt := by
  simp only [rng, Bool.and_eq_false_iff, decide_eq_false_iff_not] at h
  omega
