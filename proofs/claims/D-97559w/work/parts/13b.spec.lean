/-! ps_: what the scales are (a function of 57 numbers), and what is asked of them. 0 wax, 1 stick (0: none there), 2 givers, 3 promises, 4 pan, 5.. keeps, 9.. kinds, 17.. whose, 25.. deeds, 33.. days, 41.. likely, 49.. how each is -/
set_option maxRecDepth 100000
def sp_ok (σ : Nat → Nat) : Prop := σ 0 ≤ 9 ∧ σ 1 ≤ 5 ∧ σ 2 ≤ 4 ∧ σ 3 ≤ 8 ∧ σ 4 < 256 ∧ (∀ g, g < 4 → σ (5 + g) ≤ 10) ∧ (∀ p, p < σ 3 → (1 ≤ σ (9 + p) ∧ σ (9 + p) ≤ 5) ∧ σ (17 + p) < σ 2 ∧ σ (25 + p) ≤ 5 ∧ σ (33 + p) ≤ 9 ∧ σ (41 + p) ≤ 20) ∧ (∀ p, p < 8 → σ (49 + p) ≤ 2) ∧ (σ 1 = 0 → σ 2 = 0 ∧ σ 3 = 0)
def sp_open (σ : Nat → Nat) (p : Nat) : Bool := decide (σ (49 + p) = 0)
def sp_plain (σ : Nat → Nat) (p : Nat) : Nat := σ (41 + p) * σ (5 + σ (17 + p)) / 10
def sp_as (σ : Nat → Nat) (p kind before : Nat) : Nat :=
  if kind = 2 then (if p = 0 then sp_plain σ p else sp_plain σ p * before / 20)
  else if kind = 3 then (sp_plain σ p + 1) / 2
  else if kind = 4 then (if 10 < sp_plain σ p then 20 else 2 * sp_plain σ p)
  else if kind = 5 then (if p = 0 then 20 else 20 - before)
  else sp_plain σ p
/-- what the one before place k weighs: the weight of promise p is sp_w σ (p + 1) -/
def sp_w (σ : Nat → Nat) : Nat → Nat
  | 0 => 0
  | k + 1 => if sp_open σ k = true then sp_as σ k (σ (9 + k)) (sp_w σ k) else if σ (49 + k) = 1 then 20 else 0
def sp_sum (σ : Nat → Nat) (set : Nat) : Nat → Nat
  | 0 => 0
  | k + 1 => sp_sum σ set k + (if set.testBit k = true then sp_w σ (k + 1) else 0)
def sp_by (sum wax stick : Nat) : Nat := (sum + wax) / stick * stick
def sp_read (σ : Nat → Nat) (set : Nat) : Nat := sp_by (sp_sum σ set (σ 3)) (σ 0) (σ 1)
def sp_clash (σ : Nat → Nat) (a b : Nat) : Bool := sp_open σ a && sp_open σ b && decide (σ (17 + a) = σ (17 + b)) && decide (σ (33 + a) = σ (33 + b)) && decide (σ (25 + a) ≠ σ (25 + b))
theorem sp_ok.m {σ : Nat → Nat} (h : sp_ok σ) : σ 0 ≤ 9 ∧ σ 1 ≤ 5 ∧ σ 2 ≤ 4 ∧ σ 3 ≤ 8 ∧ σ 4 < 256 := ⟨h.1, h.2.1, h.2.2.1, h.2.2.2.1, h.2.2.2.2.1⟩
theorem sp_ok.k {σ : Nat → Nat} (h : sp_ok σ) {g : Nat} (hg : g < 4) : σ (5 + g) ≤ 10 := h.2.2.2.2.2.1 g hg
theorem sp_ok.p {σ : Nat → Nat} (h : sp_ok σ) {p : Nat} (hp : p < σ 3) : (1 ≤ σ (9 + p) ∧ σ (9 + p) ≤ 5) ∧ σ (17 + p) < σ 2 ∧ σ (25 + p) ≤ 5 ∧ σ (33 + p) ≤ 9 ∧ σ (41 + p) ≤ 20 := h.2.2.2.2.2.2.1 p hp
theorem sp_ok.h {σ : Nat → Nat} (h : sp_ok σ) {p : Nat} (hp : p < 8) : σ (49 + p) ≤ 2 := h.2.2.2.2.2.2.2.1 p hp
theorem sp_ok.n {σ : Nat → Nat} (h : sp_ok σ) : σ 1 = 0 → σ 2 = 0 ∧ σ 3 = 0 := h.2.2.2.2.2.2.2.2
theorem sp_mul {a b x y : Nat} (h1 : a ≤ x) (h2 : b ≤ y) : a * b ≤ x * y := Nat.mul_le_mul h1 h2
theorem sp_plain_le {σ : Nat → Nat} (h : sp_ok σ) {p : Nat} (hp : p < σ 3) : sp_plain σ p ≤ 20 := by
  obtain ⟨h1, h2, h3, h4, h5⟩ := h.p hp
  have hm := h.m
  have h6 := h.k (g := σ (17 + p)) (by omega)
  have := sp_mul h5 h6
  unfold sp_plain
  omega
theorem sp_as_le {σ : Nat → Nat} (h : sp_ok σ) {p kind before : Nat} (hp : p < σ 3) (hb : before ≤ 20) : sp_as σ p kind before ≤ 20 := by
  have h1 := sp_plain_le h hp
  have h2 := sp_mul h1 hb
  unfold sp_as
  split
  · split <;> omega
  · split
    · omega
    · split
      · split <;> omega
      · split
        · split <;> omega
        · omega
theorem sp_w_le {σ : Nat → Nat} (h : sp_ok σ) : ∀ {k : Nat}, k ≤ σ 3 → sp_w σ k ≤ 20
  | 0, _ => by simp [sp_w]
  | k + 1, hk => by
    have ih := sp_w_le h (k := k) (by omega)
    simp only [sp_w]
    split
    · exact sp_as_le h (by omega) ih
    · split <;> omega
theorem sp_sum_le {σ : Nat → Nat} (h : sp_ok σ) {set : Nat} : ∀ {k : Nat}, k ≤ σ 3 → sp_sum σ set k ≤ 20 * k
  | 0, _ => by simp [sp_sum]
  | k + 1, hk => by
    have ih := sp_sum_le h (set := set) (k := k) (by omega)
    have h1 := sp_w_le h hk
    simp only [sp_sum]
    split <;> omega
theorem sp_by_le {a b c : Nat} : sp_by a b c ≤ a + b := Nat.div_mul_le_self _ _
theorem sp_read_le {σ : Nat → Nat} (h : sp_ok σ) {set : Nat} : sp_read σ set ≤ 169 := by
  have h1 := sp_sum_le h (set := set) (k := σ 3) (Nat.le_refl _)
  have h2 := h.m
  have h3 := sp_by_le (a := sp_sum σ set (σ 3)) (b := σ 0) (c := σ 1)
  unfold sp_read
  omega
