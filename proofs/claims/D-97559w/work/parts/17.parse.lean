/-! ps_: the text of scales: tokens, what stands in it, and where it fails -/
set_option maxRecDepth 100000
def tk_dig (c : Nat) : Bool := decide (48 ≤ c) && decide (c < 58)
def tk_len (tb : Nat → Nat) : Nat → Nat → Nat
  | 0, _ => 0
  | k + 1, a => if tk_dig (tb a) = true then tk_len tb k (a + 1) + 1 else 0
/-- where the digits from a on end -/
def tk_end (tb : Nat → Nat) (n a : Nat) : Nat := a + tk_len tb (n - a) a
theorem tk_end_s {tb : Nat → Nat} {n a : Nat} (h : a < n) (hd : tk_dig (tb a) = true) : tk_end tb n a = tk_end tb n (a + 1) := by
  unfold tk_end
  rw [show n - a = (n - (a + 1)) + 1 by omega, tk_len, if_pos hd]
  omega
theorem tk_end_0 {tb : Nat → Nat} {n a : Nat} (h : a < n → tk_dig (tb a) = false) : tk_end tb n a = a := by
  unfold tk_end
  rcases Nat.lt_or_ge a n with q | q
  · rw [show n - a = (n - (a + 1)) + 1 by omega, tk_len, if_neg (by rw [h q]; decide)]; rfl
  · rw [show n - a = 0 by omega]; rfl
theorem tk_len_le {tb : Nat → Nat} : ∀ {k a : Nat}, tk_len tb k a ≤ k
  | 0, _ => Nat.le_refl _
  | k + 1, a => by
    have := @tk_len_le tb k (a + 1)
    rw [tk_len]; split <;> omega
theorem tk_end_le {tb : Nat → Nat} {n a : Nat} (h : a ≤ n) : a ≤ tk_end tb n a ∧ tk_end tb n a ≤ n := by
  have := @tk_len_le tb (n - a) a
  unfold tk_end; omega
theorem tk_end_d {tb : Nat → Nat} {n a : Nat} (h : a < n) (hd : tk_dig (tb a) = true) : a < tk_end tb n a := by
  rw [tk_end_s h hd]
  have := (tk_end_le (tb := tb) (n := n) (a := a + 1) h).1
  omega
theorem tk_end_n {tb : Nat → Nat} {n a : Nat} (h : a < n) (hd : tk_end tb n a = a) : tk_dig (tb a) = false := by
  rcases Bool.eq_false_or_eq_true (tk_dig (tb a)) with q | q
  · have := tk_end_d h q; omega
  · exact q
def tk_lt (c : Nat) : Bool := (decide (97 ≤ c) && decide (c < 123)) || decide (c = 44) || decide (c = 59)
/-- the token that begins at b: where the next begins; its kind (0 none, 1 a letter or a sign, 2 a number, 3 the end); what it says -/
def tk_p (tb : Nat → Nat) (n b : Nat) : Nat := if b < n then (if tk_end tb n b = b then b + 1 else tk_end tb n b) else b
def tk_k (tb : Nat → Nat) (n b : Nat) : Nat := if b < n then (if tk_end tb n b = b then (if tk_lt (tb b) = true then 1 else 0) else if b + 2 < tk_end tb n b then 0 else 2) else 3
/-- the number of the first i digits from b on, i ≤ 2 -/
def tk_num (tb : Nat → Nat) (b : Nat) : Nat → Nat
  | 0 => 0
  | 1 => tb b - 48
  | _ => 10 * (tb b - 48) + (tb (b + 1) - 48)
def tk_v (tb : Nat → Nat) (n b : Nat) : Nat := if b < n then (if tk_end tb n b = b then tb b else tk_num tb b (tk_end tb n b - b)) else 0
theorem tk_p_le {tb : Nat → Nat} {n b : Nat} (h : b ≤ n) : b ≤ tk_p tb n b ∧ tk_p tb n b ≤ n := by
  have := tk_end_le (tb := tb) h
  unfold tk_p; split
  · split <;> omega
  · omega
theorem tk_p_lt {tb : Nat → Nat} {n b : Nat} (h : b ≤ n) (hk : tk_k tb n b ≠ 3) : b < n ∧ b < tk_p tb n b := by
  have h1 := tk_end_le (tb := tb) h
  unfold tk_k at hk
  unfold tk_p
  split at hk
  · rename_i q; rw [if_pos q]; refine ⟨q, ?_⟩; split <;> omega
  · omega
theorem tk_k_le {tb : Nat → Nat} {n b : Nat} : tk_k tb n b ≤ 3 := by
  unfold tk_k; split
  · split
    · split <;> omega
    · split <;> omega
  · omega
/-- where the scanner stands, what it read: a fault (0: none), where its token begins, the numbers -/
abbrev tk_R : Type := Nat × Nat × (Nat → Nat)
def tk_sign (tb : Nat → Nat) (n c b : Nat) (σ : Nat → Nat) : tk_R := if tk_k tb n b = 1 ∧ tk_v tb n b = c then (0, tk_p tb n b, σ) else (1, b, σ)
def tk_fig (tb : Nat → Nat) (n lo hi at_ c b : Nat) (σ : Nat → Nat) : tk_R :=
  if tk_k tb n b = 2 then (if lo ≤ tk_v tb n b ∧ tk_v tb n b < hi then tk_sign tb n c (tk_p tb n b) (va_up σ at_ (tk_v tb n b)) else (2, b, σ)) else (1, b, σ)
def tk_then (r : tk_R) (f : Nat → (Nat → Nat) → tk_R) : tk_R := if r.1 = 0 then f r.2.1 r.2.2 else r
def tk_giver (tb : Nat → Nat) (n b : Nat) (σ : Nat → Nat) : tk_R := if σ 2 = 4 ∨ 0 < σ 3 then ((if 0 < σ 3 then 1 else 3), b, σ) else tk_fig tb n 0 11 (5 + σ 2) 59 (tk_p tb n b) (va_up σ 2 (σ 2 + 1))
def tk_promise (tb : Nat → Nat) (n kind b : Nat) (σ : Nat → Nat) : tk_R := if σ 3 = 8 then (3, b, σ) else
  tk_then (tk_fig tb n 0 (σ 2) (17 + σ 3) 44 (tk_p tb n b) (va_up (va_up σ (9 + σ 3) kind) 3 (σ 3 + 1))) fun b1 σ1 =>
  tk_then (tk_fig tb n 0 6 (25 + σ 3) 44 b1 σ1) fun b2 σ2 =>
  tk_then (tk_fig tb n 0 10 (33 + σ 3) 44 b2 σ2) fun b3 σ3 => tk_fig tb n 0 21 (41 + σ 3) 59 b3 σ3
def tk_is (tb : Nat → Nat) (n b c : Nat) : Bool := decide (tk_k tb n b = 1) && decide (tk_v tb n b = c)
/-- the kind of promise that a letter names: 0 none -/
def tk_kind (tb : Nat → Nat) (n b : Nat) : Nat := if tk_is tb n b 112 = true then 1 else if tk_is tb n b 105 = true then 2 else if tk_is tb n b 116 = true then 3 else if tk_is tb n b 111 = true then 4 else if tk_is tb n b 109 = true then 5 else 0
def tk_step (tb : Nat → Nat) (n b : Nat) (σ : Nat → Nat) : tk_R := if 0 < tk_kind tb n b then tk_promise tb n (tk_kind tb n b) b σ else if tk_is tb n b 103 = true then tk_giver tb n b σ else (1, b, σ)
def tk_all (tb : Nat → Nat) (n : Nat) : Nat → tk_R → tk_R
  | 0, r => r
  | k + 1, r => if r.1 = 0 ∧ tk_k tb n r.2.1 ≠ 3 then tk_all tb n k (tk_step tb n r.2.1 r.2.2) else r
def tk_text (tb : Nat → Nat) (n : Nat) : tk_R :=
  tk_then (tk_sign tb n 115 0 fun _ => 0) fun b1 σ1 =>
  tk_then (tk_fig tb n 0 10 0 44 b1 σ1) fun b2 σ2 =>
  tk_then (tk_fig tb n 1 6 1 59 b2 σ2) fun b3 σ3 => tk_all tb n (n + 1) (0, b3, σ3)
theorem tk_all_end {tb : Nat → Nat} {n k : Nat} {r : tk_R} (h : ¬ (r.1 = 0 ∧ tk_k tb n r.2.1 ≠ 3)) : tk_all tb n k r = r := by
  cases k with
  | zero => rfl
  | succ k => rw [tk_all, if_neg h]
theorem tk_all_go {tb : Nat → Nat} {n k b : Nat} {σ : Nat → Nat} (hk : 0 < k) (h : tk_k tb n b ≠ 3) : tk_all tb n k (0, b, σ) = tk_all tb n (k - 1) (tk_step tb n b σ) := by
  obtain ⟨j, rfl⟩ : ∃ j, k = j + 1 := ⟨k - 1, by omega⟩
  rw [tk_all, if_pos ⟨rfl, h⟩]; rfl
-- a step that does not fail goes on
theorem tk_sign_b {tb : Nat → Nat} {n c b : Nat} {σ : Nat → Nat} (hb : b ≤ n) : b ≤ (tk_sign tb n c b σ).2.1 ∧ (tk_sign tb n c b σ).2.1 ≤ n := by
  have := tk_p_le (tb := tb) hb
  unfold tk_sign; split
  · exact this
  · exact ⟨Nat.le_refl _, hb⟩
theorem tk_fig_b {tb : Nat → Nat} {n lo hi at_ c b : Nat} {σ : Nat → Nat} (hb : b ≤ n) : b ≤ (tk_fig tb n lo hi at_ c b σ).2.1 ∧ (tk_fig tb n lo hi at_ c b σ).2.1 ≤ n := by
  have h1 := tk_p_le (tb := tb) hb
  have h2 := tk_sign_b (tb := tb) (c := c) (σ := va_up σ at_ (tk_v tb n b)) h1.2
  unfold tk_fig; split
  · split
    · omega
    · exact ⟨Nat.le_refl _, hb⟩
  · exact ⟨Nat.le_refl _, hb⟩
theorem tk_then_b {tb : Nat → Nat} {n b : Nat} {r : tk_R} {f : Nat → (Nat → Nat) → tk_R} (h1 : b ≤ r.2.1 ∧ r.2.1 ≤ n) (h2 : ∀ b1 σ1, b1 ≤ n → b1 ≤ (f b1 σ1).2.1 ∧ (f b1 σ1).2.1 ≤ n) : b ≤ (tk_then r f).2.1 ∧ (tk_then r f).2.1 ≤ n := by
  unfold tk_then; split
  · have := h2 r.2.1 r.2.2 h1.2; omega
  · exact h1
theorem tk_promise_b {tb : Nat → Nat} {n kind b : Nat} {σ : Nat → Nat} (hb : b ≤ n) : b ≤ (tk_promise tb n kind b σ).2.1 ∧ (tk_promise tb n kind b σ).2.1 ≤ n ∧ ((tk_promise tb n kind b σ).1 = 0 → tk_p tb n b ≤ (tk_promise tb n kind b σ).2.1) := by
  have h1 := tk_p_le (tb := tb) hb
  unfold tk_promise; split
  · exact ⟨Nat.le_refl _, hb, fun h => absurd h (show ¬ (3 : Nat) = 0 by decide)⟩
  · have h2 := tk_then_b (tb := tb) (tk_fig_b (tb := tb) (lo := 0) (hi := σ 2) (at_ := 17 + σ 3) (c := 44) (σ := va_up (va_up σ (9 + σ 3) kind) 3 (σ 3 + 1)) h1.2) (f := fun b1 σ1 => tk_then (tk_fig tb n 0 6 (25 + σ 3) 44 b1 σ1) fun b2 σ2 =>
  tk_then (tk_fig tb n 0 10 (33 + σ 3) 44 b2 σ2) fun b3 σ3 => tk_fig tb n 0 21 (41 + σ 3) 59 b3 σ3) (fun b1 σ1 hb1 => tk_then_b (tb := tb) (tk_fig_b hb1) fun b2 σ2 hb2 => tk_then_b (tb := tb) (tk_fig_b hb2) fun b3 σ3 hb3 => tk_fig_b hb3)
    exact ⟨by omega, h2.2, fun _ => h2.1⟩
theorem tk_giver_b {tb : Nat → Nat} {n b : Nat} {σ : Nat → Nat} (hb : b ≤ n) : b ≤ (tk_giver tb n b σ).2.1 ∧ (tk_giver tb n b σ).2.1 ≤ n ∧ ((tk_giver tb n b σ).1 = 0 → tk_p tb n b ≤ (tk_giver tb n b σ).2.1) := by
  have h1 := tk_p_le (tb := tb) hb
  unfold tk_giver; split
  · refine ⟨Nat.le_refl _, hb, fun h => ?_⟩
    dsimp only at h
    split at h <;> exact absurd h (by decide)
  · have h2 := tk_fig_b (tb := tb) (lo := 0) (hi := 11) (at_ := 5 + σ 2) (c := 59) (σ := va_up σ 2 (σ 2 + 1)) h1.2
    exact ⟨by omega, h2.2, fun _ => h2.1⟩
theorem tk_step_b {tb : Nat → Nat} {n b : Nat} {σ : Nat → Nat} (hb : b ≤ n) (hk : tk_k tb n b ≠ 3) : b ≤ (tk_step tb n b σ).2.1 ∧ (tk_step tb n b σ).2.1 ≤ n ∧ ((tk_step tb n b σ).1 = 0 → b < (tk_step tb n b σ).2.1) := by
  have h1 := tk_p_lt hb hk
  unfold tk_step; split
  · have h2 := tk_promise_b (tb := tb) (kind := tk_kind tb n b) (σ := σ) hb
    exact ⟨h2.1, h2.2.1, fun h => by have := h2.2.2 h; omega⟩
  · split
    · have h2 := tk_giver_b (tb := tb) (σ := σ) hb
      exact ⟨h2.1, h2.2.1, fun h => by have := h2.2.2 h; omega⟩
    · exact ⟨Nat.le_refl _, hb, fun h => absurd h (show ¬ (1 : Nat) = 0 by decide)⟩
/-- where nothing failed, what was read is in order -/
theorem tk_sign_ok {tb : Nat → Nat} {n c b : Nat} {σ : Nat → Nat} (h : (tk_sign tb n c b σ).1 = 0) : (tk_sign tb n c b σ).2.2 = σ := by
  unfold tk_sign at h ⊢; split
  · rfl
  · rfl
theorem tk_fig_ok {tb : Nat → Nat} {n lo hi at_ c b : Nat} {σ : Nat → Nat} (h : (tk_fig tb n lo hi at_ c b σ).1 = 0) : ∃ v, lo ≤ v ∧ v < hi ∧ (tk_fig tb n lo hi at_ c b σ).2.2 = va_up σ at_ v := by
  unfold tk_fig at h ⊢
  split at h
  · rename_i h1
    split at h
    · rename_i h2
      rw [if_pos h1, if_pos h2]
      exact ⟨_, h2.1, h2.2, tk_sign_ok h⟩
    · exact absurd h (show ¬ (2 : Nat) = 0 by decide)
  · exact absurd h (show ¬ (1 : Nat) = 0 by decide)
theorem tk_then_ok {r : tk_R} {f : Nat → (Nat → Nat) → tk_R} (h : (tk_then r f).1 = 0) : r.1 = 0 ∧ tk_then r f = f r.2.1 r.2.2 := by
  unfold tk_then at h ⊢
  split at h
  · rename_i h1; exact ⟨h1, if_pos h1⟩
  · rename_i h1; exact absurd h h1
/-- what stands while the text is read -/
def tk_ok (σ : Nat → Nat) : Prop := sp_ok σ ∧ 1 ≤ σ 1 ∧ σ 4 = 0 ∧ (∀ p, p < 8 → σ (49 + p) = 0)
theorem tk_giver_ok {tb : Nat → Nat} {n b : Nat} {σ : Nat → Nat} (hσ : tk_ok σ) (h : (tk_giver tb n b σ).1 = 0) : tk_ok (tk_giver tb n b σ).2.2 := by
  unfold tk_giver at h ⊢
  split at h
  · dsimp only at h; split at h <;> exact absurd h (by decide)
  · rename_i h1
    rw [if_neg h1]
    obtain ⟨v, -, hv, e⟩ := tk_fig_ok h
    rw [e]
    obtain ⟨⟨h2, h3, h4, h5, h6, h7, h8, h9, h10⟩, h11, h12, h13⟩ := hσ
    have h14 : σ 2 < 4 := by omega
    refine ⟨⟨?_, ?_, ?_, ?_, ?_, ?_, ?_, ?_, ?_⟩, ?_, ?_, ?_⟩
    · rw [va_up_ne _ _ (by omega), va_up_ne _ _ (by omega)]; exact h2
    · rw [va_up_ne _ _ (by omega), va_up_ne _ _ (by omega)]; exact h3
    · rw [va_up_ne _ _ (by omega), va_up_self]; omega
    · rw [va_up_ne _ _ (by omega), va_up_ne _ _ (by omega)]; exact h5
    · rw [va_up_ne _ _ (by omega), va_up_ne _ _ (by omega)]; exact h6
    · intro g hg
      by_cases q : g = σ 2
      · subst q; rw [va_up_self]; omega
      · rw [va_up_ne _ _ (by omega), va_up_ne _ _ (by omega)]; exact h7 g hg
    · intro p hp
      rw [va_up_ne _ _ (by omega), va_up_ne _ _ (by omega)] at hp
      omega
    · intro p hp
      rw [va_up_ne _ _ (by omega), va_up_ne _ _ (by omega)]; exact h9 p hp
    · intro q; rw [va_up_ne _ _ (by omega), va_up_ne _ _ (by omega)] at q; omega
    · rw [va_up_ne _ _ (by omega), va_up_ne _ _ (by omega)]; exact h11
    · rw [va_up_ne _ _ (by omega), va_up_ne _ _ (by omega)]; exact h12
    · intro p hp
      rw [va_up_ne _ _ (by omega), va_up_ne _ _ (by omega)]; exact h13 p hp
/-- a promise more -/
theorem tk_add_ok {σ : Nat → Nat} {kind g d y lk : Nat} (hσ : tk_ok σ) (hn : σ 3 < 8) (hk : 1 ≤ kind ∧ kind ≤ 5) (hg : g < σ 2) (hd : d < 6) (hy : y < 10) (hl : lk < 21) :
    tk_ok (va_up (va_up (va_up (va_up (va_up (va_up σ (9 + σ 3) kind) 3 (σ 3 + 1)) (17 + σ 3) g) (25 + σ 3) d) (33 + σ 3) y) (41 + σ 3) lk) := by
  obtain ⟨⟨h2, h3, h4, h5, h6, h7, h8, h9, h10⟩, h11, h12, h13⟩ := hσ
  have E : ∀ j, (j < 9 ∧ j ≠ 3 ∨ 49 ≤ j) → (va_up (va_up (va_up (va_up (va_up (va_up σ (9 + σ 3) kind) 3 (σ 3 + 1)) (17 + σ 3) g) (25 + σ 3) d) (33 + σ 3) y) (41 + σ 3) lk) j = σ j := by
    intro j hj
    rw [va_up_ne _ _ (by omega), va_up_ne _ _ (by omega), va_up_ne _ _ (by omega), va_up_ne _ _ (by omega), va_up_ne _ _ (by omega), va_up_ne _ _ (by omega)]
  have E3 : (va_up (va_up (va_up (va_up (va_up (va_up σ (9 + σ 3) kind) 3 (σ 3 + 1)) (17 + σ 3) g) (25 + σ 3) d) (33 + σ 3) y) (41 + σ 3) lk) 3 = σ 3 + 1 := by
    rw [va_up_ne _ _ (by omega), va_up_ne _ _ (by omega), va_up_ne _ _ (by omega), va_up_ne _ _ (by omega), va_up_self]
  refine ⟨⟨?_, ?_, ?_, ?_, ?_, ?_, ?_, ?_, ?_⟩, ?_, ?_, ?_⟩
  · rw [E _ (by omega)]; exact h2
  · rw [E _ (by omega)]; exact h3
  · rw [E _ (by omega)]; exact h4
  · rw [E3]; omega
  · rw [E _ (by omega)]; exact h6
  · intro g hg; rw [E _ (by omega)]; exact h7 g hg
  · intro p hp
    rw [E3] at hp
    rw [E 2 (by omega)]
    by_cases q : p = σ 3
    · subst q
      rw [show va_up (va_up (va_up (va_up (va_up (va_up σ (9 + σ 3) kind) 3 (σ 3 + 1)) (17 + σ 3) g) (25 + σ 3) d) (33 + σ 3) y) (41 + σ 3) lk (9 + σ 3) = kind by simp only [va_up]; repeat (first | rw [if_pos rfl] | rw [if_pos True.intro] | rw [if_neg (by omega)])]
      rw [show va_up (va_up (va_up (va_up (va_up (va_up σ (9 + σ 3) kind) 3 (σ 3 + 1)) (17 + σ 3) g) (25 + σ 3) d) (33 + σ 3) y) (41 + σ 3) lk (17 + σ 3) = g by simp only [va_up]; repeat (first | rw [if_pos rfl] | rw [if_pos True.intro] | rw [if_neg (by omega)])]
      rw [show va_up (va_up (va_up (va_up (va_up (va_up σ (9 + σ 3) kind) 3 (σ 3 + 1)) (17 + σ 3) g) (25 + σ 3) d) (33 + σ 3) y) (41 + σ 3) lk (25 + σ 3) = d by simp only [va_up]; repeat (first | rw [if_pos rfl] | rw [if_pos True.intro] | rw [if_neg (by omega)])]
      rw [show va_up (va_up (va_up (va_up (va_up (va_up σ (9 + σ 3) kind) 3 (σ 3 + 1)) (17 + σ 3) g) (25 + σ 3) d) (33 + σ 3) y) (41 + σ 3) lk (33 + σ 3) = y by simp only [va_up]; repeat (first | rw [if_pos rfl] | rw [if_pos True.intro] | rw [if_neg (by omega)])]
      rw [show va_up (va_up (va_up (va_up (va_up (va_up σ (9 + σ 3) kind) 3 (σ 3 + 1)) (17 + σ 3) g) (25 + σ 3) d) (33 + σ 3) y) (41 + σ 3) lk (41 + σ 3) = lk by simp only [va_up]; repeat (first | rw [if_pos rfl] | rw [if_pos True.intro] | rw [if_neg (by omega)])]
      omega
    · have hp0 : p < σ 3 := by omega
      have := h8 p hp0
      rw [show va_up (va_up (va_up (va_up (va_up (va_up σ (9 + σ 3) kind) 3 (σ 3 + 1)) (17 + σ 3) g) (25 + σ 3) d) (33 + σ 3) y) (41 + σ 3) lk (9 + p) = σ (9 + p) by simp only [va_up]; repeat rw [if_neg (by omega)]]
      rw [show va_up (va_up (va_up (va_up (va_up (va_up σ (9 + σ 3) kind) 3 (σ 3 + 1)) (17 + σ 3) g) (25 + σ 3) d) (33 + σ 3) y) (41 + σ 3) lk (17 + p) = σ (17 + p) by simp only [va_up]; repeat rw [if_neg (by omega)]]
      rw [show va_up (va_up (va_up (va_up (va_up (va_up σ (9 + σ 3) kind) 3 (σ 3 + 1)) (17 + σ 3) g) (25 + σ 3) d) (33 + σ 3) y) (41 + σ 3) lk (25 + p) = σ (25 + p) by simp only [va_up]; repeat rw [if_neg (by omega)]]
      rw [show va_up (va_up (va_up (va_up (va_up (va_up σ (9 + σ 3) kind) 3 (σ 3 + 1)) (17 + σ 3) g) (25 + σ 3) d) (33 + σ 3) y) (41 + σ 3) lk (33 + p) = σ (33 + p) by simp only [va_up]; repeat rw [if_neg (by omega)]]
      rw [show va_up (va_up (va_up (va_up (va_up (va_up σ (9 + σ 3) kind) 3 (σ 3 + 1)) (17 + σ 3) g) (25 + σ 3) d) (33 + σ 3) y) (41 + σ 3) lk (41 + p) = σ (41 + p) by simp only [va_up]; repeat rw [if_neg (by omega)]]
      exact this
  · intro p hp; rw [E _ (by omega)]; exact h9 p hp
  · intro q; rw [E _ (by omega)] at q; omega
  · rw [E _ (by omega)]; exact h11
  · rw [E _ (by omega)]; exact h12
  · intro p hp; rw [E _ (by omega)]; exact h13 p hp
theorem tk_promise_ok {tb : Nat → Nat} {n kind b : Nat} {σ : Nat → Nat} (hk : 1 ≤ kind ∧ kind ≤ 5) (hσ : tk_ok σ) (h : (tk_promise tb n kind b σ).1 = 0) : tk_ok (tk_promise tb n kind b σ).2.2 := by
  unfold tk_promise at h ⊢
  split at h
  · exact absurd h (show ¬ (3 : Nat) = 0 by decide)
  · rename_i h1
    rw [if_neg h1]
    obtain ⟨f1, e1⟩ := tk_then_ok h
    rw [e1] at h ⊢
    obtain ⟨f2, e2⟩ := tk_then_ok h
    rw [e2] at h ⊢
    obtain ⟨f3, e3⟩ := tk_then_ok h
    rw [e3] at h ⊢
    obtain ⟨v1, -, a1, g1⟩ := tk_fig_ok f1
    obtain ⟨v2, -, a2, g2⟩ := tk_fig_ok f2
    obtain ⟨v3, -, a3, g3⟩ := tk_fig_ok f3
    obtain ⟨v4, -, a4, g4⟩ := tk_fig_ok h
    rw [g4, g3, g2, g1]
    exact tk_add_ok hσ (by have := hσ.1.m; omega) hk a1 a2 a3 a4
theorem tk_kind_le {tb : Nat → Nat} {n b : Nat} : tk_kind tb n b ≤ 5 := by
  unfold tk_kind
  repeat' split
  all_goals omega
theorem tk_step_ok {tb : Nat → Nat} {n b : Nat} {σ : Nat → Nat} (hσ : tk_ok σ) (h : (tk_step tb n b σ).1 = 0) : tk_ok (tk_step tb n b σ).2.2 := by
  unfold tk_step at h ⊢
  split at h
  · rename_i h1; rw [if_pos h1]; exact tk_promise_ok ⟨h1, tk_kind_le⟩ hσ h
  · rename_i h1; rw [if_neg h1]
    split at h
    · rename_i h2; rw [if_pos h2]; exact tk_giver_ok hσ h
    · exact absurd h (show ¬ (1 : Nat) = 0 by decide)
theorem tk_all_ok {tb : Nat → Nat} {n : Nat} : ∀ {k : Nat} {r : tk_R}, (r.1 = 0 → tk_ok r.2.2) → (tk_all tb n k r).1 = 0 → tk_ok (tk_all tb n k r).2.2
  | 0, r, hr, h => hr h
  | k + 1, r, hr, h => by
    rw [tk_all] at h ⊢
    split at h
    · rename_i h1; rw [if_pos h1]; exact tk_all_ok (fun q => tk_step_ok (hr h1.1) q) h
    · rename_i h1; rw [if_neg h1]; exact hr h
theorem tk_ok_0 {w t : Nat} (hw : w < 10) (ht : 1 ≤ t ∧ t < 6) : tk_ok (va_up (va_up (fun _ => 0) 0 w) 1 t) := by
  have E : ∀ j, 2 ≤ j → va_up (va_up (fun _ => 0) 0 w) 1 t j = 0 := fun j hj => by rw [va_up_ne _ _ (by omega), va_up_ne _ _ (by omega)]
  refine ⟨⟨?_, ?_, ?_, ?_, ?_, ?_, ?_, ?_, ?_⟩, ?_, ?_, ?_⟩
  · rw [va_up_ne _ _ (by omega), va_up_self]; omega
  · rw [va_up_self]; omega
  · rw [E _ (by omega)]; omega
  · rw [E _ (by omega)]; omega
  · rw [E _ (by omega)]; omega
  · intro g hg; rw [E _ (by omega)]; omega
  · intro p hp; rw [E _ (by omega)] at hp; omega
  · intro p hp; rw [E _ (by omega)]; omega
  · intro q; rw [va_up_self] at q; omega
  · rw [va_up_self]; omega
  · rw [E _ (by omega)]
  · intro p hp; rw [E _ (by omega)]
theorem tk_text_ok {tb : Nat → Nat} {n : Nat} (h : (tk_text tb n).1 = 0) : tk_ok (tk_text tb n).2.2 := by
  unfold tk_text at h ⊢
  obtain ⟨f1, e1⟩ := tk_then_ok h
  rw [e1] at h ⊢
  obtain ⟨f2, e2⟩ := tk_then_ok h
  rw [e2] at h ⊢
  obtain ⟨f3, e3⟩ := tk_then_ok h
  rw [e3] at h ⊢
  obtain ⟨v2, -, a2, g2⟩ := tk_fig_ok f2
  obtain ⟨v3, b3, a3, g3⟩ := tk_fig_ok f3
  refine tk_all_ok (fun _ => ?_) h
  show tk_ok (tk_fig tb n 1 6 1 59 _ _).2.2
  rw [g3, g2, tk_sign_ok f1]
  exact tk_ok_0 a2 ⟨b3, a3⟩
/-- what scales() answers: the tape is read and emptied -/
def op_scales (S : SS) : Int32 × SS :=
  if (tk_text (S.2.1 1) (S.1 2)).1 = 0 then (nI ((tk_text (S.2.1 1) (S.1 2)).2.2 3), (va_up (va_up S.1 2 0) 3 0, va_up S.2.1 0 (tk_text (S.2.1 1) (S.1 2)).2.2, S.2.2))
  else ((-1000100) - nI (tk_text (S.2.1 1) (S.1 2)).2.1, (va_up (va_up S.1 2 0) 1 (tk_text (S.2.1 1) (S.1 2)).1, S.2.1, S.2.2))
