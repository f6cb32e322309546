/-! ps_: the text in the model's memory: fields 10 place, 11 token, 12 value, 13 begins, 14 wrong; array 7 what was read -/
set_option maxRecDepth 100000
theorem tk_dig_r {c : Nat} (h : c < 2147483648) : rng (nI c) 48 58 = tk_dig c := rng_N h
theorem tk_lt_1 {c : Nat} (h : c < 2147483648) (h1 : rng (nI c) 97 123 = true ∨ c = 44 ∨ c = 59) : tk_lt c = true := by
  rw [rng_N h] at h1
  unfold tk_lt
  simp only [Bool.or_eq_true, decide_eq_true_eq]
  rcases h1 with h1 | h1 | h1
  · exact Or.inl (Or.inl h1)
  · exact Or.inl (Or.inr h1)
  · exact Or.inr h1
theorem tk_lt_0 {c : Nat} (h : c < 2147483648) (h1 : rng (nI c) 97 123 = false) (h2 : c ≠ 44) (h3 : c ≠ 59) : tk_lt c = false := by
  rw [rng_N h] at h1
  unfold tk_lt
  rw [h1]; simp [h2, h3]
theorem tk_num_lt {tb : Nat → Nat} {b i : Nat} (h0 : tb b < 256) (h1 : 2 ≤ i → tb (b + 1) < 256) : tk_num tb b i < 10000 := by
  match i with
  | 0 => exact (by decide : (0 : Nat) < 10000)
  | 1 => show tb b - 48 < 10000; omega
  | j + 2 => have := h1 (by omega); show 10 * (tb b - 48) + (tb (b + 1) - 48) < 10000; omega
theorem tk_v_lt {tb : Nat → Nat} {n b : Nat} (h : ∀ i, i < n → tb i < 256) (hb : b ≤ n) : tk_v tb n b < 10000 := by
  unfold tk_v; split
  · rename_i q
    have h1 := tk_end_le (tb := tb) hb
    split
    · have := h b q; omega
    · exact tk_num_lt (h b q) (fun r => h (b + 1) (by omega))
  · omega
def pt_T (F : Nat → Int32) (A : Nat → Nat → Int32) (tb : Nat → Nat) (n : Nat) : Prop := F 8 = nI n ∧ n ≤ 120 ∧ (∀ i, i < n → A 6 i = nI (tb i)) ∧ ∀ i, i < n → tb i < 256
/-- only the scanner's own fields and the array that it fills have changed -/
def pt_sc (F : Nat → Int32) (A : Nat → Nat → Int32) (F1 : Nat → Int32) (A1 : Nat → Nat → Int32) : Prop := (∀ k, (k < 10 ∨ 14 < k) → F1 k = F k) ∧ ∀ k, k ≠ 7 → A1 k = A k
section PT
variable {F F1 F2 : Nat → Int32} {A A1 A2 : Nat → Nat → Int32} {tb : Nat → Nat} {n b : Nat}
theorem pt_sc.rf : pt_sc F A F A := ⟨fun _ _ => rfl, fun _ _ => rfl⟩
theorem pt_sc.tr (h1 : pt_sc F A F1 A1) (h2 : pt_sc F1 A1 F2 A2) : pt_sc F A F2 A2 := ⟨fun k hk => (h2.1 k hk).trans (h1.1 k hk), fun k hk => (h2.2 k hk).trans (h1.2 k hk)⟩
theorem pt_sc.f (h : pt_sc F A F1 A1) {k : Nat} {x : Int32} (hk : 10 ≤ k ∧ k ≤ 14) : pt_sc F A (va_up F1 k x) A1 := ⟨fun j hj => by rw [va_up_ne _ _ (by omega)]; exact h.1 j hj, h.2⟩
theorem pt_sc.a (h : pt_sc F A F1 A1) {g : Nat → Int32} : pt_sc F A F1 (va_up A1 7 g) := ⟨h.1, fun j hj => by rw [va_up_ne _ _ hj]; exact h.2 j hj⟩
theorem pt_T.sc (h : pt_T F A tb n) (hs : pt_sc F A F1 A1) : pt_T F1 A1 tb n := ⟨(hs.1 8 (by omega)).trans h.1, h.2.1, fun i hi => by rw [hs.2 6 (by omega)]; exact h.2.2.1 i hi, h.2.2.2⟩
/-- the scanner's token begins at b -/
def pt_at (F : Nat → Int32) (tb : Nat → Nat) (n b : Nat) : Prop := b ≤ n ∧ F 13 = nI b ∧ F 10 = nI (tk_p tb n b) ∧ F 11 = nI (tk_k tb n b) ∧ ((tk_k tb n b = 1 ∨ tk_k tb n b = 2) → F 12 = nI (tk_v tb n b))
theorem pt_at_1 {p v : Nat} (hbn : b ≤ n) (he : tk_end tb n b = p) (hp : b < p) (hpn : p ≤ n) (h13 : F 13 = nI b) (h10 : F 10 = nI p) (h12 : F 12 = nI v) (hv : p ≤ b + 2 → v = tk_num tb b (p - b)) (hx : F 11 = nI (if b + 2 < p then 0 else 2)) : pt_at F tb n b := by
  have e1 : tk_p tb n b = p := by unfold tk_p; rw [if_pos (by omega), if_neg (by omega), he]
  have e2 : tk_k tb n b = if b + 2 < p then 0 else 2 := by unfold tk_k; rw [if_pos (by omega), if_neg (by omega), he]
  refine ⟨hbn, h13, by rw [e1, h10], by rw [e2, hx], fun q => ?_⟩
  rw [e2] at q
  have hq : p ≤ b + 2 := by split at q <;> omega
  rw [h12, hv hq]
  unfold tk_v; rw [if_pos (by omega), if_neg (by omega), he]
theorem pt_at_2 (hbn : b = n) (h13 : F 13 = nI b) (h10 : F 10 = nI b) (hx : F 11 = nI 3) : pt_at F tb n b := by
  have e2 : tk_k tb n b = 3 := by unfold tk_k; rw [if_neg (by omega)]
  refine ⟨by omega, h13, by rw [h10]; unfold tk_p; rw [if_neg (by omega)], by rw [e2, hx], fun q => by omega⟩
theorem pt_at_3 (hbn : b < n) (he : tk_end tb n b = b) (h13 : F 13 = nI b) (h10 : F 10 = nI (b + 1)) (hx : F 11 = nI (if tk_lt (tb b) = true then 1 else 0)) (h12 : F 12 = nI (tb b)) : pt_at F tb n b := by
  refine ⟨by omega, h13, ?_, ?_, fun _ => ?_⟩
  · rw [h10]; unfold tk_p; rw [if_pos hbn, if_pos he]
  · rw [hx]; unfold tk_k; rw [if_pos hbn, if_pos he]
  · rw [h12]; unfold tk_v; rw [if_pos hbn, if_pos he]
theorem tk_num_s {v p : Nat} (hp : b ≤ p) (hv : p ≤ b + 2 → v = tk_num tb b (p - b)) (hd : 48 ≤ tb p) (hq : p + 1 ≤ b + 2) : 10 * v + tb p - 48 = tk_num tb b (p + 1 - b) := by
  rw [hv (by omega)]
  rcases Nat.eq_or_lt_of_le hp with e | e
  · subst e
    rw [show b - b = 0 by omega, show b + 1 - b = 1 by omega]
    show 10 * 0 + tb b - 48 = tb b - 48
    omega
  · rw [show p = b + 1 by omega] at hd ⊢
    rw [show b + 1 - b = 1 by omega, show b + 1 + 1 - b = 2 by omega]
    show 10 * (tb b - 48) + tb (b + 1) - 48 = 10 * (tb b - 48) + (tb (b + 1) - 48)
    omega
end PT
/-- what a step of the scanner leaves: r.1 the fault (0: none), r.2.1 where its token begins, r.2.2 what was read -/
def pt_post (E : ps_E) (H : Heap) (o : Nat) (F : Nat → Int32) (A : Nat → Nat → Int32) (tb : Nat → Nat) (n : Nat) (r : tk_R) (v : Option Value) (H1 : Heap) : Prop :=
  v = some (.int (bI (decide (r.1 = 0)))) ∧ ∃ (F1 : Nat → Int32) (A1 : Nat → Nat → Int32), ps_Mo E H1 o F1 A1 ∧ ps_Mf o H H1 ∧ pt_sc F A F1 A1 ∧ (r.1 = 0 → pt_at F1 tb n r.2.1 ∧ ps_Vw A1 7 57 r.2.2) ∧ (r.1 ≠ 0 → F1 14 = nI r.1 ∧ F1 13 = nI r.2.1)
section PT2
variable {E : ps_E} {H H1 : Heap} {o : Nat} {F F1 : Nat → Int32} {A A1 : Nat → Nat → Int32} {tb : Nat → Nat} {n b f : Nat} {σ : Nat → Nat} {r R : tk_R}
theorem pt_end_s (hr : r = (0, b, σ)) (hM : ps_Mo E H1 o F1 A1) (hF : ps_Mf o H H1) (hs : pt_sc F A F1 A1) (ha : pt_at F1 tb n b) (hv : ps_Vw A1 7 57 σ) : pt_post E H o F A tb n r (some (.int (bI true))) H1 := by
  subst hr
  exact ⟨rfl, F1, A1, hM, hF, hs, fun _ => ⟨ha, hv⟩, fun q => absurd rfl q⟩
theorem pt_end_f (hr : r = (f, b, σ)) (hf : f ≠ 0) (hM : ps_Mo E H1 o F1 A1) (hF : ps_Mf o H H1) (hs : pt_sc F A F1 A1) (h14 : F1 14 = nI f) (h13 : F1 13 = nI b) : pt_post E H o F A tb n r (some (.int (bI false))) H1 := by
  subst hr
  exact ⟨by rw [decide_eq_false hf], F1, A1, hM, hF, hs, fun q => absurd q hf, fun _ => ⟨h14, h13⟩⟩
theorem pt_end_r (hr : r = R) (hM : ps_Mo E H1 o F1 A1) (hF : ps_Mf o H H1) (hs : pt_sc F A F1 A1) (hok : R.1 = 0 → pt_at F1 tb n R.2.1 ∧ ps_Vw A1 7 57 R.2.2) (hbad : R.1 ≠ 0 → F1 14 = nI R.1 ∧ F1 13 = nI R.2.1) : pt_post E H o F A tb n r (some (.int (bI (decide (R.1 = 0))))) H1 := by
  subst hr
  exact ⟨rfl, F1, A1, hM, hF, hs, hok, hbad⟩
theorem pt_end_z {x : Int32} (hr : r = R) (hx : bI (decide (R.1 = 0)) = x) (hM : ps_Mo E H1 o F1 A1) (hF : ps_Mf o H H1) (hs : pt_sc F A F1 A1) (hok : R.1 = 0 → pt_at F1 tb n R.2.1 ∧ ps_Vw A1 7 57 R.2.2) (hbad : R.1 ≠ 0 → F1 14 = nI R.1 ∧ F1 13 = nI R.2.1) : pt_post E H o F A tb n r (some (.int x)) H1 := by
  subst hx
  exact pt_end_r hr hM hF hs hok hbad
end PT2
theorem tk_then_1 {r : tk_R} {f : Nat → (Nat → Nat) → tk_R} (h : r.1 = 0) : tk_then r f = f r.2.1 r.2.2 := if_pos h
theorem tk_then_0 {r : tk_R} {f : Nat → (Nat → Nat) → tk_R} (h : ¬ r.1 = 0) : tk_then r f = r := if_neg h
theorem sc_A {A A1 : Nat → Nat → Int32} {S : SS} {x : Nat} (hc : ∀ k, k ≠ 7 → A1 k = A k) (h : smA A S) : smA A1 (va_up (va_up S.1 2 0) 1 x, S.2.1, S.2.2) := by
  obtain ⟨h1, h2, h3, h4, h6, h8, h10, h11, h12⟩ := h
  refine ⟨?_, ?_, ?_, ?_, fun i hi => absurd hi (Nat.not_lt_zero _), ?_, ?_, ?_, ?_⟩
  · intro i hi; rw [hc 1 (by decide)]; exact h1 i hi
  · intro i hi; rw [hc 2 (by decide)]; exact h2 i hi
  · intro i hi; rw [hc 3 (by decide)]; exact h3 i hi
  · intro i hi; rw [hc 4 (by decide)]; exact h4 i hi
  · intro k hk i hi; rw [hc 8 (by decide)]; exact h8 k hk i hi
  · intro k hk; rw [hc 10 (by decide)]; exact h10 k hk
  · intro k hk h i hi; rw [hc 11 (by decide)]; exact h11 k hk h i hi
  · intro i hi; rw [hc 12 (by decide)]; exact h12 i hi
theorem sc_A4 {A A1 : Nat → Nat → Int32} {S : SS} {σ : Nat → Nat} {g : Nat → Int32} (hc : ∀ k, k ≠ 7 → A1 k = A k) (h : smA A S) (hg : ∀ i, i < 57 → g i = nI (σ i)) : smA (va_up A1 4 g) (va_up (va_up S.1 2 0) 3 0, va_up S.2.1 0 σ, S.2.2) := by
  obtain ⟨h1, h2, h3, h4, h6, h8, h10, h11, h12⟩ := h
  refine ⟨?_, ?_, ?_, ?_, fun i hi => absurd hi (Nat.not_lt_zero _), fun k hk => absurd hk (Nat.not_lt_zero _), ?_, ?_, ?_⟩
  · intro i hi; rw [va_up_ne _ _ (by decide), hc 1 (by decide)]; exact h1 i hi
  · intro i hi; rw [va_up_ne _ _ (by decide), hc 2 (by decide)]; exact h2 i hi
  · intro i hi; rw [va_up_ne _ _ (by decide), hc 3 (by decide)]; exact h3 i hi
  · intro i hi; rw [va_up_self]; exact hg i hi
  · intro k hk; rw [va_up_ne _ _ (by decide), hc 10 (by decide)]; exact h10 k hk
  · intro k hk h i hi
    rw [va_up_ne _ _ (by decide), hc 11 (by decide)]
    have e : va_up S.2.1 0 σ (40 + k) = S.2.1 (40 + k) := va_up_ne _ _ (by omega)
    show A 11 (57 * k + i) = nI (va_up S.2.1 0 σ (40 + k) i)
    rw [e]; exact h11 k hk h i hi
  · intro i hi; rw [va_up_ne _ _ (by decide), hc 12 (by decide)]; exact h12 i hi
