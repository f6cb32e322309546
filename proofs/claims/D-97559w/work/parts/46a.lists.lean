/-! ps_: scales that are written: laws of owners -/
set_option maxRecDepth 100000
theorem ps_cpyv {f g : Nat → Int32} {n i : Nat} (h : i < n) : va_cpy f g 0 0 n i = f i := by
  unfold va_cpy
  rw [if_pos (by omega), Nat.zero_add, Nat.sub_zero]
theorem ps_no {E : ps_E} {z : Nat} {Γ : ps_Gh} {H : Heap} (hW : ps_W E Γ H) (hz : ¬ ps_A E z) : Γ z = none := by
  rcases e : Γ z with _ | x
  · rfl
  · exact absurd (hW.A e) hz
section LST
variable {E : ps_E} {z sq sr i b r1 : Nat} {Γ Γ1 : ps_Gh} {ow : ps_Ow} {σ σ' : Nat → Nat} {smc x1 : Int32} {pf : Nat → Nat} {kf tf : Nat → Int32} {df df1 : Nat → Option Nat} {H H1 : Heap}
/-- an address of another kind isn't the list's array -/
theorem ps_nesr {a : Nat} {e : va_E} (hz : Γ z = none) (hr : (sr = z ∧ σ 3 = 0) ∨ (Γ sr = some (ps_q (E.2.1 6) 10 df) ∧ ow sr = sq + 6)) (ha : Γ a = some e) (hne : ∀ f, e ≠ ps_q (E.2.1 6) 10 f) : a ≠ sr := fun q => by
  subst q
  rcases hr with h | h
  · rw [h.1, hz] at ha; cases ha
  · exact hne df (Option.some.inj (ha.symm.trans h.1))
/-- a step that writes the scales' own five cells -/
theorem ps_sp.five {P : Nat → Prop} (hP : P (sq + 6)) (ho : ow sq = sq + 6 ∧ ow (sq + 1) = sq + 6 ∧ ow (sq + 2) = sq + 6 ∧ ow (sq + 3) = sq + 6) (hr : Γ sr = none ∨ (ow sr = sq + 6 ∧ ∃ e, Γ1 sr = some e)) (h0 : ∃ e, Γ1 sq = some e) (h1 : ∃ e, Γ1 (sq + 1) = some e) (h2 : ∃ e, Γ1 (sq + 2) = some e) (h3 : ∃ e, Γ1 (sq + 3) = some e)
    (hk : ∀ a, a ≠ sq → a ≠ sq + 1 → a ≠ sq + 2 → a ≠ sq + 3 → a ≠ sr → Γ1 a = Γ a) : ps_sp P Γ ow Γ1 ow := fun a e ha => by
  by_cases q0 : a = sq
  · subst q0; exact ⟨⟨rfl, h0⟩, fun y => absurd (by rw [ho.1]; exact hP) y⟩
  · by_cases q1 : a = sq + 1
    · subst q1; exact ⟨⟨rfl, h1⟩, fun y => absurd (by rw [ho.2.1]; exact hP) y⟩
    · by_cases q2 : a = sq + 2
      · subst q2; exact ⟨⟨rfl, h2⟩, fun y => absurd (by rw [ho.2.2.1]; exact hP) y⟩
      · by_cases q3 : a = sq + 3
        · subst q3; exact ⟨⟨rfl, h3⟩, fun y => absurd (by rw [ho.2.2.2]; exact hP) y⟩
        · by_cases q4 : a = sr
          · subst q4
            rcases hr with h | h
            · rw [h] at ha; cases ha
            · exact ⟨⟨rfl, h.2⟩, fun y => absurd (by rw [h.1]; exact hP) y⟩
          · have := (hk a q0 q1 q2 q3 q4).trans ha
            exact ⟨⟨rfl, e, this⟩, fun _ => this⟩
/-- a promise more in the list -/
theorem ps_So.add {P : Nat → Prop} (hP : P (sq + 6)) (hW : ps_W E Γ H) (hz : ¬ ps_A E z) (hW1 : ps_W E Γ1 H1) (hD : ps_Sd E z Γ sq σ smc sr pf kf tf df) (ho : ow sq = sq + 6 ∧ ow (sq + 1) = sq + 6 ∧ ow (sq + 2) = sq + 6 ∧ ow (sq + 3) = sq + 6) (hr : (sr = z ∧ σ 3 = 0) ∨ (Γ sr = some (ps_q (E.2.1 6) 10 df) ∧ ow sr = sq + 6)) (hp : ∀ p, p < σ 3 → ow (pf p) = 0)
    {kd lk gv dd dy : Nat} (hb : Γ b = some (ps_pr kd (σ 3) lk gv dd dy)) (hob : ow b = 0) (hsb : σ' (9 + σ 3) = kd ∧ σ' (41 + σ 3) = lk ∧ σ' (17 + σ 3) = gv ∧ σ' (25 + σ 3) = dd ∧ σ' (33 + σ 3) = dy)
    (g1 : Γ1 (sq + 2) = some (.inr (13, [.int x1, .ref r1, .int (nI (σ 3 + 1))]))) (g2 : Γ1 r1 = some (ps_q (E.2.1 6) 10 df1)) (hd : df1 (σ 3) = some b ∧ ∀ k, k < σ 3 → df1 k = df k) (hr1 : r1 = sr ∨ (z = sr ∧ r1 = H.size)) (hk : ∀ a, a ≠ sq + 2 → a ≠ r1 → Γ1 a = Γ a)
    (hσ : σ' 3 = σ 3 + 1 ∧ (∀ j, j < 9 → j ≠ 3 → σ' j = σ j) ∧ (∀ j, j < 8 → σ' (49 + j) = σ (49 + j)) ∧ ∀ p, p < σ 3 → σ' (9 + p) = σ (9 + p) ∧ σ' (41 + p) = σ (41 + p) ∧ σ' (17 + p) = σ (17 + p) ∧ σ' (25 + p) = σ (25 + p) ∧ σ' (33 + p) = σ (33 + p)) :
    ps_sp P Γ ow Γ1 (va_up ow r1 (sq + 6)) ∧ ps_So E z Γ1 (va_up ow r1 (sq + 6)) sq σ' := by
  obtain ⟨d0, d1, d2, d3, d4, d5, d6, d7, d8⟩ := hD
  obtain ⟨o0, o1, o2, o3⟩ := ho
  obtain ⟨s3, sj, st, sp⟩ := hσ
  have hzn := ps_no hW hz
  have hz1 := ps_no hW1 hz
  have hrz : r1 ≠ z := fun e => by subst e; rw [hz1] at g2; cases g2
  -- the array: as it was, or new
  have hC : (Γ r1 = some (ps_q (E.2.1 6) 10 df) ∧ ow r1 = sq + 6) ∨ r1 = H.size := by
    rcases hr1 with h | h
    · subst h
      rcases hr with h | h
      · exact absurd h.1 hrz
      · exact Or.inl h
    · exact Or.inr h.2
  have hne : ∀ {a e}, Γ a = some e → (∀ f, e ≠ ps_q (E.2.1 6) 10 f) → a ≠ r1 := fun {a e} ha h q => by
    subst q
    rcases hC with hC | hC
    · exact h _ (Option.some.inj (ha.symm.trans hC.1))
    · have := hW.lt ha; omega
  have oq : ∀ a e, Γ a = some e → va_up ow r1 (sq + 6) a = ow a := fun a e ha => by
    by_cases q : a = r1
    · subst q
      rw [va_up_self]
      rcases hC with hC | hC
      · exact hC.2.symm
      · have := hW.lt ha; omega
    · exact va_up_ne _ _ q
  have n0 := hne d0 (fun f q => by cases q)
  have n1 := hne d1 (fun f q => ps_qne q.symm)
  have n3 := hne d4 (fun f q => ps_qne q.symm)
  have nL := hne d3 (fun f q => by cases q)
  have k0 := (hk sq (by omega) n0).trans d0
  have k1 := (hk (sq + 1) (by omega) n1).trans d1
  have k3 := (hk (sq + 3) (by omega) n3).trans d4
  have prq : ∀ {a kd n lk gv dd dy}, Γ a = some (ps_pr kd n lk gv dd dy) → ow a = 0 → Γ1 a = some (ps_pr kd n lk gv dd dy) := fun {a kd n lk gv dd dy} ha h0 => by
    refine (hk a (fun q => ?_) (hne ha (fun f q => by cases q))).trans ha
    subst q; omega
  refine ⟨fun a e ha => ⟨⟨oq a e ha, ?_⟩, fun y => ?_⟩, x1, r1, va_up pf (σ 3) b, kf, tf, df1, ⟨?_, k1, fun g hg => ?_, ?_, k3, fun p hp8 => ?_, Or.inr g2, fun p hp3 => ?_, fun p hp3 => ?_⟩, ⟨(oq _ _ d0).trans o0, (oq _ _ d1).trans o1, (oq _ _ d3).trans o2, (oq _ _ d4).trans o3⟩, Or.inr ⟨g2, va_up_self ..⟩, fun p hp3 => ?_⟩
  · by_cases q2 : a = sq + 2
    · subst q2; exact ⟨_, g1⟩
    · by_cases qr : a = r1
      · subst qr; exact ⟨_, g2⟩
      · exact ⟨e, (hk a q2 qr).trans ha⟩
  · have q2 : a ≠ sq + 2 := fun q => by subst q; exact y (by rw [o2]; exact hP)
    have qr : a ≠ r1 := fun q => by
      subst q
      rcases hC with hC | hC
      · exact y (by rw [hC.2]; exact hP)
      · have := hW.lt ha; omega
    exact (hk a q2 qr).trans ha
  · rw [sj 0 (by omega) (by omega), sj 1 (by omega) (by omega), sj 2 (by omega) (by omega), sj 4 (by omega) (by omega)]; exact k0
  · rw [sj (5 + g) (by omega) (by omega)]; exact d2 g hg
  · rw [s3]; exact g1
  · rw [st p hp8]; exact d5 p hp8
  · rw [s3] at hp3
    by_cases q : p = σ 3
    · subst q; rw [va_up_self]; exact hd.1
    · rw [va_up_ne _ _ q]; exact (hd.2 p (by omega)).trans (d7 p (by omega))
  · rw [s3] at hp3
    by_cases q : p = σ 3
    · subst q; rw [va_up_self, hsb.1, hsb.2.1, hsb.2.2.1, hsb.2.2.2.1, hsb.2.2.2.2]; exact prq hb hob
    · rw [va_up_ne _ _ q]
      obtain ⟨e1, e2, e3, e4, e5⟩ := sp p (by omega)
      rw [e1, e2, e3, e4, e5]
      exact prq (d8 p (by omega)) (hp p (by omega))
  · rw [s3] at hp3
    by_cases q : p = σ 3
    · subst q; rw [va_up_self]; exact (oq _ _ hb).trans hob
    · rw [va_up_ne _ _ q]; exact (oq _ _ (d8 p (by omega))).trans (hp p (by omega))
end LST
theorem va_up_id {f : Nat → Nat} {k : Nat} : va_up f k (f k) = f := by
  funext j
  unfold va_up
  split
  · rename_i h; rw [h]
  · rfl
