/-! ps_: the whole after a call -/
set_option maxRecDepth 100000
/-- a method's end: the answer, and the whole as it is then -/
def ps_cpost (E : ps_E) (z : Nat) (Γ : ps_Gh) (H : Heap) (x : Nat) (r : Int32 × SS) : Option Value → Heap → Prop := fun v H1 => v = some (.int r.1) ∧ ∃ Γ1 ow1, ps_W E Γ1 H1 ∧ ps_gf Γ H Γ1 H1 ∧ ps_Cx E z Γ1 ow1 x r.2
theorem ps_cend {E : ps_E} {z x : Nat} {Γ Γ1 : ps_Gh} {H H1 : Heap} {ow1 : ps_Ow} {r : Int32 × SS} {v : Int32} {S1 : SS} (hr : r = (v, S1)) (hW : ps_W E Γ1 H1) (hg : ps_gf Γ H Γ1 H1) (hC : ps_Cx E z Γ1 ow1 x S1) : ps_cpost E z Γ H x r (some (.int v)) H1 := by
  subst hr
  exact ⟨rfl, Γ1, ow1, hW, hg, hC⟩
section M2
variable {E : ps_E} {z x q i tr n k : Nat} {P : Nat → Prop} {Γ Γ1 Γ2 : ps_Gh} {ow ow1 : ps_Ow} {σ σ' : Nat → Nat} {sa : Nat → Option Nat} {τ : Nat → Nat → Nat} {H H1 : Heap} {S : SS} {smc : Int32} {sr : Nat} {pf : Nat → Nat} {kf tf kf1 tf1 : Nat → Int32} {df : Nat → Option Nat} {b : Bool}
/-- the scales' own object changes -/
theorem ps_So.obj (h : ps_So E z Γ ow q σ) (hg : Γ1 q = some (.inr (2, [.int (nI (σ' 0)), .int (nI (σ' 1)), .int (nI (σ' 2)), .ref (q + 1), .ref (q + 2), .ref (q + 3), .int (nI (σ' 4))]))) (ho : ∀ b, b ≠ q → Γ1 b = Γ b) (hσ : ∀ j, j ≠ 0 → j ≠ 1 → j ≠ 2 → j ≠ 4 → σ' j = σ j) : ps_So E z Γ1 ow q σ' := by
  obtain ⟨mc, r, pf, kf, tf, df, ⟨d0, d1, d2, d3, d4, d5, d6, d7, d8⟩, ho4, hr, hp⟩ := h
  have s3 := hσ 3 (by omega) (by omega) (by omega) (by omega)
  have hr1 : (r = z ∧ σ' 3 = 0) ∨ (Γ1 r = some (ps_q (E.2.1 6) 10 df) ∧ ow r = q + 6) := by
    rw [s3]
    exact hr.imp id (fun h => ⟨(ho r (ps_gne h.1 d0 (by intro q; cases q))).trans h.1, h.2⟩)
  refine ⟨mc, r, pf, kf, tf, df, ⟨hg, (ho _ (by omega)).trans d1, fun g hg => ?_, ?_, (ho _ (by omega)).trans d4, fun p hp8 => ?_, hr1.imp id And.left, by rw [s3]; exact d7, fun p hp3 => ?_⟩, ho4, hr1, by rw [s3]; exact hp⟩
  · rw [hσ _ (by omega) (by omega) (by omega) (by omega)]; exact d2 g hg
  · rw [s3]; exact (ho _ (by omega)).trans d3
  · rw [hσ _ (by omega) (by omega) (by omega) (by omega)]; exact d5 p hp8
  · rw [s3] at hp3
    rw [hσ _ (by omega) (by omega) (by omega) (by omega), hσ _ (by omega) (by omega) (by omega) (by omega), hσ _ (by omega) (by omega) (by omega) (by omega), hσ _ (by omega) (by omega) (by omega) (by omega), hσ _ (by omega) (by omega) (by omega) (by omega)]
    have h9 := d8 p hp3
    refine (ho _ (ps_gne h9 d0 ?_)).trans h9
    intro q
    have q1 := congrArg (fun x : va_E => match x with | .inr y => y.2.length | _ => 0) q
    have q2 : (5 : Nat) = 7 := q1
    omega
/-- .. when one is settled -/
theorem ps_So.setd (hO : sp_ok σ) (hk : k < σ 3) (hP : P (q + 6)) (hD : ps_Sd E z Γ q σ smc sr pf kf tf df) (ho : ow q = q + 6 ∧ ow (q + 1) = q + 6 ∧ ow (q + 2) = q + 6 ∧ ow (q + 3) = q + 6) (hr : (sr = z ∧ σ 3 = 0) ∨ (Γ sr = some (ps_q (E.2.1 6) 10 df) ∧ ow sr = q + 6)) (hp : ∀ p, p < σ 3 → ow (pf p) = 0)
    (hD1 : ps_Sd E z Γ1 q (sp_settle σ k b) smc sr pf kf1 tf1 df) (hk1 : ∀ a e, Γ a = some e → a ≠ q → a ≠ q + 1 → a ≠ q + 3 → Γ1 a = some e) : ps_sp P Γ ow Γ1 ow ∧ ps_So E z Γ1 ow q (sp_settle σ k b) := by
  have hpp := hO.p hk
  have hm := hO.m
  have s3 : sp_settle σ k b 3 = σ 3 := sp_settle_o (by omega) (by omega) (by omega)
  have hr1 : (sr = z ∧ sp_settle σ k b 3 = 0) ∨ (Γ1 sr = some (ps_q (E.2.1 6) 10 df) ∧ ow sr = q + 6) := by
    rw [s3]
    exact hr.imp id (fun h => ⟨hk1 _ _ h.1 (ps_gne h.1 hD.1 (by intro q; cases q)) (ps_gne h.1 hD.2.1 ps_qne) (ps_gne h.1 hD.2.2.2.2.1 ps_qne), h.2⟩)
  exact ⟨ps_sp.three ps_sp.rf hP ⟨ho.1, ho.2.1, ho.2.2.2⟩ ⟨_, hD1.1⟩ ⟨_, hD1.2.1⟩ ⟨_, hD1.2.2.2.2.1⟩ hk1, smc, sr, pf, kf1, tf1, df, hD1, ho, hr1, by rw [s3]; exact hp⟩
/-- new scales at q .. q + 3 -/
def ps_own (ow : ps_Ow) (q : Nat) : ps_Ow := fun a => if q ≤ a ∧ a ≤ q + 3 then q + 6 else ow a
theorem ps_own_o {a : Nat} (h : ¬ (q ≤ a ∧ a ≤ q + 3)) : ps_own ow q a = ow a := if_neg h
theorem ps_own_i {a : Nat} (h : q ≤ a ∧ a ≤ q + 3) : ps_own ow q a = q + 6 := if_pos h
theorem ps_So.born {s1 : Nat} (hs : s1 = q + 1) (g0 : Γ1 q = some (.inr (2, [.int (nI 0), .int (nI 0), .int (nI 0), .ref s1, .ref (s1 + 1), .ref (s1 + 2), .int (nI 0)]))) (g1 : Γ1 s1 = some (.inl (E.2.1 0, 4, .inl fun _ => 0))) (g2 : Γ1 (s1 + 1) = some (.inr (13, [.int (nI 0), .ref z, .int (nI 0)]))) (g3 : Γ1 (s1 + 2) = some (.inl (E.2.1 0, 8, .inl fun _ => 0))) : ps_So E z Γ1 (ps_own ow q) q (fun _ => 0) := by
  subst hs
  exact ⟨nI 0, z, fun _ => 0, fun _ => 0, fun _ => 0, fun _ => none, ⟨g0, g1, fun _ _ => rfl, g2, g3, fun _ _ => rfl, Or.inl ⟨rfl, rfl⟩, fun p hp => absurd hp (Nat.not_lt_zero _), fun p hp => absurd hp (Nat.not_lt_zero _)⟩, ⟨ps_own_i (by omega), ps_own_i (by omega), ps_own_i (by omega), ps_own_i (by omega)⟩, Or.inl ⟨rfl, rfl⟩, fun p hp => absurd hp (Nat.not_lt_zero _)⟩
theorem ps_sp.born (h : ps_sp P Γ ow Γ1 ow1) (hn : ∀ a e, Γ a = some e → a < q) (hk : ∀ a, a < q → Γ2 a = Γ1 a) : ps_sp P Γ ow Γ2 (ps_own ow1 q) := fun a e ha => by
  obtain ⟨⟨h1, e1, h2⟩, h3⟩ := h a e ha
  have hq := hn a e ha
  exact ⟨⟨(ps_own_o (by omega)).trans h1, e1, (hk a hq).trans h2⟩, fun y => (hk a hq).trans (h3 y)⟩
/-- scales are put into a place that was empty -/
theorem ps_Sx.newA {pa : Nat → Option Nat} {j : Nat} (h : ps_Sx E z Γ ow x sa τ) (hj : j < 24) (hn : sa (10 + j) = none) (hfr : ∀ r i, sa i = some r → r ≠ q) (hs : ps_sp P Γ ow Γ1 ow1) (h0 : ¬ P 0) (h4 : ¬ P 4) (hP : ∀ w, ¬ P (w + 6)) (hq : ps_So E z Γ1 ow1 q (fun _ => 0)) (hpa : Γ1 (x + 19) = some (ps_q (E.2.1 5) 24 pa)) (hpk : ∀ k, k < 24 → pa k = sa (10 + k)) (hx : ow1 (x + 19) = 4)
    (hg : Γ2 (x + 19) = some (ps_q (E.2.1 5) 24 (va_up pa j (some q)))) (ho : ∀ b, b ≠ x + 19 → Γ2 b = Γ1 b) (hqx : ∀ r i, sa i = some r → r + 6 ≠ 4) : ps_Sx E z Γ2 ow1 x (va_up sa (10 + j) (some q)) (va_up τ (10 + j) (fun _ => 0)) := by
  have hs2 : ps_sp (fun w => w = 4) Γ1 ow1 Γ2 ow1 := ps_sp.rf.put hx rfl hg ho
  obtain ⟨a, ⟨pa0, b1, b2, b3⟩, ⟨ia, c1, c2, c3⟩, d, e⟩ := h
  have c1' := hs.k c1 c2 h4
  refine ⟨⟨(va_up_ne _ _ (by omega)).trans a.1, (va_up_ne _ _ (by omega)).trans a.2⟩, ⟨_, hg, hx, fun k hk => ?_⟩, ⟨ia, (ho _ (by omega)).trans c1', hs.o c1 c2, fun k hk => (c3 k hk).trans (va_up_ne _ _ (by omega)).symm⟩, fun i1 i2 r h1 h2 => ?_, fun i1 r h1 => ?_⟩
  · by_cases e1 : k = j
    · subst e1; rw [va_up_self, va_up_self]
    · rw [va_up_ne _ _ e1, va_up_ne _ _ (by omega)]; exact hpk k hk
  · by_cases e1 : i1 = 10 + j
    · by_cases e2 : i2 = 10 + j
      · omega
      · subst e1
        rw [va_up_self] at h1
        rw [va_up_ne _ _ e2] at h2
        exact absurd (Option.some.inj h1).symm (hfr r i2 h2)
    · rw [va_up_ne _ _ e1] at h1
      by_cases e2 : i2 = 10 + j
      · subst e2
        rw [va_up_self] at h2
        exact absurd (Option.some.inj h2).symm (hfr r i1 h1)
      · rw [va_up_ne _ _ e2] at h2
        exact d i1 i2 r h1 h2
  · by_cases e1 : i1 = 10 + j
    · subst e1
      rw [va_up_self] at h1 ⊢
      cases h1
      exact ⟨sp_ok_0, hq.kept hs2 (by omega) (by omega)⟩
    · rw [va_up_ne _ _ e1] at h1 ⊢
      obtain ⟨f1, f2⟩ := e i1 r h1
      exact ⟨f1, (f2.kept hs h0 (hP r)).kept hs2 (by omega) (hqx r i1 h1)⟩
theorem ps_Sx.newI {ia : Nat → Option Nat} {j : Nat} (h : ps_Sx E z Γ ow x sa τ) (hj : j < 2) (hn : sa (40 + j) = none) (hfr : ∀ r i, sa i = some r → r ≠ q) (hs : ps_sp P Γ ow Γ1 ow1) (h0 : ¬ P 0) (h4 : ¬ P 4) (hP : ∀ w, ¬ P (w + 6)) (hq : ps_So E z Γ1 ow1 q (fun _ => 0)) (hpa : Γ1 (x + 20) = some (ps_q (E.2.1 5) 2 ia)) (hpk : ∀ k, k < 2 → ia k = sa (40 + k)) (hx : ow1 (x + 20) = 4)
    (hg : Γ2 (x + 20) = some (ps_q (E.2.1 5) 2 (va_up ia j (some q)))) (ho : ∀ b, b ≠ x + 20 → Γ2 b = Γ1 b) : ps_Sx E z Γ2 ow1 x (va_up sa (40 + j) (some q)) (va_up τ (40 + j) (fun _ => 0)) := by
  have hs2 : ps_sp (fun w => w = 4) Γ1 ow1 Γ2 ow1 := ps_sp.rf.put hx rfl hg ho
  obtain ⟨a, ⟨pa, b1, b2, b3⟩, ⟨ia0, c1, c2, c3⟩, d, e⟩ := h
  have b1' := hs.k b1 b2 h4
  refine ⟨⟨(va_up_ne _ _ (by omega)).trans a.1, (va_up_ne _ _ (by omega)).trans a.2⟩, ⟨pa, (ho _ (by omega)).trans b1', hs.o b1 b2, fun k hk => (b3 k hk).trans (va_up_ne _ _ (by omega)).symm⟩, ⟨_, hg, hx, fun k hk => ?_⟩, fun i1 i2 r h1 h2 => ?_, fun i1 r h1 => ?_⟩
  · by_cases e1 : k = j
    · subst e1; rw [va_up_self, va_up_self]
    · rw [va_up_ne _ _ e1, va_up_ne _ _ (by omega)]; exact hpk k hk
  · by_cases e1 : i1 = 40 + j
    · by_cases e2 : i2 = 40 + j
      · omega
      · subst e1
        rw [va_up_self] at h1
        rw [va_up_ne _ _ e2] at h2
        exact absurd (Option.some.inj h1).symm (hfr r i2 h2)
    · rw [va_up_ne _ _ e1] at h1
      by_cases e2 : i2 = 40 + j
      · subst e2
        rw [va_up_self] at h2
        exact absurd (Option.some.inj h2).symm (hfr r i1 h1)
      · rw [va_up_ne _ _ e2] at h2
        exact d i1 i2 r h1 h2
  · by_cases e1 : i1 = 40 + j
    · subst e1
      rw [va_up_self] at h1 ⊢
      cases h1
      exact ⟨sp_ok_0, hq.kept hs2 (by omega) (by omega)⟩
    · rw [va_up_ne _ _ e1] at h1 ⊢
      obtain ⟨f1, f2⟩ := e i1 r h1
      exact ⟨f1, (f2.kept hs h0 (hP r)).kept hs2 (by omega) (by omega)⟩
/-- the kept acts move on by one place -/
def ps_rt {α : Type} (f : Nat → α) : Nat → α := fun i => if 10 ≤ i ∧ i < 33 then f (i + 1) else if i = 33 then f 10 else f i
theorem ps_Sx.rot {pa : Nat → Option Nat} (h : ps_Sx E z Γ ow x sa τ) (hx : ow (x + 19) = 4) (hg : Γ1 (x + 19) = some (ps_q (E.2.1 5) 24 pa)) (hpa : ∀ k, k < 24 → pa k = if k < 23 then sa (10 + k + 1) else sa 10) (ho : ∀ b, b ≠ x + 19 → Γ1 b = Γ b) : ps_Sx E z Γ1 ow x (ps_rt sa) (ps_rt τ) := by
  have hs2 : ps_sp (fun w => w = 4) Γ ow Γ1 ow := ps_sp.rf.put hx rfl hg ho
  obtain ⟨a, ⟨pa0, b1, b2, b3⟩, ⟨ia, c1, c2, c3⟩, d, e⟩ := h
  have pre : ∀ i, ∃ j, ps_rt sa i = sa j ∧ ps_rt τ i = τ j ∧ (j = if 10 ≤ i ∧ i < 33 then i + 1 else if i = 33 then 10 else i) := fun i => ⟨_, by unfold ps_rt; split <;> (try split) <;> rfl, by unfold ps_rt; split <;> (try split) <;> rfl, rfl⟩
  refine ⟨a, ⟨pa, hg, hx, fun k hk => ?_⟩, ⟨ia, (ho _ (by omega)).trans c1, c2, fun k hk => ?_⟩, fun i1 i2 r h1 h2 => ?_, fun i r hi => ?_⟩
  · rw [hpa k hk]
    unfold ps_rt
    by_cases e1 : k < 23
    · rw [if_pos e1, if_pos (by omega)]
    · rw [if_neg e1, if_neg (by omega), if_pos (by omega)]
  · rw [c3 k hk]; unfold ps_rt; rw [if_neg (by omega), if_neg (by omega)]
  · obtain ⟨j1, p1, -, p2⟩ := pre i1
    obtain ⟨j2, p3, -, p4⟩ := pre i2
    rw [p1] at h1
    rw [p3] at h2
    have := d j1 j2 r h1 h2
    subst this
    rw [p2] at p4
    split at p4 <;> split at p4 <;> (try split at p4) <;> (try split at p4) <;> omega
  · obtain ⟨j, p1, p2, -⟩ := pre i
    rw [p1] at hi
    rw [p2]
    exact ⟨(e j r hi).1, (e j r hi).2.kept hs2 (by omega) (by omega)⟩
end M2
/-- the whole before an act is kept, when there is no place left -/
def sRot (S : SS) : SS := (va_up S.1 3 23, ps_rt S.2.1, S.2.2)
theorem sNote_rot {S : SS} (h : S.1 3 = 24) : sNote (sRot S) = sNote S := by
  unfold sNote sRot ps_rt
  refine Prod.ext ?_ (Prod.ext ?_ rfl)
  · funext j
    simp only [h, va_up]
    split <;> simp
  · funext t
    simp only [h, va_up]
    by_cases e1 : 10 ≤ t ∧ t < 33
    · simp [e1]; omega
    · by_cases e2 : t = 33
      · subst e2; simp
      · simp [e1, e2]
theorem ps_Sl.rot {sa : Nat → Option Nat} {τ : Nat → Nat → Nat} {S : SS} (h : ps_Sl sa τ S) (h24 : S.1 3 = 24) : ps_Sl (ps_rt sa) (ps_rt τ) (sRot S) := by
  obtain ⟨a, b, c⟩ := h
  refine ⟨a, fun k hk => ?_, fun k hk => ?_⟩
  · have hk' : k < 23 := hk
    have hb := b (k + 1) (by omega)
    unfold sRot ps_rt
    simp only [show 10 ≤ 10 + k ∧ 10 + k < 33 by omega, if_true]
    exact hb
  · have hc := c k hk
    unfold sRot ps_rt
    simp only [show ¬ (10 ≤ 40 + k ∧ 40 + k < 33) by omega, show ¬ (40 + k = 33) by omega, if_false, show ¬ (10 ≤ 5 ∧ 5 < 33) by omega, show ¬ (5 = 33) by omega]
    exact hc
