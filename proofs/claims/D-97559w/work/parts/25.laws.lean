/-! ps_: what the scales are when something of them is written -/
set_option maxRecDepth 100000
theorem ps_stl0 : ∀ (b : Bool) (c : Fin 11), (if nI 0 < (if nI c.val + (if b = true then nI 1 else (-1)) < nI 10 then nI c.val + (if b = true then nI 1 else (-1)) else nI 10) then (if nI c.val + (if b = true then nI 1 else (-1)) < nI 10 then nI c.val + (if b = true then nI 1 else (-1)) else nI 10) else nI 0) = nI (if b = true then (if 10 ≤ c.val then 10 else c.val + 1) else c.val - 1) := by decide +kernel
theorem ps_stl {b : Bool} {c : Nat} (h : c ≤ 10) : (if nI 0 < (if nI c + (if b = true then nI 1 else (-1)) < nI 10 then nI c + (if b = true then nI 1 else (-1)) else nI 10) then (if nI c + (if b = true then nI 1 else (-1)) < nI 10 then nI c + (if b = true then nI 1 else (-1)) else nI 10) else nI 0) = nI (if b = true then (if 10 ≤ c then 10 else c + 1) else c - 1) := ps_stl0 b ⟨c, by omega⟩
/-- what kind of cell -/
def ps_tag : va_E → Nat := fun x => match x with
  | .inl (_, _, .inl _) => 0
  | .inl (_, n, _) => 100 + n
  | .inr y => 2 + y.1
theorem ps_qne {c1 c2 : ClassId} {n m : Nat} {f : Nat → Option Nat} {g : Nat → Int32} : ps_q c1 n f ≠ .inl (c2, m, .inl g) := fun q => by
  have h : 100 + n = 0 := congrArg ps_tag q
  omega
section SDL
variable {E : ps_E} {z : Nat} {Γ Γ1 : ps_Gh} {sq sr k : Nat} {σ : Nat → Nat} {smc : Int32} {pf : Nat → Nat} {kf tf : Nat → Int32} {df : Nat → Option Nat} {b : Bool}
/-- the other cells that scales stand on, apart from its own three that change -/
theorem ps_Sd.apart (hD : ps_Sd E z Γ sq σ smc sr pf kf tf df) (ho : ∀ q e, Γ q = some e → q ≠ sq → q ≠ sq + 1 → q ≠ sq + 3 → Γ1 q = some e) :
    Γ1 (sq + 2) = some (.inr (13, [.int smc, .ref sr, .int (nI (σ 3))])) ∧ ((sr = z ∧ σ 3 = 0) ∨ Γ1 sr = some (ps_q (E.2.1 6) 10 df)) ∧ ∀ p, p < σ 3 → Γ1 (pf p) = some (ps_pr (σ (9 + p)) p (σ (41 + p)) (σ (17 + p)) (σ (25 + p)) (σ (33 + p))) := by
  obtain ⟨h0, h1, h2, h3, h4, h5, h6, h7, h8⟩ := hD
  refine ⟨ho _ _ h3 (by omega) (by omega) (by omega), ?_, fun p hp => ?_⟩
  · rcases h6 with h | h
    · exact Or.inl h
    · exact Or.inr (ho _ _ h (ps_gne h h0 (by intro q; cases q)) (ps_gne h h1 ps_qne) (ps_gne h h4 ps_qne))
  · have h := h8 p hp
    refine ho _ _ h (ps_gne h h0 ?_) (ps_gne h h1 (by intro q; cases q)) (ps_gne h h4 (by intro q; cases q))
    intro q
    have q1 := congrArg (fun x : va_E => match x with | .inr y => y.1 | _ => 0) q
    have q2 : σ (9 + p) + 6 = 2 := q1
    omega
theorem ps_Sd.settle (hD : ps_Sd E z Γ sq σ smc sr pf kf tf df) (hO : sp_ok σ) (hk : k < σ 3) (g0 : Γ1 sq = some (.inr (2, [.int (nI (σ 0)), .int (nI (σ 1)), .int (nI (σ 2)), .ref (sq + 1), .ref (sq + 2), .ref (sq + 3), .int (nI (σ 4 &&& (2 ^ k ^^^ 4294967295)))])))
    (g1 : Γ1 (sq + 1) = some (.inl (E.2.1 0, 4, .inl (upd kf (σ (17 + k)) (nI (if b = true then (if 10 ≤ σ (5 + σ (17 + k)) then 10 else σ (5 + σ (17 + k)) + 1) else σ (5 + σ (17 + k)) - 1)))))) (g3 : Γ1 (sq + 3) = some (.inl (E.2.1 0, 8, .inl (upd tf k (nI (if b = true then 1 else 2))))))
    (ho : ∀ q e, Γ q = some e → q ≠ sq → q ≠ sq + 1 → q ≠ sq + 3 → Γ1 q = some e) :
    ps_Sd E z Γ1 sq (sp_settle σ k b) smc sr pf (upd kf (σ (17 + k)) (nI (if b = true then (if 10 ≤ σ (5 + σ (17 + k)) then 10 else σ (5 + σ (17 + k)) + 1) else σ (5 + σ (17 + k)) - 1))) (upd tf k (nI (if b = true then 1 else 2))) df := by
  have hm := hO.m
  have hp := hO.p hk
  have ha := hD.apart ho
  have o : ∀ j, j ≠ 49 + k → j ≠ 4 → j ≠ 5 + σ (17 + k) → sp_settle σ k b j = σ j := fun j a1 a2 a3 => sp_settle_o a1 a2 a3
  have e3 : sp_settle σ k b 3 = σ 3 := o 3 (by omega) (by omega) (by omega)
  have e4 : sp_settle σ k b 4 = σ 4 &&& (2 ^ k ^^^ 4294967295) := by unfold sp_settle; rw [va_up_ne _ _ (by omega), va_up_self]
  refine ⟨?_, g1, fun g hg => ?_, ?_, g3, fun p hp1 => ?_, ?_, ?_, ?_⟩
  · rw [o 0 (by omega) (by omega) (by omega), o 1 (by omega) (by omega) (by omega), o 2 (by omega) (by omega) (by omega), e4]; exact g0
  · by_cases e : g = σ (17 + k)
    · subst e; rw [pk_us]; unfold sp_settle; rw [va_up_self]
    · rw [pk_un e, o _ (by omega) (by omega) (by omega)]; exact hD.2.2.1 g hg
  · rw [e3]; exact ha.1
  · by_cases e : p = k
    · subst e; rw [pk_us]; unfold sp_settle; rw [va_up_ne _ _ (by omega), va_up_ne _ _ (by omega), va_up_self]
    · rw [pk_un e, o _ (by omega) (by omega) (by omega)]; exact hD.2.2.2.2.2.1 p hp1
  · rw [e3]; exact ha.2.1
  · rw [e3]; exact hD.2.2.2.2.2.2.2.1
  · rw [e3]
    intro p hp1
    have hp2 := hO.p hp1
    rw [o (9 + p) (by omega) (by omega) (by omega), o (41 + p) (by omega) (by omega) (by omega), o (17 + p) (by omega) (by omega) (by omega), o (25 + p) (by omega) (by omega) (by omega), o (33 + p) (by omega) (by omega) (by omega)]
    exact ha.2.2 p hp1
end SDL
