/-! ps_: the whole's own object and what it holds -/
set_option maxRecDepth 100000
/-- the object: tr is the trail; N 0 status, N 1 latest fault, N 2 tape's length, N 3 acts -/
abbrev ps_xo (x tr : Nat) (N : Nat → Nat) : va_E := .inr (0, [.ref (x + 1), .ref (x + 10), .int (nI (N 2)), .int (nI (N 1)), .ref (x + 11), .ref (x + 15), .ref (x + 19), .int (nI (N 3)), .ref (x + 20), .ref tr, .int (nI (N 0))])
/-- which array a lane has: byte, short, int -/
def ps_la : Nat → Nat := fun k => if k = 0 then 1 else if k = 1 then 2 else 0
def ps_Ob (Γ : ps_Gh) (ow : ps_Ow) (x tr : Nat) (N : Nat → Nat) : Prop := Γ x = some (ps_xo x tr N) ∧ ow x = 1
/-- the shelves: hr says where a row's array lies -/
def ps_Rx (E : ps_E) (Γ : ps_Gh) (ow : ps_Ow) (x : Nat) (hr : Nat → Nat) (L Z : Nat → Nat) (it : Nat → Int32) : Prop :=
  (∃ df, Γ (x + 1) = some (ps_q (E.2.1 4) 8 df) ∧ ow (x + 1) = 2 ∧ ∀ i, i < 8 → df i = some (x + 2 + i)) ∧
  (∀ r, r < 8 → Γ (x + 2 + r) = some (.inr (1, [if Z r = 0 then .null else .ref (hr r)])) ∧ ow (x + 2 + r) = 2) ∧
  (∀ r, r < 8 → Z r ≠ 0 → ow (hr r) = 2 ∧ ∃ f, Γ (hr r) = some (.inl (E.2.1 (ps_la (L r)), Z r - 1, .inl f)) ∧ ∀ i, i + 1 < Z r → f i = it (40 * r + i)) ∧
  ∀ r1 r2, r1 < 8 → r2 < 8 → Z r1 ≠ 0 → Z r2 ≠ 0 → hr r1 = hr r2 → r1 = r2
def ps_Rw (E : ps_E) (Γ : ps_Gh) (ow : ps_Ow) (x : Nat) (L Z : Nat → Nat) (it : Nat → Int32) : Prop := ∃ hr, ps_Rx E Γ ow x hr L Z it
def ps_Tp (E : ps_E) (Γ : ps_Gh) (ow : ps_Ow) (x n : Nat) (tb : Nat → Nat) : Prop := ow (x + 10) = 3 ∧ ∃ f, Γ (x + 10) = some (.inl (E.2.1 1, 120, .inl f)) ∧ ∀ i, i < n → f i = (nI (tb i)).toInt8.toInt32
def ps_Tr (E : ps_E) (Γ : ps_Gh) (ow : ps_Ow) (tr n : Nat) (L : Nat → Nat) : Prop := (Γ tr = some (.inr (3, [.ref (tr + 1), .int (nI n)])) ∧ ow tr = 5) ∧ ow (tr + 1) = 5 ∧ ∃ f, Γ (tr + 1) = some (.inl (E.2.1 0, 16, .inl f)) ∧ ∀ i, i < n → f i = nI (L i)
/-- all scales: sa says where (0 the scales, 1 then, 10 + k past, 40 + k images), τ what they are -/
def ps_Sx (E : ps_E) (z : Nat) (Γ : ps_Gh) (ow : ps_Ow) (x : Nat) (sa : Nat → Option Nat) (τ : Nat → Nat → Nat) : Prop :=
  (sa 0 = some (x + 11) ∧ sa 1 = some (x + 15)) ∧
  (∃ pa, Γ (x + 19) = some (ps_q (E.2.1 5) 24 pa) ∧ ow (x + 19) = 4 ∧ ∀ k, k < 24 → pa k = sa (10 + k)) ∧
  (∃ ia, Γ (x + 20) = some (ps_q (E.2.1 5) 2 ia) ∧ ow (x + 20) = 4 ∧ ∀ k, k < 2 → ia k = sa (40 + k)) ∧
  (∀ i j q, sa i = some q → sa j = some q → i = j) ∧
  ∀ i q, sa i = some q → sp_ok (τ i) ∧ ps_So E z Γ ow q (τ i)
/-- .. as the state says -/
def ps_Sl (sa : Nat → Option Nat) (τ : Nat → Nat → Nat) (S : SS) : Prop := τ 0 = S.2.1 0 ∧ (∀ k, k < S.1 3 → sa (10 + k) ≠ none ∧ τ (10 + k) = S.2.1 (10 + k)) ∧ ∀ k, k < 2 → (S.2.1 5 k ≠ 1 → sa (40 + k) = none) ∧ (S.2.1 5 k = 1 → sa (40 + k) ≠ none ∧ τ (40 + k) = S.2.1 (40 + k))
def ps_Cx (E : ps_E) (z : Nat) (Γ : ps_Gh) (ow : ps_Ow) (x : Nat) (S : SS) : Prop :=
  ∃ tr sa τ, ps_Ob Γ ow x tr S.1 ∧ ps_Rw E Γ ow x (S.2.1 3) (S.2.1 4) S.2.2 ∧ ps_Tp E Γ ow x (S.1 2) (S.2.1 1) ∧ ps_Tr E Γ ow tr (S.1 4) (S.2.1 2) ∧ ps_Sx E z Γ ow x sa τ ∧ ps_Sl sa τ S
section MN
variable {E : ps_E} {z x tr n q i : Nat} {P : Nat → Prop} {Γ Γ1 : ps_Gh} {ow ow1 : ps_Ow} {N L Z tb σ : Nat → Nat} {it : Nat → Int32} {hr : Nat → Nat} {sa : Nat → Option Nat} {τ : Nat → Nat → Nat} {S : SS}
theorem ps_Ob.kept (h : ps_Ob Γ ow x tr N) (hs : ps_sp P Γ ow Γ1 ow1) (h1 : ¬ P 1) : ps_Ob Γ1 ow1 x tr N := ⟨hs.k h.1 h.2 h1, hs.o h.1 h.2⟩
theorem ps_Rx.kept (h : ps_Rx E Γ ow x hr L Z it) (hs : ps_sp P Γ ow Γ1 ow1) (h2 : ¬ P 2) : ps_Rx E Γ1 ow1 x hr L Z it := by
  obtain ⟨⟨df, a1, a2, a3⟩, b, c, d⟩ := h
  refine ⟨⟨df, hs.k a1 a2 h2, hs.o a1 a2, a3⟩, fun r hr => ⟨hs.k (b r hr).1 (b r hr).2 h2, hs.o (b r hr).1 (b r hr).2⟩, fun r hr hz => ?_, d⟩
  obtain ⟨c1, f, c2, c3⟩ := c r hr hz
  exact ⟨hs.o c2 c1, f, hs.k c2 c1 h2, c3⟩
theorem ps_Rw.kept (h : ps_Rw E Γ ow x L Z it) (hs : ps_sp P Γ ow Γ1 ow1) (h2 : ¬ P 2) : ps_Rw E Γ1 ow1 x L Z it := by
  obtain ⟨hr, h⟩ := h
  exact ⟨hr, h.kept hs h2⟩
theorem ps_Tp.kept (h : ps_Tp E Γ ow x n tb) (hs : ps_sp P Γ ow Γ1 ow1) (h3 : ¬ P 3) : ps_Tp E Γ1 ow1 x n tb := by
  obtain ⟨a, f, b, c⟩ := h
  exact ⟨hs.o b a, f, hs.k b a h3, c⟩
theorem ps_Tr.kept (h : ps_Tr E Γ ow tr n L) (hs : ps_sp P Γ ow Γ1 ow1) (h5 : ¬ P 5) : ps_Tr E Γ1 ow1 tr n L := by
  obtain ⟨⟨a1, a2⟩, b, f, c, d⟩ := h
  exact ⟨⟨hs.k a1 a2 h5, hs.o a1 a2⟩, hs.o c b, f, hs.k c b h5, d⟩
/-- scales at q become σ, the others stay -/
theorem ps_Sx.upd (h : ps_Sx E z Γ ow x sa τ) (hi : sa i = some q) (hs : ps_sp P Γ ow Γ1 ow1) (h0 : ¬ P 0) (h4 : ¬ P 4) (hP : ∀ w, P (w + 6) → w = q) (hO : sp_ok σ) (hq : ps_So E z Γ1 ow1 q σ) : ps_Sx E z Γ1 ow1 x sa (va_up τ i σ) := by
  obtain ⟨a, ⟨pa, b1, b2, b3⟩, ⟨ia, c1, c2, c3⟩, d, e⟩ := h
  refine ⟨a, ⟨pa, hs.k b1 b2 h4, hs.o b1 b2, b3⟩, ⟨ia, hs.k c1 c2 h4, hs.o c1 c2, c3⟩, d, fun j r hj => ?_⟩
  by_cases e1 : j = i
  · subst e1
    have : r = q := Option.some.inj (hj.symm.trans hi)
    subst this
    rw [va_up_self]; exact ⟨hO, hq⟩
  · rw [va_up_ne _ _ e1]
    obtain ⟨f1, f2⟩ := e j r hj
    exact ⟨f1, f2.kept hs h0 (fun y => e1 (by have := hP r y; subst this; exact d _ _ _ hj hi))⟩
theorem ps_Sx.kept (h : ps_Sx E z Γ ow x sa τ) (hs : ps_sp P Γ ow Γ1 ow1) (h0 : ¬ P 0) (h4 : ¬ P 4) (hP : ∀ w, ¬ P (w + 6)) : ps_Sx E z Γ1 ow1 x sa τ := by
  obtain ⟨a, ⟨pa, b1, b2, b3⟩, ⟨ia, c1, c2, c3⟩, d, e⟩ := h
  exact ⟨a, ⟨pa, hs.k b1 b2 h4, hs.o b1 b2, b3⟩, ⟨ia, hs.k c1 c2 h4, hs.o c1 c2, c3⟩, d, fun j r hj => ⟨(e j r hj).1, (e j r hj).2.kept hs h0 (hP r)⟩⟩
end MN
