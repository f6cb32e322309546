/-! ps_: acts are kept, scales become others -/
set_option maxRecDepth 100000
theorem sNote_lo {S : SS} (h : S.1 3 < 24) : sNote S = (va_up S.1 3 (S.1 3 + 1), va_up S.2.1 (10 + S.1 3) (S.2.1 0), S.2.2) := by
  unfold sNote
  have h2 : ¬ S.1 3 = 24 := by omega
  refine Prod.ext ?_ (Prod.ext ?_ rfl)
  · simp only [h2, if_false]
  · funext t
    simp only [h2, if_false, va_up]
section M3
variable {E : ps_E} {z x q i tr n k : Nat} {P : Nat → Prop} {Γ Γ1 Γ2 Γ3 : ps_Gh} {ow ow1 ow2 : ps_Ow} {σ σ' : Nat → Nat} {sa : Nat → Option Nat} {τ : Nat → Nat → Nat} {H H1 : Heap} {S : SS}
theorem ps_Sl.newA (h : ps_Sl sa τ S) (hn : S.1 3 ≤ n ∧ n < 24) : ps_Sl (va_up sa (10 + n) (some q)) (va_up τ (10 + n) σ) S := by
  obtain ⟨a, b, c⟩ := h
  refine ⟨(va_up_ne _ _ (by omega)).trans a, fun k hk => ?_, fun k hk => ?_⟩
  · rw [va_up_ne _ _ (by omega), va_up_ne _ _ (by omega)]; exact b k hk
  · rw [va_up_ne _ _ (by omega), va_up_ne _ _ (by omega)]; exact c k hk
theorem ps_Cx.note (hOb : ps_Ob Γ ow x tr S.1) (hRw : ps_Rw E Γ ow x (S.2.1 3) (S.2.1 4) S.2.2) (hTp : ps_Tp E Γ ow x (S.1 2) (S.2.1 1)) (hTr : ps_Tr E Γ ow tr (S.1 4) (S.2.1 2)) (hSx : ps_Sx E z Γ ow x sa τ) (hSl : ps_Sl sa τ S) (hO : sp_ok (S.2.1 0)) (h24 : S.1 3 < 24) (hq : sa (10 + S.1 3) = some q)
    (hs : ps_sp (fun w => w = q + 6) Γ ow Γ1 ow1) (hSo : ps_So E z Γ1 ow1 q (S.2.1 0)) (hg : Γ2 x = some (ps_xo x tr (va_up S.1 3 (S.1 3 + 1)))) (ho : ∀ b, b ≠ x → Γ2 b = Γ1 b) : ps_Cx E z Γ2 ow1 x (sNote S) := by
  rw [sNote_lo h24]
  have hx1 := hs.o hOb.1 hOb.2
  have h2 : ps_sp (fun w => w = 1) Γ1 ow1 Γ2 ow1 := ps_sp.rf.put hx1 rfl hg ho
  obtain ⟨a, b, c⟩ := hSl
  refine ⟨tr, sa, _, ⟨hg, hx1⟩, ?_, ?_, ?_, (hSx.upd hq hs (by omega) (by omega) (fun w hw => by omega) hO hSo).kept h2 (by omega) (by omega) (fun w => by omega), ?_⟩
  · have := (hRw.kept hs (by omega)).kept h2 (by omega)
    show ps_Rw E Γ2 ow1 x (va_up S.2.1 (10 + S.1 3) (S.2.1 0) 3) (va_up S.2.1 (10 + S.1 3) (S.2.1 0) 4) S.2.2
    rw [va_up_ne _ _ (by omega), va_up_ne _ _ (by omega)]; exact this
  · have := (hTp.kept hs (by omega)).kept h2 (by omega)
    show ps_Tp E Γ2 ow1 x (S.1 2) (va_up S.2.1 (10 + S.1 3) (S.2.1 0) 1)
    rw [va_up_ne _ _ (by omega)]; exact this
  · have := (hTr.kept hs (by omega)).kept h2 (by omega)
    show ps_Tr E Γ2 ow1 tr (S.1 4) (va_up S.2.1 (10 + S.1 3) (S.2.1 0) 2)
    rw [va_up_ne _ _ (by omega)]; exact this
  · refine ⟨?_, fun k hk => ?_, fun k hk => ?_⟩
    · show va_up τ (10 + S.1 3) (S.2.1 0) 0 = va_up S.2.1 (10 + S.1 3) (S.2.1 0) 0
      rw [va_up_ne _ _ (by omega), va_up_ne _ _ (by omega)]; exact a
    · have hk1 : k < S.1 3 + 1 := hk
      show sa (10 + k) ≠ none ∧ va_up τ (10 + S.1 3) (S.2.1 0) (10 + k) = va_up S.2.1 (10 + S.1 3) (S.2.1 0) (10 + k)
      by_cases e : k = S.1 3
      · rw [e, va_up_self, va_up_self]; exact ⟨by rw [hq]; exact fun y => (nomatch y), rfl⟩
      · rw [va_up_ne _ _ (by omega), va_up_ne _ _ (by omega)]; exact b k (by omega)
    · show (va_up S.2.1 (10 + S.1 3) (S.2.1 0) 5 k ≠ 1 → sa (40 + k) = none) ∧ (va_up S.2.1 (10 + S.1 3) (S.2.1 0) 5 k = 1 → sa (40 + k) ≠ none ∧ va_up τ (10 + S.1 3) (S.2.1 0) (40 + k) = va_up S.2.1 (10 + S.1 3) (S.2.1 0) (40 + k))
      rw [va_up_ne _ _ (show 5 ≠ 10 + S.1 3 by omega), va_up_ne _ _ (by omega), va_up_ne _ _ (by omega)]; exact c k hk
/-- the whole, its parts by name, when the scales alone become σ -/
theorem ps_Cx.scl (hOb : ps_Ob Γ ow x tr S.1) (hRw : ps_Rw E Γ ow x (S.2.1 3) (S.2.1 4) S.2.2) (hTp : ps_Tp E Γ ow x (S.1 2) (S.2.1 1)) (hTr : ps_Tr E Γ ow tr (S.1 4) (S.2.1 2)) (hSx : ps_Sx E z Γ ow x sa τ) (hSl : ps_Sl sa τ S) (hs : ps_sp (fun w => w = x + 11 + 6) Γ ow Γ1 ow1) (hO : sp_ok σ) (hSo : ps_So E z Γ1 ow1 (x + 11) σ) : ps_Cx E z Γ1 ow1 x (sSt S σ) := by
  obtain ⟨a, b, c⟩ := hSl
  refine ⟨tr, sa, _, hOb.kept hs (by omega), hRw.kept hs (by omega), hTp.kept hs (by omega), hTr.kept hs (by omega), hSx.upd hSx.1.1 hs (by omega) (by omega) (fun w hw => by omega) hO hSo, ?_, fun k hk => ?_, fun k hk => ?_⟩
  · show va_up τ 0 σ 0 = va_up S.2.1 0 σ 0
    rw [va_up_self, va_up_self]
  · show sa (10 + k) ≠ none ∧ va_up τ 0 σ (10 + k) = va_up S.2.1 0 σ (10 + k)
    rw [va_up_ne _ _ (by omega), va_up_ne _ _ (by omega)]; exact b k hk
  · show (va_up S.2.1 0 σ 5 k ≠ 1 → sa (40 + k) = none) ∧ (va_up S.2.1 0 σ 5 k = 1 → sa (40 + k) ≠ none ∧ va_up τ 0 σ (40 + k) = va_up S.2.1 0 σ (40 + k))
    rw [va_up_ne _ _ (by decide), va_up_ne _ _ (by omega), va_up_ne _ _ (by omega)]; exact c k hk
/-- .. and so many acts are kept -/
theorem ps_xo_tr {tr1 tr2 : Nat} {N1 N2 : Nat → Nat} (h : (ps_xo x tr1 N1 : va_E) = ps_xo x tr2 N2) : tr1 = tr2 := by
  have h9 := congrArg (fun e : va_E => match e with | .inr y => y.2.getD 9 .null | _ => .null) h
  have h8 : Value.ref tr1 = Value.ref tr2 := h9
  exact Value.ref.inj h8
theorem ps_Cx.acts (h : ps_Cx E z Γ ow x S) (hn : n ≤ S.1 3) (h0 : Γ x = some (ps_xo x tr S.1)) (hg : Γ1 x = some (ps_xo x tr (va_up S.1 3 n))) (ho : ∀ b, b ≠ x → Γ1 b = Γ b) : ps_Cx E z Γ1 ow x (va_up S.1 3 n, S.2) := by
  obtain ⟨tr', sa, τ, hOb, hRw, hTp, hTr, hSx, a, b, c⟩ := h
  have e : tr' = tr := ps_xo_tr (Option.some.inj (hOb.1.symm.trans h0))
  subst e
  have h2 : ps_sp (fun w => w = 1) Γ ow Γ1 ow := ps_sp.rf.put hOb.2 rfl hg ho
  exact ⟨tr', sa, τ, ⟨hg, hOb.2⟩, hRw.kept h2 (by omega), hTp.kept h2 (by omega), hTr.kept h2 (by omega), hSx.kept h2 (by omega) (by omega) (fun w => by omega), a, fun k hk => b k (Nat.lt_of_lt_of_le hk hn), c⟩
/-- an image is made -/
theorem ps_Cx.img (hOb : ps_Ob Γ ow x tr S.1) (hRw : ps_Rw E Γ ow x (S.2.1 3) (S.2.1 4) S.2.2) (hTp : ps_Tp E Γ ow x (S.1 2) (S.2.1 1)) (hTr : ps_Tr E Γ ow tr (S.1 4) (S.2.1 2)) (hSx : ps_Sx E z Γ ow x sa τ) (h0 : τ 0 = S.2.1 0) (hA : ∀ k, k < S.1 3 → sa (10 + k) ≠ none ∧ τ (10 + k) = S.2.1 (10 + k)) (hI : ∀ j, j < 2 → j ≠ k → (S.2.1 5 j ≠ 1 → sa (40 + j) = none) ∧ (S.2.1 5 j = 1 → sa (40 + j) ≠ none ∧ τ (40 + j) = S.2.1 (40 + j))) (hn : S.1 3 ≤ 24) (hk : k < 2) (hq : sa (40 + k) = some q) (hO : sp_ok (S.2.1 0)) (hs : ps_sp (fun w => w = q + 6) Γ ow Γ1 ow1) (hSo : ps_So E z Γ1 ow1 q (S.2.1 0)) :
    ps_Cx E z Γ1 ow1 x (S.1, va_up (va_up S.2.1 5 (va_up (S.2.1 5) k 1)) (40 + k) (S.2.1 0), S.2.2) := by
  have e : ∀ t, t < 40 → t ≠ 5 → va_up (va_up S.2.1 5 (va_up (S.2.1 5) k 1)) (40 + k) (S.2.1 0) t = S.2.1 t := fun t h1 h2 => by rw [va_up_ne _ _ (by omega), va_up_ne _ _ h2]
  refine ⟨tr, sa, _, hOb.kept hs (by omega), ?_, ?_, ?_, hSx.upd hq hs (by omega) (by omega) (fun w hw => by omega) hO hSo, ?_, fun j hj => ?_, fun j hj => ?_⟩
  · have := hRw.kept hs (by omega)
    dsimp only
    rw [e 3 (by omega) (by omega), e 4 (by omega) (by omega)]; exact this
  · have := hTp.kept hs (by omega)
    dsimp only
    rw [e 1 (by omega) (by omega)]; exact this
  · have := hTr.kept hs (by omega)
    dsimp only
    rw [e 2 (by omega) (by omega)]; exact this
  · show va_up τ (40 + k) (S.2.1 0) 0 = va_up (va_up S.2.1 5 (va_up (S.2.1 5) k 1)) (40 + k) (S.2.1 0) 0
    rw [e 0 (by omega) (by omega), va_up_ne _ _ (by omega)]; exact h0
  · have hj1 : j < S.1 3 := hj
    show sa (10 + j) ≠ none ∧ va_up τ (40 + k) (S.2.1 0) (10 + j) = va_up (va_up S.2.1 5 (va_up (S.2.1 5) k 1)) (40 + k) (S.2.1 0) (10 + j)
    rw [e _ (by omega) (by omega), va_up_ne _ _ (by omega)]; exact hA j hj1
  · have e5 : va_up (va_up S.2.1 5 (va_up (S.2.1 5) k 1)) (40 + k) (S.2.1 0) 5 = va_up (S.2.1 5) k 1 := by rw [va_up_ne _ _ (by omega), va_up_self]
    show (va_up (va_up S.2.1 5 (va_up (S.2.1 5) k 1)) (40 + k) (S.2.1 0) 5 j ≠ 1 → sa (40 + j) = none) ∧ (va_up (va_up S.2.1 5 (va_up (S.2.1 5) k 1)) (40 + k) (S.2.1 0) 5 j = 1 → sa (40 + j) ≠ none ∧ va_up τ (40 + k) (S.2.1 0) (40 + j) = va_up (va_up S.2.1 5 (va_up (S.2.1 5) k 1)) (40 + k) (S.2.1 0) (40 + j))
    rw [e5]
    by_cases ej : j = k
    · subst ej
      rw [va_up_self, va_up_self, va_up_self]
      exact ⟨fun y => absurd rfl y, fun _ => ⟨by rw [hq]; exact fun y => (nomatch y), rfl⟩⟩
    · rw [va_up_ne _ _ ej, va_up_ne _ _ (by omega), va_up_ne _ _ (by omega), va_up_ne _ _ (by omega)]
      exact hI j hj ej
end M3
theorem lay_1 {u k : Nat} (h : bI (u.testBit k) = nI 1) : u / 2 ^ k % 2 = 1 := by
  rw [Nat.testBit_eq_decide_div_mod_eq] at h
  by_cases e : u / 2 ^ k % 2 = 1
  · exact e
  · rw [decide_eq_false e] at h; exact absurd h (by decide)
theorem lay_0 {u k : Nat} (h : bI (u.testBit k) = nI 0) : u / 2 ^ k % 2 = 0 := by
  rw [Nat.testBit_eq_decide_div_mod_eq] at h
  by_cases e : u / 2 ^ k % 2 = 1
  · rw [decide_eq_true e] at h; exact absurd h (by decide)
  · omega
theorem lay_n1 {u k : Nat} (h : ¬ bI (u.testBit k) = nI 1) : u / 2 ^ k % 2 = 0 := by
  rw [Nat.testBit_eq_decide_div_mod_eq] at h
  by_cases e : u / 2 ^ k % 2 = 1
  · rw [decide_eq_true e] at h; exact absurd rfl h
  · omega
theorem lay_n0 {u k : Nat} (h : ¬ bI (u.testBit k) = nI 0) : u / 2 ^ k % 2 = 1 := by
  rw [Nat.testBit_eq_decide_div_mod_eq] at h
  by_cases e : u / 2 ^ k % 2 = 1
  · exact e
  · rw [decide_eq_false e] at h; exact absurd rfl h
