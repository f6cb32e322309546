/-! ps_: the trail: which bodies ran -/
set_option maxRecDepth 100000
abbrev ps_Tl (E : ps_E) (Γ : ps_Gh) (ow : ps_Ow) (tr : Nat) (L : List Nat) : Prop := ps_Tr E Γ ow tr L.length (fun i => L.getD i 0)
/-- what the trail's methods leave behind: the trail goes on by M -/
def ps_bp (E : ps_E) (Γ : ps_Gh) (H : Heap) (ow : ps_Ow) (tr : Nat) (L M : List Nat) (r : Option Value) : Option Value → Heap → Prop := fun v H1 => v = r ∧ ∃ Γ1, ps_W E Γ1 H1 ∧ ps_gf Γ H Γ1 H1 ∧ ps_sp (fun w => w = 5) Γ ow Γ1 ow ∧ ps_Tl E Γ1 ow tr (L ++ M)
/-- the one asked, who asks, and the scales -/
def ps_Hs (E : ps_E) (z : Nat) (Γ : ps_Gh) (ow : ps_Ow) (x hd a : Nat) (σ : Nat → Nat) (p : Nat) : Prop :=
  (Γ hd = some (.inr (12, [.int (nI p), .ref x])) ∧ ow hd = 0) ∧ (∃ tr N, ps_Ob Γ ow x tr N) ∧ ps_So E z Γ ow (x + 11) σ ∧ (sp_ok σ ∧ p < σ 3) ∧ Γ a = some (ps_pr (σ (9 + p)) p (σ (41 + p)) (σ (17 + p)) (σ (25 + p)) (σ (33 + p))) ∧ ow a = 0
section TRL
variable {E : ps_E} {z x tr hd a p k : Nat} {Γ Γ1 : ps_Gh} {ow ow1 : ps_Ow} {σ : Nat → Nat} {L M M1 : List Nat} {f : Nat → Int32} {S : SS} {H H1 : Heap} {v r : Option Value}
theorem ps_Hs.kept (h : ps_Hs E z Γ ow x hd a σ p) (hs : ps_sp (fun w => w = 5) Γ ow Γ1 ow1) : ps_Hs E z Γ1 ow1 x hd a σ p := by
  obtain ⟨⟨a1, a2⟩, ⟨tr, N, b⟩, c, d, e1, e2⟩ := h
  exact ⟨⟨hs.k a1 a2 (by decide), hs.o a1 a2⟩, ⟨tr, N, b.kept hs (by decide)⟩, c.kept hs (by decide) (by omega), d, hs.k e1 e2 (by decide), hs.o e1 e2⟩
theorem ps_Tl.push (h1 : Γ1 tr = some (.inr (3, [.ref (tr + 1), .int (nI (L.length + 1))]))) (o1 : ow tr = 5) (o2 : ow (tr + 1) = 5) (h2 : Γ1 (tr + 1) = some (.inl (E.2.1 0, 16, .inl (upd f L.length (nI k))))) (h3 : ∀ i, i < L.length → f i = nI (L.getD i 0)) : ps_Tl E Γ1 ow tr (L ++ [k]) := by
  have hl : (L ++ [k]).length = L.length + 1 := by simp
  show ps_Tr E Γ1 ow tr (L ++ [k]).length (fun i => (L ++ [k]).getD i 0)
  rw [hl]
  refine ⟨⟨h1, o1⟩, o2, _, h2, fun i hi => ?_⟩
  dsimp only [upd]
  by_cases q : i = L.length
  · subst q; simp
  · rw [if_neg q, h3 i (by omega)]
    rw [List.getD_eq_getElem?_getD, List.getD_eq_getElem?_getD, List.getElem?_append_left (by omega)]
theorem ps_bp.end (hv : v = r) (hW : ps_W E Γ1 H1) (hg : ps_gf Γ H Γ1 H1) (hs : ps_sp (fun w => w = 5) Γ ow Γ1 ow) (hT : ps_Tl E Γ1 ow tr M1) (hM : M1 = L ++ M) : ps_bp E Γ H ow tr L M r v H1 := ⟨hv, Γ1, hW, hg, hs, hM ▸ hT⟩
theorem ps_Sl.trl {sa : Nat → Option Nat} {τ : Nat → Nat → Nat} (h : ps_Sl sa τ S) : ps_Sl sa τ (sTr S L) := by
  obtain ⟨a, b, c⟩ := h
  refine ⟨a, fun k hk => ?_, fun k hk => ?_⟩
  · have := b k hk
    refine ⟨this.1, this.2.trans ?_⟩
    show S.2.1 (10 + k) = va_up S.2.1 2 (fun i => L.getD i 0) (10 + k)
    rw [va_up_ne _ _ (by omega)]
  · have h1 := c k hk
    refine ⟨fun q => h1.1 q, fun q => ?_⟩
    have := h1.2 q
    refine ⟨this.1, this.2.trans ?_⟩
    show S.2.1 (40 + k) = va_up S.2.1 2 (fun i => L.getD i 0) (40 + k)
    rw [va_up_ne _ _ (by omega)]
theorem sp_mL_len (σ : Nat → Nat) (p : Nat) : (sp_mL σ p).length ≤ 5 := by
  unfold sp_mL sp_oL
  repeat' split
  all_goals simp
/-- new: trail and its array, and the one who asks -/
def ps_ot (ow : ps_Ow) (q : Nat) : ps_Ow := fun a => if a = q ∨ a = q + 1 then 5 else if a = q + 2 then 0 else ow a
end TRL
theorem dw_0 : Cond.methodLink "PromiseScales" 335 ⟨ps_Pm, "size", ps_sD⟩ ∈ defaultWords_1 := by simp [defaultWords_1]
theorem dw_1 : Cond.methodLink "PromiseScales$Oath" 24 ⟨ps_Pm, "size", ps_sD⟩ ∈ defaultWords_1 := by simp [defaultWords_1]
theorem dw_2 : Cond.methodLink "PromiseScales$Plain" 15 ⟨ps_Pm, "size", ps_sD⟩ ∈ defaultWords_1 := by simp [defaultWords_1]
theorem dw_3 : Cond.methodLink "PromiseScales$Plain" 24 ⟨ps_Pm, "mark", ps_sD⟩ ∈ defaultWords_1 := by simp [defaultWords_1]
theorem dw_4 : Cond.methodLink "PromiseScales" 339 ⟨ps_Pm, "mark", ps_sD⟩ ∈ defaultWords_1 := by simp [defaultWords_1]
theorem dw_5 : Cond.methodLink "PromiseScales$Oath" 28 ⟨ps_Pm, "mark", ps_sD⟩ ∈ defaultWords_1 := by simp [defaultWords_1]
theorem dw_6 : Cond.sameMethod ps_Pm ps_Mk "size" ps_sD ∈ defaultWords_1 := by simp [defaultWords_1]
theorem dw_7 : Cond.sameMethod ps_Pm ps_Mk "mark" ps_sD ∈ defaultWords_1 := by simp [defaultWords_1]
section ASK
variable {E : ps_E} {z x : Nat} {Γ Γ1 : ps_Gh} {ow : ps_Ow} {H : Heap}
theorem ps_ot_0 (ow : ps_Ow) (q : Nat) : ps_ot ow q q = 5 := if_pos (Or.inl rfl)
theorem ps_ot_1 (ow : ps_Ow) (q : Nat) : ps_ot ow q (q + 1) = 5 := if_pos (Or.inr rfl)
theorem ps_ot_2 (ow : ps_Ow) (q : Nat) : ps_ot ow q (q + 2) = 0 := by
  unfold ps_ot
  rw [if_neg (by omega), if_pos rfl]
theorem ps_ask0 (hW : ps_W E Γ H) (ho : ow x = 1) (hx : ∃ e, Γ1 x = some e) (hk : ∀ q, q < H.size → q ≠ x → Γ1 q = Γ q) : ps_sp (fun w => w = 1) Γ ow Γ1 (ps_ot ow H.size) := fun a e ha => by
  have hlt := hW.lt ha
  have e1 : ps_ot ow H.size a = ow a := by
    unfold ps_ot
    rw [if_neg (by omega), if_neg (by omega)]
  by_cases q : a = x
  · subst q; exact ⟨⟨e1, hx⟩, fun h => absurd ho h⟩
  · have := (hk a hlt q).trans ha
    exact ⟨⟨e1, e, this⟩, fun _ => this⟩
end ASK
