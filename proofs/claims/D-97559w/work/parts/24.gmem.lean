/-! ps_: the ghost heap when something is written or made; what stays as it was -/
set_option maxRecDepth 100000
theorem ps_W.put1 {E : ps_E} {Γ : ps_Gh} {H H1 : Heap} {a : Nat} {e0 e : va_E} (h : ps_W E Γ H) (ha0 : Γ a = some e0) (ha : va_at E.1 ps_CL (a, e) H1) (oq : ∀ q : Nat, q ≠ a → H1[q]? = H[q]?) : ∃ Γ1 : ps_Gh, ps_W E Γ1 H1 ∧ Γ1 a = some e ∧ ∀ b, b ≠ a → Γ1 b = Γ b :=
  ⟨_, h.put (h.A ha0) ha oq, va_up_self .., fun _ hb => va_up_ne _ _ hb⟩
theorem ps_W.new1 {E : ps_E} {Γ : ps_Gh} {H H1 : Heap} {e : va_E} (h : ps_W E Γ H) (hA : ps_A E H.size) (ha : va_at E.1 ps_CL (H.size, e) H1) (oq : ∀ q : Nat, q < H.size → H1[q]? = H[q]?) : ∃ Γ1 : ps_Gh, ps_W E Γ1 H1 ∧ Γ1 H.size = some e ∧ ∀ b, b ≠ H.size → Γ1 b = Γ b :=
  ⟨_, h.new hA ha oq, va_up_self .., fun _ hb => va_up_ne _ _ hb⟩
/-- cells that are no ghost's are as they were, and no ghost's still -/
def ps_gf (Γ : ps_Gh) (H : Heap) (Γ1 : ps_Gh) (H1 : Heap) : Prop := H.size ≤ H1.size ∧ ∀ q : Nat, q < H.size → Γ q = none → Γ1 q = none ∧ H1[q]? = H[q]?
section GF
variable {Γ Γ1 Γ2 : ps_Gh} {H H1 H2 : Heap} {a : Nat} {e0 : va_E}
theorem ps_gf.rf : ps_gf Γ H Γ H := ⟨Nat.le_refl _, fun _ _ h => ⟨h, rfl⟩⟩
theorem ps_gf.tr (h1 : ps_gf Γ H Γ1 H1) (h2 : ps_gf Γ1 H1 Γ2 H2) : ps_gf Γ H Γ2 H2 := ⟨Nat.le_trans h1.1 h2.1, fun q hq h => by
  obtain ⟨a1, a2⟩ := h1.2 q hq h
  obtain ⟨b1, b2⟩ := h2.2 q (Nat.lt_of_lt_of_le hq h1.1) a1
  exact ⟨b1, b2.trans a2⟩⟩
theorem ps_gf.put (h : ps_gf Γ H Γ1 H1) (ha : Γ1 a = some e0) (z : H2.size = H1.size) (oq : ∀ q : Nat, q ≠ a → H2[q]? = H1[q]?) (ho : ∀ b, b ≠ a → Γ2 b = Γ1 b) : ps_gf Γ H Γ2 H2 :=
  h.tr ⟨by rw [z]; exact Nat.le_refl _, fun q _ hn => by
    have hne : q ≠ a := fun e => by rw [e, ha] at hn; cases hn
    exact ⟨(ho q hne).trans hn, oq q hne⟩⟩
theorem ps_gf.new (h : ps_gf Γ H Γ1 H1) (z : H2.size = H1.size + 1) (oq : ∀ q : Nat, q < H1.size → H2[q]? = H1[q]?) (ho : ∀ b, b ≠ H1.size → Γ2 b = Γ1 b) : ps_gf Γ H Γ2 H2 :=
  h.tr ⟨by omega, fun q hq hn => ⟨(ho q (by omega)).trans hn, oq q hq⟩⟩
end GF
theorem ps_gne {Γ : ps_Gh} {a b : Nat} {e1 e2 : va_E} (h1 : Γ a = some e1) (h2 : Γ b = some e2) (h : e1 ≠ e2) : a ≠ b := fun e => by subst e; exact h (Option.some.inj (h1.symm.trans h2))
