/-! ps_: who owns a cell: 0 nobody (promises: they never change), 1 the whole's object, 2 rows, 3 tape, 4 the arrays of scales, 5 the trail, q + 6 the scales at q -/
set_option maxRecDepth 100000
abbrev ps_Ow : Type := Nat → Nat
/-- scales at q that own their cells -/
def ps_So (E : ps_E) (z : Nat) (Γ : ps_Gh) (ow : ps_Ow) (q : Nat) (σ : Nat → Nat) : Prop := ∃ mc r pf kf tf df, ps_Sd E z Γ q σ mc r pf kf tf df ∧ (ow q = q + 6 ∧ ow (q + 1) = q + 6 ∧ ow (q + 2) = q + 6 ∧ ow (q + 3) = q + 6) ∧ ((r = z ∧ σ 3 = 0) ∨ (Γ r = some (ps_q (E.2.1 6) 10 df) ∧ ow r = q + 6)) ∧ ∀ p, p < σ 3 → ow (pf p) = 0
/-- only cells of owners in P changed -/
def ps_sp (P : Nat → Prop) (Γ : ps_Gh) (ow : ps_Ow) (Γ1 : ps_Gh) (ow1 : ps_Ow) : Prop := ∀ a e, Γ a = some e → (ow1 a = ow a ∧ ∃ e1, Γ1 a = some e1) ∧ (¬ P (ow a) → Γ1 a = some e)
section SP
variable {E : ps_E} {z q : Nat} {P P2 : Nat → Prop} {Γ Γ1 Γ2 : ps_Gh} {ow ow1 ow2 : ps_Ow} {σ : Nat → Nat} {H H1 : Heap}
theorem ps_sp.rf : ps_sp P Γ ow Γ ow := fun _ e h => ⟨⟨rfl, e, h⟩, fun _ => h⟩
theorem ps_sp.k (h : ps_sp P Γ ow Γ1 ow1) {a : Nat} {e : va_E} (ha : Γ a = some e) {w : Nat} (hw : ow a = w) (hP : ¬ P w) : Γ1 a = some e := (h a e ha).2 (by rw [hw]; exact hP)
theorem ps_sp.o (h : ps_sp P Γ ow Γ1 ow1) {a : Nat} {e : va_E} (ha : Γ a = some e) {w : Nat} (hw : ow a = w) : ow1 a = w := (h a e ha).1.1.trans hw
theorem ps_sp.mono (h : ps_sp P Γ ow Γ1 ow1) (hP : ∀ w, P w → P2 w) : ps_sp P2 Γ ow Γ1 ow1 := fun a e ha => ⟨(h a e ha).1, fun z => (h a e ha).2 fun y => z (hP _ y)⟩
theorem ps_sp.tr (h1 : ps_sp P Γ ow Γ1 ow1) (h2 : ps_sp P Γ1 ow1 Γ2 ow2) : ps_sp P Γ ow Γ2 ow2 := fun a e ha => by
  obtain ⟨⟨h3, e1, h4⟩, h5⟩ := h1 a e ha
  obtain ⟨⟨h6, h7⟩, h8⟩ := h2 a e1 h4
  exact ⟨⟨h6.trans h3, h7⟩, fun y => (h2 a e (h5 y)).2 (by rw [h3]; exact y)⟩
/-- a write of one cell -/
theorem ps_sp.put (h : ps_sp P Γ ow Γ1 ow1) {a : Nat} {w : Nat} {e2 : va_E} (hw : ow1 a = w) (hP : P w) (hg : Γ2 a = some e2) (ho : ∀ b, b ≠ a → Γ2 b = Γ1 b) : ps_sp P Γ ow Γ2 ow1 := fun b e hb => by
  obtain ⟨⟨h3, e1, h4⟩, h5⟩ := h b e hb
  by_cases q : b = a
  · subst q; exact ⟨⟨h3, e2, hg⟩, fun y => absurd (by rw [← h3, hw]; exact hP) y⟩
  · exact ⟨⟨h3, e1, (ho b q).trans h4⟩, fun y => (ho b q).trans (h5 y)⟩
/-- a write of a cell that is new since the start -/
theorem ps_sp.putF (h : ps_sp P Γ ow Γ1 ow1) {a : Nat} (hf : Γ a = none) (ho : ∀ b, b ≠ a → Γ2 b = Γ1 b) : ps_sp P Γ ow Γ2 ow1 := fun b e hb => by
  obtain ⟨⟨h3, e1, h4⟩, h5⟩ := h b e hb
  have q : b ≠ a := fun q => by subst q; rw [hf] at hb; cases hb
  exact ⟨⟨h3, e1, (ho b q).trans h4⟩, fun y => (ho b q).trans (h5 y)⟩
/-- .. and it gets an owner -/
theorem ps_sp.newO (h : ps_sp P Γ ow Γ1 ow1) {a w : Nat} (hf : Γ a = none) (ho : ∀ b, b ≠ a → Γ2 b = Γ1 b) : ps_sp P Γ ow Γ2 (va_up ow1 a w) := fun b e hb => by
  obtain ⟨⟨h3, e1, h4⟩, h5⟩ := h b e hb
  have q : b ≠ a := fun q => by subst q; rw [hf] at hb; cases hb
  exact ⟨⟨(va_up_ne _ _ q).trans h3, e1, (ho b q).trans h4⟩, fun y => (ho b q).trans (h5 y)⟩
theorem ps_W.no (h : ps_W E Γ H) {a : Nat} (ha : H.size ≤ a) : Γ a = none := by
  rcases e : Γ a with _ | x
  · rfl
  · have := h.lt e; omega
theorem ps_So.kept (h : ps_So E z Γ ow q σ) (hs : ps_sp P Γ ow Γ1 ow1) (h0 : ¬ P 0) (hq : ¬ P (q + 6)) : ps_So E z Γ1 ow1 q σ := by
  obtain ⟨mc, r, pf, kf, tf, df, ⟨d0, d1, d2, d3, d4, d5, d6, d7, d8⟩, ⟨o0, o1, o2, o3⟩, hr, hp⟩ := h
  have hr1 : (r = z ∧ σ 3 = 0) ∨ (Γ1 r = some (ps_q (E.2.1 6) 10 df) ∧ ow1 r = q + 6) := by
    rcases hr with hr | hr
    · exact Or.inl hr
    · exact Or.inr ⟨hs.k hr.1 hr.2 hq, hs.o hr.1 hr.2⟩
  exact ⟨mc, r, pf, kf, tf, df, ⟨hs.k d0 o0 hq, hs.k d1 o1 hq, d2, hs.k d3 o2 hq, hs.k d4 o3 hq, d5, hr1.imp id And.left, d7, fun p h1 => hs.k (d8 p h1) (hp p h1) h0⟩, ⟨hs.o d0 o0, hs.o d1 o1, hs.o d3 o2, hs.o d4 o3⟩, hr1, fun p h1 => hs.o (d8 p h1) (hp p h1)⟩
end SP
section SOL
variable {E : ps_E} {z sq sr k : Nat} {P : Nat → Prop} {Γ Γ1 : ps_Gh} {ow ow1 : ps_Ow} {σ : Nat → Nat} {smc : Int32} {pf : Nat → Nat} {kf tf kf1 tf1 : Nat → Int32} {df : Nat → Option Nat} {b : Bool} {H H1 : Heap}
/-- scales' own three cells changed, at once -/
theorem ps_sp.three (h : ps_sp P Γ ow Γ ow) (hP : P (sq + 6)) (ho : ow sq = sq + 6 ∧ ow (sq + 1) = sq + 6 ∧ ow (sq + 3) = sq + 6) (h0 : ∃ e, Γ1 sq = some e) (h1 : ∃ e, Γ1 (sq + 1) = some e) (h3 : ∃ e, Γ1 (sq + 3) = some e) (hk : ∀ q e, Γ q = some e → q ≠ sq → q ≠ sq + 1 → q ≠ sq + 3 → Γ1 q = some e) : ps_sp P Γ ow Γ1 ow := fun a e ha => by
  by_cases q0 : a = sq
  · subst q0; exact ⟨⟨rfl, h0⟩, fun y => absurd (by rw [ho.1]; exact hP) y⟩
  · by_cases q1 : a = sq + 1
    · subst q1; exact ⟨⟨rfl, h1⟩, fun y => absurd (by rw [ho.2.1]; exact hP) y⟩
    · by_cases q3 : a = sq + 3
      · subst q3; exact ⟨⟨rfl, h3⟩, fun y => absurd (by rw [ho.2.2]; exact hP) y⟩
      · have := hk a e ha q0 q1 q3
        exact ⟨⟨rfl, e, this⟩, fun _ => this⟩
end SOL
theorem ps_Ge.mono {l : Launch} {E : ps_E} {y : MethodName} {b : ByteArray} {nL fr lo mc ms : Nat} {ret : Option FieldType} {as : List Value} {H0 : Heap} {post post' : Option Value → Heap → Prop} (h : ps_Ge l E y b nL ret fr lo mc ms as H0 post) (hp : ∀ v H1, post v H1 → post' v H1) : ps_Ge l E y b nL ret fr lo mc ms as H0 post' := by
  unfold ps_Ge Met at h ⊢
  refine MetFree.mono h (fun _ _ q => q) (fun _ _ _ _ _ q => q) (fun a st o t _ q => ⟨?_, q.2⟩)
  obtain ⟨v, h1, h2, h3⟩ := q.1
  exact ⟨v, h1, hp _ _ h2, h3⟩
theorem ps_wd {p : Program} {l : Launch} {e : Env} {R : Room} {s : State} {m : MethodId} {args : Array Value} {below : List Frame} {meth : Method} {c : Code} {H : Heap} {locs : List Loc} {Q : State → Prop} {g : JFrame} {c1 s1 c2 s2 : Nat} (h1 : c1 ≤ c2) (h2 : s1 ≤ s2) (kk : W p l e R s m args below meth c H locs c2 s2 Q g) : W p l e R s m args below meth c H locs c1 s1 Q g := W.widen h1 h2 kk
