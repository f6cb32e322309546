/-! ps_: rows change -/
set_option maxRecDepth 100000
section RWL
variable {E : ps_E} {z x tr k j r i : Nat} {Γ Γ1 : ps_Gh} {ow ow1 : ps_Ow} {H : Heap} {S : SS} {hr L Z : Nat → Nat} {it it' : Nat → Int32} {f F : Nat → Int32} {N N' : Nat → Nat} {T : Nat → Nat → Nat} {L' Z' : Nat → Nat} {sa : Nat → Option Nat} {τ : Nat → Nat → Nat}
theorem ps_Rx.q (h : ps_Rx E Γ ow x hr L Z it) (hr8 : r < 8) (hL : L r ≤ 2) (hZ : Z r ≤ 41) : ∃ f, ps_Rq E Γ (x + 2 + r) (L r) (Z r) (hr r) f ∧ ∀ i, i + 1 < Z r → f i = it (40 * r + i) := by
  obtain ⟨-, b, c, -⟩ := h
  have b1 := (b r hr8).1
  by_cases q : Z r = 0
  · rw [if_pos q] at b1
    exact ⟨fun _ => 0, ⟨⟨hL, hZ⟩, Or.inl ⟨q, b1⟩⟩, fun i hi => by omega⟩
  · rw [if_neg q] at b1
    obtain ⟨-, f, c2, c3⟩ := c r hr8 q
    exact ⟨f, ⟨⟨hL, hZ⟩, Or.inr ⟨q, b1, c2⟩⟩, c3⟩
theorem ps_Rx.put (h : ps_Rx E Γ ow x hr L Z it) (hr8 : r < 8) (hz : Z r ≠ 0) (hx : ∃ vs, Γ x = some (.inr (0, vs))) (gs : Γ1 (hr r) = some (.inl (E.2.1 (ps_la (L r)), Z r - 1, .inl F))) (hF : ∀ i, i + 1 < Z r → F i = it' (40 * r + i)) (hit : ∀ r2, r2 < 8 → r2 ≠ r → ∀ i, i + 1 < Z r2 → it' (40 * r2 + i) = it (40 * r2 + i)) (hf : ∀ q, q ≠ x → q ≠ hr r → Γ1 q = Γ q) : ps_Rx E Γ1 ow x hr L Z it' := by
  obtain ⟨⟨df, a1, a2, a3⟩, b, c, d⟩ := h
  obtain ⟨vs, hx⟩ := hx
  obtain ⟨o1, f1, g1, -⟩ := c r hr8 hz
  have n1 : x + 1 ≠ hr r := fun q => by
    rw [← q, a1] at g1
    exact Bool.noConfusion (show false = true from congrArg (fun e : va_E => match e with | .inl (_, _, .inl _) => true | _ => false) (Option.some.inj g1))
  refine ⟨⟨df, (hf _ (by omega) n1).trans a1, a2, a3⟩, fun r2 h2 => ⟨(hf _ (by omega) (fun q => by have := (b r2 h2).1; rw [q, g1] at this; cases this)).trans (b r2 h2).1, (b r2 h2).2⟩, fun r2 h2 z2 => ?_, d⟩
  obtain ⟨c1, f2, c2, c3⟩ := c r2 h2 z2
  by_cases q : r2 = r
  · subst q; exact ⟨c1, F, gs, hF⟩
  · exact ⟨c1, f2, (hf _ (fun y => by rw [y, hx] at c2; cases c2) (fun y => q (d _ _ h2 hr8 z2 hz y))).trans c2, fun i hi => (c3 i hi).trans (hit r2 h2 q i hi).symm⟩
theorem ps_Rx.drop (h : ps_Rx E Γ ow x hr L Z it) (hr8 : r < 8) (hx : ∃ vs, Γ x = some (.inr (0, vs))) (gs : Γ1 (x + 2 + r) = some (.inr (1, [.null]))) (hf : ∀ q, q ≠ x → q ≠ x + 2 + r → Γ1 q = Γ q) : ps_Rx E Γ1 ow x hr L (va_up Z r 0) it := by
  obtain ⟨⟨df, a1, a2, a3⟩, b, c, d⟩ := h
  obtain ⟨vs, hx⟩ := hx
  refine ⟨⟨df, (hf _ (by omega) (by omega)).trans a1, a2, a3⟩, fun r2 h2 => ?_, fun r2 h2 z2 => ?_, fun r1 r2 h1 h2 z1 z2 e => ?_⟩
  · by_cases q : r2 = r
    · subst q; rw [va_up_self, if_pos rfl]; exact ⟨gs, (b r2 h2).2⟩
    · rw [va_up_ne _ _ q]; exact ⟨(hf _ (by omega) (by omega)).trans (b r2 h2).1, (b r2 h2).2⟩
  · by_cases q : r2 = r
    · subst q; rw [va_up_self] at z2; exact absurd rfl z2
    · rw [va_up_ne _ _ q] at z2 ⊢
      obtain ⟨c1, f2, c2, c3⟩ := c r2 h2 z2
      exact ⟨c1, f2, (hf _ (fun y => by rw [y, hx] at c2; cases c2) (fun y => by rw [y, (b r hr8).1] at c2; cases c2)).trans c2, c3⟩
  · have q1 : r1 ≠ r := fun q => by subst q; rw [va_up_self] at z1; exact z1 rfl
    have q2 : r2 ≠ r := fun q => by subst q; rw [va_up_self] at z2; exact z2 rfl
    rw [va_up_ne _ _ q1] at z1
    rw [va_up_ne _ _ q2] at z2
    exact d r1 r2 h1 h2 z1 z2 e
theorem ps_Rx.new (h : ps_Rx E Γ ow x hr L Z it) (hW : ps_W E Γ H) (hr8 : r < 8) (hj : j ≤ 40) (h41 : ∀ r2, r2 < 8 → Z r2 ≤ 41) (hx : ∃ vs, Γ x = some (.inr (0, vs))) (gs : Γ1 (x + 2 + r) = some (.inr (1, [.ref H.size]))) (ga : Γ1 H.size = some (.inl (E.2.1 (ps_la k), j, .inl fun _ => 0))) (hf : ∀ q, q < H.size → q ≠ x → q ≠ x + 2 + r → Γ1 q = Γ q) :
    ps_Rx E Γ1 (va_up ow H.size 2) x (va_up hr r H.size) (va_up L r k) (va_up Z r (j + 1)) (fun q => if 40 * r ≤ q ∧ q < 40 * r + 40 then 0 else it q) := by
  obtain ⟨⟨df, a1, a2, a3⟩, b, c, d⟩ := h
  obtain ⟨vs, hx⟩ := hx
  have on : ∀ q e, Γ q = some e → va_up ow H.size 2 q = ow q := fun q e hq => va_up_ne _ _ (Nat.ne_of_lt (hW.lt hq))
  have hlt : ∀ r2, r2 < 8 → Z r2 ≠ 0 → hr r2 < H.size := fun r2 h2 z2 => by
    obtain ⟨-, f2, c2, -⟩ := c r2 h2 z2
    exact hW.lt c2
  refine ⟨⟨df, (hf _ (hW.lt a1) (by omega) (by omega)).trans a1, (on _ _ a1).trans a2, a3⟩, fun r2 h2 => ?_, fun r2 h2 z2 => ?_, fun r1 r2 h1 h2 z1 z2 e => ?_⟩
  · by_cases q : r2 = r
    · subst q
      rw [va_up_self, if_neg (by omega), va_up_self]
      exact ⟨gs, (on _ _ (b r2 h2).1).trans (b r2 h2).2⟩
    · rw [va_up_ne _ _ q, va_up_ne _ _ q]
      exact ⟨(hf _ (hW.lt (b r2 h2).1) (by omega) (by omega)).trans (b r2 h2).1, (on _ _ (b r2 h2).1).trans (b r2 h2).2⟩
  · by_cases q : r2 = r
    · subst q
      have e9 : va_up Z r2 (j + 1) r2 = j + 1 := va_up_self _ _ _
      have e8 : va_up L r2 k r2 = k := va_up_self _ _ _
      have e7 : va_up hr r2 H.size r2 = H.size := va_up_self _ _ _
      rw [e7, e8, e9]
      refine ⟨va_up_self _ _ _, fun _ => 0, ga, fun i hi => ?_⟩
      show (0 : Int32) = if 40 * r2 ≤ 40 * r2 + i ∧ 40 * r2 + i < 40 * r2 + 40 then 0 else it (40 * r2 + i)
      rw [if_pos (by omega)]
    · rw [va_up_ne _ _ q] at z2
      rw [va_up_ne _ _ q, va_up_ne _ _ q, va_up_ne _ _ q]
      obtain ⟨c1, f2, c2, c3⟩ := c r2 h2 z2
      refine ⟨(on _ _ c2).trans c1, f2, (hf _ (hW.lt c2) (fun y => by rw [y, hx] at c2; cases c2) (fun y => by rw [y, (b r hr8).1] at c2; cases c2)).trans c2, fun i hi => ?_⟩
      rw [c3 i hi]
      have := h41 r2 h2
      show it (40 * r2 + i) = if 40 * r ≤ 40 * r2 + i ∧ 40 * r2 + i < 40 * r + 40 then 0 else it (40 * r2 + i)
      rw [if_neg (by omega)]
  · by_cases q1 : r1 = r
    · by_cases q2 : r2 = r
      · exact q1.trans q2.symm
      · subst q1
        rw [va_up_self, va_up_ne _ _ q2] at e
        rw [va_up_ne _ _ q2] at z2
        have := hlt r2 h2 z2
        omega
    · by_cases q2 : r2 = r
      · subst q2
        rw [va_up_self, va_up_ne _ _ q1] at e
        rw [va_up_ne _ _ q1] at z1
        have := hlt r1 h1 z1
        omega
      · rw [va_up_ne _ _ q1, va_up_ne _ _ q2] at e
        rw [va_up_ne _ _ q1] at z1
        rw [va_up_ne _ _ q2] at z2
        exact d r1 r2 h1 h2 z1 z2 e
/-- the whole, rows and status changed -/
theorem ps_Cx.rows (hTp : ps_Tp E Γ ow x (S.1 2) (S.2.1 1)) (hTr : ps_Tr E Γ ow tr (S.1 4) (S.2.1 2)) (hSx : ps_Sx E z Γ ow x sa τ) (hSl : ps_Sl sa τ S) (hsp : ps_sp (fun w => w = 1 ∨ w = 2) Γ ow Γ1 ow1) {v : Nat} (hOb : ps_Ob Γ1 ow1 x tr (va_up S.1 0 v)) (hRw : ps_Rw E Γ1 ow1 x L' Z' it') (h3 : T 3 = L') (h4 : T 4 = Z') (hT : ∀ k, k ≠ 3 → k ≠ 4 → T k = S.2.1 k) : ps_Cx E z Γ1 ow1 x (va_up S.1 0 v, T, it') := by
  subst h3; subst h4
  refine ⟨tr, sa, τ, hOb, hRw, ?_, ?_, hSx.kept hsp (by decide) (by decide) (fun w => by omega), ?_⟩
  · show ps_Tp E Γ1 ow1 x (S.1 2) (T 1)
    rw [hT 1 (by decide) (by decide)]; exact hTp.kept hsp (by decide)
  · show ps_Tr E Γ1 ow1 tr (S.1 4) (T 2)
    rw [hT 2 (by decide) (by decide)]; exact hTr.kept hsp (by decide)
  · obtain ⟨a, b, c⟩ := hSl
    refine ⟨a.trans (hT 0 (by decide) (by decide)).symm, fun k hk => ?_, fun k hk => ?_⟩
    · have := b k hk
      exact ⟨this.1, this.2.trans (hT _ (by omega) (by omega)).symm⟩
    · have h1 := c k hk
      have e5 : T 5 = S.2.1 5 := hT 5 (by decide) (by decide)
      refine ⟨fun q => h1.1 (by rw [← e5]; exact q), fun q => ?_⟩
      have := h1.2 (by rw [← e5]; exact q)
      exact ⟨this.1, this.2.trans (hT _ (by omega) (by omega)).symm⟩
end RWL
section RWS
variable {E : ps_E} {z x tr v r w : Nat} {Γ Γ1 : ps_Gh} {ow : ps_Ow} {H : Heap} {S : SS} {sa : Nat → Option Nat} {τ : Nat → Nat → Nat}
theorem ps_Cx.stat (hOb : ps_Ob Γ ow x tr S.1) (hRw : ps_Rw E Γ ow x (S.2.1 3) (S.2.1 4) S.2.2) (hTp : ps_Tp E Γ ow x (S.1 2) (S.2.1 1)) (hTr : ps_Tr E Γ ow tr (S.1 4) (S.2.1 2)) (hSx : ps_Sx E z Γ ow x sa τ) (hSl : ps_Sl sa τ S) (hg : Γ1 x = some (ps_xo x tr (va_up S.1 0 v))) (ho : ∀ q, q ≠ x → Γ1 q = Γ q) : ps_Cx E z Γ1 ow x (sStat S v) := by
  have hsp : ps_sp (fun w => w = 1 ∨ w = 2) Γ ow Γ1 ow := ps_sp.rf.put hOb.2 (Or.inl rfl) hg ho
  have hsq : ps_sp (fun w => w = 1) Γ ow Γ1 ow := ps_sp.rf.put hOb.2 rfl hg ho
  exact ps_Cx.rows hTp hTr hSx hSl hsp ⟨hg, hOb.2⟩ (hRw.kept hsq (by decide)) rfl rfl (fun _ _ _ => rfl)
theorem ps_rsp (hW : ps_W E Γ H) (ox : ow x = 1) (or : ow w = 2) (hx : ∃ e, Γ1 x = some e) (hw : ∃ e, Γ1 w = some e) (hf : ∀ q, q < H.size → q ≠ x → q ≠ w → Γ1 q = Γ q) : ps_sp (fun w => w = 1 ∨ w = 2) Γ ow Γ1 (va_up ow H.size 2) := fun a e ha => by
  have hlt := hW.lt ha
  have e1 : va_up ow H.size 2 a = ow a := va_up_ne _ _ (Nat.ne_of_lt hlt)
  by_cases q1 : a = x
  · subst q1; exact ⟨⟨e1, hx⟩, fun h => absurd (Or.inl ox) h⟩
  · by_cases q2 : a = w
    · subst q2; exact ⟨⟨e1, hw⟩, fun h => absurd (Or.inr or) h⟩
    · have := (hf a hlt q1 q2).trans ha
      exact ⟨⟨e1, e, this⟩, fun _ => this⟩
end RWS
section RWT
variable {E : ps_E} {x r w n : Nat} {Γ Γ1 : ps_Gh} {ow : ps_Ow} {hr L Z : Nat → Nat} {it : Nat → Int32} {f : Nat → Int32} {v : Int32}
theorem ps_rsp0 (ox : ow x = 1) (or : ow w = 2) (hx : ∃ e, Γ1 x = some e) (hw : ∃ e, Γ1 w = some e) (hf : ∀ q, q ≠ x → q ≠ w → Γ1 q = Γ q) : ps_sp (fun w => w = 1 ∨ w = 2) Γ ow Γ1 ow := fun a e ha => by
  by_cases q1 : a = x
  · subst q1; exact ⟨⟨rfl, hx⟩, fun h => absurd (Or.inl ox) h⟩
  · by_cases q2 : a = w
    · subst q2; exact ⟨⟨rfl, hw⟩, fun h => absurd (Or.inr or) h⟩
    · have := (hf a q1 q2).trans ha
      exact ⟨⟨rfl, e, this⟩, fun _ => this⟩
theorem ps_Rx.set1 (h : ps_Rx E Γ ow x hr L Z it) (hr8 : r < 8) (h41 : ∀ r2, r2 < 8 → Z r2 ≤ 41) (hz : Z r ≠ 0) (hn : n + 1 < Z r) (hx : ∃ vs, Γ x = some (.inr (0, vs))) (hqf : ∀ i, i + 1 < Z r → f i = it (40 * r + i)) (gs : Γ1 (hr r) = some (.inl (E.2.1 (ps_la (L r)), Z r - 1, .inl (upd f n v)))) (hf : ∀ q, q ≠ x → q ≠ hr r → Γ1 q = Γ q) : ps_Rx E Γ1 ow x hr L Z (upd it (40 * r + n) v) := by
  refine h.put hr8 hz hx gs (fun i hi => ?_) (fun r2 h2 q i hi => ?_) hf
  · dsimp only [upd]
    by_cases q : i = n
    · subst q; rw [if_pos rfl, if_pos rfl]
    · rw [if_neg q, if_neg (by omega)]; exact hqf i hi
  · dsimp only [upd]
    have := h41 r2 h2
    have := h41 r hr8
    rw [if_neg (by omega)]
theorem ps_Rx.arr (h : ps_Rx E Γ ow x hr L Z it) (hr8 : r < 8) (hz : Z r ≠ 0) : ow (hr r) = 2 := (h.2.2.1 r hr8 hz).1
theorem ps_Rx.ane (h : ps_Rx E Γ ow x hr L Z it) (hr8 : r < 8) (hz : Z r ≠ 0) (hx : ∃ vs, Γ x = some (.inr (0, vs))) : x ≠ hr r := fun q => by
  obtain ⟨-, f, c, -⟩ := h.2.2.1 r hr8 hz
  obtain ⟨vs, hx⟩ := hx
  rw [← q, hx] at c
  cases c
end RWT
