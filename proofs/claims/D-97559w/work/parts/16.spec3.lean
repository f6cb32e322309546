/-! ps_: the state of the whole, and what each method does to it. S.1: 0 status, 1 latest fault, 2 tape's length, 3 acts, 4 trace's length; S.2.1: 0 the scales, 1 tape, 2 trace, 3 lanes, 4 sizes + 1 (0: no row), 5 which images, 10.. acts, 40.. images; S.2.2: items, 40 a row -/
set_option maxRecDepth 100000
abbrev SS : Type := (Nat → Nat) × (Nat → Nat → Nat) × (Nat → Int32)
def fnd (f : Nat) : Int32 := (-1000010) - nI f
def sStat (S : SS) (v : Nat) : SS := (va_up S.1 0 v, S.2.1, S.2.2)
def sSt (S : SS) (σ : Nat → Nat) : SS := (S.1, va_up S.2.1 0 σ, S.2.2)
def asl (lane : Nat) (v : Int32) : Int32 := if lane = 0 then v.toInt8.toInt32 else if lane = 1 then v.toInt16.toInt32 else v
def op_row (S : SS) (x y z : Int32) : Int32 × SS := if rng x 0 8 = true ∧ rng y 0 3 = true ∧ z ≤ nI 40 then (if 0 ≤ z then (z, (va_up S.1 0 0, va_up (va_up S.2.1 3 (va_up (S.2.1 3) x.toNatClampNeg y.toNatClampNeg)) 4 (va_up (S.2.1 4) x.toNatClampNeg (z.toNatClampNeg + 1)), fun q => if 40 * x.toNatClampNeg ≤ q ∧ q < 40 * x.toNatClampNeg + 40 then 0 else S.2.2 q)) else (fnd 4, sStat S 4)) else ((-1000001), S)
def op_set (S : SS) (x y v : Int32) : Int32 × SS := if rng x 0 8 = true then (if S.2.1 4 x.toNatClampNeg = 0 then (fnd 1, sStat S 1) else if rng y 0 (S.2.1 4 x.toNatClampNeg - 1) = true then (asl (S.2.1 3 x.toNatClampNeg) v, (va_up S.1 0 0, S.2.1, upd S.2.2 (40 * x.toNatClampNeg + y.toNatClampNeg) (asl (S.2.1 3 x.toNatClampNeg) v))) else (fnd 2, sStat S 2)) else ((-1000001), S)
def op_copy (S : SS) (x i y j n : Int32) : Int32 × SS := if rng x 0 8 = true ∧ rng y 0 8 = true then (if S.2.1 4 x.toNatClampNeg = 0 ∨ S.2.1 4 y.toNatClampNeg = 0 then (fnd 1, sStat S 1) else if S.2.1 3 x.toNatClampNeg ≠ S.2.1 3 y.toNatClampNeg then (fnd 5, sStat S 5) else if 0 ≤ n ∧ rng i 0 (S.2.1 4 x.toNatClampNeg - n.toNatClampNeg) = true ∧ rng j 0 (S.2.1 4 y.toNatClampNeg - n.toNatClampNeg) = true then (n, (va_up S.1 0 0, S.2.1, fun q => if 40 * y.toNatClampNeg + j.toNatClampNeg ≤ q ∧ q < 40 * y.toNatClampNeg + j.toNatClampNeg + n.toNatClampNeg then S.2.2 (40 * x.toNatClampNeg + i.toNatClampNeg + (q - (40 * y.toNatClampNeg + j.toNatClampNeg))) else S.2.2 q)) else (fnd 2, sStat S 2)) else ((-1000001), S)
def op_drop (S : SS) (x : Int32) : Int32 × SS := if rng x 0 8 = true then (if S.2.1 4 x.toNatClampNeg = 0 then (fnd 1, sStat S 1) else (nI (S.2.1 4 x.toNatClampNeg - 1), (va_up S.1 0 0, va_up S.2.1 4 (va_up (S.2.1 4) x.toNatClampNeg 0), S.2.2))) else ((-1000001), S)
def op_feed (S : SS) (x : Int32) : Int32 × SS := if rng x 0 256 = true then (if S.1 2 = 120 then ((-1000003), S) else (nI (S.1 2 + 1), (va_up S.1 2 (S.1 2 + 1), va_up S.2.1 1 (va_up (S.2.1 1) (S.1 2) x.toNatClampNeg), S.2.2))) else ((-1000001), S)
/-- an act is kept -/
def sNote (S : SS) : SS := (va_up S.1 3 (if S.1 3 = 24 then 24 else S.1 3 + 1), (fun t => if S.1 3 = 24 then (if 10 ≤ t ∧ t < 33 then S.2.1 (t + 1) else if t = 33 then S.2.1 0 else S.2.1 t) else if t = 10 + S.1 3 then S.2.1 0 else S.2.1 t), S.2.2)
def op_lay (S : SS) (x y : Int32) : Int32 × SS := if rng x 0 (S.2.1 0 3) = true ∧ rng y 0 2 = true then (if sp_open (S.2.1 0) x.toNatClampNeg = true ∧ S.2.1 0 4 / 2 ^ x.toNatClampNeg % 2 ≠ y.toNatClampNeg then (nI (sp_read (va_up (S.2.1 0) 4 (S.2.1 0 4 ^^^ 2 ^ x.toNatClampNeg)) (S.2.1 0 4 ^^^ 2 ^ x.toNatClampNeg)), sSt (sNote S) (va_up (S.2.1 0) 4 (S.2.1 0 4 ^^^ 2 ^ x.toNatClampNeg))) else ((-1000002), S)) else ((-1000001), S)
def sp_settle (σ : Nat → Nat) (p : Nat) (kept : Bool) : Nat → Nat := va_up (va_up (va_up σ (49 + p) (if kept = true then 1 else 2)) 4 (σ 4 &&& (2 ^ p ^^^ 4294967295))) (5 + σ (17 + p)) (if kept = true then (if 10 ≤ σ (5 + σ (17 + p)) then 10 else σ (5 + σ (17 + p)) + 1) else σ (5 + σ (17 + p)) - 1)
def op_settle (S : SS) (x y : Int32) : Int32 × SS := if rng x 0 (S.2.1 0 3) = true ∧ rng y 0 2 = true then (if sp_open (S.2.1 0) x.toNatClampNeg = true then (nI (sp_settle (S.2.1 0) x.toNatClampNeg (decide (y.toNatClampNeg = 1)) (5 + S.2.1 0 (17 + x.toNatClampNeg))), sSt (sNote S) (sp_settle (S.2.1 0) x.toNatClampNeg (decide (y.toNatClampNeg = 1)))) else ((-1000002), S)) else ((-1000001), S)
def op_wax (S : SS) (x : Int32) : Int32 × SS := if 1 ≤ S.2.1 0 1 then (if rng x 0 10 = true then (nI (S.2.1 0 0), sSt (sNote S) (va_up (S.2.1 0) 0 x.toNatClampNeg)) else ((-1000001), S)) else ((-1000002), S)
def op_undo (S : SS) : Int32 × SS := if S.1 3 = 0 then ((-1000002), S) else (nI (S.1 3 - 1), (va_up S.1 3 (S.1 3 - 1), va_up S.2.1 0 (S.2.1 (10 + (S.1 3 - 1))), S.2.2))
def sp_goD (σ : Nat → Nat) (h day : Nat) : Nat → Nat → Nat
  | 0 => σ
  | n + 1 => if sp_open (sp_goD σ h day n) n = true ∧ sp_goD σ h day n (33 + n) = day then sp_settle (sp_goD σ h day n) n (decide (h ≤ sp_w (sp_goD σ h day n) (n + 1))) else sp_goD σ h day n
def sp_go (σ : Nat → Nat) (h : Nat) : Nat → Nat → Nat
  | 0 => σ
  | d + 1 => sp_goD (sp_go σ h d) h d (σ 3)
def sp_kept (τ : Nat → Nat) (g : Nat) : Nat → Nat := sumR (fun p => if τ (17 + p) = g ∧ τ (49 + p) = 1 then 1 else 0) 0
def op_settles (σ : Nat → Nat) (x y z : Int32) : Int32 := if rng x 0 (σ 2) = true ∧ rng y 0 21 = true ∧ rng z 0 2 = true then (if z.toNatClampNeg = 0 then nI (sp_go σ y.toNatClampNeg 10 (5 + x.toNatClampNeg)) else nI (sp_kept (sp_go σ y.toNatClampNeg 10) x.toNatClampNeg (σ 3))) else (-1000001)
def sp_bh (σ : Nat → Nat) (g : Nat) : Nat → Nat
  | 0 => 0
  | k + 1 => if sp_go σ (sp_bh σ g k) 10 (5 + g) < sp_go σ k 10 (5 + g) then k else sp_bh σ g k
def op_bestHeavy (σ : Nat → Nat) (x : Int32) : Int32 := if rng x 0 (σ 2) = true then nI (sp_bh σ x.toNatClampNeg 21) else (-1000001)
def orR (f : Nat → Bool) : Nat → Nat
  | 0 => 0
  | k + 1 => orR f k ||| (if f k = true then 2 ^ k else 0)
def sp_so (σ : Nat → Nat) (it : Nat → Int32) (q wax stick : Nat) : Nat → Bool := allR (fun k => decide (nI (sp_by (sp_sum σ (it (q + 2 * k)).toNatClampNeg (σ 3)) wax stick) = it (q + 2 * k + 1))) 0
def op_found (S : SS) (x y z t : Int32) : Int32 × SS := if 1 ≤ S.2.1 0 1 then (if rng x 0 8 = true ∧ rng z 1 9 = true ∧ rng t 0 2 = true then (if S.2.1 4 x.toNatClampNeg = 0 then (fnd 1, sStat S 1) else if rng y 0 (S.2.1 4 x.toNatClampNeg - 2 * z.toNatClampNeg) = true then
    (if allR (fun k => rng (S.2.2 (40 * x.toNatClampNeg + y.toNatClampNeg + 2 * k)) 0 (2 ^ S.2.1 0 3)) 0 z.toNatClampNeg = true then
      (nI (if t.toNatClampNeg = 0 then orR (fun k => sp_so (S.2.1 0) S.2.2 (40 * x.toNatClampNeg + y.toNatClampNeg) k (S.2.1 0 1) z.toNatClampNeg) 10 else orR (fun k => sp_so (S.2.1 0) S.2.2 (40 * x.toNatClampNeg + y.toNatClampNeg) (S.2.1 0 0) (k + 1) z.toNatClampNeg) 5), sStat S 0)
    else ((-1000001), S)) else (fnd 2, sStat S 2)) else ((-1000001), S)) else ((-1000002), S)
def sp_npl (σ : Nat → Nat) (g : Nat) : Nat → Nat := sumR (fun p => if sp_plk σ g p = true then 1 else 0) 0
def sp_kf (σ : Nat → Nat) (it : Nat → Int32) (g q k : Nat) : Nat → Bool := allR (fun p => !(sp_plk σ g p) || decide (nI (σ (41 + p) * k / 10) = it (q + sp_npl σ g p))) 0
def op_keepsFound (S : SS) (x y z : Int32) : Int32 × SS := if rng x 0 (S.2.1 0 2) = true ∧ rng y 0 8 = true then (if S.2.1 4 y.toNatClampNeg = 0 then (fnd 1, sStat S 1) else if rng z 0 (S.2.1 4 y.toNatClampNeg - sp_npl (S.2.1 0) x.toNatClampNeg (S.2.1 0 3)) = true then
    (nI (orR (fun k => sp_kf (S.2.1 0) S.2.2 x.toNatClampNeg (40 * y.toNatClampNeg + z.toNatClampNeg) k (S.2.1 0 3)) 11), sStat S 0) else (fnd 2, sStat S 2)) else ((-1000001), S)
def op_free (x y z : Int32) : Int32 := if rng x 0 11 = true ∧ rng y 0 9 = true ∧ rng z 0 2 = true then (if z.toNatClampNeg = 0 then nI ((10 ^ y.toNatClampNeg - x.toNatClampNeg ^ y.toNatClampNeg) / Nat.gcd (10 ^ y.toNatClampNeg - x.toNatClampNeg ^ y.toNatClampNeg) (10 ^ y.toNatClampNeg)) else nI (10 ^ y.toNatClampNeg / Nat.gcd (10 ^ y.toNatClampNeg - x.toNatClampNeg ^ y.toNatClampNeg) (10 ^ y.toNatClampNeg))) else (-1000001)
def op_image (S : SS) (x : Int32) : Int32 × SS := if rng x 0 2 = true then (if 1 ≤ S.2.1 0 1 then (nI 1, (S.1, va_up (va_up S.2.1 5 (va_up (S.2.1 5) x.toNatClampNeg 1)) (40 + x.toNatClampNeg) (S.2.1 0), S.2.2)) else ((-1000002), S)) else ((-1000001), S)
def op_restore (S : SS) (x : Int32) : Int32 × SS := if rng x 0 2 = true then (if S.2.1 5 x.toNatClampNeg = 1 then (nI 1, (va_up S.1 3 0, va_up S.2.1 0 (S.2.1 (40 + x.toNatClampNeg)), S.2.2)) else ((-1000002), S)) else ((-1000001), S)
def op_as (S : SS) (x y : Int32) : Int32 × SS := if rng x 0 (S.2.1 0 3) = true ∧ rng y 0 6 = true then (if sp_isK (S.2.1 0 (9 + x.toNatClampNeg)) y.toNatClampNeg = true then (x, sStat S 0) else (fnd 3, sStat S 3)) else ((-1000001), S)
/-- which bodies run, and what they answer: mark and size of promise p -/
def sp_pm (σ : Nat → Nat) (p : Nat) : Int32 := nI p + nI (sp_w σ (p + 1))
def sp_os (σ : Nat → Nat) (p : Nat) : Int32 := nI (σ (41 + p)) - nI 100
def sp_oL (σ : Nat → Nat) (p : Nat) : List Nat := if σ (9 + p) = 5 then [14, 13, 10] else [13, 10]
def sp_oS (σ : Nat → Nat) (p : Nat) : Int32 := if σ (9 + p) = 5 then nI 2 * sp_os σ p else sp_os σ p
def sp_mL (σ : Nat → Nat) (p : Nat) : List Nat := if σ (9 + p) = 2 then [24, 21, 20] else if σ (9 + p) = 3 then [22, 21, 20] else if σ (9 + p) = 1 then [21, 20] else [23, 20] ++ sp_oL σ p
def sp_mS (σ : Nat → Nat) (p : Nat) : Int32 := if σ (9 + p) = 2 then nI 2 * sp_pm σ p else if σ (9 + p) = 3 then sp_pm σ p - nI 1000 else if σ (9 + p) = 1 then sp_pm σ p else nI p - sp_oS σ p
def sp_sL (σ : Nat → Nat) (p : Nat) : List Nat := if σ (9 + p) = 2 then [12, 11, 10] ++ sp_mL σ p else if 4 ≤ σ (9 + p) then sp_oL σ p else [11, 10] ++ sp_mL σ p
def sp_sS (σ : Nat → Nat) (p : Nat) : Int32 := if σ (9 + p) = 2 then -(nI (σ (41 + p)) + sp_mS σ p) else if 4 ≤ σ (9 + p) then sp_oS σ p else nI (σ (41 + p)) + sp_mS σ p
def sTr (S : SS) (L : List Nat) : SS := (va_up S.1 4 L.length, va_up S.2.1 2 (fun i => L.getD i 0), S.2.2)
def op_ask (S : SS) (x y : Int32) : Int32 × SS := if rng x 0 (S.2.1 0 3) = true ∧ rng y 0 2 = true then (if y.toNatClampNeg = 0 then (sp_sS (S.2.1 0) x.toNatClampNeg, sTr S (sp_sL (S.2.1 0) x.toNatClampNeg)) else (sp_mS (S.2.1 0) x.toNatClampNeg, sTr S (sp_mL (S.2.1 0) x.toNatClampNeg))) else ((-1000001), S)
def op_trace (S : SS) (x : Int32) : Int32 := if rng x 0 (S.1 4) = true then nI (S.2.1 2 x.toNatClampNeg) else (-1000000)
def sp_rows (S : SS) : Nat := sumR (fun r => if S.2.1 4 r = 0 then 0 else 1) 0 8
def op_count (S : SS) (x : Int32) : Int32 := if rng x 0 9 = true then nI (if x.toNatClampNeg = 0 then sp_rows S else if x.toNatClampNeg = 1 then S.2.1 0 3 else if x.toNatClampNeg = 2 then S.2.1 0 2 else if x.toNatClampNeg = 3 then S.2.1 0 4 else if x.toNatClampNeg = 4 then (if 1 ≤ S.2.1 0 1 then sp_read (S.2.1 0) (S.2.1 0 4) else 0) else if x.toNatClampNeg = 5 then S.2.1 0 0 else if x.toNatClampNeg = 6 then S.2.1 0 1 else if x.toNatClampNeg = 7 then S.1 3 else S.1 2) else (-1000001)
/-- what holds of the whole at any time -/
def wf (S : SS) : Prop := sp_ok (S.2.1 0) ∧ (S.1 0 ≤ 5 ∧ S.1 1 ≤ 3 ∧ S.1 2 ≤ 120 ∧ S.1 3 ≤ 24 ∧ S.1 4 ≤ 16) ∧ (∀ i, i < S.1 2 → S.2.1 1 i < 256) ∧ (∀ i, i < S.1 4 → S.2.1 2 i < 256) ∧ (∀ r, r < 8 → S.2.1 3 r ≤ 2 ∧ S.2.1 4 r ≤ 41) ∧ (∀ r i, r < 8 → i + 1 < S.2.1 4 r → asl (S.2.1 3 r) (S.2.2 (40 * r + i)) = S.2.2 (40 * r + i)) ∧ (∀ k, k < S.1 3 → sp_ok (S.2.1 (10 + k)) ∧ 1 ≤ S.2.1 (10 + k) 1) ∧ (∀ k, k < 2 → S.2.1 5 k = 1 → sp_ok (S.2.1 (40 + k)) ∧ 1 ≤ S.2.1 (40 + k) 1 ∧ 1 ≤ S.2.1 0 1) ∧ (0 < S.1 3 → 1 ≤ S.2.1 0 1)
/-- what the model's fields and arrays say of the whole -/
def smF (F : Nat → Int32) (S : SS) : Prop := F 3 = nI (S.1 0) ∧ F 9 = nI (S.1 1) ∧ F 8 = nI (S.1 2) ∧ F 17 = nI (S.1 3) ∧ F 23 = nI (S.1 4) ∧ F 4 = bI (decide (1 ≤ S.2.1 0 1))
def smA (A : Nat → Nat → Int32) (S : SS) : Prop := ps_Vw A 1 8 (S.2.1 3) ∧ (∀ r, r < 8 → A 2 r = nI (S.2.1 4 r) - nI 1) ∧ (∀ i, i < 320 → A 3 i = S.2.2 i) ∧ ps_Vw A 4 57 (S.2.1 0) ∧ (∀ i, i < S.1 2 → A 6 i = nI (S.2.1 1 i)) ∧ (∀ k, k < S.1 3 → ∀ i, i < 57 → A 8 (57 * k + i) = nI (S.2.1 (10 + k) i)) ∧ (∀ k, k < 2 → A 10 k = bI (decide (S.2.1 5 k = 1))) ∧ (∀ k, k < 2 → S.2.1 5 k = 1 → ∀ i, i < 57 → A 11 (57 * k + i) = nI (S.2.1 (40 + k) i)) ∧ (∀ i, i < S.1 4 → A 12 i = nI (S.2.1 2 i))
def sm (F : Nat → Int32) (A : Nat → Nat → Int32) (S : SS) : Prop := smF F S ∧ smA A S
def ps_MS (E : ps_E) (H : Heap) (o : Nat) (S : SS) : Prop := ∃ (F : Nat → Int32) (A : Nat → Nat → Int32), ps_Mo E H o F A ∧ sm F A S
theorem sm.stat {F : Nat → Int32} {A : Nat → Nat → Int32} {S : SS} (h : sm F A S) (v : Nat) : sm (va_up F 3 (nI v)) A (sStat S v) := ⟨⟨rfl, h.1.2⟩, h.2⟩
theorem va_eta {α : Type} {f g : Nat → α} {j : Nat} (h : ∀ k, k ≠ j → f k = g k) : f = va_up g j (f j) := by
  funext k
  by_cases e : k = j
  · subst e; rw [va_up_self]
  · rw [va_up_ne _ _ e]; exact h k e
/-- a model's method: what it answers and what becomes of the whole -/
abbrev ps_mpost (E : ps_E) (H : Heap) (o : Nat) (r : Int32 × SS) : Option Value → Heap → Prop := fun v H1 => v = some (.int r.1) ∧ ps_MS E H1 o r.2 ∧ ps_Mf o H H1
theorem ps_mend {E : ps_E} {H H1 : Heap} {o : Nat} {r : Int32 × SS} {x : Int32} {S : SS} {F : Nat → Int32} {A : Nat → Nat → Int32} (hr : r = (x, S)) (hM : ps_Mo E H1 o F A) (hs : sm F A S) (hF : ps_Mf o H H1) : ps_mpost E H o r (some (.int x)) H1 := by
  subst hr
  exact ⟨rfl, ⟨F, A, hM, hs⟩, hF⟩
theorem wf.n {S : SS} (h : wf S) : S.1 0 ≤ 5 ∧ S.1 1 ≤ 3 ∧ S.1 2 ≤ 120 ∧ S.1 3 ≤ 24 ∧ S.1 4 ≤ 16 := h.2.1
theorem wf.t {S : SS} (h : wf S) {i : Nat} (hi : i < S.1 2) : S.2.1 1 i < 256 := h.2.2.1 i hi
theorem wf.tr {S : SS} (h : wf S) {i : Nat} (hi : i < S.1 4) : S.2.1 2 i < 256 := h.2.2.2.1 i hi
theorem wf.r {S : SS} (h : wf S) {r : Nat} (hr : r < 8) : S.2.1 3 r ≤ 2 ∧ S.2.1 4 r ≤ 41 := h.2.2.2.2.1 r hr
theorem wf.i {S : SS} (h : wf S) {r i : Nat} (hr : r < 8) (hi : i + 1 < S.2.1 4 r) : asl (S.2.1 3 r) (S.2.2 (40 * r + i)) = S.2.2 (40 * r + i) := h.2.2.2.2.2.1 r i hr hi
theorem wf.a {S : SS} (h : wf S) {k : Nat} (hk : k < S.1 3) : sp_ok (S.2.1 (10 + k)) ∧ 1 ≤ S.2.1 (10 + k) 1 := h.2.2.2.2.2.2.1 k hk
theorem wf.im {S : SS} (h : wf S) {k : Nat} (hk : k < 2) (h1 : S.2.1 5 k = 1) : sp_ok (S.2.1 (40 + k)) ∧ 1 ≤ S.2.1 (40 + k) 1 ∧ 1 ≤ S.2.1 0 1 := h.2.2.2.2.2.2.2.1 k hk h1
theorem wf.th {S : SS} (h : wf S) (h1 : 0 < S.1 3) : 1 ≤ S.2.1 0 1 := h.2.2.2.2.2.2.2.2 h1
theorem ps_sh24 (x : Int32) : (x <<< (nI 24 &&& 31)) >>> (nI 24 &&& 31) = x.toInt8.toInt32 := by
  have e : nI 24 &&& 31 = 24 := by decide
  rw [e]
  apply Int32.toBitVec_inj.mp
  rw [Int32.toBitVec_shiftRight, Int32.toBitVec_shiftLeft, Int8.toBitVec_toInt32, Int32.toBitVec_toInt8]
  rw [show (24 : Int32).toBitVec.smod 32 = 24#32 by decide]
  apply BitVec.eq_of_getLsbD_eq
  intro i hi
  simp [BitVec.getLsbD_sshiftRight, BitVec.getLsbD_signExtend, BitVec.getLsbD_shiftLeft, BitVec.getLsbD_setWidth, BitVec.msb_eq_getLsbD_last]
  by_cases h : i < 8
  · simp [h, show 24 + i < 32 by omega, hi, show ¬ 32 ≤ i by omega, show ¬ 24 + i < 24 by omega]
  · simp [h, show ¬ (24 + i < 32) by omega, hi, show ¬ 32 ≤ i by omega, BitVec.getElem_signExtend]
theorem ps_sh16 (x : Int32) : (x <<< (nI 16 &&& 31)) >>> (nI 16 &&& 31) = x.toInt16.toInt32 := by
  have e : nI 16 &&& 31 = 16 := by decide
  rw [e]
  apply Int32.toBitVec_inj.mp
  rw [Int32.toBitVec_shiftRight, Int32.toBitVec_shiftLeft, Int16.toBitVec_toInt32, Int32.toBitVec_toInt16]
  rw [show (16 : Int32).toBitVec.smod 32 = 16#32 by decide]
  apply BitVec.eq_of_getLsbD_eq
  intro i hi
  simp [BitVec.getLsbD_sshiftRight, BitVec.getLsbD_signExtend, BitVec.getLsbD_shiftLeft, BitVec.getLsbD_setWidth, BitVec.msb_eq_getLsbD_last]
  by_cases h : i < 16
  · simp [h, show 16 + i < 32 by omega, hi, show ¬ 32 ≤ i by omega, show ¬ 16 + i < 16 by omega]
  · simp [h, show ¬ (16 + i < 32) by omega, hi, show ¬ 32 ≤ i by omega, BitVec.getElem_signExtend]
theorem ps_zin {x : Int32} (h0 : 0 ≤ x) (h : x ≤ nI 40) : ∃ n : Nat, n ≤ 40 ∧ x = nI n := nI_of2 (M := nI 40) (by decide) (fun q => absurd h0 (Int32.not_le.mpr q)) h
theorem ps_upc {f g : Nat → Int32} {n k : Nat} {x : Int32} (h : ∀ i, i < n → f i = g i) {i : Nat} (hi : i < n) : upd f k x i = upd g k x i := by
  unfold upd
  split
  · rfl
  · exact h i hi
theorem ps_szc {A : Nat → Int32} {g : Nat → Nat} {k v n : Nat} {x : Int32} (h : ∀ r, r < n → A r = nI (g r) - nI 1) {r : Nat} (hr : r < n) (hx : x = nI v - nI 1) : upd A k x r = nI (va_up g k v r) - nI 1 := by
  unfold upd va_up
  split
  · exact hx
  · exact h r hr
theorem ps_tpc {A : Nat → Int32} {g : Nat → Nat} {n v : Nat} (h : ∀ i, i < n → A i = nI (g i)) {i : Nat} (hi : i < n + 1) : upd A n (nI v) i = nI (va_up g n v i) := by
  unfold upd va_up
  split
  · rfl
  · exact h i (by omega)
theorem sm_t8 {A : Nat → Int32} {tb : Nat → Nat → Nat} {n j : Nat} {g : Nat → Nat} (h : ∀ k, k < n → ∀ i, i < 57 → A (57 * k + i) = nI (tb (10 + k) i)) (hj : j < 10) : ∀ k, k < n → ∀ i, i < 57 → A (57 * k + i) = nI (va_up tb j g (10 + k) i) := fun k hk i hi => by
  rw [va_up_ne _ _ (show 10 + k ≠ j by omega)]; exact h k hk i hi
theorem sm_t11 {A : Nat → Int32} {tb : Nat → Nat → Nat} {j : Nat} {g : Nat → Nat} (h : ∀ k, k < 2 → tb 5 k = 1 → ∀ i, i < 57 → A (57 * k + i) = nI (tb (40 + k) i)) (hj : j < 5) : ∀ k, k < 2 → va_up tb j g 5 k = 1 → ∀ i, i < 57 → A (57 * k + i) = nI (va_up tb j g (40 + k) i) := fun k hk h5 i hi => by
  rw [va_up_ne _ _ (show 5 ≠ j by omega)] at h5
  rw [va_up_ne _ _ (show 40 + k ≠ j by omega)]; exact h k hk h5 i hi
theorem ps_Vw.eq {A A' : Nat → Nat → Int32} {k L : Nat} {g : Nat → Nat} (h : ps_Vw A k L g) (e : A' k = A k) : ps_Vw A' k L g := fun i hi => by rw [e]; exact h i hi
theorem ps_vwc {A : Nat → Int32} {g : Nat → Nat} {n k v : Nat} (h : ∀ i, i < n → A i = nI (g i)) {i : Nat} (hi : i < n) : upd A k (nI v) i = nI (va_up g k v i) := by
  unfold upd va_up
  split
  · rfl
  · exact h i hi
theorem ps_hcS {T u : Nat} (hT : 1 ≤ T ∧ T < 2147483648) (hu : u < 2147483648) : ∀ y : Int, 0 ≤ y → (y ≤ ((nI (T - 1)).toInt64 - (nI u).toInt64).toInt ↔ y < ((T - u : Nat) : Int)) := fun y hy => by
  rw [Int64.toInt_sub, Int32.toInt_toInt64, Int32.toInt_toInt64, nI_toInt (by omega), nI_toInt (by omega), Int.bmod_eq_of_le (by omega) (by omega)]
  omega
theorem ps_xm1 (a : Nat) : nI a ^^^ (-1) = nI (a ^^^ 4294967295) := by
  rw [show (-1 : Int32) = nI 4294967295 by decide, nI_xor]
theorem sNote_lt {S : SS} {t : Nat} (ht : t < 10) : (sNote S).2.1 t = S.2.1 t := by
  simp only [sNote]
  split
  · rw [if_neg (by omega), if_neg (by omega)]
  · rw [if_neg (by omega)]
theorem sNote_im {S : SS} {k : Nat} (h : S.1 3 ≤ 24) : (sNote S).2.1 (40 + k) = S.2.1 (40 + k) := by
  simp only [sNote]
  split
  · rw [if_neg (by omega), if_neg (by omega)]
  · rw [if_neg (by omega)]
theorem sNote_n {S : SS} : (sNote S).1 3 = if S.1 3 = 24 then 24 else S.1 3 + 1 := rfl
theorem sm.note {F : Nat → Int32} {A : Nat → Nat → Int32} {S : SS} {g : Nat → Int32} (h : sm F A S) (hn : S.1 3 ≤ 24) (hg : ∀ k, k < (sNote S).1 3 → ∀ i, i < 57 → g (57 * k + i) = nI ((sNote S).2.1 (10 + k) i)) : sm (va_up F 17 (nI ((sNote S).1 3))) (va_up A 8 g) (sNote S) := by
  refine ⟨⟨h.1.1, h.1.2.1, h.1.2.2.1, rfl, h.1.2.2.2.2.1, ?_⟩, ?_, ?_, h.2.2.2.1, ?_, ?_, hg, ?_, ?_, ?_⟩
  · rw [sNote_lt (by decide)]; exact h.1.2.2.2.2.2
  · rw [sNote_lt (by decide)]; exact h.2.1
  · rw [sNote_lt (by decide)]; exact h.2.2.1
  · rw [sNote_lt (by decide)]; exact h.2.2.2.2.1
  · rw [sNote_lt (by decide)]; exact h.2.2.2.2.2.1
  · rw [sNote_lt (by decide)]; exact h.2.2.2.2.2.2.2.1
  · intro k hk h5
    rw [sNote_lt (by decide)] at h5
    rw [sNote_im hn]; exact h.2.2.2.2.2.2.2.2.1 k hk h5
  · rw [sNote_lt (by decide)]; exact h.2.2.2.2.2.2.2.2.2
theorem sm.st {F : Nat → Int32} {A : Nat → Nat → Int32} {S : SS} {σ : Nat → Nat} {g : Nat → Int32} (h : sm F A S) (hg : ∀ i, i < 57 → g i = nI (σ i)) (h1 : (1 ≤ σ 1) ↔ (1 ≤ S.2.1 0 1)) : sm F (va_up A 4 g) (sSt S σ) := by
  refine ⟨⟨h.1.1, h.1.2.1, h.1.2.2.1, h.1.2.2.2.1, h.1.2.2.2.2.1, ?_⟩, h.2.1, h.2.2.1, h.2.2.2.1, hg, h.2.2.2.2.2.1, sm_t8 (j := 0) h.2.2.2.2.2.2.1 (by decide), h.2.2.2.2.2.2.2.1, sm_t11 (j := 0) h.2.2.2.2.2.2.2.2.1 (by decide), h.2.2.2.2.2.2.2.2.2⟩
  rw [h.1.2.2.2.2.2]
  exact congrArg bI (by simp only [sSt, va_up_self, h1])
theorem sm.bx {F : Nat → Int32} {A : Nat → Nat → Int32} {S : SS} {f g : Nat → Int32} {j : Nat} (h : sm F (va_up A j g) S) : sm F (va_up (va_up A j f) j g) S := by rw [bx_uu]; exact h
theorem note_1 {S : SS} {A8 g g1 : Nat → Int32} (h8 : ∀ k, k < S.1 3 → ∀ i, i < 57 → A8 (57 * k + i) = nI (S.2.1 (10 + k) i)) (h24 : S.1 3 = 24) (hg1 : ∀ q, g1 q = if q < 1311 then A8 (q + 57) else A8 q) (hg : ∀ q, g q = if 57 * (S.1 3 - 1) ≤ q ∧ q < 57 * (S.1 3 - 1) + 57 then nI (S.2.1 0 (q - 57 * (S.1 3 - 1))) else g1 q) : ∀ k, k < (sNote S).1 3 → ∀ i, i < 57 → g (57 * k + i) = nI ((sNote S).2.1 (10 + k) i) := by
  intro k hk i hi
  rw [sNote_n, if_pos h24] at hk
  rw [hg]
  simp only [sNote, h24, if_true]
  by_cases e : k = 23
  · subst e
    rw [if_pos (by omega), if_neg (by omega), if_pos (by omega), show 57 * 23 + i - 57 * (24 - 1) = i by omega]
  · rw [if_neg (by omega), if_pos (by omega), hg1, if_pos (by omega), show 57 * k + i + 57 = 57 * (k + 1) + i by omega, h8 (k + 1) (by omega) i hi]
    rfl
theorem note_2 {S : SS} {A8 g : Nat → Int32} (h8 : ∀ k, k < S.1 3 → ∀ i, i < 57 → A8 (57 * k + i) = nI (S.2.1 (10 + k) i)) (h24 : S.1 3 ≠ 24) (hg : ∀ q, g q = if 57 * S.1 3 ≤ q ∧ q < 57 * S.1 3 + 57 then nI (S.2.1 0 (q - 57 * S.1 3)) else A8 q) : ∀ k, k < (sNote S).1 3 → ∀ i, i < 57 → g (57 * k + i) = nI ((sNote S).2.1 (10 + k) i) := by
  intro k hk i hi
  rw [sNote_n, if_neg h24] at hk
  rw [hg]
  simp only [sNote, h24, if_false]
  by_cases e : k = S.1 3
  · subst e
    rw [if_pos (by omega), if_pos rfl, show 57 * S.1 3 + i - 57 * S.1 3 = i by omega]
  · rw [if_neg (by omega), if_neg (by omega)]
    exact h8 k (by omega) i hi
/-- a step of a loop that copies: one place more -/
theorem ps_lpU {f f0 src : Nat → Int32} {b i : Nat} {x : Int32} (h : ∀ q, f q = if b ≤ q ∧ q < b + i then src (q - b) else f0 q) (hx : x = src i) : ∀ q, upd f (b + i) x q = if b ≤ q ∧ q < b + (i + 1) then src (q - b) else f0 q := by
  intro q
  unfold upd
  by_cases e : q = b + i
  · subst e
    rw [if_pos rfl, if_pos (by omega), show b + i - b = i by omega]
    exact hx
  · rw [if_neg e, h]
    by_cases e2 : b ≤ q ∧ q < b + i
    · rw [if_pos e2, if_pos (by omega)]
    · rw [if_neg e2, if_neg (by omega)]
theorem ps_lp0 {f : Nat → Int32} {src : Nat → Int32} {b : Nat} : ∀ q, f q = if b ≤ q ∧ q < b + 0 then src (q - b) else f q := fun q => by rw [if_neg (by omega)]
theorem ps_lpZ {f f0 src : Nat → Int32} {i : Nat} {x : Int32} (h : ∀ q, f q = if q < i then src q else f0 q) (hx : x = src i) : ∀ q, upd f i x q = if q < i + 1 then src q else f0 q := by
  intro q
  unfold upd
  by_cases e : q = i
  · subst e
    rw [if_pos rfl, if_pos (by omega)]
    exact hx
  · rw [if_neg e, h]
    by_cases e2 : q < i
    · rw [if_pos e2, if_pos (by omega)]
    · rw [if_neg e2, if_neg (by omega)]
theorem ps_lp00 {f src : Nat → Int32} : ∀ q, f q = if q < 0 then src q else f q := fun q => by rw [if_neg (by omega)]
theorem sm_image {F : Nat → Int32} {A : Nat → Nat → Int32} {S : SS} {f g : Nat → Int32} {k : Nat} (h : sm F A S) (hn : S.1 3 ≤ 24) (hk : k < 2) (hg : ∀ q, g q = if 57 * k ≤ q ∧ q < 57 * k + 57 then nI (S.2.1 0 (q - 57 * k)) else A 11 q) (hf : f = upd (A 10) k 1 := by rfl) : sm F (va_up (va_up A 11 g) 10 f) (S.1, va_up (va_up S.2.1 5 (va_up (S.2.1 5) k 1)) (40 + k) (S.2.1 0), S.2.2) := by
  subst hf
  have e : ∀ t, t < 40 → t ≠ 5 → va_up (va_up S.2.1 5 (va_up (S.2.1 5) k 1)) (40 + k) (S.2.1 0) t = S.2.1 t := fun t h1 h2 => by rw [va_up_ne _ _ (by omega), va_up_ne _ _ h2]
  refine ⟨⟨h.1.1, h.1.2.1, h.1.2.2.1, h.1.2.2.2.1, h.1.2.2.2.2.1, ?_⟩, ?_, ?_, h.2.2.2.1, ?_, ?_, ?_, ?_, ?_, ?_⟩ <;> dsimp only
  · simp only [e 0 (by omega) (by omega)]; exact h.1.2.2.2.2.2
  · rw [e 3 (by omega) (by omega)]; exact h.2.1
  · rw [e 4 (by omega) (by omega)]; exact h.2.2.1
  · rw [e 0 (by omega) (by omega)]; exact h.2.2.2.2.1
  · rw [e 1 (by omega) (by omega)]; exact h.2.2.2.2.2.1
  · intro q hq i hi
    have hq' : q < S.1 3 := hq
    rw [e (10 + q) (by omega) (by omega)]; exact h.2.2.2.2.2.2.1 q hq i hi
  · intro q hq
    have e5 : va_up (va_up S.2.1 5 (va_up (S.2.1 5) k 1)) (40 + k) (S.2.1 0) 5 q = va_up (S.2.1 5) k 1 q := by
      rw [va_up_ne _ _ (show 5 ≠ 40 + k by omega), va_up_self]
    simp only [e5]
    show upd (A 10) k 1 q = _
    by_cases e2 : q = k
    · subst e2; rw [pk_us]; simp only [va_up_self]; rfl
    · rw [pk_un e2]; simp only [va_up_ne _ _ e2]; exact h.2.2.2.2.2.2.2.1 q hq
  · intro q hq h5 i hi
    show g (57 * q + i) = _
    rw [hg]
    by_cases e2 : q = k
    · subst e2
      rw [if_pos (by omega), va_up_self, show 57 * q + i - 57 * q = i by omega]
    · rw [if_neg (by omega), va_up_ne _ _ (by omega), va_up_ne _ _ (by omega)]
      rw [va_up_ne _ _ (show 5 ≠ 40 + k by omega), va_up_self, va_up_ne _ _ e2] at h5
      exact h.2.2.2.2.2.2.2.2.1 q hq h5 i hi
  · rw [e 2 (by omega) (by omega)]; exact h.2.2.2.2.2.2.2.2.2
theorem sm_restore {F : Nat → Int32} {A : Nat → Nat → Int32} {S : SS} {σ : Nat → Nat} {g : Nat → Int32} {n : Nat} {x : Int32} (h : sm F A S) (h1 : 1 ≤ σ 1 ∧ 1 ≤ S.2.1 0 1) (hg : ∀ i, i < 57 → g i = nI (σ i)) (hx : x = nI n) (hn : n ≤ S.1 3) : sm (va_up F 17 x) (va_up A 4 g) (va_up S.1 3 n, va_up S.2.1 0 σ, S.2.2) := by
  have h2 := h.st hg (by omega)
  exact ⟨⟨h2.1.1, h2.1.2.1, h2.1.2.2.1, hx, h2.1.2.2.2.2⟩, h2.2.1, h2.2.2.1, h2.2.2.2.1, h2.2.2.2.2.1, h2.2.2.2.2.2.1, fun k hk => h2.2.2.2.2.2.2.1 k (Nat.lt_of_lt_of_le hk hn), h2.2.2.2.2.2.2.2⟩
theorem sp_ok_pan {σ : Nat → Nat} {v : Nat} (h : sp_ok σ) (hv : v < 256) : sp_ok (va_up σ 4 v) := by
  obtain ⟨a1, a2, a3, a4, a5, a6, a7, a8, a9⟩ := h
  refine ⟨a1, a2, a3, a4, hv, fun g hg => ?_, fun p hp => ?_, fun p hp => ?_, a9⟩
  · rw [va_up_ne _ _ (by omega)]; exact a6 g hg
  · have hp' : p < σ 3 := hp
    rw [va_up_ne _ _ (by omega), va_up_ne _ _ (by omega), va_up_ne _ _ (by omega), va_up_ne _ _ (by omega), va_up_ne _ _ (by omega), va_up_ne _ _ (by omega)]
    exact a7 p hp'
  · rw [va_up_ne _ _ (by omega)]; exact a8 p hp
theorem sp_settle_o {σ : Nat → Nat} {p q : Nat} {b : Bool} (h1 : q ≠ 49 + p) (h2 : q ≠ 4) (h3 : q ≠ 5 + σ (17 + p)) : sp_settle σ p b q = σ q := by
  unfold sp_settle
  rw [va_up_ne _ _ h3, va_up_ne _ _ h2, va_up_ne _ _ h1]
theorem sp_ok_settle {σ : Nat → Nat} {p : Nat} {b : Bool} (h : sp_ok σ) (hp : p < σ 3) : sp_ok (sp_settle σ p b) := by
  have hm := h.m
  have hpp := h.p hp
  have hk := h.k (g := σ (17 + p)) (by omega)
  have e : ∀ q, q ≠ 49 + p → q ≠ 4 → q ≠ 5 + σ (17 + p) → sp_settle σ p b q = σ q := fun q h1 h2 h3 => sp_settle_o h1 h2 h3
  obtain ⟨a1, a2, a3, a4, a5, a6, a7, a8, a9⟩ := h
  have e3 := e 3 (by omega) (by omega) (by omega)
  have e2 := e 2 (by omega) (by omega) (by omega)
  refine ⟨by rw [e 0 (by omega) (by omega) (by omega)]; exact a1, by rw [e 1 (by omega) (by omega) (by omega)]; exact a2, by rw [e2]; exact a3, by rw [e3]; exact a4, ?_, fun g hg => ?_, fun q hq => ?_, fun q hq => ?_, by rw [e 1 (by omega) (by omega) (by omega), e2, e3]; exact a9⟩
  · unfold sp_settle
    rw [va_up_ne _ _ (by omega), va_up_self]
    exact Nat.lt_of_le_of_lt Nat.and_le_left a5
  · unfold sp_settle
    by_cases e1 : g = σ (17 + p)
    · rw [e1, va_up_self]
      split
      · split <;> omega
      · omega
    · rw [va_up_ne _ _ (by omega), va_up_ne _ _ (by omega), va_up_ne _ _ (by omega)]; exact a6 g hg
  · rw [e3] at hq
    rw [e _ (by omega) (by omega) (by omega), e _ (by omega) (by omega) (by omega), e _ (by omega) (by omega) (by omega), e _ (by omega) (by omega) (by omega), e _ (by omega) (by omega) (by omega), e _ (by omega) (by omega) (by omega)]
    exact a7 q hq
  · unfold sp_settle
    rw [va_up_ne _ _ (by omega), va_up_ne _ _ (by omega)]
    by_cases e1 : q = p
    · rw [e1, va_up_self]; split <;> omega
    · rw [va_up_ne _ _ (by omega)]; exact a8 q hq
theorem sp_goD_ok {σ : Nat → Nat} (h : sp_ok σ) {hv d : Nat} : ∀ {n : Nat}, n ≤ σ 3 → sp_ok (sp_goD σ hv d n) ∧ ∀ q, (q < 4 ∨ (9 ≤ q ∧ q < 49)) → sp_goD σ hv d n q = σ q
  | 0, _ => ⟨h, fun _ _ => rfl⟩
  | n + 1, hn => by
    obtain ⟨h1, h2⟩ := sp_goD_ok h (hv := hv) (d := d) (n := n) (by omega)
    have e3 := h2 3 (by omega)
    rw [sp_goD]
    split
    · have hp := h1.p (p := n) (by omega)
      have hm := h1.m
      refine ⟨sp_ok_settle h1 (by omega), fun q hq => ?_⟩
      rw [sp_settle_o (by omega) (by omega) (by omega)]
      exact h2 q hq
    · exact ⟨h1, h2⟩
theorem sp_go_ok {σ : Nat → Nat} (h : sp_ok σ) {hv : Nat} : ∀ {d : Nat}, sp_ok (sp_go σ hv d) ∧ ∀ q, (q < 4 ∨ (9 ≤ q ∧ q < 49)) → sp_go σ hv d q = σ q
  | 0 => ⟨h, fun _ _ => rfl⟩
  | d + 1 => by
    obtain ⟨h1, h2⟩ := sp_go_ok h (hv := hv) (d := d)
    have e3 := h2 3 (by omega)
    obtain ⟨h3, h4⟩ := sp_goD_ok h1 (hv := hv) (d := d) (n := σ 3) (by omega)
    rw [sp_go]
    exact ⟨h3, fun q hq => (h4 q hq).trans (h2 q hq)⟩
theorem sm.sa {F : Nat → Int32} {A : Nat → Nat → Int32} {S : SS} {g9 g4 : Nat → Int32} {x : Int32} (h : sm F A S) (hg : ∀ i, i < 57 → g4 i = nI (S.2.1 0 i)) : sm (va_up F 19 x) (va_up (va_up A 9 g9) 4 g4) S := ⟨h.1, h.2.1, h.2.2.1, h.2.2.2.1, hg, h.2.2.2.2.2⟩
/-- the most kept so far, and one: 0 at the start -/
def sp_bm (σ : Nat → Nat) (g : Nat) : Nat → Nat
  | 0 => 0
  | k + 1 => sp_go σ (sp_bh σ g (k + 1)) 10 (5 + g) + 1
theorem sp_bh_1 {σ : Nat → Nat} {g i : Nat} (h : sp_bm σ g i ≤ sp_go σ i 10 (5 + g)) : sp_bh σ g (i + 1) = i := by
  cases i with
  | zero => simp [sp_bh]
  | succ k =>
    rw [sp_bm] at h
    rw [sp_bh, if_pos (by omega)]
theorem sp_bh_2 {σ : Nat → Nat} {g i : Nat} (h : sp_go σ i 10 (5 + g) < sp_bm σ g i) : sp_bh σ g (i + 1) = sp_bh σ g i ∧ sp_bm σ g (i + 1) = sp_bm σ g i := by
  cases i with
  | zero => exact absurd h (Nat.not_lt_zero _)
  | succ k =>
    have e : sp_bh σ g (k + 1 + 1) = sp_bh σ g (k + 1) := by
      rw [sp_bm] at h
      rw [sp_bh, if_neg (by omega)]
    exact ⟨e, by rw [sp_bm, e, sp_bm]⟩
theorem sp_bh_le {σ : Nat → Nat} {g : Nat} : ∀ {k}, sp_bh σ g (k + 1) ≤ k
  | 0 => by simp [sp_bh]
  | k + 1 => by
    have := sp_bh_le (σ := σ) (g := g) (k := k)
    rw [sp_bh]
    split <;> omega
theorem ps_leP {K M : Nat} (hK : K < 2147483648) (hM : M < 2147483648) : nI K ≤ nI M - nI 1 ↔ K < M := by
  rcases Nat.eq_zero_or_pos M with rfl | h
  · rw [show nI 0 - nI 1 = -1 by decide]
    constructor
    · intro q
      rw [Int32.le_iff_toInt_le, nI_toInt (by omega), show (-1 : Int32).toInt = -1 by decide] at q
      omega
    · intro q; omega
  · rw [pk_sub (by omega), ps_nle hK (by omega)]
    omega
theorem ps_hcD {T u : Nat} (hT : 1 ≤ T ∧ T < 1000) (hu : u < 1000) : ∀ y : Int, 0 ≤ y → (y ≤ ((nI (T - 1) - nI u).toInt64).toInt ↔ y < ((T - u : Nat) : Int)) := fun y hy => by
  rw [Int32.toInt_toInt64, Int32.toInt_sub, nI_toInt (by omega), nI_toInt (by omega), Int.bmod_eq_of_le (by omega) (by omega)]
  omega
section PSL
variable {p : Program} {l : Launch} {e : Env} {R : Room} {s : State} {m : MethodId} {args : Array Value} {below : List Frame} {meth : Method} {c : Code} {H : Heap} {locs : List Loc} {cells slots : Nat} {Q : State → Prop}
theorem ps_cleP {cc : ByteArray} {pc : Nat} {ls : Array Slot} {rest : List Value} {K M tgt : Nat} {off : Int} (hexec : p.tables.exec = Jvm.exec) (hb : c.code = cc) (hdg : decode cc pc = .ok (.if_icmp .le off, 3)) (ht : (pc : Int) + off = (tgt : Int)) (h : K < 2147483648 ∧ M < 2147483648) (kt : K < M → W p l e R s m args below meth c H locs cells slots Q (F0 m tgt ls rest)) (kf : M ≤ K → W p l e R s m args below meth c H locs cells slots Q (F0 m (pc + 3) ls rest)) : W p l e R s m args below meth c H locs cells slots Q (F0 m pc ls (.int (nI M - nI 1) :: .int (nI K) :: rest)) :=
  lv_icmp_le hexec hb hdg ht (fun q => kt ((ps_leP h.1 h.2).mp q)) (fun q => kf (Nat.not_lt.mp fun z => q ((ps_leP h.1 h.2).mpr z)))
end PSL
theorem sp_bm_le {σ : Nat → Nat} (h : sp_ok σ) {g : Nat} (hg : g < 4) : ∀ {i}, sp_bm σ g i ≤ 11
  | 0 => by simp [sp_bm]
  | k + 1 => by
    have := (sp_go_ok h (hv := sp_bh σ g (k + 1)) (d := 10)).1.k hg
    rw [sp_bm]; omega
theorem ps_cpc {f src g : Nat → Int32} {b u c q n : Nat} (hq : q < n) (hs : ∀ i, i < u → src i = g (c + i)) (hf : ∀ i, i < n → f i = g i) : (if b ≤ q ∧ q < b + u then src (q - b) else f q) = if b ≤ q ∧ q < b + u then g (c + (q - b)) else g q := by
  by_cases e : b ≤ q ∧ q < b + u
  · rw [if_pos e, if_pos e]; exact hs _ (by omega)
  · rw [if_neg e, if_neg e]; exact hf q hq
theorem orR_5 {g : Nat → Bool} : orR (fun k => decide (k < 5) && g k) 10 = orR g 5 := by simp [orR]
theorem sumR_mono {f : Nat → Nat} {lo a b : Nat} (h : a ≤ b) : sumR f lo a ≤ sumR f lo b := by
  induction b with
  | zero => rw [show a = 0 by omega]; exact Nat.le_refl _
  | succ b ih =>
    rcases Nat.lt_or_ge a (b + 1) with q | q
    · have := ih (by omega)
      rw [sumR]; omega
    · rw [show a = b + 1 by omega]; exact Nat.le_refl _
theorem ps_p10 {i k : Nat} (hi : i ≤ 8) (hk : k ≤ 10) : 10 ^ i ≤ 100000000 ∧ k ^ i ≤ 10 ^ i := ⟨Nat.pow_le_pow_right (n := 10) (by decide) hi, Nat.pow_le_pow_left hk i⟩
theorem ps_trc {F : Nat → Int32} {A : Nat → Nat → Int32} {L : List Nat} {b : Nat} (h : F 23 = nI L.length ∧ ∀ i, i < L.length → A 12 i = nI (L.getD i 0)) : nI (L.length + 1) = nI (L ++ [b]).length ∧ ∀ i, i < (L ++ [b]).length → upd (A 12) L.length (nI b) i = nI ((L ++ [b]).getD i 0) := by
  refine ⟨by simp, fun i hi => ?_⟩
  rw [List.length_append, List.length_singleton] at hi
  unfold upd
  by_cases e : i = L.length
  · subst e
    rw [if_pos rfl, List.getD_eq_getElem?_getD, List.getElem?_append_right (by omega), Nat.sub_self]
    rfl
  · rw [if_neg e, h.2 i (by omega), List.getD_eq_getElem?_getD, List.getD_eq_getElem?_getD, List.getElem?_append_left (by omega)]
