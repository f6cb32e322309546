/-! the component: weights and sums (printed by gen/comp3.py) -/
set_option maxRecDepth 100000
set_option maxHeartbeats 4000000 in
theorem m_X2_weight_ (l : Launch) {E : ps_E} (hE : ps_ZT E) {z : Nat} (hZ : ps_Zk E z) {Γ : ps_Gh} {H : Heap} (hW : ps_W E Γ H) {sq : Nat} {σ : Nat → Nat} {smc : Int32} {sr : Nat} {pf : Nat → Nat} {kf tf : Nat → Int32} {df : Nat → Option Nat} (hD : ps_Sd E z Γ sq σ smc sr pf kf tf df) (hO : sp_ok σ) : ∀ (k : Nat), k < σ 3 → ∀ (fr0 lo0 : Nat), 6 + 2 * k ≤ fr0 → 200 + 60 * k ≤ lo0 → ps_Ro l E yX2_weight cX2_weight 2 (some .int) fr0 lo0 [.ref sq, .int (nI k)] H (some (.int (nI (sp_w σ (k + 1))))) := by
  intro k
  induction k using Nat.strongRecOn with
  | _ k ih =>
    intro hk fr0 lo0 hf0 hl0
    refine ps_Ro.of (by decide) (Nat.le_of_ble_eq_true rfl) ?_
    intro p e s m args below meth c X ls hl
    have hx := X.1
    have hb := X.2.1
    have ho := X.2.2.2.1
    have hts := X.2.2.2.2.1
    have hS : va_S (ps_A E) s.heap H [] := by rw [X.2.2.2.2.2.2.2.2.1]; exact va_S.rf
    have hl : lv_has ls 2 [(0, .ref (sq)), (1, .int (nI k))] := hl
    have hm := hO.m
    have hp := hO.p hk
    have hk5 := hO.k (g := σ (17 + k)) (by omega)
    have hw := sp_w_le hO (k := k) (by omega)
    have hh := hO.h (p := k) (by omega)
    refine lv_aload_n hx hb dX2_weight_0 rfl (lv_at hl 0 rfl) ?_
    refine lv_iload_n hx hb dX2_weight_1 rfl (lv_at hl 1 rfl) ?_
    refine ps_roV X hE (m_X2_isOpen l hE hZ hW hD hO (k := k) (by omega)) (lw_V q886 q861 q862 q70 q863) (by decide +kernel) ⟨⟨(by (try dsimp only) <;> omega), (by (try dsimp only) <;> omega)⟩, (by (try dsimp only) <;> omega), (by (try dsimp only) <;> omega)⟩ (ps_rc X (ci := 2) rfl (hW.at hD.1)) hS hl.1 (As := [.int (nI k)]) (rest := []) (n := 1) rfl rfl (Nat.le_of_ble_eq_true rfl) dX2_weight_2 ?_
    refine ps_st (st' := [.int (bI (sp_open σ k))]) rfl ?_
    refine ps_ifneB (tgt := 25) hx hb dX2_weight_5 (by decide) (fun c_5 => ?_) (fun c_5 => ?_)
    · skip
      refine lv_aload_n hx hb dX2_weight_25 rfl (lv_at hl 0 rfl) ?_
      refine lv_iload_n hx hb dX2_weight_26 rfl (lv_at hl 1 rfl) ?_
      refine ps_roV X hE (m_X2_promise l hE hZ hW hD hO (k := k) (by omega)) (lw_V q887 q888 q889 q70 q890) (by decide +kernel) ⟨⟨(by (try dsimp only) <;> omega), (by (try dsimp only) <;> omega)⟩, (by (try dsimp only) <;> omega), (by (try dsimp only) <;> omega)⟩ (ps_rc X (ci := 2) rfl (hW.at hD.1)) hS hl.1 (As := [.int (nI k)]) (rest := []) (n := 1) rfl rfl (Nat.le_of_ble_eq_true rfl) dX2_weight_27 ?_
      refine ps_st (st' := [.ref (pf k)]) rfl ?_
      refine lv_aload_n hx hb dX2_weight_30 rfl (lv_at hl 0 rfl) ?_
      refine ps_get (v := .ref (sq + 1)) X in_X2 (ci := 2) rfl 3 (by decide) q171 rfl (hW.at hD.1) rfl dX2_weight_31 ?_
      refine lv_aload_n hx hb dX2_weight_34 rfl (lv_at hl 0 rfl) ?_
      refine lv_iload_n hx hb dX2_weight_35 rfl (lv_at hl 1 rfl) ?_
      refine ps_roV X hE (m_X2_promise l hE hZ hW hD hO (k := k) (by omega)) (lw_V q887 q888 q889 q70 q890) (by decide +kernel) ⟨⟨(by (try dsimp only) <;> omega), (by (try dsimp only) <;> omega)⟩, (by (try dsimp only) <;> omega), (by (try dsimp only) <;> omega)⟩ (ps_rc X (ci := 2) rfl (hW.at hD.1)) hS hl.1 (As := [.int (nI k)]) (rest := [.ref (sq + 1), .ref (pf k)]) (n := 1) rfl rfl (Nat.le_of_ble_eq_true rfl) dX2_weight_36 ?_
      refine ps_st (st' := [.ref (pf k), .ref (sq + 1), .ref (pf k)]) rfl ?_
      refine ps_pget (v := .int (nI (σ (17 + k)))) X (hO.p (p := k) (by omega)).1 2 (by decide) q675 (hW.at (hD.2.2.2.2.2.2.2.2 k (by omega))) rfl dX2_weight_39 ?_
      refine ps_iald (j := σ (17 + k)) X (hW.at hD.2.1) rfl (by show σ (17 + k) < 4; omega) (by first | decide | omega) dX2_weight_42 ?_
      refine ps_top (y := nI (σ (5 + (σ (17 + k))))) (hD.2.2.1 _ (by show σ (17 + k) < 4; omega)) ?_
      have J59 : W p l e ({ frames := fr0, cells := 0, slots := 0, locals := lo0 } : Room) s m args below meth c H [] 0 0 (MQ below (ps_ro (some (.int (nI (sp_w σ (k + 1)))))) args s 0 0 (fun _ => False)) (F0 m 59 ls [.int (pr_b (decide (k = 0)) (sp_w σ k)), .int (nI (σ (5 + (σ (17 + k))))), .ref (pf k)]) := by
        refine ps_weighs (u := σ (5 + (σ (17 + k)))) (b := (sp_w σ k)) (f := (decide (k = 0))) (by omega) (by omega) (by omega) X hE hZ hW (hD.2.2.2.2.2.2.2.2 k (by omega)) (hO.p (p := k) (by omega)).1 q892 ⟨⟨(by (try dsimp only) <;> omega), (by (try dsimp only) <;> omega)⟩, (by (try dsimp only) <;> omega), (by (try dsimp only) <;> omega)⟩ hS hl.1 (Nat.le_of_ble_eq_true rfl) dX2_weight_59 ?_
        exact ps_iretR X dX2_weight_62 (congrArg (fun z => some (Value.int z)) (congrArg nI (by rw [sp_w, if_pos c_5, sp_as_w])))
      refine lv_iload_n hx hb dX2_weight_43 rfl (lv_at hl 1 rfl) ?_
      refine ps_ifne (tgt := 52) hx hb dX2_weight_44 (by decide) (by omega) (fun c_44 => ?_) (fun c_44 => ?_)
      · skip
        refine lv_aload_n hx hb dX2_weight_52 rfl (lv_at hl 0 rfl) ?_
        refine lv_iload_n hx hb dX2_weight_53 rfl (lv_at hl 1 rfl) ?_
        refine lv_iconst (v := nI 1) hx hb dX2_weight_54 rfl ?_
        refine ps_isub hx hb dX2_weight_55 (by omega) ?_
        refine ps_roV X hE (ih (k - 1) (by omega) (by omega) (fr0 - 2) (lo0 - 60) (by omega) (by omega)) (lw_V q882 q883 q884 q70 q885) (by decide +kernel) ⟨⟨(by (try dsimp only) <;> omega), (by (try dsimp only) <;> omega)⟩, (by (try dsimp only) <;> omega), (by (try dsimp only) <;> omega)⟩ (ps_rc X (ci := 2) rfl (hW.at hD.1)) hS hl.1 (As := [.int (nI (k - 1))]) (rest := [.int (nI (σ (5 + (σ (17 + k))))), .ref (pf k)]) (n := 1) rfl rfl (Nat.le_of_ble_eq_true rfl) dX2_weight_56 ?_
        refine ps_st (st' := [.int (nI (sp_w σ (k - 1 + 1))), .int (nI (σ (5 + (σ (17 + k))))), .ref (pf k)]) rfl ?_
        exact ps_top (by rw [pr_b, if_neg (by simpa using c_44), show k - 1 + 1 = k by omega]) J59
      · skip
        refine lv_ldc (v := -1000000) hx hb ho (hts _ q891) dX2_weight_47 ?_
        refine lv_goto (tgt := 59) hx hb dX2_weight_49 (by decide) ?_
        exact ps_top (by rw [pr_b, if_pos (decide_eq_true c_44)]) J59
    · skip
      refine lv_aload_n hx hb dX2_weight_8 rfl (lv_at hl 0 rfl) ?_
      refine ps_get (v := .ref (sq + 3)) X in_X2 (ci := 2) rfl 5 (by decide) q176 rfl (hW.at hD.1) rfl dX2_weight_9 ?_
      refine lv_iload_n hx hb dX2_weight_12 rfl (lv_at hl 1 rfl) ?_
      refine ps_iald (j := k) X (hW.at hD.2.2.2.2.1) rfl (by show k < 8; omega) (by first | decide | omega) dX2_weight_13 ?_
      refine ps_top (y := nI (σ (49 + k))) (hD.2.2.2.2.2.1 _ (by show k < 8; omega)) ?_
      refine lv_iconst (v := nI 1) hx hb dX2_weight_14 rfl ?_
      refine ps_cne (tgt := 23) hx hb dX2_weight_15 (by decide) (by omega) (fun c_15 => ?_) (fun c_15 => ?_)
      · skip
        refine lv_iconst (v := nI 0) hx hb dX2_weight_23 rfl ?_
        exact ps_iretR X dX2_weight_24 (congrArg (fun z => some (Value.int z)) (congrArg nI (by first | (rw [sp_w, if_neg (by rw [c_5]; decide), if_pos c_15]; done) | (rw [sp_w, if_neg (by rw [c_5]; decide), if_neg c_15]))))
      · skip
        refine lv_bipush (v := nI 20) hx hb dX2_weight_18 rfl ?_
        refine lv_goto (tgt := 24) hx hb dX2_weight_20 (by decide) ?_
        exact ps_iretR X dX2_weight_24 (congrArg (fun z => some (Value.int z)) (congrArg nI (by first | (rw [sp_w, if_neg (by rw [c_5]; decide), if_pos c_15]; done) | (rw [sp_w, if_neg (by rw [c_5]; decide), if_neg c_15]))))
theorem m_X2_weight (l : Launch) {E : ps_E} (hE : ps_ZT E) {z : Nat} (hZ : ps_Zk E z) {Γ : ps_Gh} {H : Heap} (hW : ps_W E Γ H) {sq : Nat} {σ : Nat → Nat} {smc : Int32} {sr : Nat} {pf : Nat → Nat} {kf tf : Nat → Int32} {df : Nat → Option Nat} (hD : ps_Sd E z Γ sq σ smc sr pf kf tf df) (hO : sp_ok σ) {k : Nat} (hk : k < σ 3) : ps_Ro l E yX2_weight cX2_weight 2 (some .int) 20 620 [.ref sq, .int (nI k)] H (some (.int (nI (sp_w σ (k + 1))))) := m_X2_weight_ l hE hZ hW hD hO k hk 20 620 (by have := hO.m; omega) (by have := hO.m; omega)

set_option maxHeartbeats 4000000 in
theorem m_X2_weightOf (l : Launch) {E : ps_E} (hE : ps_ZT E) {z : Nat} (hZ : ps_Zk E z) {Γ : ps_Gh} {H : Heap} (hW : ps_W E Γ H) {sq : Nat} {σ : Nat → Nat} {smc : Int32} {sr : Nat} {pf : Nat → Nat} {kf tf : Nat → Int32} {df : Nat → Option Nat} (hD : ps_Sd E z Γ sq σ smc sr pf kf tf df) (hO : sp_ok σ) {u : Nat} (hu : u < 2147483648) : ps_Ro l E yX2_weightOf cX2_weightOf 4 (some .int) 21 641 [.ref (sq), .int (nI u)] H (some (.int (nI (sp_sum σ u (σ 3))))) := by
  refine ps_Ro.of (by decide) (Nat.le_of_ble_eq_true rfl) ?_
  intro p e s m args below meth c X ls hl
  have hx := X.1
  have hb := X.2.1
  have ho := X.2.2.2.1
  have hts := X.2.2.2.2.1
  have hS : va_S (ps_A E) s.heap H [] := by rw [X.2.2.2.2.2.2.2.2.1]; exact va_S.rf
  have hl : lv_has ls 4 [(0, .ref (sq)), (1, .int (nI u))] := hl
  have hm := hO.m
  refine lv_iconst (v := nI 0) hx hb dX2_weightOf_0 rfl ?_
  refine lv_istore_n (lv' := [(2, .int (nI 0)), (0, .ref (sq)), (1, .int (nI u))]) hx hb dX2_weightOf_1 rfl hl (by decide) rfl (fun ls hl => ?_)
  refine lv_iconst (v := nI 0) hx hb dX2_weightOf_2 rfl ?_
  refine lv_istore_n (lv' := [(3, .int (nI 0)), (2, .int (nI 0)), (0, .ref (sq)), (1, .int (nI u))]) hx hb dX2_weightOf_3 rfl hl (by decide) rfl (fun ls hl => ?_)
  have L4 : ∀ (n : Nat) (i : Nat) (hi : i ≤ σ 3) (hmu : σ 3 - i < n) (ls : Array Slot) (hl : lv_has ls 4 [(3, .int (nI i)), (2, .int (nI (sp_sum σ u i))), (0, .ref (sq)), (1, .int (nI u))]), W p l e ({ frames := 21, cells := 0, slots := 0, locals := 641 } : Room) s m args below meth c H [] 0 0 (MQ below (ps_ro (some (.int (nI (sp_sum σ u (σ 3)))))) args s 0 0 (fun _ => False)) (F0 m 4 ls []) := by
    intro n
    induction n with
    | zero => intro i hi hmu; exact absurd hmu (Nat.not_lt_zero _)
    | succ n ih4 =>
      intro i hi hmu ls hl
      refine lv_iload_n hx hb dX2_weightOf_4 rfl (lv_at hl 0 rfl) ?_
      refine lv_aload_n hx hb dX2_weightOf_5 rfl (lv_at hl 2 rfl) ?_
      refine ps_roV X hE (m_X2_many l hE hZ hW hD hO ) (lw_V q880 q647 q648 q70 q649) (by decide +kernel) ⟨⟨Nat.le_of_ble_eq_true rfl, Nat.le_of_ble_eq_true rfl⟩, Nat.le_of_ble_eq_true rfl, Nat.le_of_ble_eq_true rfl⟩ (ps_rc X (ci := 2) rfl (hW.at hD.1)) hS hl.1 (As := []) (rest := [.int (nI i)]) (n := 0) rfl rfl (Nat.le_of_ble_eq_true rfl) dX2_weightOf_6 ?_
      refine ps_st (st' := [.int (nI (σ 3)), .int (nI i)]) rfl ?_
      refine ps_cge (tgt := 38) hx hb dX2_weightOf_9 (by decide) (by omega) (fun c_9 => ?_) (fun c_9 => ?_)
      · skip
        refine lv_iload_n hx hb dX2_weightOf_38 rfl (lv_at hl 1 rfl) ?_
        exact ps_iretR X dX2_weightOf_39 (congrArg (fun z => some (Value.int z)) (congrArg nI (by rw [show i = σ 3 by omega])))
      · skip
        refine lv_iload_n hx hb dX2_weightOf_12 rfl (lv_at hl 1 rfl) ?_
        have J30 : W p l e ({ frames := 21, cells := 0, slots := 0, locals := 641 } : Room) s m args below meth c H [] 0 0 (MQ below (ps_ro (some (.int (nI (sp_sum σ u (σ 3)))))) args s 0 0 (fun _ => False)) (F0 m 30 ls [.int (nI (if u.testBit i = true then sp_w σ (i + 1) else 0)), .int (nI (sp_sum σ u i))]) := by
          refine ps_iadd hx hb dX2_weightOf_30 ?_
          refine lv_istore_n (lv' := [(2, .int (nI ((sp_sum σ u i) + (if u.testBit i = true then sp_w σ (i + 1) else 0)))), (3, .int (nI i)), (0, .ref (sq)), (1, .int (nI u))]) hx hb dX2_weightOf_31 rfl hl (by decide) rfl (fun ls hl => ?_)
          refine lv_iinc (v := nI (i + 1)) (lv' := [(3, .int (nI (i + 1))), (2, .int (nI ((sp_sum σ u i) + (if u.testBit i = true then sp_w σ (i + 1) else 0)))), (0, .ref (sq)), (1, .int (nI u))]) hx hb dX2_weightOf_32 hl (k := 1) rfl (ps_inc _) (by decide) rfl (fun ls hl => ?_)
          refine lv_goto (tgt := 4) hx hb dX2_weightOf_35 (by decide) ?_
          have e1 : (nI ((sp_sum σ u i) + (if u.testBit i = true then sp_w σ (i + 1) else 0)) : Int32) = nI (sp_sum σ u (i + 1)) := congrArg nI rfl
          have hl : lv_has ls 4 [(3, .int (nI (i + 1))), (2, .int (nI (sp_sum σ u (i + 1)))), (0, .ref (sq)), (1, .int (nI u))] := ps_lv (l1 := [(3, .int (nI (i + 1))), (2, .int (nI ((sp_sum σ u i) + (if u.testBit i = true then sp_w σ (i + 1) else 0)))), (0, .ref (sq)), (1, .int (nI u))]) (lv_sub hl [0, 1, 2, 3] rfl) (by rw [e1])
          exact ih4  (i + 1) (by omega) (by omega) ls (hl)
        refine lv_iload_n hx hb dX2_weightOf_13 rfl (lv_at hl 3 rfl) ?_
        refine lv_iload_n hx hb dX2_weightOf_14 rfl (lv_at hl 0 rfl) ?_
        refine ps_roSN (host := "PromiseScales") X hE (m_X0_has l hE (H := H) (u := u) (k := i) (by omega) (by omega)) (lw_meth q866) hZ q881 q68 q865 (by decide +kernel) ⟨⟨Nat.le_of_ble_eq_true rfl, Nat.le_of_ble_eq_true rfl⟩, Nat.le_of_ble_eq_true rfl, Nat.le_of_ble_eq_true rfl⟩ hS hl.1 (As := [.int (nI u), .int (nI i)]) (rest := [.int (nI (sp_sum σ u i))]) (n := 2) rfl rfl (Nat.le_of_ble_eq_true rfl) dX2_weightOf_15 ?_
        refine ps_st (st' := [.int (bI (Nat.testBit u i)), .int (nI (sp_sum σ u i))]) rfl ?_
        refine ps_ifeqB (tgt := 29) hx hb dX2_weightOf_18 (by decide) (fun c_18 => ?_) (fun c_18 => ?_)
        · skip
          refine lv_iconst (v := nI 0) hx hb dX2_weightOf_29 rfl ?_
          exact ps_top (congrArg nI (by first | rfl | (simp [c_9, c_18]; done) | (simp [c_9, c_18]; omega) | omega)) J30
        · skip
          have hwi := sp_w_le hO (k := i + 1) (by omega)
          refine lv_aload_n hx hb dX2_weightOf_21 rfl (lv_at hl 2 rfl) ?_
          refine lv_iload_n hx hb dX2_weightOf_22 rfl (lv_at hl 0 rfl) ?_
          refine ps_roV X hE (m_X2_weight l hE hZ hW hD hO (k := i) (by omega)) (lw_V q882 q883 q884 q70 q885) (by decide +kernel) ⟨⟨Nat.le_of_ble_eq_true rfl, Nat.le_of_ble_eq_true rfl⟩, Nat.le_of_ble_eq_true rfl, Nat.le_of_ble_eq_true rfl⟩ (ps_rc X (ci := 2) rfl (hW.at hD.1)) hS hl.1 (As := [.int (nI i)]) (rest := [.int (nI (sp_sum σ u i))]) (n := 1) rfl rfl (Nat.le_of_ble_eq_true rfl) dX2_weightOf_23 ?_
          refine ps_st (st' := [.int (nI (sp_w σ (i + 1))), .int (nI (sp_sum σ u i))]) rfl ?_
          refine lv_goto (tgt := 30) hx hb dX2_weightOf_26 (by decide) ?_
          exact ps_top (congrArg nI (by first | rfl | (simp [c_9, c_18]; done) | (simp [c_9, c_18]; omega) | omega)) J30
  have hl : lv_has ls 4 [(3, .int (nI 0)), (2, .int (nI (sp_sum σ u 0))), (0, .ref (sq)), (1, .int (nI u))] := lv_sub hl [0, 1, 2, 3] rfl
  exact L4 ((σ 3 - 0) + 1) 0 (by omega) (Nat.lt_succ_self _) ls (hl)

set_option maxHeartbeats 4000000 in
theorem m_X2_reads (l : Launch) {E : ps_E} (hE : ps_ZT E) {z : Nat} (hZ : ps_Zk E z) {Γ : ps_Gh} {H : Heap} (hW : ps_W E Γ H) {sq : Nat} {σ : Nat → Nat} {smc : Int32} {sr : Nat} {pf : Nat → Nat} {kf tf : Nat → Int32} {df : Nat → Option Nat} (hD : ps_Sd E z Γ sq σ smc sr pf kf tf df) (hO : sp_ok σ) {u : Nat} (hu : u < 2147483648) (h1 : 1 ≤ σ 1) : ps_Ro l E yX2_reads cX2_reads 2 (some .int) 22 664 [.ref (sq), .int (nI u)] H (some (.int (nI (sp_read σ u)))) := by
  refine ps_Ro.of (by decide) (Nat.le_of_ble_eq_true rfl) ?_
  intro p e s m args below meth c X ls hl
  have hx := X.1
  have hb := X.2.1
  have ho := X.2.2.2.1
  have hts := X.2.2.2.2.1
  have hS : va_S (ps_A E) s.heap H [] := by rw [X.2.2.2.2.2.2.2.2.1]; exact va_S.rf
  have hl : lv_has ls 2 [(0, .ref (sq)), (1, .int (nI u))] := hl
  have hm := hO.m
  have hsum := sp_sum_le hO (set := u) (k := σ 3) (Nat.le_refl _)
  refine lv_aload_n hx hb dX2_reads_0 rfl (lv_at hl 0 rfl) ?_
  refine lv_iload_n hx hb dX2_reads_1 rfl (lv_at hl 1 rfl) ?_
  refine ps_roV X hE (m_X2_weightOf l hE hZ hW hD hO (u := u) (by omega)) (lw_V q876 q877 q878 q70 q879) (by decide +kernel) ⟨⟨Nat.le_of_ble_eq_true rfl, Nat.le_of_ble_eq_true rfl⟩, Nat.le_of_ble_eq_true rfl, Nat.le_of_ble_eq_true rfl⟩ (ps_rc X (ci := 2) rfl (hW.at hD.1)) hS hl.1 (As := [.int (nI u)]) (rest := []) (n := 1) rfl rfl (Nat.le_of_ble_eq_true rfl) dX2_reads_2 ?_
  refine ps_st (st' := [.int (nI (sp_sum σ u (σ 3)))]) rfl ?_
  refine lv_aload_n hx hb dX2_reads_5 rfl (lv_at hl 0 rfl) ?_
  refine ps_get (v := .int (nI (σ 0))) X in_X2 (ci := 2) rfl 0 (by decide) q162 rfl (hW.at hD.1) rfl dX2_reads_6 ?_
  refine lv_aload_n hx hb dX2_reads_9 rfl (lv_at hl 0 rfl) ?_
  refine ps_get (v := .int (nI (σ 1))) X in_X2 (ci := 2) rfl 1 (by decide) q165 rfl (hW.at hD.1) rfl dX2_reads_10 ?_
  refine ps_roSN (host := "PromiseScales") X hE (m_X0_readsBy l hE (H := H) (u := sp_sum σ u (σ 3)) (x := σ 0) (y := σ 1) (by omega) (by omega) (by omega)) (lw_meth q919) hZ q917 q68 q918 (by decide +kernel) ⟨⟨Nat.le_of_ble_eq_true rfl, Nat.le_of_ble_eq_true rfl⟩, Nat.le_of_ble_eq_true rfl, Nat.le_of_ble_eq_true rfl⟩ hS hl.1 (As := [.int (nI (sp_sum σ u (σ 3))), .int (nI (σ 0)), .int (nI (σ 1))]) (rest := []) (n := 3) rfl rfl (Nat.le_of_ble_eq_true rfl) dX2_reads_13 ?_
  refine ps_st (st' := [.int (nI (sp_by (sp_sum σ u (σ 3)) (σ 0) (σ 1)))]) rfl ?_
  exact ps_iretR X dX2_reads_16 (congrArg (fun z => some (Value.int z)) (congrArg nI (by first | rfl | (simp [sp_read]; done) | (simp [sp_read]; omega) | omega)))

set_option maxHeartbeats 4000000 in
theorem m_X2_open (l : Launch) {E : ps_E} (hE : ps_ZT E) {z : Nat} (hZ : ps_Zk E z) {Γ : ps_Gh} {H : Heap} (hW : ps_W E Γ H) {sq : Nat} {σ : Nat → Nat} {smc : Int32} {sr : Nat} {pf : Nat → Nat} {kf tf : Nat → Int32} {df : Nat → Option Nat} (hD : ps_Sd E z Γ sq σ smc sr pf kf tf df) (hO : sp_ok σ) : ps_Ro l E yX2_open cX2_open 3 (some .int) 3 52 [.ref (sq)] H (some (.int (nI (orR (fun p => sp_open σ p) (σ 3))))) := by
  refine ps_Ro.of (by decide) (Nat.le_of_ble_eq_true rfl) ?_
  intro p e s m args below meth c X ls hl
  have hx := X.1
  have hb := X.2.1
  have ho := X.2.2.2.1
  have hts := X.2.2.2.2.1
  have hS : va_S (ps_A E) s.heap H [] := by rw [X.2.2.2.2.2.2.2.2.1]; exact va_S.rf
  have hl : lv_has ls 3 [(0, .ref (sq))] := hl
  have hm := hO.m
  refine lv_iconst (v := nI 0) hx hb dX2_open_0 rfl ?_
  refine lv_istore_n (lv' := [(1, .int (nI 0)), (0, .ref (sq))]) hx hb dX2_open_1 rfl hl (by decide) rfl (fun ls hl => ?_)
  refine lv_iconst (v := nI 0) hx hb dX2_open_2 rfl ?_
  refine lv_istore_n (lv' := [(2, .int (nI 0)), (1, .int (nI 0)), (0, .ref (sq))]) hx hb dX2_open_3 rfl hl (by decide) rfl (fun ls hl => ?_)
  have L4 : ∀ (n : Nat) (i : Nat) (hi : i ≤ σ 3) (hmu : σ 3 - i < n) (ls : Array Slot) (hl : lv_has ls 3 [(2, .int (nI i)), (1, .int (nI (orR (fun p => sp_open σ p) i))), (0, .ref (sq))]), W p l e ({ frames := 3, cells := 0, slots := 0, locals := 52 } : Room) s m args below meth c H [] 0 0 (MQ below (ps_ro (some (.int (nI (orR (fun p => sp_open σ p) (σ 3)))))) args s 0 0 (fun _ => False)) (F0 m 4 ls []) := by
    intro n
    induction n with
    | zero => intro i hi hmu; exact absurd hmu (Nat.not_lt_zero _)
    | succ n ih4 =>
      intro i hi hmu ls hl
      refine lv_iload_n hx hb dX2_open_4 rfl (lv_at hl 0 rfl) ?_
      refine lv_aload_n hx hb dX2_open_5 rfl (lv_at hl 2 rfl) ?_
      refine ps_roV X hE (m_X2_many l hE hZ hW hD hO ) (lw_V q880 q647 q648 q70 q649) (by decide +kernel) ⟨⟨Nat.le_of_ble_eq_true rfl, Nat.le_of_ble_eq_true rfl⟩, Nat.le_of_ble_eq_true rfl, Nat.le_of_ble_eq_true rfl⟩ (ps_rc X (ci := 2) rfl (hW.at hD.1)) hS hl.1 (As := []) (rest := [.int (nI i)]) (n := 0) rfl rfl (Nat.le_of_ble_eq_true rfl) dX2_open_6 ?_
      refine ps_st (st' := [.int (nI (σ 3)), .int (nI i)]) rfl ?_
      refine ps_cge (tgt := 36) hx hb dX2_open_9 (by decide) (by omega) (fun c_9 => ?_) (fun c_9 => ?_)
      · skip
        refine lv_iload_n hx hb dX2_open_36 rfl (lv_at hl 1 rfl) ?_
        exact ps_iretR X dX2_open_37 (congrArg (fun z => some (Value.int z)) (congrArg nI (by rw [show i = σ 3 by omega])))
      · skip
        refine lv_iload_n hx hb dX2_open_12 rfl (lv_at hl 1 rfl) ?_
        have J28 : W p l e ({ frames := 3, cells := 0, slots := 0, locals := 52 } : Room) s m args below meth c H [] 0 0 (MQ below (ps_ro (some (.int (nI (orR (fun p => sp_open σ p) (σ 3)))))) args s 0 0 (fun _ => False)) (F0 m 28 ls [.int (nI (if sp_open σ i = true then 2 ^ i else 0)), .int (nI (orR (fun p => sp_open σ p) i))]) := by
          refine lv_ior hx hb dX2_open_28 ?_
          refine ps_top (y := nI ((orR (fun p => sp_open σ p) i) ||| (if sp_open σ i = true then 2 ^ i else 0))) (nI_or _ _) ?_
          refine lv_istore_n (lv' := [(1, .int (nI ((orR (fun p => sp_open σ p) i) ||| (if sp_open σ i = true then 2 ^ i else 0)))), (2, .int (nI i)), (0, .ref (sq))]) hx hb dX2_open_29 rfl hl (by decide) rfl (fun ls hl => ?_)
          refine lv_iinc (v := nI (i + 1)) (lv' := [(2, .int (nI (i + 1))), (1, .int (nI ((orR (fun p => sp_open σ p) i) ||| (if sp_open σ i = true then 2 ^ i else 0)))), (0, .ref (sq))]) hx hb dX2_open_30 hl (k := 1) rfl (ps_inc _) (by decide) rfl (fun ls hl => ?_)
          refine lv_goto (tgt := 4) hx hb dX2_open_33 (by decide) ?_
          have e1 : (nI ((orR (fun p => sp_open σ p) i) ||| (if sp_open σ i = true then 2 ^ i else 0)) : Int32) = nI (orR (fun p => sp_open σ p) (i + 1)) := congrArg nI rfl
          have hl : lv_has ls 3 [(2, .int (nI (i + 1))), (1, .int (nI (orR (fun p => sp_open σ p) (i + 1)))), (0, .ref (sq))] := ps_lv (l1 := [(2, .int (nI (i + 1))), (1, .int (nI ((orR (fun p => sp_open σ p) i) ||| (if sp_open σ i = true then 2 ^ i else 0)))), (0, .ref (sq))]) (lv_sub hl [0, 1, 2] rfl) (by rw [e1])
          exact ih4  (i + 1) (by omega) (by omega) ls (hl)
        refine lv_aload_n hx hb dX2_open_13 rfl (lv_at hl 2 rfl) ?_
        refine lv_iload_n hx hb dX2_open_14 rfl (lv_at hl 0 rfl) ?_
        refine ps_roV X hE (m_X2_isOpen l hE hZ hW hD hO (k := i) (by omega)) (lw_V q886 q861 q862 q70 q863) (by decide +kernel) ⟨⟨Nat.le_of_ble_eq_true rfl, Nat.le_of_ble_eq_true rfl⟩, Nat.le_of_ble_eq_true rfl, Nat.le_of_ble_eq_true rfl⟩ (ps_rc X (ci := 2) rfl (hW.at hD.1)) hS hl.1 (As := [.int (nI i)]) (rest := [.int (nI (orR (fun p => sp_open σ p) i))]) (n := 1) rfl rfl (Nat.le_of_ble_eq_true rfl) dX2_open_15 ?_
        refine ps_st (st' := [.int (bI (sp_open σ i)), .int (nI (orR (fun p => sp_open σ p) i))]) rfl ?_
        refine ps_ifeqB (tgt := 27) hx hb dX2_open_18 (by decide) (fun c_18 => ?_) (fun c_18 => ?_)
        · skip
          refine lv_iconst (v := nI 0) hx hb dX2_open_27 rfl ?_
          exact ps_top (congrArg nI (by first | rfl | (simp [c_9, c_18]; done) | (simp [c_9, c_18]; omega) | omega)) J28
        · skip
          refine lv_iconst (v := nI 1) hx hb dX2_open_21 rfl ?_
          refine lv_iload_n hx hb dX2_open_22 rfl (lv_at hl 0 rfl) ?_
          refine lv_ishl hx hb dX2_open_23 ?_
          refine ps_top (y := nI (2 ^ i)) (ps_shl1 (by omega)) ?_
          refine lv_goto (tgt := 28) hx hb dX2_open_24 (by decide) ?_
          exact ps_top (congrArg nI (by first | rfl | (simp [c_9, c_18]; done) | (simp [c_9, c_18]; omega) | omega)) J28
  have hl : lv_has ls 3 [(2, .int (nI 0)), (1, .int (nI (orR (fun p => sp_open σ p) 0))), (0, .ref (sq))] := lv_sub hl [0, 1, 2] rfl
  exact L4 ((σ 3 - 0) + 1) 0 (by omega) (Nat.lt_succ_self _) ls (hl)
