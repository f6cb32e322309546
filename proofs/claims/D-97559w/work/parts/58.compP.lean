/-! the component: worded (printed by gen/comp16.py) -/
set_option maxRecDepth 100000
/-- cells that were known are known as they were -/
theorem ps_Sd.all {E : ps_E} {z q sr : Nat} {Γ Γ1 : ps_Gh} {σ : Nat → Nat} {smc : Int32} {pf : Nat → Nat} {kf tf : Nat → Int32} {df : Nat → Option Nat} (h : ps_Sd E z Γ q σ smc sr pf kf tf df) (hk : ∀ a e, Γ a = some e → Γ1 a = some e) : ps_Sd E z Γ1 q σ smc sr pf kf tf df := by
  obtain ⟨d0, d1, d2, d3, d4, d5, d6, d7, d8⟩ := h
  exact ⟨hk _ _ d0, hk _ _ d1, d2, hk _ _ d3, hk _ _ d4, d5, d6.imp id (hk _ _), d7, fun p hp => hk _ _ (d8 p hp)⟩
theorem ps_Cx.all {E : ps_E} {z x : Nat} {Γ Γ1 : ps_Gh} {ow : ps_Ow} {S : SS} (h : ps_Cx E z Γ ow x S) (hk : ∀ a e, Γ a = some e → Γ1 a = some e) : ps_Cx E z Γ1 ow x S := by
  have hs : ps_sp (fun _ => False) Γ ow Γ1 ow := fun a e ha => ⟨⟨rfl, e, hk a e ha⟩, fun _ => hk a e ha⟩
  obtain ⟨tr, sa, τ, hOb, hRw, hTp, hTr, hSx, hSl⟩ := h
  exact ⟨tr, sa, τ, hOb.kept hs (fun h => h), hRw.kept hs (fun h => h), hTp.kept hs (fun h => h), hTr.kept hs (fun h => h), hSx.kept hs (fun h => h) (fun h => h) (fun _ h => h), hSl⟩

set_option maxHeartbeats 4000000 in
theorem m_X0_wordedAs (l : Launch) {E : ps_E} (hE : ps_ZT E) {z : Nat} (hZ : ps_Zk E z) {Γ : ps_Gh} {H : Heap} (hW : ps_W E Γ H) {x tr : Nat} {N : Nat → Nat} (hX : Γ x = some (ps_xo x tr N)) {σ : Nat → Nat} {smc : Int32} {sr : Nat} {pf : Nat → Nat} {kf tf : Nat → Int32} {df : Nat → Option Nat} (hD : ps_Sd E z Γ (x + 11) σ smc sr pf kf tf df) (hO : sp_ok σ) {k d : Nat} (hk : k < σ 3) (hd : 1 ≤ d ∧ d ≤ 5) : ps_Ge l E yX0_wordedAs cX0_wordedAs 5 (some .int) 21 641 1 5 [.ref (x), .int (nI k), .int (nI d)] H (fun v H1 => v = some (.int (nI (sp_as σ k d (sp_w σ k)))) ∧ H1.size = H.size + 1 ∧ ∃ Γ1, ps_W E Γ1 H1 ∧ ps_gf Γ H Γ1 H1 ∧ ∀ a e, Γ a = some e → Γ1 a = some e) := by
  refine ps_Ge.of (by decide) (Nat.le_of_ble_eq_true rfl) ?_
  intro p e s m args below meth c X ls hl
  have hx := X.1
  have hb := X.2.1
  have ho := X.2.2.2.1
  have hts := X.2.2.2.2.1
  have hS : va_S (ps_A E) s.heap H [] := by rw [X.2.2.2.2.2.2.2.2.1]; exact va_S.rf
  have hl : lv_has ls 5 [(0, .ref (x)), (1, .int (nI k)), (2, .int (nI d))] := hl
  have hm := hO.m
  have hp := hO.p hk
  have hk5 := hO.k (g := σ (17 + k)) (by omega)
  have hw := sp_w_le hO (k := k) (by omega)
  refine lv_aload_n hx hb dX0_wordedAs_0 rfl (lv_at hl 0 rfl) ?_
  refine ps_get (v := .ref (x + 11)) X in_X0 (ci := 0) rfl 4 (by decide) q216 rfl (hW.at hX) rfl dX0_wordedAs_1 ?_
  refine lv_iload_n hx hb dX0_wordedAs_4 rfl (lv_at hl 1 rfl) ?_
  refine ps_roV X hE (m_X2_promise l hE hZ hW hD hO (k := k) (by omega)) (lw_V q930 q888 q889 q70 q890) (by decide +kernel) ⟨⟨Nat.le_of_ble_eq_true rfl, Nat.le_of_ble_eq_true rfl⟩, Nat.le_of_ble_eq_true rfl, Nat.le_of_ble_eq_true rfl⟩ (ps_rc X (ci := 2) rfl (hW.at hD.1)) hS hl.1 (As := [.int (nI k)]) (rest := []) (n := 1) rfl rfl (Nat.le_of_ble_eq_true rfl) dX0_wordedAs_5 ?_
  refine ps_st (st' := [.ref (pf k)]) rfl ?_
  refine lv_astore_n (lv' := [(3, .ref (pf k)), (0, .ref (x)), (1, .int (nI k)), (2, .int (nI d))]) hx hb dX0_wordedAs_8 rfl hl (by decide) rfl (fun ls hl => ?_)
  refine lv_iload_n hx hb dX0_wordedAs_9 rfl (lv_at hl 3 rfl) ?_
  refine lv_iload_n hx hb dX0_wordedAs_10 rfl (lv_at hl 2 rfl) ?_
  refine lv_aload_n hx hb dX0_wordedAs_11 rfl (lv_at hl 0 rfl) ?_
  refine ps_pget (v := .int (nI (σ (17 + k)))) X (hO.p (p := k) (by omega)).1 2 (by decide) q676 (hW.at (hD.2.2.2.2.2.2.2.2 k (by omega))) rfl dX0_wordedAs_12 ?_
  refine lv_aload_n hx hb dX0_wordedAs_15 rfl (lv_at hl 0 rfl) ?_
  refine ps_pget (v := .int (nI (σ (25 + k)))) X (hO.p (p := k) (by omega)).1 3 (by decide) q679 (hW.at (hD.2.2.2.2.2.2.2.2 k (by omega))) rfl dX0_wordedAs_16 ?_
  refine lv_aload_n hx hb dX0_wordedAs_19 rfl (lv_at hl 0 rfl) ?_
  refine ps_pget (v := .int (nI (σ (33 + k)))) X (hO.p (p := k) (by omega)).1 4 (by decide) q682 (hW.at (hD.2.2.2.2.2.2.2.2 k (by omega))) rfl dX0_wordedAs_20 ?_
  refine lv_aload_n hx hb dX0_wordedAs_23 rfl (lv_at hl 0 rfl) ?_
  refine ps_likely  X hE hZ hW (hD.2.2.2.2.2.2.2.2 k (by omega)) (hO.p (p := k) (by omega)).1 q948 ⟨⟨Nat.le_of_ble_eq_true rfl, Nat.le_of_ble_eq_true rfl⟩, Nat.le_of_ble_eq_true rfl, Nat.le_of_ble_eq_true rfl⟩ hS hl.1 (Nat.le_of_ble_eq_true rfl) dX0_wordedAs_24 ?_
  refine ps_geS X hE (m_X0_promiseBy l hE hZ hW (Nat.le_trans (hW.A hX) (Nat.le_of_lt (hW.lt hX))) (kd := d) (n := k) (gv := σ (17 + k)) (dd := σ (25 + k)) (dy := σ (33 + k)) (lk := σ (41 + k)) hd) (lw_S q1020 q661 q68 q662) (by decide +kernel) ⟨⟨Nat.le_of_ble_eq_true rfl, Nat.le_of_ble_eq_true rfl⟩, Nat.le_of_ble_eq_true rfl, Nat.le_of_ble_eq_true rfl⟩ hS hl.1 (As := [.int (nI d), .int (nI k), .int (nI (σ (17 + k))), .int (nI (σ (25 + k))), .int (nI (σ (33 + k))), .int (nI (σ (41 + k)))]) (rest := []) (n := 6) rfl rfl (Nat.le_of_ble_eq_true rfl) dX0_wordedAs_27 (fun v5 H1 locs2 hp3 hS4 => ?_)
  obtain ⟨hv9, hz10, Γ6, hW7, hgf8, hg11, ho12⟩ := hp3
  subst hv9
  have hka13 : ∀ a e, Γ a = some e → Γ6 a = some e := fun a e h => (ho12 a (Nat.ne_of_lt (hW.lt h))).trans h
  refine ps_st (st' := [.ref (H.size)]) rfl ?_
  refine lv_astore (lv' := [(4, .ref (H.size)), (3, .ref (pf k)), (0, .ref (x)), (1, .int (nI k)), (2, .int (nI d))]) hx hb dX0_wordedAs_30 hl (by decide) rfl (fun ls hl => ?_)
  refine lv_aload hx hb dX0_wordedAs_32 (lv_at hl 0 rfl) ?_
  refine lv_aload_n hx hb dX0_wordedAs_34 rfl (lv_at hl 2 rfl) ?_
  refine ps_get (v := .ref (x + 11)) X in_X0 (ci := 0) rfl 4 (by decide) q216 rfl (hW7.at (hka13 _ _ hX)) rfl dX0_wordedAs_35 ?_
  refine ps_get (v := .ref (x + 11 + 1)) X in_X2 (ci := 2) rfl 3 (by decide) q173 rfl (hW7.at (hka13 _ _ hD.1)) rfl dX0_wordedAs_38 ?_
  refine lv_aload_n hx hb dX0_wordedAs_41 rfl (lv_at hl 1 rfl) ?_
  refine ps_pget (v := .int (nI (σ (17 + k)))) X (hO.p (p := k) (by omega)).1 2 (by decide) q676 (hW7.at (hka13 _ _ (hD.2.2.2.2.2.2.2.2 k (by omega)))) rfl dX0_wordedAs_42 ?_
  refine ps_iald (j := σ (17 + k)) X (hW7.at (hka13 _ _ hD.2.1)) rfl (by show σ (17 + k) < 4; omega) (by first | decide | omega) dX0_wordedAs_45 ?_
  refine ps_top (y := nI (σ (5 + (σ (17 + k))))) (hD.2.2.1 _ (by show σ (17 + k) < 4; omega)) ?_
  have J65 : W p l e ({ frames := 21, cells := 1, slots := 5, locals := 641 } : Room) s m args below meth c H1 locs2 (0 + 1) (0 + 5) (MQ below (ps_ge (fun v H1 => v = some (.int (nI (sp_as σ k d (sp_w σ k)))) ∧ H1.size = H.size + 1 ∧ ∃ Γ1, ps_W E Γ1 H1 ∧ ps_gf Γ H Γ1 H1 ∧ ∀ a e, Γ a = some e → Γ1 a = some e) (ps_A E)) args s 1 5 (ps_A E)) (F0 m 65 ls [.int (pr_b (decide (k = 0)) (sp_w σ k)), .int (nI (σ (5 + (σ (17 + k))))), .ref (H.size)]) := by
    refine ps_weighs (u := σ (5 + (σ (17 + k)))) (b := (sp_w σ k)) (f := (decide (k = 0))) (by omega) (by omega) (by omega) X hE hZ hW7 hg11 hd q1021 ⟨⟨Nat.le_of_ble_eq_true rfl, Nat.le_of_ble_eq_true rfl⟩, Nat.le_of_ble_eq_true rfl, Nat.le_of_ble_eq_true rfl⟩ hS4 hl.1 (Nat.le_of_ble_eq_true rfl) dX0_wordedAs_65 ?_
    exact ps_iretG X hS4 (Nat.le_of_ble_eq_true rfl) (Nat.le_of_ble_eq_true rfl) dX0_wordedAs_68 (⟨by rw [sp_as_w], by omega, _, hW7, (ps_gf.rf.tr hgf8), hka13⟩)
  refine lv_iload_n hx hb dX0_wordedAs_46 rfl (lv_at hl 3 rfl) ?_
  refine ps_ifne (tgt := 55) hx hb dX0_wordedAs_47 (by decide) (by omega) (fun c_47 => ?_) (fun c_47 => ?_)
  · skip
    refine lv_aload_n hx hb dX0_wordedAs_55 rfl (lv_at hl 2 rfl) ?_
    refine ps_get (v := .ref (x + 11)) X in_X0 (ci := 0) rfl 4 (by decide) q216 rfl (hW7.at (hka13 _ _ hX)) rfl dX0_wordedAs_56 ?_
    refine lv_iload_n hx hb dX0_wordedAs_59 rfl (lv_at hl 3 rfl) ?_
    refine lv_iconst (v := nI 1) hx hb dX0_wordedAs_60 rfl ?_
    refine ps_isub hx hb dX0_wordedAs_61 (by omega) ?_
    refine ps_roV X hE (m_X2_weight l hE hZ hW7 (hD.all hka13) hO (k := k - 1) (by omega)) (lw_V q957 q883 q884 q70 q885) (by decide +kernel) ⟨⟨Nat.le_of_ble_eq_true rfl, Nat.le_of_ble_eq_true rfl⟩, Nat.le_of_ble_eq_true rfl, Nat.le_of_ble_eq_true rfl⟩ (ps_rc X (ci := 2) rfl (hW7.at (hka13 _ _ hD.1))) hS4 hl.1 (As := [.int (nI (k - 1))]) (rest := [.int (nI (σ (5 + (σ (17 + k))))), .ref (H.size)]) (n := 1) rfl rfl (Nat.le_of_ble_eq_true rfl) dX0_wordedAs_62 ?_
    refine ps_st (st' := [.int (nI (sp_w σ (k - 1 + 1))), .int (nI (σ (5 + (σ (17 + k))))), .ref (H.size)]) rfl ?_
    exact ps_top (by rw [pr_b, if_neg (by simpa using c_47), show k - 1 + 1 = k by omega]) J65
  · skip
    refine lv_ldc (v := -1000000) hx hb ho (hts _ q982) dX0_wordedAs_50 ?_
    refine lv_goto (tgt := 65) hx hb dX0_wordedAs_52 (by decide) ?_
    exact ps_top (by rw [pr_b, if_pos (decide_eq_true c_47)]) J65

theorem wd_mx {σ : Nat → Nat} {k i : Nat} : (if sp_as σ k (sp_wd σ k i) (sp_w σ k) < sp_as σ k (i + 2) (sp_w σ k) then sp_as σ k (i + 2) (sp_w σ k) else sp_as σ k (sp_wd σ k i) (sp_w σ k)) = sp_as σ k (sp_wd σ k (i + 1)) (sp_w σ k) := by
  by_cases h : sp_as σ k (sp_wd σ k i) (sp_w σ k) < sp_as σ k (i + 2) (sp_w σ k)
  · rw [if_pos h, sp_wd, if_pos h]
  · rw [if_neg h, sp_wd, if_neg h]

set_option maxHeartbeats 4000000 in
theorem m_X0_worded (l : Launch) {E : ps_E} (hE : ps_ZT E) {z : Nat} (hZ : ps_Zk E z) {Γ : ps_Gh} {H : Heap} (hW : ps_W E Γ H) {x : Nat} {S : SS} {ow : ps_Ow} (hC : ps_Cx E z Γ ow x S) (hwf : wf S) {v y : Int32} : ps_Ge l E yX0_worded cX0_worded 7 (some .int) 22 665 5 25 [.ref (x), .int (v), .int (y)] H (ps_cpost E z Γ H x (op_worded (S.2.1 0) v y, S)) := by
  refine ps_Ge.of (by decide) (Nat.le_of_ble_eq_true rfl) ?_
  intro p e s m args below meth c X ls hl
  have hx := X.1
  have hb := X.2.1
  have ho := X.2.2.2.1
  have hts := X.2.2.2.2.1
  have hS : va_S (ps_A E) s.heap H [] := by rw [X.2.2.2.2.2.2.2.2.1]; exact va_S.rf
  have hl : lv_has ls 7 [(0, .ref (x)), (1, .int (v)), (2, .int (y))] := hl
  have hO := hwf.1
  have hm := hO.m
  obtain ⟨tr, sa, τ, hOb, hRw, hTp, hTr, hSx, hSl⟩ := id hC
  have hSo := (hSx.2.2.2.2 0 _ hSx.1.1).2
  rw [hSl.1] at hSo
  obtain ⟨smc, sr, pf, kf, tf, df, hD, hOw, hrr, hpo⟩ := id hSo
  refine lv_aload_n hx hb dX0_worded_0 rfl (lv_at hl 0 rfl) ?_
  refine lv_iload_n hx hb dX0_worded_1 rfl (lv_at hl 1 rfl) ?_
  refine ps_roV X hE (m_X0_isPromise l hE hZ hW hOb.1 hD hO (v := v)) (lw_V q853 q855 qs18 q68 q856) (by decide +kernel) ⟨⟨(by (try dsimp only) <;> omega), (by (try dsimp only) <;> omega)⟩, (by (try dsimp only) <;> omega), (by (try dsimp only) <;> omega)⟩ (ps_rc X (ci := 0) rfl (hW.at hOb.1)) hS hl.1 (As := [.int (v)]) (rest := []) (n := 1) rfl rfl (Nat.le_of_ble_eq_true rfl) dX0_worded_2 ?_
  refine ps_st (st' := [.int (bI (rng v 0 ((S.2.1 0) 3)))]) rfl ?_
  refine ps_ifeqB (tgt := 20) hx hb dX0_worded_5 (by decide) (fun c_5 => ?_) (fun c_5 => ?_)
  · skip
    refine lv_ldc (v := -1000001) hx hb ho (hts _ q344) dX0_worded_20 ?_
    exact ps_iretG X hS (by (try dsimp only) <;> omega) (by (try dsimp only) <;> omega) dX0_worded_22 (ps_cend (S1 := S) (by simp [op_worded, c_5]) hW ps_gf.rf hC)
  · skip
    obtain ⟨k, rfl, k_lo, k_hi, k_b⟩ := rng_t c_5
    have cl_k : (nI k).toNatClampNeg = k := nI_clamp (by omega)
    refine lv_iload_n hx hb dX0_worded_8 rfl (lv_at hl 2 rfl) ?_
    refine lv_i2l (v := (y).toInt64) hx hb dX0_worded_9 rfl ?_
    refine lv_lconst (v := lN 0) hx hb dX0_worded_10 rfl ?_
    refine lv_ldc2 (v := 5) hx hb ho (hts _ q1015) dX0_worded_11 ?_
    refine ps_roS X hE (m_X0_isIn l hE (H := H) (x := y) (lo := 0) (hi := 6) (lN_toInt (by decide)) (ps_hcL (k := 5) (by decide +kernel))) (lw_S q340 q341 q68 q342) (by decide +kernel) ⟨⟨(by (try dsimp only) <;> omega), (by (try dsimp only) <;> omega)⟩, (by (try dsimp only) <;> omega), (by (try dsimp only) <;> omega)⟩ hS hl.1 (As := [.long ((y).toInt64), .long (lN 0), .long (5)]) (rest := []) (n := 3) rfl rfl (Nat.le_of_ble_eq_true rfl) dX0_worded_14 ?_
    refine ps_st (st' := [.int (bI (rng y 0 6))]) rfl ?_
    refine ps_ifneB (tgt := 23) hx hb dX0_worded_17 (by decide) (fun c_17 => ?_) (fun c_17 => ?_)
    · skip
      obtain ⟨j, rfl, j_lo, j_hi, j_b⟩ := rng_t c_17
      have cl_j : (nI j).toNatClampNeg = j := nI_clamp (by omega)
      refine lv_aload_n hx hb dX0_worded_23 rfl (lv_at hl 0 rfl) ?_
      refine ps_get (v := .ref (x + 11)) X in_X0 (ci := 0) rfl 4 (by decide) q216 rfl (hW.at hOb.1) rfl dX0_worded_24 ?_
      refine lv_iload_n hx hb dX0_worded_27 rfl (lv_at hl 1 rfl) ?_
      refine ps_roV X hE (m_X2_isOpen l hE hZ hW hD hO (k := k) (by omega)) (lw_V q860 q861 q862 q70 q863) (by decide +kernel) ⟨⟨(by (try dsimp only) <;> omega), (by (try dsimp only) <;> omega)⟩, (by (try dsimp only) <;> omega), (by (try dsimp only) <;> omega)⟩ (ps_rc X (ci := 2) rfl (hW.at hD.1)) hS hl.1 (As := [.int (nI k)]) (rest := []) (n := 1) rfl rfl (Nat.le_of_ble_eq_true rfl) dX0_worded_28 ?_
      refine ps_st (st' := [.int (bI (sp_open (S.2.1 0) k))]) rfl ?_
      refine ps_ifneB (tgt := 37) hx hb dX0_worded_31 (by decide) (fun c_31 => ?_) (fun c_31 => ?_)
      · skip
        have hw := sp_w_le hO (k := k) (by omega)
        refine lv_iload_n hx hb dX0_worded_37 rfl (lv_at hl 2 rfl) ?_
        refine ps_ifle (tgt := 48) hx hb dX0_worded_38 (by decide) (by omega) (fun c_38 => ?_) (fun c_38 => ?_)
        · skip
          refine lv_iconst (v := nI 1) hx hb dX0_worded_48 rfl ?_
          refine lv_istore_n (lv' := [(3, .int (nI 1)), (0, .ref (x)), (1, .int (nI k)), (2, .int (nI j))]) hx hb dX0_worded_49 rfl hl (by decide) rfl (fun ls hl => ?_)
          refine lv_aload_n hx hb dX0_worded_50 rfl (lv_at hl 1 rfl) ?_
          refine lv_iload_n hx hb dX0_worded_51 rfl (lv_at hl 2 rfl) ?_
          refine lv_iconst (v := nI 1) hx hb dX0_worded_52 rfl ?_
          refine ps_geV X hE (m_X0_wordedAs l hE hZ hW hOb.1 hD hO (k := k) (d := 1) (by omega) (by omega)) (lw_V q1016 q1018 qs24 q68 q1019) (by decide +kernel) ⟨⟨(by (try dsimp only) <;> omega), (by (try dsimp only) <;> omega)⟩, (by (try dsimp only) <;> omega), (by (try dsimp only) <;> omega)⟩ (ps_rc X (ci := 0) rfl (hW.at hOb.1)) hS hl.1 (As := [.int (nI k), .int (nI 1)]) (rest := []) (n := 2) rfl rfl (Nat.le_of_ble_eq_true rfl) dX0_worded_53 (fun v5 H1 locs2 hp3 hS4 => ?_)
          obtain ⟨hv9, hz10, Γ6, hW7, hgf8, hka11⟩ := hp3
          subst hv9
          refine ps_st (st' := [.int (nI (sp_as (S.2.1 0) k 1 (sp_w (S.2.1 0) k)))]) rfl ?_
          refine lv_istore (lv' := [(4, .int (nI (sp_as (S.2.1 0) k 1 (sp_w (S.2.1 0) k)))), (3, .int (nI 1)), (0, .ref (x)), (1, .int (nI k)), (2, .int (nI j))]) hx hb dX0_worded_56 hl (by decide) rfl (fun ls hl => ?_)
          refine lv_iconst (v := nI 2) hx hb dX0_worded_58 rfl ?_
          refine lv_istore (lv' := [(5, .int (nI 2)), (4, .int (nI (sp_as (S.2.1 0) k 1 (sp_w (S.2.1 0) k)))), (3, .int (nI 1)), (0, .ref (x)), (1, .int (nI k)), (2, .int (nI j))]) hx hb dX0_worded_59 hl (by decide) rfl (fun ls hl => ?_)
          have L61 : ∀ (n : Nat) (i : Nat) (Γi : ps_Gh) (Hi : Heap) (locsi : List Loc) (hi : i ≤ 4) (hWi : ps_W E Γi Hi) (hgi : ps_gf Γ H Γi Hi) (hki : ∀ a e, Γ a = some e → Γi a = some e) (hSi : va_S (ps_A E) s.heap Hi locsi) (hmu : 4 - i < n) (ls : Array Slot) (hl : lv_has ls 7 [(5, .int (nI (i + 2))), (4, .int (nI (sp_as (S.2.1 0) k (sp_wd (S.2.1 0) k i) (sp_w (S.2.1 0) k)))), (3, .int (nI (sp_wd (S.2.1 0) k i))), (0, .ref (x)), (1, .int (nI k)), (2, .int (nI j))]), W p l e ({ frames := 22, cells := 5, slots := 25, locals := 665 } : Room) s m args below meth c Hi locsi (1 + i) (5 + 5 * i) (MQ below (ps_ge (ps_cpost E z Γ H x (op_worded (S.2.1 0) (nI k) (nI j), S)) (ps_A E)) args s 5 25 (ps_A E)) (F0 m 61 ls []) := by
            intro n
            induction n with
            | zero => intro i Γi Hi locsi hi hWi hgi hki hSi hmu; exact absurd hmu (Nat.not_lt_zero _)
            | succ n ih61 =>
              intro i Γi Hi locsi hi hWi hgi hki hSi hmu ls hl
              refine lv_iload hx hb dX0_worded_61 (lv_at hl 0 rfl) ?_
              refine lv_iconst (v := nI 5) hx hb dX0_worded_63 rfl ?_
              refine ps_cgt (tgt := 105) hx hb dX0_worded_64 (by decide) (by omega) (fun c_64 => ?_) (fun c_64 => ?_)
              · skip
                have ei : i = 4 := by omega
                refine lv_iload_n hx hb dX0_worded_105 rfl (lv_at hl 2 rfl) ?_
                exact ps_iretG X hSi (by (try dsimp only) <;> omega) (by (try dsimp only) <;> omega) dX0_worded_106 (ps_cend (S1 := S) (by rw [ei]; subst c_38; simp [op_worded, c_5, cl_k, c_17, cl_j, c_31, c_64]) hWi hgi (hC.all hki))
              · skip
                have hd := sp_wd_lt (σ := S.2.1 0) (p := k) (k := i)
                have ha1 := sp_as_le hO (p := k) (kind := i + 2) (by omega) hw
                have ha2 := sp_as_le hO (p := k) (kind := sp_wd (S.2.1 0) k i) (by omega) hw
                refine lv_aload_n hx hb dX0_worded_67 rfl (lv_at hl 3 rfl) ?_
                refine lv_iload_n hx hb dX0_worded_68 rfl (lv_at hl 4 rfl) ?_
                refine lv_iload hx hb dX0_worded_69 (lv_at hl 0 rfl) ?_
                refine ps_geV X hE (m_X0_wordedAs l hE hZ hWi (hki _ _ hOb.1) (hD.all hki) hO (k := k) (d := i + 2) (by omega) (by omega)) (lw_V q1016 q1018 qs24 q68 q1019) (by decide +kernel) ⟨⟨(by (try dsimp only) <;> omega), (by (try dsimp only) <;> omega)⟩, (by (try dsimp only) <;> omega), (by (try dsimp only) <;> omega)⟩ (ps_rc X (ci := 0) rfl (hWi.at (hki _ _ hOb.1))) hSi hl.1 (As := [.int (nI k), .int (nI (i + 2))]) (rest := []) (n := 2) rfl rfl (Nat.le_of_ble_eq_true rfl) dX0_worded_71 (fun v16 H12 locs13 hp14 hS15 => ?_)
                obtain ⟨hv20, hz21, Γ17, hW18, hgf19, hka22⟩ := hp14
                subst hv20
                refine ps_st (st' := [.int (nI (sp_as (S.2.1 0) k (i + 2) (sp_w (S.2.1 0) k)))]) rfl ?_
                refine lv_istore (lv' := [(6, .int (nI (sp_as (S.2.1 0) k (i + 2) (sp_w (S.2.1 0) k)))), (5, .int (nI (i + 2))), (4, .int (nI (sp_as (S.2.1 0) k (sp_wd (S.2.1 0) k i) (sp_w (S.2.1 0) k)))), (3, .int (nI (sp_wd (S.2.1 0) k i))), (0, .ref (x)), (1, .int (nI k)), (2, .int (nI j))]) hx hb dX0_worded_74 hl (by decide) rfl (fun ls hl => ?_)
                have J89 : W p l e ({ frames := 22, cells := 5, slots := 25, locals := 665 } : Room) s m args below meth c H12 locs13 (1 + i + 1) (5 + 5 * i + 5) (MQ below (ps_ge (ps_cpost E z Γ H x (op_worded (S.2.1 0) (nI k) (nI j), S)) (ps_A E)) args s 5 25 (ps_A E)) (F0 m 89 ls [.int (nI (sp_wd (S.2.1 0) k (i + 1)))]) := by
                  refine lv_istore_n (lv' := [(3, .int (nI (sp_wd (S.2.1 0) k (i + 1)))), (6, .int (nI (sp_as (S.2.1 0) k (i + 2) (sp_w (S.2.1 0) k)))), (5, .int (nI (i + 2))), (4, .int (nI (sp_as (S.2.1 0) k (sp_wd (S.2.1 0) k i) (sp_w (S.2.1 0) k)))), (0, .ref (x)), (1, .int (nI k)), (2, .int (nI j))]) hx hb dX0_worded_89 rfl hl (by decide) rfl (fun ls hl => ?_)
                  refine lv_iload hx hb dX0_worded_90 (lv_at hl 3 rfl) ?_
                  refine lv_iload hx hb dX0_worded_92 (lv_at hl 1 rfl) ?_
                  refine ps_mmax X q1022 (by omega) hl.1 ⟨⟨Nat.le_of_ble_eq_true rfl, Nat.le_of_ble_eq_true rfl⟩, (by (try dsimp only) <;> omega), (by (try dsimp only) <;> omega)⟩ dX0_worded_94 ?_
                  refine lv_istore (lv' := [(4, .int (nI (if sp_as (S.2.1 0) k (sp_wd (S.2.1 0) k i) (sp_w (S.2.1 0) k) < sp_as (S.2.1 0) k (i + 2) (sp_w (S.2.1 0) k) then sp_as (S.2.1 0) k (i + 2) (sp_w (S.2.1 0) k) else sp_as (S.2.1 0) k (sp_wd (S.2.1 0) k i) (sp_w (S.2.1 0) k)))), (3, .int (nI (sp_wd (S.2.1 0) k (i + 1)))), (6, .int (nI (sp_as (S.2.1 0) k (i + 2) (sp_w (S.2.1 0) k)))), (5, .int (nI (i + 2))), (0, .ref (x)), (1, .int (nI k)), (2, .int (nI j))]) hx hb dX0_worded_97 hl (by decide) rfl (fun ls hl => ?_)
                  refine lv_iinc (v := nI (i + 2 + 1)) (lv' := [(5, .int (nI (i + 2 + 1))), (4, .int (nI (if sp_as (S.2.1 0) k (sp_wd (S.2.1 0) k i) (sp_w (S.2.1 0) k) < sp_as (S.2.1 0) k (i + 2) (sp_w (S.2.1 0) k) then sp_as (S.2.1 0) k (i + 2) (sp_w (S.2.1 0) k) else sp_as (S.2.1 0) k (sp_wd (S.2.1 0) k i) (sp_w (S.2.1 0) k)))), (3, .int (nI (sp_wd (S.2.1 0) k (i + 1)))), (6, .int (nI (sp_as (S.2.1 0) k (i + 2) (sp_w (S.2.1 0) k)))), (0, .ref (x)), (1, .int (nI k)), (2, .int (nI j))]) hx hb dX0_worded_99 hl (k := 3) rfl (ps_inc _) (by decide) rfl (fun ls hl => ?_)
                  refine lv_goto (tgt := 61) hx hb dX0_worded_102 (by decide) ?_
                  refine ps_wd (c2 := 1 + (i + 1)) (s2 := 5 + 5 * (i + 1)) (by omega) (by omega) ?_
                  have e23 : (nI (i + 2 + 1) : Int32) = nI (i + 1 + 2) := congrArg nI (by omega)
                  have e24 : (nI (if sp_as (S.2.1 0) k (sp_wd (S.2.1 0) k i) (sp_w (S.2.1 0) k) < sp_as (S.2.1 0) k (i + 2) (sp_w (S.2.1 0) k) then sp_as (S.2.1 0) k (i + 2) (sp_w (S.2.1 0) k) else sp_as (S.2.1 0) k (sp_wd (S.2.1 0) k i) (sp_w (S.2.1 0) k)) : Int32) = nI (sp_as (S.2.1 0) k (sp_wd (S.2.1 0) k (i + 1)) (sp_w (S.2.1 0) k)) := congrArg nI (wd_mx)
                  have hl : lv_has ls 7 [(5, .int (nI (i + 1 + 2))), (4, .int (nI (sp_as (S.2.1 0) k (sp_wd (S.2.1 0) k (i + 1)) (sp_w (S.2.1 0) k)))), (3, .int (nI (sp_wd (S.2.1 0) k (i + 1)))), (0, .ref (x)), (1, .int (nI k)), (2, .int (nI j))] := ps_lv (l1 := [(5, .int (nI (i + 2 + 1))), (4, .int (nI (if sp_as (S.2.1 0) k (sp_wd (S.2.1 0) k i) (sp_w (S.2.1 0) k) < sp_as (S.2.1 0) k (i + 2) (sp_w (S.2.1 0) k) then sp_as (S.2.1 0) k (i + 2) (sp_w (S.2.1 0) k) else sp_as (S.2.1 0) k (sp_wd (S.2.1 0) k i) (sp_w (S.2.1 0) k)))), (3, .int (nI (sp_wd (S.2.1 0) k (i + 1)))), (0, .ref (x)), (1, .int (nI k)), (2, .int (nI j))]) (lv_sub hl [0, 1, 2, 4, 5, 6] rfl) (by rw [e23, e24])
                  exact ih61  (i + 1) Γ17 H12 _ (by omega) hW18 ((hgi.tr hgf19)) ((fun a e h => hka22 a e (hki a e h))) hS15 (by omega) ls (hl)
                refine lv_iload hx hb dX0_worded_76 (lv_at hl 0 rfl) ?_
                refine lv_iload hx hb dX0_worded_78 (lv_at hl 2 rfl) ?_
                refine ps_cle (tgt := 88) hx hb dX0_worded_80 (by decide) (by omega) (fun c_80 => ?_) (fun c_80 => ?_)
                · skip
                  refine lv_iload_n hx hb dX0_worded_88 rfl (lv_at hl 3 rfl) ?_
                  exact ps_top (congrArg nI (by rw [sp_wd, if_neg (by omega)])) J89
                · skip
                  refine lv_iload hx hb dX0_worded_83 (lv_at hl 1 rfl) ?_
                  refine lv_goto (tgt := 89) hx hb dX0_worded_85 (by decide) ?_
                  exact ps_top (congrArg nI (by rw [sp_wd, if_pos c_80])) J89
          have hl : lv_has ls 7 [(5, .int (nI (0 + 2))), (4, .int (nI (sp_as (S.2.1 0) k (sp_wd (S.2.1 0) k 0) (sp_w (S.2.1 0) k)))), (3, .int (nI (sp_wd (S.2.1 0) k 0))), (0, .ref (x)), (1, .int (nI k)), (2, .int (nI j))] := lv_sub hl [0, 1, 2, 3, 4, 5] rfl
          exact L61 ((4 - 0) + 1) 0 Γ6 H1 _ (by omega) hW7 ((ps_gf.rf.tr hgf8)) hka11 hS4 (Nat.lt_succ_self _) ls (hl)
        · skip
          refine lv_aload_n hx hb dX0_worded_41 rfl (lv_at hl 0 rfl) ?_
          refine lv_iload_n hx hb dX0_worded_42 rfl (lv_at hl 1 rfl) ?_
          refine lv_iload_n hx hb dX0_worded_43 rfl (lv_at hl 2 rfl) ?_
          refine ps_geV X hE (m_X0_wordedAs l hE hZ hW hOb.1 hD hO (k := k) (d := j) (by omega) (by omega)) (lw_V q1016 q1018 qs24 q68 q1019) (by decide +kernel) ⟨⟨(by (try dsimp only) <;> omega), (by (try dsimp only) <;> omega)⟩, (by (try dsimp only) <;> omega), (by (try dsimp only) <;> omega)⟩ (ps_rc X (ci := 0) rfl (hW.at hOb.1)) hS hl.1 (As := [.int (nI k), .int (nI j)]) (rest := []) (n := 2) rfl rfl (Nat.le_of_ble_eq_true rfl) dX0_worded_44 (fun v29 H25 locs26 hp27 hS28 => ?_)
          obtain ⟨hv33, hz34, Γ30, hW31, hgf32, hka35⟩ := hp27
          subst hv33
          refine ps_st (st' := [.int (nI (sp_as (S.2.1 0) k j (sp_w (S.2.1 0) k)))]) rfl ?_
          exact ps_iretG X hS28 (by (try dsimp only) <;> omega) (by (try dsimp only) <;> omega) dX0_worded_47 (ps_cend (S1 := S) (by simp [op_worded, Nat.ne_of_gt c_38, c_5, cl_k, c_17, cl_j, c_31, c_38]) hW31 (ps_gf.rf.tr hgf32) (hC.all hka35))
      · skip
        refine lv_ldc (v := -1000002) hx hb ho (hts _ q867) dX0_worded_34 ?_
        exact ps_iretG X hS (by (try dsimp only) <;> omega) (by (try dsimp only) <;> omega) dX0_worded_36 (ps_cend (S1 := S) (by simp [op_worded, c_5, cl_k, c_17, cl_j, c_31]) hW ps_gf.rf hC)
    · skip
      refine lv_ldc (v := -1000001) hx hb ho (hts _ q344) dX0_worded_20 ?_
      exact ps_iretG X hS (by (try dsimp only) <;> omega) (by (try dsimp only) <;> omega) dX0_worded_22 (ps_cend (S1 := S) (by simp [op_worded, c_5, cl_k, c_17]) hW ps_gf.rf hC)
