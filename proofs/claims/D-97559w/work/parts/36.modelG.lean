/-! the model: settles, bestHeavy, copy, rows asked (printed by gen/model7.py) -/
set_option maxRecDepth 100000
set_option maxHeartbeats 4000000 in
theorem m_X4_settles (l : Launch) {E : ps_E} (hE : ps_ZT E) {H : Heap} {o : Nat} {F : Nat → Int32} {A : Nat → Nat → Int32} (hM : ps_Mo E H o F A) {S : SS} (hs : sm F A S) (hW : wf S) {x y z : Int32} : ps_Ge l E yX4_settles cX4_settles 5 (some .int) 5 104 0 0 [.ref (o), .int (x), .int (y), .int (z)] H (ps_mpost E H o (op_settles (S.2.1 0) x y z, S)) := by
  refine ps_Ge.of (by decide) (Nat.le_of_ble_eq_true rfl) ?_
  intro p e s m args below meth c X ls hl
  have hx := X.1
  have hb := X.2.1
  have ho := X.2.2.2.1
  have hts := X.2.2.2.2.1
  have hS : va_S (ps_A E) s.heap H [] := by rw [X.2.2.2.2.2.2.2.2.1]; exact va_S.rf
  have hl : lv_has ls 5 [(0, .ref (o)), (1, .int (x)), (2, .int (y)), (3, .int (z))] := hl
  have hσ := hs.2.2.2.2.1
  have hO := hW.1
  have hm := hO.m
  have hn := hW.n
  refine lv_aload_n hx hb dX4_settles_0 rfl (lv_at hl 0 rfl) ?_
  refine lv_iload_n hx hb dX4_settles_1 rfl (lv_at hl 1 rfl) ?_
  refine ps_roV X hE (m_X4_isGiver l hE hM hσ hO (x := x)) (lw_V q1519 q1521 qs51 q75 q1522) (by decide +kernel) ⟨⟨Nat.le_of_ble_eq_true rfl, Nat.le_of_ble_eq_true rfl⟩, Nat.le_of_ble_eq_true rfl, Nat.le_of_ble_eq_true rfl⟩ (ps_mrc X hM) hS hl.1 (As := [.int (x)]) (rest := []) (n := 1) rfl rfl (Nat.le_of_ble_eq_true rfl) dX4_settles_2 ?_
  refine ps_st (st' := [.int (bI (rng x 0 ((S.2.1 0) 2)))]) rfl ?_
  refine ps_ifeqB (tgt := 30) hx hb dX4_settles_5 (by decide) (fun c_5 => ?_) (fun c_5 => ?_)
  · skip
    refine lv_ldc (v := -1000001) hx hb ho (hts _ q1375) dX4_settles_30 ?_
    exact ps_iretG X hS (Nat.le_of_ble_eq_true rfl) (Nat.le_of_ble_eq_true rfl) dX4_settles_32 (ps_mend (S := S) (by simp [op_settles, c_5]) hM hs ps_Mf.rf)
  · skip
    obtain ⟨k, rfl, k_lo, k_hi, k_b⟩ := rng_t c_5
    have cl_k : (nI k).toNatClampNeg = k := nI_clamp (by omega)
    refine lv_iload_n hx hb dX4_settles_8 rfl (lv_at hl 2 rfl) ?_
    refine lv_i2l (v := (y).toInt64) hx hb dX4_settles_9 rfl ?_
    refine lv_lconst (v := lN 0) hx hb dX4_settles_10 rfl ?_
    refine lv_ldc2 (v := 20) hx hb ho (hts _ q1575) dX4_settles_11 ?_
    refine ps_roS X hE (m_X4_in l hE (H := H) (x := y) (lo := 0) (hi := 21) (lN_toInt (by decide)) (ps_hcL (k := 20) (by decide +kernel))) (lw_S q1371 q1372 q75 q1373) (by decide +kernel) ⟨⟨Nat.le_of_ble_eq_true rfl, Nat.le_of_ble_eq_true rfl⟩, Nat.le_of_ble_eq_true rfl, Nat.le_of_ble_eq_true rfl⟩ hS hl.1 (As := [.long ((y).toInt64), .long (lN 0), .long (20)]) (rest := []) (n := 3) rfl rfl (Nat.le_of_ble_eq_true rfl) dX4_settles_14 ?_
    refine ps_st (st' := [.int (bI (rng y 0 21))]) rfl ?_
    refine ps_ifeqB (tgt := 30) hx hb dX4_settles_17 (by decide) (fun c_17 => ?_) (fun c_17 => ?_)
    · skip
      refine lv_ldc (v := -1000001) hx hb ho (hts _ q1375) dX4_settles_30 ?_
      exact ps_iretG X hS (Nat.le_of_ble_eq_true rfl) (Nat.le_of_ble_eq_true rfl) dX4_settles_32 (ps_mend (S := S) (by simp [op_settles, c_5, cl_k, c_17]) hM hs ps_Mf.rf)
    · skip
      obtain ⟨j, rfl, j_lo, j_hi, j_b⟩ := rng_t c_17
      have cl_j : (nI j).toNatClampNeg = j := nI_clamp (by omega)
      refine lv_iload_n hx hb dX4_settles_20 rfl (lv_at hl 3 rfl) ?_
      refine lv_i2l (v := (z).toInt64) hx hb dX4_settles_21 rfl ?_
      refine lv_lconst (v := lN 0) hx hb dX4_settles_22 rfl ?_
      refine lv_lconst (v := lN 1) hx hb dX4_settles_23 rfl ?_
      refine ps_roS X hE (m_X4_in l hE (H := H) (x := z) (lo := 0) (hi := 2) (lN_toInt (by decide)) (ps_hcN 1 (by decide))) (lw_S q1371 q1372 q75 q1373) (by decide +kernel) ⟨⟨Nat.le_of_ble_eq_true rfl, Nat.le_of_ble_eq_true rfl⟩, Nat.le_of_ble_eq_true rfl, Nat.le_of_ble_eq_true rfl⟩ hS hl.1 (As := [.long ((z).toInt64), .long (lN 0), .long (lN 1)]) (rest := []) (n := 3) rfl rfl (Nat.le_of_ble_eq_true rfl) dX4_settles_24 ?_
      refine ps_st (st' := [.int (bI (rng z 0 2))]) rfl ?_
      refine ps_ifneB (tgt := 33) hx hb dX4_settles_27 (by decide) (fun c_27 => ?_) (fun c_27 => ?_)
      · skip
        obtain ⟨i, rfl, i_lo, i_hi, i_b⟩ := rng_t c_27
        have cl_i : (nI i).toNatClampNeg = i := nI_clamp (by omega)
        refine lv_aload_n hx hb dX4_settles_33 rfl (lv_at hl 0 rfl) ?_
        refine lv_iload_n hx hb dX4_settles_34 rfl (lv_at hl 1 rfl) ?_
        refine lv_iload_n hx hb dX4_settles_35 rfl (lv_at hl 2 rfl) ?_
        refine ps_geV X hE (m_X4_settleAll l hE hM hσ hO (g := k) (h := j) (by omega) (by omega)) (lw_V q1576 q1578 qs55 q75 q1579) (by decide +kernel) ⟨⟨Nat.le_of_ble_eq_true rfl, Nat.le_of_ble_eq_true rfl⟩, Nat.le_of_ble_eq_true rfl, Nat.le_of_ble_eq_true rfl⟩ (ps_mrc X hM) hS hl.1 (As := [.int (nI k), .int (nI j)]) (rest := []) (n := 2) rfl rfl (Nat.le_of_ble_eq_true rfl) dX4_settles_36 (fun v5 H1 locs2 hp3 hS4 => ?_)
        obtain ⟨hv10, g6, g7, hM8, hf9, hg11⟩ := hp3
        subst hv10
        refine ps_st (st' := [.int (nI (sp_go (S.2.1 0) j 10 (5 + k)))]) rfl ?_
        refine lv_istore (lv' := [(4, .int (nI (sp_go (S.2.1 0) j 10 (5 + k)))), (0, .ref (o)), (1, .int (nI k)), (2, .int (nI j)), (3, .int (nI i))]) hx hb dX4_settles_39 hl (by decide) rfl (fun ls hl => ?_)
        refine lv_iload_n hx hb dX4_settles_41 rfl (lv_at hl 4 rfl) ?_
        refine ps_ifne (tgt := 50) hx hb dX4_settles_42 (by decide) (by omega) (fun c_42 => ?_) (fun c_42 => ?_)
        · skip
          refine lv_aload_n hx hb dX4_settles_50 rfl (lv_at hl 1 rfl) ?_
          refine ps_mget (v := .int (nI (sp_kept (sp_go (S.2.1 0) j 10) k ((S.2.1 0) 3)))) X hM8 19 (by decide) q1308 rfl rfl dX4_settles_51 ?_
          exact ps_iretG X hS4 (Nat.le_of_ble_eq_true rfl) (Nat.le_of_ble_eq_true rfl) dX4_settles_54 (ps_mend (S := S) (by simp [op_settles, c_5, cl_k, c_17, cl_j, c_27, cl_i, c_42]) hM8 (hs.sa hg11) hf9)
        · skip
          refine lv_iload hx hb dX4_settles_45 (lv_at hl 0 rfl) ?_
          refine lv_goto (tgt := 54) hx hb dX4_settles_47 (by decide) ?_
          exact ps_iretG X hS4 (Nat.le_of_ble_eq_true rfl) (Nat.le_of_ble_eq_true rfl) dX4_settles_54 (ps_mend (S := S) (by subst c_42; simp [op_settles, c_5, cl_k, c_17, cl_j, c_27, cl_i]) hM8 (hs.sa hg11) hf9)
      · skip
        refine lv_ldc (v := -1000001) hx hb ho (hts _ q1375) dX4_settles_30 ?_
        exact ps_iretG X hS (Nat.le_of_ble_eq_true rfl) (Nat.le_of_ble_eq_true rfl) dX4_settles_32 (ps_mend (S := S) (by simp [op_settles, c_5, cl_k, c_17, cl_j, c_27]) hM hs ps_Mf.rf)

set_option maxHeartbeats 4000000 in
theorem m_X4_bestHeavy (l : Launch) {E : ps_E} (hE : ps_ZT E) {H : Heap} {o : Nat} {F : Nat → Int32} {A : Nat → Nat → Int32} (hM : ps_Mo E H o F A) {S : SS} (hs : sm F A S) (hW : wf S) {x : Int32} : ps_Ge l E yX4_bestHeavy cX4_bestHeavy 6 (some .int) 5 104 0 0 [.ref (o), .int (x)] H (ps_mpost E H o (op_bestHeavy (S.2.1 0) x, S)) := by
  refine ps_Ge.of (by decide) (Nat.le_of_ble_eq_true rfl) ?_
  intro p e s m args below meth c X ls hl
  have hx := X.1
  have hb := X.2.1
  have ho := X.2.2.2.1
  have hts := X.2.2.2.2.1
  have hS : va_S (ps_A E) s.heap H [] := by rw [X.2.2.2.2.2.2.2.2.1]; exact va_S.rf
  have hl : lv_has ls 6 [(0, .ref (o)), (1, .int (x))] := hl
  have hσ := hs.2.2.2.2.1
  have hO := hW.1
  have hm := hO.m
  have hn := hW.n
  refine lv_aload_n hx hb dX4_bestHeavy_0 rfl (lv_at hl 0 rfl) ?_
  refine lv_iload_n hx hb dX4_bestHeavy_1 rfl (lv_at hl 1 rfl) ?_
  refine ps_roV X hE (m_X4_isGiver l hE hM hσ hO (x := x)) (lw_V q1519 q1521 qs51 q75 q1522) (by decide +kernel) ⟨⟨Nat.le_of_ble_eq_true rfl, Nat.le_of_ble_eq_true rfl⟩, Nat.le_of_ble_eq_true rfl, Nat.le_of_ble_eq_true rfl⟩ (ps_mrc X hM) hS hl.1 (As := [.int (x)]) (rest := []) (n := 1) rfl rfl (Nat.le_of_ble_eq_true rfl) dX4_bestHeavy_2 ?_
  refine ps_st (st' := [.int (bI (rng x 0 ((S.2.1 0) 2)))]) rfl ?_
  refine ps_ifneB (tgt := 11) hx hb dX4_bestHeavy_5 (by decide) (fun c_5 => ?_) (fun c_5 => ?_)
  · skip
    obtain ⟨k, rfl, k_lo, k_hi, k_b⟩ := rng_t c_5
    have cl_k : (nI k).toNatClampNeg = k := nI_clamp (by omega)
    refine lv_iconst (v := nI 0) hx hb dX4_bestHeavy_11 rfl ?_
    refine lv_istore_n (lv' := [(2, .int (nI 0)), (0, .ref (o)), (1, .int (nI k))]) hx hb dX4_bestHeavy_12 rfl hl (by decide) rfl (fun ls hl => ?_)
    refine lv_iconst (v := (-1)) hx hb dX4_bestHeavy_13 rfl ?_
    refine lv_istore_n (lv' := [(3, .int ((-1))), (2, .int (nI 0)), (0, .ref (o)), (1, .int (nI k))]) hx hb dX4_bestHeavy_14 rfl hl (by decide) rfl (fun ls hl => ?_)
    refine lv_iconst (v := nI 0) hx hb dX4_bestHeavy_15 rfl ?_
    refine lv_istore (lv' := [(4, .int (nI 0)), (3, .int ((-1))), (2, .int (nI 0)), (0, .ref (o)), (1, .int (nI k))]) hx hb dX4_bestHeavy_16 hl (by decide) rfl (fun ls hl => ?_)
    have L18 : ∀ (n : Nat) (i : Nat) (F1 : Nat → Int32) (A1 : Nat → Nat → Int32) (Hk18 : Heap) (lk18 : List Loc) (hi : i ≤ 21) (hMk18 : ps_Mo E Hk18 o F1 A1) (hFk18 : ps_Mf o H Hk18) (hsk18 : sm F1 A1 S) (hSk18 : va_S (ps_A E) s.heap Hk18 lk18) (hmu : 21 - i < n) (ls : Array Slot) (hl : lv_has ls 6 [(4, .int (nI i)), (3, .int (nI ((sp_bm (S.2.1 0) k i)) - nI 1)), (2, .int (nI ((sp_bh (S.2.1 0) k i)))), (0, .ref (o)), (1, .int (nI k))]), W p l e ({ frames := 5, cells := 0, slots := 0, locals := 104 } : Room) s m args below meth c Hk18 lk18 0 0 (MQ below (ps_ge (ps_mpost E H o (op_bestHeavy (S.2.1 0) (nI k), S)) (ps_A E)) args s 0 0 (ps_A E)) (F0 m 18 ls []) := by
      intro n
      induction n with
      | zero => intro i F1 A1 Hk18 lk18 hi hMk18 hFk18 hsk18 hSk18 hmu; exact absurd hmu (Nat.not_lt_zero _)
      | succ n ih18 =>
        intro i F1 A1 Hk18 lk18 hi hMk18 hFk18 hsk18 hSk18 hmu ls hl
        refine lv_iload hx hb dX4_bestHeavy_18 (lv_at hl 0 rfl) ?_
        refine lv_bipush (v := nI 20) hx hb dX4_bestHeavy_20 rfl ?_
        refine ps_cgt (tgt := 66) hx hb dX4_bestHeavy_22 (by decide) (by omega) (fun c_22 => ?_) (fun c_22 => ?_)
        · skip
          have ei : i = 21 := by omega
          refine lv_iload_n hx hb dX4_bestHeavy_66 rfl (lv_at hl 2 rfl) ?_
          exact ps_iretG X hSk18 (Nat.le_of_ble_eq_true rfl) (Nat.le_of_ble_eq_true rfl) dX4_bestHeavy_67 (ps_mend (S := S) (by rw [ei]; simp [op_bestHeavy, c_5, cl_k, c_22]) hMk18 hsk18 hFk18)
        · skip
          refine lv_aload_n hx hb dX4_bestHeavy_25 rfl (lv_at hl 3 rfl) ?_
          refine lv_iload_n hx hb dX4_bestHeavy_26 rfl (lv_at hl 4 rfl) ?_
          refine lv_iload hx hb dX4_bestHeavy_27 (lv_at hl 0 rfl) ?_
          refine ps_geV X hE (m_X4_settleAll l hE hMk18 hsk18.2.2.2.2.1 hO (g := k) (h := i) (by omega) (by omega)) (lw_V q1576 q1578 qs55 q75 q1579) (by decide +kernel) ⟨⟨Nat.le_of_ble_eq_true rfl, Nat.le_of_ble_eq_true rfl⟩, Nat.le_of_ble_eq_true rfl, Nat.le_of_ble_eq_true rfl⟩ (ps_mrc X hMk18) hSk18 hl.1 (As := [.int (nI k), .int (nI i)]) (rest := []) (n := 2) rfl rfl (Nat.le_of_ble_eq_true rfl) dX4_bestHeavy_29 (fun v5 H1 locs2 hp3 hS4 => ?_)
          obtain ⟨hv10, g6, g7, hM8, hf9, hg11⟩ := hp3
          subst hv10
          refine ps_st (st' := [.int (nI (sp_go (S.2.1 0) i 10 (5 + k)))]) rfl ?_
          refine lv_istore (lv' := [(5, .int (nI (sp_go (S.2.1 0) i 10 (5 + k)))), (4, .int (nI i)), (3, .int (nI ((sp_bm (S.2.1 0) k i)) - nI 1)), (2, .int (nI ((sp_bh (S.2.1 0) k i)))), (0, .ref (o)), (1, .int (nI k))]) hx hb dX4_bestHeavy_32 hl (by decide) rfl (fun ls hl => ?_)
          have hgo := sp_go_ok hO (hv := i) (d := 10)
          have hk5 := hgo.1.k (g := k) (by omega)
          have hbm : (sp_bm (S.2.1 0) k i) ≤ 11 := sp_bm_le hO (by omega)
          have J46 : W p l e ({ frames := 5, cells := 0, slots := 0, locals := 104 } : Room) s m args below meth c H1 locs2 0 0 (MQ below (ps_ge (ps_mpost E H o (op_bestHeavy (S.2.1 0) (nI k), S)) (ps_A E)) args s 0 0 (ps_A E)) (F0 m 46 ls [.int (nI ((sp_bh (S.2.1 0) k (i + 1))))]) := by
            refine lv_istore_n (lv' := [(2, .int (nI ((sp_bh (S.2.1 0) k (i + 1))))), (5, .int (nI (sp_go (S.2.1 0) i 10 (5 + k)))), (4, .int (nI i)), (3, .int (nI ((sp_bm (S.2.1 0) k i)) - nI 1)), (0, .ref (o)), (1, .int (nI k))]) hx hb dX4_bestHeavy_46 rfl hl (by decide) rfl (fun ls hl => ?_)
            have J59 : W p l e ({ frames := 5, cells := 0, slots := 0, locals := 104 } : Room) s m args below meth c H1 locs2 0 0 (MQ below (ps_ge (ps_mpost E H o (op_bestHeavy (S.2.1 0) (nI k), S)) (ps_A E)) args s 0 0 (ps_A E)) (F0 m 59 ls [.int (nI ((sp_bm (S.2.1 0) k (i + 1))) - nI 1)]) := by
              refine lv_istore_n (lv' := [(3, .int (nI ((sp_bm (S.2.1 0) k (i + 1))) - nI 1)), (2, .int (nI ((sp_bh (S.2.1 0) k (i + 1))))), (5, .int (nI (sp_go (S.2.1 0) i 10 (5 + k)))), (4, .int (nI i)), (0, .ref (o)), (1, .int (nI k))]) hx hb dX4_bestHeavy_59 rfl hl (by decide) rfl (fun ls hl => ?_)
              refine lv_iinc (v := nI (i + 1)) (lv' := [(4, .int (nI (i + 1))), (3, .int (nI ((sp_bm (S.2.1 0) k (i + 1))) - nI 1)), (2, .int (nI ((sp_bh (S.2.1 0) k (i + 1))))), (5, .int (nI (sp_go (S.2.1 0) i 10 (5 + k)))), (0, .ref (o)), (1, .int (nI k))]) hx hb dX4_bestHeavy_60 hl (k := 3) rfl (ps_inc _) (by decide) rfl (fun ls hl => ?_)
              refine lv_goto (tgt := 18) hx hb dX4_bestHeavy_63 (by decide) ?_
              exact ih18  (i + 1) ((va_up F1 19 (nI (sp_kept (sp_go (S.2.1 0) i 10) k ((S.2.1 0) 3))))) ((va_up (va_up A1 9 g6) 4 g7)) H1 _ (by omega) hM8 ((hFk18.tr hf9)) ((hsk18.sa hg11)) hS4 (by omega) ls (lv_sub hl [0, 1, 2, 4, 5] rfl)
            refine lv_iload hx hb dX4_bestHeavy_47 (lv_at hl 1 rfl) ?_
            refine lv_iload_n hx hb dX4_bestHeavy_49 rfl (lv_at hl 3 rfl) ?_
            refine ps_cleP (tgt := 58) hx hb dX4_bestHeavy_50 (by decide) (by omega) (fun c_50 => ?_) (fun c_50 => ?_)
            · skip
              refine lv_iload_n hx hb dX4_bestHeavy_58 rfl (lv_at hl 3 rfl) ?_
              exact ps_top (by rw [(sp_bh_2 c_50).2]) J59
            · skip
              refine lv_iload hx hb dX4_bestHeavy_53 (lv_at hl 1 rfl) ?_
              refine lv_goto (tgt := 59) hx hb dX4_bestHeavy_55 (by decide) ?_
              exact ps_top (by rw [sp_bm, sp_bh_1 c_50, pk_sub (by omega)]; rfl) J59
          refine lv_iload hx hb dX4_bestHeavy_34 (lv_at hl 0 rfl) ?_
          refine lv_iload_n hx hb dX4_bestHeavy_36 rfl (lv_at hl 2 rfl) ?_
          refine ps_cleP (tgt := 45) hx hb dX4_bestHeavy_37 (by decide) (by omega) (fun c_37 => ?_) (fun c_37 => ?_)
          · skip
            refine lv_iload_n hx hb dX4_bestHeavy_45 rfl (lv_at hl 3 rfl) ?_
            exact ps_top (congrArg nI (sp_bh_2 c_37).1.symm) J46
          · skip
            refine lv_iload hx hb dX4_bestHeavy_40 (lv_at hl 1 rfl) ?_
            refine lv_goto (tgt := 46) hx hb dX4_bestHeavy_42 (by decide) ?_
            exact ps_top (congrArg nI (sp_bh_1 c_37).symm) J46
    have e12 : ((-1) : Int32) = nI ((sp_bm (S.2.1 0) k 0)) - nI 1 := by show (-1 : Int32) = nI 0 - nI 1; decide
    have e13 : (nI 0 : Int32) = nI ((sp_bh (S.2.1 0) k 0)) := rfl
    have hl : lv_has ls 6 [(4, .int (nI 0)), (3, .int (nI ((sp_bm (S.2.1 0) k 0)) - nI 1)), (2, .int (nI ((sp_bh (S.2.1 0) k 0)))), (0, .ref (o)), (1, .int (nI k))] := ps_lv (l1 := [(4, .int (nI 0)), (3, .int ((-1))), (2, .int (nI 0)), (0, .ref (o)), (1, .int (nI k))]) (lv_sub hl [0, 1, 2, 3, 4] rfl) (by rw [e12, e13])
    exact L18 ((21 - 0) + 1) 0 F A H _ (by omega) hM ps_Mf.rf hs hS (Nat.lt_succ_self _) ls (hl)
  · skip
    refine lv_ldc (v := -1000001) hx hb ho (hts _ q1375) dX4_bestHeavy_8 ?_
    exact ps_iretG X hS (Nat.le_of_ble_eq_true rfl) (Nat.le_of_ble_eq_true rfl) dX4_bestHeavy_10 (ps_mend (S := S) (by simp [op_bestHeavy, c_5]) hM hs ps_Mf.rf)

set_option maxHeartbeats 4000000 in
theorem m_X4_copy (l : Launch) {E : ps_E} (hE : ps_ZT E) {H : Heap} {o : Nat} {F : Nat → Int32} {A : Nat → Nat → Int32} (hM : ps_Mo E H o F A) {S : SS} (hs : sm F A S) (hW : wf S) {x y z t u : Int32} : ps_Ge l E yX4_copy cX4_copy 7 (some .int) 3 57 0 0 [.ref (o), .int (x), .int (y), .int (z), .int (t), .int (u)] H (ps_mpost E H o (op_copy S x y z t u)) := by
  refine ps_Ge.of (by decide) (Nat.le_of_ble_eq_true rfl) ?_
  intro p e s m args below meth c X ls hl
  have hx := X.1
  have hb := X.2.1
  have ho := X.2.2.2.1
  have hts := X.2.2.2.2.1
  have hS : va_S (ps_A E) s.heap H [] := by rw [X.2.2.2.2.2.2.2.2.1]; exact va_S.rf
  have hl : lv_has ls 7 [(0, .ref (o)), (1, .int (x)), (2, .int (y)), (3, .int (z)), (4, .int (t)), (5, .int (u))] := hl
  have hσ := hs.2.2.2.2.1
  have hO := hW.1
  have hm := hO.m
  have hn := hW.n
  refine lv_iload_n hx hb dX4_copy_0 rfl (lv_at hl 1 rfl) ?_
  refine ps_roS X hE (m_X4_isRow l hE (H := H) (x := x)) (lw_S q1367 q1368 q75 q1369) (by decide +kernel) ⟨⟨Nat.le_of_ble_eq_true rfl, Nat.le_of_ble_eq_true rfl⟩, Nat.le_of_ble_eq_true rfl, Nat.le_of_ble_eq_true rfl⟩ hS hl.1 (As := [.int (x)]) (rest := []) (n := 1) rfl rfl (Nat.le_of_ble_eq_true rfl) dX4_copy_1 ?_
  refine ps_st (st' := [.int (bI (rng x 0 8))]) rfl ?_
  refine ps_ifeqB (tgt := 14) hx hb dX4_copy_4 (by decide) (fun c_4 => ?_) (fun c_4 => ?_)
  · skip
    refine lv_ldc (v := -1000001) hx hb ho (hts _ q1375) dX4_copy_14 ?_
    exact ps_iretG X hS (Nat.le_of_ble_eq_true rfl) (Nat.le_of_ble_eq_true rfl) dX4_copy_16 (ps_mend (S := S) (by simp [op_copy, c_4]) hM (hs) ps_Mf.rf)
  · skip
    obtain ⟨k1, rfl, k1_lo, k1_hi, k1_b⟩ := rng_t c_4
    have cl_k1 : (nI k1).toNatClampNeg = k1 := nI_clamp (by omega)
    have hr := hW.r (r := k1) (by omega)
    refine lv_iload_n hx hb dX4_copy_7 rfl (lv_at hl 3 rfl) ?_
    refine ps_roS X hE (m_X4_isRow l hE (H := H) (x := z)) (lw_S q1367 q1368 q75 q1369) (by decide +kernel) ⟨⟨Nat.le_of_ble_eq_true rfl, Nat.le_of_ble_eq_true rfl⟩, Nat.le_of_ble_eq_true rfl, Nat.le_of_ble_eq_true rfl⟩ hS hl.1 (As := [.int (z)]) (rest := []) (n := 1) rfl rfl (Nat.le_of_ble_eq_true rfl) dX4_copy_8 ?_
    refine ps_st (st' := [.int (bI (rng z 0 8))]) rfl ?_
    refine ps_ifneB (tgt := 17) hx hb dX4_copy_11 (by decide) (fun c_11 => ?_) (fun c_11 => ?_)
    · skip
      obtain ⟨k2, rfl, k2_lo, k2_hi, k2_b⟩ := rng_t c_11
      have cl_k2 : (nI k2).toNatClampNeg = k2 := nI_clamp (by omega)
      have hr2 := hW.r (r := k2) (by omega)
      refine lv_aload_n hx hb dX4_copy_17 rfl (lv_at hl 0 rfl) ?_
      refine ps_mget (v := .ref (o + 2)) X hM 1 (by decide) q1290 rfl rfl dX4_copy_18 ?_
      refine lv_iload_n hx hb dX4_copy_21 rfl (lv_at hl 1 rfl) ?_
      refine ps_mld (j := k1) (v := nI (S.2.1 4 k1) - nI 1) X hM 2 (by decide) rfl (by show k1 < 8; omega) (hs.2.2.1 _ (by omega)) dX4_copy_22 ?_
      refine ps_ifpl (tgt := 35) hx hb dX4_copy_23 (by decide) (by omega) (fun c_23 => ?_) (fun c_23 => ?_)
      · skip
        refine lv_aload_n hx hb dX4_copy_35 rfl (lv_at hl 0 rfl) ?_
        refine lv_iconst (v := nI 1) hx hb dX4_copy_36 rfl ?_
        refine ps_geV X hE (m_X4_find l hE hM (f := 1) (by omega)) (lw_V q1376 q1378 qs32 q75 q1379) (by decide +kernel) ⟨⟨Nat.le_of_ble_eq_true rfl, Nat.le_of_ble_eq_true rfl⟩, Nat.le_of_ble_eq_true rfl, Nat.le_of_ble_eq_true rfl⟩ (ps_mrc X hM) hS hl.1 (As := [.int (nI 1)]) (rest := []) (n := 1) rfl rfl (Nat.le_of_ble_eq_true rfl) dX4_copy_37 (fun v5 H1 locs2 hp3 hS4 => ?_)
        obtain ⟨hv8, hM6, hf7⟩ := hp3
        subst hv8
        refine ps_st (st' := [.int (fnd 1)]) rfl ?_
        exact ps_iretG X hS4 (Nat.le_of_ble_eq_true rfl) (Nat.le_of_ble_eq_true rfl) dX4_copy_40 (ps_mend (S := (sStat S 1)) (by simp [op_copy, c_4, cl_k1, c_11, cl_k2, c_23]) hM6 (hs.stat 1) hf7)
      · skip
        refine lv_aload_n hx hb dX4_copy_26 rfl (lv_at hl 0 rfl) ?_
        refine ps_mget (v := .ref (o + 2)) X hM 1 (by decide) q1290 rfl rfl dX4_copy_27 ?_
        refine lv_iload_n hx hb dX4_copy_30 rfl (lv_at hl 3 rfl) ?_
        refine ps_mld (j := k2) (v := nI (S.2.1 4 k2) - nI 1) X hM 2 (by decide) rfl (by show k2 < 8; omega) (hs.2.2.1 _ (by omega)) dX4_copy_31 ?_
        refine ps_ifgp (tgt := 41) hx hb dX4_copy_32 (by decide) (by omega) (fun c_32 => ?_) (fun c_32 => ?_)
        · skip
          refine lv_aload_n hx hb dX4_copy_41 rfl (lv_at hl 0 rfl) ?_
          refine ps_mget (v := .ref (o + 1)) X hM 0 (by decide) q1289 rfl rfl dX4_copy_42 ?_
          refine lv_iload_n hx hb dX4_copy_45 rfl (lv_at hl 1 rfl) ?_
          refine ps_mld (j := k1) (v := nI (S.2.1 3 k1)) X hM 1 (by decide) rfl (by show k1 < 8; omega) (hs.2.1 _ (by show k1 < 8; omega)) dX4_copy_46 ?_
          refine lv_aload_n hx hb dX4_copy_47 rfl (lv_at hl 0 rfl) ?_
          refine ps_mget (v := .ref (o + 1)) X hM 0 (by decide) q1289 rfl rfl dX4_copy_48 ?_
          refine lv_iload_n hx hb dX4_copy_51 rfl (lv_at hl 3 rfl) ?_
          refine ps_mld (j := k2) (v := nI (S.2.1 3 k2)) X hM 1 (by decide) rfl (by show k2 < 8; omega) (hs.2.1 _ (by show k2 < 8; omega)) dX4_copy_52 ?_
          refine ps_ceq (tgt := 62) hx hb dX4_copy_53 (by decide) (by omega) (fun c_53 => ?_) (fun c_53 => ?_)
          · skip
            refine lv_iload hx hb dX4_copy_62 (lv_at hl 5 rfl) ?_
            refine lv_if_lt (tgt := 108) hx hb dX4_copy_64 (by decide) (fun c_64 => ?_) (fun c_64 => ?_)
            · skip
              have h0 : ¬ 0 ≤ u := Int32.not_le.mpr c_64
              refine lv_aload_n hx hb dX4_copy_108 rfl (lv_at hl 0 rfl) ?_
              refine lv_iconst (v := nI 2) hx hb dX4_copy_109 rfl ?_
              refine ps_geV X hE (m_X4_find l hE hM (f := 2) (by omega)) (lw_V q1376 q1378 qs32 q75 q1379) (by decide +kernel) ⟨⟨Nat.le_of_ble_eq_true rfl, Nat.le_of_ble_eq_true rfl⟩, Nat.le_of_ble_eq_true rfl, Nat.le_of_ble_eq_true rfl⟩ (ps_mrc X hM) hS hl.1 (As := [.int (nI 2)]) (rest := []) (n := 1) rfl rfl (Nat.le_of_ble_eq_true rfl) dX4_copy_110 (fun v13 H9 locs10 hp11 hS12 => ?_)
              obtain ⟨hv16, hM14, hf15⟩ := hp11
              subst hv16
              refine ps_st (st' := [.int (fnd 2)]) rfl ?_
              exact ps_iretG X hS12 (Nat.le_of_ble_eq_true rfl) (Nat.le_of_ble_eq_true rfl) dX4_copy_113 (ps_mend (S := (sStat S 2)) (by simp [op_copy, c_4, cl_k1, c_11, cl_k2, c_23, c_32, c_53, h0, show ¬ (S.2.1 4 k1 = 0) by omega, show ¬ (S.2.1 4 k2 = 0) by omega]) hM14 (hs.stat 2) hf15)
            · skip
              have h0 : 0 ≤ u := Int32.not_lt.mp c_64
              obtain ⟨u2, u2_b, rfl⟩ := nI_of c_64
              have cl_u2 : (nI u2).toNatClampNeg = u2 := nI_clamp (by omega)
              refine lv_iload_n hx hb dX4_copy_67 rfl (lv_at hl 2 rfl) ?_
              refine lv_i2l (v := (y).toInt64) hx hb dX4_copy_68 rfl ?_
              refine lv_lconst (v := lN 0) hx hb dX4_copy_69 rfl ?_
              refine lv_aload_n hx hb dX4_copy_70 rfl (lv_at hl 0 rfl) ?_
              refine ps_mget (v := .ref (o + 2)) X hM 1 (by decide) q1290 rfl rfl dX4_copy_71 ?_
              refine lv_iload_n hx hb dX4_copy_74 rfl (lv_at hl 1 rfl) ?_
              refine ps_mld (j := k1) (v := nI (S.2.1 4 k1 - 1)) X hM 2 (by decide) rfl (by show k1 < 8; omega) (by rw [hs.2.2.1 _ (by omega)]; exact pk_sub (by omega)) dX4_copy_75 ?_
              refine lv_i2l (v := (nI (S.2.1 4 k1 - 1)).toInt64) hx hb dX4_copy_76 rfl ?_
              refine lv_iload hx hb dX4_copy_77 (lv_at hl 5 rfl) ?_
              refine lv_i2l (v := (nI u2).toInt64) hx hb dX4_copy_79 rfl ?_
              refine lv_lsub hx hb dX4_copy_80 ?_
              refine ps_roS X hE (m_X4_in l hE (H := H) (x := y) (lo := 0) (hi := (S.2.1 4 k1 - u2)) (lN_toInt (by decide)) (ps_hcS (by omega) (by omega))) (lw_S q1371 q1372 q75 q1373) (by decide +kernel) ⟨⟨Nat.le_of_ble_eq_true rfl, Nat.le_of_ble_eq_true rfl⟩, Nat.le_of_ble_eq_true rfl, Nat.le_of_ble_eq_true rfl⟩ hS hl.1 (As := [.long ((y).toInt64), .long (lN 0), .long ((nI (S.2.1 4 k1 - 1)).toInt64 - (nI u2).toInt64)]) (rest := []) (n := 3) rfl rfl (Nat.le_of_ble_eq_true rfl) dX4_copy_81 ?_
              refine ps_st (st' := [.int (bI (rng y 0 ((S.2.1 4 k1 - u2))))]) rfl ?_
              refine ps_ifeqB (tgt := 108) hx hb dX4_copy_84 (by decide) (fun c_84 => ?_) (fun c_84 => ?_)
              · skip
                refine lv_aload_n hx hb dX4_copy_108 rfl (lv_at hl 0 rfl) ?_
                refine lv_iconst (v := nI 2) hx hb dX4_copy_109 rfl ?_
                refine ps_geV X hE (m_X4_find l hE hM (f := 2) (by omega)) (lw_V q1376 q1378 qs32 q75 q1379) (by decide +kernel) ⟨⟨Nat.le_of_ble_eq_true rfl, Nat.le_of_ble_eq_true rfl⟩, Nat.le_of_ble_eq_true rfl, Nat.le_of_ble_eq_true rfl⟩ (ps_mrc X hM) hS hl.1 (As := [.int (nI 2)]) (rest := []) (n := 1) rfl rfl (Nat.le_of_ble_eq_true rfl) dX4_copy_110 (fun v21 H17 locs18 hp19 hS20 => ?_)
                obtain ⟨hv24, hM22, hf23⟩ := hp19
                subst hv24
                refine ps_st (st' := [.int (fnd 2)]) rfl ?_
                exact ps_iretG X hS20 (Nat.le_of_ble_eq_true rfl) (Nat.le_of_ble_eq_true rfl) dX4_copy_113 (ps_mend (S := (sStat S 2)) (by simp [op_copy, c_4, cl_k1, c_11, cl_k2, c_23, c_32, c_53, h0, cl_u2, c_84, show ¬ (S.2.1 4 k1 = 0) by omega, show ¬ (S.2.1 4 k2 = 0) by omega]) hM22 (hs.stat 2) hf23)
              · skip
                obtain ⟨j1, rfl, j1_lo, j1_hi, j1_b⟩ := rng_t c_84
                have cl_j1 : (nI j1).toNatClampNeg = j1 := nI_clamp (by omega)
                refine lv_iload hx hb dX4_copy_87 (lv_at hl 4 rfl) ?_
                refine lv_i2l (v := (t).toInt64) hx hb dX4_copy_89 rfl ?_
                refine lv_lconst (v := lN 0) hx hb dX4_copy_90 rfl ?_
                refine lv_aload_n hx hb dX4_copy_91 rfl (lv_at hl 0 rfl) ?_
                refine ps_mget (v := .ref (o + 2)) X hM 1 (by decide) q1290 rfl rfl dX4_copy_92 ?_
                refine lv_iload_n hx hb dX4_copy_95 rfl (lv_at hl 3 rfl) ?_
                refine ps_mld (j := k2) (v := nI (S.2.1 4 k2 - 1)) X hM 2 (by decide) rfl (by show k2 < 8; omega) (by rw [hs.2.2.1 _ (by omega)]; exact pk_sub (by omega)) dX4_copy_96 ?_
                refine lv_i2l (v := (nI (S.2.1 4 k2 - 1)).toInt64) hx hb dX4_copy_97 rfl ?_
                refine lv_iload hx hb dX4_copy_98 (lv_at hl 5 rfl) ?_
                refine lv_i2l (v := (nI u2).toInt64) hx hb dX4_copy_100 rfl ?_
                refine lv_lsub hx hb dX4_copy_101 ?_
                refine ps_roS X hE (m_X4_in l hE (H := H) (x := t) (lo := 0) (hi := (S.2.1 4 k2 - u2)) (lN_toInt (by decide)) (ps_hcS (by omega) (by omega))) (lw_S q1371 q1372 q75 q1373) (by decide +kernel) ⟨⟨Nat.le_of_ble_eq_true rfl, Nat.le_of_ble_eq_true rfl⟩, Nat.le_of_ble_eq_true rfl, Nat.le_of_ble_eq_true rfl⟩ hS hl.1 (As := [.long ((t).toInt64), .long (lN 0), .long ((nI (S.2.1 4 k2 - 1)).toInt64 - (nI u2).toInt64)]) (rest := []) (n := 3) rfl rfl (Nat.le_of_ble_eq_true rfl) dX4_copy_102 ?_
                refine ps_st (st' := [.int (bI (rng t 0 ((S.2.1 4 k2 - u2))))]) rfl ?_
                refine ps_ifneB (tgt := 114) hx hb dX4_copy_105 (by decide) (fun c_105 => ?_) (fun c_105 => ?_)
                · skip
                  obtain ⟨j2, rfl, j2_lo, j2_hi, j2_b⟩ := rng_t c_105
                  have cl_j2 : (nI j2).toNatClampNeg = j2 := nI_clamp (by omega)
                  refine lv_iconst (v := nI 0) hx hb dX4_copy_114 rfl ?_
                  refine lv_istore (lv' := [(6, .int (nI 0)), (0, .ref (o)), (1, .int (nI k1)), (2, .int (nI j1)), (3, .int (nI k2)), (4, .int (nI j2)), (5, .int (nI u2))]) hx hb dX4_copy_115 hl (by decide) rfl (fun ls hl => ?_)
                  have L117 : ∀ (n : Nat) (i : Nat) (Ak117 : Nat → Nat → Int32) (Hk117 : Heap) (lk117 : List Loc) (hi117 : i ≤ u2) (hMk117 : ps_Mo E Hk117 o F Ak117) (hFk117 : ps_Mf o H Hk117) (hAk117 : ∀ qk, qk ≠ 5 → Ak117 qk = A qk) (hgk117 : ∀ q, Ak117 5 q = if q < i then (fun q => A 3 (40 * k1 + j1 + q)) q else A 5 q) (hSk117 : va_S (ps_A E) s.heap Hk117 lk117) (hmu : u2 - i < n) (ls : Array Slot) (hl : lv_has ls 7 [(6, .int (nI i)), (0, .ref (o)), (1, .int (nI k1)), (2, .int (nI j1)), (3, .int (nI k2)), (4, .int (nI j2)), (5, .int (nI u2))]), W p l e ({ frames := 3, cells := 0, slots := 0, locals := 57 } : Room) s m args below meth c Hk117 lk117 0 0 (MQ below (ps_ge (ps_mpost E H o (op_copy S (nI k1) (nI j1) (nI k2) (nI j2) (nI u2))) (ps_A E)) args s 0 0 (ps_A E)) (F0 m 117 ls []) := by
                    intro n
                    induction n with
                    | zero => intro i Ak117 Hk117 lk117 hi117 hMk117 hFk117 hAk117 hgk117 hSk117 hmu; exact absurd hmu (Nat.not_lt_zero _)
                    | succ n ih117 =>
                      intro i Ak117 Hk117 lk117 hi117 hMk117 hFk117 hAk117 hgk117 hSk117 hmu ls hl
                      refine lv_iload hx hb dX4_copy_117 (lv_at hl 0 rfl) ?_
                      refine lv_iload hx hb dX4_copy_119 (lv_at hl 6 rfl) ?_
                      refine ps_cge (tgt := 151) hx hb dX4_copy_121 (by decide) (by omega) (fun c_121 => ?_) (fun c_121 => ?_)
                      · skip
                        have ei117 : i = u2 := by omega
                        have eA117 := va_eta hAk117
                        have hMx117 := hMk117
                        rw [eA117] at hMx117
                        refine lv_iconst (v := nI 0) hx hb dX4_copy_151 rfl ?_
                        refine lv_istore (lv' := [(6, .int (nI 0)), (0, .ref (o)), (1, .int (nI k1)), (2, .int (nI j1)), (3, .int (nI k2)), (4, .int (nI j2)), (5, .int (nI u2))]) hx hb dX4_copy_152 hl (by decide) rfl (fun ls hl => ?_)
                        have L154 : ∀ (n : Nat) (i : Nat) (Ak154 : Nat → Nat → Int32) (Hk154 : Heap) (lk154 : List Loc) (hi154 : i ≤ u2) (hMk154 : ps_Mo E Hk154 o F Ak154) (hFk154 : ps_Mf o H Hk154) (hAk154 : ∀ qk, qk ≠ 3 → Ak154 qk = (va_up A 5 (Ak117 5)) qk) (hgk154 : ∀ q, Ak154 3 q = if 40 * k2 + j2 ≤ q ∧ q < 40 * k2 + j2 + i then (fun q => (Ak117 5) q) (q - (40 * k2 + j2)) else (va_up A 5 (Ak117 5)) 3 q) (hSk154 : va_S (ps_A E) s.heap Hk154 lk154) (hmu : u2 - i < n) (ls : Array Slot) (hl : lv_has ls 7 [(6, .int (nI i)), (0, .ref (o)), (1, .int (nI k1)), (2, .int (nI j1)), (3, .int (nI k2)), (4, .int (nI j2)), (5, .int (nI u2))]), W p l e ({ frames := 3, cells := 0, slots := 0, locals := 57 } : Room) s m args below meth c Hk154 lk154 0 0 (MQ below (ps_ge (ps_mpost E H o (op_copy S (nI k1) (nI j1) (nI k2) (nI j2) (nI u2))) (ps_A E)) args s 0 0 (ps_A E)) (F0 m 154 ls []) := by
                          intro n
                          induction n with
                          | zero => intro i Ak154 Hk154 lk154 hi154 hMk154 hFk154 hAk154 hgk154 hSk154 hmu; exact absurd hmu (Nat.not_lt_zero _)
                          | succ n ih154 =>
                            intro i Ak154 Hk154 lk154 hi154 hMk154 hFk154 hAk154 hgk154 hSk154 hmu ls hl
                            refine lv_iload hx hb dX4_copy_154 (lv_at hl 0 rfl) ?_
                            refine lv_iload hx hb dX4_copy_156 (lv_at hl 6 rfl) ?_
                            refine ps_cge (tgt := 189) hx hb dX4_copy_158 (by decide) (by omega) (fun c_158 => ?_) (fun c_158 => ?_)
                            · skip
                              have ei154 : i = u2 := by omega
                              have eA154 := va_eta hAk154
                              have hMx154 := hMk154
                              rw [eA154] at hMx154
                              refine lv_aload_n hx hb dX4_copy_189 rfl (lv_at hl 1 rfl) ?_
                              refine lv_iload hx hb dX4_copy_190 (lv_at hl 6 rfl) ?_
                              refine ps_geV X hE (m_X4_well l hE hMx154 (x := nI u2)) (lw_V q1381 q1383 qs33 q75 q1384) (by decide +kernel) ⟨⟨Nat.le_of_ble_eq_true rfl, Nat.le_of_ble_eq_true rfl⟩, Nat.le_of_ble_eq_true rfl, Nat.le_of_ble_eq_true rfl⟩ (ps_mrc X hMx154) hSk154 hl.1 (As := [.int (nI u2)]) (rest := []) (n := 1) rfl rfl (Nat.le_of_ble_eq_true rfl) dX4_copy_192 (fun v29 H25 locs26 hp27 hS28 => ?_)
                              obtain ⟨hv32, hM30, hf31⟩ := hp27
                              subst hv32
                              refine ps_st (st' := [.int (nI u2)]) rfl ?_
                              exact ps_iretG X hS28 (Nat.le_of_ble_eq_true rfl) (Nat.le_of_ble_eq_true rfl) dX4_copy_195 (ps_mend (S := (va_up S.1 0 0, S.2.1, fun q => if 40 * k2 + j2 ≤ q ∧ q < 40 * k2 + j2 + u2 then S.2.2 (40 * k1 + j1 + (q - (40 * k2 + j2))) else S.2.2 q)) (by simp [op_copy, c_4, cl_k1, c_11, cl_k2, c_23, c_32, c_53, h0, cl_u2, c_84, cl_j1, c_105, cl_j2, c_121, c_158, show ¬ (S.2.1 4 k1 = 0) by omega, show ¬ (S.2.1 4 k2 = 0) by omega]) hM30 (⟨⟨rfl, hs.1.2⟩, hs.2.1, hs.2.2.1, fun q hq => (hgk154 q).trans (by rw [ei154]; exact ps_cpc hq (fun i hi => (hgk117 i).trans (by rw [ei117, if_pos hi]; exact hs.2.2.2.1 _ (by omega))) hs.2.2.2.1), hs.2.2.2.2.1, hs.2.2.2.2.2.1, hs.2.2.2.2.2.2.1, hs.2.2.2.2.2.2.2.1, hs.2.2.2.2.2.2.2.2.1, hs.2.2.2.2.2.2.2.2.2⟩) (hFk154.tr hf31))
                            · skip
                              refine lv_aload_n hx hb dX4_copy_161 rfl (lv_at hl 1 rfl) ?_
                              refine ps_mget (v := .ref (o + 3)) X hMk154 2 (by decide) q1291 rfl rfl dX4_copy_162 ?_
                              refine lv_bipush (v := nI 40) hx hb dX4_copy_165 rfl ?_
                              refine lv_iload_n hx hb dX4_copy_167 rfl (lv_at hl 4 rfl) ?_
                              refine ps_imul hx hb dX4_copy_168 ?_
                              refine lv_iload hx hb dX4_copy_169 (lv_at hl 5 rfl) ?_
                              refine ps_iadd hx hb dX4_copy_171 ?_
                              refine lv_iload hx hb dX4_copy_172 (lv_at hl 0 rfl) ?_
                              refine ps_iadd hx hb dX4_copy_174 ?_
                              refine lv_aload_n hx hb dX4_copy_175 rfl (lv_at hl 1 rfl) ?_
                              refine ps_mget (v := .ref (o + 5)) X hMk154 6 (by decide) q1295 rfl rfl dX4_copy_176 ?_
                              refine lv_iload hx hb dX4_copy_179 (lv_at hl 0 rfl) ?_
                              refine ps_mld (j := i) (v := (Ak117 5) i) X hMk154 5 (by decide) rfl (by show i < 40; omega) (congrFun (hAk154 5 (by decide)) _) dX4_copy_181 ?_
                              refine ps_mst (j := ((40 * k2) + j2) + i) X hMk154 3 (by decide) rfl (by show ((40 * k2) + j2) + i < 320; omega) hSk154 dX4_copy_182 (fun H33 locs34 hM35 hf36 hS37 => ?_)
                              refine lv_iinc (v := nI (i + 1)) (lv' := [(6, .int (nI (i + 1))), (0, .ref (o)), (1, .int (nI k1)), (2, .int (nI j1)), (3, .int (nI k2)), (4, .int (nI j2)), (5, .int (nI u2))]) hx hb dX4_copy_183 hl (k := 0) rfl (ps_inc _) (by decide) rfl (fun ls hl => ?_)
                              refine lv_goto (tgt := 154) hx hb dX4_copy_186 (by decide) ?_
                              exact ih154  (i + 1) ((va_up Ak154 3 (upd (Ak154 3) (((40 * k2) + j2) + i) ((Ak117 5) i)))) H33 _ (by omega) hM35 ((hFk154.tr hf36)) (fun qk hqk => by rw [va_up_ne _ _ hqk]; exact hAk154 qk hqk) (ps_lpU (f := Ak154 3) (src := fun q => (Ak117 5) q) hgk154 (rfl)) hS37 (by omega) ls (lv_sub hl [0, 1, 2, 3, 4, 5, 6] rfl)
                        exact L154 ((u2 - 0) + 1) 0 ((va_up A 5 (Ak117 5))) Hk117 _ (by omega) hMx117 hFk117 (fun _ _ => rfl) (ps_lp0 (src := fun q => (Ak117 5) q) (b := 40 * k2 + j2)) hSk117 (Nat.lt_succ_self _) ls (lv_sub hl [0, 1, 2, 3, 4, 5, 6] rfl)
                      · skip
                        refine lv_aload_n hx hb dX4_copy_124 rfl (lv_at hl 1 rfl) ?_
                        refine ps_mget (v := .ref (o + 5)) X hMk117 6 (by decide) q1295 rfl rfl dX4_copy_125 ?_
                        refine lv_iload hx hb dX4_copy_128 (lv_at hl 0 rfl) ?_
                        refine lv_aload_n hx hb dX4_copy_130 rfl (lv_at hl 1 rfl) ?_
                        refine ps_mget (v := .ref (o + 3)) X hMk117 2 (by decide) q1291 rfl rfl dX4_copy_131 ?_
                        refine lv_bipush (v := nI 40) hx hb dX4_copy_134 rfl ?_
                        refine lv_iload_n hx hb dX4_copy_136 rfl (lv_at hl 2 rfl) ?_
                        refine ps_imul hx hb dX4_copy_137 ?_
                        refine lv_iload_n hx hb dX4_copy_138 rfl (lv_at hl 3 rfl) ?_
                        refine ps_iadd hx hb dX4_copy_139 ?_
                        refine lv_iload hx hb dX4_copy_140 (lv_at hl 0 rfl) ?_
                        refine ps_iadd hx hb dX4_copy_142 ?_
                        refine ps_mld (j := ((40 * k1) + j1) + i) (v := A 3 (40 * k1 + j1 + i)) X hMk117 3 (by decide) rfl (by show ((40 * k1) + j1) + i < 320; omega) (congrFun (hAk117 3 (by decide)) _) dX4_copy_143 ?_
                        refine ps_mst (j := i) X hMk117 5 (by decide) rfl (by show i < 40; omega) hSk117 dX4_copy_144 (fun H38 locs39 hM40 hf41 hS42 => ?_)
                        refine lv_iinc (v := nI (i + 1)) (lv' := [(6, .int (nI (i + 1))), (0, .ref (o)), (1, .int (nI k1)), (2, .int (nI j1)), (3, .int (nI k2)), (4, .int (nI j2)), (5, .int (nI u2))]) hx hb dX4_copy_145 hl (k := 0) rfl (ps_inc _) (by decide) rfl (fun ls hl => ?_)
                        refine lv_goto (tgt := 117) hx hb dX4_copy_148 (by decide) ?_
                        exact ih117  (i + 1) ((va_up Ak117 5 (upd (Ak117 5) i (A 3 (40 * k1 + j1 + i))))) H38 _ (by omega) hM40 ((hFk117.tr hf41)) (fun qk hqk => by rw [va_up_ne _ _ hqk]; exact hAk117 qk hqk) (ps_lpZ (f := Ak117 5) (src := fun q => A 3 (40 * k1 + j1 + q)) hgk117 (rfl)) hS42 (by omega) ls (lv_sub hl [0, 1, 2, 3, 4, 5, 6] rfl)
                  exact L117 ((u2 - 0) + 1) 0 A H _ (by omega) hM ps_Mf.rf (fun _ _ => rfl) (ps_lp00 (src := fun q => A 3 (40 * k1 + j1 + q))) hS (Nat.lt_succ_self _) ls (lv_sub hl [0, 1, 2, 3, 4, 5, 6] rfl)
                · skip
                  refine lv_aload_n hx hb dX4_copy_108 rfl (lv_at hl 0 rfl) ?_
                  refine lv_iconst (v := nI 2) hx hb dX4_copy_109 rfl ?_
                  refine ps_geV X hE (m_X4_find l hE hM (f := 2) (by omega)) (lw_V q1376 q1378 qs32 q75 q1379) (by decide +kernel) ⟨⟨Nat.le_of_ble_eq_true rfl, Nat.le_of_ble_eq_true rfl⟩, Nat.le_of_ble_eq_true rfl, Nat.le_of_ble_eq_true rfl⟩ (ps_mrc X hM) hS hl.1 (As := [.int (nI 2)]) (rest := []) (n := 1) rfl rfl (Nat.le_of_ble_eq_true rfl) dX4_copy_110 (fun v47 H43 locs44 hp45 hS46 => ?_)
                  obtain ⟨hv50, hM48, hf49⟩ := hp45
                  subst hv50
                  refine ps_st (st' := [.int (fnd 2)]) rfl ?_
                  exact ps_iretG X hS46 (Nat.le_of_ble_eq_true rfl) (Nat.le_of_ble_eq_true rfl) dX4_copy_113 (ps_mend (S := (sStat S 2)) (by simp [op_copy, c_4, cl_k1, c_11, cl_k2, c_23, c_32, c_53, h0, cl_u2, c_84, cl_j1, c_105, show ¬ (S.2.1 4 k1 = 0) by omega, show ¬ (S.2.1 4 k2 = 0) by omega]) hM48 (hs.stat 2) hf49)
          · skip
            refine lv_aload_n hx hb dX4_copy_56 rfl (lv_at hl 0 rfl) ?_
            refine lv_iconst (v := nI 5) hx hb dX4_copy_57 rfl ?_
            refine ps_geV X hE (m_X4_find l hE hM (f := 5) (by omega)) (lw_V q1376 q1378 qs32 q75 q1379) (by decide +kernel) ⟨⟨Nat.le_of_ble_eq_true rfl, Nat.le_of_ble_eq_true rfl⟩, Nat.le_of_ble_eq_true rfl, Nat.le_of_ble_eq_true rfl⟩ (ps_mrc X hM) hS hl.1 (As := [.int (nI 5)]) (rest := []) (n := 1) rfl rfl (Nat.le_of_ble_eq_true rfl) dX4_copy_58 (fun v55 H51 locs52 hp53 hS54 => ?_)
            obtain ⟨hv58, hM56, hf57⟩ := hp53
            subst hv58
            refine ps_st (st' := [.int (fnd 5)]) rfl ?_
            exact ps_iretG X hS54 (Nat.le_of_ble_eq_true rfl) (Nat.le_of_ble_eq_true rfl) dX4_copy_61 (ps_mend (S := (sStat S 5)) (by simp [op_copy, c_4, cl_k1, c_11, cl_k2, c_23, c_32, c_53, show ¬ (S.2.1 4 k1 = 0) by omega, show ¬ (S.2.1 4 k2 = 0) by omega]) hM56 (hs.stat 5) hf57)
        · skip
          refine lv_aload_n hx hb dX4_copy_35 rfl (lv_at hl 0 rfl) ?_
          refine lv_iconst (v := nI 1) hx hb dX4_copy_36 rfl ?_
          refine ps_geV X hE (m_X4_find l hE hM (f := 1) (by omega)) (lw_V q1376 q1378 qs32 q75 q1379) (by decide +kernel) ⟨⟨Nat.le_of_ble_eq_true rfl, Nat.le_of_ble_eq_true rfl⟩, Nat.le_of_ble_eq_true rfl, Nat.le_of_ble_eq_true rfl⟩ (ps_mrc X hM) hS hl.1 (As := [.int (nI 1)]) (rest := []) (n := 1) rfl rfl (Nat.le_of_ble_eq_true rfl) dX4_copy_37 (fun v63 H59 locs60 hp61 hS62 => ?_)
          obtain ⟨hv66, hM64, hf65⟩ := hp61
          subst hv66
          refine ps_st (st' := [.int (fnd 1)]) rfl ?_
          exact ps_iretG X hS62 (Nat.le_of_ble_eq_true rfl) (Nat.le_of_ble_eq_true rfl) dX4_copy_40 (ps_mend (S := (sStat S 1)) (by simp [op_copy, c_4, cl_k1, c_11, cl_k2, c_23, c_32]) hM64 (hs.stat 1) hf65)
    · skip
      refine lv_ldc (v := -1000001) hx hb ho (hts _ q1375) dX4_copy_14 ?_
      exact ps_iretG X hS (Nat.le_of_ble_eq_true rfl) (Nat.le_of_ble_eq_true rfl) dX4_copy_16 (ps_mend (S := S) (by simp [op_copy, c_4, cl_k1, c_11]) hM (hs) ps_Mf.rf)

set_option maxHeartbeats 4000000 in
theorem m_X4_lacks (l : Launch) {E : ps_E} (hE : ps_ZT E) {H : Heap} {o : Nat} {F : Nat → Int32} {A : Nat → Nat → Int32} (hM : ps_Mo E H o F A) {S : SS} (hs : sm F A S) (hW : wf S) {k u : Nat} {x : Int32} (hk : k < 8) (hu : u ≤ 16) : ps_Ge l E yX4_lacks cX4_lacks 4 (some .int) 2 37 0 0 [.ref (o), .int (nI k), .int (x), .int (nI u)] H (fun v H1 => v = some (.int (if S.2.1 4 k = 0 then fnd 1 else if rng x 0 (S.2.1 4 k - u) = true then nI 0 else fnd 2)) ∧ ((S.2.1 4 k ≠ 0 ∧ rng x 0 (S.2.1 4 k - u) = true → H1 = H) ∧ (¬ (S.2.1 4 k ≠ 0 ∧ rng x 0 (S.2.1 4 k - u) = true) → ps_Mo E H1 o (va_up F 3 (nI (if S.2.1 4 k = 0 then 1 else 2))) A ∧ ps_Mf o H H1))) := by
  refine ps_Ge.of (by decide) (Nat.le_of_ble_eq_true rfl) ?_
  intro p e s m args below meth c X ls hl
  have hx := X.1
  have hb := X.2.1
  have ho := X.2.2.2.1
  have hts := X.2.2.2.2.1
  have hS : va_S (ps_A E) s.heap H [] := by rw [X.2.2.2.2.2.2.2.2.1]; exact va_S.rf
  have hl : lv_has ls 4 [(0, .ref (o)), (1, .int (nI k)), (2, .int (x)), (3, .int (nI u))] := hl
  have hσ := hs.2.2.2.2.1
  have hO := hW.1
  have hm := hO.m
  have hn := hW.n
  have hr := hW.r hk
  refine lv_aload_n hx hb dX4_lacks_0 rfl (lv_at hl 0 rfl) ?_
  refine ps_mget (v := .ref (o + 2)) X hM 1 (by decide) q1290 rfl rfl dX4_lacks_1 ?_
  refine lv_iload_n hx hb dX4_lacks_4 rfl (lv_at hl 1 rfl) ?_
  refine ps_mld (j := k) (v := nI (S.2.1 4 k) - nI 1) X hM 2 (by decide) rfl (by show k < 8; omega) (hs.2.2.1 _ (by omega)) dX4_lacks_5 ?_
  refine ps_ifgp (tgt := 15) hx hb dX4_lacks_6 (by decide) (by omega) (fun c_6 => ?_) (fun c_6 => ?_)
  · skip
    refine lv_iload_n hx hb dX4_lacks_15 rfl (lv_at hl 2 rfl) ?_
    refine lv_i2l (v := (x).toInt64) hx hb dX4_lacks_16 rfl ?_
    refine lv_lconst (v := lN 0) hx hb dX4_lacks_17 rfl ?_
    refine lv_aload_n hx hb dX4_lacks_18 rfl (lv_at hl 0 rfl) ?_
    refine ps_mget (v := .ref (o + 2)) X hM 1 (by decide) q1290 rfl rfl dX4_lacks_19 ?_
    refine lv_iload_n hx hb dX4_lacks_22 rfl (lv_at hl 1 rfl) ?_
    refine ps_mld (j := k) (v := nI (S.2.1 4 k - 1)) X hM 2 (by decide) rfl (by show k < 8; omega) (by rw [hs.2.2.1 _ (by omega)]; exact pk_sub (by omega)) dX4_lacks_23 ?_
    refine lv_iload_n hx hb dX4_lacks_24 rfl (lv_at hl 3 rfl) ?_
    refine lv_isub hx hb dX4_lacks_25 ?_
    refine ps_top (y := nI (S.2.1 4 k - 1) - nI u) (rfl) ?_
    refine lv_i2l (v := (nI (S.2.1 4 k - 1) - nI u).toInt64) hx hb dX4_lacks_26 rfl ?_
    refine ps_roS X hE (m_X4_in l hE (H := H) (x := x) (lo := 0) (hi := (S.2.1 4 k - u)) (lN_toInt (by decide)) (ps_hcD (by omega) (by omega))) (lw_S q1371 q1372 q75 q1373) (by decide +kernel) ⟨⟨Nat.le_of_ble_eq_true rfl, Nat.le_of_ble_eq_true rfl⟩, Nat.le_of_ble_eq_true rfl, Nat.le_of_ble_eq_true rfl⟩ hS hl.1 (As := [.long ((x).toInt64), .long (lN 0), .long ((nI (S.2.1 4 k - 1) - nI u).toInt64)]) (rest := []) (n := 3) rfl rfl (Nat.le_of_ble_eq_true rfl) dX4_lacks_27 ?_
    refine ps_st (st' := [.int (bI (rng x 0 ((S.2.1 4 k - u))))]) rfl ?_
    refine ps_ifeqB (tgt := 37) hx hb dX4_lacks_30 (by decide) (fun c_30 => ?_) (fun c_30 => ?_)
    · skip
      refine lv_aload_n hx hb dX4_lacks_37 rfl (lv_at hl 0 rfl) ?_
      refine lv_iconst (v := nI 2) hx hb dX4_lacks_38 rfl ?_
      refine ps_geV X hE (m_X4_find l hE hM (f := 2) (by omega)) (lw_V q1376 q1378 qs32 q75 q1379) (by decide +kernel) ⟨⟨Nat.le_of_ble_eq_true rfl, Nat.le_of_ble_eq_true rfl⟩, Nat.le_of_ble_eq_true rfl, Nat.le_of_ble_eq_true rfl⟩ (ps_mrc X hM) hS hl.1 (As := [.int (nI 2)]) (rest := []) (n := 1) rfl rfl (Nat.le_of_ble_eq_true rfl) dX4_lacks_39 (fun v5 H1 locs2 hp3 hS4 => ?_)
      obtain ⟨hv8, hM6, hf7⟩ := hp3
      subst hv8
      refine ps_st (st' := [.int (fnd 2)]) rfl ?_
      exact ps_iretG X hS4 (Nat.le_of_ble_eq_true rfl) (Nat.le_of_ble_eq_true rfl) dX4_lacks_42 (⟨by simp [c_30, show ¬ (S.2.1 4 k = 0) by omega], fun z => by rw [c_30] at z; exact absurd z.2 (by decide), fun _ => by rw [if_neg (show ¬ (S.2.1 4 k = 0) by omega)]; exact ⟨hM6, hf7⟩⟩)
    · skip
      refine lv_iconst (v := nI 0) hx hb dX4_lacks_33 rfl ?_
      refine lv_goto (tgt := 42) hx hb dX4_lacks_34 (by decide) ?_
      exact ps_iretG X hS (Nat.le_of_ble_eq_true rfl) (Nat.le_of_ble_eq_true rfl) dX4_lacks_42 (⟨by simp [c_30, show ¬ (S.2.1 4 k = 0) by omega], fun _ => rfl, fun z => absurd ⟨by omega, c_30⟩ z⟩)
  · skip
    refine lv_aload_n hx hb dX4_lacks_9 rfl (lv_at hl 0 rfl) ?_
    refine lv_iconst (v := nI 1) hx hb dX4_lacks_10 rfl ?_
    refine ps_geV X hE (m_X4_find l hE hM (f := 1) (by omega)) (lw_V q1376 q1378 qs32 q75 q1379) (by decide +kernel) ⟨⟨Nat.le_of_ble_eq_true rfl, Nat.le_of_ble_eq_true rfl⟩, Nat.le_of_ble_eq_true rfl, Nat.le_of_ble_eq_true rfl⟩ (ps_mrc X hM) hS hl.1 (As := [.int (nI 1)]) (rest := []) (n := 1) rfl rfl (Nat.le_of_ble_eq_true rfl) dX4_lacks_11 (fun v13 H9 locs10 hp11 hS12 => ?_)
    obtain ⟨hv16, hM14, hf15⟩ := hp11
    subst hv16
    refine ps_st (st' := [.int (fnd 1)]) rfl ?_
    exact ps_iretG X hS12 (Nat.le_of_ble_eq_true rfl) (Nat.le_of_ble_eq_true rfl) dX4_lacks_14 (⟨by simp [c_6], fun z => absurd c_6 z.1, fun _ => by rw [if_pos c_6]; exact ⟨hM14, hf15⟩⟩)

set_option maxHeartbeats 4000000 in
theorem m_X4_isSo (l : Launch) {E : ps_E} (hE : ps_ZT E) {H : Heap} {o : Nat} {F : Nat → Int32} {A : Nat → Nat → Int32} (hM : ps_Mo E H o F A) {σ : Nat → Nat} (hσ : ps_Vw A 4 57 σ) (hO : sp_ok σ) {it : Nat → Int32} {q1 u x1 y1 : Nat} (hit : ∀ i, i < 320 → A 3 i = it i) (hq : q1 + 2 * u ≤ 320) (hx1 : x1 < 1000) (hy1 : 0 < y1 ∧ y1 < 1000) (hR : ∀ k, k < u → rng (it (q1 + 2 * k)) 0 (2 ^ σ 3) = true) : ps_Ro l E yX4_isSo cX4_isSo 7 (some .boolean) 5 103 [.ref (o), .int (nI q1), .int (nI u), .int (nI x1), .int (nI y1)] H (some (.int (bI (sp_so σ it q1 x1 y1 u)))) := by
  refine ps_Ro.of (by decide) (Nat.le_of_ble_eq_true rfl) ?_
  intro p e s m args below meth c X ls hl
  have hx := X.1
  have hb := X.2.1
  have ho := X.2.2.2.1
  have hts := X.2.2.2.2.1
  have hS : va_S (ps_A E) s.heap H [] := by rw [X.2.2.2.2.2.2.2.2.1]; exact va_S.rf
  have hl : lv_has ls 7 [(0, .ref (o)), (1, .int (nI q1)), (2, .int (nI u)), (3, .int (nI x1)), (4, .int (nI y1))] := hl
  have hm := hO.m
  refine lv_iconst (v := nI 1) hx hb dX4_isSo_0 rfl ?_
  refine lv_istore (lv' := [(5, .int (nI 1)), (0, .ref (o)), (1, .int (nI q1)), (2, .int (nI u)), (3, .int (nI x1)), (4, .int (nI y1))]) hx hb dX4_isSo_1 hl (by decide) rfl (fun ls hl => ?_)
  refine lv_iconst (v := nI 0) hx hb dX4_isSo_3 rfl ?_
  refine lv_istore (lv' := [(6, .int (nI 0)), (5, .int (nI 1)), (0, .ref (o)), (1, .int (nI q1)), (2, .int (nI u)), (3, .int (nI x1)), (4, .int (nI y1))]) hx hb dX4_isSo_4 hl (by decide) rfl (fun ls hl => ?_)
  have L6 : ∀ (n : Nat) (j : Nat) (hj : j ≤ u) (hmu : u - j < n) (ls : Array Slot) (hl : lv_has ls 7 [(6, .int (nI j)), (5, .int (bI (sp_so σ it q1 x1 y1 j))), (0, .ref (o)), (1, .int (nI q1)), (2, .int (nI u)), (3, .int (nI x1)), (4, .int (nI y1))]), W p l e ({ frames := 5, cells := 0, slots := 0, locals := 103 } : Room) s m args below meth c H [] 0 0 (MQ below (ps_ro (some (.int (bI (sp_so σ it q1 x1 y1 u))))) args s 0 0 (fun _ => False)) (F0 m 6 ls []) := by
    intro n
    induction n with
    | zero => intro j hj hmu; exact absurd hmu (Nat.not_lt_zero _)
    | succ n ih6 =>
      intro j hj hmu ls hl
      refine lv_iload hx hb dX4_isSo_6 (lv_at hl 0 rfl) ?_
      refine lv_iload_n hx hb dX4_isSo_8 rfl (lv_at hl 4 rfl) ?_
      refine ps_cge (tgt := 67) hx hb dX4_isSo_9 (by decide) (by omega) (fun c_9 => ?_) (fun c_9 => ?_)
      · skip
        have ej : j = u := by omega
        refine lv_iload hx hb dX4_isSo_67 (lv_at hl 1 rfl) ?_
        exact ps_zretR (b := sp_so σ it q1 x1 y1 u) X dX4_isSo_69 (congrArg bI (by rw [ej])) rfl
      · skip
        obtain ⟨sx, hsx, sx0, sx1, sx2⟩ := rng_t (hR j (by omega))
        have hp2 := ps_p2 (k := σ 3) (by omega)
        have hsm := sp_sum_le hO (set := sx) (k := σ 3) (Nat.le_refl _)
        have hby := sp_by_le (a := sp_sum σ sx (σ 3)) (b := x1) (c := y1)
        have cl_sx : (nI sx).toNatClampNeg = sx := nI_clamp (by omega)
        have J59 : W p l e ({ frames := 5, cells := 0, slots := 0, locals := 103 } : Room) s m args below meth c H [] 0 0 (MQ below (ps_ro (some (.int (bI (sp_so σ it q1 x1 y1 u))))) args s 0 0 (fun _ => False)) (F0 m 59 ls [.int (bI (sp_so σ it q1 x1 y1 (j + 1)))]) := by
          refine lv_istore (lv' := [(5, .int (bI (sp_so σ it q1 x1 y1 (j + 1)))), (6, .int (nI j)), (0, .ref (o)), (1, .int (nI q1)), (2, .int (nI u)), (3, .int (nI x1)), (4, .int (nI y1))]) hx hb dX4_isSo_59 hl (by decide) rfl (fun ls hl => ?_)
          refine lv_iinc (v := nI (j + 1)) (lv' := [(6, .int (nI (j + 1))), (5, .int (bI (sp_so σ it q1 x1 y1 (j + 1)))), (0, .ref (o)), (1, .int (nI q1)), (2, .int (nI u)), (3, .int (nI x1)), (4, .int (nI y1))]) hx hb dX4_isSo_61 hl (k := 1) rfl (ps_inc _) (by decide) rfl (fun ls hl => ?_)
          refine lv_goto (tgt := 6) hx hb dX4_isSo_64 (by decide) ?_
          exact ih6  (j + 1) (by omega) (by omega) ls (lv_sub hl [0, 1, 2, 3, 4, 5, 6] rfl)
        refine lv_iload hx hb dX4_isSo_12 (lv_at hl 1 rfl) ?_
        refine ps_ifeqB (tgt := 58) hx hb dX4_isSo_14 (by decide) (fun c_14 => ?_) (fun c_14 => ?_)
        · skip
          refine lv_iconst (v := nI 0) hx hb dX4_isSo_58 rfl ?_
          exact ps_top ((bI_is0 (by rw [sp_so, allR, show allR _ 0 j = false from c_14]; rfl))) J59
        · skip
          refine lv_aload_n hx hb dX4_isSo_17 rfl (lv_at hl 2 rfl) ?_
          refine lv_aload_n hx hb dX4_isSo_18 rfl (lv_at hl 2 rfl) ?_
          refine ps_mget (v := .ref (o + 3)) X hM 2 (by decide) q1291 rfl rfl dX4_isSo_19 ?_
          refine lv_iload_n hx hb dX4_isSo_22 rfl (lv_at hl 3 rfl) ?_
          refine lv_iconst (v := nI 2) hx hb dX4_isSo_23 rfl ?_
          refine lv_iload hx hb dX4_isSo_24 (lv_at hl 0 rfl) ?_
          refine ps_imul hx hb dX4_isSo_26 ?_
          refine ps_iadd hx hb dX4_isSo_27 ?_
          refine ps_mld (j := q1 + (2 * j)) (v := nI sx) X hM 3 (by decide) rfl (by show q1 + (2 * j) < 320; omega) ((hit _ (by omega)).trans hsx) dX4_isSo_28 ?_
          refine ps_roV X hE (m_X4_sumOf l hE hM hσ hO (u := sx) (by omega)) (lw_V q1472 q1474 qs46 q75 q1475) (by decide +kernel) ⟨⟨Nat.le_of_ble_eq_true rfl, Nat.le_of_ble_eq_true rfl⟩, Nat.le_of_ble_eq_true rfl, Nat.le_of_ble_eq_true rfl⟩ (ps_mrc X hM) hS hl.1 (As := [.int (nI sx)]) (rest := []) (n := 1) rfl rfl (Nat.le_of_ble_eq_true rfl) dX4_isSo_29 ?_
          refine ps_st (st' := [.int (nI (sp_sum σ sx (σ 3)))]) rfl ?_
          refine lv_iload_n hx hb dX4_isSo_32 rfl (lv_at hl 5 rfl) ?_
          refine lv_iload hx hb dX4_isSo_33 (lv_at hl 6 rfl) ?_
          refine ps_roS X hE (m_X4_readBy l hE (H := H) (u := sp_sum σ sx (σ 3)) (x := x1) (y := y1) (by omega) (by omega) (by omega)) (lw_S q1491 q1492 q75 q1493) (by decide +kernel) ⟨⟨Nat.le_of_ble_eq_true rfl, Nat.le_of_ble_eq_true rfl⟩, Nat.le_of_ble_eq_true rfl, Nat.le_of_ble_eq_true rfl⟩ hS hl.1 (As := [.int (nI (sp_sum σ sx (σ 3))), .int (nI x1), .int (nI y1)]) (rest := []) (n := 3) rfl rfl (Nat.le_of_ble_eq_true rfl) dX4_isSo_35 ?_
          refine ps_st (st' := [.int (nI (sp_by (sp_sum σ sx (σ 3)) x1 y1))]) rfl ?_
          refine lv_aload_n hx hb dX4_isSo_38 rfl (lv_at hl 2 rfl) ?_
          refine ps_mget (v := .ref (o + 3)) X hM 2 (by decide) q1291 rfl rfl dX4_isSo_39 ?_
          refine lv_iload_n hx hb dX4_isSo_42 rfl (lv_at hl 3 rfl) ?_
          refine lv_iconst (v := nI 2) hx hb dX4_isSo_43 rfl ?_
          refine lv_iload hx hb dX4_isSo_44 (lv_at hl 0 rfl) ?_
          refine ps_imul hx hb dX4_isSo_46 ?_
          refine ps_iadd hx hb dX4_isSo_47 ?_
          refine lv_iconst (v := nI 1) hx hb dX4_isSo_48 rfl ?_
          refine ps_iadd hx hb dX4_isSo_49 ?_
          refine ps_mld (j := (q1 + (2 * j)) + 1) (v := it (q1 + 2 * j + 1)) X hM 3 (by decide) rfl (by show (q1 + (2 * j)) + 1 < 320; omega) (hit _ (by omega)) dX4_isSo_50 ?_
          refine lv_icmp_ne (tgt := 58) hx hb dX4_isSo_51 (by decide) (fun c_51 => ?_) (fun c_51 => ?_)
          · skip
            refine lv_iconst (v := nI 0) hx hb dX4_isSo_58 rfl ?_
            exact ps_top ((bI_is0 (by rw [sp_so, allR]; simp [hsx, cl_sx, c_51]))) J59
          · skip
            refine lv_iconst (v := nI 1) hx hb dX4_isSo_54 rfl ?_
            refine lv_goto (tgt := 59) hx hb dX4_isSo_55 (by decide) ?_
            exact ps_top ((bI_is1 (by rw [sp_so, allR]; simp [hsx, cl_sx, c_51]; exact c_14))) J59
  have e1 : (nI 1 : Int32) = bI (sp_so σ it q1 x1 y1 0) := rfl
  have hl : lv_has ls 7 [(6, .int (nI 0)), (5, .int (bI (sp_so σ it q1 x1 y1 0))), (0, .ref (o)), (1, .int (nI q1)), (2, .int (nI u)), (3, .int (nI x1)), (4, .int (nI y1))] := ps_lv (l1 := [(6, .int (nI 0)), (5, .int (nI 1)), (0, .ref (o)), (1, .int (nI q1)), (2, .int (nI u)), (3, .int (nI x1)), (4, .int (nI y1))]) (lv_sub hl [0, 1, 2, 3, 4, 5, 6] rfl) (by rw [e1])
  exact L6 ((u - 0) + 1) 0 (by omega) (Nat.lt_succ_self _) ls (hl)
