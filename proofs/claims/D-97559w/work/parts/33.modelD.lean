/-! the model: what changes it (printed by gen/model4.py) -/
set_option maxRecDepth 100000
set_option maxHeartbeats 4000000 in
theorem m_X4_find (l : Launch) {E : ps_E} (hE : ps_ZT E) {H : Heap} {o : Nat} {F : Nat → Int32} {A : Nat → Nat → Int32} (hM : ps_Mo E H o F A) {f : Nat} (hf0 : f < 6) : ps_Ge l E yX4_find cX4_find 2 (some .int) 1 12 0 0 [.ref (o), .int (nI f)] H (fun v H1 => v = some (.int (fnd f)) ∧ ps_Mo E H1 o (va_up F 3 (nI f)) A ∧ ps_Mf o H H1) := by
  refine ps_Ge.of (by decide) (Nat.le_of_ble_eq_true rfl) ?_
  intro p e s m args below meth c X ls hl
  have hx := X.1
  have hb := X.2.1
  have ho := X.2.2.2.1
  have hts := X.2.2.2.2.1
  have hS : va_S (ps_A E) s.heap H [] := by rw [X.2.2.2.2.2.2.2.2.1]; exact va_S.rf
  have hl : lv_has ls 2 [(0, .ref (o)), (1, .int (nI f))] := hl
  refine lv_aload_n hx hb dX4_find_0 rfl (lv_at hl 0 rfl) ?_
  refine lv_iload_n hx hb dX4_find_1 rfl (lv_at hl 1 rfl) ?_
  refine ps_mput X hM 3 (by decide) q1292 rfl rfl rfl rfl hS dX4_find_2 (fun H1 locs2 hM3 hf4 hS5 => ?_)
  refine lv_ldc (v := -1000010) hx hb ho (hts _ q1380) dX4_find_5 ?_
  refine lv_iload_n hx hb dX4_find_7 rfl (lv_at hl 1 rfl) ?_
  refine lv_isub hx hb dX4_find_8 ?_
  refine ps_top (y := fnd f) (rfl) ?_
  exact ps_iretG X hS5 (Nat.le_of_ble_eq_true rfl) (Nat.le_of_ble_eq_true rfl) dX4_find_9 (⟨rfl, hM3, hf4⟩)

set_option maxHeartbeats 4000000 in
theorem m_X4_well (l : Launch) {E : ps_E} (hE : ps_ZT E) {H : Heap} {o : Nat} {F : Nat → Int32} {A : Nat → Nat → Int32} (hM : ps_Mo E H o F A) {x : Int32} : ps_Ge l E yX4_well cX4_well 2 (some .int) 1 12 0 0 [.ref (o), .int (x)] H (fun v H1 => v = some (.int x) ∧ ps_Mo E H1 o (va_up F 3 (nI 0)) A ∧ ps_Mf o H H1) := by
  refine ps_Ge.of (by decide) (Nat.le_of_ble_eq_true rfl) ?_
  intro p e s m args below meth c X ls hl
  have hx := X.1
  have hb := X.2.1
  have ho := X.2.2.2.1
  have hts := X.2.2.2.2.1
  have hS : va_S (ps_A E) s.heap H [] := by rw [X.2.2.2.2.2.2.2.2.1]; exact va_S.rf
  have hl : lv_has ls 2 [(0, .ref (o)), (1, .int (x))] := hl
  refine lv_aload_n hx hb dX4_well_0 rfl (lv_at hl 0 rfl) ?_
  refine lv_iconst (v := nI 0) hx hb dX4_well_1 rfl ?_
  refine ps_mput X hM 3 (by decide) q1292 rfl rfl rfl rfl hS dX4_well_2 (fun H1 locs2 hM3 hf4 hS5 => ?_)
  refine lv_iload_n hx hb dX4_well_5 rfl (lv_at hl 1 rfl) ?_
  exact ps_iretG X hS5 (Nat.le_of_ble_eq_true rfl) (Nat.le_of_ble_eq_true rfl) dX4_well_6 (⟨rfl, hM3, hf4⟩)

set_option maxHeartbeats 4000000 in
theorem m_X4_asLane (l : Launch) {E : ps_E} (hE : ps_ZT E) {H : Heap} {u : Nat} {x : Int32} (hu : u ≤ 2) : ps_Ro l E yX4_asLane cX4_asLane 2 (some .int) 1 12 [.int (nI u), .int (x)] H (some (.int (asl u x))) := by
  refine ps_Ro.of (by decide) (Nat.le_of_ble_eq_true rfl) ?_
  intro p e s m args below meth c X ls hl
  have hx := X.1
  have hb := X.2.1
  have ho := X.2.2.2.1
  have hts := X.2.2.2.2.1
  have hS : va_S (ps_A E) s.heap H [] := by rw [X.2.2.2.2.2.2.2.2.1]; exact va_S.rf
  have hl : lv_has ls 2 [(0, .int (nI u)), (1, .int (x))] := hl
  refine lv_iload_n hx hb dX4_asLane_0 rfl (lv_at hl 0 rfl) ?_
  refine ps_ifne (tgt := 14) hx hb dX4_asLane_1 (by decide) (by omega) (fun c_1 => ?_) (fun c_1 => ?_)
  · skip
    refine lv_iload_n hx hb dX4_asLane_14 rfl (lv_at hl 0 rfl) ?_
    refine lv_iconst (v := nI 1) hx hb dX4_asLane_15 rfl ?_
    refine ps_cne (tgt := 29) hx hb dX4_asLane_16 (by decide) (by omega) (fun c_16 => ?_) (fun c_16 => ?_)
    · skip
      refine lv_iload_n hx hb dX4_asLane_29 rfl (lv_at hl 1 rfl) ?_
      exact ps_iretR X dX4_asLane_30 (congrArg (fun z => some (Value.int z)) (by simp [asl, c_1, c_16]))
    · skip
      refine lv_iload_n hx hb dX4_asLane_19 rfl (lv_at hl 1 rfl) ?_
      refine lv_bipush (v := nI 16) hx hb dX4_asLane_20 rfl ?_
      refine lv_ishl hx hb dX4_asLane_22 ?_
      refine lv_bipush (v := nI 16) hx hb dX4_asLane_23 rfl ?_
      refine lv_ishr hx hb dX4_asLane_25 ?_
      refine ps_top (y := x.toInt16.toInt32) (ps_sh16 _) ?_
      refine lv_goto (tgt := 30) hx hb dX4_asLane_26 (by decide) ?_
      exact ps_iretR X dX4_asLane_30 (congrArg (fun z => some (Value.int z)) (by subst c_16; simp [asl, c_1]))
  · skip
    refine lv_iload_n hx hb dX4_asLane_4 rfl (lv_at hl 1 rfl) ?_
    refine lv_bipush (v := nI 24) hx hb dX4_asLane_5 rfl ?_
    refine lv_ishl hx hb dX4_asLane_7 ?_
    refine lv_bipush (v := nI 24) hx hb dX4_asLane_8 rfl ?_
    refine lv_ishr hx hb dX4_asLane_10 ?_
    refine ps_top (y := x.toInt8.toInt32) (ps_sh24 _) ?_
    refine lv_goto (tgt := 30) hx hb dX4_asLane_11 (by decide) ?_
    exact ps_iretR X dX4_asLane_30 (congrArg (fun z => some (Value.int z)) (by subst c_1; simp [asl]))

set_option maxHeartbeats 4000000 in
theorem m_X4_set (l : Launch) {E : ps_E} (hE : ps_ZT E) {H : Heap} {o : Nat} {F : Nat → Int32} {A : Nat → Nat → Int32} (hM : ps_Mo E H o F A) {S : SS} (hs : sm F A S) (hW : wf S) {x y z : Int32} : ps_Ge l E yX4_set cX4_set 4 (some .int) 3 57 0 0 [.ref (o), .int (x), .int (y), .int (z)] H (ps_mpost E H o (op_set S x y z)) := by
  refine ps_Ge.of (by decide) (Nat.le_of_ble_eq_true rfl) ?_
  intro p e s m args below meth c X ls hl
  have hx := X.1
  have hb := X.2.1
  have ho := X.2.2.2.1
  have hts := X.2.2.2.2.1
  have hS : va_S (ps_A E) s.heap H [] := by rw [X.2.2.2.2.2.2.2.2.1]; exact va_S.rf
  have hl : lv_has ls 4 [(0, .ref (o)), (1, .int (x)), (2, .int (y)), (3, .int (z))] := hl
  have hσ := hs.2.2.2.2.1
  have hO := hW.1
  have hm := hO.m
  have hn := hW.n
  refine lv_iload_n hx hb dX4_set_0 rfl (lv_at hl 1 rfl) ?_
  refine ps_roS X hE (m_X4_isRow l hE (H := H) (x := x)) (lw_S q1367 q1368 q75 q1369) (by decide +kernel) ⟨⟨Nat.le_of_ble_eq_true rfl, Nat.le_of_ble_eq_true rfl⟩, Nat.le_of_ble_eq_true rfl, Nat.le_of_ble_eq_true rfl⟩ hS hl.1 (As := [.int (x)]) (rest := []) (n := 1) rfl rfl (Nat.le_of_ble_eq_true rfl) dX4_set_1 ?_
  refine ps_st (st' := [.int (bI (rng x 0 8))]) rfl ?_
  refine ps_ifneB (tgt := 10) hx hb dX4_set_4 (by decide) (fun c_4 => ?_) (fun c_4 => ?_)
  · skip
    obtain ⟨k, rfl, k_lo, k_hi, k_b⟩ := rng_t c_4
    have cl_k : (nI k).toNatClampNeg = k := nI_clamp (by omega)
    have hr := hW.r (r := k) (by omega)
    refine lv_aload_n hx hb dX4_set_10 rfl (lv_at hl 0 rfl) ?_
    refine ps_mget (v := .ref (o + 2)) X hM 1 (by decide) q1290 rfl rfl dX4_set_11 ?_
    refine lv_iload_n hx hb dX4_set_14 rfl (lv_at hl 1 rfl) ?_
    refine ps_mld (j := k) (v := nI (S.2.1 4 k) - nI 1) X hM 2 (by decide) rfl (by show k < 8; omega) (hs.2.2.1 _ (by omega)) dX4_set_15 ?_
    refine ps_ifgp (tgt := 25) hx hb dX4_set_16 (by decide) (by omega) (fun c_16 => ?_) (fun c_16 => ?_)
    · skip
      refine lv_iload_n hx hb dX4_set_25 rfl (lv_at hl 2 rfl) ?_
      refine lv_i2l (v := (y).toInt64) hx hb dX4_set_26 rfl ?_
      refine lv_lconst (v := lN 0) hx hb dX4_set_27 rfl ?_
      refine lv_aload_n hx hb dX4_set_28 rfl (lv_at hl 0 rfl) ?_
      refine ps_mget (v := .ref (o + 2)) X hM 1 (by decide) q1290 rfl rfl dX4_set_29 ?_
      refine lv_iload_n hx hb dX4_set_32 rfl (lv_at hl 1 rfl) ?_
      refine ps_mld (j := k) (v := nI (S.2.1 4 k - 1)) X hM 2 (by decide) rfl (by show k < 8; omega) (by rw [hs.2.2.1 k (by omega)]; exact pk_sub (by omega)) dX4_set_33 ?_
      refine lv_iconst (v := nI 1) hx hb dX4_set_34 rfl ?_
      refine lv_isub hx hb dX4_set_35 ?_
      refine ps_top (y := nI (S.2.1 4 k - 1) - nI 1) (rfl) ?_
      refine lv_i2l (v := (nI (S.2.1 4 k - 1) - nI 1).toInt64) hx hb dX4_set_36 rfl ?_
      refine ps_roS X hE (m_X4_in l hE (H := H) (x := y) (lo := 0) (hi := S.2.1 4 k - 1) (lN_toInt (by decide)) (ps_hcP (by omega))) (lw_S q1371 q1372 q75 q1373) (by decide +kernel) ⟨⟨Nat.le_of_ble_eq_true rfl, Nat.le_of_ble_eq_true rfl⟩, Nat.le_of_ble_eq_true rfl, Nat.le_of_ble_eq_true rfl⟩ hS hl.1 (As := [.long ((y).toInt64), .long (lN 0), .long ((nI (S.2.1 4 k - 1) - nI 1).toInt64)]) (rest := []) (n := 3) rfl rfl (Nat.le_of_ble_eq_true rfl) dX4_set_37 ?_
      refine ps_st (st' := [.int (bI (rng y 0 (S.2.1 4 k - 1)))]) rfl ?_
      refine ps_ifneB (tgt := 49) hx hb dX4_set_40 (by decide) (fun c_40 => ?_) (fun c_40 => ?_)
      · skip
        obtain ⟨j, rfl, j_lo, j_hi, j_b⟩ := rng_t c_40
        have cl_j : (nI j).toNatClampNeg = j := nI_clamp (by omega)
        refine lv_aload_n hx hb dX4_set_49 rfl (lv_at hl 0 rfl) ?_
        refine ps_mget (v := .ref (o + 3)) X hM 2 (by decide) q1291 rfl rfl dX4_set_50 ?_
        refine lv_bipush (v := nI 40) hx hb dX4_set_53 rfl ?_
        refine lv_iload_n hx hb dX4_set_55 rfl (lv_at hl 1 rfl) ?_
        refine ps_imul hx hb dX4_set_56 ?_
        refine lv_iload_n hx hb dX4_set_57 rfl (lv_at hl 2 rfl) ?_
        refine ps_iadd hx hb dX4_set_58 ?_
        refine lv_aload_n hx hb dX4_set_59 rfl (lv_at hl 0 rfl) ?_
        refine ps_mget (v := .ref (o + 1)) X hM 0 (by decide) q1289 rfl rfl dX4_set_60 ?_
        refine lv_iload_n hx hb dX4_set_63 rfl (lv_at hl 1 rfl) ?_
        refine ps_mld (j := k) (v := nI (S.2.1 3 k)) X hM 1 (by decide) rfl (by show k < 8; omega) (hs.2.1 _ (by show k < 8; omega)) dX4_set_64 ?_
        refine lv_iload_n hx hb dX4_set_65 rfl (lv_at hl 3 rfl) ?_
        refine ps_roS X hE (m_X4_asLane l hE (H := H) (u := S.2.1 3 k) (x := z) (by omega)) (lw_S q1389 q1390 q75 q1391) (by decide +kernel) ⟨⟨Nat.le_of_ble_eq_true rfl, Nat.le_of_ble_eq_true rfl⟩, Nat.le_of_ble_eq_true rfl, Nat.le_of_ble_eq_true rfl⟩ hS hl.1 (As := [.int (nI (S.2.1 3 k)), .int (z)]) (rest := [.int (nI ((40 * k) + j)), .ref (o + 3)]) (n := 2) rfl rfl (Nat.le_of_ble_eq_true rfl) dX4_set_66 ?_
        refine ps_st (st' := [.int (asl (S.2.1 3 k) z), .int (nI ((40 * k) + j)), .ref (o + 3)]) rfl ?_
        refine ps_mst (j := (40 * k) + j) X hM 3 (by decide) rfl (by show (40 * k) + j < 320; omega) hS dX4_set_69 (fun H1 locs2 hM3 hf4 hS5 => ?_)
        refine lv_aload_n hx hb dX4_set_70 rfl (lv_at hl 0 rfl) ?_
        refine lv_aload_n hx hb dX4_set_71 rfl (lv_at hl 0 rfl) ?_
        refine ps_mget (v := .ref (o + 3)) X hM3 2 (by decide) q1291 rfl rfl dX4_set_72 ?_
        refine lv_bipush (v := nI 40) hx hb dX4_set_75 rfl ?_
        refine lv_iload_n hx hb dX4_set_77 rfl (lv_at hl 1 rfl) ?_
        refine ps_imul hx hb dX4_set_78 ?_
        refine lv_iload_n hx hb dX4_set_79 rfl (lv_at hl 2 rfl) ?_
        refine ps_iadd hx hb dX4_set_80 ?_
        refine ps_mld (j := (40 * k) + j) (v := asl (S.2.1 3 k) z) X hM3 3 (by decide) rfl (by show (40 * k) + j < 320; omega) (pk_us) dX4_set_81 ?_
        refine ps_geV X hE (m_X4_well l hE hM3 (x := asl (S.2.1 3 k) z)) (lw_V q1381 q1383 qs33 q75 q1384) (by decide +kernel) ⟨⟨Nat.le_of_ble_eq_true rfl, Nat.le_of_ble_eq_true rfl⟩, Nat.le_of_ble_eq_true rfl, Nat.le_of_ble_eq_true rfl⟩ (ps_mrc X hM3) hS5 hl.1 (As := [.int (asl (S.2.1 3 k) z)]) (rest := []) (n := 1) rfl rfl (Nat.le_of_ble_eq_true rfl) dX4_set_82 (fun v10 H6 locs7 hp8 hS9 => ?_)
        obtain ⟨hv13, hM11, hf12⟩ := hp8
        subst hv13
        refine ps_st (st' := [.int (asl (S.2.1 3 k) z)]) rfl ?_
        exact ps_iretG X hS9 (Nat.le_of_ble_eq_true rfl) (Nat.le_of_ble_eq_true rfl) dX4_set_85 (ps_mend (S := (va_up S.1 0 0, S.2.1, upd S.2.2 (40 * k + j) (asl (S.2.1 3 k) z))) (by simp [op_set, c_4, cl_k, c_16, c_40, cl_j, Nat.ne_of_gt c_16]) hM11 (⟨⟨rfl, hs.1.2⟩, hs.2.1, hs.2.2.1, fun i hi => ps_upc (hs.2.2.2.1) hi, hs.2.2.2.2⟩) (hf4.tr hf12))
      · skip
        refine lv_aload_n hx hb dX4_set_43 rfl (lv_at hl 0 rfl) ?_
        refine lv_iconst (v := nI 2) hx hb dX4_set_44 rfl ?_
        refine ps_geV X hE (m_X4_find l hE hM (f := 2) (by omega)) (lw_V q1376 q1378 qs32 q75 q1379) (by decide +kernel) ⟨⟨Nat.le_of_ble_eq_true rfl, Nat.le_of_ble_eq_true rfl⟩, Nat.le_of_ble_eq_true rfl, Nat.le_of_ble_eq_true rfl⟩ (ps_mrc X hM) hS hl.1 (As := [.int (nI 2)]) (rest := []) (n := 1) rfl rfl (Nat.le_of_ble_eq_true rfl) dX4_set_45 (fun v18 H14 locs15 hp16 hS17 => ?_)
        obtain ⟨hv21, hM19, hf20⟩ := hp16
        subst hv21
        refine ps_st (st' := [.int (fnd 2)]) rfl ?_
        exact ps_iretG X hS17 (Nat.le_of_ble_eq_true rfl) (Nat.le_of_ble_eq_true rfl) dX4_set_48 (ps_mend (S := (sStat S 2)) (by simp [op_set, c_4, cl_k, c_16, c_40, Nat.ne_of_gt c_16]) hM19 (hs.stat 2) hf20)
    · skip
      refine lv_aload_n hx hb dX4_set_19 rfl (lv_at hl 0 rfl) ?_
      refine lv_iconst (v := nI 1) hx hb dX4_set_20 rfl ?_
      refine ps_geV X hE (m_X4_find l hE hM (f := 1) (by omega)) (lw_V q1376 q1378 qs32 q75 q1379) (by decide +kernel) ⟨⟨Nat.le_of_ble_eq_true rfl, Nat.le_of_ble_eq_true rfl⟩, Nat.le_of_ble_eq_true rfl, Nat.le_of_ble_eq_true rfl⟩ (ps_mrc X hM) hS hl.1 (As := [.int (nI 1)]) (rest := []) (n := 1) rfl rfl (Nat.le_of_ble_eq_true rfl) dX4_set_21 (fun v26 H22 locs23 hp24 hS25 => ?_)
      obtain ⟨hv29, hM27, hf28⟩ := hp24
      subst hv29
      refine ps_st (st' := [.int (fnd 1)]) rfl ?_
      exact ps_iretG X hS25 (Nat.le_of_ble_eq_true rfl) (Nat.le_of_ble_eq_true rfl) dX4_set_24 (ps_mend (S := (sStat S 1)) (by simp [op_set, c_4, cl_k, c_16]) hM27 (hs.stat 1) hf28)
  · skip
    refine lv_ldc (v := -1000001) hx hb ho (hts _ q1375) dX4_set_7 ?_
    exact ps_iretG X hS (Nat.le_of_ble_eq_true rfl) (Nat.le_of_ble_eq_true rfl) dX4_set_9 (ps_mend (S := S) (by simp [op_set, c_4]) hM (hs) ps_Mf.rf)

set_option maxHeartbeats 4000000 in
theorem m_X4_drop (l : Launch) {E : ps_E} (hE : ps_ZT E) {H : Heap} {o : Nat} {F : Nat → Int32} {A : Nat → Nat → Int32} (hM : ps_Mo E H o F A) {S : SS} (hs : sm F A S) (hW : wf S) {x : Int32} : ps_Ge l E yX4_drop cX4_drop 3 (some .int) 3 57 0 0 [.ref (o), .int (x)] H (ps_mpost E H o (op_drop S x)) := by
  refine ps_Ge.of (by decide) (Nat.le_of_ble_eq_true rfl) ?_
  intro p e s m args below meth c X ls hl
  have hx := X.1
  have hb := X.2.1
  have ho := X.2.2.2.1
  have hts := X.2.2.2.2.1
  have hS : va_S (ps_A E) s.heap H [] := by rw [X.2.2.2.2.2.2.2.2.1]; exact va_S.rf
  have hl : lv_has ls 3 [(0, .ref (o)), (1, .int (x))] := hl
  have hσ := hs.2.2.2.2.1
  have hO := hW.1
  have hm := hO.m
  have hn := hW.n
  refine lv_iload_n hx hb dX4_drop_0 rfl (lv_at hl 1 rfl) ?_
  refine ps_roS X hE (m_X4_isRow l hE (H := H) (x := x)) (lw_S q1367 q1368 q75 q1369) (by decide +kernel) ⟨⟨Nat.le_of_ble_eq_true rfl, Nat.le_of_ble_eq_true rfl⟩, Nat.le_of_ble_eq_true rfl, Nat.le_of_ble_eq_true rfl⟩ hS hl.1 (As := [.int (x)]) (rest := []) (n := 1) rfl rfl (Nat.le_of_ble_eq_true rfl) dX4_drop_1 ?_
  refine ps_st (st' := [.int (bI (rng x 0 8))]) rfl ?_
  refine ps_ifneB (tgt := 10) hx hb dX4_drop_4 (by decide) (fun c_4 => ?_) (fun c_4 => ?_)
  · skip
    obtain ⟨k, rfl, k_lo, k_hi, k_b⟩ := rng_t c_4
    have cl_k : (nI k).toNatClampNeg = k := nI_clamp (by omega)
    have hr := hW.r (r := k) (by omega)
    refine lv_aload_n hx hb dX4_drop_10 rfl (lv_at hl 0 rfl) ?_
    refine ps_mget (v := .ref (o + 2)) X hM 1 (by decide) q1290 rfl rfl dX4_drop_11 ?_
    refine lv_iload_n hx hb dX4_drop_14 rfl (lv_at hl 1 rfl) ?_
    refine ps_mld (j := k) (v := nI (S.2.1 4 k) - nI 1) X hM 2 (by decide) rfl (by show k < 8; omega) (hs.2.2.1 _ (by omega)) dX4_drop_15 ?_
    refine ps_ifgp (tgt := 25) hx hb dX4_drop_16 (by decide) (by omega) (fun c_16 => ?_) (fun c_16 => ?_)
    · skip
      refine lv_aload_n hx hb dX4_drop_25 rfl (lv_at hl 0 rfl) ?_
      refine ps_mget (v := .ref (o + 2)) X hM 1 (by decide) q1290 rfl rfl dX4_drop_26 ?_
      refine lv_iload_n hx hb dX4_drop_29 rfl (lv_at hl 1 rfl) ?_
      refine ps_mld (j := k) (v := nI (S.2.1 4 k - 1)) X hM 2 (by decide) rfl (by show k < 8; omega) (by rw [hs.2.2.1 k (by omega)]; exact pk_sub (by omega)) dX4_drop_30 ?_
      refine lv_istore_n (lv' := [(2, .int (nI (S.2.1 4 k - 1))), (0, .ref (o)), (1, .int (nI k))]) hx hb dX4_drop_31 rfl hl (by decide) rfl (fun ls hl => ?_)
      refine lv_aload_n hx hb dX4_drop_32 rfl (lv_at hl 1 rfl) ?_
      refine ps_mget (v := .ref (o + 2)) X hM 1 (by decide) q1290 rfl rfl dX4_drop_33 ?_
      refine lv_iload_n hx hb dX4_drop_36 rfl (lv_at hl 2 rfl) ?_
      refine lv_iconst (v := (-1)) hx hb dX4_drop_37 rfl ?_
      refine ps_mst (j := k) X hM 2 (by decide) rfl (by show k < 8; omega) hS dX4_drop_38 (fun H1 locs2 hM3 hf4 hS5 => ?_)
      refine lv_aload_n hx hb dX4_drop_39 rfl (lv_at hl 1 rfl) ?_
      refine lv_iload_n hx hb dX4_drop_40 rfl (lv_at hl 0 rfl) ?_
      refine ps_geV X hE (m_X4_well l hE hM3 (x := nI (S.2.1 4 k - 1))) (lw_V q1381 q1383 qs33 q75 q1384) (by decide +kernel) ⟨⟨Nat.le_of_ble_eq_true rfl, Nat.le_of_ble_eq_true rfl⟩, Nat.le_of_ble_eq_true rfl, Nat.le_of_ble_eq_true rfl⟩ (ps_mrc X hM3) hS5 hl.1 (As := [.int (nI (S.2.1 4 k - 1))]) (rest := []) (n := 1) rfl rfl (Nat.le_of_ble_eq_true rfl) dX4_drop_41 (fun v10 H6 locs7 hp8 hS9 => ?_)
      obtain ⟨hv13, hM11, hf12⟩ := hp8
      subst hv13
      refine ps_st (st' := [.int (nI (S.2.1 4 k - 1))]) rfl ?_
      exact ps_iretG X hS9 (Nat.le_of_ble_eq_true rfl) (Nat.le_of_ble_eq_true rfl) dX4_drop_44 (ps_mend (S := (va_up S.1 0 0, va_up S.2.1 4 (va_up (S.2.1 4) k 0), S.2.2)) (by simp [op_drop, c_4, cl_k, c_16, Nat.ne_of_gt c_16]) hM11 (⟨⟨rfl, hs.1.2⟩, hs.2.1, fun r hr => ps_szc hs.2.2.1 hr (by decide), hs.2.2.2.1, hs.2.2.2.2.1, hs.2.2.2.2.2.1, sm_t8 (j := 4) (hs.2.2.2.2.2.2.1) (by decide), hs.2.2.2.2.2.2.2.1, sm_t11 (j := 4) (hs.2.2.2.2.2.2.2.2.1) (by decide), hs.2.2.2.2.2.2.2.2.2⟩) (hf4.tr hf12))
    · skip
      refine lv_aload_n hx hb dX4_drop_19 rfl (lv_at hl 0 rfl) ?_
      refine lv_iconst (v := nI 1) hx hb dX4_drop_20 rfl ?_
      refine ps_geV X hE (m_X4_find l hE hM (f := 1) (by omega)) (lw_V q1376 q1378 qs32 q75 q1379) (by decide +kernel) ⟨⟨Nat.le_of_ble_eq_true rfl, Nat.le_of_ble_eq_true rfl⟩, Nat.le_of_ble_eq_true rfl, Nat.le_of_ble_eq_true rfl⟩ (ps_mrc X hM) hS hl.1 (As := [.int (nI 1)]) (rest := []) (n := 1) rfl rfl (Nat.le_of_ble_eq_true rfl) dX4_drop_21 (fun v18 H14 locs15 hp16 hS17 => ?_)
      obtain ⟨hv21, hM19, hf20⟩ := hp16
      subst hv21
      refine ps_st (st' := [.int (fnd 1)]) rfl ?_
      exact ps_iretG X hS17 (Nat.le_of_ble_eq_true rfl) (Nat.le_of_ble_eq_true rfl) dX4_drop_24 (ps_mend (S := (sStat S 1)) (by simp [op_drop, c_4, cl_k, c_16]) hM19 (hs.stat 1) hf20)
  · skip
    refine lv_ldc (v := -1000001) hx hb ho (hts _ q1375) dX4_drop_7 ?_
    exact ps_iretG X hS (Nat.le_of_ble_eq_true rfl) (Nat.le_of_ble_eq_true rfl) dX4_drop_9 (ps_mend (S := S) (by simp [op_drop, c_4]) hM (hs) ps_Mf.rf)

set_option maxHeartbeats 4000000 in
theorem m_X4_feed (l : Launch) {E : ps_E} (hE : ps_ZT E) {H : Heap} {o : Nat} {F : Nat → Int32} {A : Nat → Nat → Int32} (hM : ps_Mo E H o F A) {S : SS} (hs : sm F A S) (hW : wf S) {x : Int32} : ps_Ge l E yX4_feed cX4_feed 2 (some .int) 2 37 0 0 [.ref (o), .int (x)] H (ps_mpost E H o (op_feed S x)) := by
  refine ps_Ge.of (by decide) (Nat.le_of_ble_eq_true rfl) ?_
  intro p e s m args below meth c X ls hl
  have hx := X.1
  have hb := X.2.1
  have ho := X.2.2.2.1
  have hts := X.2.2.2.2.1
  have hS : va_S (ps_A E) s.heap H [] := by rw [X.2.2.2.2.2.2.2.2.1]; exact va_S.rf
  have hl : lv_has ls 2 [(0, .ref (o)), (1, .int (x))] := hl
  have hσ := hs.2.2.2.2.1
  have hO := hW.1
  have hm := hO.m
  have hn := hW.n
  refine lv_iload_n hx hb dX4_feed_0 rfl (lv_at hl 1 rfl) ?_
  refine lv_i2l (v := (x).toInt64) hx hb dX4_feed_1 rfl ?_
  refine lv_lconst (v := lN 0) hx hb dX4_feed_2 rfl ?_
  refine lv_ldc2 (v := 255) hx hb ho (hts _ q1404) dX4_feed_3 ?_
  refine ps_roS X hE (m_X4_in l hE (H := H) (x := x) (lo := 0) (hi := 256) (lN_toInt (by decide)) (ps_hcL (k := 255) (by decide +kernel))) (lw_S q1371 q1372 q75 q1373) (by decide +kernel) ⟨⟨Nat.le_of_ble_eq_true rfl, Nat.le_of_ble_eq_true rfl⟩, Nat.le_of_ble_eq_true rfl, Nat.le_of_ble_eq_true rfl⟩ hS hl.1 (As := [.long ((x).toInt64), .long (lN 0), .long (255)]) (rest := []) (n := 3) rfl rfl (Nat.le_of_ble_eq_true rfl) dX4_feed_6 ?_
  refine ps_st (st' := [.int (bI (rng x 0 256))]) rfl ?_
  refine ps_ifneB (tgt := 15) hx hb dX4_feed_9 (by decide) (fun c_9 => ?_) (fun c_9 => ?_)
  · skip
    obtain ⟨k, rfl, k_lo, k_hi, k_b⟩ := rng_t c_9
    have cl_k : (nI k).toNatClampNeg = k := nI_clamp (by omega)
    refine lv_aload_n hx hb dX4_feed_15 rfl (lv_at hl 0 rfl) ?_
    refine ps_mget (v := .int (F 8)) X hM 8 (by decide) q1297 rfl rfl dX4_feed_16 ?_
    refine ps_top (y := nI (S.1 2)) (hs.1.2.2.1) ?_
    refine lv_bipush (v := nI 120) hx hb dX4_feed_19 rfl ?_
    refine ps_cne (tgt := 27) hx hb dX4_feed_21 (by decide) (by omega) (fun c_21 => ?_) (fun c_21 => ?_)
    · skip
      refine lv_aload_n hx hb dX4_feed_27 rfl (lv_at hl 0 rfl) ?_
      refine ps_mget (v := .ref (o + 6)) X hM 7 (by decide) q1296 rfl rfl dX4_feed_28 ?_
      refine lv_aload_n hx hb dX4_feed_31 rfl (lv_at hl 0 rfl) ?_
      refine ps_mget (v := .int (F 8)) X hM 8 (by decide) q1297 rfl rfl dX4_feed_32 ?_
      refine ps_top (y := nI (S.1 2)) (hs.1.2.2.1) ?_
      refine lv_iload_n hx hb dX4_feed_35 rfl (lv_at hl 1 rfl) ?_
      refine ps_mst (j := S.1 2) X hM 6 (by decide) rfl (by show S.1 2 < 120; omega) hS dX4_feed_36 (fun H1 locs2 hM3 hf4 hS5 => ?_)
      refine lv_aload_n hx hb dX4_feed_37 rfl (lv_at hl 0 rfl) ?_
      refine lv_dup hx hb dX4_feed_38 rfl ?_
      refine ps_mget (v := .int (F 8)) X hM3 8 (by decide) q1297 rfl rfl dX4_feed_39 ?_
      refine ps_top (y := nI (S.1 2)) (hs.1.2.2.1) ?_
      refine lv_iconst (v := nI 1) hx hb dX4_feed_42 rfl ?_
      refine ps_iadd hx hb dX4_feed_43 ?_
      refine ps_mput X hM3 8 (by decide) q1297 rfl rfl rfl rfl hS5 dX4_feed_44 (fun H6 locs7 hM8 hf9 hS10 => ?_)
      refine lv_aload_n hx hb dX4_feed_47 rfl (lv_at hl 0 rfl) ?_
      refine ps_mget (v := .int (nI ((S.1 2) + 1))) X hM8 8 (by decide) q1297 rfl rfl dX4_feed_48 ?_
      exact ps_iretG X hS10 (Nat.le_of_ble_eq_true rfl) (Nat.le_of_ble_eq_true rfl) dX4_feed_51 (ps_mend (S := (va_up S.1 2 (S.1 2 + 1), va_up S.2.1 1 (va_up (S.2.1 1) (S.1 2) k), S.2.2)) (by simp [op_feed, c_9, cl_k, c_21]) hM8 (⟨⟨hs.1.1, hs.1.2.1, rfl, hs.1.2.2.2.1, hs.1.2.2.2.2.1, hs.1.2.2.2.2.2⟩, hs.2.1, hs.2.2.1, hs.2.2.2.1, hs.2.2.2.2.1, fun i hi => ps_tpc hs.2.2.2.2.2.1 hi, sm_t8 (j := 1) (hs.2.2.2.2.2.2.1) (by decide), hs.2.2.2.2.2.2.2.1, sm_t11 (j := 1) (hs.2.2.2.2.2.2.2.2.1) (by decide), hs.2.2.2.2.2.2.2.2.2⟩) (hf4.tr hf9))
    · skip
      refine lv_ldc (v := -1000003) hx hb ho (hts _ q1405) dX4_feed_24 ?_
      exact ps_iretG X hS (Nat.le_of_ble_eq_true rfl) (Nat.le_of_ble_eq_true rfl) dX4_feed_26 (ps_mend (S := S) (by simp [op_feed, c_9, cl_k, c_21]) hM (hs) ps_Mf.rf)
  · skip
    refine lv_ldc (v := -1000001) hx hb ho (hts _ q1375) dX4_feed_12 ?_
    exact ps_iretG X hS (Nat.le_of_ble_eq_true rfl) (Nat.le_of_ble_eq_true rfl) dX4_feed_14 (ps_mend (S := S) (by simp [op_feed, c_9]) hM (hs) ps_Mf.rf)

set_option maxHeartbeats 4000000 in
theorem m_X4_status (l : Launch) {E : ps_E} (hE : ps_ZT E) {H : Heap} {o : Nat} {F : Nat → Int32} {A : Nat → Nat → Int32} (hM : ps_Mo E H o F A) {S : SS} (hs : sm F A S) (hW : wf S) : ps_Ro l E yX4_status cX4_status 1 (some .int) 1 12 [.ref (o)] H (some (.int (nI (S.1 0)))) := by
  refine ps_Ro.of (by decide) (Nat.le_of_ble_eq_true rfl) ?_
  intro p e s m args below meth c X ls hl
  have hx := X.1
  have hb := X.2.1
  have ho := X.2.2.2.1
  have hts := X.2.2.2.2.1
  have hS : va_S (ps_A E) s.heap H [] := by rw [X.2.2.2.2.2.2.2.2.1]; exact va_S.rf
  have hl : lv_has ls 1 [(0, .ref (o))] := hl
  have hσ := hs.2.2.2.2.1
  have hO := hW.1
  have hm := hO.m
  have hn := hW.n
  refine lv_aload_n hx hb dX4_status_0 rfl (lv_at hl 0 rfl) ?_
  refine ps_mget (v := .int (F 3)) X hM 3 (by decide) q1292 rfl rfl dX4_status_1 ?_
  refine ps_top (y := nI (S.1 0)) (hs.1.1) ?_
  exact ps_iretR X dX4_status_4 (congrArg (fun z => some (Value.int z)) (rfl))

set_option maxHeartbeats 4000000 in
theorem m_X4_fault (l : Launch) {E : ps_E} (hE : ps_ZT E) {H : Heap} {o : Nat} {F : Nat → Int32} {A : Nat → Nat → Int32} (hM : ps_Mo E H o F A) {S : SS} (hs : sm F A S) (hW : wf S) : ps_Ro l E yX4_fault cX4_fault 1 (some .int) 1 12 [.ref (o)] H (some (.int (nI (S.1 1)))) := by
  refine ps_Ro.of (by decide) (Nat.le_of_ble_eq_true rfl) ?_
  intro p e s m args below meth c X ls hl
  have hx := X.1
  have hb := X.2.1
  have ho := X.2.2.2.1
  have hts := X.2.2.2.2.1
  have hS : va_S (ps_A E) s.heap H [] := by rw [X.2.2.2.2.2.2.2.2.1]; exact va_S.rf
  have hl : lv_has ls 1 [(0, .ref (o))] := hl
  have hσ := hs.2.2.2.2.1
  have hO := hW.1
  have hm := hO.m
  have hn := hW.n
  refine lv_aload_n hx hb dX4_fault_0 rfl (lv_at hl 0 rfl) ?_
  refine ps_mget (v := .int (F 9)) X hM 9 (by decide) q1298 rfl rfl dX4_fault_1 ?_
  refine ps_top (y := nI (S.1 1)) (hs.1.2.1) ?_
  exact ps_iretR X dX4_fault_4 (congrArg (fun z => some (Value.int z)) (rfl))

set_option maxHeartbeats 4000000 in
theorem m_X4_trace (l : Launch) {E : ps_E} (hE : ps_ZT E) {H : Heap} {o : Nat} {F : Nat → Int32} {A : Nat → Nat → Int32} (hM : ps_Mo E H o F A) {S : SS} (hs : sm F A S) (hW : wf S) {x : Int32} : ps_Ro l E yX4_trace cX4_trace 2 (some .int) 2 37 [.ref (o), .int (x)] H (some (.int (op_trace S x))) := by
  refine ps_Ro.of (by decide) (Nat.le_of_ble_eq_true rfl) ?_
  intro p e s m args below meth c X ls hl
  have hx := X.1
  have hb := X.2.1
  have ho := X.2.2.2.1
  have hts := X.2.2.2.2.1
  have hS : va_S (ps_A E) s.heap H [] := by rw [X.2.2.2.2.2.2.2.2.1]; exact va_S.rf
  have hl : lv_has ls 2 [(0, .ref (o)), (1, .int (x))] := hl
  have hσ := hs.2.2.2.2.1
  have hO := hW.1
  have hm := hO.m
  have hn := hW.n
  refine lv_iload_n hx hb dX4_trace_0 rfl (lv_at hl 1 rfl) ?_
  refine lv_i2l (v := (x).toInt64) hx hb dX4_trace_1 rfl ?_
  refine lv_lconst (v := lN 0) hx hb dX4_trace_2 rfl ?_
  refine lv_aload_n hx hb dX4_trace_3 rfl (lv_at hl 0 rfl) ?_
  refine ps_mget (v := .int (F 23)) X hM 23 (by decide) q1312 rfl rfl dX4_trace_4 ?_
  refine ps_top (y := nI (S.1 4)) (hs.1.2.2.2.2.1) ?_
  refine lv_iconst (v := nI 1) hx hb dX4_trace_7 rfl ?_
  refine lv_isub hx hb dX4_trace_8 ?_
  refine ps_top (y := nI (S.1 4) - nI 1) (rfl) ?_
  refine lv_i2l (v := (nI (S.1 4) - nI 1).toInt64) hx hb dX4_trace_9 rfl ?_
  refine ps_roS X hE (m_X4_in l hE (H := H) (x := x) (lo := 0) (hi := S.1 4) (lN_toInt (by decide)) (ps_hcP (by omega))) (lw_S q1371 q1372 q75 q1373) (by decide +kernel) ⟨⟨Nat.le_of_ble_eq_true rfl, Nat.le_of_ble_eq_true rfl⟩, Nat.le_of_ble_eq_true rfl, Nat.le_of_ble_eq_true rfl⟩ hS hl.1 (As := [.long ((x).toInt64), .long (lN 0), .long ((nI (S.1 4) - nI 1).toInt64)]) (rest := []) (n := 3) rfl rfl (Nat.le_of_ble_eq_true rfl) dX4_trace_10 ?_
  refine ps_st (st' := [.int (bI (rng x 0 (S.1 4)))]) rfl ?_
  refine ps_ifeqB (tgt := 25) hx hb dX4_trace_13 (by decide) (fun c_13 => ?_) (fun c_13 => ?_)
  · skip
    refine lv_ldc (v := -1000000) hx hb ho (hts _ q1535) dX4_trace_25 ?_
    exact ps_iretR X dX4_trace_27 (congrArg (fun z => some (Value.int z)) (by simp [op_trace, c_13]))
  · skip
    obtain ⟨k, rfl, k_lo, k_hi, k_b⟩ := rng_t c_13
    have cl_k : (nI k).toNatClampNeg = k := nI_clamp (by omega)
    refine lv_aload_n hx hb dX4_trace_16 rfl (lv_at hl 0 rfl) ?_
    refine ps_mget (v := .ref (o + 12)) X hM 22 (by decide) q1311 rfl rfl dX4_trace_17 ?_
    refine lv_iload_n hx hb dX4_trace_20 rfl (lv_at hl 1 rfl) ?_
    refine ps_mld (j := k) (v := nI (S.2.1 2 k)) X hM 12 (by decide) rfl (by show k < 16; omega) (hs.2.2.2.2.2.2.2.2.2 _ (by omega)) dX4_trace_21 ?_
    refine lv_goto (tgt := 27) hx hb dX4_trace_22 (by decide) ?_
    exact ps_iretR X dX4_trace_27 (congrArg (fun z => some (Value.int z)) (by simp [op_trace, c_13, cl_k]))
