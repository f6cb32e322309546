/-! the model: what it answers by the scales (printed by gen/model2.py) -/
set_option maxRecDepth 100000
set_option maxHeartbeats 4000000 in
theorem m_X4_promise (l : Launch) {E : ps_E} (hE : ps_ZT E) {H : Heap} {o : Nat} {F : Nat → Int32} {A : Nat → Nat → Int32} (hM : ps_Mo E H o F A) {σ : Nat → Nat} (hσ : ps_Vw A 4 57 σ) (hO : sp_ok σ) {x y : Int32} : ps_Ro l E yX4_promise cX4_promise 3 (some .int) 4 80 [.ref (o), .int (x), .int (y)] H (some (.int (op_promise σ x y))) := by
  refine ps_Ro.of (by decide) (Nat.le_of_ble_eq_true rfl) ?_
  intro p e s m args below meth c X ls hl
  have hx := X.1
  have hb := X.2.1
  have ho := X.2.2.2.1
  have hts := X.2.2.2.2.1
  have hS : va_S (ps_A E) s.heap H [] := by rw [X.2.2.2.2.2.2.2.2.1]; exact va_S.rf
  have hl : lv_has ls 3 [(0, .ref (o)), (1, .int (x)), (2, .int (y))] := hl
  have hm := hO.m
  refine lv_aload_n hx hb dX4_promise_0 rfl (lv_at hl 0 rfl) ?_
  refine lv_iload_n hx hb dX4_promise_1 rfl (lv_at hl 1 rfl) ?_
  refine ps_roV X hE (m_X4_isPromise l hE hM hσ hO (x := x)) (lw_V q1455 q1457 qs42 q75 q1458) (by decide +kernel) ⟨⟨Nat.le_of_ble_eq_true rfl, Nat.le_of_ble_eq_true rfl⟩, Nat.le_of_ble_eq_true rfl, Nat.le_of_ble_eq_true rfl⟩ (ps_mrc X hM) hS hl.1 (As := [.int (x)]) (rest := []) (n := 1) rfl rfl (Nat.le_of_ble_eq_true rfl) dX4_promise_2 ?_
  refine ps_st (st' := [.int (bI (rng x 0 (σ 3)))]) rfl ?_
  refine ps_ifneB (tgt := 11) hx hb dX4_promise_5 (by decide) (fun c_5 => ?_) (fun c_5 => ?_)
  · skip
    obtain ⟨k, rfl, k_lo, k_hi, k_b⟩ := rng_t c_5
    have cl_k : (nI k).toNatClampNeg = k := nI_clamp (by omega)
    have hp := hO.p k_hi
    refine lv_iload_n hx hb dX4_promise_11 rfl (lv_at hl 2 rfl) ?_
    rcases Bool.eq_false_or_eq_true (rng y 0 7) with c_12 | c_12
    · skip
      obtain ⟨j1, rfl, j1_lo, j1_hi, j1_b⟩ := rng_t c_12
      have cl_j1 : (nI j1).toNatClampNeg = j1 := nI_clamp (by omega)
      by_cases e_0 : j1 = 0
      · subst e_0
        refine lv_tableIn (off := 44) (tgt := 56) hx hb dX4_promise_12 (by decide) (by decide) (by decide) (by decide) ?_
        refine lv_aload_n hx hb dX4_promise_56 rfl (lv_at hl 0 rfl) ?_
        refine ps_mget (v := .ref (o + 4)) X hM 5 (by decide) q1294 rfl rfl dX4_promise_57 ?_
        refine lv_bipush (v := nI 17) hx hb dX4_promise_60 rfl ?_
        refine lv_iload_n hx hb dX4_promise_62 rfl (lv_at hl 1 rfl) ?_
        refine ps_iadd hx hb dX4_promise_63 ?_
        refine ps_mld (j := 17 + k) (v := nI (σ (17 + k))) X hM 4 (by decide) rfl (by show 17 + k < 57; omega) (hσ _ (by show 17 + k < 57; omega)) dX4_promise_64 ?_
        exact ps_iretR X dX4_promise_65 (congrArg (fun z => some (Value.int z)) (by simp [op_promise, sp_prom, c_5, cl_k, c_12, cl_j1]))
      by_cases e_1 : j1 = 1
      · subst e_1
        refine lv_tableIn (off := 54) (tgt := 66) hx hb dX4_promise_12 (by decide) (by decide) (by decide) (by decide) ?_
        refine lv_aload_n hx hb dX4_promise_66 rfl (lv_at hl 0 rfl) ?_
        refine ps_mget (v := .ref (o + 4)) X hM 5 (by decide) q1294 rfl rfl dX4_promise_67 ?_
        refine lv_bipush (v := nI 25) hx hb dX4_promise_70 rfl ?_
        refine lv_iload_n hx hb dX4_promise_72 rfl (lv_at hl 1 rfl) ?_
        refine ps_iadd hx hb dX4_promise_73 ?_
        refine ps_mld (j := 25 + k) (v := nI (σ (25 + k))) X hM 4 (by decide) rfl (by show 25 + k < 57; omega) (hσ _ (by show 25 + k < 57; omega)) dX4_promise_74 ?_
        exact ps_iretR X dX4_promise_75 (congrArg (fun z => some (Value.int z)) (by simp [op_promise, sp_prom, c_5, cl_k, c_12, cl_j1]))
      by_cases e_2 : j1 = 2
      · subst e_2
        refine lv_tableIn (off := 64) (tgt := 76) hx hb dX4_promise_12 (by decide) (by decide) (by decide) (by decide) ?_
        refine lv_aload_n hx hb dX4_promise_76 rfl (lv_at hl 0 rfl) ?_
        refine ps_mget (v := .ref (o + 4)) X hM 5 (by decide) q1294 rfl rfl dX4_promise_77 ?_
        refine lv_bipush (v := nI 33) hx hb dX4_promise_80 rfl ?_
        refine lv_iload_n hx hb dX4_promise_82 rfl (lv_at hl 1 rfl) ?_
        refine ps_iadd hx hb dX4_promise_83 ?_
        refine ps_mld (j := 33 + k) (v := nI (σ (33 + k))) X hM 4 (by decide) rfl (by show 33 + k < 57; omega) (hσ _ (by show 33 + k < 57; omega)) dX4_promise_84 ?_
        exact ps_iretR X dX4_promise_85 (congrArg (fun z => some (Value.int z)) (by simp [op_promise, sp_prom, c_5, cl_k, c_12, cl_j1]))
      by_cases e_3 : j1 = 3
      · subst e_3
        refine lv_tableIn (off := 74) (tgt := 86) hx hb dX4_promise_12 (by decide) (by decide) (by decide) (by decide) ?_
        refine lv_aload_n hx hb dX4_promise_86 rfl (lv_at hl 0 rfl) ?_
        refine ps_mget (v := .ref (o + 4)) X hM 5 (by decide) q1294 rfl rfl dX4_promise_87 ?_
        refine lv_bipush (v := nI 41) hx hb dX4_promise_90 rfl ?_
        refine lv_iload_n hx hb dX4_promise_92 rfl (lv_at hl 1 rfl) ?_
        refine ps_iadd hx hb dX4_promise_93 ?_
        refine ps_mld (j := 41 + k) (v := nI (σ (41 + k))) X hM 4 (by decide) rfl (by show 41 + k < 57; omega) (hσ _ (by show 41 + k < 57; omega)) dX4_promise_94 ?_
        exact ps_iretR X dX4_promise_95 (congrArg (fun z => some (Value.int z)) (by simp [op_promise, sp_prom, c_5, cl_k, c_12, cl_j1]))
      by_cases e_4 : j1 = 4
      · subst e_4
        refine lv_tableIn (off := 84) (tgt := 96) hx hb dX4_promise_12 (by decide) (by decide) (by decide) (by decide) ?_
        refine lv_aload_n hx hb dX4_promise_96 rfl (lv_at hl 0 rfl) ?_
        refine lv_iload_n hx hb dX4_promise_97 rfl (lv_at hl 1 rfl) ?_
        refine ps_roV X hE (m_X4_weightOf l hE hM hσ hO (k := k) (by omega)) (lw_V q1479 q1481 qs47 q75 q1482) (by decide +kernel) ⟨⟨Nat.le_of_ble_eq_true rfl, Nat.le_of_ble_eq_true rfl⟩, Nat.le_of_ble_eq_true rfl, Nat.le_of_ble_eq_true rfl⟩ (ps_mrc X hM) hS hl.1 (As := [.int (nI k)]) (rest := []) (n := 1) rfl rfl (Nat.le_of_ble_eq_true rfl) dX4_promise_98 ?_
        refine ps_st (st' := [.int (nI (sp_w σ (k + 1)))]) rfl ?_
        exact ps_iretR X dX4_promise_101 (congrArg (fun z => some (Value.int z)) (by simp [op_promise, sp_prom, c_5, cl_k, c_12, cl_j1]))
      by_cases e_5 : j1 = 5
      · subst e_5
        refine lv_tableIn (off := 90) (tgt := 102) hx hb dX4_promise_12 (by decide) (by decide) (by decide) (by decide) ?_
        refine lv_aload_n hx hb dX4_promise_102 rfl (lv_at hl 0 rfl) ?_
        refine ps_mget (v := .ref (o + 4)) X hM 5 (by decide) q1294 rfl rfl dX4_promise_103 ?_
        refine lv_bipush (v := nI 49) hx hb dX4_promise_106 rfl ?_
        refine lv_iload_n hx hb dX4_promise_108 rfl (lv_at hl 1 rfl) ?_
        refine ps_iadd hx hb dX4_promise_109 ?_
        refine ps_mld (j := 49 + k) (v := nI (σ (49 + k))) X hM 4 (by decide) rfl (by show 49 + k < 57; omega) (hσ _ (by show 49 + k < 57; omega)) dX4_promise_110 ?_
        exact ps_iretR X dX4_promise_111 (congrArg (fun z => some (Value.int z)) (by simp [op_promise, sp_prom, c_5, cl_k, c_12, cl_j1]))
      obtain rfl : j1 = 6 := by omega
      refine lv_tableIn (off := 100) (tgt := 112) hx hb dX4_promise_12 (by decide) (by decide) (by decide) (by decide) ?_
      refine lv_aload_n hx hb dX4_promise_112 rfl (lv_at hl 0 rfl) ?_
      refine ps_mget (v := .ref (o + 4)) X hM 5 (by decide) q1294 rfl rfl dX4_promise_113 ?_
      refine lv_iconst (v := nI 4) hx hb dX4_promise_116 rfl ?_
      refine ps_mld (j := 4) (v := nI (σ 4)) X hM 4 (by decide) rfl (by show 4 < 57; omega) (hσ _ (by show 4 < 57; omega)) dX4_promise_117 ?_
      refine lv_iload_n hx hb dX4_promise_118 rfl (lv_at hl 1 rfl) ?_
      refine lv_ishr hx hb dX4_promise_119 ?_
      refine ps_top (y := nI ((σ 4) / 2 ^ k)) (ps_shr (by omega) (by omega)) ?_
      refine lv_iconst (v := nI 1) hx hb dX4_promise_120 rfl ?_
      refine lv_iand hx hb dX4_promise_121 ?_
      refine ps_top (y := nI (((σ 4) / 2 ^ k) % 2)) (ps_and1 (ps_divlt (by omega))) ?_
      exact ps_iretR X dX4_promise_122 (congrArg (fun z => some (Value.int z)) (by simp [op_promise, sp_prom, c_5, cl_k, c_12, cl_j1]))
    · skip
      refine lv_tableOut (tgt := 123) hx hb dX4_promise_12 (ps_rng_out c_12) (by decide) ?_
      refine lv_ldc (v := -1000001) hx hb ho (hts _ q1375) dX4_promise_123 ?_
      exact ps_iretR X dX4_promise_125 (congrArg (fun z => some (Value.int z)) (by simp [op_promise, sp_prom, c_5, cl_k, c_12]))
  · skip
    refine lv_ldc (v := -1000001) hx hb ho (hts _ q1375) dX4_promise_8 ?_
    exact ps_iretR X dX4_promise_10 (congrArg (fun z => some (Value.int z)) (by simp [op_promise, sp_prom, c_5]))

set_option maxHeartbeats 4000000 in
theorem m_X4_keeps (l : Launch) {E : ps_E} (hE : ps_ZT E) {H : Heap} {o : Nat} {F : Nat → Int32} {A : Nat → Nat → Int32} (hM : ps_Mo E H o F A) {σ : Nat → Nat} (hσ : ps_Vw A 4 57 σ) (hO : sp_ok σ) {x : Int32} : ps_Ro l E yX4_keeps cX4_keeps 2 (some .int) 3 58 [.ref (o), .int (x)] H (some (.int (op_keeps σ x))) := by
  refine ps_Ro.of (by decide) (Nat.le_of_ble_eq_true rfl) ?_
  intro p e s m args below meth c X ls hl
  have hx := X.1
  have hb := X.2.1
  have ho := X.2.2.2.1
  have hts := X.2.2.2.2.1
  have hS : va_S (ps_A E) s.heap H [] := by rw [X.2.2.2.2.2.2.2.2.1]; exact va_S.rf
  have hl : lv_has ls 2 [(0, .ref (o)), (1, .int (x))] := hl
  have hm := hO.m
  refine lv_aload_n hx hb dX4_keeps_0 rfl (lv_at hl 0 rfl) ?_
  refine lv_iload_n hx hb dX4_keeps_1 rfl (lv_at hl 1 rfl) ?_
  refine ps_roV X hE (m_X4_isGiver l hE hM hσ hO (x := x)) (lw_V q1519 q1521 qs51 q75 q1522) (by decide +kernel) ⟨⟨Nat.le_of_ble_eq_true rfl, Nat.le_of_ble_eq_true rfl⟩, Nat.le_of_ble_eq_true rfl, Nat.le_of_ble_eq_true rfl⟩ (ps_mrc X hM) hS hl.1 (As := [.int (x)]) (rest := []) (n := 1) rfl rfl (Nat.le_of_ble_eq_true rfl) dX4_keeps_2 ?_
  refine ps_st (st' := [.int (bI (rng x 0 (σ 2)))]) rfl ?_
  refine ps_ifeqB (tgt := 19) hx hb dX4_keeps_5 (by decide) (fun c_5 => ?_) (fun c_5 => ?_)
  · skip
    refine lv_ldc (v := -1000001) hx hb ho (hts _ q1375) dX4_keeps_19 ?_
    exact ps_iretR X dX4_keeps_21 (congrArg (fun z => some (Value.int z)) (by simp [op_keeps, c_5]))
  · skip
    obtain ⟨k, rfl, k_lo, k_hi, k_b⟩ := rng_t c_5
    have cl_k : (nI k).toNatClampNeg = k := nI_clamp (by omega)
    refine lv_aload_n hx hb dX4_keeps_8 rfl (lv_at hl 0 rfl) ?_
    refine ps_mget (v := .ref (o + 4)) X hM 5 (by decide) q1294 rfl rfl dX4_keeps_9 ?_
    refine lv_iconst (v := nI 5) hx hb dX4_keeps_12 rfl ?_
    refine lv_iload_n hx hb dX4_keeps_13 rfl (lv_at hl 1 rfl) ?_
    refine ps_iadd hx hb dX4_keeps_14 ?_
    refine ps_mld (j := 5 + k) (v := nI (σ (5 + k))) X hM 4 (by decide) rfl (by show 5 + k < 57; omega) (hσ _ (by show 5 + k < 57; omega)) dX4_keeps_15 ?_
    refine lv_goto (tgt := 21) hx hb dX4_keeps_16 (by decide) ?_
    exact ps_iretR X dX4_keeps_21 (congrArg (fun z => some (Value.int z)) (by simp [op_keeps, c_5, cl_k]))

set_option maxHeartbeats 4000000 in
theorem m_X4_reads (l : Launch) {E : ps_E} (hE : ps_ZT E) {H : Heap} {o : Nat} {F : Nat → Int32} {A : Nat → Nat → Int32} (hM : ps_Mo E H o F A) {σ : Nat → Nat} (hσ : ps_Vw A 4 57 σ) (hO : sp_ok σ) (hT : F 4 = bI (decide (1 ≤ σ 1))) {x : Int32} : ps_Ro l E yX4_reads cX4_reads 2 (some .int) 6 124 [.ref (o), .int (x)] H (some (.int (op_reads σ x))) := by
  refine ps_Ro.of (by decide) (Nat.le_of_ble_eq_true rfl) ?_
  intro p e s m args below meth c X ls hl
  have hx := X.1
  have hb := X.2.1
  have ho := X.2.2.2.1
  have hts := X.2.2.2.2.1
  have hS : va_S (ps_A E) s.heap H [] := by rw [X.2.2.2.2.2.2.2.2.1]; exact va_S.rf
  have hl : lv_has ls 2 [(0, .ref (o)), (1, .int (x))] := hl
  have hm := hO.m
  refine lv_aload_n hx hb dX4_reads_0 rfl (lv_at hl 0 rfl) ?_
  refine ps_mget (v := .int (F 4)) X hM 4 (by decide) q1293 rfl rfl dX4_reads_1 ?_
  refine ps_top (y := bI (decide (1 ≤ σ 1))) (hT) ?_
  refine ps_ifneB (tgt := 10) hx hb dX4_reads_4 (by decide) (fun c_4 => ?_) (fun c_4 => ?_)
  · skip
    have h1 : 1 ≤ σ 1 := of_decide_eq_true c_4
    have h1' : ¬ σ 1 = 0 := by omega
    refine lv_aload_n hx hb dX4_reads_10 rfl (lv_at hl 0 rfl) ?_
    refine lv_iload_n hx hb dX4_reads_11 rfl (lv_at hl 1 rfl) ?_
    refine ps_roV X hE (m_X4_isSet l hE hM hσ hO (x := x)) (lw_V q1527 q1529 qs52 q75 q1530) (by decide +kernel) ⟨⟨Nat.le_of_ble_eq_true rfl, Nat.le_of_ble_eq_true rfl⟩, Nat.le_of_ble_eq_true rfl, Nat.le_of_ble_eq_true rfl⟩ (ps_mrc X hM) hS hl.1 (As := [.int (x)]) (rest := []) (n := 1) rfl rfl (Nat.le_of_ble_eq_true rfl) dX4_reads_12 ?_
    refine ps_st (st' := [.int (bI (rng x 0 (2 ^ σ 3)))]) rfl ?_
    refine ps_ifeqB (tgt := 26) hx hb dX4_reads_15 (by decide) (fun c_15 => ?_) (fun c_15 => ?_)
    · skip
      refine lv_ldc (v := -1000001) hx hb ho (hts _ q1375) dX4_reads_26 ?_
      exact ps_iretR X dX4_reads_28 (congrArg (fun z => some (Value.int z)) (by simp [op_reads, h1, h1', c_15]))
    · skip
      obtain ⟨k, rfl, k_lo, k_hi, k_b⟩ := rng_t c_15
      have cl_k : (nI k).toNatClampNeg = k := nI_clamp (by omega)
      have h2 := ps_p2 (k := σ 3) (by omega)
      refine lv_aload_n hx hb dX4_reads_18 rfl (lv_at hl 0 rfl) ?_
      refine lv_iload_n hx hb dX4_reads_19 rfl (lv_at hl 1 rfl) ?_
      refine ps_roV X hE (m_X4_readOf l hE hM hσ hO (u := k) (by omega) (by omega)) (lw_V q1468 q1470 qs45 q75 q1471) (by decide +kernel) ⟨⟨Nat.le_of_ble_eq_true rfl, Nat.le_of_ble_eq_true rfl⟩, Nat.le_of_ble_eq_true rfl, Nat.le_of_ble_eq_true rfl⟩ (ps_mrc X hM) hS hl.1 (As := [.int (nI k)]) (rest := []) (n := 1) rfl rfl (Nat.le_of_ble_eq_true rfl) dX4_reads_20 ?_
      refine ps_st (st' := [.int (nI (sp_read σ k))]) rfl ?_
      refine lv_goto (tgt := 28) hx hb dX4_reads_23 (by decide) ?_
      exact ps_iretR X dX4_reads_28 (congrArg (fun z => some (Value.int z)) (by simp [op_reads, h1, h1', c_15, cl_k]))
  · skip
    have h1 : ¬ 1 ≤ σ 1 := of_decide_eq_false c_4
    have h1' : σ 1 = 0 := by omega
    refine lv_ldc (v := -1000002) hx hb ho (hts _ q1463) dX4_reads_7 ?_
    exact ps_iretR X dX4_reads_9 (congrArg (fun z => some (Value.int z)) (by simp [op_reads, h1']))

set_option maxHeartbeats 4000000 in
theorem m_X4_kind (l : Launch) {E : ps_E} (hE : ps_ZT E) {H : Heap} {o : Nat} {F : Nat → Int32} {A : Nat → Nat → Int32} (hM : ps_Mo E H o F A) {σ : Nat → Nat} (hσ : ps_Vw A 4 57 σ) (hO : sp_ok σ) {x : Int32} : ps_Ro l E yX4_kind cX4_kind 2 (some .int) 3 58 [.ref (o), .int (x)] H (some (.int (op_kind σ x))) := by
  refine ps_Ro.of (by decide) (Nat.le_of_ble_eq_true rfl) ?_
  intro p e s m args below meth c X ls hl
  have hx := X.1
  have hb := X.2.1
  have ho := X.2.2.2.1
  have hts := X.2.2.2.2.1
  have hS : va_S (ps_A E) s.heap H [] := by rw [X.2.2.2.2.2.2.2.2.1]; exact va_S.rf
  have hl : lv_has ls 2 [(0, .ref (o)), (1, .int (x))] := hl
  have hm := hO.m
  refine lv_aload_n hx hb dX4_kind_0 rfl (lv_at hl 0 rfl) ?_
  refine lv_iload_n hx hb dX4_kind_1 rfl (lv_at hl 1 rfl) ?_
  refine ps_roV X hE (m_X4_isPromise l hE hM hσ hO (x := x)) (lw_V q1455 q1457 qs42 q75 q1458) (by decide +kernel) ⟨⟨Nat.le_of_ble_eq_true rfl, Nat.le_of_ble_eq_true rfl⟩, Nat.le_of_ble_eq_true rfl, Nat.le_of_ble_eq_true rfl⟩ (ps_mrc X hM) hS hl.1 (As := [.int (x)]) (rest := []) (n := 1) rfl rfl (Nat.le_of_ble_eq_true rfl) dX4_kind_2 ?_
  refine ps_st (st' := [.int (bI (rng x 0 (σ 3)))]) rfl ?_
  refine ps_ifeqB (tgt := 20) hx hb dX4_kind_5 (by decide) (fun c_5 => ?_) (fun c_5 => ?_)
  · skip
    refine lv_ldc (v := -1000001) hx hb ho (hts _ q1375) dX4_kind_20 ?_
    exact ps_iretR X dX4_kind_22 (congrArg (fun z => some (Value.int z)) (by simp [op_kind, c_5]))
  · skip
    obtain ⟨k, rfl, k_lo, k_hi, k_b⟩ := rng_t c_5
    have cl_k : (nI k).toNatClampNeg = k := nI_clamp (by omega)
    refine lv_aload_n hx hb dX4_kind_8 rfl (lv_at hl 0 rfl) ?_
    refine ps_mget (v := .ref (o + 4)) X hM 5 (by decide) q1294 rfl rfl dX4_kind_9 ?_
    refine lv_bipush (v := nI 9) hx hb dX4_kind_12 rfl ?_
    refine lv_iload_n hx hb dX4_kind_14 rfl (lv_at hl 1 rfl) ?_
    refine ps_iadd hx hb dX4_kind_15 ?_
    refine ps_mld (j := 9 + k) (v := nI (σ (9 + k))) X hM 4 (by decide) rfl (by show 9 + k < 57; omega) (hσ _ (by show 9 + k < 57; omega)) dX4_kind_16 ?_
    refine lv_goto (tgt := 22) hx hb dX4_kind_17 (by decide) ?_
    exact ps_iretR X dX4_kind_22 (congrArg (fun z => some (Value.int z)) (by simp [op_kind, c_5, cl_k]))

set_option maxHeartbeats 4000000 in
theorem m_X4_price (l : Launch) {E : ps_E} (hE : ps_ZT E) {H : Heap} {o : Nat} {F : Nat → Int32} {A : Nat → Nat → Int32} (hM : ps_Mo E H o F A) {σ : Nat → Nat} (hσ : ps_Vw A 4 57 σ) (hO : sp_ok σ) {x y : Int32} : ps_Ro l E yX4_price cX4_price 3 (some .int) 4 80 [.ref (o), .int (x), .int (y)] H (some (.int (op_price σ x y))) := by
  refine ps_Ro.of (by decide) (Nat.le_of_ble_eq_true rfl) ?_
  intro p e s m args below meth c X ls hl
  have hx := X.1
  have hb := X.2.1
  have ho := X.2.2.2.1
  have hts := X.2.2.2.2.1
  have hS : va_S (ps_A E) s.heap H [] := by rw [X.2.2.2.2.2.2.2.2.1]; exact va_S.rf
  have hl : lv_has ls 3 [(0, .ref (o)), (1, .int (x)), (2, .int (y))] := hl
  have hm := hO.m
  refine lv_aload_n hx hb dX4_price_0 rfl (lv_at hl 0 rfl) ?_
  refine lv_iload_n hx hb dX4_price_1 rfl (lv_at hl 1 rfl) ?_
  refine ps_roV X hE (m_X4_isPromise l hE hM hσ hO (x := x)) (lw_V q1455 q1457 qs42 q75 q1458) (by decide +kernel) ⟨⟨Nat.le_of_ble_eq_true rfl, Nat.le_of_ble_eq_true rfl⟩, Nat.le_of_ble_eq_true rfl, Nat.le_of_ble_eq_true rfl⟩ (ps_mrc X hM) hS hl.1 (As := [.int (x)]) (rest := []) (n := 1) rfl rfl (Nat.le_of_ble_eq_true rfl) dX4_price_2 ?_
  refine ps_st (st' := [.int (bI (rng x 0 (σ 3)))]) rfl ?_
  refine ps_ifeqB (tgt := 33) hx hb dX4_price_5 (by decide) (fun c_5 => ?_) (fun c_5 => ?_)
  · skip
    refine lv_ldc (v := -1000001) hx hb ho (hts _ q1375) dX4_price_33 ?_
    exact ps_iretR X dX4_price_35 (congrArg (fun z => some (Value.int z)) (by simp [op_price, c_5]))
  · skip
    obtain ⟨k, rfl, k_lo, k_hi, k_b⟩ := rng_t c_5
    have cl_k : (nI k).toNatClampNeg = k := nI_clamp (by omega)
    refine lv_iload_n hx hb dX4_price_8 rfl (lv_at hl 2 rfl) ?_
    refine lv_i2l (v := (y).toInt64) hx hb dX4_price_9 rfl ?_
    refine lv_lconst (v := lN 0) hx hb dX4_price_10 rfl ?_
    refine lv_ldc2 (v := 999) hx hb ho (hts _ q1566) dX4_price_11 ?_
    refine ps_roS X hE (m_X4_in l hE (H := H) (x := y) (lo := 0) (hi := 1000) (lN_toInt (by decide)) (ps_hcL (k := 999) (by decide +kernel))) (lw_S q1371 q1372 q75 q1373) (by decide +kernel) ⟨⟨Nat.le_of_ble_eq_true rfl, Nat.le_of_ble_eq_true rfl⟩, Nat.le_of_ble_eq_true rfl, Nat.le_of_ble_eq_true rfl⟩ hS hl.1 (As := [.long ((y).toInt64), .long (lN 0), .long (999)]) (rest := []) (n := 3) rfl rfl (Nat.le_of_ble_eq_true rfl) dX4_price_14 ?_
    refine ps_st (st' := [.int (bI (rng y 0 1000))]) rfl ?_
    refine ps_ifeqB (tgt := 33) hx hb dX4_price_17 (by decide) (fun c_17 => ?_) (fun c_17 => ?_)
    · skip
      refine lv_ldc (v := -1000001) hx hb ho (hts _ q1375) dX4_price_33 ?_
      exact ps_iretR X dX4_price_35 (congrArg (fun z => some (Value.int z)) (by simp [op_price, c_5, cl_k, c_17]))
    · skip
      obtain ⟨j, rfl, j_lo, j_hi, j_b⟩ := rng_t c_17
      have cl_j : (nI j).toNatClampNeg = j := nI_clamp (by omega)
      have hw := sp_w_le hO (k := k + 1) (by omega)
      have h5 := sp_mul (show j ≤ 999 by omega) hw
      refine lv_iload_n hx hb dX4_price_20 rfl (lv_at hl 2 rfl) ?_
      refine lv_aload_n hx hb dX4_price_21 rfl (lv_at hl 0 rfl) ?_
      refine lv_iload_n hx hb dX4_price_22 rfl (lv_at hl 1 rfl) ?_
      refine ps_roV X hE (m_X4_weightOf l hE hM hσ hO (k := k) (by omega)) (lw_V q1479 q1481 qs47 q75 q1482) (by decide +kernel) ⟨⟨Nat.le_of_ble_eq_true rfl, Nat.le_of_ble_eq_true rfl⟩, Nat.le_of_ble_eq_true rfl, Nat.le_of_ble_eq_true rfl⟩ (ps_mrc X hM) hS hl.1 (As := [.int (nI k)]) (rest := [.int (nI j)]) (n := 1) rfl rfl (Nat.le_of_ble_eq_true rfl) dX4_price_23 ?_
      refine ps_st (st' := [.int (nI (sp_w σ (k + 1))), .int (nI j)]) rfl ?_
      refine ps_imul hx hb dX4_price_26 ?_
      refine lv_bipush (v := nI 20) hx hb dX4_price_27 rfl ?_
      refine ps_idiv hx hb dX4_price_29 (by omega) ?_
      refine lv_goto (tgt := 35) hx hb dX4_price_30 (by decide) ?_
      exact ps_iretR X dX4_price_35 (congrArg (fun z => some (Value.int z)) (by simp [op_price, c_5, cl_k, c_17, cl_j]))

set_option maxHeartbeats 4000000 in
theorem m_X4_isPlain (l : Launch) {E : ps_E} (hE : ps_ZT E) {H : Heap} {o : Nat} {F : Nat → Int32} {A : Nat → Nat → Int32} (hM : ps_Mo E H o F A) {σ : Nat → Nat} (hσ : ps_Vw A 4 57 σ) (hO : sp_ok σ) {k g : Nat} (hk : k < σ 3) (hg : g < 4) : ps_Ro l E yX4_isPlain cX4_isPlain 3 (some .boolean) 2 33 [.ref (o), .int (nI k), .int (nI g)] H (some (.int (bI (sp_plk σ g k)))) := by
  refine ps_Ro.of (by decide) (Nat.le_of_ble_eq_true rfl) ?_
  intro p e s m args below meth c X ls hl
  have hx := X.1
  have hb := X.2.1
  have ho := X.2.2.2.1
  have hts := X.2.2.2.2.1
  have hS : va_S (ps_A E) s.heap H [] := by rw [X.2.2.2.2.2.2.2.2.1]; exact va_S.rf
  have hl : lv_has ls 3 [(0, .ref (o)), (1, .int (nI k)), (2, .int (nI g))] := hl
  have hm := hO.m
  have hp := hO.p hk
  refine lv_aload_n hx hb dX4_isPlain_0 rfl (lv_at hl 0 rfl) ?_
  refine lv_iload_n hx hb dX4_isPlain_1 rfl (lv_at hl 1 rfl) ?_
  refine ps_roV X hE (m_X4_isOpen l hE hM hσ hO (k := k) (by omega)) (lw_V q1459 q1461 qs43 q75 q1462) (by decide +kernel) ⟨⟨Nat.le_of_ble_eq_true rfl, Nat.le_of_ble_eq_true rfl⟩, Nat.le_of_ble_eq_true rfl, Nat.le_of_ble_eq_true rfl⟩ (ps_mrc X hM) hS hl.1 (As := [.int (nI k)]) (rest := []) (n := 1) rfl rfl (Nat.le_of_ble_eq_true rfl) dX4_isPlain_2 ?_
  refine ps_st (st' := [.int (bI (sp_open σ k))]) rfl ?_
  refine ps_ifeqB (tgt := 38) hx hb dX4_isPlain_5 (by decide) (fun c_5 => ?_) (fun c_5 => ?_)
  · skip
    refine lv_iconst (v := nI 0) hx hb dX4_isPlain_38 rfl ?_
    exact ps_zretR (b := sp_plk σ g k) X dX4_isPlain_39 ((bI_is0 (by simp [sp_plk, c_5]))) rfl
  · skip
    refine lv_aload_n hx hb dX4_isPlain_8 rfl (lv_at hl 0 rfl) ?_
    refine ps_mget (v := .ref (o + 4)) X hM 5 (by decide) q1294 rfl rfl dX4_isPlain_9 ?_
    refine lv_bipush (v := nI 9) hx hb dX4_isPlain_12 rfl ?_
    refine lv_iload_n hx hb dX4_isPlain_14 rfl (lv_at hl 1 rfl) ?_
    refine ps_iadd hx hb dX4_isPlain_15 ?_
    refine ps_mld (j := 9 + k) (v := nI (σ (9 + k))) X hM 4 (by decide) rfl (by show 9 + k < 57; omega) (hσ _ (by show 9 + k < 57; omega)) dX4_isPlain_16 ?_
    refine lv_iconst (v := nI 1) hx hb dX4_isPlain_17 rfl ?_
    refine ps_cne (tgt := 38) hx hb dX4_isPlain_18 (by decide) (by omega) (fun c_18 => ?_) (fun c_18 => ?_)
    · skip
      refine lv_iconst (v := nI 0) hx hb dX4_isPlain_38 rfl ?_
      exact ps_zretR (b := sp_plk σ g k) X dX4_isPlain_39 ((bI_is0 (by simp [sp_plk, c_5, c_18]))) rfl
    · skip
      refine lv_aload_n hx hb dX4_isPlain_21 rfl (lv_at hl 0 rfl) ?_
      refine ps_mget (v := .ref (o + 4)) X hM 5 (by decide) q1294 rfl rfl dX4_isPlain_22 ?_
      refine lv_bipush (v := nI 17) hx hb dX4_isPlain_25 rfl ?_
      refine lv_iload_n hx hb dX4_isPlain_27 rfl (lv_at hl 1 rfl) ?_
      refine ps_iadd hx hb dX4_isPlain_28 ?_
      refine ps_mld (j := 17 + k) (v := nI (σ (17 + k))) X hM 4 (by decide) rfl (by show 17 + k < 57; omega) (hσ _ (by show 17 + k < 57; omega)) dX4_isPlain_29 ?_
      refine lv_iload_n hx hb dX4_isPlain_30 rfl (lv_at hl 2 rfl) ?_
      refine ps_cne (tgt := 38) hx hb dX4_isPlain_31 (by decide) (by omega) (fun c_31 => ?_) (fun c_31 => ?_)
      · skip
        refine lv_iconst (v := nI 0) hx hb dX4_isPlain_38 rfl ?_
        exact ps_zretR (b := sp_plk σ g k) X dX4_isPlain_39 ((bI_is0 (by simp [sp_plk, c_5, c_18, c_31]))) rfl
      · skip
        refine lv_iconst (v := nI 1) hx hb dX4_isPlain_34 rfl ?_
        refine lv_goto (tgt := 39) hx hb dX4_isPlain_35 (by decide) ?_
        exact ps_zretR (b := sp_plk σ g k) X dX4_isPlain_39 ((bI_is1 (by simp [sp_plk, c_5, c_18, c_31]))) rfl

set_option maxHeartbeats 4000000 in
theorem m_X4_isKind (l : Launch) {E : ps_E} (hE : ps_ZT E) {H : Heap} {u k : Nat} (hu : u < 6) (hk : k < 6) : ps_Ro l E yX4_isKind cX4_isKind 2 (some .boolean) 1 12 [.int (nI u), .int (nI k)] H (some (.int (bI (sp_isK u k)))) := by
  refine ps_Ro.of (by decide) (Nat.le_of_ble_eq_true rfl) ?_
  intro p e s m args below meth c X ls hl
  have hx := X.1
  have hb := X.2.1
  have ho := X.2.2.2.1
  have hts := X.2.2.2.2.1
  have hS : va_S (ps_A E) s.heap H [] := by rw [X.2.2.2.2.2.2.2.2.1]; exact va_S.rf
  have hl : lv_has ls 2 [(0, .int (nI u)), (1, .int (nI k))] := hl
  refine lv_iload_n hx hb dX4_isKind_0 rfl (lv_at hl 1 rfl) ?_
  refine ps_ifeq (tgt := 29) hx hb dX4_isKind_1 (by decide) (by omega) (fun c_1 => ?_) (fun c_1 => ?_)
  · skip
    refine lv_iconst (v := nI 1) hx hb dX4_isKind_29 rfl ?_
    refine lv_goto (tgt := 34) hx hb dX4_isKind_30 (by decide) ?_
    exact ps_zretR (b := sp_isK u k) X dX4_isKind_34 ((bI_is1 (by simp [sp_isK, c_1]; try omega))) rfl
  · skip
    refine lv_iload_n hx hb dX4_isKind_4 rfl (lv_at hl 0 rfl) ?_
    refine lv_iload_n hx hb dX4_isKind_5 rfl (lv_at hl 1 rfl) ?_
    refine ps_ceq (tgt := 29) hx hb dX4_isKind_6 (by decide) (by omega) (fun c_6 => ?_) (fun c_6 => ?_)
    · skip
      refine lv_iconst (v := nI 1) hx hb dX4_isKind_29 rfl ?_
      refine lv_goto (tgt := 34) hx hb dX4_isKind_30 (by decide) ?_
      exact ps_zretR (b := sp_isK u k) X dX4_isKind_34 ((bI_is1 (by simp [sp_isK, c_1, c_6]; try omega))) rfl
    · skip
      refine lv_iload_n hx hb dX4_isKind_9 rfl (lv_at hl 1 rfl) ?_
      refine lv_iconst (v := nI 1) hx hb dX4_isKind_10 rfl ?_
      refine ps_cne (tgt := 19) hx hb dX4_isKind_11 (by decide) (by omega) (fun c_11 => ?_) (fun c_11 => ?_)
      · skip
        refine lv_iload_n hx hb dX4_isKind_19 rfl (lv_at hl 1 rfl) ?_
        refine lv_iconst (v := nI 4) hx hb dX4_isKind_20 rfl ?_
        refine ps_cne (tgt := 33) hx hb dX4_isKind_21 (by decide) (by omega) (fun c_21 => ?_) (fun c_21 => ?_)
        · skip
          refine lv_iconst (v := nI 0) hx hb dX4_isKind_33 rfl ?_
          exact ps_zretR (b := sp_isK u k) X dX4_isKind_34 ((bI_is0 (by simp [sp_isK, c_1, c_6, c_11, c_21]; try omega))) rfl
        · skip
          refine lv_iload_n hx hb dX4_isKind_24 rfl (lv_at hl 0 rfl) ?_
          refine lv_iconst (v := nI 5) hx hb dX4_isKind_25 rfl ?_
          refine ps_cne (tgt := 33) hx hb dX4_isKind_26 (by decide) (by omega) (fun c_26 => ?_) (fun c_26 => ?_)
          · skip
            refine lv_iconst (v := nI 0) hx hb dX4_isKind_33 rfl ?_
            exact ps_zretR (b := sp_isK u k) X dX4_isKind_34 ((bI_is0 (by simp [sp_isK, c_1, c_6, c_11, c_21, c_26]; try omega))) rfl
          · skip
            refine lv_iconst (v := nI 1) hx hb dX4_isKind_29 rfl ?_
            refine lv_goto (tgt := 34) hx hb dX4_isKind_30 (by decide) ?_
            exact ps_zretR (b := sp_isK u k) X dX4_isKind_34 ((bI_is1 (by simp [sp_isK, c_1, c_6, c_11, c_21, c_26]; try omega))) rfl
      · skip
        refine lv_iload_n hx hb dX4_isKind_14 rfl (lv_at hl 0 rfl) ?_
        refine lv_iconst (v := nI 4) hx hb dX4_isKind_15 rfl ?_
        refine ps_clt (tgt := 29) hx hb dX4_isKind_16 (by decide) (by omega) (fun c_16 => ?_) (fun c_16 => ?_)
        · skip
          refine lv_iconst (v := nI 1) hx hb dX4_isKind_29 rfl ?_
          refine lv_goto (tgt := 34) hx hb dX4_isKind_30 (by decide) ?_
          exact ps_zretR (b := sp_isK u k) X dX4_isKind_34 ((bI_is1 (by simp [sp_isK, c_1, c_6, c_11, c_16]; try omega))) rfl
        · skip
          refine lv_iload_n hx hb dX4_isKind_19 rfl (lv_at hl 1 rfl) ?_
          refine lv_iconst (v := nI 4) hx hb dX4_isKind_20 rfl ?_
          refine ps_cne (tgt := 33) hx hb dX4_isKind_21 (by decide) (by omega) (fun c_21 => ?_) (fun c_21 => ?_)
          · skip
            refine lv_iconst (v := nI 0) hx hb dX4_isKind_33 rfl ?_
            exact ps_zretR (b := sp_isK u k) X dX4_isKind_34 ((bI_is0 (by simp [sp_isK, c_1, c_6, c_11, c_16, c_21]; try omega))) rfl
          · skip
            refine lv_iload_n hx hb dX4_isKind_24 rfl (lv_at hl 0 rfl) ?_
            refine lv_iconst (v := nI 5) hx hb dX4_isKind_25 rfl ?_
            refine ps_cne (tgt := 33) hx hb dX4_isKind_26 (by decide) (by omega) (fun c_26 => ?_) (fun c_26 => ?_)
            · skip
              refine lv_iconst (v := nI 0) hx hb dX4_isKind_33 rfl ?_
              exact ps_zretR (b := sp_isK u k) X dX4_isKind_34 ((bI_is0 (by simp [sp_isK, c_1, c_6, c_11, c_16, c_21, c_26]; try omega))) rfl
            · skip
              refine lv_iconst (v := nI 1) hx hb dX4_isKind_29 rfl ?_
              refine lv_goto (tgt := 34) hx hb dX4_isKind_30 (by decide) ?_
              exact ps_zretR (b := sp_isK u k) X dX4_isKind_34 ((bI_is1 (by simp [sp_isK, c_1, c_6, c_11, c_16, c_21, c_26]; try omega))) rfl

set_option maxHeartbeats 4000000 in
theorem m_X4_ones (l : Launch) {E : ps_E} (hE : ps_ZT E) {H : Heap} {u : Nat} (hu : u < 256) : ps_Ro l E yX4_ones cX4_ones 3 (some .int) 1 12 [.int (nI u)] H (some (.int (nI (sp_ones u)))) := by
  refine ps_Ro.of (by decide) (Nat.le_of_ble_eq_true rfl) ?_
  intro p e s m args below meth c X ls hl
  have hx := X.1
  have hb := X.2.1
  have ho := X.2.2.2.1
  have hts := X.2.2.2.2.1
  have hS : va_S (ps_A E) s.heap H [] := by rw [X.2.2.2.2.2.2.2.2.1]; exact va_S.rf
  have hl : lv_has ls 3 [(0, .int (nI u))] := hl
  refine lv_iconst (v := nI 0) hx hb dX4_ones_0 rfl ?_
  refine lv_istore_n (lv' := [(1, .int (nI 0)), (0, .int (nI u))]) hx hb dX4_ones_1 rfl hl (by decide) rfl (fun ls hl => ?_)
  refine lv_iload_n hx hb dX4_ones_2 rfl (lv_at hl 1 rfl) ?_
  refine lv_istore_n (lv' := [(2, .int (nI u)), (1, .int (nI 0)), (0, .int (nI u))]) hx hb dX4_ones_3 rfl hl (by decide) rfl (fun ls hl => ?_)
  have L4 : ∀ (n : Nat) (i v : Nat) (hv : v < 256) (hi : i + sp_ones v = sp_ones u) (hmu : v < n) (ls : Array Slot) (hl : lv_has ls 3 [(2, .int (nI v)), (1, .int (nI i)), (0, .int (nI u))]), W p l e ({ frames := 1, cells := 0, slots := 0, locals := 12 } : Room) s m args below meth c H [] 0 0 (MQ below (ps_ro (some (.int (nI (sp_ones u))))) args s 0 0 (fun _ => False)) (F0 m 4 ls []) := by
    intro n
    induction n with
    | zero => intro i v hv hi hmu; exact absurd hmu (Nat.not_lt_zero _)
    | succ n ih4 =>
      intro i v hv hi hmu ls hl
      refine lv_iload_n hx hb dX4_ones_4 rfl (lv_at hl 0 rfl) ?_
      refine ps_ifeq (tgt := 20) hx hb dX4_ones_5 (by decide) (by omega) (fun c_5 => ?_) (fun c_5 => ?_)
      · skip
        have e0 : sp_ones 0 = 0 := by decide
        refine lv_iload_n hx hb dX4_ones_20 rfl (lv_at hl 1 rfl) ?_
        exact ps_iretR X dX4_ones_21 (congrArg (fun z => some (Value.int z)) (congrArg nI (by (subst c_5; omega))))
      · skip
        have ho := sp_ones_step v hv (by omega)
        refine lv_iinc (v := nI (i + 1)) (lv' := [(1, .int (nI (i + 1))), (2, .int (nI v)), (0, .int (nI u))]) hx hb dX4_ones_8 hl (k := 1) rfl (ps_inc _) (by decide) rfl (fun ls hl => ?_)
        refine lv_iload_n hx hb dX4_ones_11 rfl (lv_at hl 1 rfl) ?_
        refine lv_iload_n hx hb dX4_ones_12 rfl (lv_at hl 1 rfl) ?_
        refine lv_iconst (v := nI 1) hx hb dX4_ones_13 rfl ?_
        refine ps_isub hx hb dX4_ones_14 (by omega) ?_
        refine lv_iand hx hb dX4_ones_15 ?_
        refine ps_top (y := nI (v &&& (v - 1))) (nI_and _ _) ?_
        refine lv_istore_n (lv' := [(2, .int (nI (v &&& (v - 1)))), (1, .int (nI (i + 1))), (0, .int (nI u))]) hx hb dX4_ones_16 rfl hl (by decide) rfl (fun ls hl => ?_)
        refine lv_goto (tgt := 4) hx hb dX4_ones_17 (by decide) ?_
        exact ih4  (i + 1) (v &&& (v - 1)) (by omega) (by omega) (by omega) ls (lv_sub hl [0, 1, 2] rfl)
  exact L4 ((u) + 1) 0 u hu (Nat.zero_add _) (Nat.lt_succ_self _) ls (lv_sub hl [0, 1, 2] rfl)

set_option maxHeartbeats 4000000 in
theorem m_X4_isBag (l : Launch) {E : ps_E} (hE : ps_ZT E) {H : Heap} {o : Nat} {F : Nat → Int32} {A : Nat → Nat → Int32} (hM : ps_Mo E H o F A) {σ : Nat → Nat} (hσ : ps_Vw A 4 57 σ) (hO : sp_ok σ) {u : Nat} (hu : u < 2147483648) : ps_Ro l E yX4_isBag cX4_isBag 5 (some .boolean) 3 55 [.ref (o), .int (nI u)] H (some (.int (bI (sp_bag σ u)))) := by
  refine ps_Ro.of (by decide) (Nat.le_of_ble_eq_true rfl) ?_
  intro p e s m args below meth c X ls hl
  have hx := X.1
  have hb := X.2.1
  have ho := X.2.2.2.1
  have hts := X.2.2.2.2.1
  have hS : va_S (ps_A E) s.heap H [] := by rw [X.2.2.2.2.2.2.2.2.1]; exact va_S.rf
  have hl : lv_has ls 5 [(0, .ref (o)), (1, .int (nI u))] := hl
  have hm := hO.m
  refine lv_iconst (v := nI 1) hx hb dX4_isBag_0 rfl ?_
  refine lv_istore_n (lv' := [(2, .int (nI 1)), (0, .ref (o)), (1, .int (nI u))]) hx hb dX4_isBag_1 rfl hl (by decide) rfl (fun ls hl => ?_)
  refine lv_iconst (v := nI 0) hx hb dX4_isBag_2 rfl ?_
  refine lv_istore_n (lv' := [(3, .int (nI 0)), (2, .int (nI 1)), (0, .ref (o)), (1, .int (nI u))]) hx hb dX4_isBag_3 rfl hl (by decide) rfl (fun ls hl => ?_)
  have L4 : ∀ (n : Nat) (i : Nat) (hi : i ≤ σ 3) (hmu : σ 3 - i < n) (ls : Array Slot) (hl : lv_has ls 5 [(3, .int (nI i)), (2, .int (bI (sp_bagA σ u i))), (0, .ref (o)), (1, .int (nI u))]), W p l e ({ frames := 3, cells := 0, slots := 0, locals := 55 } : Room) s m args below meth c H [] 0 0 (MQ below (ps_ro (some (.int (bI (sp_bag σ u))))) args s 0 0 (fun _ => False)) (F0 m 4 ls []) := by
    intro n
    induction n with
    | zero => intro i hi hmu; exact absurd hmu (Nat.not_lt_zero _)
    | succ n ih4 =>
      intro i hi hmu ls hl
      refine lv_iload_n hx hb dX4_isBag_4 rfl (lv_at hl 0 rfl) ?_
      refine lv_aload_n hx hb dX4_isBag_5 rfl (lv_at hl 2 rfl) ?_
      refine ps_mget (v := .ref (o + 4)) X hM 5 (by decide) q1294 rfl rfl dX4_isBag_6 ?_
      refine lv_iconst (v := nI 3) hx hb dX4_isBag_9 rfl ?_
      refine ps_mld (j := 3) (v := nI (σ 3)) X hM 4 (by decide) rfl (by show 3 < 57; omega) (hσ _ (by show 3 < 57; omega)) dX4_isBag_10 ?_
      refine ps_cge (tgt := 105) hx hb dX4_isBag_11 (by decide) (by omega) (fun c_11 => ?_) (fun c_11 => ?_)
      · skip
        have ei : i = σ 3 := by omega
        refine lv_iload_n hx hb dX4_isBag_105 rfl (lv_at hl 1 rfl) ?_
        exact ps_zretR (b := sp_bag σ u) X dX4_isBag_106 (congrArg bI (by rw [ei]; rfl)) rfl
      · skip
        have J39 : W p l e ({ frames := 3, cells := 0, slots := 0, locals := 55 } : Room) s m args below meth c H [] 0 0 (MQ below (ps_ro (some (.int (bI (sp_bag σ u))))) args s 0 0 (fun _ => False)) (F0 m 39 ls [.int (bI (sp_bagA σ u i && (!(u.testBit i) || sp_open σ i)))]) := by
          refine lv_istore_n (lv' := [(2, .int (bI (sp_bagA σ u i && (!(u.testBit i) || sp_open σ i)))), (3, .int (nI i)), (0, .ref (o)), (1, .int (nI u))]) hx hb dX4_isBag_39 rfl hl (by decide) rfl (fun ls hl => ?_)
          refine lv_iload_n hx hb dX4_isBag_40 rfl (lv_at hl 1 rfl) ?_
          refine lv_iconst (v := nI 1) hx hb dX4_isBag_41 rfl ?_
          refine ps_iadd hx hb dX4_isBag_42 ?_
          refine lv_istore (lv' := [(4, .int (nI (i + 1))), (2, .int (bI (sp_bagA σ u i && (!(u.testBit i) || sp_open σ i)))), (3, .int (nI i)), (0, .ref (o)), (1, .int (nI u))]) hx hb dX4_isBag_43 hl (by decide) rfl (fun ls hl => ?_)
          have L45 : ∀ (n : Nat) (j : Nat) (hj : i + 1 ≤ j ∧ j ≤ σ 3) (hmu : σ 3 - j < n) (ls : Array Slot) (hl : lv_has ls 5 [(4, .int (nI j)), (2, .int (bI (sp_bagA σ u i && (!(u.testBit i) || sp_open σ i) && sp_bagI σ u i (j - i - 1)))), (3, .int (nI i)), (0, .ref (o)), (1, .int (nI u))]), W p l e ({ frames := 3, cells := 0, slots := 0, locals := 55 } : Room) s m args below meth c H [] 0 0 (MQ below (ps_ro (some (.int (bI (sp_bag σ u))))) args s 0 0 (fun _ => False)) (F0 m 45 ls []) := by
            intro n
            induction n with
            | zero => intro j hj hmu; exact absurd hmu (Nat.not_lt_zero _)
            | succ n ih45 =>
              intro j hj hmu ls hl
              refine lv_iload hx hb dX4_isBag_45 (lv_at hl 0 rfl) ?_
              refine lv_aload_n hx hb dX4_isBag_47 rfl (lv_at hl 3 rfl) ?_
              refine ps_mget (v := .ref (o + 4)) X hM 5 (by decide) q1294 rfl rfl dX4_isBag_48 ?_
              refine lv_iconst (v := nI 3) hx hb dX4_isBag_51 rfl ?_
              refine ps_mld (j := 3) (v := nI (σ 3)) X hM 4 (by decide) rfl (by show 3 < 57; omega) (hσ _ (by show 3 < 57; omega)) dX4_isBag_52 ?_
              refine ps_cge (tgt := 99) hx hb dX4_isBag_53 (by decide) (by omega) (fun c_53 => ?_) (fun c_53 => ?_)
              · skip
                have ej : j = σ 3 := by omega
                refine lv_iinc (v := nI (i + 1)) (lv' := [(3, .int (nI (i + 1))), (4, .int (nI j)), (2, .int (bI (sp_bagA σ u i && (!(u.testBit i) || sp_open σ i) && sp_bagI σ u i (j - i - 1)))), (0, .ref (o)), (1, .int (nI u))]) hx hb dX4_isBag_99 hl (k := 2) rfl (ps_inc _) (by decide) rfl (fun ls hl => ?_)
                refine lv_goto (tgt := 4) hx hb dX4_isBag_102 (by decide) ?_
                have e1 : (bI (sp_bagA σ u i && (!(u.testBit i) || sp_open σ i) && sp_bagI σ u i (j - i - 1)) : Int32) = bI (sp_bagA σ u (i + 1)) := congrArg bI (by rw [ej]; simp [sp_bagA, allR, Bool.and_assoc])
                have hl : lv_has ls 5 [(3, .int (nI (i + 1))), (2, .int (bI (sp_bagA σ u (i + 1)))), (0, .ref (o)), (1, .int (nI u))] := ps_lv (l1 := [(3, .int (nI (i + 1))), (2, .int (bI (sp_bagA σ u i && (!(u.testBit i) || sp_open σ i) && sp_bagI σ u i (j - i - 1)))), (0, .ref (o)), (1, .int (nI u))]) (lv_sub hl [0, 2, 3, 4] rfl) (by rw [e1])
                exact ih4  (i + 1) (by omega) (by omega) ls (hl)
              · skip
                have J92 : W p l e ({ frames := 3, cells := 0, slots := 0, locals := 55 } : Room) s m args below meth c H [] 0 0 (MQ below (ps_ro (some (.int (bI (sp_bag σ u))))) args s 0 0 (fun _ => False)) (F0 m 92 ls [.int (bI (sp_bagA σ u i && (!(u.testBit i) || sp_open σ i) && sp_bagI σ u i (j - i - 1) && !(u.testBit i && u.testBit j && sp_clash σ i j)))]) := by
                  refine lv_istore_n (lv' := [(2, .int (bI (sp_bagA σ u i && (!(u.testBit i) || sp_open σ i) && sp_bagI σ u i (j - i - 1) && !(u.testBit i && u.testBit j && sp_clash σ i j)))), (4, .int (nI j)), (3, .int (nI i)), (0, .ref (o)), (1, .int (nI u))]) hx hb dX4_isBag_92 rfl hl (by decide) rfl (fun ls hl => ?_)
                  refine lv_iinc (v := nI (j + 1)) (lv' := [(4, .int (nI (j + 1))), (2, .int (bI (sp_bagA σ u i && (!(u.testBit i) || sp_open σ i) && sp_bagI σ u i (j - i - 1) && !(u.testBit i && u.testBit j && sp_clash σ i j)))), (3, .int (nI i)), (0, .ref (o)), (1, .int (nI u))]) hx hb dX4_isBag_93 hl (k := 1) rfl (ps_inc _) (by decide) rfl (fun ls hl => ?_)
                  refine lv_goto (tgt := 45) hx hb dX4_isBag_96 (by decide) ?_
                  have e2 : (bI (sp_bagA σ u i && (!(u.testBit i) || sp_open σ i) && sp_bagI σ u i (j - i - 1) && !(u.testBit i && u.testBit j && sp_clash σ i j)) : Int32) = bI (sp_bagA σ u i && (!(u.testBit i) || sp_open σ i) && sp_bagI σ u i (j + 1 - i - 1)) := congrArg bI (by rw [show j + 1 - i - 1 = (j - i - 1) + 1 by omega, sp_bagI, allR, show i + 1 + (j - i - 1) = j by omega]; simp [Bool.and_assoc])
                  have hl : lv_has ls 5 [(4, .int (nI (j + 1))), (2, .int (bI (sp_bagA σ u i && (!(u.testBit i) || sp_open σ i) && sp_bagI σ u i (j + 1 - i - 1)))), (3, .int (nI i)), (0, .ref (o)), (1, .int (nI u))] := ps_lv (l1 := [(4, .int (nI (j + 1))), (2, .int (bI (sp_bagA σ u i && (!(u.testBit i) || sp_open σ i) && sp_bagI σ u i (j - i - 1) && !(u.testBit i && u.testBit j && sp_clash σ i j)))), (3, .int (nI i)), (0, .ref (o)), (1, .int (nI u))]) (lv_sub hl [0, 1, 2, 3, 4] rfl) (by rw [e2])
                  exact ih45  (j + 1) (by omega) (by omega) ls (hl)
                refine lv_iload_n hx hb dX4_isBag_56 rfl (lv_at hl 1 rfl) ?_
                refine ps_ifeqB (tgt := 91) hx hb dX4_isBag_57 (by decide) (fun c_57 => ?_) (fun c_57 => ?_)
                · skip
                  refine lv_iconst (v := nI 0) hx hb dX4_isBag_91 rfl ?_
                  exact ps_top ((bI_is0 (by simp_all))) J92
                · skip
                  refine lv_iload_n hx hb dX4_isBag_60 rfl (lv_at hl 4 rfl) ?_
                  refine lv_iload_n hx hb dX4_isBag_61 rfl (lv_at hl 2 rfl) ?_
                  refine ps_roS X hE (m_X4_has l hE (H := H) (u := u) (k := i) (by omega) (by omega)) (lw_S q1476 q1477 q75 q1478) (by decide +kernel) ⟨⟨Nat.le_of_ble_eq_true rfl, Nat.le_of_ble_eq_true rfl⟩, Nat.le_of_ble_eq_true rfl, Nat.le_of_ble_eq_true rfl⟩ hS hl.1 (As := [.int (nI u), .int (nI i)]) (rest := []) (n := 2) rfl rfl (Nat.le_of_ble_eq_true rfl) dX4_isBag_62 ?_
                  refine ps_st (st' := [.int (bI (Nat.testBit u i))]) rfl ?_
                  refine ps_ifeqB (tgt := 87) hx hb dX4_isBag_65 (by decide) (fun c_65 => ?_) (fun c_65 => ?_)
                  · skip
                    refine lv_iconst (v := nI 1) hx hb dX4_isBag_87 rfl ?_
                    refine lv_goto (tgt := 92) hx hb dX4_isBag_88 (by decide) ?_
                    exact ps_top ((bI_is1 (by simp_all))) J92
                  · skip
                    refine lv_iload_n hx hb dX4_isBag_68 rfl (lv_at hl 4 rfl) ?_
                    refine lv_iload hx hb dX4_isBag_69 (lv_at hl 0 rfl) ?_
                    refine ps_roS X hE (m_X4_has l hE (H := H) (u := u) (k := j) (by omega) (by omega)) (lw_S q1476 q1477 q75 q1478) (by decide +kernel) ⟨⟨Nat.le_of_ble_eq_true rfl, Nat.le_of_ble_eq_true rfl⟩, Nat.le_of_ble_eq_true rfl, Nat.le_of_ble_eq_true rfl⟩ hS hl.1 (As := [.int (nI u), .int (nI j)]) (rest := []) (n := 2) rfl rfl (Nat.le_of_ble_eq_true rfl) dX4_isBag_71 ?_
                    refine ps_st (st' := [.int (bI (Nat.testBit u j))]) rfl ?_
                    refine ps_ifeqB (tgt := 87) hx hb dX4_isBag_74 (by decide) (fun c_74 => ?_) (fun c_74 => ?_)
                    · skip
                      refine lv_iconst (v := nI 1) hx hb dX4_isBag_87 rfl ?_
                      refine lv_goto (tgt := 92) hx hb dX4_isBag_88 (by decide) ?_
                      exact ps_top ((bI_is1 (by simp_all))) J92
                    · skip
                      refine lv_aload_n hx hb dX4_isBag_77 rfl (lv_at hl 3 rfl) ?_
                      refine lv_iload_n hx hb dX4_isBag_78 rfl (lv_at hl 2 rfl) ?_
                      refine lv_iload hx hb dX4_isBag_79 (lv_at hl 0 rfl) ?_
                      refine ps_roV X hE (m_X4_clashes l hE hM hσ hO (k := i) (j := j) (by omega) (by omega)) (lw_V q1536 q1538 qs53 q75 q1539) (by decide +kernel) ⟨⟨Nat.le_of_ble_eq_true rfl, Nat.le_of_ble_eq_true rfl⟩, Nat.le_of_ble_eq_true rfl, Nat.le_of_ble_eq_true rfl⟩ (ps_mrc X hM) hS hl.1 (As := [.int (nI i), .int (nI j)]) (rest := []) (n := 2) rfl rfl (Nat.le_of_ble_eq_true rfl) dX4_isBag_81 ?_
                      refine ps_st (st' := [.int (bI (sp_clash σ i j))]) rfl ?_
                      refine ps_ifneB (tgt := 91) hx hb dX4_isBag_84 (by decide) (fun c_84 => ?_) (fun c_84 => ?_)
                      · skip
                        refine lv_iconst (v := nI 0) hx hb dX4_isBag_91 rfl ?_
                        exact ps_top ((bI_is0 (by simp_all))) J92
                      · skip
                        refine lv_iconst (v := nI 1) hx hb dX4_isBag_87 rfl ?_
                        refine lv_goto (tgt := 92) hx hb dX4_isBag_88 (by decide) ?_
                        exact ps_top ((bI_is1 (by simp_all))) J92
          have e3 : (bI (sp_bagA σ u i && (!(u.testBit i) || sp_open σ i)) : Int32) = bI (sp_bagA σ u i && (!(u.testBit i) || sp_open σ i) && sp_bagI σ u i (i + 1 - i - 1)) := congrArg bI (by rw [show i + 1 - i - 1 = 0 by omega]; simp [sp_bagI, allR])
          have hl : lv_has ls 5 [(4, .int (nI (i + 1))), (2, .int (bI (sp_bagA σ u i && (!(u.testBit i) || sp_open σ i) && sp_bagI σ u i (i + 1 - i - 1)))), (3, .int (nI i)), (0, .ref (o)), (1, .int (nI u))] := ps_lv (l1 := [(4, .int (nI (i + 1))), (2, .int (bI (sp_bagA σ u i && (!(u.testBit i) || sp_open σ i)))), (3, .int (nI i)), (0, .ref (o)), (1, .int (nI u))]) (lv_sub hl [0, 1, 2, 3, 4] rfl) (by rw [e3])
          exact L45 ((σ 3 - (i + 1)) + 1) (i + 1) (by omega) (Nat.lt_succ_self _) ls (hl)
        refine lv_iload_n hx hb dX4_isBag_14 rfl (lv_at hl 1 rfl) ?_
        refine ps_ifeqB (tgt := 38) hx hb dX4_isBag_15 (by decide) (fun c_15 => ?_) (fun c_15 => ?_)
        · skip
          refine lv_iconst (v := nI 0) hx hb dX4_isBag_38 rfl ?_
          exact ps_top ((bI_is0 (by simp_all))) J39
        · skip
          refine lv_iload_n hx hb dX4_isBag_18 rfl (lv_at hl 3 rfl) ?_
          refine lv_iload_n hx hb dX4_isBag_19 rfl (lv_at hl 0 rfl) ?_
          refine ps_roS X hE (m_X4_has l hE (H := H) (u := u) (k := i) (by omega) (by omega)) (lw_S q1476 q1477 q75 q1478) (by decide +kernel) ⟨⟨Nat.le_of_ble_eq_true rfl, Nat.le_of_ble_eq_true rfl⟩, Nat.le_of_ble_eq_true rfl, Nat.le_of_ble_eq_true rfl⟩ hS hl.1 (As := [.int (nI u), .int (nI i)]) (rest := []) (n := 2) rfl rfl (Nat.le_of_ble_eq_true rfl) dX4_isBag_20 ?_
          refine ps_st (st' := [.int (bI (Nat.testBit u i))]) rfl ?_
          refine ps_ifeqB (tgt := 34) hx hb dX4_isBag_23 (by decide) (fun c_23 => ?_) (fun c_23 => ?_)
          · skip
            refine lv_iconst (v := nI 1) hx hb dX4_isBag_34 rfl ?_
            refine lv_goto (tgt := 39) hx hb dX4_isBag_35 (by decide) ?_
            exact ps_top ((bI_is1 (by simp_all))) J39
          · skip
            refine lv_aload_n hx hb dX4_isBag_26 rfl (lv_at hl 2 rfl) ?_
            refine lv_iload_n hx hb dX4_isBag_27 rfl (lv_at hl 0 rfl) ?_
            refine ps_roV X hE (m_X4_isOpen l hE hM hσ hO (k := i) (by omega)) (lw_V q1459 q1461 qs43 q75 q1462) (by decide +kernel) ⟨⟨Nat.le_of_ble_eq_true rfl, Nat.le_of_ble_eq_true rfl⟩, Nat.le_of_ble_eq_true rfl, Nat.le_of_ble_eq_true rfl⟩ (ps_mrc X hM) hS hl.1 (As := [.int (nI i)]) (rest := []) (n := 1) rfl rfl (Nat.le_of_ble_eq_true rfl) dX4_isBag_28 ?_
            refine ps_st (st' := [.int (bI (sp_open σ i))]) rfl ?_
            refine ps_ifeqB (tgt := 38) hx hb dX4_isBag_31 (by decide) (fun c_31 => ?_) (fun c_31 => ?_)
            · skip
              refine lv_iconst (v := nI 0) hx hb dX4_isBag_38 rfl ?_
              exact ps_top ((bI_is0 (by simp_all))) J39
            · skip
              refine lv_iconst (v := nI 1) hx hb dX4_isBag_34 rfl ?_
              refine lv_goto (tgt := 39) hx hb dX4_isBag_35 (by decide) ?_
              exact ps_top ((bI_is1 (by simp_all))) J39
  have e4 : (nI 1 : Int32) = bI (sp_bagA σ u 0) := rfl
  have hl : lv_has ls 5 [(3, .int (nI 0)), (2, .int (bI (sp_bagA σ u 0))), (0, .ref (o)), (1, .int (nI u))] := ps_lv (l1 := [(3, .int (nI 0)), (2, .int (nI 1)), (0, .ref (o)), (1, .int (nI u))]) (lv_sub hl [0, 1, 2, 3] rfl) (by rw [e4])
  exact L4 ((σ 3 - 0) + 1) 0 (Nat.zero_le _) (Nat.lt_succ_self _) ls (hl)
