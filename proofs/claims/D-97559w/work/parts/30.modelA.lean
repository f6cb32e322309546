/-! the model: its readers (printed by gen/model1.py) -/
set_option maxRecDepth 100000
set_option maxHeartbeats 4000000 in
theorem m_X4_in (l : Launch) {E : ps_E} (hE : ps_ZT E) {H : Heap} {x : Int32} {lo hi : Nat} {b0 c0 : Int64} (hb0 : b0.toInt = (lo : Int)) (hc0 : ∀ y : Int, 0 ≤ y → (y ≤ c0.toInt ↔ y < (hi : Int))) : ps_Ro l E yX4_in cX4_in 6 (some .boolean) 1 12 [.long (x.toInt64), .long (b0), .long (c0)] H (some (.int (bI (rng x lo hi)))) := by
  refine ps_Ro.of (by decide) (Nat.le_of_ble_eq_true rfl) ?_
  intro p e s m args below meth c X ls hl
  have hx := X.1
  have hb := X.2.1
  have ho := X.2.2.2.1
  have hts := X.2.2.2.2.1
  have hS : va_S (ps_A E) s.heap H [] := by rw [X.2.2.2.2.2.2.2.2.1]; exact va_S.rf
  have hl : lv_has ls 6 [(0, .long (x.toInt64)), (2, .long (b0)), (4, .long (c0))] := hl
  refine lv_lload_n hx hb dX4_in_0 rfl (lv_at hl 0 rfl) ?_
  refine lv_lload_n hx hb dX4_in_1 rfl (lv_at hl 1 rfl) ?_
  refine W.lcmp hx hb dX4_in_2 ?_
  refine lv_if_lt (tgt := 17) hx hb dX4_in_3 (by decide) (fun c_3 => ?_) (fun c_3 => ?_)
  · skip
    refine lv_iconst (v := nI 0) hx hb dX4_in_17 rfl ?_
    exact ps_zretR (b := rng x lo hi) X dX4_in_18 ((bI_is0 (by first | exact ps_in_1 hb0 hc0 c_3 c_10 | exact ps_in_b hb0 hc0 c_3 c_10 | exact ps_in_a hb0 c_3))) rfl
  · skip
    refine lv_lload_n hx hb dX4_in_6 rfl (lv_at hl 0 rfl) ?_
    refine lv_lload hx hb dX4_in_7 (lv_at hl 2 rfl) ?_
    refine W.lcmp hx hb dX4_in_9 ?_
    refine lv_if_gt (tgt := 17) hx hb dX4_in_10 (by decide) (fun c_10 => ?_) (fun c_10 => ?_)
    · skip
      refine lv_iconst (v := nI 0) hx hb dX4_in_17 rfl ?_
      exact ps_zretR (b := rng x lo hi) X dX4_in_18 ((bI_is0 (by first | exact ps_in_1 hb0 hc0 c_3 c_10 | exact ps_in_b hb0 hc0 c_3 c_10 | exact ps_in_a hb0 c_3))) rfl
    · skip
      refine lv_iconst (v := nI 1) hx hb dX4_in_13 rfl ?_
      refine lv_goto (tgt := 18) hx hb dX4_in_14 (by decide) ?_
      exact ps_zretR (b := rng x lo hi) X dX4_in_18 ((bI_is1 (by first | exact ps_in_1 hb0 hc0 c_3 c_10 | exact ps_in_b hb0 hc0 c_3 c_10 | exact ps_in_a hb0 c_3))) rfl

set_option maxHeartbeats 4000000 in
theorem m_X4_has (l : Launch) {E : ps_E} (hE : ps_ZT E) {H : Heap} {u k : Nat} (hu : u < 2147483648) (hk : k < 31) : ps_Ro l E yX4_has cX4_has 2 (some .boolean) 1 12 [.int (nI u), .int (nI k)] H (some (.int (bI (u.testBit k)))) := by
  refine ps_Ro.of (by decide) (Nat.le_of_ble_eq_true rfl) ?_
  intro p e s m args below meth c X ls hl
  have hx := X.1
  have hb := X.2.1
  have ho := X.2.2.2.1
  have hts := X.2.2.2.2.1
  have hS : va_S (ps_A E) s.heap H [] := by rw [X.2.2.2.2.2.2.2.2.1]; exact va_S.rf
  have hl : lv_has ls 2 [(0, .int (nI u)), (1, .int (nI k))] := hl
  refine lv_iload_n hx hb dX4_has_0 rfl (lv_at hl 0 rfl) ?_
  refine lv_iload_n hx hb dX4_has_1 rfl (lv_at hl 1 rfl) ?_
  refine lv_ishr hx hb dX4_has_2 ?_
  refine ps_top (y := nI (u / 2 ^ k)) (ps_shr (by omega) (by omega)) ?_
  refine lv_iconst (v := nI 1) hx hb dX4_has_3 rfl ?_
  refine lv_iand hx hb dX4_has_4 ?_
  refine ps_top (y := nI ((u / 2 ^ k) % 2)) (ps_and1 (ps_divlt (by omega))) ?_
  refine lv_iconst (v := nI 1) hx hb dX4_has_5 rfl ?_
  refine ps_cne (tgt := 13) hx hb dX4_has_6 (by decide) (ps_m2 _) (fun c_6 => ?_) (fun c_6 => ?_)
  · skip
    refine lv_iconst (v := nI 0) hx hb dX4_has_13 rfl ?_
    exact ps_zretR (b := u.testBit k) X dX4_has_14 ((bI_is0 (by first | exact ps_tb1 c_6 | exact ps_tb0 c_6))) rfl
  · skip
    refine lv_iconst (v := nI 1) hx hb dX4_has_9 rfl ?_
    refine lv_goto (tgt := 14) hx hb dX4_has_10 (by decide) ?_
    exact ps_zretR (b := u.testBit k) X dX4_has_14 ((bI_is1 (by first | exact ps_tb1 c_6 | exact ps_tb0 c_6))) rfl

set_option maxHeartbeats 4000000 in
theorem m_X4_readBy (l : Launch) {E : ps_E} (hE : ps_ZT E) {H : Heap} {u x y : Nat} (hu : u < 1000) (hx0 : x < 1000) (hy : 0 < y ∧ y < 1000) : ps_Ro l E yX4_readBy cX4_readBy 4 (some .int) 1 12 [.int (nI u), .int (nI x), .int (nI y)] H (some (.int (nI (sp_by u x y)))) := by
  refine ps_Ro.of (by decide) (Nat.le_of_ble_eq_true rfl) ?_
  intro p e s m args below meth c X ls hl
  have hx := X.1
  have hb := X.2.1
  have ho := X.2.2.2.1
  have hts := X.2.2.2.2.1
  have hS : va_S (ps_A E) s.heap H [] := by rw [X.2.2.2.2.2.2.2.2.1]; exact va_S.rf
  have hl : lv_has ls 4 [(0, .int (nI u)), (1, .int (nI x)), (2, .int (nI y))] := hl
  refine lv_iload_n hx hb dX4_readBy_0 rfl (lv_at hl 0 rfl) ?_
  refine lv_iload_n hx hb dX4_readBy_1 rfl (lv_at hl 1 rfl) ?_
  refine ps_iadd hx hb dX4_readBy_2 ?_
  refine lv_istore_n (lv' := [(3, .int (nI (u + x))), (0, .int (nI u)), (1, .int (nI x)), (2, .int (nI y))]) hx hb dX4_readBy_3 rfl hl (by decide) rfl (fun ls hl => ?_)
  refine lv_iload_n hx hb dX4_readBy_4 rfl (lv_at hl 0 rfl) ?_
  refine lv_iload_n hx hb dX4_readBy_5 rfl (lv_at hl 0 rfl) ?_
  refine lv_iload_n hx hb dX4_readBy_6 rfl (lv_at hl 3 rfl) ?_
  refine ps_irem hx hb dX4_readBy_7 (by omega) ?_
  refine ps_isub hx hb dX4_readBy_8 (Nat.mod_le _ _) ?_
  exact ps_iretR X dX4_readBy_9 (congrArg (fun z => some (Value.int z)) (congrArg nI (by exact ps_by_mod)))

set_option maxHeartbeats 4000000 in
theorem m_X4_isRow (l : Launch) {E : ps_E} (hE : ps_ZT E) {H : Heap} {x : Int32} : ps_Ro l E yX4_isRow cX4_isRow 1 (some .boolean) 2 37 [.int (x)] H (some (.int (bI (rng x 0 8)))) := by
  refine ps_Ro.of (by decide) (Nat.le_of_ble_eq_true rfl) ?_
  intro p e s m args below meth c X ls hl
  have hx := X.1
  have hb := X.2.1
  have ho := X.2.2.2.1
  have hts := X.2.2.2.2.1
  have hS : va_S (ps_A E) s.heap H [] := by rw [X.2.2.2.2.2.2.2.2.1]; exact va_S.rf
  have hl : lv_has ls 1 [(0, .int (x))] := hl
  refine lv_iload_n hx hb dX4_isRow_0 rfl (lv_at hl 0 rfl) ?_
  refine lv_i2l (v := (x).toInt64) hx hb dX4_isRow_1 rfl ?_
  refine lv_lconst (v := lN 0) hx hb dX4_isRow_2 rfl ?_
  refine lv_ldc2 (v := 7) hx hb ho (hts _ q1370) dX4_isRow_3 ?_
  refine ps_roS X hE (m_X4_in l hE (H := H) (x := x) (lo := 0) (hi := 8) (lN_toInt (by decide)) (ps_hcL (k := 7) (by decide +kernel))) (lw_S q1371 q1372 q75 q1373) (by decide +kernel) ⟨⟨Nat.le_of_ble_eq_true rfl, Nat.le_of_ble_eq_true rfl⟩, Nat.le_of_ble_eq_true rfl, Nat.le_of_ble_eq_true rfl⟩ hS hl.1 (As := [.long ((x).toInt64), .long (lN 0), .long (7)]) (rest := []) (n := 3) rfl rfl (Nat.le_of_ble_eq_true rfl) dX4_isRow_6 ?_
  refine ps_st (st' := [.int (bI (rng x 0 8))]) rfl ?_
  exact ps_zretR (b := rng x 0 8) X dX4_isRow_9 (rfl) rfl

set_option maxHeartbeats 4000000 in
theorem m_X4_isPromise (l : Launch) {E : ps_E} (hE : ps_ZT E) {H : Heap} {o : Nat} {F : Nat → Int32} {A : Nat → Nat → Int32} (hM : ps_Mo E H o F A) {σ : Nat → Nat} (hσ : ps_Vw A 4 57 σ) (hO : sp_ok σ) {x : Int32} : ps_Ro l E yX4_isPromise cX4_isPromise 2 (some .boolean) 2 37 [.ref (o), .int (x)] H (some (.int (bI (rng x 0 (σ 3))))) := by
  refine ps_Ro.of (by decide) (Nat.le_of_ble_eq_true rfl) ?_
  intro p e s m args below meth c X ls hl
  have hx := X.1
  have hb := X.2.1
  have ho := X.2.2.2.1
  have hts := X.2.2.2.2.1
  have hS : va_S (ps_A E) s.heap H [] := by rw [X.2.2.2.2.2.2.2.2.1]; exact va_S.rf
  have hl : lv_has ls 2 [(0, .ref (o)), (1, .int (x))] := hl
  have hm := hO.m
  refine lv_iload_n hx hb dX4_isPromise_0 rfl (lv_at hl 1 rfl) ?_
  refine lv_i2l (v := (x).toInt64) hx hb dX4_isPromise_1 rfl ?_
  refine lv_lconst (v := lN 0) hx hb dX4_isPromise_2 rfl ?_
  refine lv_aload_n hx hb dX4_isPromise_3 rfl (lv_at hl 0 rfl) ?_
  refine ps_mget (v := .ref (o + 4)) X hM 5 (by decide) q1294 rfl rfl dX4_isPromise_4 ?_
  refine lv_iconst (v := nI 3) hx hb dX4_isPromise_7 rfl ?_
  refine ps_mld (j := 3) (v := nI (σ 3)) X hM 4 (by decide) rfl (by show 3 < 57; omega) (hσ _ (by show 3 < 57; omega)) dX4_isPromise_8 ?_
  refine lv_iconst (v := nI 1) hx hb dX4_isPromise_9 rfl ?_
  refine lv_isub hx hb dX4_isPromise_10 ?_
  refine ps_top (y := nI (σ 3) - nI 1) (rfl) ?_
  refine lv_i2l (v := (nI (σ 3) - nI 1).toInt64) hx hb dX4_isPromise_11 rfl ?_
  refine ps_roS X hE (m_X4_in l hE (H := H) (x := x) (lo := 0) (hi := σ 3) (lN_toInt (by decide)) (ps_hcP (by omega))) (lw_S q1371 q1372 q75 q1373) (by decide +kernel) ⟨⟨Nat.le_of_ble_eq_true rfl, Nat.le_of_ble_eq_true rfl⟩, Nat.le_of_ble_eq_true rfl, Nat.le_of_ble_eq_true rfl⟩ hS hl.1 (As := [.long ((x).toInt64), .long (lN 0), .long ((nI (σ 3) - nI 1).toInt64)]) (rest := []) (n := 3) rfl rfl (Nat.le_of_ble_eq_true rfl) dX4_isPromise_12 ?_
  refine ps_st (st' := [.int (bI (rng x 0 (σ 3)))]) rfl ?_
  exact ps_zretR (b := rng x 0 (σ 3)) X dX4_isPromise_15 (rfl) rfl

set_option maxHeartbeats 4000000 in
theorem m_X4_isGiver (l : Launch) {E : ps_E} (hE : ps_ZT E) {H : Heap} {o : Nat} {F : Nat → Int32} {A : Nat → Nat → Int32} (hM : ps_Mo E H o F A) {σ : Nat → Nat} (hσ : ps_Vw A 4 57 σ) (hO : sp_ok σ) {x : Int32} : ps_Ro l E yX4_isGiver cX4_isGiver 2 (some .boolean) 2 37 [.ref (o), .int (x)] H (some (.int (bI (rng x 0 (σ 2))))) := by
  refine ps_Ro.of (by decide) (Nat.le_of_ble_eq_true rfl) ?_
  intro p e s m args below meth c X ls hl
  have hx := X.1
  have hb := X.2.1
  have ho := X.2.2.2.1
  have hts := X.2.2.2.2.1
  have hS : va_S (ps_A E) s.heap H [] := by rw [X.2.2.2.2.2.2.2.2.1]; exact va_S.rf
  have hl : lv_has ls 2 [(0, .ref (o)), (1, .int (x))] := hl
  have hm := hO.m
  refine lv_iload_n hx hb dX4_isGiver_0 rfl (lv_at hl 1 rfl) ?_
  refine lv_i2l (v := (x).toInt64) hx hb dX4_isGiver_1 rfl ?_
  refine lv_lconst (v := lN 0) hx hb dX4_isGiver_2 rfl ?_
  refine lv_aload_n hx hb dX4_isGiver_3 rfl (lv_at hl 0 rfl) ?_
  refine ps_mget (v := .ref (o + 4)) X hM 5 (by decide) q1294 rfl rfl dX4_isGiver_4 ?_
  refine lv_iconst (v := nI 2) hx hb dX4_isGiver_7 rfl ?_
  refine ps_mld (j := 2) (v := nI (σ 2)) X hM 4 (by decide) rfl (by show 2 < 57; omega) (hσ _ (by show 2 < 57; omega)) dX4_isGiver_8 ?_
  refine lv_iconst (v := nI 1) hx hb dX4_isGiver_9 rfl ?_
  refine lv_isub hx hb dX4_isGiver_10 ?_
  refine ps_top (y := nI (σ 2) - nI 1) (rfl) ?_
  refine lv_i2l (v := (nI (σ 2) - nI 1).toInt64) hx hb dX4_isGiver_11 rfl ?_
  refine ps_roS X hE (m_X4_in l hE (H := H) (x := x) (lo := 0) (hi := σ 2) (lN_toInt (by decide)) (ps_hcP (by omega))) (lw_S q1371 q1372 q75 q1373) (by decide +kernel) ⟨⟨Nat.le_of_ble_eq_true rfl, Nat.le_of_ble_eq_true rfl⟩, Nat.le_of_ble_eq_true rfl, Nat.le_of_ble_eq_true rfl⟩ hS hl.1 (As := [.long ((x).toInt64), .long (lN 0), .long ((nI (σ 2) - nI 1).toInt64)]) (rest := []) (n := 3) rfl rfl (Nat.le_of_ble_eq_true rfl) dX4_isGiver_12 ?_
  refine ps_st (st' := [.int (bI (rng x 0 (σ 2)))]) rfl ?_
  exact ps_zretR (b := rng x 0 (σ 2)) X dX4_isGiver_15 (rfl) rfl

set_option maxHeartbeats 4000000 in
theorem m_X4_isSet (l : Launch) {E : ps_E} (hE : ps_ZT E) {H : Heap} {o : Nat} {F : Nat → Int32} {A : Nat → Nat → Int32} (hM : ps_Mo E H o F A) {σ : Nat → Nat} (hσ : ps_Vw A 4 57 σ) (hO : sp_ok σ) {x : Int32} : ps_Ro l E yX4_isSet cX4_isSet 2 (some .boolean) 2 37 [.ref (o), .int (x)] H (some (.int (bI (rng x 0 (2 ^ σ 3))))) := by
  refine ps_Ro.of (by decide) (Nat.le_of_ble_eq_true rfl) ?_
  intro p e s m args below meth c X ls hl
  have hx := X.1
  have hb := X.2.1
  have ho := X.2.2.2.1
  have hts := X.2.2.2.2.1
  have hS : va_S (ps_A E) s.heap H [] := by rw [X.2.2.2.2.2.2.2.2.1]; exact va_S.rf
  have hl : lv_has ls 2 [(0, .ref (o)), (1, .int (x))] := hl
  have hm := hO.m
  have hp := ps_p2 (k := σ 3) (by omega)
  refine lv_iload_n hx hb dX4_isSet_0 rfl (lv_at hl 1 rfl) ?_
  refine lv_i2l (v := (x).toInt64) hx hb dX4_isSet_1 rfl ?_
  refine lv_lconst (v := lN 0) hx hb dX4_isSet_2 rfl ?_
  refine lv_iconst (v := nI 1) hx hb dX4_isSet_3 rfl ?_
  refine lv_aload_n hx hb dX4_isSet_4 rfl (lv_at hl 0 rfl) ?_
  refine ps_mget (v := .ref (o + 4)) X hM 5 (by decide) q1294 rfl rfl dX4_isSet_5 ?_
  refine lv_iconst (v := nI 3) hx hb dX4_isSet_8 rfl ?_
  refine ps_mld (j := 3) (v := nI (σ 3)) X hM 4 (by decide) rfl (by show 3 < 57; omega) (hσ _ (by show 3 < 57; omega)) dX4_isSet_9 ?_
  refine lv_ishl hx hb dX4_isSet_10 ?_
  refine ps_top (y := nI (2 ^ σ 3)) (ps_shl1 (by omega)) ?_
  refine lv_iconst (v := nI 1) hx hb dX4_isSet_11 rfl ?_
  refine ps_isub hx hb dX4_isSet_12 (by omega) ?_
  refine lv_i2l (v := (nI ((2 ^ σ 3) - 1)).toInt64) hx hb dX4_isSet_13 rfl ?_
  refine ps_roS X hE (m_X4_in l hE (H := H) (x := x) (lo := 0) (hi := 2 ^ σ 3) (lN_toInt (by decide)) (ps_hcQ hp.1 (by omega))) (lw_S q1371 q1372 q75 q1373) (by decide +kernel) ⟨⟨Nat.le_of_ble_eq_true rfl, Nat.le_of_ble_eq_true rfl⟩, Nat.le_of_ble_eq_true rfl, Nat.le_of_ble_eq_true rfl⟩ hS hl.1 (As := [.long ((x).toInt64), .long (lN 0), .long ((nI ((2 ^ σ 3) - 1)).toInt64)]) (rest := []) (n := 3) rfl rfl (Nat.le_of_ble_eq_true rfl) dX4_isSet_14 ?_
  refine ps_st (st' := [.int (bI (rng x 0 (2 ^ σ 3)))]) rfl ?_
  exact ps_zretR (b := rng x 0 (2 ^ σ 3)) X dX4_isSet_17 (rfl) rfl

set_option maxHeartbeats 4000000 in
theorem m_X4_isOpen (l : Launch) {E : ps_E} (hE : ps_ZT E) {H : Heap} {o : Nat} {F : Nat → Int32} {A : Nat → Nat → Int32} (hM : ps_Mo E H o F A) {σ : Nat → Nat} (hσ : ps_Vw A 4 57 σ) (hO : sp_ok σ) {k : Nat} (hk : k < 8) : ps_Ro l E yX4_isOpen cX4_isOpen 2 (some .boolean) 1 12 [.ref (o), .int (nI k)] H (some (.int (bI (sp_open σ k)))) := by
  refine ps_Ro.of (by decide) (Nat.le_of_ble_eq_true rfl) ?_
  intro p e s m args below meth c X ls hl
  have hx := X.1
  have hb := X.2.1
  have ho := X.2.2.2.1
  have hts := X.2.2.2.2.1
  have hS : va_S (ps_A E) s.heap H [] := by rw [X.2.2.2.2.2.2.2.2.1]; exact va_S.rf
  have hl : lv_has ls 2 [(0, .ref (o)), (1, .int (nI k))] := hl
  have hm := hO.m
  have h9 := hO.h hk
  refine lv_aload_n hx hb dX4_isOpen_0 rfl (lv_at hl 0 rfl) ?_
  refine ps_mget (v := .ref (o + 4)) X hM 5 (by decide) q1294 rfl rfl dX4_isOpen_1 ?_
  refine lv_bipush (v := nI 49) hx hb dX4_isOpen_4 rfl ?_
  refine lv_iload_n hx hb dX4_isOpen_6 rfl (lv_at hl 1 rfl) ?_
  refine ps_iadd hx hb dX4_isOpen_7 ?_
  refine ps_mld (j := 49 + k) (v := nI (σ (49 + k))) X hM 4 (by decide) rfl (by show 49 + k < 57; omega) (hσ _ (by show 49 + k < 57; omega)) dX4_isOpen_8 ?_
  refine ps_ifne (tgt := 16) hx hb dX4_isOpen_9 (by decide) (by omega) (fun c_9 => ?_) (fun c_9 => ?_)
  · skip
    refine lv_iconst (v := nI 0) hx hb dX4_isOpen_16 rfl ?_
    exact ps_zretR (b := sp_open σ k) X dX4_isOpen_17 ((bI_is0 (by simp [sp_open, c_9]))) rfl
  · skip
    refine lv_iconst (v := nI 1) hx hb dX4_isOpen_12 rfl ?_
    refine lv_goto (tgt := 17) hx hb dX4_isOpen_13 (by decide) ?_
    exact ps_zretR (b := sp_open σ k) X dX4_isOpen_17 ((bI_is1 (by simp [sp_open, c_9]))) rfl

set_option maxHeartbeats 4000000 in
theorem m_X4_plainOf (l : Launch) {E : ps_E} (hE : ps_ZT E) {H : Heap} {o : Nat} {F : Nat → Int32} {A : Nat → Nat → Int32} (hM : ps_Mo E H o F A) {σ : Nat → Nat} (hσ : ps_Vw A 4 57 σ) (hO : sp_ok σ) {k : Nat} (hk : k < σ 3) : ps_Ro l E yX4_plainOf cX4_plainOf 2 (some .int) 1 12 [.ref (o), .int (nI k)] H (some (.int (nI (sp_plain σ k)))) := by
  refine ps_Ro.of (by decide) (Nat.le_of_ble_eq_true rfl) ?_
  intro p e s m args below meth c X ls hl
  have hx := X.1
  have hb := X.2.1
  have ho := X.2.2.2.1
  have hts := X.2.2.2.2.1
  have hS : va_S (ps_A E) s.heap H [] := by rw [X.2.2.2.2.2.2.2.2.1]; exact va_S.rf
  have hl : lv_has ls 2 [(0, .ref (o)), (1, .int (nI k))] := hl
  have hm := hO.m
  have hp := hO.p hk
  have hq := hO.k (g := σ (17 + k)) (by omega)
  have hr := sp_plain_le hO hk
  have hs := sp_mul hp.2.2.2.2 hq
  refine lv_aload_n hx hb dX4_plainOf_0 rfl (lv_at hl 0 rfl) ?_
  refine ps_mget (v := .ref (o + 4)) X hM 5 (by decide) q1294 rfl rfl dX4_plainOf_1 ?_
  refine lv_bipush (v := nI 41) hx hb dX4_plainOf_4 rfl ?_
  refine lv_iload_n hx hb dX4_plainOf_6 rfl (lv_at hl 1 rfl) ?_
  refine ps_iadd hx hb dX4_plainOf_7 ?_
  refine ps_mld (j := 41 + k) (v := nI (σ (41 + k))) X hM 4 (by decide) rfl (by show 41 + k < 57; omega) (hσ _ (by show 41 + k < 57; omega)) dX4_plainOf_8 ?_
  refine lv_aload_n hx hb dX4_plainOf_9 rfl (lv_at hl 0 rfl) ?_
  refine ps_mget (v := .ref (o + 4)) X hM 5 (by decide) q1294 rfl rfl dX4_plainOf_10 ?_
  refine lv_iconst (v := nI 5) hx hb dX4_plainOf_13 rfl ?_
  refine lv_aload_n hx hb dX4_plainOf_14 rfl (lv_at hl 0 rfl) ?_
  refine ps_mget (v := .ref (o + 4)) X hM 5 (by decide) q1294 rfl rfl dX4_plainOf_15 ?_
  refine lv_bipush (v := nI 17) hx hb dX4_plainOf_18 rfl ?_
  refine lv_iload_n hx hb dX4_plainOf_20 rfl (lv_at hl 1 rfl) ?_
  refine ps_iadd hx hb dX4_plainOf_21 ?_
  refine ps_mld (j := 17 + k) (v := nI (σ (17 + k))) X hM 4 (by decide) rfl (by show 17 + k < 57; omega) (hσ _ (by show 17 + k < 57; omega)) dX4_plainOf_22 ?_
  refine ps_iadd hx hb dX4_plainOf_23 ?_
  refine ps_mld (j := 5 + (σ (17 + k))) (v := nI (σ (5 + (σ (17 + k))))) X hM 4 (by decide) rfl (by show 5 + (σ (17 + k)) < 57; omega) (hσ _ (by show 5 + (σ (17 + k)) < 57; omega)) dX4_plainOf_24 ?_
  refine ps_imul hx hb dX4_plainOf_25 ?_
  refine lv_bipush (v := nI 10) hx hb dX4_plainOf_26 rfl ?_
  refine ps_idiv hx hb dX4_plainOf_28 (by omega) ?_
  exact ps_iretR X dX4_plainOf_29 (congrArg (fun z => some (Value.int z)) (congrArg nI (by first | rfl | (simp [sp_plain]; done) | (simp [sp_plain]; omega) | omega)))

set_option maxHeartbeats 4000000 in
theorem m_X4_weightAs (l : Launch) {E : ps_E} (hE : ps_ZT E) {H : Heap} {o : Nat} {F : Nat → Int32} {A : Nat → Nat → Int32} (hM : ps_Mo E H o F A) {σ : Nat → Nat} (hσ : ps_Vw A 4 57 σ) (hO : sp_ok σ) {k d b1 : Nat} (hk : k < σ 3) (hd : d < 6) (hb1 : b1 ≤ 20) : ps_Ro l E yX4_weightAs cX4_weightAs 5 (some .int) 2 33 [.ref (o), .int (nI k), .int (nI d), .int (nI b1)] H (some (.int (nI (sp_as σ k d b1)))) := by
  refine ps_Ro.of (by decide) (Nat.le_of_ble_eq_true rfl) ?_
  intro p e s m args below meth c X ls hl
  have hx := X.1
  have hb := X.2.1
  have ho := X.2.2.2.1
  have hts := X.2.2.2.2.1
  have hS : va_S (ps_A E) s.heap H [] := by rw [X.2.2.2.2.2.2.2.2.1]; exact va_S.rf
  have hl : lv_has ls 5 [(0, .ref (o)), (1, .int (nI k)), (2, .int (nI d)), (3, .int (nI b1))] := hl
  have hm := hO.m
  have hp := hO.p hk
  have hq := hO.k (g := σ (17 + k)) (by omega)
  have hr := sp_plain_le hO hk
  have hs := sp_mul hr hb1
  refine lv_aload_n hx hb dX4_weightAs_0 rfl (lv_at hl 0 rfl) ?_
  refine lv_iload_n hx hb dX4_weightAs_1 rfl (lv_at hl 1 rfl) ?_
  refine ps_roV X hE (m_X4_plainOf l hE hM hσ hO (k := k) (by omega)) (lw_V q1487 q1489 qs49 q75 q1490) (by decide +kernel) ⟨⟨Nat.le_of_ble_eq_true rfl, Nat.le_of_ble_eq_true rfl⟩, Nat.le_of_ble_eq_true rfl, Nat.le_of_ble_eq_true rfl⟩ (ps_mrc X hM) hS hl.1 (As := [.int (nI k)]) (rest := []) (n := 1) rfl rfl (Nat.le_of_ble_eq_true rfl) dX4_weightAs_2 ?_
  refine ps_st (st' := [.int (nI (sp_plain σ k))]) rfl ?_
  refine lv_istore (lv' := [(4, .int (nI (sp_plain σ k))), (0, .ref (o)), (1, .int (nI k)), (2, .int (nI d)), (3, .int (nI b1))]) hx hb dX4_weightAs_5 hl (by decide) rfl (fun ls hl => ?_)
  refine lv_iload_n hx hb dX4_weightAs_7 rfl (lv_at hl 3 rfl) ?_
  refine lv_iconst (v := nI 2) hx hb dX4_weightAs_8 rfl ?_
  refine ps_cne (tgt := 29) hx hb dX4_weightAs_9 (by decide) (by omega) (fun c_9 => ?_) (fun c_9 => ?_)
  · skip
    refine lv_iload_n hx hb dX4_weightAs_29 rfl (lv_at hl 3 rfl) ?_
    refine lv_iconst (v := nI 3) hx hb dX4_weightAs_30 rfl ?_
    refine ps_cne (tgt := 41) hx hb dX4_weightAs_31 (by decide) (by omega) (fun c_31 => ?_) (fun c_31 => ?_)
    · skip
      refine lv_iload_n hx hb dX4_weightAs_41 rfl (lv_at hl 3 rfl) ?_
      refine lv_iconst (v := nI 4) hx hb dX4_weightAs_42 rfl ?_
      refine ps_cne (tgt := 63) hx hb dX4_weightAs_43 (by decide) (by omega) (fun c_43 => ?_) (fun c_43 => ?_)
      · skip
        refine lv_iload_n hx hb dX4_weightAs_63 rfl (lv_at hl 3 rfl) ?_
        refine lv_iconst (v := nI 5) hx hb dX4_weightAs_64 rfl ?_
        refine ps_cne (tgt := 84) hx hb dX4_weightAs_65 (by decide) (by omega) (fun c_65 => ?_) (fun c_65 => ?_)
        · skip
          refine lv_iload hx hb dX4_weightAs_84 (lv_at hl 0 rfl) ?_
          exact ps_iretR X dX4_weightAs_86 (congrArg (fun z => some (Value.int z)) (congrArg nI (by first | rfl | (simp [sp_as, c_9, c_31, c_43, c_65]; done) | (simp [sp_as, c_9, c_31, c_43, c_65]; omega) | omega)))
        · skip
          refine lv_iload_n hx hb dX4_weightAs_68 rfl (lv_at hl 2 rfl) ?_
          refine ps_ifne (tgt := 77) hx hb dX4_weightAs_69 (by decide) (by omega) (fun c_69 => ?_) (fun c_69 => ?_)
          · skip
            refine lv_bipush (v := nI 20) hx hb dX4_weightAs_77 rfl ?_
            refine lv_iload_n hx hb dX4_weightAs_79 rfl (lv_at hl 4 rfl) ?_
            refine ps_isub hx hb dX4_weightAs_80 (by omega) ?_
            refine lv_goto (tgt := 86) hx hb dX4_weightAs_81 (by decide) ?_
            exact ps_iretR X dX4_weightAs_86 (congrArg (fun z => some (Value.int z)) (congrArg nI (by subst c_65; first | rfl | (simp [sp_as, c_9, c_31, c_43, c_69]; done) | (simp [sp_as, c_9, c_31, c_43, c_69]; omega) | omega)))
          · skip
            refine lv_bipush (v := nI 20) hx hb dX4_weightAs_72 rfl ?_
            refine lv_goto (tgt := 86) hx hb dX4_weightAs_74 (by decide) ?_
            exact ps_iretR X dX4_weightAs_86 (congrArg (fun z => some (Value.int z)) (congrArg nI (by subst c_65; subst c_69; first | rfl | (simp [sp_as, c_9, c_31, c_43]; done) | (simp [sp_as, c_9, c_31, c_43]; omega) | omega)))
      · skip
        refine lv_iload hx hb dX4_weightAs_46 (lv_at hl 0 rfl) ?_
        refine lv_bipush (v := nI 10) hx hb dX4_weightAs_48 rfl ?_
        refine ps_cle (tgt := 58) hx hb dX4_weightAs_50 (by decide) (by omega) (fun c_50 => ?_) (fun c_50 => ?_)
        · skip
          refine lv_iconst (v := nI 2) hx hb dX4_weightAs_58 rfl ?_
          refine lv_iload hx hb dX4_weightAs_59 (lv_at hl 0 rfl) ?_
          refine ps_imul hx hb dX4_weightAs_61 ?_
          exact ps_iretR X dX4_weightAs_62 (congrArg (fun z => some (Value.int z)) (congrArg nI (by subst c_43; first | rfl | (simp [sp_as, c_9, c_31, c_50]; done) | (simp [sp_as, c_9, c_31, c_50]; omega) | omega)))
        · skip
          refine lv_bipush (v := nI 20) hx hb dX4_weightAs_53 rfl ?_
          refine lv_goto (tgt := 62) hx hb dX4_weightAs_55 (by decide) ?_
          exact ps_iretR X dX4_weightAs_62 (congrArg (fun z => some (Value.int z)) (congrArg nI (by subst c_43; first | rfl | (simp [sp_as, c_9, c_31, c_50]; done) | (simp [sp_as, c_9, c_31, c_50]; omega) | omega)))
    · skip
      refine lv_iload hx hb dX4_weightAs_34 (lv_at hl 0 rfl) ?_
      refine lv_iconst (v := nI 1) hx hb dX4_weightAs_36 rfl ?_
      refine ps_iadd hx hb dX4_weightAs_37 ?_
      refine lv_iconst (v := nI 2) hx hb dX4_weightAs_38 rfl ?_
      refine ps_idiv hx hb dX4_weightAs_39 (by omega) ?_
      exact ps_iretR X dX4_weightAs_40 (congrArg (fun z => some (Value.int z)) (congrArg nI (by subst c_31; first | rfl | (simp [sp_as, c_9]; done) | (simp [sp_as, c_9]; omega) | omega)))
  · skip
    refine lv_iload_n hx hb dX4_weightAs_12 rfl (lv_at hl 2 rfl) ?_
    refine ps_ifne (tgt := 21) hx hb dX4_weightAs_13 (by decide) (by omega) (fun c_13 => ?_) (fun c_13 => ?_)
    · skip
      refine lv_iload hx hb dX4_weightAs_21 (lv_at hl 0 rfl) ?_
      refine lv_iload_n hx hb dX4_weightAs_23 rfl (lv_at hl 4 rfl) ?_
      refine ps_imul hx hb dX4_weightAs_24 ?_
      refine lv_bipush (v := nI 20) hx hb dX4_weightAs_25 rfl ?_
      refine ps_idiv hx hb dX4_weightAs_27 (by omega) ?_
      exact ps_iretR X dX4_weightAs_28 (congrArg (fun z => some (Value.int z)) (congrArg nI (by subst c_9; first | rfl | (simp [sp_as, c_13]; done) | (simp [sp_as, c_13]; omega) | omega)))
    · skip
      refine lv_iload hx hb dX4_weightAs_16 (lv_at hl 0 rfl) ?_
      refine lv_goto (tgt := 28) hx hb dX4_weightAs_18 (by decide) ?_
      exact ps_iretR X dX4_weightAs_28 (congrArg (fun z => some (Value.int z)) (congrArg nI (by subst c_9; subst c_13; first | rfl | (simp [sp_as]; done) | (simp [sp_as]; omega) | omega)))

set_option maxHeartbeats 4000000 in
theorem m_X4_weightOf (l : Launch) {E : ps_E} (hE : ps_ZT E) {H : Heap} {o : Nat} {F : Nat → Int32} {A : Nat → Nat → Int32} (hM : ps_Mo E H o F A) {σ : Nat → Nat} (hσ : ps_Vw A 4 57 σ) (hO : sp_ok σ) {k : Nat} (hk : k < σ 3) : ps_Ro l E yX4_weightOf cX4_weightOf 4 (some .int) 3 57 [.ref (o), .int (nI k)] H (some (.int (nI (sp_w σ (k + 1))))) := by
  refine ps_Ro.of (by decide) (Nat.le_of_ble_eq_true rfl) ?_
  intro p e s m args below meth c X ls hl
  have hx := X.1
  have hb := X.2.1
  have ho := X.2.2.2.1
  have hts := X.2.2.2.2.1
  have hS : va_S (ps_A E) s.heap H [] := by rw [X.2.2.2.2.2.2.2.2.1]; exact va_S.rf
  have hl : lv_has ls 4 [(0, .ref (o)), (1, .int (nI k))] := hl
  have hm := hO.m
  refine lv_iconst (v := nI 0) hx hb dX4_weightOf_0 rfl ?_
  refine lv_istore_n (lv' := [(2, .int (nI 0)), (0, .ref (o)), (1, .int (nI k))]) hx hb dX4_weightOf_1 rfl hl (by decide) rfl (fun ls hl => ?_)
  refine lv_iconst (v := nI 0) hx hb dX4_weightOf_2 rfl ?_
  refine lv_istore_n (lv' := [(3, .int (nI 0)), (2, .int (nI 0)), (0, .ref (o)), (1, .int (nI k))]) hx hb dX4_weightOf_3 rfl hl (by decide) rfl (fun ls hl => ?_)
  have L4 : ∀ (n : Nat) (i : Nat) (hi : i ≤ k + 1) (hmu : k + 1 - i < n) (ls : Array Slot) (hl : lv_has ls 4 [(3, .int (nI i)), (2, .int (nI (sp_w σ i))), (0, .ref (o)), (1, .int (nI k))]), W p l e ({ frames := 3, cells := 0, slots := 0, locals := 57 } : Room) s m args below meth c H [] 0 0 (MQ below (ps_ro (some (.int (nI (sp_w σ (k + 1)))))) args s 0 0 (fun _ => False)) (F0 m 4 ls []) := by
    intro n
    induction n with
    | zero => intro i hi hmu; exact absurd hmu (Nat.not_lt_zero _)
    | succ n ih4 =>
      intro i hi hmu ls hl
      refine lv_iload_n hx hb dX4_weightOf_4 rfl (lv_at hl 0 rfl) ?_
      refine lv_iload_n hx hb dX4_weightOf_5 rfl (lv_at hl 3 rfl) ?_
      refine ps_cgt (tgt := 61) hx hb dX4_weightOf_6 (by decide) (by omega) (fun c_6 => ?_) (fun c_6 => ?_)
      · skip
        have ei : i = k + 1 := by omega
        refine lv_iload_n hx hb dX4_weightOf_61 rfl (lv_at hl 1 rfl) ?_
        exact ps_iretR X dX4_weightOf_62 (congrArg (fun z => some (Value.int z)) (congrArg nI (by rw [ei])))
      · skip
        have hw := sp_w_le hO (k := i) (by omega)
        have hp := hO.p (p := i) (by omega)
        have hh := hO.h (p := i) (by omega)
        refine lv_aload_n hx hb dX4_weightOf_9 rfl (lv_at hl 2 rfl) ?_
        refine lv_iload_n hx hb dX4_weightOf_10 rfl (lv_at hl 0 rfl) ?_
        refine ps_roV X hE (m_X4_isOpen l hE hM hσ hO (k := i) (by omega)) (lw_V q1459 q1461 qs43 q75 q1462) (by decide +kernel) ⟨⟨Nat.le_of_ble_eq_true rfl, Nat.le_of_ble_eq_true rfl⟩, Nat.le_of_ble_eq_true rfl, Nat.le_of_ble_eq_true rfl⟩ (ps_mrc X hM) hS hl.1 (As := [.int (nI i)]) (rest := []) (n := 1) rfl rfl (Nat.le_of_ble_eq_true rfl) dX4_weightOf_11 ?_
        refine ps_st (st' := [.int (bI (sp_open σ i))]) rfl ?_
        refine ps_ifeqB (tgt := 35) hx hb dX4_weightOf_14 (by decide) (fun c_14 => ?_) (fun c_14 => ?_)
        · skip
          refine lv_aload_n hx hb dX4_weightOf_35 rfl (lv_at hl 2 rfl) ?_
          refine ps_mget (v := .ref (o + 4)) X hM 5 (by decide) q1294 rfl rfl dX4_weightOf_36 ?_
          refine lv_bipush (v := nI 49) hx hb dX4_weightOf_39 rfl ?_
          refine lv_iload_n hx hb dX4_weightOf_41 rfl (lv_at hl 0 rfl) ?_
          refine ps_iadd hx hb dX4_weightOf_42 ?_
          refine ps_mld (j := 49 + i) (v := nI (σ (49 + i))) X hM 4 (by decide) rfl (by show 49 + i < 57; omega) (hσ _ (by show 49 + i < 57; omega)) dX4_weightOf_43 ?_
          refine lv_iconst (v := nI 1) hx hb dX4_weightOf_44 rfl ?_
          refine ps_cne (tgt := 53) hx hb dX4_weightOf_45 (by decide) (by omega) (fun c_45 => ?_) (fun c_45 => ?_)
          · skip
            refine lv_iconst (v := nI 0) hx hb dX4_weightOf_53 rfl ?_
            refine lv_istore_n (lv' := [(2, .int (nI 0)), (3, .int (nI i)), (0, .ref (o)), (1, .int (nI k))]) hx hb dX4_weightOf_54 rfl hl (by decide) rfl (fun ls hl => ?_)
            refine lv_iinc (v := nI (i + 1)) (lv' := [(3, .int (nI (i + 1))), (2, .int (nI 0)), (0, .ref (o)), (1, .int (nI k))]) hx hb dX4_weightOf_55 hl (k := 1) rfl (ps_inc _) (by decide) rfl (fun ls hl => ?_)
            refine lv_goto (tgt := 4) hx hb dX4_weightOf_58 (by decide) ?_
            have e1 : (nI 0 : Int32) = nI (sp_w σ (i + 1)) := congrArg nI (by first | rfl | (simp [sp_w, c_6, c_14, c_45]; done) | (simp [sp_w, c_6, c_14, c_45]; omega) | omega)
            have hl : lv_has ls 4 [(3, .int (nI (i + 1))), (2, .int (nI (sp_w σ (i + 1)))), (0, .ref (o)), (1, .int (nI k))] := ps_lv (l1 := [(3, .int (nI (i + 1))), (2, .int (nI 0)), (0, .ref (o)), (1, .int (nI k))]) (lv_sub hl [0, 1, 2, 3] rfl) (by rw [e1])
            exact ih4  (i + 1) (by omega) (by omega) ls (hl)
          · skip
            refine lv_bipush (v := nI 20) hx hb dX4_weightOf_48 rfl ?_
            refine lv_goto (tgt := 54) hx hb dX4_weightOf_50 (by decide) ?_
            refine lv_istore_n (lv' := [(2, .int (nI 20)), (3, .int (nI i)), (0, .ref (o)), (1, .int (nI k))]) hx hb dX4_weightOf_54 rfl hl (by decide) rfl (fun ls hl => ?_)
            refine lv_iinc (v := nI (i + 1)) (lv' := [(3, .int (nI (i + 1))), (2, .int (nI 20)), (0, .ref (o)), (1, .int (nI k))]) hx hb dX4_weightOf_55 hl (k := 1) rfl (ps_inc _) (by decide) rfl (fun ls hl => ?_)
            refine lv_goto (tgt := 4) hx hb dX4_weightOf_58 (by decide) ?_
            have e2 : (nI 20 : Int32) = nI (sp_w σ (i + 1)) := congrArg nI (by first | rfl | (simp [sp_w, c_6, c_14, c_45]; done) | (simp [sp_w, c_6, c_14, c_45]; omega) | omega)
            have hl : lv_has ls 4 [(3, .int (nI (i + 1))), (2, .int (nI (sp_w σ (i + 1)))), (0, .ref (o)), (1, .int (nI k))] := ps_lv (l1 := [(3, .int (nI (i + 1))), (2, .int (nI 20)), (0, .ref (o)), (1, .int (nI k))]) (lv_sub hl [0, 1, 2, 3] rfl) (by rw [e2])
            exact ih4  (i + 1) (by omega) (by omega) ls (hl)
        · skip
          refine lv_aload_n hx hb dX4_weightOf_17 rfl (lv_at hl 2 rfl) ?_
          refine lv_iload_n hx hb dX4_weightOf_18 rfl (lv_at hl 0 rfl) ?_
          refine lv_aload_n hx hb dX4_weightOf_19 rfl (lv_at hl 2 rfl) ?_
          refine ps_mget (v := .ref (o + 4)) X hM 5 (by decide) q1294 rfl rfl dX4_weightOf_20 ?_
          refine lv_bipush (v := nI 9) hx hb dX4_weightOf_23 rfl ?_
          refine lv_iload_n hx hb dX4_weightOf_25 rfl (lv_at hl 0 rfl) ?_
          refine ps_iadd hx hb dX4_weightOf_26 ?_
          refine ps_mld (j := 9 + i) (v := nI (σ (9 + i))) X hM 4 (by decide) rfl (by show 9 + i < 57; omega) (hσ _ (by show 9 + i < 57; omega)) dX4_weightOf_27 ?_
          refine lv_iload_n hx hb dX4_weightOf_28 rfl (lv_at hl 1 rfl) ?_
          refine ps_roV X hE (m_X4_weightAs l hE hM hσ hO (k := i) (d := σ (9 + i)) (b1 := sp_w σ i) (by omega) (by omega) (by omega)) (lw_V q1483 q1485 qs48 q75 q1486) (by decide +kernel) ⟨⟨Nat.le_of_ble_eq_true rfl, Nat.le_of_ble_eq_true rfl⟩, Nat.le_of_ble_eq_true rfl, Nat.le_of_ble_eq_true rfl⟩ (ps_mrc X hM) hS hl.1 (As := [.int (nI i), .int (nI (σ (9 + i))), .int (nI (sp_w σ i))]) (rest := []) (n := 3) rfl rfl (Nat.le_of_ble_eq_true rfl) dX4_weightOf_29 ?_
          refine ps_st (st' := [.int (nI (sp_as σ i (σ (9 + i)) (sp_w σ i)))]) rfl ?_
          refine lv_goto (tgt := 54) hx hb dX4_weightOf_32 (by decide) ?_
          refine lv_istore_n (lv' := [(2, .int (nI (sp_as σ i (σ (9 + i)) (sp_w σ i)))), (3, .int (nI i)), (0, .ref (o)), (1, .int (nI k))]) hx hb dX4_weightOf_54 rfl hl (by decide) rfl (fun ls hl => ?_)
          refine lv_iinc (v := nI (i + 1)) (lv' := [(3, .int (nI (i + 1))), (2, .int (nI (sp_as σ i (σ (9 + i)) (sp_w σ i)))), (0, .ref (o)), (1, .int (nI k))]) hx hb dX4_weightOf_55 hl (k := 1) rfl (ps_inc _) (by decide) rfl (fun ls hl => ?_)
          refine lv_goto (tgt := 4) hx hb dX4_weightOf_58 (by decide) ?_
          have e3 : (nI (sp_as σ i (σ (9 + i)) (sp_w σ i)) : Int32) = nI (sp_w σ (i + 1)) := congrArg nI (by first | rfl | (simp [sp_w, c_6, c_14]; done) | (simp [sp_w, c_6, c_14]; omega) | omega)
          have hl : lv_has ls 4 [(3, .int (nI (i + 1))), (2, .int (nI (sp_w σ (i + 1)))), (0, .ref (o)), (1, .int (nI k))] := ps_lv (l1 := [(3, .int (nI (i + 1))), (2, .int (nI (sp_as σ i (σ (9 + i)) (sp_w σ i)))), (0, .ref (o)), (1, .int (nI k))]) (lv_sub hl [0, 1, 2, 3] rfl) (by rw [e3])
          exact ih4  (i + 1) (by omega) (by omega) ls (hl)
  have e4 : (nI 0 : Int32) = nI (sp_w σ 0) := rfl
  have hl : lv_has ls 4 [(3, .int (nI 0)), (2, .int (nI (sp_w σ 0))), (0, .ref (o)), (1, .int (nI k))] := ps_lv (l1 := [(3, .int (nI 0)), (2, .int (nI 0)), (0, .ref (o)), (1, .int (nI k))]) (lv_sub hl [0, 1, 2, 3] rfl) (by rw [e4])
  exact L4 ((k + 1 - 0) + 1) 0 (Nat.zero_le _) (Nat.lt_succ_self _) ls (hl)

set_option maxHeartbeats 4000000 in
theorem m_X4_sumOf (l : Launch) {E : ps_E} (hE : ps_ZT E) {H : Heap} {o : Nat} {F : Nat → Int32} {A : Nat → Nat → Int32} (hM : ps_Mo E H o F A) {σ : Nat → Nat} (hσ : ps_Vw A 4 57 σ) (hO : sp_ok σ) {u : Nat} (hu : u < 2147483648) : ps_Ro l E yX4_sumOf cX4_sumOf 4 (some .int) 4 80 [.ref (o), .int (nI u)] H (some (.int (nI (sp_sum σ u (σ 3))))) := by
  refine ps_Ro.of (by decide) (Nat.le_of_ble_eq_true rfl) ?_
  intro p e s m args below meth c X ls hl
  have hx := X.1
  have hb := X.2.1
  have ho := X.2.2.2.1
  have hts := X.2.2.2.2.1
  have hS : va_S (ps_A E) s.heap H [] := by rw [X.2.2.2.2.2.2.2.2.1]; exact va_S.rf
  have hl : lv_has ls 4 [(0, .ref (o)), (1, .int (nI u))] := hl
  have hm := hO.m
  refine lv_iconst (v := nI 0) hx hb dX4_sumOf_0 rfl ?_
  refine lv_istore_n (lv' := [(2, .int (nI 0)), (0, .ref (o)), (1, .int (nI u))]) hx hb dX4_sumOf_1 rfl hl (by decide) rfl (fun ls hl => ?_)
  refine lv_iconst (v := nI 0) hx hb dX4_sumOf_2 rfl ?_
  refine lv_istore_n (lv' := [(3, .int (nI 0)), (2, .int (nI 0)), (0, .ref (o)), (1, .int (nI u))]) hx hb dX4_sumOf_3 rfl hl (by decide) rfl (fun ls hl => ?_)
  have L4 : ∀ (n : Nat) (i : Nat) (hi : i ≤ σ 3) (hmu : σ 3 - i < n) (ls : Array Slot) (hl : lv_has ls 4 [(3, .int (nI i)), (2, .int (nI (sp_sum σ u i))), (0, .ref (o)), (1, .int (nI u))]), W p l e ({ frames := 4, cells := 0, slots := 0, locals := 80 } : Room) s m args below meth c H [] 0 0 (MQ below (ps_ro (some (.int (nI (sp_sum σ u (σ 3)))))) args s 0 0 (fun _ => False)) (F0 m 4 ls []) := by
    intro n
    induction n with
    | zero => intro i hi hmu; exact absurd hmu (Nat.not_lt_zero _)
    | succ n ih4 =>
      intro i hi hmu ls hl
      refine lv_iload_n hx hb dX4_sumOf_4 rfl (lv_at hl 0 rfl) ?_
      refine lv_aload_n hx hb dX4_sumOf_5 rfl (lv_at hl 2 rfl) ?_
      refine ps_mget (v := .ref (o + 4)) X hM 5 (by decide) q1294 rfl rfl dX4_sumOf_6 ?_
      refine lv_iconst (v := nI 3) hx hb dX4_sumOf_9 rfl ?_
      refine ps_mld (j := 3) (v := nI (σ 3)) X hM 4 (by decide) rfl (by show 3 < 57; omega) (hσ _ (by show 3 < 57; omega)) dX4_sumOf_10 ?_
      refine ps_cge (tgt := 40) hx hb dX4_sumOf_11 (by decide) (by omega) (fun c_11 => ?_) (fun c_11 => ?_)
      · skip
        have ei : i = σ 3 := by omega
        refine lv_iload_n hx hb dX4_sumOf_40 rfl (lv_at hl 1 rfl) ?_
        exact ps_iretR X dX4_sumOf_41 (congrArg (fun z => some (Value.int z)) (congrArg nI (by rw [ei])))
      · skip
        refine lv_iload_n hx hb dX4_sumOf_14 rfl (lv_at hl 1 rfl) ?_
        refine lv_iload_n hx hb dX4_sumOf_15 rfl (lv_at hl 3 rfl) ?_
        refine lv_iload_n hx hb dX4_sumOf_16 rfl (lv_at hl 0 rfl) ?_
        refine ps_roS X hE (m_X4_has l hE (H := H) (u := u) (k := i) (by omega) (by omega)) (lw_S q1476 q1477 q75 q1478) (by decide +kernel) ⟨⟨Nat.le_of_ble_eq_true rfl, Nat.le_of_ble_eq_true rfl⟩, Nat.le_of_ble_eq_true rfl, Nat.le_of_ble_eq_true rfl⟩ hS hl.1 (As := [.int (nI u), .int (nI i)]) (rest := [.int (nI (sp_sum σ u i))]) (n := 2) rfl rfl (Nat.le_of_ble_eq_true rfl) dX4_sumOf_17 ?_
        refine ps_st (st' := [.int (bI (Nat.testBit u i)), .int (nI (sp_sum σ u i))]) rfl ?_
        refine ps_ifeqB (tgt := 31) hx hb dX4_sumOf_20 (by decide) (fun c_20 => ?_) (fun c_20 => ?_)
        · skip
          refine lv_iconst (v := nI 0) hx hb dX4_sumOf_31 rfl ?_
          refine ps_iadd hx hb dX4_sumOf_32 ?_
          refine lv_istore_n (lv' := [(2, .int (nI ((sp_sum σ u i) + 0))), (3, .int (nI i)), (0, .ref (o)), (1, .int (nI u))]) hx hb dX4_sumOf_33 rfl hl (by decide) rfl (fun ls hl => ?_)
          refine lv_iinc (v := nI (i + 1)) (lv' := [(3, .int (nI (i + 1))), (2, .int (nI ((sp_sum σ u i) + 0))), (0, .ref (o)), (1, .int (nI u))]) hx hb dX4_sumOf_34 hl (k := 1) rfl (ps_inc _) (by decide) rfl (fun ls hl => ?_)
          refine lv_goto (tgt := 4) hx hb dX4_sumOf_37 (by decide) ?_
          have e1 : (nI ((sp_sum σ u i) + 0) : Int32) = nI (sp_sum σ u (i + 1)) := congrArg nI (by first | rfl | (simp [sp_sum, c_11, c_20]; done) | (simp [sp_sum, c_11, c_20]; omega) | omega)
          have hl : lv_has ls 4 [(3, .int (nI (i + 1))), (2, .int (nI (sp_sum σ u (i + 1)))), (0, .ref (o)), (1, .int (nI u))] := ps_lv (l1 := [(3, .int (nI (i + 1))), (2, .int (nI ((sp_sum σ u i) + 0))), (0, .ref (o)), (1, .int (nI u))]) (lv_sub hl [0, 1, 2, 3] rfl) (by rw [e1])
          exact ih4  (i + 1) (by omega) (by omega) ls (hl)
        · skip
          refine lv_aload_n hx hb dX4_sumOf_23 rfl (lv_at hl 2 rfl) ?_
          refine lv_iload_n hx hb dX4_sumOf_24 rfl (lv_at hl 0 rfl) ?_
          refine ps_roV X hE (m_X4_weightOf l hE hM hσ hO (k := i) (by omega)) (lw_V q1479 q1481 qs47 q75 q1482) (by decide +kernel) ⟨⟨Nat.le_of_ble_eq_true rfl, Nat.le_of_ble_eq_true rfl⟩, Nat.le_of_ble_eq_true rfl, Nat.le_of_ble_eq_true rfl⟩ (ps_mrc X hM) hS hl.1 (As := [.int (nI i)]) (rest := [.int (nI (sp_sum σ u i))]) (n := 1) rfl rfl (Nat.le_of_ble_eq_true rfl) dX4_sumOf_25 ?_
          refine ps_st (st' := [.int (nI (sp_w σ (i + 1))), .int (nI (sp_sum σ u i))]) rfl ?_
          refine lv_goto (tgt := 32) hx hb dX4_sumOf_28 (by decide) ?_
          refine ps_iadd hx hb dX4_sumOf_32 ?_
          refine lv_istore_n (lv' := [(2, .int (nI ((sp_sum σ u i) + (sp_w σ (i + 1))))), (3, .int (nI i)), (0, .ref (o)), (1, .int (nI u))]) hx hb dX4_sumOf_33 rfl hl (by decide) rfl (fun ls hl => ?_)
          refine lv_iinc (v := nI (i + 1)) (lv' := [(3, .int (nI (i + 1))), (2, .int (nI ((sp_sum σ u i) + (sp_w σ (i + 1))))), (0, .ref (o)), (1, .int (nI u))]) hx hb dX4_sumOf_34 hl (k := 1) rfl (ps_inc _) (by decide) rfl (fun ls hl => ?_)
          refine lv_goto (tgt := 4) hx hb dX4_sumOf_37 (by decide) ?_
          have e2 : (nI ((sp_sum σ u i) + (sp_w σ (i + 1))) : Int32) = nI (sp_sum σ u (i + 1)) := congrArg nI (by first | rfl | (simp [sp_sum, c_11, c_20]; done) | (simp [sp_sum, c_11, c_20]; omega) | omega)
          have hl : lv_has ls 4 [(3, .int (nI (i + 1))), (2, .int (nI (sp_sum σ u (i + 1)))), (0, .ref (o)), (1, .int (nI u))] := ps_lv (l1 := [(3, .int (nI (i + 1))), (2, .int (nI ((sp_sum σ u i) + (sp_w σ (i + 1))))), (0, .ref (o)), (1, .int (nI u))]) (lv_sub hl [0, 1, 2, 3] rfl) (by rw [e2])
          exact ih4  (i + 1) (by omega) (by omega) ls (hl)
  have e3 : (nI 0 : Int32) = nI (sp_sum σ u 0) := rfl
  have hl : lv_has ls 4 [(3, .int (nI 0)), (2, .int (nI (sp_sum σ u 0))), (0, .ref (o)), (1, .int (nI u))] := ps_lv (l1 := [(3, .int (nI 0)), (2, .int (nI 0)), (0, .ref (o)), (1, .int (nI u))]) (lv_sub hl [0, 1, 2, 3] rfl) (by rw [e3])
  exact L4 ((σ 3 - 0) + 1) 0 (Nat.zero_le _) (Nat.lt_succ_self _) ls (hl)

set_option maxHeartbeats 4000000 in
theorem m_X4_readOf (l : Launch) {E : ps_E} (hE : ps_ZT E) {H : Heap} {o : Nat} {F : Nat → Int32} {A : Nat → Nat → Int32} (hM : ps_Mo E H o F A) {σ : Nat → Nat} (hσ : ps_Vw A 4 57 σ) (hO : sp_ok σ) {u : Nat} (hu : u < 2147483648) (h1 : 1 ≤ σ 1) : ps_Ro l E yX4_readOf cX4_readOf 2 (some .int) 5 103 [.ref (o), .int (nI u)] H (some (.int (nI (sp_read σ u)))) := by
  refine ps_Ro.of (by decide) (Nat.le_of_ble_eq_true rfl) ?_
  intro p e s m args below meth c X ls hl
  have hx := X.1
  have hb := X.2.1
  have ho := X.2.2.2.1
  have hts := X.2.2.2.2.1
  have hS : va_S (ps_A E) s.heap H [] := by rw [X.2.2.2.2.2.2.2.2.1]; exact va_S.rf
  have hl : lv_has ls 2 [(0, .ref (o)), (1, .int (nI u))] := hl
  have hm := hO.m
  have hs := sp_sum_le hO (set := u) (k := σ 3) (Nat.le_refl _)
  refine lv_aload_n hx hb dX4_readOf_0 rfl (lv_at hl 0 rfl) ?_
  refine lv_iload_n hx hb dX4_readOf_1 rfl (lv_at hl 1 rfl) ?_
  refine ps_roV X hE (m_X4_sumOf l hE hM hσ hO (u := u) (by omega)) (lw_V q1472 q1474 qs46 q75 q1475) (by decide +kernel) ⟨⟨Nat.le_of_ble_eq_true rfl, Nat.le_of_ble_eq_true rfl⟩, Nat.le_of_ble_eq_true rfl, Nat.le_of_ble_eq_true rfl⟩ (ps_mrc X hM) hS hl.1 (As := [.int (nI u)]) (rest := []) (n := 1) rfl rfl (Nat.le_of_ble_eq_true rfl) dX4_readOf_2 ?_
  refine ps_st (st' := [.int (nI (sp_sum σ u (σ 3)))]) rfl ?_
  refine lv_aload_n hx hb dX4_readOf_5 rfl (lv_at hl 0 rfl) ?_
  refine ps_mget (v := .ref (o + 4)) X hM 5 (by decide) q1294 rfl rfl dX4_readOf_6 ?_
  refine lv_iconst (v := nI 0) hx hb dX4_readOf_9 rfl ?_
  refine ps_mld (j := 0) (v := nI (σ 0)) X hM 4 (by decide) rfl (by show 0 < 57; omega) (hσ _ (by show 0 < 57; omega)) dX4_readOf_10 ?_
  refine lv_aload_n hx hb dX4_readOf_11 rfl (lv_at hl 0 rfl) ?_
  refine ps_mget (v := .ref (o + 4)) X hM 5 (by decide) q1294 rfl rfl dX4_readOf_12 ?_
  refine lv_iconst (v := nI 1) hx hb dX4_readOf_15 rfl ?_
  refine ps_mld (j := 1) (v := nI (σ 1)) X hM 4 (by decide) rfl (by show 1 < 57; omega) (hσ _ (by show 1 < 57; omega)) dX4_readOf_16 ?_
  refine ps_roS X hE (m_X4_readBy l hE (H := H) (u := sp_sum σ u (σ 3)) (x := σ 0) (y := σ 1) (by omega) (by omega) (by omega)) (lw_S q1491 q1492 q75 q1493) (by decide +kernel) ⟨⟨Nat.le_of_ble_eq_true rfl, Nat.le_of_ble_eq_true rfl⟩, Nat.le_of_ble_eq_true rfl, Nat.le_of_ble_eq_true rfl⟩ hS hl.1 (As := [.int (nI (sp_sum σ u (σ 3))), .int (nI (σ 0)), .int (nI (σ 1))]) (rest := []) (n := 3) rfl rfl (Nat.le_of_ble_eq_true rfl) dX4_readOf_17 ?_
  refine ps_st (st' := [.int (nI (sp_by (sp_sum σ u (σ 3)) (σ 0) (σ 1)))]) rfl ?_
  exact ps_iretR X dX4_readOf_20 (congrArg (fun z => some (Value.int z)) (congrArg nI (by rfl)))

set_option maxHeartbeats 4000000 in
theorem m_X4_clashes (l : Launch) {E : ps_E} (hE : ps_ZT E) {H : Heap} {o : Nat} {F : Nat → Int32} {A : Nat → Nat → Int32} (hM : ps_Mo E H o F A) {σ : Nat → Nat} (hσ : ps_Vw A 4 57 σ) (hO : sp_ok σ) {k j : Nat} (hk : k < σ 3) (hj : j < σ 3) : ps_Ro l E yX4_clashes cX4_clashes 3 (some .boolean) 2 33 [.ref (o), .int (nI k), .int (nI j)] H (some (.int (bI (sp_clash σ k j)))) := by
  refine ps_Ro.of (by decide) (Nat.le_of_ble_eq_true rfl) ?_
  intro p e s m args below meth c X ls hl
  have hx := X.1
  have hb := X.2.1
  have ho := X.2.2.2.1
  have hts := X.2.2.2.2.1
  have hS : va_S (ps_A E) s.heap H [] := by rw [X.2.2.2.2.2.2.2.2.1]; exact va_S.rf
  have hl : lv_has ls 3 [(0, .ref (o)), (1, .int (nI k)), (2, .int (nI j))] := hl
  have hm := hO.m
  have hp := hO.p hk
  have hq := hO.p hj
  refine lv_aload_n hx hb dX4_clashes_0 rfl (lv_at hl 0 rfl) ?_
  refine lv_iload_n hx hb dX4_clashes_1 rfl (lv_at hl 1 rfl) ?_
  refine ps_roV X hE (m_X4_isOpen l hE hM hσ hO (k := k) (by omega)) (lw_V q1459 q1461 qs43 q75 q1462) (by decide +kernel) ⟨⟨Nat.le_of_ble_eq_true rfl, Nat.le_of_ble_eq_true rfl⟩, Nat.le_of_ble_eq_true rfl, Nat.le_of_ble_eq_true rfl⟩ (ps_mrc X hM) hS hl.1 (As := [.int (nI k)]) (rest := []) (n := 1) rfl rfl (Nat.le_of_ble_eq_true rfl) dX4_clashes_2 ?_
  refine ps_st (st' := [.int (bI (sp_open σ k))]) rfl ?_
  refine ps_ifeqB (tgt := 83) hx hb dX4_clashes_5 (by decide) (fun c_5 => ?_) (fun c_5 => ?_)
  · skip
    refine lv_iconst (v := nI 0) hx hb dX4_clashes_83 rfl ?_
    exact ps_zretR (b := sp_clash σ k j) X dX4_clashes_84 ((bI_is0 (by simp [sp_clash, c_5]))) rfl
  · skip
    refine lv_aload_n hx hb dX4_clashes_8 rfl (lv_at hl 0 rfl) ?_
    refine lv_iload_n hx hb dX4_clashes_9 rfl (lv_at hl 2 rfl) ?_
    refine ps_roV X hE (m_X4_isOpen l hE hM hσ hO (k := j) (by omega)) (lw_V q1459 q1461 qs43 q75 q1462) (by decide +kernel) ⟨⟨Nat.le_of_ble_eq_true rfl, Nat.le_of_ble_eq_true rfl⟩, Nat.le_of_ble_eq_true rfl, Nat.le_of_ble_eq_true rfl⟩ (ps_mrc X hM) hS hl.1 (As := [.int (nI j)]) (rest := []) (n := 1) rfl rfl (Nat.le_of_ble_eq_true rfl) dX4_clashes_10 ?_
    refine ps_st (st' := [.int (bI (sp_open σ j))]) rfl ?_
    refine ps_ifeqB (tgt := 83) hx hb dX4_clashes_13 (by decide) (fun c_13 => ?_) (fun c_13 => ?_)
    · skip
      refine lv_iconst (v := nI 0) hx hb dX4_clashes_83 rfl ?_
      exact ps_zretR (b := sp_clash σ k j) X dX4_clashes_84 ((bI_is0 (by simp [sp_clash, c_5, c_13]))) rfl
    · skip
      refine lv_aload_n hx hb dX4_clashes_16 rfl (lv_at hl 0 rfl) ?_
      refine ps_mget (v := .ref (o + 4)) X hM 5 (by decide) q1294 rfl rfl dX4_clashes_17 ?_
      refine lv_bipush (v := nI 17) hx hb dX4_clashes_20 rfl ?_
      refine lv_iload_n hx hb dX4_clashes_22 rfl (lv_at hl 1 rfl) ?_
      refine ps_iadd hx hb dX4_clashes_23 ?_
      refine ps_mld (j := 17 + k) (v := nI (σ (17 + k))) X hM 4 (by decide) rfl (by show 17 + k < 57; omega) (hσ _ (by show 17 + k < 57; omega)) dX4_clashes_24 ?_
      refine lv_aload_n hx hb dX4_clashes_25 rfl (lv_at hl 0 rfl) ?_
      refine ps_mget (v := .ref (o + 4)) X hM 5 (by decide) q1294 rfl rfl dX4_clashes_26 ?_
      refine lv_bipush (v := nI 17) hx hb dX4_clashes_29 rfl ?_
      refine lv_iload_n hx hb dX4_clashes_31 rfl (lv_at hl 2 rfl) ?_
      refine ps_iadd hx hb dX4_clashes_32 ?_
      refine ps_mld (j := 17 + j) (v := nI (σ (17 + j))) X hM 4 (by decide) rfl (by show 17 + j < 57; omega) (hσ _ (by show 17 + j < 57; omega)) dX4_clashes_33 ?_
      refine ps_cne (tgt := 83) hx hb dX4_clashes_34 (by decide) (by omega) (fun c_34 => ?_) (fun c_34 => ?_)
      · skip
        refine lv_iconst (v := nI 0) hx hb dX4_clashes_83 rfl ?_
        exact ps_zretR (b := sp_clash σ k j) X dX4_clashes_84 ((bI_is0 (by simp [sp_clash, c_5, c_13, c_34]))) rfl
      · skip
        refine lv_aload_n hx hb dX4_clashes_37 rfl (lv_at hl 0 rfl) ?_
        refine ps_mget (v := .ref (o + 4)) X hM 5 (by decide) q1294 rfl rfl dX4_clashes_38 ?_
        refine lv_bipush (v := nI 33) hx hb dX4_clashes_41 rfl ?_
        refine lv_iload_n hx hb dX4_clashes_43 rfl (lv_at hl 1 rfl) ?_
        refine ps_iadd hx hb dX4_clashes_44 ?_
        refine ps_mld (j := 33 + k) (v := nI (σ (33 + k))) X hM 4 (by decide) rfl (by show 33 + k < 57; omega) (hσ _ (by show 33 + k < 57; omega)) dX4_clashes_45 ?_
        refine lv_aload_n hx hb dX4_clashes_46 rfl (lv_at hl 0 rfl) ?_
        refine ps_mget (v := .ref (o + 4)) X hM 5 (by decide) q1294 rfl rfl dX4_clashes_47 ?_
        refine lv_bipush (v := nI 33) hx hb dX4_clashes_50 rfl ?_
        refine lv_iload_n hx hb dX4_clashes_52 rfl (lv_at hl 2 rfl) ?_
        refine ps_iadd hx hb dX4_clashes_53 ?_
        refine ps_mld (j := 33 + j) (v := nI (σ (33 + j))) X hM 4 (by decide) rfl (by show 33 + j < 57; omega) (hσ _ (by show 33 + j < 57; omega)) dX4_clashes_54 ?_
        refine ps_cne (tgt := 83) hx hb dX4_clashes_55 (by decide) (by omega) (fun c_55 => ?_) (fun c_55 => ?_)
        · skip
          refine lv_iconst (v := nI 0) hx hb dX4_clashes_83 rfl ?_
          exact ps_zretR (b := sp_clash σ k j) X dX4_clashes_84 ((bI_is0 (by simp [sp_clash, c_5, c_13, c_34, c_55]))) rfl
        · skip
          refine lv_aload_n hx hb dX4_clashes_58 rfl (lv_at hl 0 rfl) ?_
          refine ps_mget (v := .ref (o + 4)) X hM 5 (by decide) q1294 rfl rfl dX4_clashes_59 ?_
          refine lv_bipush (v := nI 25) hx hb dX4_clashes_62 rfl ?_
          refine lv_iload_n hx hb dX4_clashes_64 rfl (lv_at hl 1 rfl) ?_
          refine ps_iadd hx hb dX4_clashes_65 ?_
          refine ps_mld (j := 25 + k) (v := nI (σ (25 + k))) X hM 4 (by decide) rfl (by show 25 + k < 57; omega) (hσ _ (by show 25 + k < 57; omega)) dX4_clashes_66 ?_
          refine lv_aload_n hx hb dX4_clashes_67 rfl (lv_at hl 0 rfl) ?_
          refine ps_mget (v := .ref (o + 4)) X hM 5 (by decide) q1294 rfl rfl dX4_clashes_68 ?_
          refine lv_bipush (v := nI 25) hx hb dX4_clashes_71 rfl ?_
          refine lv_iload_n hx hb dX4_clashes_73 rfl (lv_at hl 2 rfl) ?_
          refine ps_iadd hx hb dX4_clashes_74 ?_
          refine ps_mld (j := 25 + j) (v := nI (σ (25 + j))) X hM 4 (by decide) rfl (by show 25 + j < 57; omega) (hσ _ (by show 25 + j < 57; omega)) dX4_clashes_75 ?_
          refine ps_ceq (tgt := 83) hx hb dX4_clashes_76 (by decide) (by omega) (fun c_76 => ?_) (fun c_76 => ?_)
          · skip
            refine lv_iconst (v := nI 0) hx hb dX4_clashes_83 rfl ?_
            exact ps_zretR (b := sp_clash σ k j) X dX4_clashes_84 ((bI_is0 (by simp [sp_clash, c_5, c_13, c_34, c_55, c_76]))) rfl
          · skip
            refine lv_iconst (v := nI 1) hx hb dX4_clashes_79 rfl ?_
            refine lv_goto (tgt := 84) hx hb dX4_clashes_80 (by decide) ?_
            exact ps_zretR (b := sp_clash σ k j) X dX4_clashes_84 ((bI_is1 (by simp [sp_clash, c_5, c_13, c_34, c_55, c_76]))) rfl
