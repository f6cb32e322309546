/-! the component: leaves, the list, the scales (printed by gen/comp1.py) -/
set_option maxRecDepth 100000
set_option maxHeartbeats 4000000 in
theorem m_X0_isIn (l : Launch) {E : ps_E} (hE : ps_ZT E) {H : Heap} {x : Int32} {lo hi : Nat} {b0 c0 : Int64} (hb0 : b0.toInt = (lo : Int)) (hc0 : ∀ y : Int, 0 ≤ y → (y ≤ c0.toInt ↔ y < (hi : Int))) : ps_Ro l E yX0_isIn cX0_isIn 6 (some .boolean) 1 12 [.long (x.toInt64), .long (b0), .long (c0)] H (some (.int (bI (rng x lo hi)))) := by
  refine ps_Ro.of (by decide) (Nat.le_of_ble_eq_true rfl) ?_
  intro p e s m args below meth c X ls hl
  have hx := X.1
  have hb := X.2.1
  have ho := X.2.2.2.1
  have hts := X.2.2.2.2.1
  have hS : va_S (ps_A E) s.heap H [] := by rw [X.2.2.2.2.2.2.2.2.1]; exact va_S.rf
  have hl : lv_has ls 6 [(0, .long (x.toInt64)), (2, .long (b0)), (4, .long (c0))] := hl
  refine lv_lload_n hx hb dX0_isIn_0 rfl (lv_at hl 0 rfl) ?_
  refine lv_lload_n hx hb dX0_isIn_1 rfl (lv_at hl 1 rfl) ?_
  refine W.lcmp hx hb dX0_isIn_2 ?_
  refine lv_if_lt (tgt := 17) hx hb dX0_isIn_3 (by decide) (fun c_3 => ?_) (fun c_3 => ?_)
  · skip
    refine lv_iconst (v := nI 0) hx hb dX0_isIn_17 rfl ?_
    exact ps_zretR (b := rng x lo hi) X dX0_isIn_18 ((bI_is0 (by first | exact ps_in_1 hb0 hc0 c_3 c_10 | exact ps_in_b hb0 hc0 c_3 c_10 | exact ps_in_a hb0 c_3))) rfl
  · skip
    refine lv_lload_n hx hb dX0_isIn_6 rfl (lv_at hl 0 rfl) ?_
    refine lv_lload hx hb dX0_isIn_7 (lv_at hl 2 rfl) ?_
    refine W.lcmp hx hb dX0_isIn_9 ?_
    refine lv_if_gt (tgt := 17) hx hb dX0_isIn_10 (by decide) (fun c_10 => ?_) (fun c_10 => ?_)
    · skip
      refine lv_iconst (v := nI 0) hx hb dX0_isIn_17 rfl ?_
      exact ps_zretR (b := rng x lo hi) X dX0_isIn_18 ((bI_is0 (by first | exact ps_in_1 hb0 hc0 c_3 c_10 | exact ps_in_b hb0 hc0 c_3 c_10 | exact ps_in_a hb0 c_3))) rfl
    · skip
      refine lv_iconst (v := nI 1) hx hb dX0_isIn_13 rfl ?_
      refine lv_goto (tgt := 18) hx hb dX0_isIn_14 (by decide) ?_
      exact ps_zretR (b := rng x lo hi) X dX0_isIn_18 ((bI_is1 (by first | exact ps_in_1 hb0 hc0 c_3 c_10 | exact ps_in_b hb0 hc0 c_3 c_10 | exact ps_in_a hb0 c_3))) rfl

set_option maxHeartbeats 4000000 in
theorem m_X0_has (l : Launch) {E : ps_E} (hE : ps_ZT E) {H : Heap} {u k : Nat} (hu : u < 2147483648) (hk : k < 31) : ps_Ro l E yX0_has cX0_has 2 (some .boolean) 1 12 [.int (nI u), .int (nI k)] H (some (.int (bI (u.testBit k)))) := by
  refine ps_Ro.of (by decide) (Nat.le_of_ble_eq_true rfl) ?_
  intro p e s m args below meth c X ls hl
  have hx := X.1
  have hb := X.2.1
  have ho := X.2.2.2.1
  have hts := X.2.2.2.2.1
  have hS : va_S (ps_A E) s.heap H [] := by rw [X.2.2.2.2.2.2.2.2.1]; exact va_S.rf
  have hl : lv_has ls 2 [(0, .int (nI u)), (1, .int (nI k))] := hl
  refine lv_iload_n hx hb dX0_has_0 rfl (lv_at hl 0 rfl) ?_
  refine lv_iload_n hx hb dX0_has_1 rfl (lv_at hl 1 rfl) ?_
  refine lv_ishr hx hb dX0_has_2 ?_
  refine ps_top (y := nI (u / 2 ^ k)) (ps_shr (by omega) (by omega)) ?_
  refine lv_iconst (v := nI 1) hx hb dX0_has_3 rfl ?_
  refine lv_iand hx hb dX0_has_4 ?_
  refine ps_top (y := nI ((u / 2 ^ k) % 2)) (ps_and1 (ps_divlt (by omega))) ?_
  refine lv_iconst (v := nI 1) hx hb dX0_has_5 rfl ?_
  refine ps_cne (tgt := 13) hx hb dX0_has_6 (by decide) (ps_m2 _) (fun c_6 => ?_) (fun c_6 => ?_)
  · skip
    refine lv_iconst (v := nI 0) hx hb dX0_has_13 rfl ?_
    exact ps_zretR (b := u.testBit k) X dX0_has_14 ((bI_is0 (by first | exact ps_tb1 c_6 | exact ps_tb0 c_6))) rfl
  · skip
    refine lv_iconst (v := nI 1) hx hb dX0_has_9 rfl ?_
    refine lv_goto (tgt := 14) hx hb dX0_has_10 (by decide) ?_
    exact ps_zretR (b := u.testBit k) X dX0_has_14 ((bI_is1 (by first | exact ps_tb1 c_6 | exact ps_tb0 c_6))) rfl

set_option maxHeartbeats 4000000 in
theorem m_X0_readsBy (l : Launch) {E : ps_E} (hE : ps_ZT E) {H : Heap} {u x y : Nat} (hu : u < 1000) (hx0 : x < 1000) (hy : 0 < y ∧ y < 1000) : ps_Ro l E yX0_readsBy cX0_readsBy 3 (some .int) 1 12 [.int (nI u), .int (nI x), .int (nI y)] H (some (.int (nI (sp_by u x y)))) := by
  refine ps_Ro.of (by decide) (Nat.le_of_ble_eq_true rfl) ?_
  intro p e s m args below meth c X ls hl
  have hx := X.1
  have hb := X.2.1
  have ho := X.2.2.2.1
  have hts := X.2.2.2.2.1
  have hS : va_S (ps_A E) s.heap H [] := by rw [X.2.2.2.2.2.2.2.2.1]; exact va_S.rf
  have hl : lv_has ls 3 [(0, .int (nI u)), (1, .int (nI x)), (2, .int (nI y))] := hl
  refine lv_iload_n hx hb dX0_readsBy_0 rfl (lv_at hl 0 rfl) ?_
  refine lv_iload_n hx hb dX0_readsBy_1 rfl (lv_at hl 1 rfl) ?_
  refine ps_iadd hx hb dX0_readsBy_2 ?_
  refine lv_iload_n hx hb dX0_readsBy_3 rfl (lv_at hl 2 rfl) ?_
  refine ps_idiv hx hb dX0_readsBy_4 (by omega) ?_
  refine lv_iload_n hx hb dX0_readsBy_5 rfl (lv_at hl 2 rfl) ?_
  refine ps_imul hx hb dX0_readsBy_6 ?_
  exact ps_iretR X dX0_readsBy_7 (congrArg (fun z => some (Value.int z)) (congrArg nI (by first | rfl | (simp [sp_by]; done) | (simp [sp_by]; omega) | omega)))

set_option maxHeartbeats 4000000 in
theorem m_X0_isRow (l : Launch) {E : ps_E} (hE : ps_ZT E) {H : Heap} {x : Int32} : ps_Ro l E yX0_isRow cX0_isRow 1 (some .boolean) 2 37 [.int (x)] H (some (.int (bI (rng x 0 8)))) := by
  refine ps_Ro.of (by decide) (Nat.le_of_ble_eq_true rfl) ?_
  intro p e s m args below meth c X ls hl
  have hx := X.1
  have hb := X.2.1
  have ho := X.2.2.2.1
  have hts := X.2.2.2.2.1
  have hS : va_S (ps_A E) s.heap H [] := by rw [X.2.2.2.2.2.2.2.2.1]; exact va_S.rf
  have hl : lv_has ls 1 [(0, .int (x))] := hl
  refine lv_iload_n hx hb dX0_isRow_0 rfl (lv_at hl 0 rfl) ?_
  refine lv_i2l (v := (x).toInt64) hx hb dX0_isRow_1 rfl ?_
  refine lv_lconst (v := lN 0) hx hb dX0_isRow_2 rfl ?_
  refine lv_ldc2 (v := 7) hx hb ho (hts _ q339) dX0_isRow_3 ?_
  refine ps_roS X hE (m_X0_isIn l hE (H := H) (x := x) (lo := 0) (hi := 8) (lN_toInt (by decide)) (ps_hcL (k := 7) (by decide +kernel))) (lw_S q340 q341 q68 q342) (by decide +kernel) ⟨⟨Nat.le_of_ble_eq_true rfl, Nat.le_of_ble_eq_true rfl⟩, Nat.le_of_ble_eq_true rfl, Nat.le_of_ble_eq_true rfl⟩ hS hl.1 (As := [.long ((x).toInt64), .long (lN 0), .long (7)]) (rest := []) (n := 3) rfl rfl (Nat.le_of_ble_eq_true rfl) dX0_isRow_6 ?_
  refine ps_st (st' := [.int (bI (rng x 0 8))]) rfl ?_
  exact ps_zretR (b := rng x 0 8) X dX0_isRow_9 (rfl) rfl

set_option maxHeartbeats 4000000 in
theorem m_X0_isHalf (l : Launch) {E : ps_E} (hE : ps_ZT E) {H : Heap} {x : Int32} : ps_Ro l E yX0_isHalf cX0_isHalf 1 (some .boolean) 2 37 [.int (x)] H (some (.int (bI (rng x 0 2)))) := by
  refine ps_Ro.of (by decide) (Nat.le_of_ble_eq_true rfl) ?_
  intro p e s m args below meth c X ls hl
  have hx := X.1
  have hb := X.2.1
  have ho := X.2.2.2.1
  have hts := X.2.2.2.2.1
  have hS : va_S (ps_A E) s.heap H [] := by rw [X.2.2.2.2.2.2.2.2.1]; exact va_S.rf
  have hl : lv_has ls 1 [(0, .int (x))] := hl
  refine lv_iload_n hx hb dX0_isHalf_0 rfl (lv_at hl 0 rfl) ?_
  refine lv_i2l (v := (x).toInt64) hx hb dX0_isHalf_1 rfl ?_
  refine lv_lconst (v := lN 0) hx hb dX0_isHalf_2 rfl ?_
  refine lv_lconst (v := lN 1) hx hb dX0_isHalf_3 rfl ?_
  refine ps_roS X hE (m_X0_isIn l hE (H := H) (x := x) (lo := 0) (hi := 2) (lN_toInt (by decide)) (ps_hcN 1 (by decide))) (lw_S q340 q341 q68 q342) (by decide +kernel) ⟨⟨Nat.le_of_ble_eq_true rfl, Nat.le_of_ble_eq_true rfl⟩, Nat.le_of_ble_eq_true rfl, Nat.le_of_ble_eq_true rfl⟩ hS hl.1 (As := [.long ((x).toInt64), .long (lN 0), .long (lN 1)]) (rest := []) (n := 3) rfl rfl (Nat.le_of_ble_eq_true rfl) dX0_isHalf_4 ?_
  refine ps_st (st' := [.int (bI (rng x 0 2))]) rfl ?_
  exact ps_zretR (b := rng x 0 2) X dX0_isHalf_7 (rfl) rfl

set_option maxHeartbeats 4000000 in
theorem m_J15_checkIndex (l : Launch) {E : ps_E} (hE : ps_ZT E) {H : Heap} {u v : Nat} (hu : u < v) (hv : v < 2147483648) : ps_Ro l E yJ15_checkIndex cJ15_checkIndex 3 (some .int) 1 12 [.int (nI u), .int (nI v), .null] H (some (.int (nI u))) := by
  refine ps_Ro.of (by decide) (Nat.le_of_ble_eq_true rfl) ?_
  intro p e s m args below meth c X ls hl
  have hx := X.1
  have hb := X.2.1
  have ho := X.2.2.2.1
  have hts := X.2.2.2.2.1
  have hS : va_S (ps_A E) s.heap H [] := by rw [X.2.2.2.2.2.2.2.2.1]; exact va_S.rf
  have hl : lv_has ls 3 [(0, .int (nI u)), (1, .int (nI v)), (2, .null)] := hl
  refine lv_iload_n hx hb dJ15_checkIndex_0 rfl (lv_at hl 0 rfl) ?_
  refine ps_iflt (tgt := 9) hx hb dJ15_checkIndex_1 (by decide) (by omega) ?_
  refine lv_iload_n hx hb dJ15_checkIndex_4 rfl (lv_at hl 0 rfl) ?_
  refine lv_iload_n hx hb dJ15_checkIndex_5 rfl (lv_at hl 1 rfl) ?_
  refine ps_clt (tgt := 16) hx hb dJ15_checkIndex_6 (by decide) (by omega) (fun c_6 => ?_) (fun c_6 => ?_)
  · skip
    refine lv_iload_n hx hb dJ15_checkIndex_16 rfl (lv_at hl 0 rfl) ?_
    exact ps_iretR X dJ15_checkIndex_17 (congrArg (fun z => some (Value.int z)) (rfl))
  · skip
    exact absurd c_6 (by omega)

set_option maxHeartbeats 4000000 in
theorem m_J19_checkIndex (l : Launch) {E : ps_E} (hE : ps_ZT E) {H : Heap} {u v : Nat} (hu : u < v) (hv : v < 2147483648) : ps_Ro l E yJ19_checkIndex cJ19_checkIndex 2 (some .int) 2 34 [.int (nI u), .int (nI v)] H (some (.int (nI u))) := by
  refine ps_Ro.of (by decide) (Nat.le_of_ble_eq_true rfl) ?_
  intro p e s m args below meth c X ls hl
  have hx := X.1
  have hb := X.2.1
  have ho := X.2.2.2.1
  have hts := X.2.2.2.2.1
  have hS : va_S (ps_A E) s.heap H [] := by rw [X.2.2.2.2.2.2.2.2.1]; exact va_S.rf
  have hl : lv_has ls 2 [(0, .int (nI u)), (1, .int (nI v))] := hl
  refine lv_iload_n hx hb dJ19_checkIndex_0 rfl (lv_at hl 0 rfl) ?_
  refine lv_iload_n hx hb dJ19_checkIndex_1 rfl (lv_at hl 1 rfl) ?_
  refine lv_null hx hb dJ19_checkIndex_2 ?_
  refine ps_roS X hE (m_J15_checkIndex l hE (H := H) (u := u) (v := v) (by omega) (by omega)) (lw_S q834 q835 q91 q836) (by decide +kernel) ⟨⟨Nat.le_of_ble_eq_true rfl, Nat.le_of_ble_eq_true rfl⟩, Nat.le_of_ble_eq_true rfl, Nat.le_of_ble_eq_true rfl⟩ hS hl.1 (As := [.int (nI u), .int (nI v), .null]) (rest := []) (n := 3) rfl rfl (Nat.le_of_ble_eq_true rfl) dJ19_checkIndex_3 ?_
  refine ps_st (st' := [.int (nI u)]) rfl ?_
  exact ps_iretR X dJ19_checkIndex_6 (congrArg (fun z => some (Value.int z)) (rfl))

set_option maxHeartbeats 4000000 in
theorem m_J2_size (l : Launch) {E : ps_E} (hE : ps_ZT E) {z : Nat} (hZ : ps_Zk E z) {Γ : ps_Gh} {H : Heap} (hW : ps_W E Γ H) {a sr u : Nat} {smc : Int32} (hL : Γ a = some (.inr (13, [.int smc, .ref sr, .int (nI u)]))) : ps_Ro l E yJ2_size cJ2_size 1 (some .int) 1 12 [.ref (a)] H (some (.int (nI u))) := by
  refine ps_Ro.of (by decide) (Nat.le_of_ble_eq_true rfl) ?_
  intro p e s m args below meth c X ls hl
  have hx := X.1
  have hb := X.2.1
  have ho := X.2.2.2.1
  have hts := X.2.2.2.2.1
  have hS : va_S (ps_A E) s.heap H [] := by rw [X.2.2.2.2.2.2.2.2.1]; exact va_S.rf
  have hl : lv_has ls 1 [(0, .ref (a))] := hl
  refine lv_aload_n hx hb dJ2_size_0 rfl (lv_at hl 0 rfl) ?_
  refine ps_get (v := .int (nI u)) X in_J2 (ci := 13) rfl 2 (by decide) q149 rfl (hW.at hL) rfl dJ2_size_1 ?_
  exact ps_iretR X dJ2_size_4 (congrArg (fun z => some (Value.int z)) (rfl))

set_option maxHeartbeats 4000000 in
theorem m_J2_elementData (l : Launch) {E : ps_E} (hE : ps_ZT E) {z : Nat} (hZ : ps_Zk E z) {Γ : ps_Gh} {H : Heap} (hW : ps_W E Γ H) {a sr u : Nat} {smc : Int32} (hL : Γ a = some (.inr (13, [.int smc, .ref sr, .int (nI u)]))) {df : Nat → Option Nat} {k b : Nat} (hq : Γ sr = some (ps_q (E.2.1 6) 10 df)) (hk : k < u) (hu : u ≤ 10) (hd : df k = some b) : ps_Ro l E yJ2_elementData cJ2_elementData 2 (some (.object "java/lang/Object")) 1 12 [.ref (a), .int (nI k)] H (some (.ref (b))) := by
  refine ps_Ro.of (by decide) (Nat.le_of_ble_eq_true rfl) ?_
  intro p e s m args below meth c X ls hl
  have hx := X.1
  have hb := X.2.1
  have ho := X.2.2.2.1
  have hts := X.2.2.2.2.1
  have hS : va_S (ps_A E) s.heap H [] := by rw [X.2.2.2.2.2.2.2.2.1]; exact va_S.rf
  have hl : lv_has ls 2 [(0, .ref (a)), (1, .int (nI k))] := hl
  refine lv_aload_n hx hb dJ2_elementData_0 rfl (lv_at hl 0 rfl) ?_
  refine ps_get (v := .ref (sr)) X in_J2 (ci := 13) rfl 1 (by decide) q148 rfl (hW.at hL) rfl dJ2_elementData_1 ?_
  refine lv_iload_n hx hb dJ2_elementData_4 rfl (lv_at hl 1 rfl) ?_
  refine ps_aald (j := k) (o := some b) X (t := 6) rfl (hW.at hq) rfl (by show k < 10; omega) (by first | decide | omega) (hd) dJ2_elementData_5 ?_
  exact ps_aretR X (Or.inl ⟨_, rfl⟩) (Or.inr ⟨_, rfl⟩) dJ2_elementData_6 rfl

set_option maxHeartbeats 4000000 in
theorem m_J2_get (l : Launch) {E : ps_E} (hE : ps_ZT E) {z : Nat} (hZ : ps_Zk E z) {Γ : ps_Gh} {H : Heap} (hW : ps_W E Γ H) {a sr u : Nat} {smc : Int32} (hL : Γ a = some (.inr (13, [.int smc, .ref sr, .int (nI u)]))) {df : Nat → Option Nat} {k b : Nat} (hq : Γ sr = some (ps_q (E.2.1 6) 10 df)) (hk : k < u) (hu : u ≤ 10) (hd : df k = some b) : ps_Ro l E yJ2_get cJ2_get 2 (some (.object "java/lang/Object")) 3 55 [.ref (a), .int (nI k)] H (some (.ref (b))) := by
  refine ps_Ro.of (by decide) (Nat.le_of_ble_eq_true rfl) ?_
  intro p e s m args below meth c X ls hl
  have hx := X.1
  have hb := X.2.1
  have ho := X.2.2.2.1
  have hts := X.2.2.2.2.1
  have hS : va_S (ps_A E) s.heap H [] := by rw [X.2.2.2.2.2.2.2.2.1]; exact va_S.rf
  have hl : lv_has ls 2 [(0, .ref (a)), (1, .int (nI k))] := hl
  refine lv_iload_n hx hb dJ2_get_0 rfl (lv_at hl 1 rfl) ?_
  refine lv_aload_n hx hb dJ2_get_1 rfl (lv_at hl 0 rfl) ?_
  refine ps_get (v := .int (nI u)) X in_J2 (ci := 13) rfl 2 (by decide) q149 rfl (hW.at hL) rfl dJ2_get_2 ?_
  refine ps_roS X hE (m_J19_checkIndex l hE (H := H) (u := k) (v := u) (by omega) (by omega)) (lw_S q831 q832 q101 q833) (by decide +kernel) ⟨⟨Nat.le_of_ble_eq_true rfl, Nat.le_of_ble_eq_true rfl⟩, Nat.le_of_ble_eq_true rfl, Nat.le_of_ble_eq_true rfl⟩ hS hl.1 (As := [.int (nI k), .int (nI u)]) (rest := []) (n := 2) rfl rfl (Nat.le_of_ble_eq_true rfl) dJ2_get_5 ?_
  refine ps_st (st' := [.int (nI k)]) rfl ?_
  refine lv_pop hx hb dJ2_get_8 rfl ?_
  refine lv_aload_n hx hb dJ2_get_9 rfl (lv_at hl 0 rfl) ?_
  refine lv_iload_n hx hb dJ2_get_10 rfl (lv_at hl 1 rfl) ?_
  refine ps_roV X hE (m_J2_elementData l hE hZ hW hL (k := k) (b := b) hq (by omega) (by omega) (hd)) (lw_V q837 q838 q839 q73 q840) (by decide +kernel) ⟨⟨Nat.le_of_ble_eq_true rfl, Nat.le_of_ble_eq_true rfl⟩, Nat.le_of_ble_eq_true rfl, Nat.le_of_ble_eq_true rfl⟩ (ps_rc X (ci := 13) rfl (hW.at hL)) hS hl.1 (As := [.int (nI k)]) (rest := []) (n := 1) rfl rfl (Nat.le_of_ble_eq_true rfl) dJ2_get_11 ?_
  refine ps_st (st' := [.ref (b)]) rfl ?_
  exact ps_aretR X (Or.inl ⟨_, rfl⟩) (Or.inr ⟨_, rfl⟩) dJ2_get_14 rfl

set_option maxHeartbeats 4000000 in
theorem m_X2_many (l : Launch) {E : ps_E} (hE : ps_ZT E) {z : Nat} (hZ : ps_Zk E z) {Γ : ps_Gh} {H : Heap} (hW : ps_W E Γ H) {sq : Nat} {σ : Nat → Nat} {smc : Int32} {sr : Nat} {pf : Nat → Nat} {kf tf : Nat → Int32} {df : Nat → Option Nat} (hD : ps_Sd E z Γ sq σ smc sr pf kf tf df) (hO : sp_ok σ) : ps_Ro l E yX2_many cX2_many 1 (some .int) 2 32 [.ref (sq)] H (some (.int (nI (σ 3)))) := by
  refine ps_Ro.of (by decide) (Nat.le_of_ble_eq_true rfl) ?_
  intro p e s m args below meth c X ls hl
  have hx := X.1
  have hb := X.2.1
  have ho := X.2.2.2.1
  have hts := X.2.2.2.2.1
  have hS : va_S (ps_A E) s.heap H [] := by rw [X.2.2.2.2.2.2.2.2.1]; exact va_S.rf
  have hl : lv_has ls 1 [(0, .ref (sq))] := hl
  have hm := hO.m
  refine lv_aload_n hx hb dX2_many_0 rfl (lv_at hl 0 rfl) ?_
  refine ps_get (v := .ref (sq + 2)) X in_X2 (ci := 2) rfl 4 (by decide) q174 rfl (hW.at hD.1) rfl dX2_many_1 ?_
  obtain ⟨cAL, hAL⟩ := ps_cla X
  refine ps_roF X hE (m_J2_size l hE hZ hW hD.2.2.2.1 ) (lw_F q651 q655 q657 q73 q659) hZ (by decide) (by decide +kernel) hAL ⟨⟨Nat.le_of_ble_eq_true rfl, Nat.le_of_ble_eq_true rfl⟩, Nat.le_of_ble_eq_true rfl, Nat.le_of_ble_eq_true rfl⟩ (ps_rc X (ci := 13) rfl (hW.at hD.2.2.2.1)) hS hl.1 (As := []) (rest := []) (n := 0) rfl rfl (Nat.le_of_ble_eq_true rfl) dX2_many_4 ?_
  refine ps_st (st' := [.int (nI (σ 3))]) rfl ?_
  exact ps_iretR X dX2_many_9 (congrArg (fun z => some (Value.int z)) (rfl))

set_option maxHeartbeats 4000000 in
theorem m_X2_all (l : Launch) {E : ps_E} (hE : ps_ZT E) {z : Nat} (hZ : ps_Zk E z) {Γ : ps_Gh} {H : Heap} (hW : ps_W E Γ H) {sq : Nat} {σ : Nat → Nat} {smc : Int32} {sr : Nat} {pf : Nat → Nat} {kf tf : Nat → Int32} {df : Nat → Option Nat} (hD : ps_Sd E z Γ sq σ smc sr pf kf tf df) (hO : sp_ok σ) : ps_Ro l E yX2_all cX2_all 1 (some .int) 3 52 [.ref (sq)] H (some (.int (nI (2 ^ σ 3 - 1)))) := by
  refine ps_Ro.of (by decide) (Nat.le_of_ble_eq_true rfl) ?_
  intro p e s m args below meth c X ls hl
  have hx := X.1
  have hb := X.2.1
  have ho := X.2.2.2.1
  have hts := X.2.2.2.2.1
  have hS : va_S (ps_A E) s.heap H [] := by rw [X.2.2.2.2.2.2.2.2.1]; exact va_S.rf
  have hl : lv_has ls 1 [(0, .ref (sq))] := hl
  have hm := hO.m
  have hp := ps_p2 (k := σ 3) (by omega)
  refine lv_iconst (v := nI 1) hx hb dX2_all_0 rfl ?_
  refine lv_aload_n hx hb dX2_all_1 rfl (lv_at hl 0 rfl) ?_
  refine ps_roV X hE (m_X2_many l hE hZ hW hD hO ) (lw_V q880 q647 q648 q70 q649) (by decide +kernel) ⟨⟨Nat.le_of_ble_eq_true rfl, Nat.le_of_ble_eq_true rfl⟩, Nat.le_of_ble_eq_true rfl, Nat.le_of_ble_eq_true rfl⟩ (ps_rc X (ci := 2) rfl (hW.at hD.1)) hS hl.1 (As := []) (rest := [.int (nI 1)]) (n := 0) rfl rfl (Nat.le_of_ble_eq_true rfl) dX2_all_2 ?_
  refine ps_st (st' := [.int (nI (σ 3)), .int (nI 1)]) rfl ?_
  refine lv_ishl hx hb dX2_all_5 ?_
  refine ps_top (y := nI (2 ^ σ 3)) (ps_shl1 (by omega)) ?_
  refine lv_iconst (v := nI 1) hx hb dX2_all_6 rfl ?_
  refine ps_isub hx hb dX2_all_7 (by omega) ?_
  exact ps_iretR X dX2_all_8 (congrArg (fun z => some (Value.int z)) (congrArg nI (by first | rfl | (simp []; done) | (simp []; omega) | omega)))

set_option maxHeartbeats 4000000 in
theorem m_X2_promise (l : Launch) {E : ps_E} (hE : ps_ZT E) {z : Nat} (hZ : ps_Zk E z) {Γ : ps_Gh} {H : Heap} (hW : ps_W E Γ H) {sq : Nat} {σ : Nat → Nat} {smc : Int32} {sr : Nat} {pf : Nat → Nat} {kf tf : Nat → Int32} {df : Nat → Option Nat} (hD : ps_Sd E z Γ sq σ smc sr pf kf tf df) (hO : sp_ok σ) {k : Nat} (hk : k < σ 3) : ps_Ro l E yX2_promise cX2_promise 2 (some (.object "PromiseScales$Promise")) 4 76 [.ref (sq), .int (nI k)] H (some (.ref (pf k))) := by
  refine ps_Ro.of (by decide) (Nat.le_of_ble_eq_true rfl) ?_
  intro p e s m args below meth c X ls hl
  have hx := X.1
  have hb := X.2.1
  have ho := X.2.2.2.1
  have hts := X.2.2.2.2.1
  have hS : va_S (ps_A E) s.heap H [] := by rw [X.2.2.2.2.2.2.2.2.1]; exact va_S.rf
  have hl : lv_has ls 2 [(0, .ref (sq)), (1, .int (nI k))] := hl
  have hm := hO.m
  refine lv_aload_n hx hb dX2_promise_0 rfl (lv_at hl 0 rfl) ?_
  refine ps_get (v := .ref (sq + 2)) X in_X2 (ci := 2) rfl 4 (by decide) q174 rfl (hW.at hD.1) rfl dX2_promise_1 ?_
  refine lv_iload_n hx hb dX2_promise_4 rfl (lv_at hl 1 rfl) ?_
  obtain ⟨cAL, hAL⟩ := ps_cla X
  refine ps_roF X hE (m_J2_get l hE hZ hW hD.2.2.2.1 (k := k) (b := pf k) (hD.2.2.2.2.2.2.1.resolve_left (fun h => by omega)) (by omega) (by omega) (hD.2.2.2.2.2.2.2.1 _ (by omega))) (lw_F q823 q826 q828 q73 q830) hZ (by decide) (by decide +kernel) hAL ⟨⟨Nat.le_of_ble_eq_true rfl, Nat.le_of_ble_eq_true rfl⟩, Nat.le_of_ble_eq_true rfl, Nat.le_of_ble_eq_true rfl⟩ (ps_rc X (ci := 13) rfl (hW.at hD.2.2.2.1)) hS hl.1 (As := [.int (nI k)]) (rest := []) (n := 1) rfl rfl (Nat.le_of_ble_eq_true rfl) dX2_promise_5 ?_
  refine ps_st (st' := [.ref (pf k)]) rfl ?_
  refine ps_castP X hZ q841 (hO.p (p := k) (by omega)).1 (hW.at (hD.2.2.2.2.2.2.2.2 k (by omega))) dX2_promise_10 ?_
  exact ps_aretR X (Or.inl ⟨_, rfl⟩) (Or.inr ⟨_, rfl⟩) dX2_promise_13 rfl

set_option maxHeartbeats 4000000 in
theorem m_X2_isOpen (l : Launch) {E : ps_E} (hE : ps_ZT E) {z : Nat} (hZ : ps_Zk E z) {Γ : ps_Gh} {H : Heap} (hW : ps_W E Γ H) {sq : Nat} {σ : Nat → Nat} {smc : Int32} {sr : Nat} {pf : Nat → Nat} {kf tf : Nat → Int32} {df : Nat → Option Nat} (hD : ps_Sd E z Γ sq σ smc sr pf kf tf df) (hO : sp_ok σ) {k : Nat} (hk : k < 8) : ps_Ro l E yX2_isOpen cX2_isOpen 2 (some .boolean) 1 12 [.ref (sq), .int (nI k)] H (some (.int (bI (sp_open σ k)))) := by
  refine ps_Ro.of (by decide) (Nat.le_of_ble_eq_true rfl) ?_
  intro p e s m args below meth c X ls hl
  have hx := X.1
  have hb := X.2.1
  have ho := X.2.2.2.1
  have hts := X.2.2.2.2.1
  have hS : va_S (ps_A E) s.heap H [] := by rw [X.2.2.2.2.2.2.2.2.1]; exact va_S.rf
  have hl : lv_has ls 2 [(0, .ref (sq)), (1, .int (nI k))] := hl
  have hm := hO.m
  have hh := hO.h (p := k) (by omega)
  refine lv_aload_n hx hb dX2_isOpen_0 rfl (lv_at hl 0 rfl) ?_
  refine ps_get (v := .ref (sq + 3)) X in_X2 (ci := 2) rfl 5 (by decide) q176 rfl (hW.at hD.1) rfl dX2_isOpen_1 ?_
  refine lv_iload_n hx hb dX2_isOpen_4 rfl (lv_at hl 1 rfl) ?_
  refine ps_iald (j := k) X (hW.at hD.2.2.2.2.1) rfl (by show k < 8; omega) (by first | decide | omega) dX2_isOpen_5 ?_
  refine ps_top (y := nI (σ (49 + k))) (hD.2.2.2.2.2.1 _ (by show k < 8; omega)) ?_
  refine ps_ifne (tgt := 13) hx hb dX2_isOpen_6 (by decide) (by omega) (fun c_6 => ?_) (fun c_6 => ?_)
  · skip
    refine lv_iconst (v := nI 0) hx hb dX2_isOpen_13 rfl ?_
    exact ps_zretR (b := sp_open σ k) X dX2_isOpen_14 ((bI_is0 (by simp [sp_open, c_6]))) rfl
  · skip
    refine lv_iconst (v := nI 1) hx hb dX2_isOpen_9 rfl ?_
    refine lv_goto (tgt := 14) hx hb dX2_isOpen_10 (by decide) ?_
    exact ps_zretR (b := sp_open σ k) X dX2_isOpen_14 ((bI_is1 (by simp [sp_open, c_6]))) rfl

set_option maxHeartbeats 4000000 in
theorem m_X2_isClash (l : Launch) {E : ps_E} (hE : ps_ZT E) {z : Nat} (hZ : ps_Zk E z) {Γ : ps_Gh} {H : Heap} (hW : ps_W E Γ H) {sq : Nat} {σ : Nat → Nat} {smc : Int32} {sr : Nat} {pf : Nat → Nat} {kf tf : Nat → Int32} {df : Nat → Option Nat} (hD : ps_Sd E z Γ sq σ smc sr pf kf tf df) (hO : sp_ok σ) {k j : Nat} (hk : k < σ 3) (hj : j < σ 3) : ps_Ro l E yX2_isClash cX2_isClash 5 (some .boolean) 5 97 [.ref (sq), .int (nI k), .int (nI j)] H (some (.int (bI (sp_clash σ k j)))) := by
  refine ps_Ro.of (by decide) (Nat.le_of_ble_eq_true rfl) ?_
  intro p e s m args below meth c X ls hl
  have hx := X.1
  have hb := X.2.1
  have ho := X.2.2.2.1
  have hts := X.2.2.2.2.1
  have hS : va_S (ps_A E) s.heap H [] := by rw [X.2.2.2.2.2.2.2.2.1]; exact va_S.rf
  have hl : lv_has ls 5 [(0, .ref (sq)), (1, .int (nI k)), (2, .int (nI j))] := hl
  have hm := hO.m
  have hpk := hO.p hk
  have hpj := hO.p hj
  refine lv_aload_n hx hb dX2_isClash_0 rfl (lv_at hl 0 rfl) ?_
  refine lv_iload_n hx hb dX2_isClash_1 rfl (lv_at hl 1 rfl) ?_
  refine ps_roV X hE (m_X2_promise l hE hZ hW hD hO (k := k) (by omega)) (lw_V q887 q888 q889 q70 q890) (by decide +kernel) ⟨⟨Nat.le_of_ble_eq_true rfl, Nat.le_of_ble_eq_true rfl⟩, Nat.le_of_ble_eq_true rfl, Nat.le_of_ble_eq_true rfl⟩ (ps_rc X (ci := 2) rfl (hW.at hD.1)) hS hl.1 (As := [.int (nI k)]) (rest := []) (n := 1) rfl rfl (Nat.le_of_ble_eq_true rfl) dX2_isClash_2 ?_
  refine ps_st (st' := [.ref (pf k)]) rfl ?_
  refine lv_astore_n (lv' := [(3, .ref (pf k)), (0, .ref (sq)), (1, .int (nI k)), (2, .int (nI j))]) hx hb dX2_isClash_5 rfl hl (by decide) rfl (fun ls hl => ?_)
  refine lv_aload_n hx hb dX2_isClash_6 rfl (lv_at hl 1 rfl) ?_
  refine lv_iload_n hx hb dX2_isClash_7 rfl (lv_at hl 3 rfl) ?_
  refine ps_roV X hE (m_X2_promise l hE hZ hW hD hO (k := j) (by omega)) (lw_V q887 q888 q889 q70 q890) (by decide +kernel) ⟨⟨Nat.le_of_ble_eq_true rfl, Nat.le_of_ble_eq_true rfl⟩, Nat.le_of_ble_eq_true rfl, Nat.le_of_ble_eq_true rfl⟩ (ps_rc X (ci := 2) rfl (hW.at hD.1)) hS hl.1 (As := [.int (nI j)]) (rest := []) (n := 1) rfl rfl (Nat.le_of_ble_eq_true rfl) dX2_isClash_8 ?_
  refine ps_st (st' := [.ref (pf j)]) rfl ?_
  refine lv_astore (lv' := [(4, .ref (pf j)), (3, .ref (pf k)), (0, .ref (sq)), (1, .int (nI k)), (2, .int (nI j))]) hx hb dX2_isClash_11 hl (by decide) rfl (fun ls hl => ?_)
  refine lv_aload_n hx hb dX2_isClash_13 rfl (lv_at hl 2 rfl) ?_
  refine lv_iload_n hx hb dX2_isClash_14 rfl (lv_at hl 3 rfl) ?_
  refine ps_roV X hE (m_X2_isOpen l hE hZ hW hD hO (k := k) (by omega)) (lw_V q886 q861 q862 q70 q863) (by decide +kernel) ⟨⟨Nat.le_of_ble_eq_true rfl, Nat.le_of_ble_eq_true rfl⟩, Nat.le_of_ble_eq_true rfl, Nat.le_of_ble_eq_true rfl⟩ (ps_rc X (ci := 2) rfl (hW.at hD.1)) hS hl.1 (As := [.int (nI k)]) (rest := []) (n := 1) rfl rfl (Nat.le_of_ble_eq_true rfl) dX2_isClash_15 ?_
  refine ps_st (st' := [.int (bI (sp_open σ k))]) rfl ?_
  refine ps_ifeqB (tgt := 69) hx hb dX2_isClash_18 (by decide) (fun c_18 => ?_) (fun c_18 => ?_)
  · skip
    refine lv_iconst (v := nI 0) hx hb dX2_isClash_69 rfl ?_
    exact ps_zretR (b := sp_clash σ k j) X dX2_isClash_70 ((bI_is0 (by simp [sp_clash, c_18]))) rfl
  · skip
    refine lv_aload_n hx hb dX2_isClash_21 rfl (lv_at hl 2 rfl) ?_
    refine lv_iload_n hx hb dX2_isClash_22 rfl (lv_at hl 4 rfl) ?_
    refine ps_roV X hE (m_X2_isOpen l hE hZ hW hD hO (k := j) (by omega)) (lw_V q886 q861 q862 q70 q863) (by decide +kernel) ⟨⟨Nat.le_of_ble_eq_true rfl, Nat.le_of_ble_eq_true rfl⟩, Nat.le_of_ble_eq_true rfl, Nat.le_of_ble_eq_true rfl⟩ (ps_rc X (ci := 2) rfl (hW.at hD.1)) hS hl.1 (As := [.int (nI j)]) (rest := []) (n := 1) rfl rfl (Nat.le_of_ble_eq_true rfl) dX2_isClash_23 ?_
    refine ps_st (st' := [.int (bI (sp_open σ j))]) rfl ?_
    refine ps_ifeqB (tgt := 69) hx hb dX2_isClash_26 (by decide) (fun c_26 => ?_) (fun c_26 => ?_)
    · skip
      refine lv_iconst (v := nI 0) hx hb dX2_isClash_69 rfl ?_
      exact ps_zretR (b := sp_clash σ k j) X dX2_isClash_70 ((bI_is0 (by simp [sp_clash, c_18, c_26]))) rfl
    · skip
      refine lv_aload_n hx hb dX2_isClash_29 rfl (lv_at hl 1 rfl) ?_
      refine ps_pget (v := .int (nI (σ (17 + k)))) X (hO.p (p := k) (by omega)).1 2 (by decide) q675 (hW.at (hD.2.2.2.2.2.2.2.2 k (by omega))) rfl dX2_isClash_30 ?_
      refine lv_aload hx hb dX2_isClash_33 (lv_at hl 0 rfl) ?_
      refine ps_pget (v := .int (nI (σ (17 + j)))) X (hO.p (p := j) (by omega)).1 2 (by decide) q675 (hW.at (hD.2.2.2.2.2.2.2.2 j (by omega))) rfl dX2_isClash_35 ?_
      refine ps_cne (tgt := 69) hx hb dX2_isClash_38 (by decide) (by omega) (fun c_38 => ?_) (fun c_38 => ?_)
      · skip
        refine lv_iconst (v := nI 0) hx hb dX2_isClash_69 rfl ?_
        exact ps_zretR (b := sp_clash σ k j) X dX2_isClash_70 ((bI_is0 (by simp [sp_clash, c_18, c_26, c_38]))) rfl
      · skip
        refine lv_aload_n hx hb dX2_isClash_41 rfl (lv_at hl 1 rfl) ?_
        refine ps_pget (v := .int (nI (σ (33 + k)))) X (hO.p (p := k) (by omega)).1 4 (by decide) q681 (hW.at (hD.2.2.2.2.2.2.2.2 k (by omega))) rfl dX2_isClash_42 ?_
        refine lv_aload hx hb dX2_isClash_45 (lv_at hl 0 rfl) ?_
        refine ps_pget (v := .int (nI (σ (33 + j)))) X (hO.p (p := j) (by omega)).1 4 (by decide) q681 (hW.at (hD.2.2.2.2.2.2.2.2 j (by omega))) rfl dX2_isClash_47 ?_
        refine ps_cne (tgt := 69) hx hb dX2_isClash_50 (by decide) (by omega) (fun c_50 => ?_) (fun c_50 => ?_)
        · skip
          refine lv_iconst (v := nI 0) hx hb dX2_isClash_69 rfl ?_
          exact ps_zretR (b := sp_clash σ k j) X dX2_isClash_70 ((bI_is0 (by simp [sp_clash, c_18, c_26, c_38, c_50]))) rfl
        · skip
          refine lv_aload_n hx hb dX2_isClash_53 rfl (lv_at hl 1 rfl) ?_
          refine ps_pget (v := .int (nI (σ (25 + k)))) X (hO.p (p := k) (by omega)).1 3 (by decide) q678 (hW.at (hD.2.2.2.2.2.2.2.2 k (by omega))) rfl dX2_isClash_54 ?_
          refine lv_aload hx hb dX2_isClash_57 (lv_at hl 0 rfl) ?_
          refine ps_pget (v := .int (nI (σ (25 + j)))) X (hO.p (p := j) (by omega)).1 3 (by decide) q678 (hW.at (hD.2.2.2.2.2.2.2.2 j (by omega))) rfl dX2_isClash_59 ?_
          refine ps_ceq (tgt := 69) hx hb dX2_isClash_62 (by decide) (by omega) (fun c_62 => ?_) (fun c_62 => ?_)
          · skip
            refine lv_iconst (v := nI 0) hx hb dX2_isClash_69 rfl ?_
            exact ps_zretR (b := sp_clash σ k j) X dX2_isClash_70 ((bI_is0 (by simp [sp_clash, c_18, c_26, c_38, c_50, c_62]))) rfl
          · skip
            refine lv_iconst (v := nI 1) hx hb dX2_isClash_65 rfl ?_
            refine lv_goto (tgt := 70) hx hb dX2_isClash_66 (by decide) ?_
            exact ps_zretR (b := sp_clash σ k j) X dX2_isClash_70 ((bI_is1 (by simp [sp_clash, c_18, c_26, c_38, c_50, c_62]))) rfl
