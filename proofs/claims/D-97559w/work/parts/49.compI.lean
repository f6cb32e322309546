/-! the component: readers of its object (printed by gen/comp9.py) -/
set_option maxRecDepth 100000
def bc_1 (x : Int32) : Int32 := (x - (((x).toUInt32 >>> ((nI 1).toUInt32 &&& Int32.toUInt32 31)).toInt32 &&& 1431655765))
def bc_2 (x : Int32) : Int32 := ((x &&& 858993459) + (((x).toUInt32 >>> ((nI 2).toUInt32 &&& Int32.toUInt32 31)).toInt32 &&& 858993459))
def bc_3 (x : Int32) : Int32 := ((x + ((x).toUInt32 >>> ((nI 4).toUInt32 &&& Int32.toUInt32 31)).toInt32) &&& 252645135)
def bc_4 (x : Int32) : Int32 := (x + ((x).toUInt32 >>> ((nI 8).toUInt32 &&& Int32.toUInt32 31)).toInt32)
def bc_5 (x : Int32) : Int32 := (x + ((x).toUInt32 >>> ((nI 16).toUInt32 &&& Int32.toUInt32 31)).toInt32)
theorem bc_all : ∀ u : Fin 256, bc_5 (bc_4 (bc_3 (bc_2 (bc_1 (nI u.val))))) &&& nI 63 = nI (sp_ones u.val) := by decide +kernel
theorem bc_ok {u : Nat} (h : u < 256) : bc_5 (bc_4 (bc_3 (bc_2 (bc_1 (nI u))))) &&& nI 63 = nI (sp_ones u) := bc_all ⟨u, h⟩

set_option maxHeartbeats 4000000 in
theorem m_J20_bitCount (l : Launch) {E : ps_E} (hE : ps_ZT E) {H : Heap} {u : Nat} (hu : u < 256) : ps_Ro l E yJ20_bitCount cJ20_bitCount 1 (some .int) 1 12 [.int (nI u)] H (some (.int (nI (sp_ones u)))) := by
  refine ps_Ro.of (by decide) (Nat.le_of_ble_eq_true rfl) ?_
  intro p e s m args below meth c X ls hl
  have hx := X.1
  have hb := X.2.1
  have ho := X.2.2.2.1
  have hts := X.2.2.2.2.1
  have hS : va_S (ps_A E) s.heap H [] := by rw [X.2.2.2.2.2.2.2.2.1]; exact va_S.rf
  have hl : lv_has ls 1 [(0, .int (nI u))] := hl
  refine lv_iload_n hx hb dJ20_bitCount_0 rfl (lv_at hl 0 rfl) ?_
  refine lv_iload_n hx hb dJ20_bitCount_1 rfl (lv_at hl 0 rfl) ?_
  refine lv_iconst (v := nI 1) hx hb dJ20_bitCount_2 rfl ?_
  refine lv_iushr (v := ((nI u).toUInt32 >>> ((nI 1).toUInt32 &&& Int32.toUInt32 31)).toInt32) hx hb dJ20_bitCount_3 rfl ?_
  refine lv_ldcw (v := 1431655765) hx hb ho (hts _ q1003) dJ20_bitCount_4 ?_
  refine lv_iand hx hb dJ20_bitCount_7 ?_
  refine lv_isub hx hb dJ20_bitCount_8 ?_
  refine ps_top (y := (bc_1 (nI u))) (rfl) ?_
  refine lv_istore_n (lv' := [(0, .int ((bc_1 (nI u))))]) hx hb dJ20_bitCount_9 rfl hl (by decide) rfl (fun ls hl => ?_)
  refine lv_iload_n hx hb dJ20_bitCount_10 rfl (lv_at hl 0 rfl) ?_
  refine lv_ldcw (v := 858993459) hx hb ho (hts _ q1004) dJ20_bitCount_11 ?_
  refine lv_iand hx hb dJ20_bitCount_14 ?_
  refine lv_iload_n hx hb dJ20_bitCount_15 rfl (lv_at hl 0 rfl) ?_
  refine lv_iconst (v := nI 2) hx hb dJ20_bitCount_16 rfl ?_
  refine lv_iushr (v := (((bc_1 (nI u))).toUInt32 >>> ((nI 2).toUInt32 &&& Int32.toUInt32 31)).toInt32) hx hb dJ20_bitCount_17 rfl ?_
  refine lv_ldcw (v := 858993459) hx hb ho (hts _ q1004) dJ20_bitCount_18 ?_
  refine lv_iand hx hb dJ20_bitCount_21 ?_
  refine lv_iadd hx hb dJ20_bitCount_22 ?_
  refine ps_top (y := (bc_2 ((bc_1 (nI u))))) (rfl) ?_
  refine lv_istore_n (lv' := [(0, .int ((bc_2 ((bc_1 (nI u))))))]) hx hb dJ20_bitCount_23 rfl hl (by decide) rfl (fun ls hl => ?_)
  refine lv_iload_n hx hb dJ20_bitCount_24 rfl (lv_at hl 0 rfl) ?_
  refine lv_iload_n hx hb dJ20_bitCount_25 rfl (lv_at hl 0 rfl) ?_
  refine lv_iconst (v := nI 4) hx hb dJ20_bitCount_26 rfl ?_
  refine lv_iushr (v := (((bc_2 ((bc_1 (nI u))))).toUInt32 >>> ((nI 4).toUInt32 &&& Int32.toUInt32 31)).toInt32) hx hb dJ20_bitCount_27 rfl ?_
  refine lv_iadd hx hb dJ20_bitCount_28 ?_
  refine ps_top (y := (bc_2 ((bc_1 (nI u)))) + (((bc_2 ((bc_1 (nI u))))).toUInt32 >>> ((nI 4).toUInt32 &&& Int32.toUInt32 31)).toInt32) (rfl) ?_
  refine lv_ldcw (v := 252645135) hx hb ho (hts _ q1005) dJ20_bitCount_29 ?_
  refine lv_iand hx hb dJ20_bitCount_32 ?_
  refine ps_top (y := (bc_3 ((bc_2 ((bc_1 (nI u))))))) (rfl) ?_
  refine lv_istore_n (lv' := [(0, .int ((bc_3 ((bc_2 ((bc_1 (nI u))))))))]) hx hb dJ20_bitCount_33 rfl hl (by decide) rfl (fun ls hl => ?_)
  refine lv_iload_n hx hb dJ20_bitCount_34 rfl (lv_at hl 0 rfl) ?_
  refine lv_iload_n hx hb dJ20_bitCount_35 rfl (lv_at hl 0 rfl) ?_
  refine lv_bipush (v := nI 8) hx hb dJ20_bitCount_36 rfl ?_
  refine lv_iushr (v := (((bc_3 ((bc_2 ((bc_1 (nI u))))))).toUInt32 >>> ((nI 8).toUInt32 &&& Int32.toUInt32 31)).toInt32) hx hb dJ20_bitCount_38 rfl ?_
  refine lv_iadd hx hb dJ20_bitCount_39 ?_
  refine ps_top (y := (bc_4 ((bc_3 ((bc_2 ((bc_1 (nI u))))))))) (rfl) ?_
  refine lv_istore_n (lv' := [(0, .int ((bc_4 ((bc_3 ((bc_2 ((bc_1 (nI u))))))))))]) hx hb dJ20_bitCount_40 rfl hl (by decide) rfl (fun ls hl => ?_)
  refine lv_iload_n hx hb dJ20_bitCount_41 rfl (lv_at hl 0 rfl) ?_
  refine lv_iload_n hx hb dJ20_bitCount_42 rfl (lv_at hl 0 rfl) ?_
  refine lv_bipush (v := nI 16) hx hb dJ20_bitCount_43 rfl ?_
  refine lv_iushr (v := (((bc_4 ((bc_3 ((bc_2 ((bc_1 (nI u))))))))).toUInt32 >>> ((nI 16).toUInt32 &&& Int32.toUInt32 31)).toInt32) hx hb dJ20_bitCount_45 rfl ?_
  refine lv_iadd hx hb dJ20_bitCount_46 ?_
  refine ps_top (y := (bc_5 ((bc_4 ((bc_3 ((bc_2 ((bc_1 (nI u))))))))))) (rfl) ?_
  refine lv_istore_n (lv' := [(0, .int ((bc_5 ((bc_4 ((bc_3 ((bc_2 ((bc_1 (nI u))))))))))))]) hx hb dJ20_bitCount_47 rfl hl (by decide) rfl (fun ls hl => ?_)
  refine lv_iload_n hx hb dJ20_bitCount_48 rfl (lv_at hl 0 rfl) ?_
  refine lv_bipush (v := nI 63) hx hb dJ20_bitCount_49 rfl ?_
  refine lv_iand hx hb dJ20_bitCount_51 ?_
  refine ps_top (y := nI (sp_ones u)) (bc_ok hu) ?_
  exact ps_iretR X dJ20_bitCount_52 (congrArg (fun z => some (Value.int z)) (rfl))

set_option maxHeartbeats 4000000 in
theorem m_X0_isThere (l : Launch) {E : ps_E} (hE : ps_ZT E) {z : Nat} (hZ : ps_Zk E z) {Γ : ps_Gh} {H : Heap} (hW : ps_W E Γ H) {x tr : Nat} {N : Nat → Nat} (hX : Γ x = some (ps_xo x tr N)) {σ : Nat → Nat} {smc : Int32} {sr : Nat} {pf : Nat → Nat} {kf tf : Nat → Int32} {df : Nat → Option Nat} (hD : ps_Sd E z Γ (x + 11) σ smc sr pf kf tf df) (hO : sp_ok σ) : ps_Ro l E yX0_isThere cX0_isThere 1 (some .boolean) 1 12 [.ref (x)] H (some (.int (bI (decide (1 ≤ σ 1))))) := by
  refine ps_Ro.of (by decide) (Nat.le_of_ble_eq_true rfl) ?_
  intro p e s m args below meth c X ls hl
  have hx := X.1
  have hb := X.2.1
  have ho := X.2.2.2.1
  have hts := X.2.2.2.2.1
  have hS : va_S (ps_A E) s.heap H [] := by rw [X.2.2.2.2.2.2.2.2.1]; exact va_S.rf
  have hl : lv_has ls 1 [(0, .ref (x))] := hl
  have hm := hO.m
  refine lv_aload_n hx hb dX0_isThere_0 rfl (lv_at hl 0 rfl) ?_
  refine ps_get (v := .ref (x + 11)) X in_X0 (ci := 0) rfl 4 (by decide) q216 rfl (hW.at hX) rfl dX0_isThere_1 ?_
  refine ps_get (v := .int (nI (σ 1))) X in_X2 (ci := 2) rfl 1 (by decide) q167 rfl (hW.at hD.1) rfl dX0_isThere_4 ?_
  refine ps_ifle (tgt := 14) hx hb dX0_isThere_7 (by decide) (by omega) (fun c_7 => ?_) (fun c_7 => ?_)
  · skip
    refine lv_iconst (v := nI 0) hx hb dX0_isThere_14 rfl ?_
    exact ps_zretR (b := decide (1 ≤ σ 1)) X dX0_isThere_15 ((bI_is0 (by simp; omega))) rfl
  · skip
    refine lv_iconst (v := nI 1) hx hb dX0_isThere_10 rfl ?_
    refine lv_goto (tgt := 15) hx hb dX0_isThere_11 (by decide) ?_
    exact ps_zretR (b := decide (1 ≤ σ 1)) X dX0_isThere_15 ((bI_is1 (by simp; omega))) rfl

set_option maxHeartbeats 4000000 in
theorem m_X0_isPromise (l : Launch) {E : ps_E} (hE : ps_ZT E) {z : Nat} (hZ : ps_Zk E z) {Γ : ps_Gh} {H : Heap} (hW : ps_W E Γ H) {x tr : Nat} {N : Nat → Nat} (hX : Γ x = some (ps_xo x tr N)) {σ : Nat → Nat} {smc : Int32} {sr : Nat} {pf : Nat → Nat} {kf tf : Nat → Int32} {df : Nat → Option Nat} (hD : ps_Sd E z Γ (x + 11) σ smc sr pf kf tf df) (hO : sp_ok σ) {v : Int32} : ps_Ro l E yX0_isPromise cX0_isPromise 2 (some .boolean) 3 52 [.ref (x), .int (v)] H (some (.int (bI (rng v 0 (σ 3))))) := by
  refine ps_Ro.of (by decide) (Nat.le_of_ble_eq_true rfl) ?_
  intro p e s m args below meth c X ls hl
  have hx := X.1
  have hb := X.2.1
  have ho := X.2.2.2.1
  have hts := X.2.2.2.2.1
  have hS : va_S (ps_A E) s.heap H [] := by rw [X.2.2.2.2.2.2.2.2.1]; exact va_S.rf
  have hl : lv_has ls 2 [(0, .ref (x)), (1, .int (v))] := hl
  have hm := hO.m
  refine lv_iload_n hx hb dX0_isPromise_0 rfl (lv_at hl 1 rfl) ?_
  refine lv_i2l (v := (v).toInt64) hx hb dX0_isPromise_1 rfl ?_
  refine lv_lconst (v := lN 0) hx hb dX0_isPromise_2 rfl ?_
  refine lv_aload_n hx hb dX0_isPromise_3 rfl (lv_at hl 0 rfl) ?_
  refine ps_get (v := .ref (x + 11)) X in_X0 (ci := 0) rfl 4 (by decide) q216 rfl (hW.at hX) rfl dX0_isPromise_4 ?_
  refine ps_roV X hE (m_X2_many l hE hZ hW hD hO ) (lw_V q844 q647 q648 q70 q649) (by decide +kernel) ⟨⟨Nat.le_of_ble_eq_true rfl, Nat.le_of_ble_eq_true rfl⟩, Nat.le_of_ble_eq_true rfl, Nat.le_of_ble_eq_true rfl⟩ (ps_rc X (ci := 2) rfl (hW.at hD.1)) hS hl.1 (As := []) (rest := [.long (lN 0), .long ((v).toInt64)]) (n := 0) rfl rfl (Nat.le_of_ble_eq_true rfl) dX0_isPromise_7 ?_
  refine ps_st (st' := [.int (nI (σ 3)), .long (lN 0), .long ((v).toInt64)]) rfl ?_
  refine lv_iconst (v := nI 1) hx hb dX0_isPromise_10 rfl ?_
  refine lv_isub hx hb dX0_isPromise_11 ?_
  refine ps_top (y := nI (σ 3) - nI 1) (rfl) ?_
  refine lv_i2l (v := (nI (σ 3) - nI 1).toInt64) hx hb dX0_isPromise_12 rfl ?_
  refine ps_roS X hE (m_X0_isIn l hE (H := H) (x := v) (lo := 0) (hi := σ 3) (lN_toInt (by decide)) (ps_hcP (by omega))) (lw_S q340 q341 q68 q342) (by decide +kernel) ⟨⟨Nat.le_of_ble_eq_true rfl, Nat.le_of_ble_eq_true rfl⟩, Nat.le_of_ble_eq_true rfl, Nat.le_of_ble_eq_true rfl⟩ hS hl.1 (As := [.long ((v).toInt64), .long (lN 0), .long ((nI (σ 3) - nI 1).toInt64)]) (rest := []) (n := 3) rfl rfl (Nat.le_of_ble_eq_true rfl) dX0_isPromise_13 ?_
  refine ps_st (st' := [.int (bI (rng v 0 (σ 3)))]) rfl ?_
  exact ps_zretR (b := rng v 0 (σ 3)) X dX0_isPromise_16 (rfl) rfl

set_option maxHeartbeats 4000000 in
theorem m_X0_isGiver (l : Launch) {E : ps_E} (hE : ps_ZT E) {z : Nat} (hZ : ps_Zk E z) {Γ : ps_Gh} {H : Heap} (hW : ps_W E Γ H) {x tr : Nat} {N : Nat → Nat} (hX : Γ x = some (ps_xo x tr N)) {σ : Nat → Nat} {smc : Int32} {sr : Nat} {pf : Nat → Nat} {kf tf : Nat → Int32} {df : Nat → Option Nat} (hD : ps_Sd E z Γ (x + 11) σ smc sr pf kf tf df) (hO : sp_ok σ) {v : Int32} : ps_Ro l E yX0_isGiver cX0_isGiver 2 (some .boolean) 2 37 [.ref (x), .int (v)] H (some (.int (bI (rng v 0 (σ 2))))) := by
  refine ps_Ro.of (by decide) (Nat.le_of_ble_eq_true rfl) ?_
  intro p e s m args below meth c X ls hl
  have hx := X.1
  have hb := X.2.1
  have ho := X.2.2.2.1
  have hts := X.2.2.2.2.1
  have hS : va_S (ps_A E) s.heap H [] := by rw [X.2.2.2.2.2.2.2.2.1]; exact va_S.rf
  have hl : lv_has ls 2 [(0, .ref (x)), (1, .int (v))] := hl
  have hm := hO.m
  refine lv_iload_n hx hb dX0_isGiver_0 rfl (lv_at hl 1 rfl) ?_
  refine lv_i2l (v := (v).toInt64) hx hb dX0_isGiver_1 rfl ?_
  refine lv_lconst (v := lN 0) hx hb dX0_isGiver_2 rfl ?_
  refine lv_aload_n hx hb dX0_isGiver_3 rfl (lv_at hl 0 rfl) ?_
  refine ps_get (v := .ref (x + 11)) X in_X0 (ci := 0) rfl 4 (by decide) q216 rfl (hW.at hX) rfl dX0_isGiver_4 ?_
  refine ps_get (v := .int (nI (σ 2))) X in_X2 (ci := 2) rfl 2 (by decide) q170 rfl (hW.at hD.1) rfl dX0_isGiver_7 ?_
  refine lv_iconst (v := nI 1) hx hb dX0_isGiver_10 rfl ?_
  refine lv_isub hx hb dX0_isGiver_11 ?_
  refine ps_top (y := nI (σ 2) - nI 1) (rfl) ?_
  refine lv_i2l (v := (nI (σ 2) - nI 1).toInt64) hx hb dX0_isGiver_12 rfl ?_
  refine ps_roS X hE (m_X0_isIn l hE (H := H) (x := v) (lo := 0) (hi := σ 2) (lN_toInt (by decide)) (ps_hcP (by omega))) (lw_S q340 q341 q68 q342) (by decide +kernel) ⟨⟨Nat.le_of_ble_eq_true rfl, Nat.le_of_ble_eq_true rfl⟩, Nat.le_of_ble_eq_true rfl, Nat.le_of_ble_eq_true rfl⟩ hS hl.1 (As := [.long ((v).toInt64), .long (lN 0), .long ((nI (σ 2) - nI 1).toInt64)]) (rest := []) (n := 3) rfl rfl (Nat.le_of_ble_eq_true rfl) dX0_isGiver_13 ?_
  refine ps_st (st' := [.int (bI (rng v 0 (σ 2)))]) rfl ?_
  exact ps_zretR (b := rng v 0 (σ 2)) X dX0_isGiver_16 (rfl) rfl

set_option maxHeartbeats 4000000 in
theorem m_X0_isSet (l : Launch) {E : ps_E} (hE : ps_ZT E) {z : Nat} (hZ : ps_Zk E z) {Γ : ps_Gh} {H : Heap} (hW : ps_W E Γ H) {x tr : Nat} {N : Nat → Nat} (hX : Γ x = some (ps_xo x tr N)) {σ : Nat → Nat} {smc : Int32} {sr : Nat} {pf : Nat → Nat} {kf tf : Nat → Int32} {df : Nat → Option Nat} (hD : ps_Sd E z Γ (x + 11) σ smc sr pf kf tf df) (hO : sp_ok σ) {v : Int32} : ps_Ro l E yX0_isSet cX0_isSet 2 (some .boolean) 4 72 [.ref (x), .int (v)] H (some (.int (bI (rng v 0 (2 ^ σ 3))))) := by
  refine ps_Ro.of (by decide) (Nat.le_of_ble_eq_true rfl) ?_
  intro p e s m args below meth c X ls hl
  have hx := X.1
  have hb := X.2.1
  have ho := X.2.2.2.1
  have hts := X.2.2.2.2.1
  have hS : va_S (ps_A E) s.heap H [] := by rw [X.2.2.2.2.2.2.2.2.1]; exact va_S.rf
  have hl : lv_has ls 2 [(0, .ref (x)), (1, .int (v))] := hl
  have hm := hO.m
  have hp := ps_p2 (k := σ 3) (by omega)
  refine lv_iload_n hx hb dX0_isSet_0 rfl (lv_at hl 1 rfl) ?_
  refine lv_i2l (v := (v).toInt64) hx hb dX0_isSet_1 rfl ?_
  refine lv_lconst (v := lN 0) hx hb dX0_isSet_2 rfl ?_
  refine lv_aload_n hx hb dX0_isSet_3 rfl (lv_at hl 0 rfl) ?_
  refine ps_get (v := .ref (x + 11)) X in_X0 (ci := 0) rfl 4 (by decide) q216 rfl (hW.at hX) rfl dX0_isSet_4 ?_
  refine ps_roV X hE (m_X2_all l hE hZ hW hD hO ) (lw_V q974 q975 q976 q70 q977) (by decide +kernel) ⟨⟨Nat.le_of_ble_eq_true rfl, Nat.le_of_ble_eq_true rfl⟩, Nat.le_of_ble_eq_true rfl, Nat.le_of_ble_eq_true rfl⟩ (ps_rc X (ci := 2) rfl (hW.at hD.1)) hS hl.1 (As := []) (rest := [.long (lN 0), .long ((v).toInt64)]) (n := 0) rfl rfl (Nat.le_of_ble_eq_true rfl) dX0_isSet_7 ?_
  refine ps_st (st' := [.int (nI (2 ^ σ 3 - 1)), .long (lN 0), .long ((v).toInt64)]) rfl ?_
  refine lv_i2l (v := (nI (2 ^ σ 3 - 1)).toInt64) hx hb dX0_isSet_10 rfl ?_
  refine ps_roS X hE (m_X0_isIn l hE (H := H) (x := v) (lo := 0) (hi := 2 ^ σ 3) (lN_toInt (by decide)) (ps_hcQ hp.1 (by omega))) (lw_S q340 q341 q68 q342) (by decide +kernel) ⟨⟨Nat.le_of_ble_eq_true rfl, Nat.le_of_ble_eq_true rfl⟩, Nat.le_of_ble_eq_true rfl, Nat.le_of_ble_eq_true rfl⟩ hS hl.1 (As := [.long ((v).toInt64), .long (lN 0), .long ((nI (2 ^ σ 3 - 1)).toInt64)]) (rest := []) (n := 3) rfl rfl (Nat.le_of_ble_eq_true rfl) dX0_isSet_11 ?_
  refine ps_st (st' := [.int (bI (rng v 0 (2 ^ σ 3)))]) rfl ?_
  exact ps_zretR (b := rng v 0 (2 ^ σ 3)) X dX0_isSet_14 (rfl) rfl

set_option maxHeartbeats 4000000 in
theorem m_X0_priceOf (l : Launch) {E : ps_E} (hE : ps_ZT E) {z : Nat} (hZ : ps_Zk E z) {Γ : ps_Gh} {H : Heap} (hW : ps_W E Γ H) {x tr : Nat} {N : Nat → Nat} (hX : Γ x = some (ps_xo x tr N)) {σ : Nat → Nat} {smc : Int32} {sr : Nat} {pf : Nat → Nat} {kf tf : Nat → Int32} {df : Nat → Option Nat} (hD : ps_Sd E z Γ (x + 11) σ smc sr pf kf tf df) (hO : sp_ok σ) {k j : Nat} (hk : k < σ 3) (hj : j ≤ 999) : ps_Ro l E yX0_priceOf cX0_priceOf 3 (some .int) 21 641 [.ref (x), .int (nI k), .int (nI j)] H (some (.int (nI (j * sp_w σ (k + 1) / 20)))) := by
  refine ps_Ro.of (by decide) (Nat.le_of_ble_eq_true rfl) ?_
  intro p e s m args below meth c X ls hl
  have hx := X.1
  have hb := X.2.1
  have ho := X.2.2.2.1
  have hts := X.2.2.2.2.1
  have hS : va_S (ps_A E) s.heap H [] := by rw [X.2.2.2.2.2.2.2.2.1]; exact va_S.rf
  have hl : lv_has ls 3 [(0, .ref (x)), (1, .int (nI k)), (2, .int (nI j))] := hl
  have hm := hO.m
  have hw := sp_w_le hO (k := k + 1) (by omega)
  have h5 := sp_mul hj hw
  refine lv_iload_n hx hb dX0_priceOf_0 rfl (lv_at hl 2 rfl) ?_
  refine lv_aload_n hx hb dX0_priceOf_1 rfl (lv_at hl 0 rfl) ?_
  refine ps_get (v := .ref (x + 11)) X in_X0 (ci := 0) rfl 4 (by decide) q216 rfl (hW.at hX) rfl dX0_priceOf_2 ?_
  refine lv_iload_n hx hb dX0_priceOf_5 rfl (lv_at hl 1 rfl) ?_
  refine ps_roV X hE (m_X2_weight l hE hZ hW hD hO (k := k) (by omega)) (lw_V q957 q883 q884 q70 q885) (by decide +kernel) ⟨⟨Nat.le_of_ble_eq_true rfl, Nat.le_of_ble_eq_true rfl⟩, Nat.le_of_ble_eq_true rfl, Nat.le_of_ble_eq_true rfl⟩ (ps_rc X (ci := 2) rfl (hW.at hD.1)) hS hl.1 (As := [.int (nI k)]) (rest := [.int (nI j)]) (n := 1) rfl rfl (Nat.le_of_ble_eq_true rfl) dX0_priceOf_6 ?_
  refine ps_st (st' := [.int (nI (sp_w σ (k + 1))), .int (nI j)]) rfl ?_
  refine ps_imul hx hb dX0_priceOf_9 ?_
  refine lv_bipush (v := nI 20) hx hb dX0_priceOf_10 rfl ?_
  refine ps_idiv hx hb dX0_priceOf_12 (by omega) ?_
  exact ps_iretR X dX0_priceOf_13 (congrArg (fun z => some (Value.int z)) (congrArg nI (by first | rfl | (simp []; done) | (simp []; omega) | omega)))

set_option maxHeartbeats 4000000 in
theorem m_X0_promise (l : Launch) {E : ps_E} (hE : ps_ZT E) {z : Nat} (hZ : ps_Zk E z) {Γ : ps_Gh} {H : Heap} (hW : ps_W E Γ H) {x tr : Nat} {N : Nat → Nat} (hX : Γ x = some (ps_xo x tr N)) {σ : Nat → Nat} {smc : Int32} {sr : Nat} {pf : Nat → Nat} {kf tf : Nat → Int32} {df : Nat → Option Nat} (hD : ps_Sd E z Γ (x + 11) σ smc sr pf kf tf df) (hO : sp_ok σ) {v y : Int32} : ps_Ro l E yX0_promise cX0_promise 4 (some .int) 21 641 [.ref (x), .int (v), .int (y)] H (some (.int (op_promise σ v y))) := by
  refine ps_Ro.of (by decide) (Nat.le_of_ble_eq_true rfl) ?_
  intro p e s m args below meth c X ls hl
  have hx := X.1
  have hb := X.2.1
  have ho := X.2.2.2.1
  have hts := X.2.2.2.2.1
  have hS : va_S (ps_A E) s.heap H [] := by rw [X.2.2.2.2.2.2.2.2.1]; exact va_S.rf
  have hl : lv_has ls 4 [(0, .ref (x)), (1, .int (v)), (2, .int (y))] := hl
  have hm := hO.m
  refine lv_aload_n hx hb dX0_promise_0 rfl (lv_at hl 0 rfl) ?_
  refine lv_iload_n hx hb dX0_promise_1 rfl (lv_at hl 1 rfl) ?_
  refine ps_roV X hE (m_X0_isPromise l hE hZ hW hX hD hO (v := v)) (lw_V q853 q855 qs18 q68 q856) (by decide +kernel) ⟨⟨Nat.le_of_ble_eq_true rfl, Nat.le_of_ble_eq_true rfl⟩, Nat.le_of_ble_eq_true rfl, Nat.le_of_ble_eq_true rfl⟩ (ps_rc X (ci := 0) rfl (hW.at hX)) hS hl.1 (As := [.int (v)]) (rest := []) (n := 1) rfl rfl (Nat.le_of_ble_eq_true rfl) dX0_promise_2 ?_
  refine ps_st (st' := [.int (bI (rng v 0 (σ 3)))]) rfl ?_
  refine ps_ifneB (tgt := 11) hx hb dX0_promise_5 (by decide) (fun c_5 => ?_) (fun c_5 => ?_)
  · skip
    obtain ⟨k, rfl, k_lo, k_hi, k_b⟩ := rng_t c_5
    have cl_k : (nI k).toNatClampNeg = k := nI_clamp (by omega)
    have hp := hO.p k_hi
    have hh := hO.h (p := k) (by omega)
    refine lv_aload_n hx hb dX0_promise_11 rfl (lv_at hl 0 rfl) ?_
    refine ps_get (v := .ref (x + 11)) X in_X0 (ci := 0) rfl 4 (by decide) q216 rfl (hW.at hX) rfl dX0_promise_12 ?_
    refine lv_iload_n hx hb dX0_promise_15 rfl (lv_at hl 1 rfl) ?_
    refine ps_roV X hE (m_X2_promise l hE hZ hW hD hO (k := k) (by omega)) (lw_V q930 q888 q889 q70 q890) (by decide +kernel) ⟨⟨Nat.le_of_ble_eq_true rfl, Nat.le_of_ble_eq_true rfl⟩, Nat.le_of_ble_eq_true rfl, Nat.le_of_ble_eq_true rfl⟩ (ps_rc X (ci := 2) rfl (hW.at hD.1)) hS hl.1 (As := [.int (nI k)]) (rest := []) (n := 1) rfl rfl (Nat.le_of_ble_eq_true rfl) dX0_promise_16 ?_
    refine ps_st (st' := [.ref (pf k)]) rfl ?_
    refine lv_astore_n (lv' := [(3, .ref (pf k)), (0, .ref (x)), (1, .int (nI k)), (2, .int (y))]) hx hb dX0_promise_19 rfl hl (by decide) rfl (fun ls hl => ?_)
    refine lv_iload_n hx hb dX0_promise_20 rfl (lv_at hl 3 rfl) ?_
    rcases Bool.eq_false_or_eq_true (rng y 0 7) with c_21 | c_21
    · skip
      obtain ⟨j1, rfl, j1_lo, j1_hi, j1_b⟩ := rng_t c_21
      have cl_j1 : (nI j1).toNatClampNeg = j1 := nI_clamp (by omega)
      by_cases e_0 : j1 = 0
      · subst e_0
        refine lv_tableIn (off := 43) (tgt := 64) hx hb dX0_promise_21 (by decide) (by decide) (by decide) (by decide) ?_
        refine lv_aload_n hx hb dX0_promise_64 rfl (lv_at hl 0 rfl) ?_
        refine ps_pget (v := .int (nI (σ (17 + k)))) X (hO.p (p := k) (by omega)).1 2 (by decide) q676 (hW.at (hD.2.2.2.2.2.2.2.2 k (by omega))) rfl dX0_promise_65 ?_
        exact ps_iretR X dX0_promise_68 (congrArg (fun z => some (Value.int z)) (by simp [op_promise, sp_prom, c_5, cl_k, c_21, cl_j1]))
      by_cases e_1 : j1 = 1
      · subst e_1
        refine lv_tableIn (off := 48) (tgt := 69) hx hb dX0_promise_21 (by decide) (by decide) (by decide) (by decide) ?_
        refine lv_aload_n hx hb dX0_promise_69 rfl (lv_at hl 0 rfl) ?_
        refine ps_pget (v := .int (nI (σ (25 + k)))) X (hO.p (p := k) (by omega)).1 3 (by decide) q679 (hW.at (hD.2.2.2.2.2.2.2.2 k (by omega))) rfl dX0_promise_70 ?_
        exact ps_iretR X dX0_promise_73 (congrArg (fun z => some (Value.int z)) (by simp [op_promise, sp_prom, c_5, cl_k, c_21, cl_j1]))
      by_cases e_2 : j1 = 2
      · subst e_2
        refine lv_tableIn (off := 53) (tgt := 74) hx hb dX0_promise_21 (by decide) (by decide) (by decide) (by decide) ?_
        refine lv_aload_n hx hb dX0_promise_74 rfl (lv_at hl 0 rfl) ?_
        refine ps_pget (v := .int (nI (σ (33 + k)))) X (hO.p (p := k) (by omega)).1 4 (by decide) q682 (hW.at (hD.2.2.2.2.2.2.2.2 k (by omega))) rfl dX0_promise_75 ?_
        exact ps_iretR X dX0_promise_78 (congrArg (fun z => some (Value.int z)) (by simp [op_promise, sp_prom, c_5, cl_k, c_21, cl_j1]))
      by_cases e_3 : j1 = 3
      · subst e_3
        refine lv_tableIn (off := 58) (tgt := 79) hx hb dX0_promise_21 (by decide) (by decide) (by decide) (by decide) ?_
        refine lv_aload_n hx hb dX0_promise_79 rfl (lv_at hl 0 rfl) ?_
        refine ps_likely  X hE hZ hW (hD.2.2.2.2.2.2.2.2 k (by omega)) (hO.p (p := k) (by omega)).1 q948 ⟨⟨Nat.le_of_ble_eq_true rfl, Nat.le_of_ble_eq_true rfl⟩, Nat.le_of_ble_eq_true rfl, Nat.le_of_ble_eq_true rfl⟩ hS hl.1 (Nat.le_of_ble_eq_true rfl) dX0_promise_80 ?_
        exact ps_iretR X dX0_promise_83 (congrArg (fun z => some (Value.int z)) (by simp [op_promise, sp_prom, c_5, cl_k, c_21, cl_j1]))
      by_cases e_4 : j1 = 4
      · subst e_4
        refine lv_tableIn (off := 63) (tgt := 84) hx hb dX0_promise_21 (by decide) (by decide) (by decide) (by decide) ?_
        refine lv_aload_n hx hb dX0_promise_84 rfl (lv_at hl 1 rfl) ?_
        refine ps_get (v := .ref (x + 11)) X in_X0 (ci := 0) rfl 4 (by decide) q216 rfl (hW.at hX) rfl dX0_promise_85 ?_
        refine lv_iload_n hx hb dX0_promise_88 rfl (lv_at hl 2 rfl) ?_
        refine ps_roV X hE (m_X2_weight l hE hZ hW hD hO (k := k) (by omega)) (lw_V q957 q883 q884 q70 q885) (by decide +kernel) ⟨⟨Nat.le_of_ble_eq_true rfl, Nat.le_of_ble_eq_true rfl⟩, Nat.le_of_ble_eq_true rfl, Nat.le_of_ble_eq_true rfl⟩ (ps_rc X (ci := 2) rfl (hW.at hD.1)) hS hl.1 (As := [.int (nI k)]) (rest := []) (n := 1) rfl rfl (Nat.le_of_ble_eq_true rfl) dX0_promise_89 ?_
        refine ps_st (st' := [.int (nI (sp_w σ (k + 1)))]) rfl ?_
        exact ps_iretR X dX0_promise_92 (congrArg (fun z => some (Value.int z)) (by simp [op_promise, sp_prom, c_5, cl_k, c_21, cl_j1]))
      by_cases e_5 : j1 = 5
      · subst e_5
        refine lv_tableIn (off := 72) (tgt := 93) hx hb dX0_promise_21 (by decide) (by decide) (by decide) (by decide) ?_
        refine lv_aload_n hx hb dX0_promise_93 rfl (lv_at hl 1 rfl) ?_
        refine ps_get (v := .ref (x + 11)) X in_X0 (ci := 0) rfl 4 (by decide) q216 rfl (hW.at hX) rfl dX0_promise_94 ?_
        refine ps_get (v := .ref (x + 11 + 3)) X in_X2 (ci := 2) rfl 5 (by decide) q177 rfl (hW.at hD.1) rfl dX0_promise_97 ?_
        refine lv_iload_n hx hb dX0_promise_100 rfl (lv_at hl 2 rfl) ?_
        refine ps_iald (j := k) X (hW.at hD.2.2.2.2.1) rfl (by show k < 8; omega) (by first | decide | omega) dX0_promise_101 ?_
        refine ps_top (y := nI (σ (49 + k))) (hD.2.2.2.2.2.1 _ (by show k < 8; omega)) ?_
        exact ps_iretR X dX0_promise_102 (congrArg (fun z => some (Value.int z)) (by simp [op_promise, sp_prom, c_5, cl_k, c_21, cl_j1]))
      obtain rfl : j1 = 6 := by omega
      refine lv_tableIn (off := 82) (tgt := 103) hx hb dX0_promise_21 (by decide) (by decide) (by decide) (by decide) ?_
      refine lv_aload_n hx hb dX0_promise_103 rfl (lv_at hl 1 rfl) ?_
      refine ps_get (v := .ref (x + 11)) X in_X0 (ci := 0) rfl 4 (by decide) q216 rfl (hW.at hX) rfl dX0_promise_104 ?_
      refine ps_get (v := .int (nI (σ 4))) X in_X2 (ci := 2) rfl 6 (by decide) q179 rfl (hW.at hD.1) rfl dX0_promise_107 ?_
      refine lv_iload_n hx hb dX0_promise_110 rfl (lv_at hl 2 rfl) ?_
      refine lv_ishr hx hb dX0_promise_111 ?_
      refine ps_top (y := nI ((σ 4) / 2 ^ k)) (ps_shr (by omega) (by omega)) ?_
      refine lv_iconst (v := nI 1) hx hb dX0_promise_112 rfl ?_
      refine lv_iand hx hb dX0_promise_113 ?_
      refine ps_top (y := nI (((σ 4) / 2 ^ k) % 2)) (ps_and1 (ps_divlt (by omega))) ?_
      exact ps_iretR X dX0_promise_114 (congrArg (fun z => some (Value.int z)) (by simp [op_promise, sp_prom, c_5, cl_k, c_21, cl_j1]))
    · skip
      refine lv_tableOut (tgt := 115) hx hb dX0_promise_21 (ps_rng_out c_21) (by decide) ?_
      refine lv_ldc (v := -1000001) hx hb ho (hts _ q344) dX0_promise_115 ?_
      exact ps_iretR X dX0_promise_117 (congrArg (fun z => some (Value.int z)) (by simp [op_promise, sp_prom, c_5, cl_k, c_21]))
  · skip
    refine lv_ldc (v := -1000001) hx hb ho (hts _ q344) dX0_promise_8 ?_
    exact ps_iretR X dX0_promise_10 (congrArg (fun z => some (Value.int z)) (by simp [op_promise, sp_prom, c_5]))

set_option maxHeartbeats 4000000 in
theorem m_X0_keeps (l : Launch) {E : ps_E} (hE : ps_ZT E) {z : Nat} (hZ : ps_Zk E z) {Γ : ps_Gh} {H : Heap} (hW : ps_W E Γ H) {x tr : Nat} {N : Nat → Nat} (hX : Γ x = some (ps_xo x tr N)) {σ : Nat → Nat} {smc : Int32} {sr : Nat} {pf : Nat → Nat} {kf tf : Nat → Int32} {df : Nat → Option Nat} (hD : ps_Sd E z Γ (x + 11) σ smc sr pf kf tf df) (hO : sp_ok σ) {v : Int32} : ps_Ro l E yX0_keeps cX0_keeps 2 (some .int) 3 58 [.ref (x), .int (v)] H (some (.int (op_keeps σ v))) := by
  refine ps_Ro.of (by decide) (Nat.le_of_ble_eq_true rfl) ?_
  intro p e s m args below meth c X ls hl
  have hx := X.1
  have hb := X.2.1
  have ho := X.2.2.2.1
  have hts := X.2.2.2.2.1
  have hS : va_S (ps_A E) s.heap H [] := by rw [X.2.2.2.2.2.2.2.2.1]; exact va_S.rf
  have hl : lv_has ls 2 [(0, .ref (x)), (1, .int (v))] := hl
  have hm := hO.m
  refine lv_aload_n hx hb dX0_keeps_0 rfl (lv_at hl 0 rfl) ?_
  refine lv_iload_n hx hb dX0_keeps_1 rfl (lv_at hl 1 rfl) ?_
  refine ps_roV X hE (m_X0_isGiver l hE hZ hW hX hD hO (v := v)) (lw_V q962 q964 qs21 q68 q965) (by decide +kernel) ⟨⟨Nat.le_of_ble_eq_true rfl, Nat.le_of_ble_eq_true rfl⟩, Nat.le_of_ble_eq_true rfl, Nat.le_of_ble_eq_true rfl⟩ (ps_rc X (ci := 0) rfl (hW.at hX)) hS hl.1 (As := [.int (v)]) (rest := []) (n := 1) rfl rfl (Nat.le_of_ble_eq_true rfl) dX0_keeps_2 ?_
  refine ps_st (st' := [.int (bI (rng v 0 (σ 2)))]) rfl ?_
  refine ps_ifeqB (tgt := 20) hx hb dX0_keeps_5 (by decide) (fun c_5 => ?_) (fun c_5 => ?_)
  · skip
    refine lv_ldc (v := -1000001) hx hb ho (hts _ q344) dX0_keeps_20 ?_
    exact ps_iretR X dX0_keeps_22 (congrArg (fun z => some (Value.int z)) (by simp [op_keeps, c_5]))
  · skip
    obtain ⟨k, rfl, k_lo, k_hi, k_b⟩ := rng_t c_5
    have cl_k : (nI k).toNatClampNeg = k := nI_clamp (by omega)
    refine lv_aload_n hx hb dX0_keeps_8 rfl (lv_at hl 0 rfl) ?_
    refine ps_get (v := .ref (x + 11)) X in_X0 (ci := 0) rfl 4 (by decide) q216 rfl (hW.at hX) rfl dX0_keeps_9 ?_
    refine ps_get (v := .ref (x + 11 + 1)) X in_X2 (ci := 2) rfl 3 (by decide) q173 rfl (hW.at hD.1) rfl dX0_keeps_12 ?_
    refine lv_iload_n hx hb dX0_keeps_15 rfl (lv_at hl 1 rfl) ?_
    refine ps_iald (j := k) X (hW.at hD.2.1) rfl (by show k < 4; omega) (by first | decide | omega) dX0_keeps_16 ?_
    refine ps_top (y := nI (σ (5 + k))) (hD.2.2.1 _ (by show k < 4; omega)) ?_
    refine lv_goto (tgt := 22) hx hb dX0_keeps_17 (by decide) ?_
    exact ps_iretR X dX0_keeps_22 (congrArg (fun z => some (Value.int z)) (by simp [op_keeps, c_5, cl_k]))

set_option maxHeartbeats 4000000 in
theorem m_X0_reads (l : Launch) {E : ps_E} (hE : ps_ZT E) {z : Nat} (hZ : ps_Zk E z) {Γ : ps_Gh} {H : Heap} (hW : ps_W E Γ H) {x tr : Nat} {N : Nat → Nat} (hX : Γ x = some (ps_xo x tr N)) {σ : Nat → Nat} {smc : Int32} {sr : Nat} {pf : Nat → Nat} {kf tf : Nat → Int32} {df : Nat → Option Nat} (hD : ps_Sd E z Γ (x + 11) σ smc sr pf kf tf df) (hO : sp_ok σ) {v : Int32} : ps_Ro l E yX0_reads cX0_reads 2 (some .int) 23 685 [.ref (x), .int (v)] H (some (.int (op_reads σ v))) := by
  refine ps_Ro.of (by decide) (Nat.le_of_ble_eq_true rfl) ?_
  intro p e s m args below meth c X ls hl
  have hx := X.1
  have hb := X.2.1
  have ho := X.2.2.2.1
  have hts := X.2.2.2.2.1
  have hS : va_S (ps_A E) s.heap H [] := by rw [X.2.2.2.2.2.2.2.2.1]; exact va_S.rf
  have hl : lv_has ls 2 [(0, .ref (x)), (1, .int (v))] := hl
  have hm := hO.m
  refine lv_aload_n hx hb dX0_reads_0 rfl (lv_at hl 0 rfl) ?_
  refine ps_roV X hE (m_X0_isThere l hE hZ hW hX hD hO ) (lw_V q935 q937 qs20 q68 q938) (by decide +kernel) ⟨⟨Nat.le_of_ble_eq_true rfl, Nat.le_of_ble_eq_true rfl⟩, Nat.le_of_ble_eq_true rfl, Nat.le_of_ble_eq_true rfl⟩ (ps_rc X (ci := 0) rfl (hW.at hX)) hS hl.1 (As := []) (rest := []) (n := 0) rfl rfl (Nat.le_of_ble_eq_true rfl) dX0_reads_1 ?_
  refine ps_st (st' := [.int (bI (decide (1 ≤ σ 1)))]) rfl ?_
  refine ps_ifneB (tgt := 10) hx hb dX0_reads_4 (by decide) (fun c_4 => ?_) (fun c_4 => ?_)
  · skip
    have h1 : 1 ≤ σ 1 := of_decide_eq_true c_4
    have h1' : ¬ σ 1 = 0 := by omega
    refine lv_aload_n hx hb dX0_reads_10 rfl (lv_at hl 0 rfl) ?_
    refine lv_iload_n hx hb dX0_reads_11 rfl (lv_at hl 1 rfl) ?_
    refine ps_roV X hE (m_X0_isSet l hE hZ hW hX hD hO (v := v)) (lw_V q970 q972 qs22 q68 q973) (by decide +kernel) ⟨⟨Nat.le_of_ble_eq_true rfl, Nat.le_of_ble_eq_true rfl⟩, Nat.le_of_ble_eq_true rfl, Nat.le_of_ble_eq_true rfl⟩ (ps_rc X (ci := 0) rfl (hW.at hX)) hS hl.1 (As := [.int (v)]) (rest := []) (n := 1) rfl rfl (Nat.le_of_ble_eq_true rfl) dX0_reads_12 ?_
    refine ps_st (st' := [.int (bI (rng v 0 (2 ^ σ 3)))]) rfl ?_
    refine ps_ifeqB (tgt := 29) hx hb dX0_reads_15 (by decide) (fun c_15 => ?_) (fun c_15 => ?_)
    · skip
      refine lv_ldc (v := -1000001) hx hb ho (hts _ q344) dX0_reads_29 ?_
      exact ps_iretR X dX0_reads_31 (congrArg (fun z => some (Value.int z)) (by simp [op_reads, h1, h1', c_15]))
    · skip
      obtain ⟨k, rfl, k_lo, k_hi, k_b⟩ := rng_t c_15
      have cl_k : (nI k).toNatClampNeg = k := nI_clamp (by omega)
      have h2 := ps_p2 (k := σ 3) (by omega)
      refine lv_aload_n hx hb dX0_reads_18 rfl (lv_at hl 0 rfl) ?_
      refine ps_get (v := .ref (x + 11)) X in_X0 (ci := 0) rfl 4 (by decide) q216 rfl (hW.at hX) rfl dX0_reads_19 ?_
      refine lv_iload_n hx hb dX0_reads_22 rfl (lv_at hl 1 rfl) ?_
      refine ps_roV X hE (m_X2_reads l hE hZ hW hD hO (u := k) (by omega) h1) (lw_V q872 q873 q874 q70 q875) (by decide +kernel) ⟨⟨Nat.le_of_ble_eq_true rfl, Nat.le_of_ble_eq_true rfl⟩, Nat.le_of_ble_eq_true rfl, Nat.le_of_ble_eq_true rfl⟩ (ps_rc X (ci := 2) rfl (hW.at hD.1)) hS hl.1 (As := [.int (nI k)]) (rest := []) (n := 1) rfl rfl (Nat.le_of_ble_eq_true rfl) dX0_reads_23 ?_
      refine ps_st (st' := [.int (nI (sp_read σ k))]) rfl ?_
      refine lv_goto (tgt := 31) hx hb dX0_reads_26 (by decide) ?_
      exact ps_iretR X dX0_reads_31 (congrArg (fun z => some (Value.int z)) (by simp [op_reads, h1, h1', c_15, cl_k]))
  · skip
    have h1 : ¬ 1 ≤ σ 1 := of_decide_eq_false c_4
    have h1' : σ 1 = 0 := by omega
    refine lv_ldc (v := -1000002) hx hb ho (hts _ q867) dX0_reads_7 ?_
    exact ps_iretR X dX0_reads_9 (congrArg (fun z => some (Value.int z)) (by simp [op_reads, h1']))

set_option maxHeartbeats 4000000 in
theorem m_X0_kind (l : Launch) {E : ps_E} (hE : ps_ZT E) {z : Nat} (hZ : ps_Zk E z) {Γ : ps_Gh} {H : Heap} (hW : ps_W E Γ H) {x tr : Nat} {N : Nat → Nat} (hX : Γ x = some (ps_xo x tr N)) {σ : Nat → Nat} {smc : Int32} {sr : Nat} {pf : Nat → Nat} {kf tf : Nat → Int32} {df : Nat → Option Nat} (hD : ps_Sd E z Γ (x + 11) σ smc sr pf kf tf df) (hO : sp_ok σ) {v : Int32} : ps_Ro l E yX0_kind cX0_kind 2 (some .int) 5 97 [.ref (x), .int (v)] H (some (.int (op_kind σ v))) := by
  refine ps_Ro.of (by decide) (Nat.le_of_ble_eq_true rfl) ?_
  intro p e s m args below meth c X ls hl
  have hx := X.1
  have hb := X.2.1
  have ho := X.2.2.2.1
  have hts := X.2.2.2.2.1
  have hS : va_S (ps_A E) s.heap H [] := by rw [X.2.2.2.2.2.2.2.2.1]; exact va_S.rf
  have hl : lv_has ls 2 [(0, .ref (x)), (1, .int (v))] := hl
  have hm := hO.m
  refine lv_aload_n hx hb dX0_kind_0 rfl (lv_at hl 0 rfl) ?_
  refine lv_iload_n hx hb dX0_kind_1 rfl (lv_at hl 1 rfl) ?_
  refine ps_roV X hE (m_X0_isPromise l hE hZ hW hX hD hO (v := v)) (lw_V q853 q855 qs18 q68 q856) (by decide +kernel) ⟨⟨Nat.le_of_ble_eq_true rfl, Nat.le_of_ble_eq_true rfl⟩, Nat.le_of_ble_eq_true rfl, Nat.le_of_ble_eq_true rfl⟩ (ps_rc X (ci := 0) rfl (hW.at hX)) hS hl.1 (As := [.int (v)]) (rest := []) (n := 1) rfl rfl (Nat.le_of_ble_eq_true rfl) dX0_kind_2 ?_
  refine ps_st (st' := [.int (bI (rng v 0 (σ 3)))]) rfl ?_
  refine ps_ifeqB (tgt := 22) hx hb dX0_kind_5 (by decide) (fun c_5 => ?_) (fun c_5 => ?_)
  · skip
    refine lv_ldc (v := -1000001) hx hb ho (hts _ q344) dX0_kind_22 ?_
    exact ps_iretR X dX0_kind_24 (congrArg (fun z => some (Value.int z)) (by simp [op_kind, c_5]))
  · skip
    obtain ⟨k, rfl, k_lo, k_hi, k_b⟩ := rng_t c_5
    have cl_k : (nI k).toNatClampNeg = k := nI_clamp (by omega)
    have hp := hO.p k_hi
    refine lv_aload_n hx hb dX0_kind_8 rfl (lv_at hl 0 rfl) ?_
    refine ps_get (v := .ref (x + 11)) X in_X0 (ci := 0) rfl 4 (by decide) q216 rfl (hW.at hX) rfl dX0_kind_9 ?_
    refine lv_iload_n hx hb dX0_kind_12 rfl (lv_at hl 1 rfl) ?_
    refine ps_roV X hE (m_X2_promise l hE hZ hW hD hO (k := k) (by omega)) (lw_V q930 q888 q889 q70 q890) (by decide +kernel) ⟨⟨Nat.le_of_ble_eq_true rfl, Nat.le_of_ble_eq_true rfl⟩, Nat.le_of_ble_eq_true rfl, Nat.le_of_ble_eq_true rfl⟩ (ps_rc X (ci := 2) rfl (hW.at hD.1)) hS hl.1 (As := [.int (nI k)]) (rest := []) (n := 1) rfl rfl (Nat.le_of_ble_eq_true rfl) dX0_kind_13 ?_
    refine ps_st (st' := [.ref (pf k)]) rfl ?_
    refine ps_kind  X hE hZ hW (hD.2.2.2.2.2.2.2.2 k (by omega)) (hO.p (p := k) (by omega)).1 q1083 ⟨⟨Nat.le_of_ble_eq_true rfl, Nat.le_of_ble_eq_true rfl⟩, Nat.le_of_ble_eq_true rfl, Nat.le_of_ble_eq_true rfl⟩ hS hl.1 (Nat.le_of_ble_eq_true rfl) dX0_kind_16 ?_
    refine lv_goto (tgt := 24) hx hb dX0_kind_19 (by decide) ?_
    exact ps_iretR X dX0_kind_24 (congrArg (fun z => some (Value.int z)) (by simp [op_kind, c_5, cl_k]))

set_option maxHeartbeats 4000000 in
theorem m_X0_price (l : Launch) {E : ps_E} (hE : ps_ZT E) {z : Nat} (hZ : ps_Zk E z) {Γ : ps_Gh} {H : Heap} (hW : ps_W E Γ H) {x tr : Nat} {N : Nat → Nat} (hX : Γ x = some (ps_xo x tr N)) {σ : Nat → Nat} {smc : Int32} {sr : Nat} {pf : Nat → Nat} {kf tf : Nat → Int32} {df : Nat → Option Nat} (hD : ps_Sd E z Γ (x + 11) σ smc sr pf kf tf df) (hO : sp_ok σ) {v y : Int32} : ps_Ro l E yX0_price cX0_price 3 (some .int) 22 663 [.ref (x), .int (v), .int (y)] H (some (.int (op_price σ v y))) := by
  refine ps_Ro.of (by decide) (Nat.le_of_ble_eq_true rfl) ?_
  intro p e s m args below meth c X ls hl
  have hx := X.1
  have hb := X.2.1
  have ho := X.2.2.2.1
  have hts := X.2.2.2.2.1
  have hS : va_S (ps_A E) s.heap H [] := by rw [X.2.2.2.2.2.2.2.2.1]; exact va_S.rf
  have hl : lv_has ls 3 [(0, .ref (x)), (1, .int (v)), (2, .int (y))] := hl
  have hm := hO.m
  refine lv_aload_n hx hb dX0_price_0 rfl (lv_at hl 0 rfl) ?_
  refine lv_iload_n hx hb dX0_price_1 rfl (lv_at hl 1 rfl) ?_
  refine ps_roV X hE (m_X0_isPromise l hE hZ hW hX hD hO (v := v)) (lw_V q853 q855 qs18 q68 q856) (by decide +kernel) ⟨⟨Nat.le_of_ble_eq_true rfl, Nat.le_of_ble_eq_true rfl⟩, Nat.le_of_ble_eq_true rfl, Nat.le_of_ble_eq_true rfl⟩ (ps_rc X (ci := 0) rfl (hW.at hX)) hS hl.1 (As := [.int (v)]) (rest := []) (n := 1) rfl rfl (Nat.le_of_ble_eq_true rfl) dX0_price_2 ?_
  refine ps_st (st' := [.int (bI (rng v 0 (σ 3)))]) rfl ?_
  refine ps_ifeqB (tgt := 29) hx hb dX0_price_5 (by decide) (fun c_5 => ?_) (fun c_5 => ?_)
  · skip
    refine lv_ldc (v := -1000001) hx hb ho (hts _ q344) dX0_price_29 ?_
    exact ps_iretR X dX0_price_31 (congrArg (fun z => some (Value.int z)) (by simp [op_price, c_5]))
  · skip
    obtain ⟨k, rfl, k_lo, k_hi, k_b⟩ := rng_t c_5
    have cl_k : (nI k).toNatClampNeg = k := nI_clamp (by omega)
    refine lv_iload_n hx hb dX0_price_8 rfl (lv_at hl 2 rfl) ?_
    refine lv_i2l (v := (y).toInt64) hx hb dX0_price_9 rfl ?_
    refine lv_lconst (v := lN 0) hx hb dX0_price_10 rfl ?_
    refine lv_ldc2 (v := 999) hx hb ho (hts _ q1027) dX0_price_11 ?_
    refine ps_roS X hE (m_X0_isIn l hE (H := H) (x := y) (lo := 0) (hi := 1000) (lN_toInt (by decide)) (ps_hcL (k := 999) (by decide +kernel))) (lw_S q340 q341 q68 q342) (by decide +kernel) ⟨⟨Nat.le_of_ble_eq_true rfl, Nat.le_of_ble_eq_true rfl⟩, Nat.le_of_ble_eq_true rfl, Nat.le_of_ble_eq_true rfl⟩ hS hl.1 (As := [.long ((y).toInt64), .long (lN 0), .long (999)]) (rest := []) (n := 3) rfl rfl (Nat.le_of_ble_eq_true rfl) dX0_price_14 ?_
    refine ps_st (st' := [.int (bI (rng y 0 1000))]) rfl ?_
    refine ps_ifeqB (tgt := 29) hx hb dX0_price_17 (by decide) (fun c_17 => ?_) (fun c_17 => ?_)
    · skip
      refine lv_ldc (v := -1000001) hx hb ho (hts _ q344) dX0_price_29 ?_
      exact ps_iretR X dX0_price_31 (congrArg (fun z => some (Value.int z)) (by simp [op_price, c_5, cl_k, c_17]))
    · skip
      obtain ⟨j, rfl, j_lo, j_hi, j_b⟩ := rng_t c_17
      have cl_j : (nI j).toNatClampNeg = j := nI_clamp (by omega)
      have hw := sp_w_le hO (k := k + 1) (by omega)
      have h5 := sp_mul (show j ≤ 999 by omega) hw
      refine lv_aload_n hx hb dX0_price_20 rfl (lv_at hl 0 rfl) ?_
      refine lv_iload_n hx hb dX0_price_21 rfl (lv_at hl 1 rfl) ?_
      refine lv_iload_n hx hb dX0_price_22 rfl (lv_at hl 2 rfl) ?_
      refine ps_roV X hE (m_X0_priceOf l hE hZ hW hX hD hO (k := k) (j := j) (by omega) (by omega)) (lw_V q1028 q1030 qs25 q68 q1031) (by decide +kernel) ⟨⟨Nat.le_of_ble_eq_true rfl, Nat.le_of_ble_eq_true rfl⟩, Nat.le_of_ble_eq_true rfl, Nat.le_of_ble_eq_true rfl⟩ (ps_rc X (ci := 0) rfl (hW.at hX)) hS hl.1 (As := [.int (nI k), .int (nI j)]) (rest := []) (n := 2) rfl rfl (Nat.le_of_ble_eq_true rfl) dX0_price_23 ?_
      refine ps_st (st' := [.int (nI (j * sp_w σ (k + 1) / 20))]) rfl ?_
      refine lv_goto (tgt := 31) hx hb dX0_price_26 (by decide) ?_
      exact ps_iretR X dX0_price_31 (congrArg (fun z => some (Value.int z)) (by simp [op_price, c_5, cl_k, c_17, cl_j]))

set_option maxHeartbeats 4000000 in
theorem m_X0_isPlainOf (l : Launch) {E : ps_E} (hE : ps_ZT E) {z : Nat} (hZ : ps_Zk E z) {Γ : ps_Gh} {H : Heap} (hW : ps_W E Γ H) {x tr : Nat} {N : Nat → Nat} (hX : Γ x = some (ps_xo x tr N)) {σ : Nat → Nat} {smc : Int32} {sr : Nat} {pf : Nat → Nat} {kf tf : Nat → Int32} {df : Nat → Option Nat} (hD : ps_Sd E z Γ (x + 11) σ smc sr pf kf tf df) (hO : sp_ok σ) {k g : Nat} (hk : k < σ 3) (hg : g < 4) : ps_Ro l E yX0_isPlainOf cX0_isPlainOf 3 (some .boolean) 5 97 [.ref (x), .int (nI g), .int (nI k)] H (some (.int (bI (sp_plk σ g k)))) := by
  refine ps_Ro.of (by decide) (Nat.le_of_ble_eq_true rfl) ?_
  intro p e s m args below meth c X ls hl
  have hx := X.1
  have hb := X.2.1
  have ho := X.2.2.2.1
  have hts := X.2.2.2.2.1
  have hS : va_S (ps_A E) s.heap H [] := by rw [X.2.2.2.2.2.2.2.2.1]; exact va_S.rf
  have hl : lv_has ls 3 [(0, .ref (x)), (1, .int (nI g)), (2, .int (nI k))] := hl
  have hm := hO.m
  have hp := hO.p hk
  refine lv_aload_n hx hb dX0_isPlainOf_0 rfl (lv_at hl 0 rfl) ?_
  refine ps_get (v := .ref (x + 11)) X in_X0 (ci := 0) rfl 4 (by decide) q216 rfl (hW.at hX) rfl dX0_isPlainOf_1 ?_
  refine lv_iload_n hx hb dX0_isPlainOf_4 rfl (lv_at hl 2 rfl) ?_
  refine ps_roV X hE (m_X2_isOpen l hE hZ hW hD hO (k := k) (by omega)) (lw_V q860 q861 q862 q70 q863) (by decide +kernel) ⟨⟨Nat.le_of_ble_eq_true rfl, Nat.le_of_ble_eq_true rfl⟩, Nat.le_of_ble_eq_true rfl, Nat.le_of_ble_eq_true rfl⟩ (ps_rc X (ci := 2) rfl (hW.at hD.1)) hS hl.1 (As := [.int (nI k)]) (rest := []) (n := 1) rfl rfl (Nat.le_of_ble_eq_true rfl) dX0_isPlainOf_5 ?_
  refine ps_st (st' := [.int (bI (sp_open σ k))]) rfl ?_
  refine ps_ifeqB (tgt := 45) hx hb dX0_isPlainOf_8 (by decide) (fun c_8 => ?_) (fun c_8 => ?_)
  · skip
    refine lv_iconst (v := nI 0) hx hb dX0_isPlainOf_45 rfl ?_
    exact ps_zretR (b := sp_plk σ g k) X dX0_isPlainOf_46 ((bI_is0 (by simp [sp_plk, c_8]))) rfl
  · skip
    refine lv_aload_n hx hb dX0_isPlainOf_11 rfl (lv_at hl 0 rfl) ?_
    refine ps_get (v := .ref (x + 11)) X in_X0 (ci := 0) rfl 4 (by decide) q216 rfl (hW.at hX) rfl dX0_isPlainOf_12 ?_
    refine lv_iload_n hx hb dX0_isPlainOf_15 rfl (lv_at hl 2 rfl) ?_
    refine ps_roV X hE (m_X2_promise l hE hZ hW hD hO (k := k) (by omega)) (lw_V q930 q888 q889 q70 q890) (by decide +kernel) ⟨⟨Nat.le_of_ble_eq_true rfl, Nat.le_of_ble_eq_true rfl⟩, Nat.le_of_ble_eq_true rfl, Nat.le_of_ble_eq_true rfl⟩ (ps_rc X (ci := 2) rfl (hW.at hD.1)) hS hl.1 (As := [.int (nI k)]) (rest := []) (n := 1) rfl rfl (Nat.le_of_ble_eq_true rfl) dX0_isPlainOf_16 ?_
    refine ps_st (st' := [.ref (pf k)]) rfl ?_
    refine ps_pget (v := .int (nI (σ (17 + k)))) X (hO.p (p := k) (by omega)).1 2 (by decide) q676 (hW.at (hD.2.2.2.2.2.2.2.2 k (by omega))) rfl dX0_isPlainOf_19 ?_
    refine lv_iload_n hx hb dX0_isPlainOf_22 rfl (lv_at hl 1 rfl) ?_
    refine ps_cne (tgt := 45) hx hb dX0_isPlainOf_23 (by decide) (by omega) (fun c_23 => ?_) (fun c_23 => ?_)
    · skip
      refine lv_iconst (v := nI 0) hx hb dX0_isPlainOf_45 rfl ?_
      exact ps_zretR (b := sp_plk σ g k) X dX0_isPlainOf_46 ((bI_is0 (by simp [sp_plk, c_8, c_23]))) rfl
    · skip
      refine lv_aload_n hx hb dX0_isPlainOf_26 rfl (lv_at hl 0 rfl) ?_
      refine ps_get (v := .ref (x + 11)) X in_X0 (ci := 0) rfl 4 (by decide) q216 rfl (hW.at hX) rfl dX0_isPlainOf_27 ?_
      refine lv_iload_n hx hb dX0_isPlainOf_30 rfl (lv_at hl 2 rfl) ?_
      refine ps_roV X hE (m_X2_promise l hE hZ hW hD hO (k := k) (by omega)) (lw_V q930 q888 q889 q70 q890) (by decide +kernel) ⟨⟨Nat.le_of_ble_eq_true rfl, Nat.le_of_ble_eq_true rfl⟩, Nat.le_of_ble_eq_true rfl, Nat.le_of_ble_eq_true rfl⟩ (ps_rc X (ci := 2) rfl (hW.at hD.1)) hS hl.1 (As := [.int (nI k)]) (rest := []) (n := 1) rfl rfl (Nat.le_of_ble_eq_true rfl) dX0_isPlainOf_31 ?_
      refine ps_st (st' := [.ref (pf k)]) rfl ?_
      refine ps_kind  X hE hZ hW (hD.2.2.2.2.2.2.2.2 k (by omega)) (hO.p (p := k) (by omega)).1 q1083 ⟨⟨Nat.le_of_ble_eq_true rfl, Nat.le_of_ble_eq_true rfl⟩, Nat.le_of_ble_eq_true rfl, Nat.le_of_ble_eq_true rfl⟩ hS hl.1 (Nat.le_of_ble_eq_true rfl) dX0_isPlainOf_34 ?_
      refine lv_iconst (v := nI 1) hx hb dX0_isPlainOf_37 rfl ?_
      refine ps_cne (tgt := 45) hx hb dX0_isPlainOf_38 (by decide) (by omega) (fun c_38 => ?_) (fun c_38 => ?_)
      · skip
        refine lv_iconst (v := nI 0) hx hb dX0_isPlainOf_45 rfl ?_
        exact ps_zretR (b := sp_plk σ g k) X dX0_isPlainOf_46 ((bI_is0 (by simp [sp_plk, c_8, c_23, c_38]))) rfl
      · skip
        refine lv_iconst (v := nI 1) hx hb dX0_isPlainOf_41 rfl ?_
        refine lv_goto (tgt := 46) hx hb dX0_isPlainOf_42 (by decide) ?_
        exact ps_zretR (b := sp_plk σ g k) X dX0_isPlainOf_46 ((bI_is1 (by simp [sp_plk, c_8, c_23, c_38]))) rfl

set_option maxHeartbeats 4000000 in
theorem m_X0_prices (l : Launch) {E : ps_E} (hE : ps_ZT E) {z : Nat} (hZ : ps_Zk E z) {Γ : ps_Gh} {H : Heap} (hW : ps_W E Γ H) {x tr : Nat} {N : Nat → Nat} (hX : Γ x = some (ps_xo x tr N)) {σ : Nat → Nat} {smc : Int32} {sr : Nat} {pf : Nat → Nat} {kf tf : Nat → Int32} {df : Nat → Option Nat} (hD : ps_Sd E z Γ (x + 11) σ smc sr pf kf tf df) (hO : sp_ok σ) {v y : Int32} : ps_Ro l E yX0_prices cX0_prices 5 (some .int) 22 663 [.ref (x), .int (v), .int (y)] H (some (.int (op_prices σ v y))) := by
  refine ps_Ro.of (by decide) (Nat.le_of_ble_eq_true rfl) ?_
  intro p e s m args below meth c X ls hl
  have hx := X.1
  have hb := X.2.1
  have ho := X.2.2.2.1
  have hts := X.2.2.2.2.1
  have hS : va_S (ps_A E) s.heap H [] := by rw [X.2.2.2.2.2.2.2.2.1]; exact va_S.rf
  have hl : lv_has ls 5 [(0, .ref (x)), (1, .int (v)), (2, .int (y))] := hl
  have hm := hO.m
  refine lv_aload_n hx hb dX0_prices_0 rfl (lv_at hl 0 rfl) ?_
  refine lv_iload_n hx hb dX0_prices_1 rfl (lv_at hl 1 rfl) ?_
  refine ps_roV X hE (m_X0_isGiver l hE hZ hW hX hD hO (v := v)) (lw_V q962 q964 qs21 q68 q965) (by decide +kernel) ⟨⟨Nat.le_of_ble_eq_true rfl, Nat.le_of_ble_eq_true rfl⟩, Nat.le_of_ble_eq_true rfl, Nat.le_of_ble_eq_true rfl⟩ (ps_rc X (ci := 0) rfl (hW.at hX)) hS hl.1 (As := [.int (v)]) (rest := []) (n := 1) rfl rfl (Nat.le_of_ble_eq_true rfl) dX0_prices_2 ?_
  refine ps_st (st' := [.int (bI (rng v 0 (σ 2)))]) rfl ?_
  refine ps_ifeqB (tgt := 20) hx hb dX0_prices_5 (by decide) (fun c_5 => ?_) (fun c_5 => ?_)
  · skip
    refine lv_ldc (v := -1000001) hx hb ho (hts _ q344) dX0_prices_20 ?_
    exact ps_iretR X dX0_prices_22 (congrArg (fun z => some (Value.int z)) (by simp [op_prices, c_5]))
  · skip
    obtain ⟨k, rfl, k_lo, k_hi, k_b⟩ := rng_t c_5
    have cl_k : (nI k).toNatClampNeg = k := nI_clamp (by omega)
    refine lv_iload_n hx hb dX0_prices_8 rfl (lv_at hl 2 rfl) ?_
    refine lv_i2l (v := (y).toInt64) hx hb dX0_prices_9 rfl ?_
    refine lv_lconst (v := lN 0) hx hb dX0_prices_10 rfl ?_
    refine lv_ldc2 (v := 999) hx hb ho (hts _ q1027) dX0_prices_11 ?_
    refine ps_roS X hE (m_X0_isIn l hE (H := H) (x := y) (lo := 0) (hi := 1000) (lN_toInt (by decide)) (ps_hcL (k := 999) (by decide +kernel))) (lw_S q340 q341 q68 q342) (by decide +kernel) ⟨⟨Nat.le_of_ble_eq_true rfl, Nat.le_of_ble_eq_true rfl⟩, Nat.le_of_ble_eq_true rfl, Nat.le_of_ble_eq_true rfl⟩ hS hl.1 (As := [.long ((y).toInt64), .long (lN 0), .long (999)]) (rest := []) (n := 3) rfl rfl (Nat.le_of_ble_eq_true rfl) dX0_prices_14 ?_
    refine ps_st (st' := [.int (bI (rng y 0 1000))]) rfl ?_
    refine ps_ifneB (tgt := 23) hx hb dX0_prices_17 (by decide) (fun c_17 => ?_) (fun c_17 => ?_)
    · skip
      obtain ⟨j, rfl, j_lo, j_hi, j_b⟩ := rng_t c_17
      have cl_j : (nI j).toNatClampNeg = j := nI_clamp (by omega)
      refine lv_iconst (v := nI 0) hx hb dX0_prices_23 rfl ?_
      refine lv_istore_n (lv' := [(3, .int (nI 0)), (0, .ref (x)), (1, .int (nI k)), (2, .int (nI j))]) hx hb dX0_prices_24 rfl hl (by decide) rfl (fun ls hl => ?_)
      refine lv_iconst (v := nI 0) hx hb dX0_prices_25 rfl ?_
      refine lv_istore (lv' := [(4, .int (nI 0)), (3, .int (nI 0)), (0, .ref (x)), (1, .int (nI k)), (2, .int (nI j))]) hx hb dX0_prices_26 hl (by decide) rfl (fun ls hl => ?_)
      have L28 : ∀ (n : Nat) (i : Nat) (hi : i ≤ σ 3) (hmu : σ 3 - i < n) (ls : Array Slot) (hl : lv_has ls 5 [(4, .int (nI i)), (3, .int (nI (sp_pr σ k j i))), (0, .ref (x)), (1, .int (nI k)), (2, .int (nI j))]), W p l e ({ frames := 22, cells := 0, slots := 0, locals := 663 } : Room) s m args below meth c H [] 0 0 (MQ below (ps_ro (some (.int (op_prices σ (nI k) (nI j))))) args s 0 0 (fun _ => False)) (F0 m 28 ls []) := by
        intro n
        induction n with
        | zero => intro i hi hmu; exact absurd hmu (Nat.not_lt_zero _)
        | succ n ih28 =>
          intro i hi hmu ls hl
          refine lv_iload hx hb dX0_prices_28 (lv_at hl 0 rfl) ?_
          refine lv_aload_n hx hb dX0_prices_30 rfl (lv_at hl 2 rfl) ?_
          refine ps_get (v := .ref (x + 11)) X in_X0 (ci := 0) rfl 4 (by decide) q216 rfl (hW.at hX) rfl dX0_prices_31 ?_
          refine ps_roV X hE (m_X2_many l hE hZ hW hD hO ) (lw_V q844 q647 q648 q70 q649) (by decide +kernel) ⟨⟨Nat.le_of_ble_eq_true rfl, Nat.le_of_ble_eq_true rfl⟩, Nat.le_of_ble_eq_true rfl, Nat.le_of_ble_eq_true rfl⟩ (ps_rc X (ci := 2) rfl (hW.at hD.1)) hS hl.1 (As := []) (rest := [.int (nI i)]) (n := 0) rfl rfl (Nat.le_of_ble_eq_true rfl) dX0_prices_34 ?_
          refine ps_st (st' := [.int (nI (σ 3)), .int (nI i)]) rfl ?_
          refine ps_cge (tgt := 88) hx hb dX0_prices_37 (by decide) (by omega) (fun c_37 => ?_) (fun c_37 => ?_)
          · skip
            have ei : i = σ 3 := by omega
            refine lv_iload_n hx hb dX0_prices_88 rfl (lv_at hl 1 rfl) ?_
            exact ps_iretR X dX0_prices_89 (congrArg (fun z => some (Value.int z)) (by rw [ei]; simp [op_prices, c_5, cl_k, c_17, cl_j, c_37]))
          · skip
            have hw := sp_w_le hO (k := i + 1) (by omega)
            have h5 := sp_mul (show j ≤ 999 by omega) hw
            have hp := hO.p (p := i) (by omega)
            refine lv_iload_n hx hb dX0_prices_40 rfl (lv_at hl 1 rfl) ?_
            have J80 : W p l e ({ frames := 22, cells := 0, slots := 0, locals := 663 } : Room) s m args below meth c H [] 0 0 (MQ below (ps_ro (some (.int (op_prices σ (nI k) (nI j))))) args s 0 0 (fun _ => False)) (F0 m 80 ls [.int (nI (if sp_open σ i = true ∧ σ (17 + i) = k then j * sp_w σ (i + 1) / 20 else 0)), .int (nI (sp_pr σ k j i))]) := by
              refine ps_iadd hx hb dX0_prices_80 ?_
              refine lv_istore_n (lv' := [(3, .int (nI ((sp_pr σ k j i) + (if sp_open σ i = true ∧ σ (17 + i) = k then j * sp_w σ (i + 1) / 20 else 0)))), (4, .int (nI i)), (0, .ref (x)), (1, .int (nI k)), (2, .int (nI j))]) hx hb dX0_prices_81 rfl hl (by decide) rfl (fun ls hl => ?_)
              refine lv_iinc (v := nI (i + 1)) (lv' := [(4, .int (nI (i + 1))), (3, .int (nI ((sp_pr σ k j i) + (if sp_open σ i = true ∧ σ (17 + i) = k then j * sp_w σ (i + 1) / 20 else 0)))), (0, .ref (x)), (1, .int (nI k)), (2, .int (nI j))]) hx hb dX0_prices_82 hl (k := 1) rfl (ps_inc _) (by decide) rfl (fun ls hl => ?_)
              refine lv_goto (tgt := 28) hx hb dX0_prices_85 (by decide) ?_
              have e1 : (nI ((sp_pr σ k j i) + (if sp_open σ i = true ∧ σ (17 + i) = k then j * sp_w σ (i + 1) / 20 else 0)) : Int32) = nI (sp_pr σ k j (i + 1)) := congrArg nI (by simp [sp_pr, sumR])
              have hl : lv_has ls 5 [(4, .int (nI (i + 1))), (3, .int (nI (sp_pr σ k j (i + 1)))), (0, .ref (x)), (1, .int (nI k)), (2, .int (nI j))] := ps_lv (l1 := [(4, .int (nI (i + 1))), (3, .int (nI ((sp_pr σ k j i) + (if sp_open σ i = true ∧ σ (17 + i) = k then j * sp_w σ (i + 1) / 20 else 0)))), (0, .ref (x)), (1, .int (nI k)), (2, .int (nI j))]) (lv_sub hl [0, 1, 2, 3, 4] rfl) (by rw [e1])
              exact ih28  (i + 1) (by omega) (by omega) ls (hl)
            refine lv_aload_n hx hb dX0_prices_41 rfl (lv_at hl 2 rfl) ?_
            refine ps_get (v := .ref (x + 11)) X in_X0 (ci := 0) rfl 4 (by decide) q216 rfl (hW.at hX) rfl dX0_prices_42 ?_
            refine lv_iload hx hb dX0_prices_45 (lv_at hl 0 rfl) ?_
            refine ps_roV X hE (m_X2_isOpen l hE hZ hW hD hO (k := i) (by omega)) (lw_V q860 q861 q862 q70 q863) (by decide +kernel) ⟨⟨Nat.le_of_ble_eq_true rfl, Nat.le_of_ble_eq_true rfl⟩, Nat.le_of_ble_eq_true rfl, Nat.le_of_ble_eq_true rfl⟩ (ps_rc X (ci := 2) rfl (hW.at hD.1)) hS hl.1 (As := [.int (nI i)]) (rest := [.int (nI (sp_pr σ k j i))]) (n := 1) rfl rfl (Nat.le_of_ble_eq_true rfl) dX0_prices_47 ?_
            refine ps_st (st' := [.int (bI (sp_open σ i)), .int (nI (sp_pr σ k j i))]) rfl ?_
            refine ps_ifeqB (tgt := 79) hx hb dX0_prices_50 (by decide) (fun c_50 => ?_) (fun c_50 => ?_)
            · skip
              refine lv_iconst (v := nI 0) hx hb dX0_prices_79 rfl ?_
              exact ps_top (congrArg nI (by first | rfl | (simp [op_prices, c_5, cl_k, c_17, cl_j, c_37, c_50]; done) | (simp [op_prices, c_5, cl_k, c_17, cl_j, c_37, c_50]; omega) | omega)) J80
            · skip
              refine lv_aload_n hx hb dX0_prices_53 rfl (lv_at hl 2 rfl) ?_
              refine ps_get (v := .ref (x + 11)) X in_X0 (ci := 0) rfl 4 (by decide) q216 rfl (hW.at hX) rfl dX0_prices_54 ?_
              refine lv_iload hx hb dX0_prices_57 (lv_at hl 0 rfl) ?_
              refine ps_roV X hE (m_X2_promise l hE hZ hW hD hO (k := i) (by omega)) (lw_V q930 q888 q889 q70 q890) (by decide +kernel) ⟨⟨Nat.le_of_ble_eq_true rfl, Nat.le_of_ble_eq_true rfl⟩, Nat.le_of_ble_eq_true rfl, Nat.le_of_ble_eq_true rfl⟩ (ps_rc X (ci := 2) rfl (hW.at hD.1)) hS hl.1 (As := [.int (nI i)]) (rest := [.int (nI (sp_pr σ k j i))]) (n := 1) rfl rfl (Nat.le_of_ble_eq_true rfl) dX0_prices_59 ?_
              refine ps_st (st' := [.ref (pf i), .int (nI (sp_pr σ k j i))]) rfl ?_
              refine ps_pget (v := .int (nI (σ (17 + i)))) X (hO.p (p := i) (by omega)).1 2 (by decide) q676 (hW.at (hD.2.2.2.2.2.2.2.2 i (by omega))) rfl dX0_prices_62 ?_
              refine lv_iload_n hx hb dX0_prices_65 rfl (lv_at hl 3 rfl) ?_
              refine ps_cne (tgt := 79) hx hb dX0_prices_66 (by decide) (by omega) (fun c_66 => ?_) (fun c_66 => ?_)
              · skip
                refine lv_iconst (v := nI 0) hx hb dX0_prices_79 rfl ?_
                exact ps_top (congrArg nI (by first | rfl | (simp [op_prices, c_5, cl_k, c_17, cl_j, c_37, c_50, c_66]; done) | (simp [op_prices, c_5, cl_k, c_17, cl_j, c_37, c_50, c_66]; omega) | omega)) J80
              · skip
                refine lv_aload_n hx hb dX0_prices_69 rfl (lv_at hl 2 rfl) ?_
                refine lv_iload hx hb dX0_prices_70 (lv_at hl 0 rfl) ?_
                refine lv_iload_n hx hb dX0_prices_72 rfl (lv_at hl 4 rfl) ?_
                refine ps_roV X hE (m_X0_priceOf l hE hZ hW hX hD hO (k := i) (j := j) (by omega) (by omega)) (lw_V q1028 q1030 qs25 q68 q1031) (by decide +kernel) ⟨⟨Nat.le_of_ble_eq_true rfl, Nat.le_of_ble_eq_true rfl⟩, Nat.le_of_ble_eq_true rfl, Nat.le_of_ble_eq_true rfl⟩ (ps_rc X (ci := 0) rfl (hW.at hX)) hS hl.1 (As := [.int (nI i), .int (nI j)]) (rest := [.int (nI (sp_pr σ k j i))]) (n := 2) rfl rfl (Nat.le_of_ble_eq_true rfl) dX0_prices_73 ?_
                refine ps_st (st' := [.int (nI (j * sp_w σ (i + 1) / 20)), .int (nI (sp_pr σ k j i))]) rfl ?_
                refine lv_goto (tgt := 80) hx hb dX0_prices_76 (by decide) ?_
                exact ps_top (congrArg nI (by first | rfl | (simp [op_prices, c_5, cl_k, c_17, cl_j, c_37, c_50, c_66]; done) | (simp [op_prices, c_5, cl_k, c_17, cl_j, c_37, c_50, c_66]; omega) | omega)) J80
      have hl : lv_has ls 5 [(4, .int (nI 0)), (3, .int (nI (sp_pr σ k j 0))), (0, .ref (x)), (1, .int (nI k)), (2, .int (nI j))] := lv_sub hl [0, 1, 2, 3, 4] rfl
      exact L28 ((σ 3 - 0) + 1) 0 (Nat.zero_le _) (Nat.lt_succ_self _) ls (hl)
    · skip
      refine lv_ldc (v := -1000001) hx hb ho (hts _ q344) dX0_prices_20 ?_
      exact ps_iretR X dX0_prices_22 (congrArg (fun z => some (Value.int z)) (by simp [op_prices, c_5, cl_k, c_17]))
