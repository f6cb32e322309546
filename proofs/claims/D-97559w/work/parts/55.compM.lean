/-! the component: acts (printed by gen/comp13.py) -/
set_option maxRecDepth 100000
set_option maxHeartbeats 4000000 in
theorem m_X0_wax (l : Launch) {E : ps_E} (hE : ps_ZT E) {z : Nat} (hZ : ps_Zk E z) {Γ : ps_Gh} {H : Heap} (hW : ps_W E Γ H) {x : Nat} {S : SS} {ow : ps_Ow} (hC : ps_Cx E z Γ ow x S) (hwf : wf S) {v : Int32} : ps_Ge l E yX0_wax cX0_wax 3 (some .int) 7 155 12 102 [.ref (x), .int (v)] H (ps_cpost E z Γ H x (op_wax S v)) := by
  refine ps_Ge.of (by decide) (Nat.le_of_ble_eq_true rfl) ?_
  intro p e s m args below meth c X ls hl
  have hx := X.1
  have hb := X.2.1
  have ho := X.2.2.2.1
  have hts := X.2.2.2.2.1
  have hS : va_S (ps_A E) s.heap H [] := by rw [X.2.2.2.2.2.2.2.2.1]; exact va_S.rf
  have hl : lv_has ls 3 [(0, .ref (x)), (1, .int (v))] := hl
  have hO := hwf.1
  have hm := hO.m
  have hn := hwf.n
  obtain ⟨tr, sa, τ, hOb, hRw, hTp, hTr, hSx, hSl⟩ := id hC
  have hSo := (hSx.2.2.2.2 0 _ hSx.1.1).2
  rw [hSl.1] at hSo
  obtain ⟨smc, sr, pf, kf, tf, df, hD, hOw, hrr, hpo⟩ := id hSo
  refine lv_aload_n hx hb dX0_wax_0 rfl (lv_at hl 0 rfl) ?_
  refine ps_roV X hE (m_X0_isThere l hE hZ hW hOb.1 hD hO ) (lw_V q935 q937 qs20 q68 q938) (by decide +kernel) ⟨⟨Nat.le_of_ble_eq_true rfl, Nat.le_of_ble_eq_true rfl⟩, Nat.le_of_ble_eq_true rfl, Nat.le_of_ble_eq_true rfl⟩ (ps_rc X (ci := 0) rfl (hW.at hOb.1)) hS hl.1 (As := []) (rest := []) (n := 0) rfl rfl (Nat.le_of_ble_eq_true rfl) dX0_wax_1 ?_
  refine ps_st (st' := [.int (bI (decide (1 ≤ (S.2.1 0) 1)))]) rfl ?_
  refine ps_ifneB (tgt := 10) hx hb dX0_wax_4 (by decide) (fun c_4 => ?_) (fun c_4 => ?_)
  · skip
    have h1 : 1 ≤ (S.2.1 0) 1 := of_decide_eq_true c_4
    have h1' : ¬ (S.2.1 0) 1 = 0 := by omega
    refine lv_iload_n hx hb dX0_wax_10 rfl (lv_at hl 1 rfl) ?_
    refine lv_i2l (v := (v).toInt64) hx hb dX0_wax_11 rfl ?_
    refine lv_lconst (v := lN 0) hx hb dX0_wax_12 rfl ?_
    refine lv_ldc2 (v := 9) hx hb ho (hts _ q939) dX0_wax_13 ?_
    refine ps_roS X hE (m_X0_isIn l hE (H := H) (x := v) (lo := 0) (hi := 10) (lN_toInt (by decide)) (ps_hcL (k := 9) (by decide +kernel))) (lw_S q340 q341 q68 q342) (by decide +kernel) ⟨⟨Nat.le_of_ble_eq_true rfl, Nat.le_of_ble_eq_true rfl⟩, Nat.le_of_ble_eq_true rfl, Nat.le_of_ble_eq_true rfl⟩ hS hl.1 (As := [.long ((v).toInt64), .long (lN 0), .long (9)]) (rest := []) (n := 3) rfl rfl (Nat.le_of_ble_eq_true rfl) dX0_wax_16 ?_
    refine ps_st (st' := [.int (bI (rng v 0 10))]) rfl ?_
    refine ps_ifneB (tgt := 25) hx hb dX0_wax_19 (by decide) (fun c_19 => ?_) (fun c_19 => ?_)
    · skip
      obtain ⟨k, rfl, k_lo, k_hi, k_b⟩ := rng_t c_19
      have cl_k : (nI k).toNatClampNeg = k := nI_clamp (by omega)
      have hO2 := sp_ok_wax hO (v := k) (by omega)
      refine lv_aload_n hx hb dX0_wax_25 rfl (lv_at hl 0 rfl) ?_
      refine ps_geV X hE (m_X0_keep l hE hZ hW hC hwf) (lw_V q868 q870 qs19 q68 q871) (by decide +kernel) ⟨⟨Nat.le_of_ble_eq_true rfl, Nat.le_of_ble_eq_true rfl⟩, Nat.le_of_ble_eq_true rfl, Nat.le_of_ble_eq_true rfl⟩ (ps_rc X (ci := 0) rfl (hW.at hOb.1)) hS hl.1 (As := []) (rest := []) (n := 0) rfl rfl (Nat.le_of_ble_eq_true rfl) dX0_wax_26 (fun v5 H1 locs2 hp3 hS4 => ?_)
      obtain ⟨hv9, Γ6, ow10, hW7, hgf8, hC11⟩ := hp3
      subst hv9
      refine ps_st (st' := []) rfl ?_
      obtain ⟨trn, san, τn, hObn, hRwn, hTpn, hTrn, hSxn, hSln⟩ := hC11
      have hSon := (hSxn.2.2.2.2 0 _ hSxn.1.1).2
      rw [hSln.1, sNote_lt (by decide)] at hSon
      obtain ⟨smcn, srn, pfn, kfn, tfn, dfn, hDn, hOwn, hrrn, hpon⟩ := id hSon
      refine lv_aload_n hx hb dX0_wax_29 rfl (lv_at hl 0 rfl) ?_
      refine ps_get (v := .ref (x + 11)) X in_X0 (ci := 0) rfl 4 (by decide) q216 rfl (hW7.at hObn.1) rfl dX0_wax_30 ?_
      refine ps_get (v := .int (nI ((S.2.1 0) 0))) X in_X2 (ci := 2) rfl 0 (by decide) q164 rfl (hW7.at hDn.1) rfl dX0_wax_33 ?_
      refine lv_istore_n (lv' := [(2, .int (nI ((S.2.1 0) 0))), (0, .ref (x)), (1, .int (nI k))]) hx hb dX0_wax_36 rfl hl (by decide) rfl (fun ls hl => ?_)
      refine lv_aload_n hx hb dX0_wax_37 rfl (lv_at hl 1 rfl) ?_
      refine ps_get (v := .ref (x + 11)) X in_X0 (ci := 0) rfl 4 (by decide) q216 rfl (hW7.at hObn.1) rfl dX0_wax_38 ?_
      refine lv_iload_n hx hb dX0_wax_41 rfl (lv_at hl 2 rfl) ?_
      refine ps_put X in_X2 tyX2_ok nmX2 (ci := 2) rfl 0 (by decide) q164 rfl rfl rfl rfl (Nat.le_of_ble_eq_true rfl) (hW7.at hDn.1) (hW7.A hDn.1) hS4 dX0_wax_42 (fun H12 locs13 ha14 hz15 hq16 hS17 => ?_)
      obtain ⟨Γ18, hW19, hg20, ho21⟩ := hW7.put1 hDn.1 ha14 hq16
      refine lv_iload_n hx hb dX0_wax_45 rfl (lv_at hl 0 rfl) ?_
      exact ps_iretG X hS17 (Nat.le_of_ble_eq_true rfl) (Nat.le_of_ble_eq_true rfl) dX0_wax_46 (ps_cend (S1 := (sSt (sNote S) (va_up (S.2.1 0) 0 k))) (by simp [op_wax, h1, h1', c_19, cl_k]) hW19 ((ps_gf.rf.tr hgf8).put hDn.1 hz15 hq16 ho21) (ps_Cx.scl hObn hRwn hTpn hTrn hSxn hSln (ps_sp.rf.put hOwn.1 rfl hg20 ho21) hO2 (hSon.obj (σ' := (va_up (S.2.1 0) 0 k)) hg20 ho21 (fun j a0 a1 a2 a4 => va_up_ne _ _ (by omega)))))
    · skip
      refine lv_ldc (v := -1000001) hx hb ho (hts _ q344) dX0_wax_22 ?_
      exact ps_iretG X hS (Nat.le_of_ble_eq_true rfl) (Nat.le_of_ble_eq_true rfl) dX0_wax_24 (ps_cend (S1 := S) (by simp [op_wax, h1, h1', c_19]) hW ps_gf.rf hC)
  · skip
    have h1 : ¬ 1 ≤ (S.2.1 0) 1 := of_decide_eq_false c_4
    have h1' : (S.2.1 0) 1 = 0 := by omega
    refine lv_ldc (v := -1000002) hx hb ho (hts _ q867) dX0_wax_7 ?_
    exact ps_iretG X hS (Nat.le_of_ble_eq_true rfl) (Nat.le_of_ble_eq_true rfl) dX0_wax_9 (ps_cend (S1 := S) (by simp [op_wax, h1']) hW ps_gf.rf hC)

set_option maxHeartbeats 4000000 in
theorem m_X0_lay (l : Launch) {E : ps_E} (hE : ps_ZT E) {z : Nat} (hZ : ps_Zk E z) {Γ : ps_Gh} {H : Heap} (hW : ps_W E Γ H) {x : Nat} {S : SS} {ow : ps_Ow} (hC : ps_Cx E z Γ ow x S) (hwf : wf S) {v y : Int32} : ps_Ge l E yX0_lay cX0_lay 3 (some .int) 23 685 12 102 [.ref (x), .int (v), .int (y)] H (ps_cpost E z Γ H x (op_lay S v y)) := by
  refine ps_Ge.of (by decide) (Nat.le_of_ble_eq_true rfl) ?_
  intro p e s m args below meth c X ls hl
  have hx := X.1
  have hb := X.2.1
  have ho := X.2.2.2.1
  have hts := X.2.2.2.2.1
  have hS : va_S (ps_A E) s.heap H [] := by rw [X.2.2.2.2.2.2.2.2.1]; exact va_S.rf
  have hl : lv_has ls 3 [(0, .ref (x)), (1, .int (v)), (2, .int (y))] := hl
  have hO := hwf.1
  have hm := hO.m
  have hn := hwf.n
  obtain ⟨tr, sa, τ, hOb, hRw, hTp, hTr, hSx, hSl⟩ := id hC
  have hSo := (hSx.2.2.2.2 0 _ hSx.1.1).2
  rw [hSl.1] at hSo
  obtain ⟨smc, sr, pf, kf, tf, df, hD, hOw, hrr, hpo⟩ := id hSo
  refine lv_aload_n hx hb dX0_lay_0 rfl (lv_at hl 0 rfl) ?_
  refine lv_iload_n hx hb dX0_lay_1 rfl (lv_at hl 1 rfl) ?_
  refine ps_roV X hE (m_X0_isPromise l hE hZ hW hOb.1 hD hO (v := v)) (lw_V q853 q855 qs18 q68 q856) (by decide +kernel) ⟨⟨Nat.le_of_ble_eq_true rfl, Nat.le_of_ble_eq_true rfl⟩, Nat.le_of_ble_eq_true rfl, Nat.le_of_ble_eq_true rfl⟩ (ps_rc X (ci := 0) rfl (hW.at hOb.1)) hS hl.1 (As := [.int (v)]) (rest := []) (n := 1) rfl rfl (Nat.le_of_ble_eq_true rfl) dX0_lay_2 ?_
  refine ps_st (st' := [.int (bI (rng v 0 ((S.2.1 0) 3)))]) rfl ?_
  refine ps_ifeqB (tgt := 15) hx hb dX0_lay_5 (by decide) (fun c_5 => ?_) (fun c_5 => ?_)
  · skip
    refine lv_ldc (v := -1000001) hx hb ho (hts _ q344) dX0_lay_15 ?_
    exact ps_iretG X hS (Nat.le_of_ble_eq_true rfl) (Nat.le_of_ble_eq_true rfl) dX0_lay_17 (ps_cend (S1 := S) (by simp [op_lay, c_5]) hW ps_gf.rf hC)
  · skip
    obtain ⟨k, rfl, k_lo, k_hi, k_b⟩ := rng_t c_5
    have cl_k : (nI k).toNatClampNeg = k := nI_clamp (by omega)
    refine lv_iload_n hx hb dX0_lay_8 rfl (lv_at hl 2 rfl) ?_
    refine ps_roS X hE (m_X0_isHalf l hE (H := H) (x := y)) (lw_S q857 q858 q68 q859) (by decide +kernel) ⟨⟨Nat.le_of_ble_eq_true rfl, Nat.le_of_ble_eq_true rfl⟩, Nat.le_of_ble_eq_true rfl, Nat.le_of_ble_eq_true rfl⟩ hS hl.1 (As := [.int (y)]) (rest := []) (n := 1) rfl rfl (Nat.le_of_ble_eq_true rfl) dX0_lay_9 ?_
    refine ps_st (st' := [.int (bI (rng y 0 2))]) rfl ?_
    refine ps_ifneB (tgt := 18) hx hb dX0_lay_12 (by decide) (fun c_12 => ?_) (fun c_12 => ?_)
    · skip
      obtain ⟨j, rfl, j_lo, j_hi, j_b⟩ := rng_t c_12
      have cl_j : (nI j).toNatClampNeg = j := nI_clamp (by omega)
      refine lv_aload_n hx hb dX0_lay_18 rfl (lv_at hl 0 rfl) ?_
      refine ps_get (v := .ref (x + 11)) X in_X0 (ci := 0) rfl 4 (by decide) q216 rfl (hW.at hOb.1) rfl dX0_lay_19 ?_
      refine lv_iload_n hx hb dX0_lay_22 rfl (lv_at hl 1 rfl) ?_
      refine ps_roV X hE (m_X2_isOpen l hE hZ hW hD hO (k := k) (by omega)) (lw_V q860 q861 q862 q70 q863) (by decide +kernel) ⟨⟨Nat.le_of_ble_eq_true rfl, Nat.le_of_ble_eq_true rfl⟩, Nat.le_of_ble_eq_true rfl, Nat.le_of_ble_eq_true rfl⟩ (ps_rc X (ci := 2) rfl (hW.at hD.1)) hS hl.1 (As := [.int (nI k)]) (rest := []) (n := 1) rfl rfl (Nat.le_of_ble_eq_true rfl) dX0_lay_23 ?_
      refine ps_st (st' := [.int (bI (sp_open (S.2.1 0) k))]) rfl ?_
      refine ps_ifeqB (tgt := 53) hx hb dX0_lay_26 (by decide) (fun c_26 => ?_) (fun c_26 => ?_)
      · skip
        refine lv_ldc (v := -1000002) hx hb ho (hts _ q867) dX0_lay_53 ?_
        exact ps_iretG X hS (Nat.le_of_ble_eq_true rfl) (Nat.le_of_ble_eq_true rfl) dX0_lay_55 (ps_cend (S1 := S) (by simp [op_lay, c_5, cl_k, c_12, cl_j, c_26]) hW ps_gf.rf hC)
      · skip
        have hp := hO.p k_hi
        refine lv_aload_n hx hb dX0_lay_29 rfl (lv_at hl 0 rfl) ?_
        refine ps_get (v := .ref (x + 11)) X in_X0 (ci := 0) rfl 4 (by decide) q216 rfl (hW.at hOb.1) rfl dX0_lay_30 ?_
        refine ps_get (v := .int (nI ((S.2.1 0) 4))) X in_X2 (ci := 2) rfl 6 (by decide) q179 rfl (hW.at hD.1) rfl dX0_lay_33 ?_
        refine lv_iload_n hx hb dX0_lay_36 rfl (lv_at hl 1 rfl) ?_
        refine ps_roS X hE (m_X0_has l hE (H := H) (u := (S.2.1 0) 4) (k := k) (by omega) (by omega)) (lw_S q864 q865 q68 q866) (by decide +kernel) ⟨⟨Nat.le_of_ble_eq_true rfl, Nat.le_of_ble_eq_true rfl⟩, Nat.le_of_ble_eq_true rfl, Nat.le_of_ble_eq_true rfl⟩ hS hl.1 (As := [.int (nI ((S.2.1 0) 4)), .int (nI k)]) (rest := []) (n := 2) rfl rfl (Nat.le_of_ble_eq_true rfl) dX0_lay_37 ?_
        refine ps_st (st' := [.int (bI (Nat.testBit ((S.2.1 0) 4) k))]) rfl ?_
        refine lv_iload_n hx hb dX0_lay_40 rfl (lv_at hl 2 rfl) ?_
        refine lv_iconst (v := nI 1) hx hb dX0_lay_41 rfl ?_
        refine ps_cne (tgt := 49) hx hb dX0_lay_42 (by decide) (by omega) (fun c_42 => ?_) (fun c_42 => ?_)
        · skip
          refine lv_iconst (v := nI 0) hx hb dX0_lay_49 rfl ?_
          refine lv_icmp_ne (tgt := 56) hx hb dX0_lay_50 (by decide) (fun c_50 => ?_) (fun c_50 => ?_)
          · skip
            have c_50 : ¬ (S.2.1 0 4 / 2 ^ k % 2 = j) := by
              have := lay_n0 c_50
              omega
            have hp2 := ps_p2 (k := k) (by omega)
            have hx8 : S.2.1 0 4 ^^^ 2 ^ k < 256 := Nat.xor_lt_two_pow (n := 8) (by omega) (Nat.pow_lt_pow_right (by decide) (by omega))
            have hO2 : sp_ok (va_up (S.2.1 0) 4 (S.2.1 0 4 ^^^ 2 ^ k)) := sp_ok_pan hO hx8
            have h1 : 1 ≤ S.2.1 0 1 := Nat.pos_of_ne_zero (fun z => by have := (hO.n z).2; omega)
            refine lv_aload_n hx hb dX0_lay_56 rfl (lv_at hl 0 rfl) ?_
            refine ps_geV X hE (m_X0_keep l hE hZ hW hC hwf) (lw_V q868 q870 qs19 q68 q871) (by decide +kernel) ⟨⟨Nat.le_of_ble_eq_true rfl, Nat.le_of_ble_eq_true rfl⟩, Nat.le_of_ble_eq_true rfl, Nat.le_of_ble_eq_true rfl⟩ (ps_rc X (ci := 0) rfl (hW.at hOb.1)) hS hl.1 (As := []) (rest := []) (n := 0) rfl rfl (Nat.le_of_ble_eq_true rfl) dX0_lay_57 (fun v5 H1 locs2 hp3 hS4 => ?_)
            obtain ⟨hv9, Γ6, ow10, hW7, hgf8, hC11⟩ := hp3
            subst hv9
            refine ps_st (st' := []) rfl ?_
            obtain ⟨trn, san, τn, hObn, hRwn, hTpn, hTrn, hSxn, hSln⟩ := hC11
            have hSon := (hSxn.2.2.2.2 0 _ hSxn.1.1).2
            rw [hSln.1, sNote_lt (by decide)] at hSon
            obtain ⟨smcn, srn, pfn, kfn, tfn, dfn, hDn, hOwn, hrrn, hpon⟩ := id hSon
            refine lv_aload_n hx hb dX0_lay_60 rfl (lv_at hl 0 rfl) ?_
            refine ps_get (v := .ref (x + 11)) X in_X0 (ci := 0) rfl 4 (by decide) q216 rfl (hW7.at hObn.1) rfl dX0_lay_61 ?_
            refine lv_dup hx hb dX0_lay_64 rfl ?_
            refine ps_get (v := .int (nI ((S.2.1 0) 4))) X in_X2 (ci := 2) rfl 6 (by decide) q179 rfl (hW7.at hDn.1) rfl dX0_lay_65 ?_
            refine lv_iconst (v := nI 1) hx hb dX0_lay_68 rfl ?_
            refine lv_iload_n hx hb dX0_lay_69 rfl (lv_at hl 1 rfl) ?_
            refine lv_ishl hx hb dX0_lay_70 ?_
            refine ps_top (y := nI (2 ^ k)) (ps_shl1 (by omega)) ?_
            refine lv_ixor hx hb dX0_lay_71 ?_
            refine ps_top (y := nI (S.2.1 0 4 ^^^ 2 ^ k)) (nI_xor _ _) ?_
            refine ps_put X in_X2 tyX2_ok nmX2 (ci := 2) rfl 6 (by decide) q179 rfl rfl rfl rfl (Nat.le_of_ble_eq_true rfl) (hW7.at hDn.1) (hW7.A hDn.1) hS4 dX0_lay_72 (fun H12 locs13 ha14 hz15 hq16 hS17 => ?_)
            obtain ⟨Γ18, hW19, hg20, ho21⟩ := hW7.put1 hDn.1 ha14 hq16
            have hSo2 := hSon.obj (σ' := (va_up (S.2.1 0) 4 (S.2.1 0 4 ^^^ 2 ^ k))) hg20 ho21 (fun j a0 a1 a2 a4 => va_up_ne _ _ (by omega))
            have hsp2 : ps_sp (fun w => w = x + 11 + 6) _ ow10 Γ18 ow10 := ps_sp.rf.put hOwn.1 rfl hg20 ho21
            obtain ⟨smc2, sr2, pf2, kf2, tf2, df2, hD2, hOw2, hrr2, hpo2⟩ := id hSo2
            refine lv_aload_n hx hb dX0_lay_75 rfl (lv_at hl 0 rfl) ?_
            refine ps_get (v := .ref (x + 11)) X in_X0 (ci := 0) rfl 4 (by decide) q216 rfl (hW19.at ((ho21 _ (by omega)).trans hObn.1)) rfl dX0_lay_76 ?_
            refine lv_aload_n hx hb dX0_lay_79 rfl (lv_at hl 0 rfl) ?_
            refine ps_get (v := .ref (x + 11)) X in_X0 (ci := 0) rfl 4 (by decide) q216 rfl (hW19.at ((ho21 _ (by omega)).trans hObn.1)) rfl dX0_lay_80 ?_
            refine ps_get (v := .int (nI ((va_up (S.2.1 0) 4 (S.2.1 0 4 ^^^ 2 ^ k)) 4))) X in_X2 (ci := 2) rfl 6 (by decide) q179 rfl (hW19.at hD2.1) rfl dX0_lay_83 ?_
            refine ps_top (y := nI (S.2.1 0 4 ^^^ 2 ^ k)) (congrArg nI (va_up_self _ _ _)) ?_
            refine ps_roV X hE (m_X2_reads l hE hZ hW19 hD2 hO2 (u := S.2.1 0 4 ^^^ 2 ^ k) (by omega) h1) (lw_V q872 q873 q874 q70 q875) (by decide +kernel) ⟨⟨Nat.le_of_ble_eq_true rfl, Nat.le_of_ble_eq_true rfl⟩, Nat.le_of_ble_eq_true rfl, Nat.le_of_ble_eq_true rfl⟩ (ps_rc X (ci := 2) rfl (hW19.at hD2.1)) hS17 hl.1 (As := [.int (nI (S.2.1 0 4 ^^^ 2 ^ k))]) (rest := []) (n := 1) rfl rfl (Nat.le_of_ble_eq_true rfl) dX0_lay_86 ?_
            refine ps_st (st' := [.int (nI (sp_read (va_up (S.2.1 0) 4 (S.2.1 0 4 ^^^ 2 ^ k)) (S.2.1 0 4 ^^^ 2 ^ k)))]) rfl ?_
            exact ps_iretG X hS17 (Nat.le_of_ble_eq_true rfl) (Nat.le_of_ble_eq_true rfl) dX0_lay_89 (ps_cend (S1 := (sSt (sNote S) (va_up (S.2.1 0) 4 (S.2.1 0 4 ^^^ 2 ^ k)))) (by simp [op_lay, c_5, cl_k, c_12, cl_j, c_26, c_50]) hW19 ((ps_gf.rf.tr hgf8).put hDn.1 hz15 hq16 ho21) (ps_Cx.scl hObn hRwn hTpn hTrn hSxn hSln hsp2 hO2 hSo2))
          · skip
            have c_50 : (S.2.1 0 4 / 2 ^ k % 2 = j) := by
              have := lay_0 c_50
              omega
            refine lv_ldc (v := -1000002) hx hb ho (hts _ q867) dX0_lay_53 ?_
            exact ps_iretG X hS (Nat.le_of_ble_eq_true rfl) (Nat.le_of_ble_eq_true rfl) dX0_lay_55 (ps_cend (S1 := S) (by simp [op_lay, c_5, cl_k, c_12, cl_j, c_26, c_50]) hW ps_gf.rf hC)
        · skip
          refine lv_iconst (v := nI 1) hx hb dX0_lay_45 rfl ?_
          refine lv_goto (tgt := 50) hx hb dX0_lay_46 (by decide) ?_
          refine lv_icmp_ne (tgt := 56) hx hb dX0_lay_50 (by decide) (fun c_50 => ?_) (fun c_50 => ?_)
          · skip
            have c_50 : ¬ (S.2.1 0 4 / 2 ^ k % 2 = j) := by
              have := lay_n1 c_50
              omega
            have hp2 := ps_p2 (k := k) (by omega)
            have hx8 : S.2.1 0 4 ^^^ 2 ^ k < 256 := Nat.xor_lt_two_pow (n := 8) (by omega) (Nat.pow_lt_pow_right (by decide) (by omega))
            have hO2 : sp_ok (va_up (S.2.1 0) 4 (S.2.1 0 4 ^^^ 2 ^ k)) := sp_ok_pan hO hx8
            have h1 : 1 ≤ S.2.1 0 1 := Nat.pos_of_ne_zero (fun z => by have := (hO.n z).2; omega)
            refine lv_aload_n hx hb dX0_lay_56 rfl (lv_at hl 0 rfl) ?_
            refine ps_geV X hE (m_X0_keep l hE hZ hW hC hwf) (lw_V q868 q870 qs19 q68 q871) (by decide +kernel) ⟨⟨Nat.le_of_ble_eq_true rfl, Nat.le_of_ble_eq_true rfl⟩, Nat.le_of_ble_eq_true rfl, Nat.le_of_ble_eq_true rfl⟩ (ps_rc X (ci := 0) rfl (hW.at hOb.1)) hS hl.1 (As := []) (rest := []) (n := 0) rfl rfl (Nat.le_of_ble_eq_true rfl) dX0_lay_57 (fun v26 H22 locs23 hp24 hS25 => ?_)
            obtain ⟨hv30, Γ27, ow31, hW28, hgf29, hC32⟩ := hp24
            subst hv30
            refine ps_st (st' := []) rfl ?_
            obtain ⟨trn, san, τn, hObn, hRwn, hTpn, hTrn, hSxn, hSln⟩ := hC32
            have hSon := (hSxn.2.2.2.2 0 _ hSxn.1.1).2
            rw [hSln.1, sNote_lt (by decide)] at hSon
            obtain ⟨smcn, srn, pfn, kfn, tfn, dfn, hDn, hOwn, hrrn, hpon⟩ := id hSon
            refine lv_aload_n hx hb dX0_lay_60 rfl (lv_at hl 0 rfl) ?_
            refine ps_get (v := .ref (x + 11)) X in_X0 (ci := 0) rfl 4 (by decide) q216 rfl (hW28.at hObn.1) rfl dX0_lay_61 ?_
            refine lv_dup hx hb dX0_lay_64 rfl ?_
            refine ps_get (v := .int (nI ((S.2.1 0) 4))) X in_X2 (ci := 2) rfl 6 (by decide) q179 rfl (hW28.at hDn.1) rfl dX0_lay_65 ?_
            refine lv_iconst (v := nI 1) hx hb dX0_lay_68 rfl ?_
            refine lv_iload_n hx hb dX0_lay_69 rfl (lv_at hl 1 rfl) ?_
            refine lv_ishl hx hb dX0_lay_70 ?_
            refine ps_top (y := nI (2 ^ k)) (ps_shl1 (by omega)) ?_
            refine lv_ixor hx hb dX0_lay_71 ?_
            refine ps_top (y := nI (S.2.1 0 4 ^^^ 2 ^ k)) (nI_xor _ _) ?_
            refine ps_put X in_X2 tyX2_ok nmX2 (ci := 2) rfl 6 (by decide) q179 rfl rfl rfl rfl (Nat.le_of_ble_eq_true rfl) (hW28.at hDn.1) (hW28.A hDn.1) hS25 dX0_lay_72 (fun H33 locs34 ha35 hz36 hq37 hS38 => ?_)
            obtain ⟨Γ39, hW40, hg41, ho42⟩ := hW28.put1 hDn.1 ha35 hq37
            have hSo2 := hSon.obj (σ' := (va_up (S.2.1 0) 4 (S.2.1 0 4 ^^^ 2 ^ k))) hg41 ho42 (fun j a0 a1 a2 a4 => va_up_ne _ _ (by omega))
            have hsp2 : ps_sp (fun w => w = x + 11 + 6) _ ow31 Γ39 ow31 := ps_sp.rf.put hOwn.1 rfl hg41 ho42
            obtain ⟨smc2, sr2, pf2, kf2, tf2, df2, hD2, hOw2, hrr2, hpo2⟩ := id hSo2
            refine lv_aload_n hx hb dX0_lay_75 rfl (lv_at hl 0 rfl) ?_
            refine ps_get (v := .ref (x + 11)) X in_X0 (ci := 0) rfl 4 (by decide) q216 rfl (hW40.at ((ho42 _ (by omega)).trans hObn.1)) rfl dX0_lay_76 ?_
            refine lv_aload_n hx hb dX0_lay_79 rfl (lv_at hl 0 rfl) ?_
            refine ps_get (v := .ref (x + 11)) X in_X0 (ci := 0) rfl 4 (by decide) q216 rfl (hW40.at ((ho42 _ (by omega)).trans hObn.1)) rfl dX0_lay_80 ?_
            refine ps_get (v := .int (nI ((va_up (S.2.1 0) 4 (S.2.1 0 4 ^^^ 2 ^ k)) 4))) X in_X2 (ci := 2) rfl 6 (by decide) q179 rfl (hW40.at hD2.1) rfl dX0_lay_83 ?_
            refine ps_top (y := nI (S.2.1 0 4 ^^^ 2 ^ k)) (congrArg nI (va_up_self _ _ _)) ?_
            refine ps_roV X hE (m_X2_reads l hE hZ hW40 hD2 hO2 (u := S.2.1 0 4 ^^^ 2 ^ k) (by omega) h1) (lw_V q872 q873 q874 q70 q875) (by decide +kernel) ⟨⟨Nat.le_of_ble_eq_true rfl, Nat.le_of_ble_eq_true rfl⟩, Nat.le_of_ble_eq_true rfl, Nat.le_of_ble_eq_true rfl⟩ (ps_rc X (ci := 2) rfl (hW40.at hD2.1)) hS38 hl.1 (As := [.int (nI (S.2.1 0 4 ^^^ 2 ^ k))]) (rest := []) (n := 1) rfl rfl (Nat.le_of_ble_eq_true rfl) dX0_lay_86 ?_
            refine ps_st (st' := [.int (nI (sp_read (va_up (S.2.1 0) 4 (S.2.1 0 4 ^^^ 2 ^ k)) (S.2.1 0 4 ^^^ 2 ^ k)))]) rfl ?_
            exact ps_iretG X hS38 (Nat.le_of_ble_eq_true rfl) (Nat.le_of_ble_eq_true rfl) dX0_lay_89 (ps_cend (S1 := (sSt (sNote S) (va_up (S.2.1 0) 4 (S.2.1 0 4 ^^^ 2 ^ k)))) (by simp [op_lay, c_5, cl_k, c_12, cl_j, c_26, c_50]) hW40 ((ps_gf.rf.tr hgf29).put hDn.1 hz36 hq37 ho42) (ps_Cx.scl hObn hRwn hTpn hTrn hSxn hSln hsp2 hO2 hSo2))
          · skip
            have c_50 : (S.2.1 0 4 / 2 ^ k % 2 = j) := by
              have := lay_1 c_50
              omega
            refine lv_ldc (v := -1000002) hx hb ho (hts _ q867) dX0_lay_53 ?_
            exact ps_iretG X hS (Nat.le_of_ble_eq_true rfl) (Nat.le_of_ble_eq_true rfl) dX0_lay_55 (ps_cend (S1 := S) (by simp [op_lay, c_5, cl_k, c_12, cl_j, c_26, c_50]) hW ps_gf.rf hC)
    · skip
      refine lv_ldc (v := -1000001) hx hb ho (hts _ q344) dX0_lay_15 ?_
      exact ps_iretG X hS (Nat.le_of_ble_eq_true rfl) (Nat.le_of_ble_eq_true rfl) dX0_lay_17 (ps_cend (S1 := S) (by simp [op_lay, c_5, cl_k, c_12]) hW ps_gf.rf hC)

set_option maxHeartbeats 4000000 in
theorem m_X0_settle (l : Launch) {E : ps_E} (hE : ps_ZT E) {z : Nat} (hZ : ps_Zk E z) {Γ : ps_Gh} {H : Heap} (hW : ps_W E Γ H) {x : Nat} {S : SS} {ow : ps_Ow} (hC : ps_Cx E z Γ ow x S) (hwf : wf S) {v y : Int32} : ps_Ge l E yX0_settle cX0_settle 3 (some .int) 7 155 12 102 [.ref (x), .int (v), .int (y)] H (ps_cpost E z Γ H x (op_settle S v y)) := by
  refine ps_Ge.of (by decide) (Nat.le_of_ble_eq_true rfl) ?_
  intro p e s m args below meth c X ls hl
  have hx := X.1
  have hb := X.2.1
  have ho := X.2.2.2.1
  have hts := X.2.2.2.2.1
  have hS : va_S (ps_A E) s.heap H [] := by rw [X.2.2.2.2.2.2.2.2.1]; exact va_S.rf
  have hl : lv_has ls 3 [(0, .ref (x)), (1, .int (v)), (2, .int (y))] := hl
  have hO := hwf.1
  have hm := hO.m
  have hn := hwf.n
  obtain ⟨tr, sa, τ, hOb, hRw, hTp, hTr, hSx, hSl⟩ := id hC
  have hSo := (hSx.2.2.2.2 0 _ hSx.1.1).2
  rw [hSl.1] at hSo
  obtain ⟨smc, sr, pf, kf, tf, df, hD, hOw, hrr, hpo⟩ := id hSo
  refine lv_aload_n hx hb dX0_settle_0 rfl (lv_at hl 0 rfl) ?_
  refine lv_iload_n hx hb dX0_settle_1 rfl (lv_at hl 1 rfl) ?_
  refine ps_roV X hE (m_X0_isPromise l hE hZ hW hOb.1 hD hO (v := v)) (lw_V q853 q855 qs18 q68 q856) (by decide +kernel) ⟨⟨Nat.le_of_ble_eq_true rfl, Nat.le_of_ble_eq_true rfl⟩, Nat.le_of_ble_eq_true rfl, Nat.le_of_ble_eq_true rfl⟩ (ps_rc X (ci := 0) rfl (hW.at hOb.1)) hS hl.1 (As := [.int (v)]) (rest := []) (n := 1) rfl rfl (Nat.le_of_ble_eq_true rfl) dX0_settle_2 ?_
  refine ps_st (st' := [.int (bI (rng v 0 ((S.2.1 0) 3)))]) rfl ?_
  refine ps_ifeqB (tgt := 15) hx hb dX0_settle_5 (by decide) (fun c_5 => ?_) (fun c_5 => ?_)
  · skip
    refine lv_ldc (v := -1000001) hx hb ho (hts _ q344) dX0_settle_15 ?_
    exact ps_iretG X hS (Nat.le_of_ble_eq_true rfl) (Nat.le_of_ble_eq_true rfl) dX0_settle_17 (ps_cend (S1 := S) (by simp [op_settle, c_5]) hW ps_gf.rf hC)
  · skip
    obtain ⟨k, rfl, k_lo, k_hi, k_b⟩ := rng_t c_5
    have cl_k : (nI k).toNatClampNeg = k := nI_clamp (by omega)
    refine lv_iload_n hx hb dX0_settle_8 rfl (lv_at hl 2 rfl) ?_
    refine ps_roS X hE (m_X0_isHalf l hE (H := H) (x := y)) (lw_S q857 q858 q68 q859) (by decide +kernel) ⟨⟨Nat.le_of_ble_eq_true rfl, Nat.le_of_ble_eq_true rfl⟩, Nat.le_of_ble_eq_true rfl, Nat.le_of_ble_eq_true rfl⟩ hS hl.1 (As := [.int (y)]) (rest := []) (n := 1) rfl rfl (Nat.le_of_ble_eq_true rfl) dX0_settle_9 ?_
    refine ps_st (st' := [.int (bI (rng y 0 2))]) rfl ?_
    refine ps_ifneB (tgt := 18) hx hb dX0_settle_12 (by decide) (fun c_12 => ?_) (fun c_12 => ?_)
    · skip
      obtain ⟨j, rfl, j_lo, j_hi, j_b⟩ := rng_t c_12
      have cl_j : (nI j).toNatClampNeg = j := nI_clamp (by omega)
      refine lv_aload_n hx hb dX0_settle_18 rfl (lv_at hl 0 rfl) ?_
      refine ps_get (v := .ref (x + 11)) X in_X0 (ci := 0) rfl 4 (by decide) q216 rfl (hW.at hOb.1) rfl dX0_settle_19 ?_
      refine lv_iload_n hx hb dX0_settle_22 rfl (lv_at hl 1 rfl) ?_
      refine ps_roV X hE (m_X2_isOpen l hE hZ hW hD hO (k := k) (by omega)) (lw_V q860 q861 q862 q70 q863) (by decide +kernel) ⟨⟨Nat.le_of_ble_eq_true rfl, Nat.le_of_ble_eq_true rfl⟩, Nat.le_of_ble_eq_true rfl, Nat.le_of_ble_eq_true rfl⟩ (ps_rc X (ci := 2) rfl (hW.at hD.1)) hS hl.1 (As := [.int (nI k)]) (rest := []) (n := 1) rfl rfl (Nat.le_of_ble_eq_true rfl) dX0_settle_23 ?_
      refine ps_st (st' := [.int (bI (sp_open (S.2.1 0) k))]) rfl ?_
      refine ps_ifneB (tgt := 32) hx hb dX0_settle_26 (by decide) (fun c_26 => ?_) (fun c_26 => ?_)
      · skip
        have hp := hO.p k_hi
        have hq5 := hO.k (g := S.2.1 0 (17 + k)) (by omega)
        refine lv_aload_n hx hb dX0_settle_32 rfl (lv_at hl 0 rfl) ?_
        refine ps_geV X hE (m_X0_keep l hE hZ hW hC hwf) (lw_V q868 q870 qs19 q68 q871) (by decide +kernel) ⟨⟨Nat.le_of_ble_eq_true rfl, Nat.le_of_ble_eq_true rfl⟩, Nat.le_of_ble_eq_true rfl, Nat.le_of_ble_eq_true rfl⟩ (ps_rc X (ci := 0) rfl (hW.at hOb.1)) hS hl.1 (As := []) (rest := []) (n := 0) rfl rfl (Nat.le_of_ble_eq_true rfl) dX0_settle_33 (fun v5 H1 locs2 hp3 hS4 => ?_)
        obtain ⟨hv9, Γ6, ow10, hW7, hgf8, hC11⟩ := hp3
        subst hv9
        refine ps_st (st' := []) rfl ?_
        obtain ⟨trn, san, τn, hObn, hRwn, hTpn, hTrn, hSxn, hSln⟩ := hC11
        have hSon := (hSxn.2.2.2.2 0 _ hSxn.1.1).2
        rw [hSln.1, sNote_lt (by decide)] at hSon
        obtain ⟨smcn, srn, pfn, kfn, tfn, dfn, hDn, hOwn, hrrn, hpon⟩ := id hSon
        refine lv_aload_n hx hb dX0_settle_36 rfl (lv_at hl 0 rfl) ?_
        refine ps_get (v := .ref (x + 11)) X in_X0 (ci := 0) rfl 4 (by decide) q216 rfl (hW7.at hObn.1) rfl dX0_settle_37 ?_
        refine lv_iload_n hx hb dX0_settle_40 rfl (lv_at hl 1 rfl) ?_
        have J51 : W p l e ({ frames := 7, cells := 12, slots := 102, locals := 155 } : Room) s m args below meth c H1 locs2 (0 + 12) (0 + 102) (MQ below (ps_ge (ps_cpost E z Γ H x (op_settle S (nI k) (nI j))) (ps_A E)) args s 12 102 (ps_A E)) (F0 m 51 ls [.int (bI (decide (j = 1))), .int (nI k), .ref (x + 11)]) := by
          refine ps_geV X hE (m_X2_settle l hE hZ hW7 hDn hO (k := k) (b := (decide (j = 1))) (by omega)) (lw_V q924 q925 q926 q70 q927) (by decide +kernel) ⟨⟨Nat.le_of_ble_eq_true rfl, Nat.le_of_ble_eq_true rfl⟩, Nat.le_of_ble_eq_true rfl, Nat.le_of_ble_eq_true rfl⟩ (ps_rc X (ci := 2) rfl (hW7.at hDn.1)) hS4 hl.1 (As := [.int (nI k), .int (bI (decide (j = 1)))]) (rest := []) (n := 2) rfl rfl (Nat.le_of_ble_eq_true rfl) dX0_settle_51 (fun v16 H12 locs13 hp14 hS15 => ?_)
          obtain ⟨hv20, Γ17, kf21, tf22, hW18, hgf19, hD23, ho24⟩ := hp14
          subst hv20
          have hst25 := ps_So.setd (P := fun w => w = x + 11 + 6) hO (k := k) (by omega) rfl hDn hOwn hrrn hpon hD23 ho24
          refine ps_st (st' := []) rfl ?_
          have hO2 := sp_ok_settle (b := decide (j = 1)) hO k_hi
          obtain ⟨smc2, sr2, pf2, kf2, tf2, df2, hD2, hOw2, hrr2, hpo2⟩ := id hst25.2
          have s3 : (sp_settle (S.2.1 0) k (decide (j = 1))) 3 = S.2.1 0 3 := sp_settle_o (by omega) (by omega) (by omega)
          have s17 : (sp_settle (S.2.1 0) k (decide (j = 1))) (17 + k) = S.2.1 0 (17 + k) := sp_settle_o (by omega) (by omega) (by omega)
          refine lv_aload_n hx hb dX0_settle_54 rfl (lv_at hl 0 rfl) ?_
          refine ps_get (v := .ref (x + 11)) X in_X0 (ci := 0) rfl 4 (by decide) q216 rfl (hW18.at (hst25.1.k hObn.1 hObn.2 (by first | exact fun h => h | ((try dsimp only) <;> omega)))) rfl dX0_settle_55 ?_
          refine ps_get (v := .ref (x + 11 + 1)) X in_X2 (ci := 2) rfl 3 (by decide) q173 rfl (hW18.at hD2.1) rfl dX0_settle_58 ?_
          refine lv_aload_n hx hb dX0_settle_61 rfl (lv_at hl 0 rfl) ?_
          refine ps_get (v := .ref (x + 11)) X in_X0 (ci := 0) rfl 4 (by decide) q216 rfl (hW18.at (hst25.1.k hObn.1 hObn.2 (by first | exact fun h => h | ((try dsimp only) <;> omega)))) rfl dX0_settle_62 ?_
          refine lv_iload_n hx hb dX0_settle_65 rfl (lv_at hl 1 rfl) ?_
          refine ps_roV X hE (m_X2_promise l hE hZ hW18 hD2 hO2 (k := k) (by omega)) (lw_V q930 q888 q889 q70 q890) (by decide +kernel) ⟨⟨Nat.le_of_ble_eq_true rfl, Nat.le_of_ble_eq_true rfl⟩, Nat.le_of_ble_eq_true rfl, Nat.le_of_ble_eq_true rfl⟩ (ps_rc X (ci := 2) rfl (hW18.at hD2.1)) hS15 hl.1 (As := [.int (nI k)]) (rest := [.ref (x + 11 + 1)]) (n := 1) rfl rfl (Nat.le_of_ble_eq_true rfl) dX0_settle_66 ?_
          refine ps_st (st' := [.ref (pf2 k), .ref (x + 11 + 1)]) rfl ?_
          refine ps_pget (v := .int (nI ((sp_settle (S.2.1 0) k (decide (j = 1))) (17 + k)))) X (hO2.p (p := k) (by omega)).1 2 (by decide) q676 (hW18.at (hD2.2.2.2.2.2.2.2.2 k (by omega))) rfl dX0_settle_69 ?_
          refine ps_top (y := nI (S.2.1 0 (17 + k))) (congrArg nI s17) ?_
          refine ps_iald (j := S.2.1 0 (17 + k)) X (hW18.at hD2.2.1) rfl (by show S.2.1 0 (17 + k) < 4; omega) (by first | decide | omega) dX0_settle_72 ?_
          refine ps_top (y := nI ((sp_settle (S.2.1 0) k (decide (j = 1))) (5 + (S.2.1 0 (17 + k))))) (hD2.2.2.1 _ (by show S.2.1 0 (17 + k) < 4; omega)) ?_
          exact ps_iretG X hS15 (Nat.le_of_ble_eq_true rfl) (Nat.le_of_ble_eq_true rfl) dX0_settle_73 (ps_cend (S1 := (sSt (sNote S) (sp_settle (S.2.1 0) k (decide (j = 1))))) (by simp [op_settle, c_5, cl_k, c_12, cl_j, c_26]) hW18 ((ps_gf.rf.tr hgf8).tr hgf19) (ps_Cx.scl hObn hRwn hTpn hTrn hSxn hSln hst25.1 hO2 hst25.2))
        refine lv_iload_n hx hb dX0_settle_41 rfl (lv_at hl 2 rfl) ?_
        refine lv_iconst (v := nI 1) hx hb dX0_settle_42 rfl ?_
        refine ps_cne (tgt := 50) hx hb dX0_settle_43 (by decide) (by omega) (fun c_43 => ?_) (fun c_43 => ?_)
        · skip
          refine lv_iconst (v := nI 0) hx hb dX0_settle_50 rfl ?_
          exact ps_top ((bI_is0 (by simp [c_5, cl_k, c_12, cl_j, c_26, c_43]))) J51
        · skip
          refine lv_iconst (v := nI 1) hx hb dX0_settle_46 rfl ?_
          refine lv_goto (tgt := 51) hx hb dX0_settle_47 (by decide) ?_
          exact ps_top ((bI_is1 (by subst c_43; simp [c_5, cl_k, c_12, cl_j, c_26]))) J51
      · skip
        refine lv_ldc (v := -1000002) hx hb ho (hts _ q867) dX0_settle_29 ?_
        exact ps_iretG X hS (Nat.le_of_ble_eq_true rfl) (Nat.le_of_ble_eq_true rfl) dX0_settle_31 (ps_cend (S1 := S) (by simp [op_settle, c_5, cl_k, c_12, cl_j, c_26]) hW ps_gf.rf hC)
    · skip
      refine lv_ldc (v := -1000001) hx hb ho (hts _ q344) dX0_settle_15 ?_
      exact ps_iretG X hS (Nat.le_of_ble_eq_true rfl) (Nat.le_of_ble_eq_true rfl) dX0_settle_17 (ps_cend (S1 := S) (by simp [op_settle, c_5, cl_k, c_12]) hW ps_gf.rf hC)
