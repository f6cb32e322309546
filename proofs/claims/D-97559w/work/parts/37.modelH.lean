/-! the model: rows asked, free, asks, counts (printed by gen/model8.py) -/
set_option maxRecDepth 100000
set_option maxHeartbeats 4000000 in
theorem m_X4_found (l : Launch) {E : ps_E} (hE : ps_ZT E) {H : Heap} {o : Nat} {F : Nat → Int32} {A : Nat → Nat → Int32} (hM : ps_Mo E H o F A) {S : SS} (hs : sm F A S) (hW : wf S) {x y z t : Int32} : ps_Ge l E yX4_found cX4_found 10 (some .int) 6 129 0 0 [.ref (o), .int (x), .int (y), .int (z), .int (t)] H (ps_mpost E H o (op_found S x y z t)) := by
  refine ps_Ge.of (by decide) (Nat.le_of_ble_eq_true rfl) ?_
  intro p e s m args below meth c X ls hl
  have hx := X.1
  have hb := X.2.1
  have ho := X.2.2.2.1
  have hts := X.2.2.2.2.1
  have hS : va_S (ps_A E) s.heap H [] := by rw [X.2.2.2.2.2.2.2.2.1]; exact va_S.rf
  have hl : lv_has ls 10 [(0, .ref (o)), (1, .int (x)), (2, .int (y)), (3, .int (z)), (4, .int (t))] := hl
  have hσ := hs.2.2.2.2.1
  have hO := hW.1
  have hm := hO.m
  have hn := hW.n
  refine lv_aload_n hx hb dX4_found_0 rfl (lv_at hl 0 rfl) ?_
  refine ps_mget (v := .int (F 4)) X hM 4 (by decide) q1293 rfl rfl dX4_found_1 ?_
  refine ps_top (y := bI (decide (1 ≤ (S.2.1 0) 1))) (hs.1.2.2.2.2.2) ?_
  refine ps_ifneB (tgt := 10) hx hb dX4_found_4 (by decide) (fun c_4 => ?_) (fun c_4 => ?_)
  · skip
    have h1 : 1 ≤ (S.2.1 0) 1 := of_decide_eq_true c_4
    have h1' : ¬ (S.2.1 0) 1 = 0 := by omega
    refine lv_iload_n hx hb dX4_found_10 rfl (lv_at hl 1 rfl) ?_
    refine ps_roS X hE (m_X4_isRow l hE (H := H) (x := x)) (lw_S q1367 q1368 q75 q1369) (by decide +kernel) ⟨⟨Nat.le_of_ble_eq_true rfl, Nat.le_of_ble_eq_true rfl⟩, Nat.le_of_ble_eq_true rfl, Nat.le_of_ble_eq_true rfl⟩ hS hl.1 (As := [.int (x)]) (rest := []) (n := 1) rfl rfl (Nat.le_of_ble_eq_true rfl) dX4_found_11 ?_
    refine ps_st (st' := [.int (bI (rng x 0 8))]) rfl ?_
    refine ps_ifeqB (tgt := 40) hx hb dX4_found_14 (by decide) (fun c_14 => ?_) (fun c_14 => ?_)
    · skip
      refine lv_ldc (v := -1000001) hx hb ho (hts _ q1375) dX4_found_40 ?_
      exact ps_iretG X hS (Nat.le_of_ble_eq_true rfl) (Nat.le_of_ble_eq_true rfl) dX4_found_42 (ps_mend (S := S) (by simp [op_found, h1, h1', c_14]) hM (hs) ps_Mf.rf)
    · skip
      obtain ⟨k, rfl, k_lo, k_hi, k_b⟩ := rng_t c_14
      have cl_k : (nI k).toNatClampNeg = k := nI_clamp (by omega)
      have hr := hW.r (r := k) (by omega)
      refine lv_iload_n hx hb dX4_found_17 rfl (lv_at hl 3 rfl) ?_
      refine lv_i2l (v := (z).toInt64) hx hb dX4_found_18 rfl ?_
      refine lv_lconst (v := lN 1) hx hb dX4_found_19 rfl ?_
      refine lv_ldc2 (v := 8) hx hb ho (hts _ q1556) dX4_found_20 ?_
      refine ps_roS X hE (m_X4_in l hE (H := H) (x := z) (lo := 1) (hi := 9) (lN_toInt (by decide)) (ps_hcL (k := 8) (by decide +kernel))) (lw_S q1371 q1372 q75 q1373) (by decide +kernel) ⟨⟨Nat.le_of_ble_eq_true rfl, Nat.le_of_ble_eq_true rfl⟩, Nat.le_of_ble_eq_true rfl, Nat.le_of_ble_eq_true rfl⟩ hS hl.1 (As := [.long ((z).toInt64), .long (lN 1), .long (8)]) (rest := []) (n := 3) rfl rfl (Nat.le_of_ble_eq_true rfl) dX4_found_23 ?_
      refine ps_st (st' := [.int (bI (rng z 1 9))]) rfl ?_
      refine ps_ifeqB (tgt := 40) hx hb dX4_found_26 (by decide) (fun c_26 => ?_) (fun c_26 => ?_)
      · skip
        refine lv_ldc (v := -1000001) hx hb ho (hts _ q1375) dX4_found_40 ?_
        exact ps_iretG X hS (Nat.le_of_ble_eq_true rfl) (Nat.le_of_ble_eq_true rfl) dX4_found_42 (ps_mend (S := S) (by simp [op_found, h1, h1', c_14, cl_k, c_26]) hM (hs) ps_Mf.rf)
      · skip
        obtain ⟨j2, rfl, j2_lo, j2_hi, j2_b⟩ := rng_t c_26
        have cl_j2 : (nI j2).toNatClampNeg = j2 := nI_clamp (by omega)
        refine lv_iload hx hb dX4_found_29 (lv_at hl 4 rfl) ?_
        refine lv_i2l (v := (t).toInt64) hx hb dX4_found_31 rfl ?_
        refine lv_lconst (v := lN 0) hx hb dX4_found_32 rfl ?_
        refine lv_lconst (v := lN 1) hx hb dX4_found_33 rfl ?_
        refine ps_roS X hE (m_X4_in l hE (H := H) (x := t) (lo := 0) (hi := 2) (lN_toInt (by decide)) (ps_hcN 1 (by decide))) (lw_S q1371 q1372 q75 q1373) (by decide +kernel) ⟨⟨Nat.le_of_ble_eq_true rfl, Nat.le_of_ble_eq_true rfl⟩, Nat.le_of_ble_eq_true rfl, Nat.le_of_ble_eq_true rfl⟩ hS hl.1 (As := [.long ((t).toInt64), .long (lN 0), .long (lN 1)]) (rest := []) (n := 3) rfl rfl (Nat.le_of_ble_eq_true rfl) dX4_found_34 ?_
        refine ps_st (st' := [.int (bI (rng t 0 2))]) rfl ?_
        refine ps_ifneB (tgt := 43) hx hb dX4_found_37 (by decide) (fun c_37 => ?_) (fun c_37 => ?_)
        · skip
          obtain ⟨j3, rfl, j3_lo, j3_hi, j3_b⟩ := rng_t c_37
          have cl_j3 : (nI j3).toNatClampNeg = j3 := nI_clamp (by omega)
          refine lv_aload_n hx hb dX4_found_43 rfl (lv_at hl 0 rfl) ?_
          refine lv_iload_n hx hb dX4_found_44 rfl (lv_at hl 1 rfl) ?_
          refine lv_iload_n hx hb dX4_found_45 rfl (lv_at hl 2 rfl) ?_
          refine lv_iconst (v := nI 2) hx hb dX4_found_46 rfl ?_
          refine lv_iload_n hx hb dX4_found_47 rfl (lv_at hl 3 rfl) ?_
          refine ps_imul hx hb dX4_found_48 ?_
          refine ps_geV X hE (m_X4_lacks l hE hM hs hW (k := k) (x := y) (u := 2 * j2) (by omega) (by omega)) (lw_V q1588 q1590 qs56 q75 q1591) (by decide +kernel) ⟨⟨Nat.le_of_ble_eq_true rfl, Nat.le_of_ble_eq_true rfl⟩, Nat.le_of_ble_eq_true rfl, Nat.le_of_ble_eq_true rfl⟩ (ps_mrc X hM) hS hl.1 (As := [.int (nI k), .int (y), .int (nI (2 * j2))]) (rest := []) (n := 3) rfl rfl (Nat.le_of_ble_eq_true rfl) dX4_found_49 (fun v5 H1 locs2 hp3 hS4 => ?_)
          obtain ⟨hv6, hsame7, hdiff8⟩ := hp3
          by_cases e0 : S.2.1 4 k = 0
          · skip
            rw [if_pos e0] at hv6
            subst hv6
            obtain ⟨hM9, hf10⟩ := hdiff8 (fun z => z.1 e0)
            rw [if_pos e0] at hM9
            refine ps_st (st' := [.int (fnd 1)]) rfl ?_
            refine lv_istore (lv' := [(5, .int (fnd 1)), (0, .ref (o)), (1, .int (nI k)), (2, .int (y)), (3, .int (nI j2)), (4, .int (nI j3))]) hx hb dX4_found_52 hl (by decide) rfl (fun ls hl => ?_)
            refine lv_iload hx hb dX4_found_54 (lv_at hl 0 rfl) ?_
            refine lv_if_ge (tgt := 62) hx hb dX4_found_56 (by decide) (fun c_ => absurd c_ (by decide)) (fun _ => ?_)
            refine lv_iload hx hb dX4_found_59 (lv_at hl 0 rfl) ?_
            exact ps_iretG X hS4 (Nat.le_of_ble_eq_true rfl) (Nat.le_of_ble_eq_true rfl) dX4_found_61 (ps_mend (S := (sStat S 1)) (by simp [op_found, h1, h1', c_14, cl_k, c_26, cl_j2, c_37, cl_j3, e0]) hM9 (hs.stat 1) hf10)
          · skip
            rcases Bool.eq_false_or_eq_true (rng y 0 (S.2.1 4 k - (2 * j2))) with e1 | e1
            · skip
              rw [if_neg e0, if_pos e1] at hv6
              subst hv6
              have hHH := hsame7 ⟨e0, e1⟩
              rw [hHH] at hS4 ⊢
              obtain ⟨j1, rfl, j1_lo, j1_hi, j1_b⟩ := rng_t e1
              have cl_j1 : (nI j1).toNatClampNeg = j1 := nI_clamp (by omega)
              refine ps_st (st' := [.int (nI 0)]) rfl ?_
              refine lv_istore (lv' := [(5, .int (nI 0)), (0, .ref (o)), (1, .int (nI k)), (2, .int (nI j1)), (3, .int (nI j2)), (4, .int (nI j3))]) hx hb dX4_found_52 hl (by decide) rfl (fun ls hl => ?_)
              refine lv_iload hx hb dX4_found_54 (lv_at hl 0 rfl) ?_
              refine lv_if_ge (tgt := 62) hx hb dX4_found_56 (by decide) (fun _ => ?_) (fun c_ => absurd c_ (by decide))
              refine lv_bipush (v := nI 40) hx hb dX4_found_62 rfl ?_
              refine lv_iload_n hx hb dX4_found_64 rfl (lv_at hl 2 rfl) ?_
              refine ps_imul hx hb dX4_found_65 ?_
              refine lv_iload_n hx hb dX4_found_66 rfl (lv_at hl 3 rfl) ?_
              refine ps_iadd hx hb dX4_found_67 ?_
              refine lv_istore (lv' := [(6, .int (nI ((40 * k) + j1))), (5, .int (nI 0)), (0, .ref (o)), (1, .int (nI k)), (2, .int (nI j1)), (3, .int (nI j2)), (4, .int (nI j3))]) hx hb dX4_found_68 hl (by decide) rfl (fun ls hl => ?_)
              refine lv_iconst (v := nI 0) hx hb dX4_found_70 rfl ?_
              refine lv_istore (lv' := [(7, .int (nI 0)), (6, .int (nI ((40 * k) + j1))), (5, .int (nI 0)), (0, .ref (o)), (1, .int (nI k)), (2, .int (nI j1)), (3, .int (nI j2)), (4, .int (nI j3))]) hx hb dX4_found_71 hl (by decide) rfl (fun ls hl => ?_)
              have L73 : ∀ (n : Nat) (i : Nat) (hi : i ≤ j2) (hal : allR (fun k3 => rng (S.2.2 (40 * k + j1 + 2 * k3)) 0 (2 ^ S.2.1 0 3)) 0 i = true) (hmu : j2 - i < n) (ls : Array Slot) (hl : lv_has ls 10 [(7, .int (nI i)), (6, .int (nI (40 * k + j1))), (0, .ref (o)), (1, .int (nI k)), (2, .int (nI j1)), (3, .int (nI j2)), (4, .int (nI j3))]), W p l e ({ frames := 6, cells := 0, slots := 0, locals := 129 } : Room) s m args below meth c H locs2 0 0 (MQ below (ps_ge (ps_mpost E H o (op_found S (nI k) (nI j1) (nI j2) (nI j3))) (ps_A E)) args s 0 0 (ps_A E)) (F0 m 73 ls []) := by
                intro n
                induction n with
                | zero => intro i hi hal hmu; exact absurd hmu (Nat.not_lt_zero _)
                | succ n ih73 =>
                  intro i hi hal hmu ls hl
                  refine lv_iload hx hb dX4_found_73 (lv_at hl 0 rfl) ?_
                  refine lv_iload_n hx hb dX4_found_75 rfl (lv_at hl 5 rfl) ?_
                  refine ps_cge (tgt := 107) hx hb dX4_found_76 (by decide) (by omega) (fun c_76 => ?_) (fun c_76 => ?_)
                  · skip
                    have hall : allR (fun k3 => rng (S.2.2 (40 * k + j1 + 2 * k3)) 0 (2 ^ S.2.1 0 3)) 0 j2 = true := by rw [← (show i = j2 by omega)]; exact hal
                    have hR : ∀ k3, k3 < j2 → rng (S.2.2 (40 * k + j1 + 2 * k3)) 0 (2 ^ S.2.1 0 3) = true := fun k3 h3 => by have := (allR_iff _ _ _).mp hall k3 h3; rwa [Nat.zero_add] at this
                    refine lv_iconst (v := nI 0) hx hb dX4_found_107 rfl ?_
                    refine lv_istore (lv' := [(7, .int (nI 0)), (6, .int (nI (40 * k + j1))), (0, .ref (o)), (1, .int (nI k)), (2, .int (nI j1)), (3, .int (nI j2)), (4, .int (nI j3))]) hx hb dX4_found_108 hl (by decide) rfl (fun ls hl => ?_)
                    refine lv_iconst (v := nI 0) hx hb dX4_found_110 rfl ?_
                    refine lv_istore (lv' := [(8, .int (nI 0)), (7, .int (nI 0)), (6, .int (nI (40 * k + j1))), (0, .ref (o)), (1, .int (nI k)), (2, .int (nI j1)), (3, .int (nI j2)), (4, .int (nI j3))]) hx hb dX4_found_111 hl (by decide) rfl (fun ls hl => ?_)
                    have L113 : ∀ (n : Nat) (i : Nat) (hi : i ≤ 10) (hmu : 10 - i < n) (ls : Array Slot) (hl : lv_has ls 10 [(8, .int (nI i)), (7, .int (nI (orR (fun k3 => if j3 = 0 then sp_so (S.2.1 0) S.2.2 (40 * k + j1) k3 (S.2.1 0 1) j2 else decide (k3 < 5) && sp_so (S.2.1 0) S.2.2 (40 * k + j1) (S.2.1 0 0) (k3 + 1) j2) i))), (6, .int (nI (40 * k + j1))), (0, .ref (o)), (1, .int (nI k)), (2, .int (nI j1)), (3, .int (nI j2)), (4, .int (nI j3))]), W p l e ({ frames := 6, cells := 0, slots := 0, locals := 129 } : Room) s m args below meth c H locs2 0 0 (MQ below (ps_ge (ps_mpost E H o (op_found S (nI k) (nI j1) (nI j2) (nI j3))) (ps_A E)) args s 0 0 (ps_A E)) (F0 m 113 ls []) := by
                      intro n
                      induction n with
                      | zero => intro i hi hmu; exact absurd hmu (Nat.not_lt_zero _)
                      | succ n ih113 =>
                        intro i hi hmu ls hl
                        refine lv_iload hx hb dX4_found_113 (lv_at hl 0 rfl) ?_
                        refine lv_bipush (v := nI 10) hx hb dX4_found_115 rfl ?_
                        refine ps_cge (tgt := 200) hx hb dX4_found_117 (by decide) (by omega) (fun c_117 => ?_) (fun c_117 => ?_)
                        · skip
                          have ei : i = 10 := by omega
                          refine lv_aload_n hx hb dX4_found_200 rfl (lv_at hl 3 rfl) ?_
                          refine lv_iload hx hb dX4_found_201 (lv_at hl 1 rfl) ?_
                          refine ps_geV X hE (m_X4_well l hE hM (x := nI (orR (fun k3 => if j3 = 0 then sp_so (S.2.1 0) S.2.2 (40 * k + j1) k3 (S.2.1 0 1) j2 else decide (k3 < 5) && sp_so (S.2.1 0) S.2.2 (40 * k + j1) (S.2.1 0 0) (k3 + 1) j2) i))) (lw_V q1381 q1383 qs33 q75 q1384) (by decide +kernel) ⟨⟨Nat.le_of_ble_eq_true rfl, Nat.le_of_ble_eq_true rfl⟩, Nat.le_of_ble_eq_true rfl, Nat.le_of_ble_eq_true rfl⟩ (ps_mrc X hM) hS4 hl.1 (As := [.int (nI (orR (fun k3 => if j3 = 0 then sp_so (S.2.1 0) S.2.2 (40 * k + j1) k3 (S.2.1 0 1) j2 else decide (k3 < 5) && sp_so (S.2.1 0) S.2.2 (40 * k + j1) (S.2.1 0 0) (k3 + 1) j2) i))]) (rest := []) (n := 1) rfl rfl (Nat.le_of_ble_eq_true rfl) dX4_found_203 (fun v15 H11 locs12 hp13 hS14 => ?_)
                          obtain ⟨hv18, hM16, hf17⟩ := hp13
                          subst hv18
                          refine ps_st (st' := [.int (nI (orR (fun k3 => if j3 = 0 then sp_so (S.2.1 0) S.2.2 (40 * k + j1) k3 (S.2.1 0 1) j2 else decide (k3 < 5) && sp_so (S.2.1 0) S.2.2 (40 * k + j1) (S.2.1 0 0) (k3 + 1) j2) i))]) rfl ?_
                          exact ps_iretG X hS14 (Nat.le_of_ble_eq_true rfl) (Nat.le_of_ble_eq_true rfl) dX4_found_206 (ps_mend (S := (sStat S 0)) (by rw [ei]; rcases Nat.eq_zero_or_pos j3 with e3 | e3; (subst e3; simp [op_found, h1, h1', c_14, cl_k, c_26, cl_j2, c_37, cl_j3, e0, e1, cl_j1, c_76, c_117, hall]); (have e4 := Nat.ne_of_gt e3; simp [op_found, h1, h1', c_14, cl_k, c_26, cl_j2, c_37, cl_j3, e0, e1, cl_j1, c_76, c_117, hall, e4, orR_5])) hM16 (hs.stat 0) hf17)
                        · skip
                          have J174 : W p l e ({ frames := 6, cells := 0, slots := 0, locals := 129 } : Room) s m args below meth c H locs2 0 0 (MQ below (ps_ge (ps_mpost E H o (op_found S (nI k) (nI j1) (nI j2) (nI j3))) (ps_A E)) args s 0 0 (ps_A E)) (F0 m 174 ls [.int (bI (((fun k3 => if j3 = 0 then sp_so (S.2.1 0) S.2.2 (40 * k + j1) k3 (S.2.1 0 1) j2 else decide (k3 < 5) && sp_so (S.2.1 0) S.2.2 (40 * k + j1) (S.2.1 0 0) (k3 + 1) j2) i)))]) := by
                            refine lv_istore (lv' := [(9, .int (bI (((fun k3 => if j3 = 0 then sp_so (S.2.1 0) S.2.2 (40 * k + j1) k3 (S.2.1 0 1) j2 else decide (k3 < 5) && sp_so (S.2.1 0) S.2.2 (40 * k + j1) (S.2.1 0 0) (k3 + 1) j2) i)))), (8, .int (nI i)), (7, .int (nI (orR (fun k3 => if j3 = 0 then sp_so (S.2.1 0) S.2.2 (40 * k + j1) k3 (S.2.1 0 1) j2 else decide (k3 < 5) && sp_so (S.2.1 0) S.2.2 (40 * k + j1) (S.2.1 0 0) (k3 + 1) j2) i))), (6, .int (nI (40 * k + j1))), (0, .ref (o)), (1, .int (nI k)), (2, .int (nI j1)), (3, .int (nI j2)), (4, .int (nI j3))]) hx hb dX4_found_174 hl (by decide) rfl (fun ls hl => ?_)
                            refine lv_iload hx hb dX4_found_176 (lv_at hl 2 rfl) ?_
                            have J191 : W p l e ({ frames := 6, cells := 0, slots := 0, locals := 129 } : Room) s m args below meth c H locs2 0 0 (MQ below (ps_ge (ps_mpost E H o (op_found S (nI k) (nI j1) (nI j2) (nI j3))) (ps_A E)) args s 0 0 (ps_A E)) (F0 m 191 ls [.int (nI (if ((fun k3 => if j3 = 0 then sp_so (S.2.1 0) S.2.2 (40 * k + j1) k3 (S.2.1 0 1) j2 else decide (k3 < 5) && sp_so (S.2.1 0) S.2.2 (40 * k + j1) (S.2.1 0 0) (k3 + 1) j2) i) = true then 2 ^ i else 0)), .int (nI (orR (fun k3 => if j3 = 0 then sp_so (S.2.1 0) S.2.2 (40 * k + j1) k3 (S.2.1 0 1) j2 else decide (k3 < 5) && sp_so (S.2.1 0) S.2.2 (40 * k + j1) (S.2.1 0 0) (k3 + 1) j2) i))]) := by
                              refine lv_ior hx hb dX4_found_191 ?_
                              refine ps_top (y := nI ((orR (fun k3 => if j3 = 0 then sp_so (S.2.1 0) S.2.2 (40 * k + j1) k3 (S.2.1 0 1) j2 else decide (k3 < 5) && sp_so (S.2.1 0) S.2.2 (40 * k + j1) (S.2.1 0 0) (k3 + 1) j2) i) ||| (if ((fun k3 => if j3 = 0 then sp_so (S.2.1 0) S.2.2 (40 * k + j1) k3 (S.2.1 0 1) j2 else decide (k3 < 5) && sp_so (S.2.1 0) S.2.2 (40 * k + j1) (S.2.1 0 0) (k3 + 1) j2) i) = true then 2 ^ i else 0))) (nI_or _ _) ?_
                              refine lv_istore (lv' := [(7, .int (nI ((orR (fun k3 => if j3 = 0 then sp_so (S.2.1 0) S.2.2 (40 * k + j1) k3 (S.2.1 0 1) j2 else decide (k3 < 5) && sp_so (S.2.1 0) S.2.2 (40 * k + j1) (S.2.1 0 0) (k3 + 1) j2) i) ||| (if ((fun k3 => if j3 = 0 then sp_so (S.2.1 0) S.2.2 (40 * k + j1) k3 (S.2.1 0 1) j2 else decide (k3 < 5) && sp_so (S.2.1 0) S.2.2 (40 * k + j1) (S.2.1 0 0) (k3 + 1) j2) i) = true then 2 ^ i else 0)))), (9, .int (bI (((fun k3 => if j3 = 0 then sp_so (S.2.1 0) S.2.2 (40 * k + j1) k3 (S.2.1 0 1) j2 else decide (k3 < 5) && sp_so (S.2.1 0) S.2.2 (40 * k + j1) (S.2.1 0 0) (k3 + 1) j2) i)))), (8, .int (nI i)), (6, .int (nI (40 * k + j1))), (0, .ref (o)), (1, .int (nI k)), (2, .int (nI j1)), (3, .int (nI j2)), (4, .int (nI j3))]) hx hb dX4_found_192 hl (by decide) rfl (fun ls hl => ?_)
                              refine lv_iinc (v := nI (i + 1)) (lv' := [(8, .int (nI (i + 1))), (7, .int (nI ((orR (fun k3 => if j3 = 0 then sp_so (S.2.1 0) S.2.2 (40 * k + j1) k3 (S.2.1 0 1) j2 else decide (k3 < 5) && sp_so (S.2.1 0) S.2.2 (40 * k + j1) (S.2.1 0 0) (k3 + 1) j2) i) ||| (if ((fun k3 => if j3 = 0 then sp_so (S.2.1 0) S.2.2 (40 * k + j1) k3 (S.2.1 0 1) j2 else decide (k3 < 5) && sp_so (S.2.1 0) S.2.2 (40 * k + j1) (S.2.1 0 0) (k3 + 1) j2) i) = true then 2 ^ i else 0)))), (9, .int (bI (((fun k3 => if j3 = 0 then sp_so (S.2.1 0) S.2.2 (40 * k + j1) k3 (S.2.1 0 1) j2 else decide (k3 < 5) && sp_so (S.2.1 0) S.2.2 (40 * k + j1) (S.2.1 0 0) (k3 + 1) j2) i)))), (6, .int (nI (40 * k + j1))), (0, .ref (o)), (1, .int (nI k)), (2, .int (nI j1)), (3, .int (nI j2)), (4, .int (nI j3))]) hx hb dX4_found_194 hl (k := 2) rfl (ps_inc _) (by decide) rfl (fun ls hl => ?_)
                              refine lv_goto (tgt := 113) hx hb dX4_found_197 (by decide) ?_
                              have hl : lv_has ls 10 [(8, .int (nI (i + 1))), (7, .int (nI (orR (fun k3 => if j3 = 0 then sp_so (S.2.1 0) S.2.2 (40 * k + j1) k3 (S.2.1 0 1) j2 else decide (k3 < 5) && sp_so (S.2.1 0) S.2.2 (40 * k + j1) (S.2.1 0 0) (k3 + 1) j2) (i + 1)))), (6, .int (nI (40 * k + j1))), (0, .ref (o)), (1, .int (nI k)), (2, .int (nI j1)), (3, .int (nI j2)), (4, .int (nI j3))] := lv_sub hl [0, 1, 3, 4, 5, 6, 7, 8] rfl
                              exact ih113  (i + 1) (by omega) (by omega) ls (hl)
                            refine lv_iload hx hb dX4_found_178 (lv_at hl 0 rfl) ?_
                            refine ps_ifeqB (tgt := 190) hx hb dX4_found_180 (by decide) (fun c_180 => ?_) (fun c_180 => ?_)
                            · skip
                              refine lv_iconst (v := nI 0) hx hb dX4_found_190 rfl ?_
                              exact ps_top (congrArg nI (by first | rfl | (simp [h1, h1', c_14, cl_k, c_26, cl_j2, c_37, cl_j3, e0, e1, cl_j1, c_76, c_117, c_180]; done) | (simp [h1, h1', c_14, cl_k, c_26, cl_j2, c_37, cl_j3, e0, e1, cl_j1, c_76, c_117, c_180]; omega) | omega)) J191
                            · skip
                              refine lv_iconst (v := nI 1) hx hb dX4_found_183 rfl ?_
                              refine lv_iload hx hb dX4_found_184 (lv_at hl 1 rfl) ?_
                              refine lv_ishl hx hb dX4_found_186 ?_
                              refine ps_top (y := nI (2 ^ i)) (ps_shl1 (by omega)) ?_
                              refine lv_goto (tgt := 191) hx hb dX4_found_187 (by decide) ?_
                              exact ps_top (congrArg nI (by first | rfl | (simp [h1, h1', c_14, cl_k, c_26, cl_j2, c_37, cl_j3, e0, e1, cl_j1, c_76, c_117, c_180]; done) | (simp [h1, h1', c_14, cl_k, c_26, cl_j2, c_37, cl_j3, e0, e1, cl_j1, c_76, c_117, c_180]; omega) | omega)) J191
                          refine lv_iload hx hb dX4_found_120 (lv_at hl 7 rfl) ?_
                          refine ps_ifne (tgt := 143) hx hb dX4_found_122 (by decide) (by omega) (fun c_122 => ?_) (fun c_122 => ?_)
                          · skip
                            refine lv_iload hx hb dX4_found_143 (lv_at hl 0 rfl) ?_
                            refine lv_iconst (v := nI 5) hx hb dX4_found_145 rfl ?_
                            refine ps_cge (tgt := 173) hx hb dX4_found_146 (by decide) (by omega) (fun c_146 => ?_) (fun c_146 => ?_)
                            · skip
                              refine lv_iconst (v := nI 0) hx hb dX4_found_173 rfl ?_
                              exact ps_top ((bI_is0 (by simp [c_122, show ¬ i < 5 by omega]))) J174
                            · skip
                              refine lv_aload_n hx hb dX4_found_149 rfl (lv_at hl 3 rfl) ?_
                              refine lv_iload hx hb dX4_found_150 (lv_at hl 2 rfl) ?_
                              refine lv_iload_n hx hb dX4_found_152 rfl (lv_at hl 6 rfl) ?_
                              refine lv_aload_n hx hb dX4_found_153 rfl (lv_at hl 3 rfl) ?_
                              refine ps_mget (v := .ref (o + 4)) X hM 5 (by decide) q1294 rfl rfl dX4_found_154 ?_
                              refine lv_iconst (v := nI 0) hx hb dX4_found_157 rfl ?_
                              refine ps_mld (j := 0) (v := nI ((S.2.1 0) 0)) X hM 4 (by decide) rfl (by show 0 < 57; omega) (hσ _ (by show 0 < 57; omega)) dX4_found_158 ?_
                              refine lv_iload hx hb dX4_found_159 (lv_at hl 0 rfl) ?_
                              refine lv_iconst (v := nI 1) hx hb dX4_found_161 rfl ?_
                              refine ps_iadd hx hb dX4_found_162 ?_
                              refine ps_roV X hE (m_X4_isSo l hE hM hσ hO (it := S.2.2) (q1 := 40 * k + j1) (u := j2) (x1 := (S.2.1 0) 0) (y1 := i + 1) hs.2.2.2.1 (by omega) (by omega) (by omega) hR) (lw_V q1592 q1594 qs57 q75 q1595) (by decide +kernel) ⟨⟨Nat.le_of_ble_eq_true rfl, Nat.le_of_ble_eq_true rfl⟩, Nat.le_of_ble_eq_true rfl, Nat.le_of_ble_eq_true rfl⟩ (ps_mrc X hM) hS4 hl.1 (As := [.int (nI (40 * k + j1)), .int (nI j2), .int (nI ((S.2.1 0) 0)), .int (nI (i + 1))]) (rest := []) (n := 4) rfl rfl (Nat.le_of_ble_eq_true rfl) dX4_found_163 ?_
                              refine ps_st (st' := [.int (bI (sp_so (S.2.1 0) S.2.2 (40 * k + j1) ((S.2.1 0) 0) (i + 1) j2))]) rfl ?_
                              refine ps_ifeqB (tgt := 173) hx hb dX4_found_166 (by decide) (fun c_166 => ?_) (fun c_166 => ?_)
                              · skip
                                refine lv_iconst (v := nI 0) hx hb dX4_found_173 rfl ?_
                                exact ps_top ((bI_is0 (by simp [h1, h1', c_14, cl_k, c_26, cl_j2, c_37, cl_j3, e0, e1, cl_j1, c_76, c_117, c_122, c_146, c_166]))) J174
                              · skip
                                refine lv_iconst (v := nI 1) hx hb dX4_found_169 rfl ?_
                                refine lv_goto (tgt := 174) hx hb dX4_found_170 (by decide) ?_
                                exact ps_top ((bI_is1 (by simp [h1, h1', c_14, cl_k, c_26, cl_j2, c_37, cl_j3, e0, e1, cl_j1, c_76, c_117, c_122, c_146, c_166]))) J174
                          · skip
                            refine lv_aload_n hx hb dX4_found_125 rfl (lv_at hl 3 rfl) ?_
                            refine lv_iload hx hb dX4_found_126 (lv_at hl 2 rfl) ?_
                            refine lv_iload_n hx hb dX4_found_128 rfl (lv_at hl 6 rfl) ?_
                            refine lv_iload hx hb dX4_found_129 (lv_at hl 0 rfl) ?_
                            refine lv_aload_n hx hb dX4_found_131 rfl (lv_at hl 3 rfl) ?_
                            refine ps_mget (v := .ref (o + 4)) X hM 5 (by decide) q1294 rfl rfl dX4_found_132 ?_
                            refine lv_iconst (v := nI 1) hx hb dX4_found_135 rfl ?_
                            refine ps_mld (j := 1) (v := nI ((S.2.1 0) 1)) X hM 4 (by decide) rfl (by show 1 < 57; omega) (hσ _ (by show 1 < 57; omega)) dX4_found_136 ?_
                            refine ps_roV X hE (m_X4_isSo l hE hM hσ hO (it := S.2.2) (q1 := 40 * k + j1) (u := j2) (x1 := i) (y1 := (S.2.1 0) 1) hs.2.2.2.1 (by omega) (by omega) (by omega) hR) (lw_V q1592 q1594 qs57 q75 q1595) (by decide +kernel) ⟨⟨Nat.le_of_ble_eq_true rfl, Nat.le_of_ble_eq_true rfl⟩, Nat.le_of_ble_eq_true rfl, Nat.le_of_ble_eq_true rfl⟩ (ps_mrc X hM) hS4 hl.1 (As := [.int (nI (40 * k + j1)), .int (nI j2), .int (nI i), .int (nI ((S.2.1 0) 1))]) (rest := []) (n := 4) rfl rfl (Nat.le_of_ble_eq_true rfl) dX4_found_137 ?_
                            refine ps_st (st' := [.int (bI (sp_so (S.2.1 0) S.2.2 (40 * k + j1) i ((S.2.1 0) 1) j2))]) rfl ?_
                            refine lv_goto (tgt := 174) hx hb dX4_found_140 (by decide) ?_
                            exact ps_top (congrArg bI (by subst c_122; simp [h1, h1', c_14, cl_k, c_26, cl_j2, c_37, cl_j3, e0, e1, cl_j1, c_76, c_117])) J174
                    have hl : lv_has ls 10 [(8, .int (nI 0)), (7, .int (nI (orR (fun k3 => if j3 = 0 then sp_so (S.2.1 0) S.2.2 (40 * k + j1) k3 (S.2.1 0 1) j2 else decide (k3 < 5) && sp_so (S.2.1 0) S.2.2 (40 * k + j1) (S.2.1 0 0) (k3 + 1) j2) 0))), (6, .int (nI (40 * k + j1))), (0, .ref (o)), (1, .int (nI k)), (2, .int (nI j1)), (3, .int (nI j2)), (4, .int (nI j3))] := lv_sub hl [0, 1, 2, 3, 4, 5, 6, 7] rfl
                    exact L113 ((10 - 0) + 1) 0 (by omega) (Nat.lt_succ_self _) ls (hl)
                  · skip
                    refine lv_aload_n hx hb dX4_found_79 rfl (lv_at hl 2 rfl) ?_
                    refine lv_aload_n hx hb dX4_found_80 rfl (lv_at hl 2 rfl) ?_
                    refine ps_mget (v := .ref (o + 3)) X hM 2 (by decide) q1291 rfl rfl dX4_found_81 ?_
                    refine lv_iload hx hb dX4_found_84 (lv_at hl 1 rfl) ?_
                    refine lv_iconst (v := nI 2) hx hb dX4_found_86 rfl ?_
                    refine lv_iload hx hb dX4_found_87 (lv_at hl 0 rfl) ?_
                    refine ps_imul hx hb dX4_found_89 ?_
                    refine ps_iadd hx hb dX4_found_90 ?_
                    refine ps_mld (j := (40 * k + j1) + (2 * i)) (v := S.2.2 ((40 * k + j1) + (2 * i))) X hM 3 (by decide) rfl (by show (40 * k + j1) + (2 * i) < 320; omega) (hs.2.2.2.1 _ (by omega)) dX4_found_91 ?_
                    refine ps_roV X hE (m_X4_isSet l hE hM hσ hO (x := S.2.2 ((40 * k + j1) + (2 * i)))) (lw_V q1527 q1529 qs52 q75 q1530) (by decide +kernel) ⟨⟨Nat.le_of_ble_eq_true rfl, Nat.le_of_ble_eq_true rfl⟩, Nat.le_of_ble_eq_true rfl, Nat.le_of_ble_eq_true rfl⟩ (ps_mrc X hM) hS4 hl.1 (As := [.int (S.2.2 ((40 * k + j1) + (2 * i)))]) (rest := []) (n := 1) rfl rfl (Nat.le_of_ble_eq_true rfl) dX4_found_92 ?_
                    refine ps_st (st' := [.int (bI (rng (S.2.2 ((40 * k + j1) + (2 * i))) 0 (2 ^ (S.2.1 0) 3)))]) rfl ?_
                    refine ps_ifneB (tgt := 101) hx hb dX4_found_95 (by decide) (fun c_95 => ?_) (fun c_95 => ?_)
                    · skip
                      refine lv_iinc (v := nI (i + 1)) (lv' := [(7, .int (nI (i + 1))), (6, .int (nI (40 * k + j1))), (0, .ref (o)), (1, .int (nI k)), (2, .int (nI j1)), (3, .int (nI j2)), (4, .int (nI j3))]) hx hb dX4_found_101 hl (k := 0) rfl (ps_inc _) (by decide) rfl (fun ls hl => ?_)
                      refine lv_goto (tgt := 73) hx hb dX4_found_104 (by decide) ?_
                      exact ih73  (i + 1) (by omega) (by rw [allR, hal, Nat.zero_add, c_95]; rfl) (by omega) ls (lv_sub hl [0, 1, 2, 3, 4, 5, 6] rfl)
                    · skip
                      have hno : allR (fun k3 => rng (S.2.2 (40 * k + j1 + 2 * k3)) 0 (2 ^ S.2.1 0 3)) 0 j2 = false := Bool.eq_false_iff.mpr (fun z => by have := (allR_iff _ _ _).mp z i (by omega); rw [Nat.zero_add, c_95] at this; exact absurd this (by decide))
                      refine lv_ldc (v := -1000001) hx hb ho (hts _ q1375) dX4_found_98 ?_
                      exact ps_iretG X hS4 (Nat.le_of_ble_eq_true rfl) (Nat.le_of_ble_eq_true rfl) dX4_found_100 (ps_mend (S := S) (by simp [op_found, h1, h1', c_14, cl_k, c_26, cl_j2, c_37, cl_j3, e0, e1, cl_j1, c_76, c_95, hno]) hM (hs) ps_Mf.rf)
              exact L73 ((j2 - 0) + 1) 0 (by omega) rfl (Nat.lt_succ_self _) ls (lv_sub hl [0, 1, 3, 4, 5, 6, 7] rfl)
            · skip
              rw [if_neg e0, if_neg (by rw [e1]; decide)] at hv6
              subst hv6
              obtain ⟨hM19, hf20⟩ := hdiff8 (fun z => by rw [e1] at z; exact absurd z.2 (by decide))
              rw [if_neg e0] at hM19
              refine ps_st (st' := [.int (fnd 2)]) rfl ?_
              refine lv_istore (lv' := [(5, .int (fnd 2)), (0, .ref (o)), (1, .int (nI k)), (2, .int (y)), (3, .int (nI j2)), (4, .int (nI j3))]) hx hb dX4_found_52 hl (by decide) rfl (fun ls hl => ?_)
              refine lv_iload hx hb dX4_found_54 (lv_at hl 0 rfl) ?_
              refine lv_if_ge (tgt := 62) hx hb dX4_found_56 (by decide) (fun c_ => absurd c_ (by decide)) (fun _ => ?_)
              refine lv_iload hx hb dX4_found_59 (lv_at hl 0 rfl) ?_
              exact ps_iretG X hS4 (Nat.le_of_ble_eq_true rfl) (Nat.le_of_ble_eq_true rfl) dX4_found_61 (ps_mend (S := (sStat S 2)) (by simp [op_found, h1, h1', c_14, cl_k, c_26, cl_j2, c_37, cl_j3, e0, e1]) hM19 (hs.stat 2) hf20)
        · skip
          refine lv_ldc (v := -1000001) hx hb ho (hts _ q1375) dX4_found_40 ?_
          exact ps_iretG X hS (Nat.le_of_ble_eq_true rfl) (Nat.le_of_ble_eq_true rfl) dX4_found_42 (ps_mend (S := S) (by simp [op_found, h1, h1', c_14, cl_k, c_26, cl_j2, c_37]) hM (hs) ps_Mf.rf)
  · skip
    have h1 : ¬ 1 ≤ (S.2.1 0) 1 := of_decide_eq_false c_4
    have h1' : (S.2.1 0) 1 = 0 := by omega
    refine lv_ldc (v := -1000002) hx hb ho (hts _ q1463) dX4_found_7 ?_
    exact ps_iretG X hS (Nat.le_of_ble_eq_true rfl) (Nat.le_of_ble_eq_true rfl) dX4_found_9 (ps_mend (S := S) (by simp [op_found, h1']) hM (hs) ps_Mf.rf)

set_option maxHeartbeats 4000000 in
theorem m_X4_keepsFound (l : Launch) {E : ps_E} (hE : ps_ZT E) {H : Heap} {o : Nat} {F : Nat → Int32} {A : Nat → Nat → Int32} (hM : ps_Mo E H o F A) {S : SS} (hs : sm F A S) (hW : wf S) {x y z : Int32} : ps_Ge l E yX4_keepsFound cX4_keepsFound 11 (some .int) 3 60 0 0 [.ref (o), .int (x), .int (y), .int (z)] H (ps_mpost E H o (op_keepsFound S x y z)) := by
  refine ps_Ge.of (by decide) (Nat.le_of_ble_eq_true rfl) ?_
  intro p e s m args below meth c X ls hl
  have hx := X.1
  have hb := X.2.1
  have ho := X.2.2.2.1
  have hts := X.2.2.2.2.1
  have hS : va_S (ps_A E) s.heap H [] := by rw [X.2.2.2.2.2.2.2.2.1]; exact va_S.rf
  have hl : lv_has ls 11 [(0, .ref (o)), (1, .int (x)), (2, .int (y)), (3, .int (z))] := hl
  have hσ := hs.2.2.2.2.1
  have hO := hW.1
  have hm := hO.m
  have hn := hW.n
  refine lv_aload_n hx hb dX4_keepsFound_0 rfl (lv_at hl 0 rfl) ?_
  refine lv_iload_n hx hb dX4_keepsFound_1 rfl (lv_at hl 1 rfl) ?_
  refine ps_roV X hE (m_X4_isGiver l hE hM hσ hO (x := x)) (lw_V q1519 q1521 qs51 q75 q1522) (by decide +kernel) ⟨⟨Nat.le_of_ble_eq_true rfl, Nat.le_of_ble_eq_true rfl⟩, Nat.le_of_ble_eq_true rfl, Nat.le_of_ble_eq_true rfl⟩ (ps_mrc X hM) hS hl.1 (As := [.int (x)]) (rest := []) (n := 1) rfl rfl (Nat.le_of_ble_eq_true rfl) dX4_keepsFound_2 ?_
  refine ps_st (st' := [.int (bI (rng x 0 ((S.2.1 0) 2)))]) rfl ?_
  refine ps_ifeqB (tgt := 15) hx hb dX4_keepsFound_5 (by decide) (fun c_5 => ?_) (fun c_5 => ?_)
  · skip
    refine lv_ldc (v := -1000001) hx hb ho (hts _ q1375) dX4_keepsFound_15 ?_
    exact ps_iretG X hS (Nat.le_of_ble_eq_true rfl) (Nat.le_of_ble_eq_true rfl) dX4_keepsFound_17 (ps_mend (S := S) (by simp [op_keepsFound, c_5]) hM (hs) ps_Mf.rf)
  · skip
    obtain ⟨k, rfl, k_lo, k_hi, k_b⟩ := rng_t c_5
    have cl_k : (nI k).toNatClampNeg = k := nI_clamp (by omega)
    refine lv_iload_n hx hb dX4_keepsFound_8 rfl (lv_at hl 2 rfl) ?_
    refine ps_roS X hE (m_X4_isRow l hE (H := H) (x := y)) (lw_S q1367 q1368 q75 q1369) (by decide +kernel) ⟨⟨Nat.le_of_ble_eq_true rfl, Nat.le_of_ble_eq_true rfl⟩, Nat.le_of_ble_eq_true rfl, Nat.le_of_ble_eq_true rfl⟩ hS hl.1 (As := [.int (y)]) (rest := []) (n := 1) rfl rfl (Nat.le_of_ble_eq_true rfl) dX4_keepsFound_9 ?_
    refine ps_st (st' := [.int (bI (rng y 0 8))]) rfl ?_
    refine ps_ifneB (tgt := 18) hx hb dX4_keepsFound_12 (by decide) (fun c_12 => ?_) (fun c_12 => ?_)
    · skip
      obtain ⟨k2, rfl, k2_lo, k2_hi, k2_b⟩ := rng_t c_12
      have cl_k2 : (nI k2).toNatClampNeg = k2 := nI_clamp (by omega)
      have hr := hW.r (r := k2) (by omega)
      refine lv_iconst (v := nI 0) hx hb dX4_keepsFound_18 rfl ?_
      refine lv_istore (lv' := [(4, .int (nI 0)), (0, .ref (o)), (1, .int (nI k)), (2, .int (nI k2)), (3, .int (z))]) hx hb dX4_keepsFound_19 hl (by decide) rfl (fun ls hl => ?_)
      refine lv_iconst (v := nI 0) hx hb dX4_keepsFound_21 rfl ?_
      refine lv_istore (lv' := [(5, .int (nI 0)), (4, .int (nI 0)), (0, .ref (o)), (1, .int (nI k)), (2, .int (nI k2)), (3, .int (z))]) hx hb dX4_keepsFound_22 hl (by decide) rfl (fun ls hl => ?_)
      have L24 : ∀ (n : Nat) (i : Nat) (hi : i ≤ S.2.1 0 3) (hmu : S.2.1 0 3 - i < n) (ls : Array Slot) (hl : lv_has ls 11 [(5, .int (nI i)), (4, .int (nI (sp_npl (S.2.1 0) k i))), (0, .ref (o)), (1, .int (nI k)), (2, .int (nI k2)), (3, .int (z))]), W p l e ({ frames := 3, cells := 0, slots := 0, locals := 60 } : Room) s m args below meth c H [] 0 0 (MQ below (ps_ge (ps_mpost E H o (op_keepsFound S (nI k) (nI k2) z)) (ps_A E)) args s 0 0 (ps_A E)) (F0 m 24 ls []) := by
        intro n
        induction n with
        | zero => intro i hi hmu; exact absurd hmu (Nat.not_lt_zero _)
        | succ n ih24 =>
          intro i hi hmu ls hl
          refine lv_iload hx hb dX4_keepsFound_24 (lv_at hl 0 rfl) ?_
          refine lv_aload_n hx hb dX4_keepsFound_26 rfl (lv_at hl 2 rfl) ?_
          refine ps_mget (v := .ref (o + 4)) X hM 5 (by decide) q1294 rfl rfl dX4_keepsFound_27 ?_
          refine lv_iconst (v := nI 3) hx hb dX4_keepsFound_30 rfl ?_
          refine ps_mld (j := 3) (v := nI ((S.2.1 0) 3)) X hM 4 (by decide) rfl (by show 3 < 57; omega) (hσ _ (by show 3 < 57; omega)) dX4_keepsFound_31 ?_
          refine ps_cge (tgt := 61) hx hb dX4_keepsFound_32 (by decide) (by omega) (fun c_32 => ?_) (fun c_32 => ?_)
          · skip
            have ei24 : i = S.2.1 0 3 := by omega
            rw [ei24] at hl
            have hnp : sp_npl (S.2.1 0) k (S.2.1 0 3) ≤ 8 := Nat.le_trans (sumR_le _ _ 1 (fun i => by split <;> omega) _) (by omega)
            refine lv_aload_n hx hb dX4_keepsFound_61 rfl (lv_at hl 2 rfl) ?_
            refine lv_iload_n hx hb dX4_keepsFound_62 rfl (lv_at hl 4 rfl) ?_
            refine lv_iload_n hx hb dX4_keepsFound_63 rfl (lv_at hl 5 rfl) ?_
            refine lv_iload hx hb dX4_keepsFound_64 (lv_at hl 1 rfl) ?_
            refine ps_geV X hE (m_X4_lacks l hE hM hs hW (k := k2) (x := z) (u := sp_npl (S.2.1 0) k (S.2.1 0 3)) (by omega) (by omega)) (lw_V q1588 q1590 qs56 q75 q1591) (by decide +kernel) ⟨⟨Nat.le_of_ble_eq_true rfl, Nat.le_of_ble_eq_true rfl⟩, Nat.le_of_ble_eq_true rfl, Nat.le_of_ble_eq_true rfl⟩ (ps_mrc X hM) hS hl.1 (As := [.int (nI k2), .int (z), .int (nI (sp_npl (S.2.1 0) k (S.2.1 0 3)))]) (rest := []) (n := 3) rfl rfl (Nat.le_of_ble_eq_true rfl) dX4_keepsFound_66 (fun v5 H1 locs2 hp3 hS4 => ?_)
            obtain ⟨hv6, hsame7, hdiff8⟩ := hp3
            by_cases e0 : S.2.1 4 k2 = 0
            · skip
              rw [if_pos e0] at hv6
              subst hv6
              obtain ⟨hM9, hf10⟩ := hdiff8 (fun z => z.1 e0)
              rw [if_pos e0] at hM9
              refine ps_st (st' := [.int (fnd 1)]) rfl ?_
              refine lv_istore (lv' := [(5, .int (fnd 1)), (4, .int (nI (sp_npl (S.2.1 0) k (S.2.1 0 3)))), (0, .ref (o)), (1, .int (nI k)), (2, .int (nI k2)), (3, .int (z))]) hx hb dX4_keepsFound_69 hl (by decide) rfl (fun ls hl => ?_)
              refine lv_iload hx hb dX4_keepsFound_71 (lv_at hl 0 rfl) ?_
              refine lv_if_ge (tgt := 79) hx hb dX4_keepsFound_73 (by decide) (fun c_ => absurd c_ (by decide)) (fun _ => ?_)
              refine lv_iload hx hb dX4_keepsFound_76 (lv_at hl 0 rfl) ?_
              exact ps_iretG X hS4 (Nat.le_of_ble_eq_true rfl) (Nat.le_of_ble_eq_true rfl) dX4_keepsFound_78 (ps_mend (S := (sStat S 1)) (by simp [op_keepsFound, c_5, cl_k, c_12, cl_k2, c_32, e0]) hM9 (hs.stat 1) hf10)
            · skip
              rcases Bool.eq_false_or_eq_true (rng z 0 (S.2.1 4 k2 - (sp_npl (S.2.1 0) k (S.2.1 0 3)))) with e1 | e1
              · skip
                rw [if_neg e0, if_pos e1] at hv6
                subst hv6
                have hHH := hsame7 ⟨e0, e1⟩
                rw [hHH] at hS4 ⊢
                obtain ⟨j1, rfl, j1_lo, j1_hi, j1_b⟩ := rng_t e1
                have cl_j1 : (nI j1).toNatClampNeg = j1 := nI_clamp (by omega)
                refine ps_st (st' := [.int (nI 0)]) rfl ?_
                refine lv_istore (lv' := [(5, .int (nI 0)), (4, .int (nI (sp_npl (S.2.1 0) k (S.2.1 0 3)))), (0, .ref (o)), (1, .int (nI k)), (2, .int (nI k2)), (3, .int (nI j1))]) hx hb dX4_keepsFound_69 hl (by decide) rfl (fun ls hl => ?_)
                refine lv_iload hx hb dX4_keepsFound_71 (lv_at hl 0 rfl) ?_
                refine lv_if_ge (tgt := 79) hx hb dX4_keepsFound_73 (by decide) (fun _ => ?_) (fun c_ => absurd c_ (by decide))
                refine lv_iconst (v := nI 0) hx hb dX4_keepsFound_79 rfl ?_
                refine lv_istore (lv' := [(6, .int (nI 0)), (5, .int (nI 0)), (4, .int (nI (sp_npl (S.2.1 0) k (S.2.1 0 3)))), (0, .ref (o)), (1, .int (nI k)), (2, .int (nI k2)), (3, .int (nI j1))]) hx hb dX4_keepsFound_80 hl (by decide) rfl (fun ls hl => ?_)
                refine lv_iconst (v := nI 0) hx hb dX4_keepsFound_82 rfl ?_
                refine lv_istore (lv' := [(7, .int (nI 0)), (6, .int (nI 0)), (5, .int (nI 0)), (4, .int (nI (sp_npl (S.2.1 0) k (S.2.1 0 3)))), (0, .ref (o)), (1, .int (nI k)), (2, .int (nI k2)), (3, .int (nI j1))]) hx hb dX4_keepsFound_83 hl (by decide) rfl (fun ls hl => ?_)
                have L85 : ∀ (n : Nat) (c1 : Nat) (hc : c1 ≤ 11) (hmu : 11 - c1 < n) (ls : Array Slot) (hl : lv_has ls 11 [(7, .int (nI c1)), (6, .int (nI (orR (fun c2 => sp_kf (S.2.1 0) S.2.2 k (40 * k2 + j1) c2 (S.2.1 0 3)) c1))), (0, .ref (o)), (1, .int (nI k)), (2, .int (nI k2)), (3, .int (nI j1))]), W p l e ({ frames := 3, cells := 0, slots := 0, locals := 60 } : Room) s m args below meth c H locs2 0 0 (MQ below (ps_ge (ps_mpost E H o (op_keepsFound S (nI k) (nI k2) (nI j1))) (ps_A E)) args s 0 0 (ps_A E)) (F0 m 85 ls []) := by
                  intro n
                  induction n with
                  | zero => intro c1 hc hmu; exact absurd hmu (Nat.not_lt_zero _)
                  | succ n ih85 =>
                    intro c1 hc hmu ls hl
                    refine lv_iload hx hb dX4_keepsFound_85 (lv_at hl 0 rfl) ?_
                    refine lv_bipush (v := nI 10) hx hb dX4_keepsFound_87 rfl ?_
                    refine ps_cgt (tgt := 198) hx hb dX4_keepsFound_89 (by decide) (by omega) (fun c_89 => ?_) (fun c_89 => ?_)
                    · skip
                      have ec : c1 = 11 := by omega
                      refine lv_aload_n hx hb dX4_keepsFound_198 rfl (lv_at hl 2 rfl) ?_
                      refine lv_iload hx hb dX4_keepsFound_199 (lv_at hl 1 rfl) ?_
                      refine ps_geV X hE (m_X4_well l hE hM (x := nI (orR (fun c2 => sp_kf (S.2.1 0) S.2.2 k (40 * k2 + j1) c2 (S.2.1 0 3)) c1))) (lw_V q1381 q1383 qs33 q75 q1384) (by decide +kernel) ⟨⟨Nat.le_of_ble_eq_true rfl, Nat.le_of_ble_eq_true rfl⟩, Nat.le_of_ble_eq_true rfl, Nat.le_of_ble_eq_true rfl⟩ (ps_mrc X hM) hS4 hl.1 (As := [.int (nI (orR (fun c2 => sp_kf (S.2.1 0) S.2.2 k (40 * k2 + j1) c2 (S.2.1 0 3)) c1))]) (rest := []) (n := 1) rfl rfl (Nat.le_of_ble_eq_true rfl) dX4_keepsFound_201 (fun v15 H11 locs12 hp13 hS14 => ?_)
                      obtain ⟨hv18, hM16, hf17⟩ := hp13
                      subst hv18
                      refine ps_st (st' := [.int (nI (orR (fun c2 => sp_kf (S.2.1 0) S.2.2 k (40 * k2 + j1) c2 (S.2.1 0 3)) c1))]) rfl ?_
                      exact ps_iretG X hS14 (Nat.le_of_ble_eq_true rfl) (Nat.le_of_ble_eq_true rfl) dX4_keepsFound_204 (ps_mend (S := (sStat S 0)) (by rw [ec]; simp [op_keepsFound, c_5, cl_k, c_12, cl_k2, c_32, e0, e1, cl_j1, c_89]) hM16 (hs.stat 0) hf17)
                    · skip
                      refine lv_iconst (v := nI 1) hx hb dX4_keepsFound_92 rfl ?_
                      refine lv_istore (lv' := [(8, .int (nI 1)), (7, .int (nI c1)), (6, .int (nI (orR (fun c2 => sp_kf (S.2.1 0) S.2.2 k (40 * k2 + j1) c2 (S.2.1 0 3)) c1))), (0, .ref (o)), (1, .int (nI k)), (2, .int (nI k2)), (3, .int (nI j1))]) hx hb dX4_keepsFound_93 hl (by decide) rfl (fun ls hl => ?_)
                      refine lv_bipush (v := nI 40) hx hb dX4_keepsFound_95 rfl ?_
                      refine lv_iload_n hx hb dX4_keepsFound_97 rfl (lv_at hl 5 rfl) ?_
                      refine ps_imul hx hb dX4_keepsFound_98 ?_
                      refine lv_iload_n hx hb dX4_keepsFound_99 rfl (lv_at hl 6 rfl) ?_
                      refine ps_iadd hx hb dX4_keepsFound_100 ?_
                      refine lv_istore (lv' := [(9, .int (nI ((40 * k2) + j1))), (8, .int (nI 1)), (7, .int (nI c1)), (6, .int (nI (orR (fun c2 => sp_kf (S.2.1 0) S.2.2 k (40 * k2 + j1) c2 (S.2.1 0 3)) c1))), (0, .ref (o)), (1, .int (nI k)), (2, .int (nI k2)), (3, .int (nI j1))]) hx hb dX4_keepsFound_101 hl (by decide) rfl (fun ls hl => ?_)
                      refine lv_iconst (v := nI 0) hx hb dX4_keepsFound_103 rfl ?_
                      refine lv_istore (lv' := [(10, .int (nI 0)), (9, .int (nI ((40 * k2) + j1))), (8, .int (nI 1)), (7, .int (nI c1)), (6, .int (nI (orR (fun c2 => sp_kf (S.2.1 0) S.2.2 k (40 * k2 + j1) c2 (S.2.1 0 3)) c1))), (0, .ref (o)), (1, .int (nI k)), (2, .int (nI k2)), (3, .int (nI j1))]) hx hb dX4_keepsFound_104 hl (by decide) rfl (fun ls hl => ?_)
                      have L106 : ∀ (n : Nat) (p1 : Nat) (hp1 : p1 ≤ S.2.1 0 3) (hmu : S.2.1 0 3 - p1 < n) (ls : Array Slot) (hl : lv_has ls 11 [(10, .int (nI p1)), (9, .int (nI (40 * k2 + j1 + sp_npl (S.2.1 0) k p1))), (8, .int (bI ((sp_kf (S.2.1 0) S.2.2 k (40 * k2 + j1) c1 p1)))), (7, .int (nI c1)), (6, .int (nI (orR (fun c2 => sp_kf (S.2.1 0) S.2.2 k (40 * k2 + j1) c2 (S.2.1 0 3)) c1))), (0, .ref (o)), (1, .int (nI k)), (2, .int (nI k2)), (3, .int (nI j1))]), W p l e ({ frames := 3, cells := 0, slots := 0, locals := 60 } : Room) s m args below meth c H locs2 0 0 (MQ below (ps_ge (ps_mpost E H o (op_keepsFound S (nI k) (nI k2) (nI j1))) (ps_A E)) args s 0 0 (ps_A E)) (F0 m 106 ls []) := by
                        intro n
                        induction n with
                        | zero => intro p1 hp1 hmu; exact absurd hmu (Nat.not_lt_zero _)
                        | succ n ih106 =>
                          intro p1 hp1 hmu ls hl
                          refine lv_iload hx hb dX4_keepsFound_106 (lv_at hl 0 rfl) ?_
                          refine lv_aload_n hx hb dX4_keepsFound_108 rfl (lv_at hl 5 rfl) ?_
                          refine ps_mget (v := .ref (o + 4)) X hM 5 (by decide) q1294 rfl rfl dX4_keepsFound_109 ?_
                          refine lv_iconst (v := nI 3) hx hb dX4_keepsFound_112 rfl ?_
                          refine ps_mld (j := 3) (v := nI ((S.2.1 0) 3)) X hM 4 (by decide) rfl (by show 3 < 57; omega) (hσ _ (by show 3 < 57; omega)) dX4_keepsFound_113 ?_
                          refine ps_cge (tgt := 174) hx hb dX4_keepsFound_114 (by decide) (by omega) (fun c_114 => ?_) (fun c_114 => ?_)
                          · skip
                            have ep : p1 = S.2.1 0 3 := by omega
                            refine lv_iload hx hb dX4_keepsFound_174 (lv_at hl 4 rfl) ?_
                            have J189 : W p l e ({ frames := 3, cells := 0, slots := 0, locals := 60 } : Room) s m args below meth c H locs2 0 0 (MQ below (ps_ge (ps_mpost E H o (op_keepsFound S (nI k) (nI k2) (nI j1))) (ps_A E)) args s 0 0 (ps_A E)) (F0 m 189 ls [.int (nI (if (fun c2 => sp_kf (S.2.1 0) S.2.2 k (40 * k2 + j1) c2 (S.2.1 0 3)) c1 = true then 2 ^ c1 else 0)), .int (nI (orR (fun c2 => sp_kf (S.2.1 0) S.2.2 k (40 * k2 + j1) c2 (S.2.1 0 3)) c1))]) := by
                              refine lv_ior hx hb dX4_keepsFound_189 ?_
                              refine ps_top (y := nI ((orR (fun c2 => sp_kf (S.2.1 0) S.2.2 k (40 * k2 + j1) c2 (S.2.1 0 3)) c1) ||| (if (fun c2 => sp_kf (S.2.1 0) S.2.2 k (40 * k2 + j1) c2 (S.2.1 0 3)) c1 = true then 2 ^ c1 else 0))) (nI_or _ _) ?_
                              refine lv_istore (lv' := [(6, .int (nI ((orR (fun c2 => sp_kf (S.2.1 0) S.2.2 k (40 * k2 + j1) c2 (S.2.1 0 3)) c1) ||| (if (fun c2 => sp_kf (S.2.1 0) S.2.2 k (40 * k2 + j1) c2 (S.2.1 0 3)) c1 = true then 2 ^ c1 else 0)))), (10, .int (nI p1)), (9, .int (nI (40 * k2 + j1 + sp_npl (S.2.1 0) k p1))), (8, .int (bI ((sp_kf (S.2.1 0) S.2.2 k (40 * k2 + j1) c1 p1)))), (7, .int (nI c1)), (0, .ref (o)), (1, .int (nI k)), (2, .int (nI k2)), (3, .int (nI j1))]) hx hb dX4_keepsFound_190 hl (by decide) rfl (fun ls hl => ?_)
                              refine lv_iinc (v := nI (c1 + 1)) (lv' := [(7, .int (nI (c1 + 1))), (6, .int (nI ((orR (fun c2 => sp_kf (S.2.1 0) S.2.2 k (40 * k2 + j1) c2 (S.2.1 0 3)) c1) ||| (if (fun c2 => sp_kf (S.2.1 0) S.2.2 k (40 * k2 + j1) c2 (S.2.1 0 3)) c1 = true then 2 ^ c1 else 0)))), (10, .int (nI p1)), (9, .int (nI (40 * k2 + j1 + sp_npl (S.2.1 0) k p1))), (8, .int (bI ((sp_kf (S.2.1 0) S.2.2 k (40 * k2 + j1) c1 p1)))), (0, .ref (o)), (1, .int (nI k)), (2, .int (nI k2)), (3, .int (nI j1))]) hx hb dX4_keepsFound_192 hl (k := 4) rfl (ps_inc _) (by decide) rfl (fun ls hl => ?_)
                              refine lv_goto (tgt := 85) hx hb dX4_keepsFound_195 (by decide) ?_
                              have hl : lv_has ls 11 [(7, .int (nI (c1 + 1))), (6, .int (nI (orR (fun c2 => sp_kf (S.2.1 0) S.2.2 k (40 * k2 + j1) c2 (S.2.1 0 3)) (c1 + 1)))), (0, .ref (o)), (1, .int (nI k)), (2, .int (nI k2)), (3, .int (nI j1))] := lv_sub hl [0, 1, 5, 6, 7, 8] rfl
                              exact ih85  (c1 + 1) (by omega) (by omega) ls (hl)
                            refine lv_iload hx hb dX4_keepsFound_176 (lv_at hl 2 rfl) ?_
                            refine ps_ifeqB (tgt := 188) hx hb dX4_keepsFound_178 (by decide) (fun c_178 => ?_) (fun c_178 => ?_)
                            · skip
                              refine lv_iconst (v := nI 0) hx hb dX4_keepsFound_188 rfl ?_
                              exact ps_top (congrArg nI (by dsimp only; rw [← ep]; simp [c_178])) J189
                            · skip
                              refine lv_iconst (v := nI 1) hx hb dX4_keepsFound_181 rfl ?_
                              refine lv_iload hx hb dX4_keepsFound_182 (lv_at hl 3 rfl) ?_
                              refine lv_ishl hx hb dX4_keepsFound_184 ?_
                              refine ps_top (y := nI (2 ^ c1)) (ps_shl1 (by omega)) ?_
                              refine lv_goto (tgt := 189) hx hb dX4_keepsFound_185 (by decide) ?_
                              exact ps_top (congrArg nI (by dsimp only; rw [← ep]; simp [c_178])) J189
                          · skip
                            have hp := hO.p (p := p1) (by omega)
                            have hmm := sp_mul (show S.2.1 0 (41 + p1) ≤ 20 by omega) (show c1 ≤ 10 by omega)
                            refine lv_aload_n hx hb dX4_keepsFound_117 rfl (lv_at hl 5 rfl) ?_
                            refine lv_iload hx hb dX4_keepsFound_118 (lv_at hl 0 rfl) ?_
                            refine lv_iload_n hx hb dX4_keepsFound_120 rfl (lv_at hl 6 rfl) ?_
                            refine ps_roV X hE (m_X4_isPlain l hE hM hσ hO (k := p1) (g := k) (by omega) (by omega)) (lw_V q1600 q1602 qs58 q75 q1603) (by decide +kernel) ⟨⟨Nat.le_of_ble_eq_true rfl, Nat.le_of_ble_eq_true rfl⟩, Nat.le_of_ble_eq_true rfl, Nat.le_of_ble_eq_true rfl⟩ (ps_mrc X hM) hS4 hl.1 (As := [.int (nI p1), .int (nI k)]) (rest := []) (n := 2) rfl rfl (Nat.le_of_ble_eq_true rfl) dX4_keepsFound_121 ?_
                            refine ps_st (st' := [.int (bI (sp_plk (S.2.1 0) k p1))]) rfl ?_
                            refine ps_ifeqB (tgt := 168) hx hb dX4_keepsFound_124 (by decide) (fun c_124 => ?_) (fun c_124 => ?_)
                            · skip
                              have hn1 : sp_npl (S.2.1 0) k (p1 + 1) = sp_npl (S.2.1 0) k p1 := by simp [sp_npl, sumR, c_124]
                              refine lv_iinc (v := nI (p1 + 1)) (lv' := [(10, .int (nI (p1 + 1))), (9, .int (nI (40 * k2 + j1 + sp_npl (S.2.1 0) k p1))), (8, .int (bI ((sp_kf (S.2.1 0) S.2.2 k (40 * k2 + j1) c1 p1)))), (7, .int (nI c1)), (6, .int (nI (orR (fun c2 => sp_kf (S.2.1 0) S.2.2 k (40 * k2 + j1) c2 (S.2.1 0 3)) c1))), (0, .ref (o)), (1, .int (nI k)), (2, .int (nI k2)), (3, .int (nI j1))]) hx hb dX4_keepsFound_168 hl (k := 0) rfl (ps_inc _) (by decide) rfl (fun ls hl => ?_)
                              refine lv_goto (tgt := 106) hx hb dX4_keepsFound_171 (by decide) ?_
                              have e19 : (nI (40 * k2 + j1 + sp_npl (S.2.1 0) k p1) : Int32) = nI (40 * k2 + j1 + sp_npl (S.2.1 0) k (p1 + 1)) := congrArg nI (by omega)
                              have e20 : (bI ((sp_kf (S.2.1 0) S.2.2 k (40 * k2 + j1) c1 p1)) : Int32) = bI ((sp_kf (S.2.1 0) S.2.2 k (40 * k2 + j1) c1 (p1 + 1))) := congrArg bI (by simp [sp_kf, allR, c_124])
                              have hl : lv_has ls 11 [(10, .int (nI (p1 + 1))), (9, .int (nI (40 * k2 + j1 + sp_npl (S.2.1 0) k (p1 + 1)))), (8, .int (bI ((sp_kf (S.2.1 0) S.2.2 k (40 * k2 + j1) c1 (p1 + 1))))), (7, .int (nI c1)), (6, .int (nI (orR (fun c2 => sp_kf (S.2.1 0) S.2.2 k (40 * k2 + j1) c2 (S.2.1 0 3)) c1))), (0, .ref (o)), (1, .int (nI k)), (2, .int (nI k2)), (3, .int (nI j1))] := ps_lv (l1 := [(10, .int (nI (p1 + 1))), (9, .int (nI (40 * k2 + j1 + sp_npl (S.2.1 0) k p1))), (8, .int (bI ((sp_kf (S.2.1 0) S.2.2 k (40 * k2 + j1) c1 p1)))), (7, .int (nI c1)), (6, .int (nI (orR (fun c2 => sp_kf (S.2.1 0) S.2.2 k (40 * k2 + j1) c2 (S.2.1 0 3)) c1))), (0, .ref (o)), (1, .int (nI k)), (2, .int (nI k2)), (3, .int (nI j1))]) (lv_sub hl [0, 1, 2, 3, 4, 5, 6, 7, 8] rfl) (by rw [e19, e20])
                              exact ih106  (p1 + 1) (by omega) (by omega) ls (hl)
                            · skip
                              have hmo := sumR_mono (f := fun p => if sp_plk (S.2.1 0) k p = true then 1 else 0) (lo := 0) (show p1 + 1 ≤ S.2.1 0 3 by omega)
                              have hn1 : sp_npl (S.2.1 0) k (p1 + 1) = sp_npl (S.2.1 0) k p1 + 1 := by simp [sp_npl, sumR, c_124]
                              have hmo2 : sp_npl (S.2.1 0) k (p1 + 1) ≤ sp_npl (S.2.1 0) k (S.2.1 0 3) := hmo
                              have J163 : W p l e ({ frames := 3, cells := 0, slots := 0, locals := 60 } : Room) s m args below meth c H locs2 0 0 (MQ below (ps_ge (ps_mpost E H o (op_keepsFound S (nI k) (nI k2) (nI j1))) (ps_A E)) args s 0 0 (ps_A E)) (F0 m 163 ls [.int (bI ((sp_kf (S.2.1 0) S.2.2 k (40 * k2 + j1) c1 (p1 + 1))))]) := by
                                refine lv_istore (lv' := [(8, .int (bI ((sp_kf (S.2.1 0) S.2.2 k (40 * k2 + j1) c1 (p1 + 1))))), (10, .int (nI p1)), (9, .int (nI (40 * k2 + j1 + sp_npl (S.2.1 0) k p1))), (7, .int (nI c1)), (6, .int (nI (orR (fun c2 => sp_kf (S.2.1 0) S.2.2 k (40 * k2 + j1) c2 (S.2.1 0 3)) c1))), (0, .ref (o)), (1, .int (nI k)), (2, .int (nI k2)), (3, .int (nI j1))]) hx hb dX4_keepsFound_163 hl (by decide) rfl (fun ls hl => ?_)
                                refine lv_iinc (v := nI (40 * k2 + j1 + sp_npl (S.2.1 0) k p1 + 1)) (lv' := [(9, .int (nI (40 * k2 + j1 + sp_npl (S.2.1 0) k p1 + 1))), (8, .int (bI ((sp_kf (S.2.1 0) S.2.2 k (40 * k2 + j1) c1 (p1 + 1))))), (10, .int (nI p1)), (7, .int (nI c1)), (6, .int (nI (orR (fun c2 => sp_kf (S.2.1 0) S.2.2 k (40 * k2 + j1) c2 (S.2.1 0 3)) c1))), (0, .ref (o)), (1, .int (nI k)), (2, .int (nI k2)), (3, .int (nI j1))]) hx hb dX4_keepsFound_165 hl (k := 2) rfl (ps_inc _) (by decide) rfl (fun ls hl => ?_)
                                refine lv_iinc (v := nI (p1 + 1)) (lv' := [(10, .int (nI (p1 + 1))), (9, .int (nI (40 * k2 + j1 + sp_npl (S.2.1 0) k p1 + 1))), (8, .int (bI ((sp_kf (S.2.1 0) S.2.2 k (40 * k2 + j1) c1 (p1 + 1))))), (7, .int (nI c1)), (6, .int (nI (orR (fun c2 => sp_kf (S.2.1 0) S.2.2 k (40 * k2 + j1) c2 (S.2.1 0 3)) c1))), (0, .ref (o)), (1, .int (nI k)), (2, .int (nI k2)), (3, .int (nI j1))]) hx hb dX4_keepsFound_168 hl (k := 2) rfl (ps_inc _) (by decide) rfl (fun ls hl => ?_)
                                refine lv_goto (tgt := 106) hx hb dX4_keepsFound_171 (by decide) ?_
                                have e21 : (nI (40 * k2 + j1 + sp_npl (S.2.1 0) k p1 + 1) : Int32) = nI (40 * k2 + j1 + sp_npl (S.2.1 0) k (p1 + 1)) := congrArg nI (by omega)
                                have hl : lv_has ls 11 [(10, .int (nI (p1 + 1))), (9, .int (nI (40 * k2 + j1 + sp_npl (S.2.1 0) k (p1 + 1)))), (8, .int (bI ((sp_kf (S.2.1 0) S.2.2 k (40 * k2 + j1) c1 (p1 + 1))))), (7, .int (nI c1)), (6, .int (nI (orR (fun c2 => sp_kf (S.2.1 0) S.2.2 k (40 * k2 + j1) c2 (S.2.1 0 3)) c1))), (0, .ref (o)), (1, .int (nI k)), (2, .int (nI k2)), (3, .int (nI j1))] := ps_lv (l1 := [(10, .int (nI (p1 + 1))), (9, .int (nI (40 * k2 + j1 + sp_npl (S.2.1 0) k p1 + 1))), (8, .int (bI ((sp_kf (S.2.1 0) S.2.2 k (40 * k2 + j1) c1 (p1 + 1))))), (7, .int (nI c1)), (6, .int (nI (orR (fun c2 => sp_kf (S.2.1 0) S.2.2 k (40 * k2 + j1) c2 (S.2.1 0 3)) c1))), (0, .ref (o)), (1, .int (nI k)), (2, .int (nI k2)), (3, .int (nI j1))]) (lv_sub hl [0, 1, 2, 3, 4, 5, 6, 7, 8] rfl) (by rw [e21])
                                exact ih106  (p1 + 1) (by omega) (by omega) ls (hl)
                              refine lv_iload hx hb dX4_keepsFound_127 (lv_at hl 2 rfl) ?_
                              refine ps_ifeqB (tgt := 162) hx hb dX4_keepsFound_129 (by decide) (fun c_129 => ?_) (fun c_129 => ?_)
                              · skip
                                refine lv_iconst (v := nI 0) hx hb dX4_keepsFound_162 rfl ?_
                                exact ps_top ((bI_is0 (by rw [sp_kf, allR, show allR _ 0 p1 = false from c_129]; rfl))) J163
                              · skip
                                refine lv_aload_n hx hb dX4_keepsFound_132 rfl (lv_at hl 5 rfl) ?_
                                refine ps_mget (v := .ref (o + 4)) X hM 5 (by decide) q1294 rfl rfl dX4_keepsFound_133 ?_
                                refine lv_bipush (v := nI 41) hx hb dX4_keepsFound_136 rfl ?_
                                refine lv_iload hx hb dX4_keepsFound_138 (lv_at hl 0 rfl) ?_
                                refine ps_iadd hx hb dX4_keepsFound_140 ?_
                                refine ps_mld (j := 41 + p1) (v := nI ((S.2.1 0) (41 + p1))) X hM 4 (by decide) rfl (by show 41 + p1 < 57; omega) (hσ _ (by show 41 + p1 < 57; omega)) dX4_keepsFound_141 ?_
                                refine lv_iload hx hb dX4_keepsFound_142 (lv_at hl 3 rfl) ?_
                                refine ps_imul hx hb dX4_keepsFound_144 ?_
                                refine lv_bipush (v := nI 10) hx hb dX4_keepsFound_145 rfl ?_
                                refine ps_idiv hx hb dX4_keepsFound_147 (by omega) ?_
                                refine lv_aload_n hx hb dX4_keepsFound_148 rfl (lv_at hl 5 rfl) ?_
                                refine ps_mget (v := .ref (o + 3)) X hM 2 (by decide) q1291 rfl rfl dX4_keepsFound_149 ?_
                                refine lv_iload hx hb dX4_keepsFound_152 (lv_at hl 1 rfl) ?_
                                refine ps_mld (j := 40 * k2 + j1 + sp_npl (S.2.1 0) k p1) (v := S.2.2 (40 * k2 + j1 + sp_npl (S.2.1 0) k p1)) X hM 3 (by decide) rfl (by show 40 * k2 + j1 + sp_npl (S.2.1 0) k p1 < 320; omega) (hs.2.2.2.1 _ (by omega)) dX4_keepsFound_154 ?_
                                refine lv_icmp_ne (tgt := 162) hx hb dX4_keepsFound_155 (by decide) (fun c_155 => ?_) (fun c_155 => ?_)
                                · skip
                                  refine lv_iconst (v := nI 0) hx hb dX4_keepsFound_162 rfl ?_
                                  exact ps_top ((bI_is0 (by simp [sp_kf, allR, c_124, c_155]))) J163
                                · skip
                                  refine lv_iconst (v := nI 1) hx hb dX4_keepsFound_158 rfl ?_
                                  refine lv_goto (tgt := 163) hx hb dX4_keepsFound_159 (by decide) ?_
                                  exact ps_top ((bI_is1 (by simp [sp_kf, allR, c_124, c_155]; exact c_129))) J163
                      have hl : lv_has ls 11 [(10, .int (nI 0)), (9, .int (nI (40 * k2 + j1 + sp_npl (S.2.1 0) k 0))), (8, .int (bI ((sp_kf (S.2.1 0) S.2.2 k (40 * k2 + j1) c1 0)))), (7, .int (nI c1)), (6, .int (nI (orR (fun c2 => sp_kf (S.2.1 0) S.2.2 k (40 * k2 + j1) c2 (S.2.1 0 3)) c1))), (0, .ref (o)), (1, .int (nI k)), (2, .int (nI k2)), (3, .int (nI j1))] := lv_sub hl [0, 1, 2, 3, 4, 5, 6, 7, 8] rfl
                      exact L106 ((S.2.1 0 3 - 0) + 1) 0 (by omega) (Nat.lt_succ_self _) ls (hl)
                have hl : lv_has ls 11 [(7, .int (nI 0)), (6, .int (nI (orR (fun c2 => sp_kf (S.2.1 0) S.2.2 k (40 * k2 + j1) c2 (S.2.1 0 3)) 0))), (0, .ref (o)), (1, .int (nI k)), (2, .int (nI k2)), (3, .int (nI j1))] := lv_sub hl [0, 1, 4, 5, 6, 7] rfl
                exact L85 ((11 - 0) + 1) 0 (by omega) (Nat.lt_succ_self _) ls (hl)
              · skip
                rw [if_neg e0, if_neg (by rw [e1]; decide)] at hv6
                subst hv6
                obtain ⟨hM22, hf23⟩ := hdiff8 (fun z => by rw [e1] at z; exact absurd z.2 (by decide))
                rw [if_neg e0] at hM22
                refine ps_st (st' := [.int (fnd 2)]) rfl ?_
                refine lv_istore (lv' := [(5, .int (fnd 2)), (4, .int (nI (sp_npl (S.2.1 0) k (S.2.1 0 3)))), (0, .ref (o)), (1, .int (nI k)), (2, .int (nI k2)), (3, .int (z))]) hx hb dX4_keepsFound_69 hl (by decide) rfl (fun ls hl => ?_)
                refine lv_iload hx hb dX4_keepsFound_71 (lv_at hl 0 rfl) ?_
                refine lv_if_ge (tgt := 79) hx hb dX4_keepsFound_73 (by decide) (fun c_ => absurd c_ (by decide)) (fun _ => ?_)
                refine lv_iload hx hb dX4_keepsFound_76 (lv_at hl 0 rfl) ?_
                exact ps_iretG X hS4 (Nat.le_of_ble_eq_true rfl) (Nat.le_of_ble_eq_true rfl) dX4_keepsFound_78 (ps_mend (S := (sStat S 2)) (by simp [op_keepsFound, c_5, cl_k, c_12, cl_k2, c_32, e0, e1]) hM22 (hs.stat 2) hf23)
          · skip
            refine lv_iload hx hb dX4_keepsFound_35 (lv_at hl 1 rfl) ?_
            have J52 : W p l e ({ frames := 3, cells := 0, slots := 0, locals := 60 } : Room) s m args below meth c H [] 0 0 (MQ below (ps_ge (ps_mpost E H o (op_keepsFound S (nI k) (nI k2) z)) (ps_A E)) args s 0 0 (ps_A E)) (F0 m 52 ls [.int (nI (if sp_plk (S.2.1 0) k i = true then 1 else 0)), .int (nI (sp_npl (S.2.1 0) k i))]) := by
              refine ps_iadd hx hb dX4_keepsFound_52 ?_
              refine lv_istore (lv' := [(4, .int (nI ((sp_npl (S.2.1 0) k i) + (if sp_plk (S.2.1 0) k i = true then 1 else 0)))), (5, .int (nI i)), (0, .ref (o)), (1, .int (nI k)), (2, .int (nI k2)), (3, .int (z))]) hx hb dX4_keepsFound_53 hl (by decide) rfl (fun ls hl => ?_)
              refine lv_iinc (v := nI (i + 1)) (lv' := [(5, .int (nI (i + 1))), (4, .int (nI ((sp_npl (S.2.1 0) k i) + (if sp_plk (S.2.1 0) k i = true then 1 else 0)))), (0, .ref (o)), (1, .int (nI k)), (2, .int (nI k2)), (3, .int (z))]) hx hb dX4_keepsFound_55 hl (k := 1) rfl (ps_inc _) (by decide) rfl (fun ls hl => ?_)
              refine lv_goto (tgt := 24) hx hb dX4_keepsFound_58 (by decide) ?_
              have e24 : (nI ((sp_npl (S.2.1 0) k i) + (if sp_plk (S.2.1 0) k i = true then 1 else 0)) : Int32) = nI (sp_npl (S.2.1 0) k (i + 1)) := congrArg nI (by simp [sp_npl, sumR])
              have hl : lv_has ls 11 [(5, .int (nI (i + 1))), (4, .int (nI (sp_npl (S.2.1 0) k (i + 1)))), (0, .ref (o)), (1, .int (nI k)), (2, .int (nI k2)), (3, .int (z))] := ps_lv (l1 := [(5, .int (nI (i + 1))), (4, .int (nI ((sp_npl (S.2.1 0) k i) + (if sp_plk (S.2.1 0) k i = true then 1 else 0)))), (0, .ref (o)), (1, .int (nI k)), (2, .int (nI k2)), (3, .int (z))]) (lv_sub hl [0, 1, 2, 3, 4, 5] rfl) (by rw [e24])
              exact ih24  (i + 1) (by omega) (by omega) ls (hl)
            refine lv_aload_n hx hb dX4_keepsFound_37 rfl (lv_at hl 2 rfl) ?_
            refine lv_iload hx hb dX4_keepsFound_38 (lv_at hl 0 rfl) ?_
            refine lv_iload_n hx hb dX4_keepsFound_40 rfl (lv_at hl 3 rfl) ?_
            refine ps_roV X hE (m_X4_isPlain l hE hM hσ hO (k := i) (g := k) (by omega) (by omega)) (lw_V q1600 q1602 qs58 q75 q1603) (by decide +kernel) ⟨⟨Nat.le_of_ble_eq_true rfl, Nat.le_of_ble_eq_true rfl⟩, Nat.le_of_ble_eq_true rfl, Nat.le_of_ble_eq_true rfl⟩ (ps_mrc X hM) hS hl.1 (As := [.int (nI i), .int (nI k)]) (rest := [.int (nI (sp_npl (S.2.1 0) k i))]) (n := 2) rfl rfl (Nat.le_of_ble_eq_true rfl) dX4_keepsFound_41 ?_
            refine ps_st (st' := [.int (bI (sp_plk (S.2.1 0) k i)), .int (nI (sp_npl (S.2.1 0) k i))]) rfl ?_
            refine ps_ifeqB (tgt := 51) hx hb dX4_keepsFound_44 (by decide) (fun c_44 => ?_) (fun c_44 => ?_)
            · skip
              refine lv_iconst (v := nI 0) hx hb dX4_keepsFound_51 rfl ?_
              exact ps_top (congrArg nI (by first | rfl | (simp [c_5, cl_k, c_12, cl_k2, c_32, c_44]; done) | (simp [c_5, cl_k, c_12, cl_k2, c_32, c_44]; omega) | omega)) J52
            · skip
              refine lv_iconst (v := nI 1) hx hb dX4_keepsFound_47 rfl ?_
              refine lv_goto (tgt := 52) hx hb dX4_keepsFound_48 (by decide) ?_
              exact ps_top (congrArg nI (by first | rfl | (simp [c_5, cl_k, c_12, cl_k2, c_32, c_44]; done) | (simp [c_5, cl_k, c_12, cl_k2, c_32, c_44]; omega) | omega)) J52
      have hl : lv_has ls 11 [(5, .int (nI 0)), (4, .int (nI (sp_npl (S.2.1 0) k 0))), (0, .ref (o)), (1, .int (nI k)), (2, .int (nI k2)), (3, .int (z))] := lv_sub hl [0, 1, 2, 3, 4, 5] rfl
      exact L24 ((S.2.1 0 3 - 0) + 1) 0 (by omega) (Nat.lt_succ_self _) ls (hl)
    · skip
      refine lv_ldc (v := -1000001) hx hb ho (hts _ q1375) dX4_keepsFound_15 ?_
      exact ps_iretG X hS (Nat.le_of_ble_eq_true rfl) (Nat.le_of_ble_eq_true rfl) dX4_keepsFound_17 (ps_mend (S := S) (by simp [op_keepsFound, c_5, cl_k, c_12]) hM (hs) ps_Mf.rf)

set_option maxHeartbeats 4000000 in
theorem m_X4_free (l : Launch) {E : ps_E} (hE : ps_ZT E) {H : Heap} {o : Nat} {F : Nat → Int32} {A : Nat → Nat → Int32} (hM : ps_Mo E H o F A) {x y z : Int32} : ps_Ro l E yX4_free cX4_free 9 (some .int) 2 37 [.ref (o), .int (x), .int (y), .int (z)] H (some (.int (op_free x y z))) := by
  refine ps_Ro.of (by decide) (Nat.le_of_ble_eq_true rfl) ?_
  intro p e s m args below meth c X ls hl
  have hx := X.1
  have hb := X.2.1
  have ho := X.2.2.2.1
  have hts := X.2.2.2.2.1
  have hS : va_S (ps_A E) s.heap H [] := by rw [X.2.2.2.2.2.2.2.2.1]; exact va_S.rf
  have hl : lv_has ls 9 [(0, .ref (o)), (1, .int (x)), (2, .int (y)), (3, .int (z))] := hl
  refine lv_iload_n hx hb dX4_free_0 rfl (lv_at hl 1 rfl) ?_
  refine lv_i2l (v := (x).toInt64) hx hb dX4_free_1 rfl ?_
  refine lv_lconst (v := lN 0) hx hb dX4_free_2 rfl ?_
  refine lv_ldc2 (v := 10) hx hb ho (hts _ q1608) dX4_free_3 ?_
  refine ps_roS X hE (m_X4_in l hE (H := H) (x := x) (lo := 0) (hi := 11) (lN_toInt (by decide)) (ps_hcL (k := 10) (by decide +kernel))) (lw_S q1371 q1372 q75 q1373) (by decide +kernel) ⟨⟨Nat.le_of_ble_eq_true rfl, Nat.le_of_ble_eq_true rfl⟩, Nat.le_of_ble_eq_true rfl, Nat.le_of_ble_eq_true rfl⟩ hS hl.1 (As := [.long ((x).toInt64), .long (lN 0), .long (10)]) (rest := []) (n := 3) rfl rfl (Nat.le_of_ble_eq_true rfl) dX4_free_6 ?_
  refine ps_st (st' := [.int (bI (rng x 0 11))]) rfl ?_
  refine ps_ifeqB (tgt := 34) hx hb dX4_free_9 (by decide) (fun c_9 => ?_) (fun c_9 => ?_)
  · skip
    refine lv_ldc (v := -1000001) hx hb ho (hts _ q1375) dX4_free_34 ?_
    exact ps_iretR X dX4_free_36 (congrArg (fun z => some (Value.int z)) (by simp [op_free, c_9]))
  · skip
    obtain ⟨k, rfl, k_lo, k_hi, k_b⟩ := rng_t c_9
    have cl_k : (nI k).toNatClampNeg = k := nI_clamp (by omega)
    refine lv_iload_n hx hb dX4_free_12 rfl (lv_at hl 2 rfl) ?_
    refine lv_i2l (v := (y).toInt64) hx hb dX4_free_13 rfl ?_
    refine lv_lconst (v := lN 0) hx hb dX4_free_14 rfl ?_
    refine lv_ldc2 (v := 8) hx hb ho (hts _ q1556) dX4_free_15 ?_
    refine ps_roS X hE (m_X4_in l hE (H := H) (x := y) (lo := 0) (hi := 9) (lN_toInt (by decide)) (ps_hcL (k := 8) (by decide +kernel))) (lw_S q1371 q1372 q75 q1373) (by decide +kernel) ⟨⟨Nat.le_of_ble_eq_true rfl, Nat.le_of_ble_eq_true rfl⟩, Nat.le_of_ble_eq_true rfl, Nat.le_of_ble_eq_true rfl⟩ hS hl.1 (As := [.long ((y).toInt64), .long (lN 0), .long (8)]) (rest := []) (n := 3) rfl rfl (Nat.le_of_ble_eq_true rfl) dX4_free_18 ?_
    refine ps_st (st' := [.int (bI (rng y 0 9))]) rfl ?_
    refine ps_ifeqB (tgt := 34) hx hb dX4_free_21 (by decide) (fun c_21 => ?_) (fun c_21 => ?_)
    · skip
      refine lv_ldc (v := -1000001) hx hb ho (hts _ q1375) dX4_free_34 ?_
      exact ps_iretR X dX4_free_36 (congrArg (fun z => some (Value.int z)) (by simp [op_free, c_9, cl_k, c_21]))
    · skip
      obtain ⟨j, rfl, j_lo, j_hi, j_b⟩ := rng_t c_21
      have cl_j : (nI j).toNatClampNeg = j := nI_clamp (by omega)
      refine lv_iload_n hx hb dX4_free_24 rfl (lv_at hl 3 rfl) ?_
      refine lv_i2l (v := (z).toInt64) hx hb dX4_free_25 rfl ?_
      refine lv_lconst (v := lN 0) hx hb dX4_free_26 rfl ?_
      refine lv_lconst (v := lN 1) hx hb dX4_free_27 rfl ?_
      refine ps_roS X hE (m_X4_in l hE (H := H) (x := z) (lo := 0) (hi := 2) (lN_toInt (by decide)) (ps_hcN 1 (by decide))) (lw_S q1371 q1372 q75 q1373) (by decide +kernel) ⟨⟨Nat.le_of_ble_eq_true rfl, Nat.le_of_ble_eq_true rfl⟩, Nat.le_of_ble_eq_true rfl, Nat.le_of_ble_eq_true rfl⟩ hS hl.1 (As := [.long ((z).toInt64), .long (lN 0), .long (lN 1)]) (rest := []) (n := 3) rfl rfl (Nat.le_of_ble_eq_true rfl) dX4_free_28 ?_
      refine ps_st (st' := [.int (bI (rng z 0 2))]) rfl ?_
      refine ps_ifneB (tgt := 37) hx hb dX4_free_31 (by decide) (fun c_31 => ?_) (fun c_31 => ?_)
      · skip
        obtain ⟨t, rfl, t_lo, t_hi, t_b⟩ := rng_t c_31
        have cl_t : (nI t).toNatClampNeg = t := nI_clamp (by omega)
        refine lv_iconst (v := nI 1) hx hb dX4_free_37 rfl ?_
        refine lv_istore (lv' := [(4, .int (nI 1)), (0, .ref (o)), (1, .int (nI k)), (2, .int (nI j)), (3, .int (nI t))]) hx hb dX4_free_38 hl (by decide) rfl (fun ls hl => ?_)
        refine lv_iconst (v := nI 1) hx hb dX4_free_40 rfl ?_
        refine lv_istore (lv' := [(5, .int (nI 1)), (4, .int (nI 1)), (0, .ref (o)), (1, .int (nI k)), (2, .int (nI j)), (3, .int (nI t))]) hx hb dX4_free_41 hl (by decide) rfl (fun ls hl => ?_)
        refine lv_iconst (v := nI 0) hx hb dX4_free_43 rfl ?_
        refine lv_istore (lv' := [(6, .int (nI 0)), (5, .int (nI 1)), (4, .int (nI 1)), (0, .ref (o)), (1, .int (nI k)), (2, .int (nI j)), (3, .int (nI t))]) hx hb dX4_free_44 hl (by decide) rfl (fun ls hl => ?_)
        have L46 : ∀ (n : Nat) (i : Nat) (hi : i ≤ j) (hmu : j - i < n) (ls : Array Slot) (hl : lv_has ls 9 [(6, .int (nI i)), (5, .int (nI (k ^ i))), (4, .int (nI (10 ^ i))), (0, .ref (o)), (1, .int (nI k)), (2, .int (nI j)), (3, .int (nI t))]), W p l e ({ frames := 2, cells := 0, slots := 0, locals := 37 } : Room) s m args below meth c H [] 0 0 (MQ below (ps_ro (some (.int (op_free (nI k) (nI j) (nI t))))) args s 0 0 (fun _ => False)) (F0 m 46 ls []) := by
          intro n
          induction n with
          | zero => intro i hi hmu; exact absurd hmu (Nat.not_lt_zero _)
          | succ n ih46 =>
            intro i hi hmu ls hl
            refine lv_iload hx hb dX4_free_46 (lv_at hl 0 rfl) ?_
            refine lv_iload_n hx hb dX4_free_48 rfl (lv_at hl 5 rfl) ?_
            refine ps_cge (tgt := 71) hx hb dX4_free_49 (by decide) (by omega) (fun c_49 => ?_) (fun c_49 => ?_)
            · skip
              have ei : i = j := by omega
              have hpos : 0 < 10 ^ i := Nat.pow_pos (by decide)
              have hp1 := ps_p10 (show i ≤ 8 by omega) (show k ≤ 10 by omega)
              refine lv_iload hx hb dX4_free_71 (lv_at hl 2 rfl) ?_
              refine lv_iload hx hb dX4_free_73 (lv_at hl 1 rfl) ?_
              refine ps_isub hx hb dX4_free_75 (by omega) ?_
              refine lv_istore (lv' := [(6, .int (nI ((10 ^ i) - (k ^ i)))), (5, .int (nI (k ^ i))), (4, .int (nI (10 ^ i))), (0, .ref (o)), (1, .int (nI k)), (2, .int (nI j)), (3, .int (nI t))]) hx hb dX4_free_76 hl (by decide) rfl (fun ls hl => ?_)
              refine lv_iload hx hb dX4_free_78 (lv_at hl 2 rfl) ?_
              refine lv_istore (lv' := [(7, .int (nI (10 ^ i))), (6, .int (nI ((10 ^ i) - (k ^ i)))), (5, .int (nI (k ^ i))), (4, .int (nI (10 ^ i))), (0, .ref (o)), (1, .int (nI k)), (2, .int (nI j)), (3, .int (nI t))]) hx hb dX4_free_80 hl (by decide) rfl (fun ls hl => ?_)
              have L82 : ∀ (n : Nat) (x1 y1 : Nat) (hb2 : x1 < 1000000000 ∧ y1 < 1000000000) (hg : Nat.gcd x1 y1 = Nat.gcd (10 ^ i - k ^ i) (10 ^ i)) (hmu : y1 < n) (ls : Array Slot) (hl : lv_has ls 9 [(7, .int (nI y1)), (6, .int (nI x1)), (5, .int (nI (k ^ i))), (4, .int (nI (10 ^ i))), (0, .ref (o)), (1, .int (nI k)), (2, .int (nI j)), (3, .int (nI t))]), W p l e ({ frames := 2, cells := 0, slots := 0, locals := 37 } : Room) s m args below meth c H [] 0 0 (MQ below (ps_ro (some (.int (op_free (nI k) (nI j) (nI t))))) args s 0 0 (fun _ => False)) (F0 m 82 ls []) := by
                intro n
                induction n with
                | zero => intro x1 y1 hb2 hg hmu; exact absurd hmu (Nat.not_lt_zero _)
                | succ n ih82 =>
                  intro x1 y1 hb2 hg hmu ls hl
                  refine lv_iload hx hb dX4_free_82 (lv_at hl 0 rfl) ?_
                  refine ps_ifeq (tgt := 105) hx hb dX4_free_84 (by decide) (by omega) (fun c_84 => ?_) (fun c_84 => ?_)
                  · skip
                    have eg : x1 = Nat.gcd (10 ^ i - k ^ i) (10 ^ i) := by rw [← hg, c_84, Nat.gcd_zero_right]
                    have hgp : 0 < Nat.gcd (10 ^ i - k ^ i) (10 ^ i) := Nat.gcd_pos_of_pos_right _ hpos
                    refine lv_iload_n hx hb dX4_free_105 rfl (lv_at hl 7 rfl) ?_
                    refine ps_ifne (tgt := 120) hx hb dX4_free_106 (by decide) (by omega) (fun c_106 => ?_) (fun c_106 => ?_)
                    · skip
                      refine lv_iload hx hb dX4_free_120 (lv_at hl 3 rfl) ?_
                      refine lv_iload hx hb dX4_free_122 (lv_at hl 1 rfl) ?_
                      refine ps_idiv hx hb dX4_free_124 (by (rw [eg]; omega)) ?_
                      exact ps_iretR X dX4_free_125 (congrArg (fun z => some (Value.int z)) (by subst c_84; rw [eg, ei]; simp [op_free, c_9, cl_k, c_21, cl_j, c_31, cl_t, c_49, c_106]))
                    · skip
                      refine lv_iload hx hb dX4_free_109 (lv_at hl 3 rfl) ?_
                      refine lv_iload hx hb dX4_free_111 (lv_at hl 2 rfl) ?_
                      refine ps_isub hx hb dX4_free_113 (by omega) ?_
                      refine lv_iload hx hb dX4_free_114 (lv_at hl 1 rfl) ?_
                      refine ps_idiv hx hb dX4_free_116 (by (rw [eg]; omega)) ?_
                      refine lv_goto (tgt := 125) hx hb dX4_free_117 (by decide) ?_
                      exact ps_iretR X dX4_free_125 (congrArg (fun z => some (Value.int z)) (by subst c_84; subst c_106; rw [eg, ei]; simp [op_free, c_9, cl_k, c_21, cl_j, c_31, cl_t, c_49]))
                  · skip
                    have hmod := Nat.mod_lt x1 (show 0 < y1 by omega)
                    refine lv_iload hx hb dX4_free_87 (lv_at hl 1 rfl) ?_
                    refine lv_iload hx hb dX4_free_89 (lv_at hl 0 rfl) ?_
                    refine ps_irem hx hb dX4_free_91 (by omega) ?_
                    refine lv_istore (lv' := [(8, .int (nI (x1 % y1))), (7, .int (nI y1)), (6, .int (nI x1)), (5, .int (nI (k ^ i))), (4, .int (nI (10 ^ i))), (0, .ref (o)), (1, .int (nI k)), (2, .int (nI j)), (3, .int (nI t))]) hx hb dX4_free_92 hl (by decide) rfl (fun ls hl => ?_)
                    refine lv_iload hx hb dX4_free_94 (lv_at hl 1 rfl) ?_
                    refine lv_istore (lv' := [(6, .int (nI y1)), (8, .int (nI (x1 % y1))), (7, .int (nI y1)), (5, .int (nI (k ^ i))), (4, .int (nI (10 ^ i))), (0, .ref (o)), (1, .int (nI k)), (2, .int (nI j)), (3, .int (nI t))]) hx hb dX4_free_96 hl (by decide) rfl (fun ls hl => ?_)
                    refine lv_iload hx hb dX4_free_98 (lv_at hl 1 rfl) ?_
                    refine lv_istore (lv' := [(7, .int (nI (x1 % y1))), (6, .int (nI y1)), (8, .int (nI (x1 % y1))), (5, .int (nI (k ^ i))), (4, .int (nI (10 ^ i))), (0, .ref (o)), (1, .int (nI k)), (2, .int (nI j)), (3, .int (nI t))]) hx hb dX4_free_100 hl (by decide) rfl (fun ls hl => ?_)
                    refine lv_goto (tgt := 82) hx hb dX4_free_102 (by decide) ?_
                    exact ih82  y1 (x1 % y1) (by omega) (by rw [← hg, Nat.gcd_comm x1 y1, Nat.gcd_rec y1 x1, Nat.gcd_comm]) (by omega) ls (lv_sub hl [0, 1, 3, 4, 5, 6, 7, 8] rfl)
              exact L82 ((10 ^ i) + 1) (10 ^ i - k ^ i) (10 ^ i) (by omega) rfl (Nat.lt_succ_self _) ls (lv_sub hl [0, 1, 2, 3, 4, 5, 6, 7] rfl)
            · skip
              have hp1 := ps_p10 (show i + 1 ≤ 8 by omega) (show k ≤ 10 by omega)
              refine lv_iload hx hb dX4_free_52 (lv_at hl 2 rfl) ?_
              refine lv_bipush (v := nI 10) hx hb dX4_free_54 rfl ?_
              refine ps_imul hx hb dX4_free_56 ?_
              refine lv_istore (lv' := [(4, .int (nI ((10 ^ i) * 10))), (6, .int (nI i)), (5, .int (nI (k ^ i))), (0, .ref (o)), (1, .int (nI k)), (2, .int (nI j)), (3, .int (nI t))]) hx hb dX4_free_57 hl (by decide) rfl (fun ls hl => ?_)
              refine lv_iload hx hb dX4_free_59 (lv_at hl 2 rfl) ?_
              refine lv_iload_n hx hb dX4_free_61 rfl (lv_at hl 4 rfl) ?_
              refine ps_imul hx hb dX4_free_62 ?_
              refine lv_istore (lv' := [(5, .int (nI ((k ^ i) * k))), (4, .int (nI ((10 ^ i) * 10))), (6, .int (nI i)), (0, .ref (o)), (1, .int (nI k)), (2, .int (nI j)), (3, .int (nI t))]) hx hb dX4_free_63 hl (by decide) rfl (fun ls hl => ?_)
              refine lv_iinc (v := nI (i + 1)) (lv' := [(6, .int (nI (i + 1))), (5, .int (nI ((k ^ i) * k))), (4, .int (nI ((10 ^ i) * 10))), (0, .ref (o)), (1, .int (nI k)), (2, .int (nI j)), (3, .int (nI t))]) hx hb dX4_free_65 hl (k := 2) rfl (ps_inc _) (by decide) rfl (fun ls hl => ?_)
              refine lv_goto (tgt := 46) hx hb dX4_free_68 (by decide) ?_
              have hl : lv_has ls 9 [(6, .int (nI (i + 1))), (5, .int (nI (k ^ (i + 1)))), (4, .int (nI (10 ^ (i + 1)))), (0, .ref (o)), (1, .int (nI k)), (2, .int (nI j)), (3, .int (nI t))] := lv_sub hl [0, 1, 2, 3, 4, 5, 6] rfl
              exact ih46  (i + 1) (by omega) (by omega) ls (hl)
        have hl : lv_has ls 9 [(6, .int (nI 0)), (5, .int (nI (k ^ 0))), (4, .int (nI (10 ^ 0))), (0, .ref (o)), (1, .int (nI k)), (2, .int (nI j)), (3, .int (nI t))] := lv_sub hl [0, 1, 2, 3, 4, 5, 6] rfl
        exact L46 ((j - 0) + 1) 0 (by omega) (Nat.lt_succ_self _) ls (hl)
      · skip
        refine lv_ldc (v := -1000001) hx hb ho (hts _ q1375) dX4_free_34 ?_
        exact ps_iretR X dX4_free_36 (congrArg (fun z => some (Value.int z)) (by simp [op_free, c_9, cl_k, c_21, cl_j, c_31]))

set_option maxHeartbeats 4000000 in
theorem m_X4_begin (l : Launch) {E : ps_E} (hE : ps_ZT E) {H : Heap} {o : Nat} {F : Nat → Int32} {A : Nat → Nat → Int32} (hM : ps_Mo E H o F A) {σ : Nat → Nat} (hσ : ps_Vw A 4 57 σ) (hO : sp_ok σ) {L : List Nat} (hTr : F 23 = nI L.length ∧ ∀ i, i < L.length → A 12 i = nI (L.getD i 0)) {b : Nat} (hL : L.length + 1 ≤ 16) : ps_Ge l E yX4_begin cX4_begin 2 none 1 12 0 0 [.ref (o), .int (nI b)] H (fun v H1 => v = none ∧ ∃ x g, ps_Mo E H1 o (va_up F 23 x) (va_up A 12 g) ∧ ps_Mf o H H1 ∧ x = nI (L ++ [b]).length ∧ ∀ i, i < (L ++ [b]).length → g i = nI ((L ++ [b]).getD i 0)) := by
  refine ps_Ge.of (by decide) (Nat.le_of_ble_eq_true rfl) ?_
  intro p e s m args below meth c X ls hl
  have hx := X.1
  have hb := X.2.1
  have ho := X.2.2.2.1
  have hts := X.2.2.2.2.1
  have hS : va_S (ps_A E) s.heap H [] := by rw [X.2.2.2.2.2.2.2.2.1]; exact va_S.rf
  have hl : lv_has ls 2 [(0, .ref (o)), (1, .int (nI b))] := hl
  have hm := hO.m
  refine lv_aload_n hx hb dX4_begin_0 rfl (lv_at hl 0 rfl) ?_
  refine ps_mget (v := .int (F 23)) X hM 23 (by decide) q1312 rfl rfl dX4_begin_1 ?_
  refine ps_top (y := nI L.length) (hTr.1) ?_
  refine lv_bipush (v := nI 16) hx hb dX4_begin_4 rfl ?_
  refine ps_cge (tgt := 29) hx hb dX4_begin_6 (by decide) (by omega) (fun c_6 => ?_) (fun c_6 => ?_)
  · skip
    exact absurd c_6 (by omega)
  · skip
    refine lv_aload_n hx hb dX4_begin_9 rfl (lv_at hl 0 rfl) ?_
    refine ps_mget (v := .ref (o + 12)) X hM 22 (by decide) q1311 rfl rfl dX4_begin_10 ?_
    refine lv_aload_n hx hb dX4_begin_13 rfl (lv_at hl 0 rfl) ?_
    refine ps_mget (v := .int (F 23)) X hM 23 (by decide) q1312 rfl rfl dX4_begin_14 ?_
    refine ps_top (y := nI L.length) (hTr.1) ?_
    refine lv_iload_n hx hb dX4_begin_17 rfl (lv_at hl 1 rfl) ?_
    refine ps_mst (j := L.length) X hM 12 (by decide) rfl (by show L.length < 16; omega) hS dX4_begin_18 (fun H1 locs2 hM3 hf4 hS5 => ?_)
    refine lv_aload_n hx hb dX4_begin_19 rfl (lv_at hl 0 rfl) ?_
    refine lv_dup hx hb dX4_begin_20 rfl ?_
    refine ps_mget (v := .int (F 23)) X hM3 23 (by decide) q1312 rfl rfl dX4_begin_21 ?_
    refine ps_top (y := nI L.length) (hTr.1) ?_
    refine lv_iconst (v := nI 1) hx hb dX4_begin_24 rfl ?_
    refine ps_iadd hx hb dX4_begin_25 ?_
    refine ps_mput X hM3 23 (by decide) q1312 rfl rfl rfl rfl hS5 dX4_begin_26 (fun H6 locs7 hM8 hf9 hS10 => ?_)
    exact ps_vretG X hS10 (Nat.le_of_ble_eq_true rfl) (Nat.le_of_ble_eq_true rfl) dX4_begin_29 (⟨rfl, _, _, hM8, (hf4.tr hf9), ps_trc hTr⟩)

set_option maxHeartbeats 4000000 in
theorem m_X4_lent (l : Launch) {E : ps_E} (hE : ps_ZT E) {H : Heap} {o : Nat} {F : Nat → Int32} {A : Nat → Nat → Int32} (hM : ps_Mo E H o F A) {σ : Nat → Nat} (hσ : ps_Vw A 4 57 σ) (hO : sp_ok σ) {L : List Nat} (hTr : F 23 = nI L.length ∧ ∀ i, i < L.length → A 12 i = nI (L.getD i 0)) (hL : L.length + 1 ≤ 16) {k b : Nat} (hk : k < σ 3) (hb1 : b < 30) : ps_Ge l E yX4_lent cX4_lent 3 (some .int) 2 33 0 0 [.ref (o), .int (nI k), .int (nI b)] H (fun v H1 => v = some (.int (nI (if b = 10 then σ (41 + k) else k))) ∧ ∃ x g, ps_Mo E H1 o (va_up F 23 x) (va_up A 12 g) ∧ ps_Mf o H H1 ∧ x = nI (L ++ [b]).length ∧ ∀ i, i < (L ++ [b]).length → g i = nI ((L ++ [b]).getD i 0)) := by
  refine ps_Ge.of (by decide) (Nat.le_of_ble_eq_true rfl) ?_
  intro p e s m args below meth c X ls hl
  have hx := X.1
  have hb := X.2.1
  have ho := X.2.2.2.1
  have hts := X.2.2.2.2.1
  have hS : va_S (ps_A E) s.heap H [] := by rw [X.2.2.2.2.2.2.2.2.1]; exact va_S.rf
  have hl : lv_has ls 3 [(0, .ref (o)), (1, .int (nI k)), (2, .int (nI b))] := hl
  have hm := hO.m
  have hp := hO.p hk
  refine lv_aload_n hx hb dX4_lent_0 rfl (lv_at hl 0 rfl) ?_
  refine lv_iload_n hx hb dX4_lent_1 rfl (lv_at hl 2 rfl) ?_
  refine ps_geV X hE (m_X4_begin l hE hM hσ hO (L := L) hTr (b := b) (by first | omega | (simp only [List.length_append, List.length_cons, List.length_nil]; omega))) (lw_V q1636 q1638 qs60 q75 q1639) (by decide +kernel) ⟨⟨Nat.le_of_ble_eq_true rfl, Nat.le_of_ble_eq_true rfl⟩, Nat.le_of_ble_eq_true rfl, Nat.le_of_ble_eq_true rfl⟩ (ps_mrc X hM) hS hl.1 (As := [.int (nI b)]) (rest := []) (n := 1) rfl rfl (Nat.le_of_ble_eq_true rfl) dX4_lent_2 (fun v5 H1 locs2 hp3 hS4 => ?_)
  obtain ⟨hv10, x6, g7, hM8, hf9, ht11⟩ := hp3
  subst hv10
  refine ps_st (st' := []) rfl ?_
  refine lv_iload_n hx hb dX4_lent_5 rfl (lv_at hl 2 rfl) ?_
  refine lv_bipush (v := nI 10) hx hb dX4_lent_6 rfl ?_
  refine ps_cne (tgt := 23) hx hb dX4_lent_8 (by decide) (by omega) (fun c_8 => ?_) (fun c_8 => ?_)
  · skip
    refine lv_iload_n hx hb dX4_lent_23 rfl (lv_at hl 1 rfl) ?_
    have h12 : L ++ [b] = (L ++ [b]) := (by simp [c_8])
    exact ps_iretG X hS4 (Nat.le_of_ble_eq_true rfl) (Nat.le_of_ble_eq_true rfl) dX4_lent_24 (⟨congrArg (fun z => some (Value.int z)) (by simp [c_8]), _, _, hM8, hf9, by rw [h12]; exact ht11⟩)
  · skip
    refine lv_aload_n hx hb dX4_lent_11 rfl (lv_at hl 0 rfl) ?_
    refine ps_mget (v := .ref (o + 4)) X hM8 5 (by decide) q1294 rfl rfl dX4_lent_12 ?_
    refine lv_bipush (v := nI 41) hx hb dX4_lent_15 rfl ?_
    refine lv_iload_n hx hb dX4_lent_17 rfl (lv_at hl 1 rfl) ?_
    refine ps_iadd hx hb dX4_lent_18 ?_
    refine ps_mld (j := 41 + k) (v := nI (σ (41 + k))) X hM8 4 (by decide) rfl (by show 41 + k < 57; omega) ((hσ.ne (by decide)) _ (by show 41 + k < 57; omega)) dX4_lent_19 ?_
    refine lv_goto (tgt := 24) hx hb dX4_lent_20 (by decide) ?_
    have h14 : L ++ [b] = (L ++ [b]) := (by simp [])
    exact ps_iretG X hS4 (Nat.le_of_ble_eq_true rfl) (Nat.le_of_ble_eq_true rfl) dX4_lent_24 (⟨congrArg (fun z => some (Value.int z)) (by subst c_8; simp []), _, _, hM8, hf9, by rw [h14]; exact ht11⟩)

set_option maxHeartbeats 4000000 in
theorem m_X4_plainMark (l : Launch) {E : ps_E} (hE : ps_ZT E) {H : Heap} {o : Nat} {F : Nat → Int32} {A : Nat → Nat → Int32} (hM : ps_Mo E H o F A) {σ : Nat → Nat} (hσ : ps_Vw A 4 57 σ) (hO : sp_ok σ) {L : List Nat} (hTr : F 23 = nI L.length ∧ ∀ i, i < L.length → A 12 i = nI (L.getD i 0)) (hL : L.length + 2 ≤ 16) {k : Nat} (hk : k < σ 3) : ps_Ge l E yX4_plainMark cX4_plainMark 2 (some .int) 4 80 0 0 [.ref (o), .int (nI k)] H (fun v H1 => v = some (.int (sp_pm σ k)) ∧ ∃ x g, ps_Mo E H1 o (va_up F 23 x) (va_up A 12 g) ∧ ps_Mf o H H1 ∧ x = nI (L ++ [21] ++ [20]).length ∧ ∀ i, i < (L ++ [21] ++ [20]).length → g i = nI ((L ++ [21] ++ [20]).getD i 0)) := by
  refine ps_Ge.of (by decide) (Nat.le_of_ble_eq_true rfl) ?_
  intro p e s m args below meth c X ls hl
  have hx := X.1
  have hb := X.2.1
  have ho := X.2.2.2.1
  have hts := X.2.2.2.2.1
  have hS : va_S (ps_A E) s.heap H [] := by rw [X.2.2.2.2.2.2.2.2.1]; exact va_S.rf
  have hl : lv_has ls 2 [(0, .ref (o)), (1, .int (nI k))] := hl
  have hm := hO.m
  have hp := hO.p hk
  have hw := sp_w_le hO (k := k + 1) (by omega)
  refine lv_aload_n hx hb dX4_plainMark_0 rfl (lv_at hl 0 rfl) ?_
  refine lv_bipush (v := nI 21) hx hb dX4_plainMark_1 rfl ?_
  refine ps_geV X hE (m_X4_begin l hE hM hσ hO (L := L) hTr (b := 21) (by first | omega | (simp only [List.length_append, List.length_cons, List.length_nil]; omega))) (lw_V q1636 q1638 qs60 q75 q1639) (by decide +kernel) ⟨⟨Nat.le_of_ble_eq_true rfl, Nat.le_of_ble_eq_true rfl⟩, Nat.le_of_ble_eq_true rfl, Nat.le_of_ble_eq_true rfl⟩ (ps_mrc X hM) hS hl.1 (As := [.int (nI 21)]) (rest := []) (n := 1) rfl rfl (Nat.le_of_ble_eq_true rfl) dX4_plainMark_3 (fun v5 H1 locs2 hp3 hS4 => ?_)
  obtain ⟨hv10, x6, g7, hM8, hf9, ht11⟩ := hp3
  subst hv10
  refine ps_st (st' := []) rfl ?_
  refine lv_aload_n hx hb dX4_plainMark_6 rfl (lv_at hl 0 rfl) ?_
  refine lv_iload_n hx hb dX4_plainMark_7 rfl (lv_at hl 1 rfl) ?_
  refine lv_bipush (v := nI 20) hx hb dX4_plainMark_8 rfl ?_
  refine ps_geV X hE (m_X4_lent l hE hM8 (hσ.ne (by decide)) hO (L := (L ++ [21])) ht11 (by first | omega | (simp only [List.length_append, List.length_cons, List.length_nil]; omega)) (k := k) (b := 20) (by omega) (by omega)) (lw_V q1644 q1646 qs62 q75 q1647) (by decide +kernel) ⟨⟨Nat.le_of_ble_eq_true rfl, Nat.le_of_ble_eq_true rfl⟩, Nat.le_of_ble_eq_true rfl, Nat.le_of_ble_eq_true rfl⟩ (ps_mrc X hM8) hS4 hl.1 (As := [.int (nI k), .int (nI 20)]) (rest := []) (n := 2) rfl rfl (Nat.le_of_ble_eq_true rfl) dX4_plainMark_10 (fun v16 H12 locs13 hp14 hS15 => ?_)
  obtain ⟨hv21, x17, g18, hM19, hf20, ht22⟩ := hp14
  subst hv21
  rw [bx_uu, bx_uu] at hM19
  refine ps_st (st' := [.int (nI k)]) rfl ?_
  refine lv_aload_n hx hb dX4_plainMark_13 rfl (lv_at hl 0 rfl) ?_
  refine lv_iload_n hx hb dX4_plainMark_14 rfl (lv_at hl 1 rfl) ?_
  refine ps_roV X hE (m_X4_weightOf l hE hM19 (hσ.ne (by decide)) hO (k := k) (by omega)) (lw_V q1479 q1481 qs47 q75 q1482) (by decide +kernel) ⟨⟨Nat.le_of_ble_eq_true rfl, Nat.le_of_ble_eq_true rfl⟩, Nat.le_of_ble_eq_true rfl, Nat.le_of_ble_eq_true rfl⟩ (ps_mrc X hM19) hS15 hl.1 (As := [.int (nI k)]) (rest := [.int (nI k)]) (n := 1) rfl rfl (Nat.le_of_ble_eq_true rfl) dX4_plainMark_15 ?_
  refine ps_st (st' := [.int (nI (sp_w σ (k + 1))), .int (nI k)]) rfl ?_
  refine lv_iadd hx hb dX4_plainMark_18 ?_
  refine ps_top (y := sp_pm σ k) (rfl) ?_
  have h23 : L ++ [21] ++ [20] = ((L ++ [21]) ++ [20]) := (by simp [sp_pm])
  exact ps_iretG X hS15 (Nat.le_of_ble_eq_true rfl) (Nat.le_of_ble_eq_true rfl) dX4_plainMark_19 (⟨rfl, _, _, hM19, (hf9.tr hf20), by rw [h23]; exact ht22⟩)

set_option maxHeartbeats 4000000 in
theorem m_X4_oathSize (l : Launch) {E : ps_E} (hE : ps_ZT E) {H : Heap} {o : Nat} {F : Nat → Int32} {A : Nat → Nat → Int32} (hM : ps_Mo E H o F A) {σ : Nat → Nat} (hσ : ps_Vw A 4 57 σ) (hO : sp_ok σ) {L : List Nat} (hTr : F 23 = nI L.length ∧ ∀ i, i < L.length → A 12 i = nI (L.getD i 0)) (hL : L.length + 2 ≤ 16) {k : Nat} (hk : k < σ 3) : ps_Ge l E yX4_oathSize cX4_oathSize 2 (some .int) 3 55 0 0 [.ref (o), .int (nI k)] H (fun v H1 => v = some (.int (sp_os σ k)) ∧ ∃ x g, ps_Mo E H1 o (va_up F 23 x) (va_up A 12 g) ∧ ps_Mf o H H1 ∧ x = nI (L ++ [13] ++ [10]).length ∧ ∀ i, i < (L ++ [13] ++ [10]).length → g i = nI ((L ++ [13] ++ [10]).getD i 0)) := by
  refine ps_Ge.of (by decide) (Nat.le_of_ble_eq_true rfl) ?_
  intro p e s m args below meth c X ls hl
  have hx := X.1
  have hb := X.2.1
  have ho := X.2.2.2.1
  have hts := X.2.2.2.2.1
  have hS : va_S (ps_A E) s.heap H [] := by rw [X.2.2.2.2.2.2.2.2.1]; exact va_S.rf
  have hl : lv_has ls 2 [(0, .ref (o)), (1, .int (nI k))] := hl
  have hm := hO.m
  have hp := hO.p hk
  have hw := sp_w_le hO (k := k + 1) (by omega)
  refine lv_aload_n hx hb dX4_oathSize_0 rfl (lv_at hl 0 rfl) ?_
  refine lv_bipush (v := nI 13) hx hb dX4_oathSize_1 rfl ?_
  refine ps_geV X hE (m_X4_begin l hE hM hσ hO (L := L) hTr (b := 13) (by first | omega | (simp only [List.length_append, List.length_cons, List.length_nil]; omega))) (lw_V q1636 q1638 qs60 q75 q1639) (by decide +kernel) ⟨⟨Nat.le_of_ble_eq_true rfl, Nat.le_of_ble_eq_true rfl⟩, Nat.le_of_ble_eq_true rfl, Nat.le_of_ble_eq_true rfl⟩ (ps_mrc X hM) hS hl.1 (As := [.int (nI 13)]) (rest := []) (n := 1) rfl rfl (Nat.le_of_ble_eq_true rfl) dX4_oathSize_3 (fun v5 H1 locs2 hp3 hS4 => ?_)
  obtain ⟨hv10, x6, g7, hM8, hf9, ht11⟩ := hp3
  subst hv10
  refine ps_st (st' := []) rfl ?_
  refine lv_aload_n hx hb dX4_oathSize_6 rfl (lv_at hl 0 rfl) ?_
  refine lv_iload_n hx hb dX4_oathSize_7 rfl (lv_at hl 1 rfl) ?_
  refine lv_bipush (v := nI 10) hx hb dX4_oathSize_8 rfl ?_
  refine ps_geV X hE (m_X4_lent l hE hM8 (hσ.ne (by decide)) hO (L := (L ++ [13])) ht11 (by first | omega | (simp only [List.length_append, List.length_cons, List.length_nil]; omega)) (k := k) (b := 10) (by omega) (by omega)) (lw_V q1644 q1646 qs62 q75 q1647) (by decide +kernel) ⟨⟨Nat.le_of_ble_eq_true rfl, Nat.le_of_ble_eq_true rfl⟩, Nat.le_of_ble_eq_true rfl, Nat.le_of_ble_eq_true rfl⟩ (ps_mrc X hM8) hS4 hl.1 (As := [.int (nI k), .int (nI 10)]) (rest := []) (n := 2) rfl rfl (Nat.le_of_ble_eq_true rfl) dX4_oathSize_10 (fun v16 H12 locs13 hp14 hS15 => ?_)
  obtain ⟨hv21, x17, g18, hM19, hf20, ht22⟩ := hp14
  subst hv21
  rw [bx_uu, bx_uu] at hM19
  refine ps_st (st' := [.int (nI (σ (41 + k)))]) rfl ?_
  refine lv_bipush (v := nI 100) hx hb dX4_oathSize_13 rfl ?_
  refine lv_isub hx hb dX4_oathSize_15 ?_
  refine ps_top (y := sp_os σ k) (rfl) ?_
  have h23 : L ++ [13] ++ [10] = ((L ++ [13]) ++ [10]) := (by simp [sp_os])
  exact ps_iretG X hS15 (Nat.le_of_ble_eq_true rfl) (Nat.le_of_ble_eq_true rfl) dX4_oathSize_16 (⟨rfl, _, _, hM19, (hf9.tr hf20), by rw [h23]; exact ht22⟩)

set_option maxHeartbeats 4000000 in
theorem m_X4_sizeOfOath (l : Launch) {E : ps_E} (hE : ps_ZT E) {H : Heap} {o : Nat} {F : Nat → Int32} {A : Nat → Nat → Int32} (hM : ps_Mo E H o F A) {σ : Nat → Nat} (hσ : ps_Vw A 4 57 σ) (hO : sp_ok σ) {L : List Nat} (hTr : F 23 = nI L.length ∧ ∀ i, i < L.length → A 12 i = nI (L.getD i 0)) (hL : L.length + 3 ≤ 16) {k : Nat} (hk : k < σ 3) : ps_Ge l E yX4_sizeOfOath cX4_sizeOfOath 2 (some .int) 4 76 0 0 [.ref (o), .int (nI k)] H (fun v H1 => v = some (.int (sp_oS σ k)) ∧ ∃ x g, ps_Mo E H1 o (va_up F 23 x) (va_up A 12 g) ∧ ps_Mf o H H1 ∧ x = nI (L ++ sp_oL σ k).length ∧ ∀ i, i < (L ++ sp_oL σ k).length → g i = nI ((L ++ sp_oL σ k).getD i 0)) := by
  refine ps_Ge.of (by decide) (Nat.le_of_ble_eq_true rfl) ?_
  intro p e s m args below meth c X ls hl
  have hx := X.1
  have hb := X.2.1
  have ho := X.2.2.2.1
  have hts := X.2.2.2.2.1
  have hS : va_S (ps_A E) s.heap H [] := by rw [X.2.2.2.2.2.2.2.2.1]; exact va_S.rf
  have hl : lv_has ls 2 [(0, .ref (o)), (1, .int (nI k))] := hl
  have hm := hO.m
  have hp := hO.p hk
  have hw := sp_w_le hO (k := k + 1) (by omega)
  refine lv_aload_n hx hb dX4_sizeOfOath_0 rfl (lv_at hl 0 rfl) ?_
  refine ps_mget (v := .ref (o + 4)) X hM 5 (by decide) q1294 rfl rfl dX4_sizeOfOath_1 ?_
  refine lv_bipush (v := nI 9) hx hb dX4_sizeOfOath_4 rfl ?_
  refine lv_iload_n hx hb dX4_sizeOfOath_6 rfl (lv_at hl 1 rfl) ?_
  refine ps_iadd hx hb dX4_sizeOfOath_7 ?_
  refine ps_mld (j := 9 + k) (v := nI (σ (9 + k))) X hM 4 (by decide) rfl (by show 9 + k < 57; omega) (hσ _ (by show 9 + k < 57; omega)) dX4_sizeOfOath_8 ?_
  refine lv_iconst (v := nI 5) hx hb dX4_sizeOfOath_9 rfl ?_
  refine ps_cne (tgt := 27) hx hb dX4_sizeOfOath_10 (by decide) (by omega) (fun c_10 => ?_) (fun c_10 => ?_)
  · skip
    refine lv_aload_n hx hb dX4_sizeOfOath_27 rfl (lv_at hl 0 rfl) ?_
    refine lv_iload_n hx hb dX4_sizeOfOath_28 rfl (lv_at hl 1 rfl) ?_
    refine ps_geV X hE (m_X4_oathSize l hE hM hσ hO (L := L) hTr (by first | omega | (simp only [List.length_append, List.length_cons, List.length_nil]; omega)) (k := k) (by omega)) (lw_V q1660 q1662 qs66 q75 q1663) (by decide +kernel) ⟨⟨Nat.le_of_ble_eq_true rfl, Nat.le_of_ble_eq_true rfl⟩, Nat.le_of_ble_eq_true rfl, Nat.le_of_ble_eq_true rfl⟩ (ps_mrc X hM) hS hl.1 (As := [.int (nI k)]) (rest := []) (n := 1) rfl rfl (Nat.le_of_ble_eq_true rfl) dX4_sizeOfOath_29 (fun v5 H1 locs2 hp3 hS4 => ?_)
    obtain ⟨hv10, x6, g7, hM8, hf9, ht11⟩ := hp3
    subst hv10
    refine ps_st (st' := [.int (sp_os σ k)]) rfl ?_
    have h12 : L ++ sp_oL σ k = (L ++ [13] ++ [10]) := (by simp [sp_oS, sp_oL, c_10])
    exact ps_iretG X hS4 (Nat.le_of_ble_eq_true rfl) (Nat.le_of_ble_eq_true rfl) dX4_sizeOfOath_32 (⟨congrArg (fun z => some (Value.int z)) (by simp [sp_oS, sp_oL, c_10]), _, _, hM8, hf9, by rw [h12]; exact ht11⟩)
  · skip
    refine lv_aload_n hx hb dX4_sizeOfOath_13 rfl (lv_at hl 0 rfl) ?_
    refine lv_bipush (v := nI 14) hx hb dX4_sizeOfOath_14 rfl ?_
    refine ps_geV X hE (m_X4_begin l hE hM hσ hO (L := L) hTr (b := 14) (by first | omega | (simp only [List.length_append, List.length_cons, List.length_nil]; omega))) (lw_V q1636 q1638 qs60 q75 q1639) (by decide +kernel) ⟨⟨Nat.le_of_ble_eq_true rfl, Nat.le_of_ble_eq_true rfl⟩, Nat.le_of_ble_eq_true rfl, Nat.le_of_ble_eq_true rfl⟩ (ps_mrc X hM) hS hl.1 (As := [.int (nI 14)]) (rest := []) (n := 1) rfl rfl (Nat.le_of_ble_eq_true rfl) dX4_sizeOfOath_16 (fun v18 H14 locs15 hp16 hS17 => ?_)
    obtain ⟨hv23, x19, g20, hM21, hf22, ht24⟩ := hp16
    subst hv23
    refine ps_st (st' := []) rfl ?_
    refine lv_iconst (v := nI 2) hx hb dX4_sizeOfOath_19 rfl ?_
    refine lv_aload_n hx hb dX4_sizeOfOath_20 rfl (lv_at hl 0 rfl) ?_
    refine lv_iload_n hx hb dX4_sizeOfOath_21 rfl (lv_at hl 1 rfl) ?_
    refine ps_geV X hE (m_X4_oathSize l hE hM21 (hσ.ne (by decide)) hO (L := (L ++ [14])) ht24 (by first | omega | (simp only [List.length_append, List.length_cons, List.length_nil]; omega)) (k := k) (by omega)) (lw_V q1660 q1662 qs66 q75 q1663) (by decide +kernel) ⟨⟨Nat.le_of_ble_eq_true rfl, Nat.le_of_ble_eq_true rfl⟩, Nat.le_of_ble_eq_true rfl, Nat.le_of_ble_eq_true rfl⟩ (ps_mrc X hM21) hS17 hl.1 (As := [.int (nI k)]) (rest := [.int (nI 2)]) (n := 1) rfl rfl (Nat.le_of_ble_eq_true rfl) dX4_sizeOfOath_22 (fun v29 H25 locs26 hp27 hS28 => ?_)
    obtain ⟨hv34, x30, g31, hM32, hf33, ht35⟩ := hp27
    subst hv34
    rw [bx_uu, bx_uu] at hM32
    refine ps_st (st' := [.int (sp_os σ k), .int (nI 2)]) rfl ?_
    refine lv_imul hx hb dX4_sizeOfOath_25 ?_
    have h36 : L ++ sp_oL σ k = ((L ++ [14]) ++ [13] ++ [10]) := (by simp [sp_oS, sp_oL, c_10])
    exact ps_iretG X hS28 (Nat.le_of_ble_eq_true rfl) (Nat.le_of_ble_eq_true rfl) dX4_sizeOfOath_26 (⟨congrArg (fun z => some (Value.int z)) (by simp [sp_oS, sp_oL, c_10]), _, _, hM32, (hf22.tr hf33), by rw [h36]; exact ht35⟩)

set_option maxHeartbeats 4000000 in
theorem m_X4_markOf (l : Launch) {E : ps_E} (hE : ps_ZT E) {H : Heap} {o : Nat} {F : Nat → Int32} {A : Nat → Nat → Int32} (hM : ps_Mo E H o F A) {σ : Nat → Nat} (hσ : ps_Vw A 4 57 σ) (hO : sp_ok σ) {L : List Nat} (hTr : F 23 = nI L.length ∧ ∀ i, i < L.length → A 12 i = nI (L.getD i 0)) (hL : L.length + 5 ≤ 16) {k : Nat} (hk : k < σ 3) : ps_Ge l E yX4_markOf cX4_markOf 4 (some .int) 5 101 0 0 [.ref (o), .int (nI k)] H (fun v H1 => v = some (.int (sp_mS σ k)) ∧ ∃ x g, ps_Mo E H1 o (va_up F 23 x) (va_up A 12 g) ∧ ps_Mf o H H1 ∧ x = nI (L ++ sp_mL σ k).length ∧ ∀ i, i < (L ++ sp_mL σ k).length → g i = nI ((L ++ sp_mL σ k).getD i 0)) := by
  refine ps_Ge.of (by decide) (Nat.le_of_ble_eq_true rfl) ?_
  intro p e s m args below meth c X ls hl
  have hx := X.1
  have hb := X.2.1
  have ho := X.2.2.2.1
  have hts := X.2.2.2.2.1
  have hS : va_S (ps_A E) s.heap H [] := by rw [X.2.2.2.2.2.2.2.2.1]; exact va_S.rf
  have hl : lv_has ls 4 [(0, .ref (o)), (1, .int (nI k))] := hl
  have hm := hO.m
  have hp := hO.p hk
  have hw := sp_w_le hO (k := k + 1) (by omega)
  refine lv_aload_n hx hb dX4_markOf_0 rfl (lv_at hl 0 rfl) ?_
  refine ps_mget (v := .ref (o + 4)) X hM 5 (by decide) q1294 rfl rfl dX4_markOf_1 ?_
  refine lv_bipush (v := nI 9) hx hb dX4_markOf_4 rfl ?_
  refine lv_iload_n hx hb dX4_markOf_6 rfl (lv_at hl 1 rfl) ?_
  refine ps_iadd hx hb dX4_markOf_7 ?_
  refine ps_mld (j := 9 + k) (v := nI (σ (9 + k))) X hM 4 (by decide) rfl (by show 9 + k < 57; omega) (hσ _ (by show 9 + k < 57; omega)) dX4_markOf_8 ?_
  refine lv_istore_n (lv' := [(2, .int (nI (σ (9 + k)))), (0, .ref (o)), (1, .int (nI k))]) hx hb dX4_markOf_9 rfl hl (by decide) rfl (fun ls hl => ?_)
  refine lv_iload_n hx hb dX4_markOf_10 rfl (lv_at hl 0 rfl) ?_
  refine lv_iconst (v := nI 2) hx hb dX4_markOf_11 rfl ?_
  refine ps_cne (tgt := 29) hx hb dX4_markOf_12 (by decide) (by omega) (fun c_12 => ?_) (fun c_12 => ?_)
  · skip
    refine lv_iload_n hx hb dX4_markOf_29 rfl (lv_at hl 0 rfl) ?_
    refine lv_iconst (v := nI 3) hx hb dX4_markOf_30 rfl ?_
    refine ps_cne (tgt := 50) hx hb dX4_markOf_31 (by decide) (by omega) (fun c_31 => ?_) (fun c_31 => ?_)
    · skip
      refine lv_iload_n hx hb dX4_markOf_50 rfl (lv_at hl 0 rfl) ?_
      refine lv_iconst (v := nI 1) hx hb dX4_markOf_51 rfl ?_
      refine ps_cne (tgt := 61) hx hb dX4_markOf_52 (by decide) (by omega) (fun c_52 => ?_) (fun c_52 => ?_)
      · skip
        refine lv_aload_n hx hb dX4_markOf_61 rfl (lv_at hl 1 rfl) ?_
        refine lv_bipush (v := nI 23) hx hb dX4_markOf_62 rfl ?_
        refine ps_geV X hE (m_X4_begin l hE hM hσ hO (L := L) hTr (b := 23) (by first | omega | (simp only [List.length_append, List.length_cons, List.length_nil]; omega))) (lw_V q1636 q1638 qs60 q75 q1639) (by decide +kernel) ⟨⟨Nat.le_of_ble_eq_true rfl, Nat.le_of_ble_eq_true rfl⟩, Nat.le_of_ble_eq_true rfl, Nat.le_of_ble_eq_true rfl⟩ (ps_mrc X hM) hS hl.1 (As := [.int (nI 23)]) (rest := []) (n := 1) rfl rfl (Nat.le_of_ble_eq_true rfl) dX4_markOf_64 (fun v5 H1 locs2 hp3 hS4 => ?_)
        obtain ⟨hv10, x6, g7, hM8, hf9, ht11⟩ := hp3
        subst hv10
        refine ps_st (st' := []) rfl ?_
        refine lv_aload_n hx hb dX4_markOf_67 rfl (lv_at hl 1 rfl) ?_
        refine lv_iload_n hx hb dX4_markOf_68 rfl (lv_at hl 2 rfl) ?_
        refine lv_bipush (v := nI 20) hx hb dX4_markOf_69 rfl ?_
        refine ps_geV X hE (m_X4_lent l hE hM8 (hσ.ne (by decide)) hO (L := (L ++ [23])) ht11 (by first | omega | (simp only [List.length_append, List.length_cons, List.length_nil]; omega)) (k := k) (b := 20) (by omega) (by omega)) (lw_V q1644 q1646 qs62 q75 q1647) (by decide +kernel) ⟨⟨Nat.le_of_ble_eq_true rfl, Nat.le_of_ble_eq_true rfl⟩, Nat.le_of_ble_eq_true rfl, Nat.le_of_ble_eq_true rfl⟩ (ps_mrc X hM8) hS4 hl.1 (As := [.int (nI k), .int (nI 20)]) (rest := []) (n := 2) rfl rfl (Nat.le_of_ble_eq_true rfl) dX4_markOf_71 (fun v16 H12 locs13 hp14 hS15 => ?_)
        obtain ⟨hv21, x17, g18, hM19, hf20, ht22⟩ := hp14
        subst hv21
        rw [bx_uu, bx_uu] at hM19
        refine ps_st (st' := [.int (nI k)]) rfl ?_
        refine lv_istore_n (lv' := [(3, .int (nI k)), (2, .int (nI (σ (9 + k)))), (0, .ref (o)), (1, .int (nI k))]) hx hb dX4_markOf_74 rfl hl (by decide) rfl (fun ls hl => ?_)
        refine lv_iload_n hx hb dX4_markOf_75 rfl (lv_at hl 0 rfl) ?_
        refine lv_aload_n hx hb dX4_markOf_76 rfl (lv_at hl 2 rfl) ?_
        refine lv_iload_n hx hb dX4_markOf_77 rfl (lv_at hl 3 rfl) ?_
        refine ps_geV X hE (m_X4_sizeOfOath l hE hM19 (hσ.ne (by decide)) hO (L := ((L ++ [23]) ++ [20])) ht22 (by first | omega | (simp only [List.length_append, List.length_cons, List.length_nil]; omega)) (k := k) (by omega)) (lw_V q1656 q1658 qs65 q75 q1659) (by decide +kernel) ⟨⟨Nat.le_of_ble_eq_true rfl, Nat.le_of_ble_eq_true rfl⟩, Nat.le_of_ble_eq_true rfl, Nat.le_of_ble_eq_true rfl⟩ (ps_mrc X hM19) hS15 hl.1 (As := [.int (nI k)]) (rest := [.int (nI k)]) (n := 1) rfl rfl (Nat.le_of_ble_eq_true rfl) dX4_markOf_78 (fun v27 H23 locs24 hp25 hS26 => ?_)
        obtain ⟨hv32, x28, g29, hM30, hf31, ht33⟩ := hp25
        subst hv32
        rw [bx_uu, bx_uu] at hM30
        refine ps_st (st' := [.int (sp_oS σ k), .int (nI k)]) rfl ?_
        refine lv_isub hx hb dX4_markOf_81 ?_
        have h34 : L ++ sp_mL σ k = (((L ++ [23]) ++ [20]) ++ sp_oL σ k) := (by simp [sp_mS, sp_mL, c_12, c_31, c_52])
        exact ps_iretG X hS26 (Nat.le_of_ble_eq_true rfl) (Nat.le_of_ble_eq_true rfl) dX4_markOf_82 (⟨congrArg (fun z => some (Value.int z)) (by simp [sp_mS, sp_mL, c_12, c_31, c_52]), _, _, hM30, ((hf9.tr hf20).tr hf31), by rw [h34]; exact ht33⟩)
      · skip
        refine lv_aload_n hx hb dX4_markOf_55 rfl (lv_at hl 1 rfl) ?_
        refine lv_iload_n hx hb dX4_markOf_56 rfl (lv_at hl 2 rfl) ?_
        refine ps_geV X hE (m_X4_plainMark l hE hM hσ hO (L := L) hTr (by first | omega | (simp only [List.length_append, List.length_cons, List.length_nil]; omega)) (k := k) (by omega)) (lw_V q1652 q1654 qs64 q75 q1655) (by decide +kernel) ⟨⟨Nat.le_of_ble_eq_true rfl, Nat.le_of_ble_eq_true rfl⟩, Nat.le_of_ble_eq_true rfl, Nat.le_of_ble_eq_true rfl⟩ (ps_mrc X hM) hS hl.1 (As := [.int (nI k)]) (rest := []) (n := 1) rfl rfl (Nat.le_of_ble_eq_true rfl) dX4_markOf_57 (fun v40 H36 locs37 hp38 hS39 => ?_)
        obtain ⟨hv45, x41, g42, hM43, hf44, ht46⟩ := hp38
        subst hv45
        refine ps_st (st' := [.int (sp_pm σ k)]) rfl ?_
        have h47 : L ++ sp_mL σ k = (L ++ [21] ++ [20]) := (by simp [sp_mS, sp_mL, c_12, c_31, c_52])
        exact ps_iretG X hS39 (Nat.le_of_ble_eq_true rfl) (Nat.le_of_ble_eq_true rfl) dX4_markOf_60 (⟨congrArg (fun z => some (Value.int z)) (by simp [sp_mS, sp_mL, c_12, c_31, c_52]), _, _, hM43, hf44, by rw [h47]; exact ht46⟩)
    · skip
      refine lv_aload_n hx hb dX4_markOf_34 rfl (lv_at hl 1 rfl) ?_
      refine lv_bipush (v := nI 22) hx hb dX4_markOf_35 rfl ?_
      refine ps_geV X hE (m_X4_begin l hE hM hσ hO (L := L) hTr (b := 22) (by first | omega | (simp only [List.length_append, List.length_cons, List.length_nil]; omega))) (lw_V q1636 q1638 qs60 q75 q1639) (by decide +kernel) ⟨⟨Nat.le_of_ble_eq_true rfl, Nat.le_of_ble_eq_true rfl⟩, Nat.le_of_ble_eq_true rfl, Nat.le_of_ble_eq_true rfl⟩ (ps_mrc X hM) hS hl.1 (As := [.int (nI 22)]) (rest := []) (n := 1) rfl rfl (Nat.le_of_ble_eq_true rfl) dX4_markOf_37 (fun v53 H49 locs50 hp51 hS52 => ?_)
      obtain ⟨hv58, x54, g55, hM56, hf57, ht59⟩ := hp51
      subst hv58
      refine ps_st (st' := []) rfl ?_
      refine lv_aload_n hx hb dX4_markOf_40 rfl (lv_at hl 1 rfl) ?_
      refine lv_iload_n hx hb dX4_markOf_41 rfl (lv_at hl 2 rfl) ?_
      refine ps_geV X hE (m_X4_plainMark l hE hM56 (hσ.ne (by decide)) hO (L := (L ++ [22])) ht59 (by first | omega | (simp only [List.length_append, List.length_cons, List.length_nil]; omega)) (k := k) (by omega)) (lw_V q1652 q1654 qs64 q75 q1655) (by decide +kernel) ⟨⟨Nat.le_of_ble_eq_true rfl, Nat.le_of_ble_eq_true rfl⟩, Nat.le_of_ble_eq_true rfl, Nat.le_of_ble_eq_true rfl⟩ (ps_mrc X hM56) hS52 hl.1 (As := [.int (nI k)]) (rest := []) (n := 1) rfl rfl (Nat.le_of_ble_eq_true rfl) dX4_markOf_42 (fun v64 H60 locs61 hp62 hS63 => ?_)
      obtain ⟨hv69, x65, g66, hM67, hf68, ht70⟩ := hp62
      subst hv69
      rw [bx_uu, bx_uu] at hM67
      refine ps_st (st' := [.int (sp_pm σ k)]) rfl ?_
      refine lv_sipush (v := nI 1000) hx hb dX4_markOf_45 rfl ?_
      refine lv_isub hx hb dX4_markOf_48 ?_
      have h71 : L ++ sp_mL σ k = ((L ++ [22]) ++ [21] ++ [20]) := (by simp [sp_mS, sp_mL, c_12, c_31])
      exact ps_iretG X hS63 (Nat.le_of_ble_eq_true rfl) (Nat.le_of_ble_eq_true rfl) dX4_markOf_49 (⟨congrArg (fun z => some (Value.int z)) (by simp [sp_mS, sp_mL, c_12, c_31]), _, _, hM67, (hf57.tr hf68), by rw [h71]; exact ht70⟩)
  · skip
    refine lv_aload_n hx hb dX4_markOf_15 rfl (lv_at hl 1 rfl) ?_
    refine lv_bipush (v := nI 24) hx hb dX4_markOf_16 rfl ?_
    refine ps_geV X hE (m_X4_begin l hE hM hσ hO (L := L) hTr (b := 24) (by first | omega | (simp only [List.length_append, List.length_cons, List.length_nil]; omega))) (lw_V q1636 q1638 qs60 q75 q1639) (by decide +kernel) ⟨⟨Nat.le_of_ble_eq_true rfl, Nat.le_of_ble_eq_true rfl⟩, Nat.le_of_ble_eq_true rfl, Nat.le_of_ble_eq_true rfl⟩ (ps_mrc X hM) hS hl.1 (As := [.int (nI 24)]) (rest := []) (n := 1) rfl rfl (Nat.le_of_ble_eq_true rfl) dX4_markOf_18 (fun v77 H73 locs74 hp75 hS76 => ?_)
    obtain ⟨hv82, x78, g79, hM80, hf81, ht83⟩ := hp75
    subst hv82
    refine ps_st (st' := []) rfl ?_
    refine lv_iconst (v := nI 2) hx hb dX4_markOf_21 rfl ?_
    refine lv_aload_n hx hb dX4_markOf_22 rfl (lv_at hl 1 rfl) ?_
    refine lv_iload_n hx hb dX4_markOf_23 rfl (lv_at hl 2 rfl) ?_
    refine ps_geV X hE (m_X4_plainMark l hE hM80 (hσ.ne (by decide)) hO (L := (L ++ [24])) ht83 (by first | omega | (simp only [List.length_append, List.length_cons, List.length_nil]; omega)) (k := k) (by omega)) (lw_V q1652 q1654 qs64 q75 q1655) (by decide +kernel) ⟨⟨Nat.le_of_ble_eq_true rfl, Nat.le_of_ble_eq_true rfl⟩, Nat.le_of_ble_eq_true rfl, Nat.le_of_ble_eq_true rfl⟩ (ps_mrc X hM80) hS76 hl.1 (As := [.int (nI k)]) (rest := [.int (nI 2)]) (n := 1) rfl rfl (Nat.le_of_ble_eq_true rfl) dX4_markOf_24 (fun v88 H84 locs85 hp86 hS87 => ?_)
    obtain ⟨hv93, x89, g90, hM91, hf92, ht94⟩ := hp86
    subst hv93
    rw [bx_uu, bx_uu] at hM91
    refine ps_st (st' := [.int (sp_pm σ k), .int (nI 2)]) rfl ?_
    refine lv_imul hx hb dX4_markOf_27 ?_
    have h95 : L ++ sp_mL σ k = ((L ++ [24]) ++ [21] ++ [20]) := (by simp [sp_mS, sp_mL, c_12])
    exact ps_iretG X hS87 (Nat.le_of_ble_eq_true rfl) (Nat.le_of_ble_eq_true rfl) dX4_markOf_28 (⟨congrArg (fun z => some (Value.int z)) (by simp [sp_mS, sp_mL, c_12]), _, _, hM91, (hf81.tr hf92), by rw [h95]; exact ht94⟩)

set_option maxHeartbeats 4000000 in
theorem m_X4_plainSize (l : Launch) {E : ps_E} (hE : ps_ZT E) {H : Heap} {o : Nat} {F : Nat → Int32} {A : Nat → Nat → Int32} (hM : ps_Mo E H o F A) {σ : Nat → Nat} (hσ : ps_Vw A 4 57 σ) (hO : sp_ok σ) {L : List Nat} (hTr : F 23 = nI L.length ∧ ∀ i, i < L.length → A 12 i = nI (L.getD i 0)) (hL : L.length + 7 ≤ 16) {k : Nat} (hk : k < σ 3) : ps_Ge l E yX4_plainSize cX4_plainSize 3 (some .int) 6 124 0 0 [.ref (o), .int (nI k)] H (fun v H1 => v = some (.int (nI (σ (41 + k)) + sp_mS σ k)) ∧ ∃ x g, ps_Mo E H1 o (va_up F 23 x) (va_up A 12 g) ∧ ps_Mf o H H1 ∧ x = nI (L ++ [11, 10] ++ sp_mL σ k).length ∧ ∀ i, i < (L ++ [11, 10] ++ sp_mL σ k).length → g i = nI ((L ++ [11, 10] ++ sp_mL σ k).getD i 0)) := by
  refine ps_Ge.of (by decide) (Nat.le_of_ble_eq_true rfl) ?_
  intro p e s m args below meth c X ls hl
  have hx := X.1
  have hb := X.2.1
  have ho := X.2.2.2.1
  have hts := X.2.2.2.2.1
  have hS : va_S (ps_A E) s.heap H [] := by rw [X.2.2.2.2.2.2.2.2.1]; exact va_S.rf
  have hl : lv_has ls 3 [(0, .ref (o)), (1, .int (nI k))] := hl
  have hm := hO.m
  have hp := hO.p hk
  have hw := sp_w_le hO (k := k + 1) (by omega)
  refine lv_aload_n hx hb dX4_plainSize_0 rfl (lv_at hl 0 rfl) ?_
  refine lv_bipush (v := nI 11) hx hb dX4_plainSize_1 rfl ?_
  refine ps_geV X hE (m_X4_begin l hE hM hσ hO (L := L) hTr (b := 11) (by first | omega | (simp only [List.length_append, List.length_cons, List.length_nil]; omega))) (lw_V q1636 q1638 qs60 q75 q1639) (by decide +kernel) ⟨⟨Nat.le_of_ble_eq_true rfl, Nat.le_of_ble_eq_true rfl⟩, Nat.le_of_ble_eq_true rfl, Nat.le_of_ble_eq_true rfl⟩ (ps_mrc X hM) hS hl.1 (As := [.int (nI 11)]) (rest := []) (n := 1) rfl rfl (Nat.le_of_ble_eq_true rfl) dX4_plainSize_3 (fun v5 H1 locs2 hp3 hS4 => ?_)
  obtain ⟨hv10, x6, g7, hM8, hf9, ht11⟩ := hp3
  subst hv10
  refine ps_st (st' := []) rfl ?_
  refine lv_aload_n hx hb dX4_plainSize_6 rfl (lv_at hl 0 rfl) ?_
  refine lv_iload_n hx hb dX4_plainSize_7 rfl (lv_at hl 1 rfl) ?_
  refine lv_bipush (v := nI 10) hx hb dX4_plainSize_8 rfl ?_
  refine ps_geV X hE (m_X4_lent l hE hM8 (hσ.ne (by decide)) hO (L := (L ++ [11])) ht11 (by first | omega | (simp only [List.length_append, List.length_cons, List.length_nil]; omega)) (k := k) (b := 10) (by omega) (by omega)) (lw_V q1644 q1646 qs62 q75 q1647) (by decide +kernel) ⟨⟨Nat.le_of_ble_eq_true rfl, Nat.le_of_ble_eq_true rfl⟩, Nat.le_of_ble_eq_true rfl, Nat.le_of_ble_eq_true rfl⟩ (ps_mrc X hM8) hS4 hl.1 (As := [.int (nI k), .int (nI 10)]) (rest := []) (n := 2) rfl rfl (Nat.le_of_ble_eq_true rfl) dX4_plainSize_10 (fun v16 H12 locs13 hp14 hS15 => ?_)
  obtain ⟨hv21, x17, g18, hM19, hf20, ht22⟩ := hp14
  subst hv21
  rw [bx_uu, bx_uu] at hM19
  refine ps_st (st' := [.int (nI (σ (41 + k)))]) rfl ?_
  refine lv_istore_n (lv' := [(2, .int (nI (σ (41 + k)))), (0, .ref (o)), (1, .int (nI k))]) hx hb dX4_plainSize_13 rfl hl (by decide) rfl (fun ls hl => ?_)
  refine lv_iload_n hx hb dX4_plainSize_14 rfl (lv_at hl 0 rfl) ?_
  refine lv_aload_n hx hb dX4_plainSize_15 rfl (lv_at hl 1 rfl) ?_
  refine lv_iload_n hx hb dX4_plainSize_16 rfl (lv_at hl 2 rfl) ?_
  refine ps_geV X hE (m_X4_markOf l hE hM19 (hσ.ne (by decide)) hO (L := ((L ++ [11]) ++ [10])) ht22 (by first | omega | (simp only [List.length_append, List.length_cons, List.length_nil]; omega)) (k := k) (by omega)) (lw_V q1648 q1650 qs63 q75 q1651) (by decide +kernel) ⟨⟨Nat.le_of_ble_eq_true rfl, Nat.le_of_ble_eq_true rfl⟩, Nat.le_of_ble_eq_true rfl, Nat.le_of_ble_eq_true rfl⟩ (ps_mrc X hM19) hS15 hl.1 (As := [.int (nI k)]) (rest := [.int (nI (σ (41 + k)))]) (n := 1) rfl rfl (Nat.le_of_ble_eq_true rfl) dX4_plainSize_17 (fun v27 H23 locs24 hp25 hS26 => ?_)
  obtain ⟨hv32, x28, g29, hM30, hf31, ht33⟩ := hp25
  subst hv32
  rw [bx_uu, bx_uu] at hM30
  refine ps_st (st' := [.int (sp_mS σ k), .int (nI (σ (41 + k)))]) rfl ?_
  refine lv_iadd hx hb dX4_plainSize_20 ?_
  have h34 : L ++ [11, 10] ++ sp_mL σ k = (((L ++ [11]) ++ [10]) ++ sp_mL σ k) := (by simp [])
  exact ps_iretG X hS26 (Nat.le_of_ble_eq_true rfl) (Nat.le_of_ble_eq_true rfl) dX4_plainSize_21 (⟨congrArg (fun z => some (Value.int z)) (by simp []), _, _, hM30, ((hf9.tr hf20).tr hf31), by rw [h34]; exact ht33⟩)

set_option maxHeartbeats 4000000 in
theorem m_X4_sizeOf (l : Launch) {E : ps_E} (hE : ps_ZT E) {H : Heap} {o : Nat} {F : Nat → Int32} {A : Nat → Nat → Int32} (hM : ps_Mo E H o F A) {σ : Nat → Nat} (hσ : ps_Vw A 4 57 σ) (hO : sp_ok σ) {L : List Nat} (hTr : F 23 = nI L.length ∧ ∀ i, i < L.length → A 12 i = nI (L.getD i 0)) (hL : L.length + 8 ≤ 16) {k : Nat} (hk : k < σ 3) : ps_Ge l E yX4_sizeOf cX4_sizeOf 3 (some .int) 7 146 0 0 [.ref (o), .int (nI k)] H (fun v H1 => v = some (.int (sp_sS σ k)) ∧ ∃ x g, ps_Mo E H1 o (va_up F 23 x) (va_up A 12 g) ∧ ps_Mf o H H1 ∧ x = nI (L ++ sp_sL σ k).length ∧ ∀ i, i < (L ++ sp_sL σ k).length → g i = nI ((L ++ sp_sL σ k).getD i 0)) := by
  refine ps_Ge.of (by decide) (Nat.le_of_ble_eq_true rfl) ?_
  intro p e s m args below meth c X ls hl
  have hx := X.1
  have hb := X.2.1
  have ho := X.2.2.2.1
  have hts := X.2.2.2.2.1
  have hS : va_S (ps_A E) s.heap H [] := by rw [X.2.2.2.2.2.2.2.2.1]; exact va_S.rf
  have hl : lv_has ls 3 [(0, .ref (o)), (1, .int (nI k))] := hl
  have hm := hO.m
  have hp := hO.p hk
  have hw := sp_w_le hO (k := k + 1) (by omega)
  refine lv_aload_n hx hb dX4_sizeOf_0 rfl (lv_at hl 0 rfl) ?_
  refine ps_mget (v := .ref (o + 4)) X hM 5 (by decide) q1294 rfl rfl dX4_sizeOf_1 ?_
  refine lv_bipush (v := nI 9) hx hb dX4_sizeOf_4 rfl ?_
  refine lv_iload_n hx hb dX4_sizeOf_6 rfl (lv_at hl 1 rfl) ?_
  refine ps_iadd hx hb dX4_sizeOf_7 ?_
  refine ps_mld (j := 9 + k) (v := nI (σ (9 + k))) X hM 4 (by decide) rfl (by show 9 + k < 57; omega) (hσ _ (by show 9 + k < 57; omega)) dX4_sizeOf_8 ?_
  refine lv_istore_n (lv' := [(2, .int (nI (σ (9 + k)))), (0, .ref (o)), (1, .int (nI k))]) hx hb dX4_sizeOf_9 rfl hl (by decide) rfl (fun ls hl => ?_)
  refine lv_iload_n hx hb dX4_sizeOf_10 rfl (lv_at hl 0 rfl) ?_
  refine lv_iconst (v := nI 2) hx hb dX4_sizeOf_11 rfl ?_
  refine ps_cne (tgt := 28) hx hb dX4_sizeOf_12 (by decide) (by omega) (fun c_12 => ?_) (fun c_12 => ?_)
  · skip
    refine lv_iload_n hx hb dX4_sizeOf_28 rfl (lv_at hl 0 rfl) ?_
    refine lv_iconst (v := nI 4) hx hb dX4_sizeOf_29 rfl ?_
    refine ps_clt (tgt := 41) hx hb dX4_sizeOf_30 (by decide) (by omega) (fun c_30 => ?_) (fun c_30 => ?_)
    · skip
      have c_30 := Nat.not_le.mpr c_30
      refine lv_aload_n hx hb dX4_sizeOf_41 rfl (lv_at hl 1 rfl) ?_
      refine lv_iload_n hx hb dX4_sizeOf_42 rfl (lv_at hl 2 rfl) ?_
      refine ps_geV X hE (m_X4_plainSize l hE hM hσ hO (L := L) hTr (by first | omega | (simp only [List.length_append, List.length_cons, List.length_nil]; omega)) (k := k) (by omega)) (lw_V q1640 q1642 qs61 q75 q1643) (by decide +kernel) ⟨⟨Nat.le_of_ble_eq_true rfl, Nat.le_of_ble_eq_true rfl⟩, Nat.le_of_ble_eq_true rfl, Nat.le_of_ble_eq_true rfl⟩ (ps_mrc X hM) hS hl.1 (As := [.int (nI k)]) (rest := []) (n := 1) rfl rfl (Nat.le_of_ble_eq_true rfl) dX4_sizeOf_43 (fun v5 H1 locs2 hp3 hS4 => ?_)
      obtain ⟨hv10, x6, g7, hM8, hf9, ht11⟩ := hp3
      subst hv10
      refine ps_st (st' := [.int (nI (σ (41 + k)) + sp_mS σ k)]) rfl ?_
      have h12 : L ++ sp_sL σ k = (L ++ [11, 10] ++ sp_mL σ k) := (by simp [sp_sS, sp_sL, c_12, c_30])
      exact ps_iretG X hS4 (Nat.le_of_ble_eq_true rfl) (Nat.le_of_ble_eq_true rfl) dX4_sizeOf_46 (⟨congrArg (fun z => some (Value.int z)) (by simp [sp_sS, sp_sL, c_12, c_30]), _, _, hM8, hf9, by rw [h12]; exact ht11⟩)
    · skip
      refine lv_aload_n hx hb dX4_sizeOf_33 rfl (lv_at hl 1 rfl) ?_
      refine lv_iload_n hx hb dX4_sizeOf_34 rfl (lv_at hl 2 rfl) ?_
      refine ps_geV X hE (m_X4_sizeOfOath l hE hM hσ hO (L := L) hTr (by first | omega | (simp only [List.length_append, List.length_cons, List.length_nil]; omega)) (k := k) (by omega)) (lw_V q1656 q1658 qs65 q75 q1659) (by decide +kernel) ⟨⟨Nat.le_of_ble_eq_true rfl, Nat.le_of_ble_eq_true rfl⟩, Nat.le_of_ble_eq_true rfl, Nat.le_of_ble_eq_true rfl⟩ (ps_mrc X hM) hS hl.1 (As := [.int (nI k)]) (rest := []) (n := 1) rfl rfl (Nat.le_of_ble_eq_true rfl) dX4_sizeOf_35 (fun v18 H14 locs15 hp16 hS17 => ?_)
      obtain ⟨hv23, x19, g20, hM21, hf22, ht24⟩ := hp16
      subst hv23
      refine ps_st (st' := [.int (sp_oS σ k)]) rfl ?_
      refine lv_goto (tgt := 46) hx hb dX4_sizeOf_38 (by decide) ?_
      have h25 : L ++ sp_sL σ k = (L ++ sp_oL σ k) := (by simp [sp_sS, sp_sL, c_12, c_30])
      exact ps_iretG X hS17 (Nat.le_of_ble_eq_true rfl) (Nat.le_of_ble_eq_true rfl) dX4_sizeOf_46 (⟨congrArg (fun z => some (Value.int z)) (by simp [sp_sS, sp_sL, c_12, c_30]), _, _, hM21, hf22, by rw [h25]; exact ht24⟩)
  · skip
    refine lv_aload_n hx hb dX4_sizeOf_15 rfl (lv_at hl 1 rfl) ?_
    refine lv_bipush (v := nI 12) hx hb dX4_sizeOf_16 rfl ?_
    refine ps_geV X hE (m_X4_begin l hE hM hσ hO (L := L) hTr (b := 12) (by first | omega | (simp only [List.length_append, List.length_cons, List.length_nil]; omega))) (lw_V q1636 q1638 qs60 q75 q1639) (by decide +kernel) ⟨⟨Nat.le_of_ble_eq_true rfl, Nat.le_of_ble_eq_true rfl⟩, Nat.le_of_ble_eq_true rfl, Nat.le_of_ble_eq_true rfl⟩ (ps_mrc X hM) hS hl.1 (As := [.int (nI 12)]) (rest := []) (n := 1) rfl rfl (Nat.le_of_ble_eq_true rfl) dX4_sizeOf_18 (fun v31 H27 locs28 hp29 hS30 => ?_)
    obtain ⟨hv36, x32, g33, hM34, hf35, ht37⟩ := hp29
    subst hv36
    refine ps_st (st' := []) rfl ?_
    refine lv_aload_n hx hb dX4_sizeOf_21 rfl (lv_at hl 1 rfl) ?_
    refine lv_iload_n hx hb dX4_sizeOf_22 rfl (lv_at hl 2 rfl) ?_
    refine ps_geV X hE (m_X4_plainSize l hE hM34 (hσ.ne (by decide)) hO (L := (L ++ [12])) ht37 (by first | omega | (simp only [List.length_append, List.length_cons, List.length_nil]; omega)) (k := k) (by omega)) (lw_V q1640 q1642 qs61 q75 q1643) (by decide +kernel) ⟨⟨Nat.le_of_ble_eq_true rfl, Nat.le_of_ble_eq_true rfl⟩, Nat.le_of_ble_eq_true rfl, Nat.le_of_ble_eq_true rfl⟩ (ps_mrc X hM34) hS30 hl.1 (As := [.int (nI k)]) (rest := []) (n := 1) rfl rfl (Nat.le_of_ble_eq_true rfl) dX4_sizeOf_23 (fun v42 H38 locs39 hp40 hS41 => ?_)
    obtain ⟨hv47, x43, g44, hM45, hf46, ht48⟩ := hp40
    subst hv47
    rw [bx_uu, bx_uu] at hM45
    refine ps_st (st' := [.int (nI (σ (41 + k)) + sp_mS σ k)]) rfl ?_
    refine lv_ineg hx hb dX4_sizeOf_26 ?_
    have h49 : L ++ sp_sL σ k = ((L ++ [12]) ++ [11, 10] ++ sp_mL σ k) := (by simp [sp_sS, sp_sL, c_12])
    exact ps_iretG X hS41 (Nat.le_of_ble_eq_true rfl) (Nat.le_of_ble_eq_true rfl) dX4_sizeOf_27 (⟨congrArg (fun z => some (Value.int z)) (by simp [sp_sS, sp_sL, c_12]), _, _, hM45, (hf35.tr hf46), by rw [h49]; exact ht48⟩)

set_option maxHeartbeats 4000000 in
theorem m_X4_ask (l : Launch) {E : ps_E} (hE : ps_ZT E) {H : Heap} {o : Nat} {F : Nat → Int32} {A : Nat → Nat → Int32} (hM : ps_Mo E H o F A) {S : SS} (hs : sm F A S) (hW : wf S) {x y : Int32} : ps_Ge l E yX4_ask cX4_ask 3 (some .int) 8 168 0 0 [.ref (o), .int (x), .int (y)] H (ps_mpost E H o (op_ask S x y)) := by
  refine ps_Ge.of (by decide) (Nat.le_of_ble_eq_true rfl) ?_
  intro p e s m args below meth c X ls hl
  have hx := X.1
  have hb := X.2.1
  have ho := X.2.2.2.1
  have hts := X.2.2.2.2.1
  have hS : va_S (ps_A E) s.heap H [] := by rw [X.2.2.2.2.2.2.2.2.1]; exact va_S.rf
  have hl : lv_has ls 3 [(0, .ref (o)), (1, .int (x)), (2, .int (y))] := hl
  have hσ := hs.2.2.2.2.1
  have hO := hW.1
  have hm := hO.m
  have hn := hW.n
  refine lv_aload_n hx hb dX4_ask_0 rfl (lv_at hl 0 rfl) ?_
  refine lv_iload_n hx hb dX4_ask_1 rfl (lv_at hl 1 rfl) ?_
  refine ps_roV X hE (m_X4_isPromise l hE hM hσ hO (x := x)) (lw_V q1455 q1457 qs42 q75 q1458) (by decide +kernel) ⟨⟨Nat.le_of_ble_eq_true rfl, Nat.le_of_ble_eq_true rfl⟩, Nat.le_of_ble_eq_true rfl, Nat.le_of_ble_eq_true rfl⟩ (ps_mrc X hM) hS hl.1 (As := [.int (x)]) (rest := []) (n := 1) rfl rfl (Nat.le_of_ble_eq_true rfl) dX4_ask_2 ?_
  refine ps_st (st' := [.int (bI (rng x 0 ((S.2.1 0) 3)))]) rfl ?_
  refine ps_ifeqB (tgt := 18) hx hb dX4_ask_5 (by decide) (fun c_5 => ?_) (fun c_5 => ?_)
  · skip
    refine lv_ldc (v := -1000001) hx hb ho (hts _ q1375) dX4_ask_18 ?_
    exact ps_iretG X hS (Nat.le_of_ble_eq_true rfl) (Nat.le_of_ble_eq_true rfl) dX4_ask_20 (ps_mend (S := S) (by simp [op_ask, c_5]) hM (hs) ps_Mf.rf)
  · skip
    obtain ⟨k, rfl, k_lo, k_hi, k_b⟩ := rng_t c_5
    have cl_k : (nI k).toNatClampNeg = k := nI_clamp (by omega)
    refine lv_iload_n hx hb dX4_ask_8 rfl (lv_at hl 2 rfl) ?_
    refine lv_i2l (v := (y).toInt64) hx hb dX4_ask_9 rfl ?_
    refine lv_lconst (v := lN 0) hx hb dX4_ask_10 rfl ?_
    refine lv_lconst (v := lN 1) hx hb dX4_ask_11 rfl ?_
    refine ps_roS X hE (m_X4_in l hE (H := H) (x := y) (lo := 0) (hi := 2) (lN_toInt (by decide)) (ps_hcN 1 (by decide))) (lw_S q1371 q1372 q75 q1373) (by decide +kernel) ⟨⟨Nat.le_of_ble_eq_true rfl, Nat.le_of_ble_eq_true rfl⟩, Nat.le_of_ble_eq_true rfl, Nat.le_of_ble_eq_true rfl⟩ hS hl.1 (As := [.long ((y).toInt64), .long (lN 0), .long (lN 1)]) (rest := []) (n := 3) rfl rfl (Nat.le_of_ble_eq_true rfl) dX4_ask_12 ?_
    refine ps_st (st' := [.int (bI (rng y 0 2))]) rfl ?_
    refine ps_ifneB (tgt := 21) hx hb dX4_ask_15 (by decide) (fun c_15 => ?_) (fun c_15 => ?_)
    · skip
      obtain ⟨j, rfl, j_lo, j_hi, j_b⟩ := rng_t c_15
      have cl_j : (nI j).toNatClampNeg = j := nI_clamp (by omega)
      refine lv_aload_n hx hb dX4_ask_21 rfl (lv_at hl 0 rfl) ?_
      refine lv_iconst (v := nI 0) hx hb dX4_ask_22 rfl ?_
      refine ps_mput X hM 23 (by decide) q1312 rfl rfl rfl rfl hS dX4_ask_23 (fun H1 locs2 hM3 hf4 hS5 => ?_)
      have hT0 : (va_up F 23 (nI 0)) 23 = nI ([] : List Nat).length ∧ ∀ i, i < ([] : List Nat).length → A 12 i = nI (([] : List Nat).getD i 0) := ⟨rfl, fun i hi => absurd hi (Nat.not_lt_zero _)⟩
      refine lv_iload_n hx hb dX4_ask_26 rfl (lv_at hl 2 rfl) ?_
      refine ps_ifne (tgt := 38) hx hb dX4_ask_27 (by decide) (by omega) (fun c_27 => ?_) (fun c_27 => ?_)
      · skip
        refine lv_aload_n hx hb dX4_ask_38 rfl (lv_at hl 0 rfl) ?_
        refine lv_iload_n hx hb dX4_ask_39 rfl (lv_at hl 1 rfl) ?_
        refine ps_geV X hE (m_X4_markOf l hE hM3 hσ hO (L := ([] : List Nat)) hT0 (by first | omega | (simp only [List.length_append, List.length_cons, List.length_nil]; omega)) (k := k) (by omega)) (lw_V q1648 q1650 qs63 q75 q1651) (by decide +kernel) ⟨⟨Nat.le_of_ble_eq_true rfl, Nat.le_of_ble_eq_true rfl⟩, Nat.le_of_ble_eq_true rfl, Nat.le_of_ble_eq_true rfl⟩ (ps_mrc X hM3) hS5 hl.1 (As := [.int (nI k)]) (rest := []) (n := 1) rfl rfl (Nat.le_of_ble_eq_true rfl) dX4_ask_40 (fun v10 H6 locs7 hp8 hS9 => ?_)
        obtain ⟨hv15, x11, g12, hM13, hf14, ht16⟩ := hp8
        subst hv15
        rw [bx_uu] at hM13
        refine ps_st (st' := [.int (sp_mS (S.2.1 0) k)]) rfl ?_
        exact ps_iretG X hS9 (Nat.le_of_ble_eq_true rfl) (Nat.le_of_ble_eq_true rfl) dX4_ask_43 (ps_mend (S := (sTr S (([] : List Nat) ++ sp_mL (S.2.1 0) k))) (by simp [op_ask, c_5, cl_k, c_15, cl_j, c_27]) hM13 (⟨⟨hs.1.1, hs.1.2.1, hs.1.2.2.1, hs.1.2.2.2.1, ht16.1, hs.1.2.2.2.2.2⟩, hs.2.1, hs.2.2.1, hs.2.2.2.1, hs.2.2.2.2.1, hs.2.2.2.2.2.1, sm_t8 (j := 2) (hs.2.2.2.2.2.2.1) (by decide), hs.2.2.2.2.2.2.2.1, sm_t11 (j := 2) (hs.2.2.2.2.2.2.2.2.1) (by decide), ht16.2⟩) (hf4.tr hf14))
      · skip
        refine lv_aload_n hx hb dX4_ask_30 rfl (lv_at hl 0 rfl) ?_
        refine lv_iload_n hx hb dX4_ask_31 rfl (lv_at hl 1 rfl) ?_
        refine ps_geV X hE (m_X4_sizeOf l hE hM3 hσ hO (L := ([] : List Nat)) hT0 (by first | omega | (simp only [List.length_append, List.length_cons, List.length_nil]; omega)) (k := k) (by omega)) (lw_V q1632 q1634 qs59 q75 q1635) (by decide +kernel) ⟨⟨Nat.le_of_ble_eq_true rfl, Nat.le_of_ble_eq_true rfl⟩, Nat.le_of_ble_eq_true rfl, Nat.le_of_ble_eq_true rfl⟩ (ps_mrc X hM3) hS5 hl.1 (As := [.int (nI k)]) (rest := []) (n := 1) rfl rfl (Nat.le_of_ble_eq_true rfl) dX4_ask_32 (fun v21 H17 locs18 hp19 hS20 => ?_)
        obtain ⟨hv26, x22, g23, hM24, hf25, ht27⟩ := hp19
        subst hv26
        rw [bx_uu] at hM24
        refine ps_st (st' := [.int (sp_sS (S.2.1 0) k)]) rfl ?_
        refine lv_goto (tgt := 43) hx hb dX4_ask_35 (by decide) ?_
        exact ps_iretG X hS20 (Nat.le_of_ble_eq_true rfl) (Nat.le_of_ble_eq_true rfl) dX4_ask_43 (ps_mend (S := (sTr S (([] : List Nat) ++ sp_sL (S.2.1 0) k))) (by subst c_27; simp [op_ask, c_5, cl_k, c_15, cl_j]) hM24 (⟨⟨hs.1.1, hs.1.2.1, hs.1.2.2.1, hs.1.2.2.2.1, ht27.1, hs.1.2.2.2.2.2⟩, hs.2.1, hs.2.2.1, hs.2.2.2.1, hs.2.2.2.2.1, hs.2.2.2.2.2.1, sm_t8 (j := 2) (hs.2.2.2.2.2.2.1) (by decide), hs.2.2.2.2.2.2.2.1, sm_t11 (j := 2) (hs.2.2.2.2.2.2.2.2.1) (by decide), ht27.2⟩) (hf4.tr hf25))
    · skip
      refine lv_ldc (v := -1000001) hx hb ho (hts _ q1375) dX4_ask_18 ?_
      exact ps_iretG X hS (Nat.le_of_ble_eq_true rfl) (Nat.le_of_ble_eq_true rfl) dX4_ask_20 (ps_mend (S := S) (by simp [op_ask, c_5, cl_k, c_15]) hM (hs) ps_Mf.rf)

set_option maxHeartbeats 4000000 in
theorem m_X4_count (l : Launch) {E : ps_E} (hE : ps_ZT E) {H : Heap} {o : Nat} {F : Nat → Int32} {A : Nat → Nat → Int32} (hM : ps_Mo E H o F A) {S : SS} (hs : sm F A S) (hW : wf S) {x : Int32} : ps_Ro l E yX4_count cX4_count 4 (some .int) 6 124 [.ref (o), .int (x)] H (some (.int (op_count S x))) := by
  refine ps_Ro.of (by decide) (Nat.le_of_ble_eq_true rfl) ?_
  intro p e s m args below meth c X ls hl
  have hx := X.1
  have hb := X.2.1
  have ho := X.2.2.2.1
  have hts := X.2.2.2.2.1
  have hS : va_S (ps_A E) s.heap H [] := by rw [X.2.2.2.2.2.2.2.2.1]; exact va_S.rf
  have hl : lv_has ls 4 [(0, .ref (o)), (1, .int (x))] := hl
  have hσ := hs.2.2.2.2.1
  have hO := hW.1
  have hm := hO.m
  have hn := hW.n
  refine lv_iconst (v := nI 0) hx hb dX4_count_0 rfl ?_
  refine lv_istore_n (lv' := [(2, .int (nI 0)), (0, .ref (o)), (1, .int (x))]) hx hb dX4_count_1 rfl hl (by decide) rfl (fun ls hl => ?_)
  refine lv_iconst (v := nI 0) hx hb dX4_count_2 rfl ?_
  refine lv_istore_n (lv' := [(3, .int (nI 0)), (2, .int (nI 0)), (0, .ref (o)), (1, .int (x))]) hx hb dX4_count_3 rfl hl (by decide) rfl (fun ls hl => ?_)
  have L4 : ∀ (n : Nat) (i : Nat) (hi : i ≤ 8) (hmu : 8 - i < n) (ls : Array Slot) (hl : lv_has ls 4 [(3, .int (nI i)), (2, .int (nI (sumR (fun r => if S.2.1 4 r = 0 then 0 else 1) 0 i))), (0, .ref (o)), (1, .int (x))]), W p l e ({ frames := 6, cells := 0, slots := 0, locals := 124 } : Room) s m args below meth c H [] 0 0 (MQ below (ps_ro (some (.int (op_count S x)))) args s 0 0 (fun _ => False)) (F0 m 4 ls []) := by
    intro n
    induction n with
    | zero => intro i hi hmu; exact absurd hmu (Nat.not_lt_zero _)
    | succ n ih4 =>
      intro i hi hmu ls hl
      refine lv_iload_n hx hb dX4_count_4 rfl (lv_at hl 0 rfl) ?_
      refine lv_bipush (v := nI 8) hx hb dX4_count_5 rfl ?_
      refine ps_cge (tgt := 33) hx hb dX4_count_7 (by decide) (by omega) (fun c_7 => ?_) (fun c_7 => ?_)
      · skip
        have ei : i = 8 := by omega
        subst ei
        refine lv_iload_n hx hb dX4_count_33 rfl (lv_at hl 3 rfl) ?_
        rcases Bool.eq_false_or_eq_true (rng x 0 9) with c_34 | c_34
        · skip
          obtain ⟨j1, rfl, j1_lo, j1_hi, j1_b⟩ := rng_t c_34
          have cl_j1 : (nI j1).toNatClampNeg = j1 := nI_clamp (by omega)
          by_cases e_0 : j1 = 0
          · subst e_0
            refine lv_tableIn (off := 50) (tgt := 84) hx hb dX4_count_34 (by decide) (by decide) (by decide) (by decide) ?_
            refine lv_iload_n hx hb dX4_count_84 rfl (lv_at hl 1 rfl) ?_
            exact ps_iretR X dX4_count_85 (congrArg (fun z => some (Value.int z)) (by simp [op_count, sp_rows, c_7, c_34, cl_j1]))
          by_cases e_1 : j1 = 1
          · subst e_1
            refine lv_tableIn (off := 52) (tgt := 86) hx hb dX4_count_34 (by decide) (by decide) (by decide) (by decide) ?_
            refine lv_aload_n hx hb dX4_count_86 rfl (lv_at hl 2 rfl) ?_
            refine ps_mget (v := .ref (o + 4)) X hM 5 (by decide) q1294 rfl rfl dX4_count_87 ?_
            refine lv_iconst (v := nI 3) hx hb dX4_count_90 rfl ?_
            refine ps_mld (j := 3) (v := nI ((S.2.1 0) 3)) X hM 4 (by decide) rfl (by show 3 < 57; omega) (hσ _ (by show 3 < 57; omega)) dX4_count_91 ?_
            exact ps_iretR X dX4_count_92 (congrArg (fun z => some (Value.int z)) (by simp [op_count, sp_rows, c_7, c_34, cl_j1]))
          by_cases e_2 : j1 = 2
          · subst e_2
            refine lv_tableIn (off := 59) (tgt := 93) hx hb dX4_count_34 (by decide) (by decide) (by decide) (by decide) ?_
            refine lv_aload_n hx hb dX4_count_93 rfl (lv_at hl 2 rfl) ?_
            refine ps_mget (v := .ref (o + 4)) X hM 5 (by decide) q1294 rfl rfl dX4_count_94 ?_
            refine lv_iconst (v := nI 2) hx hb dX4_count_97 rfl ?_
            refine ps_mld (j := 2) (v := nI ((S.2.1 0) 2)) X hM 4 (by decide) rfl (by show 2 < 57; omega) (hσ _ (by show 2 < 57; omega)) dX4_count_98 ?_
            exact ps_iretR X dX4_count_99 (congrArg (fun z => some (Value.int z)) (by simp [op_count, sp_rows, c_7, c_34, cl_j1]))
          by_cases e_3 : j1 = 3
          · subst e_3
            refine lv_tableIn (off := 66) (tgt := 100) hx hb dX4_count_34 (by decide) (by decide) (by decide) (by decide) ?_
            refine lv_aload_n hx hb dX4_count_100 rfl (lv_at hl 2 rfl) ?_
            refine ps_mget (v := .ref (o + 4)) X hM 5 (by decide) q1294 rfl rfl dX4_count_101 ?_
            refine lv_iconst (v := nI 4) hx hb dX4_count_104 rfl ?_
            refine ps_mld (j := 4) (v := nI ((S.2.1 0) 4)) X hM 4 (by decide) rfl (by show 4 < 57; omega) (hσ _ (by show 4 < 57; omega)) dX4_count_105 ?_
            exact ps_iretR X dX4_count_106 (congrArg (fun z => some (Value.int z)) (by simp [op_count, sp_rows, c_7, c_34, cl_j1]))
          by_cases e_4 : j1 = 4
          · subst e_4
            refine lv_tableIn (off := 73) (tgt := 107) hx hb dX4_count_34 (by decide) (by decide) (by decide) (by decide) ?_
            refine lv_aload_n hx hb dX4_count_107 rfl (lv_at hl 2 rfl) ?_
            refine ps_mget (v := .int (F 4)) X hM 4 (by decide) q1293 rfl rfl dX4_count_108 ?_
            refine ps_top (y := bI (decide (1 ≤ (S.2.1 0) 1))) (hs.1.2.2.2.2.2) ?_
            refine ps_ifeqB (tgt := 127) hx hb dX4_count_111 (by decide) (fun c_111 => ?_) (fun c_111 => ?_)
            · skip
              have h1 : ¬ 1 ≤ (S.2.1 0) 1 := of_decide_eq_false c_111
              have h1' : (S.2.1 0) 1 = 0 := by omega
              refine lv_iconst (v := nI 0) hx hb dX4_count_127 rfl ?_
              exact ps_iretR X dX4_count_128 (congrArg (fun z => some (Value.int z)) (by simp [op_count, sp_rows, c_7, c_34, cl_j1, h1']))
            · skip
              have h1 : 1 ≤ (S.2.1 0) 1 := of_decide_eq_true c_111
              have h1' : ¬ (S.2.1 0) 1 = 0 := by omega
              refine lv_aload_n hx hb dX4_count_114 rfl (lv_at hl 2 rfl) ?_
              refine lv_aload_n hx hb dX4_count_115 rfl (lv_at hl 2 rfl) ?_
              refine ps_mget (v := .ref (o + 4)) X hM 5 (by decide) q1294 rfl rfl dX4_count_116 ?_
              refine lv_iconst (v := nI 4) hx hb dX4_count_119 rfl ?_
              refine ps_mld (j := 4) (v := nI ((S.2.1 0) 4)) X hM 4 (by decide) rfl (by show 4 < 57; omega) (hσ _ (by show 4 < 57; omega)) dX4_count_120 ?_
              refine ps_roV X hE (m_X4_readOf l hE hM hσ hO (u := (S.2.1 0) 4) (by omega) (by first | omega | exact h1)) (lw_V q1468 q1470 qs45 q75 q1471) (by decide +kernel) ⟨⟨Nat.le_of_ble_eq_true rfl, Nat.le_of_ble_eq_true rfl⟩, Nat.le_of_ble_eq_true rfl, Nat.le_of_ble_eq_true rfl⟩ (ps_mrc X hM) hS hl.1 (As := [.int (nI ((S.2.1 0) 4))]) (rest := []) (n := 1) rfl rfl (Nat.le_of_ble_eq_true rfl) dX4_count_121 ?_
              refine ps_st (st' := [.int (nI (sp_read (S.2.1 0) ((S.2.1 0) 4)))]) rfl ?_
              refine lv_goto (tgt := 128) hx hb dX4_count_124 (by decide) ?_
              exact ps_iretR X dX4_count_128 (congrArg (fun z => some (Value.int z)) (by simp [op_count, sp_rows, c_7, c_34, cl_j1, h1, h1']))
          by_cases e_5 : j1 = 5
          · subst e_5
            refine lv_tableIn (off := 95) (tgt := 129) hx hb dX4_count_34 (by decide) (by decide) (by decide) (by decide) ?_
            refine lv_aload_n hx hb dX4_count_129 rfl (lv_at hl 2 rfl) ?_
            refine ps_mget (v := .ref (o + 4)) X hM 5 (by decide) q1294 rfl rfl dX4_count_130 ?_
            refine lv_iconst (v := nI 0) hx hb dX4_count_133 rfl ?_
            refine ps_mld (j := 0) (v := nI ((S.2.1 0) 0)) X hM 4 (by decide) rfl (by show 0 < 57; omega) (hσ _ (by show 0 < 57; omega)) dX4_count_134 ?_
            exact ps_iretR X dX4_count_135 (congrArg (fun z => some (Value.int z)) (by simp [op_count, sp_rows, c_7, c_34, cl_j1]))
          by_cases e_6 : j1 = 6
          · subst e_6
            refine lv_tableIn (off := 102) (tgt := 136) hx hb dX4_count_34 (by decide) (by decide) (by decide) (by decide) ?_
            refine lv_aload_n hx hb dX4_count_136 rfl (lv_at hl 2 rfl) ?_
            refine ps_mget (v := .ref (o + 4)) X hM 5 (by decide) q1294 rfl rfl dX4_count_137 ?_
            refine lv_iconst (v := nI 1) hx hb dX4_count_140 rfl ?_
            refine ps_mld (j := 1) (v := nI ((S.2.1 0) 1)) X hM 4 (by decide) rfl (by show 1 < 57; omega) (hσ _ (by show 1 < 57; omega)) dX4_count_141 ?_
            exact ps_iretR X dX4_count_142 (congrArg (fun z => some (Value.int z)) (by simp [op_count, sp_rows, c_7, c_34, cl_j1]))
          by_cases e_7 : j1 = 7
          · subst e_7
            refine lv_tableIn (off := 109) (tgt := 143) hx hb dX4_count_34 (by decide) (by decide) (by decide) (by decide) ?_
            refine lv_aload_n hx hb dX4_count_143 rfl (lv_at hl 2 rfl) ?_
            refine ps_mget (v := .int (F 17)) X hM 17 (by decide) q1306 rfl rfl dX4_count_144 ?_
            refine ps_top (y := nI (S.1 3)) (hs.1.2.2.2.1) ?_
            exact ps_iretR X dX4_count_147 (congrArg (fun z => some (Value.int z)) (by simp [op_count, sp_rows, c_7, c_34, cl_j1]))
          obtain rfl : j1 = 8 := by omega
          refine lv_tableIn (off := 114) (tgt := 148) hx hb dX4_count_34 (by decide) (by decide) (by decide) (by decide) ?_
          refine lv_aload_n hx hb dX4_count_148 rfl (lv_at hl 2 rfl) ?_
          refine ps_mget (v := .int (F 8)) X hM 8 (by decide) q1297 rfl rfl dX4_count_149 ?_
          refine ps_top (y := nI (S.1 2)) (hs.1.2.2.1) ?_
          exact ps_iretR X dX4_count_152 (congrArg (fun z => some (Value.int z)) (by simp [op_count, sp_rows, c_7, c_34, cl_j1]))
        · skip
          refine lv_tableOut (tgt := 153) hx hb dX4_count_34 (ps_rng_out c_34) (by decide) ?_
          refine lv_ldc (v := -1000001) hx hb ho (hts _ q1375) dX4_count_153 ?_
          exact ps_iretR X dX4_count_155 (congrArg (fun z => some (Value.int z)) (by simp [op_count, sp_rows, c_7, c_34]))
      · skip
        have hr := hW.r (r := i) (by omega)
        refine lv_iload_n hx hb dX4_count_10 rfl (lv_at hl 1 rfl) ?_
        have J25 : W p l e ({ frames := 6, cells := 0, slots := 0, locals := 124 } : Room) s m args below meth c H [] 0 0 (MQ below (ps_ro (some (.int (op_count S x)))) args s 0 0 (fun _ => False)) (F0 m 25 ls [.int (nI (if S.2.1 4 i = 0 then 0 else 1)), .int (nI (sumR (fun r => if S.2.1 4 r = 0 then 0 else 1) 0 i))]) := by
          refine ps_iadd hx hb dX4_count_25 ?_
          refine lv_istore_n (lv' := [(2, .int (nI ((sumR (fun r => if S.2.1 4 r = 0 then 0 else 1) 0 i) + (if S.2.1 4 i = 0 then 0 else 1)))), (3, .int (nI i)), (0, .ref (o)), (1, .int (x))]) hx hb dX4_count_26 rfl hl (by decide) rfl (fun ls hl => ?_)
          refine lv_iinc (v := nI (i + 1)) (lv' := [(3, .int (nI (i + 1))), (2, .int (nI ((sumR (fun r => if S.2.1 4 r = 0 then 0 else 1) 0 i) + (if S.2.1 4 i = 0 then 0 else 1)))), (0, .ref (o)), (1, .int (x))]) hx hb dX4_count_27 hl (k := 1) rfl (ps_inc _) (by decide) rfl (fun ls hl => ?_)
          refine lv_goto (tgt := 4) hx hb dX4_count_30 (by decide) ?_
          have e2 : (nI ((sumR (fun r => if S.2.1 4 r = 0 then 0 else 1) 0 i) + (if S.2.1 4 i = 0 then 0 else 1)) : Int32) = nI (sumR (fun r => if S.2.1 4 r = 0 then 0 else 1) 0 (i + 1)) := congrArg nI (by simp [sumR])
          have hl : lv_has ls 4 [(3, .int (nI (i + 1))), (2, .int (nI (sumR (fun r => if S.2.1 4 r = 0 then 0 else 1) 0 (i + 1)))), (0, .ref (o)), (1, .int (x))] := ps_lv (l1 := [(3, .int (nI (i + 1))), (2, .int (nI ((sumR (fun r => if S.2.1 4 r = 0 then 0 else 1) 0 i) + (if S.2.1 4 i = 0 then 0 else 1)))), (0, .ref (o)), (1, .int (x))]) (lv_sub hl [0, 1, 2, 3] rfl) (by rw [e2])
          exact ih4  (i + 1) (by omega) (by omega) ls (hl)
        refine lv_aload_n hx hb dX4_count_11 rfl (lv_at hl 2 rfl) ?_
        refine ps_mget (v := .ref (o + 2)) X hM 1 (by decide) q1290 rfl rfl dX4_count_12 ?_
        refine lv_iload_n hx hb dX4_count_15 rfl (lv_at hl 0 rfl) ?_
        refine ps_mld (j := i) (v := nI (S.2.1 4 i) - nI 1) X hM 2 (by decide) rfl (by show i < 8; omega) (hs.2.2.1 _ (by omega)) dX4_count_16 ?_
        refine ps_ifpl (tgt := 24) hx hb dX4_count_17 (by decide) (by omega) (fun c_17 => ?_) (fun c_17 => ?_)
        · skip
          refine lv_iconst (v := nI 0) hx hb dX4_count_24 rfl ?_
          exact ps_top (congrArg nI (by simp [c_17])) J25
        · skip
          refine lv_iconst (v := nI 1) hx hb dX4_count_20 rfl ?_
          refine lv_goto (tgt := 25) hx hb dX4_count_21 (by decide) ?_
          exact ps_top (congrArg nI (by simp [Nat.ne_of_gt c_17])) J25
  have hl : lv_has ls 4 [(3, .int (nI 0)), (2, .int (nI (sumR (fun r => if S.2.1 4 r = 0 then 0 else 1) 0 0))), (0, .ref (o)), (1, .int (x))] := lv_sub hl [0, 1, 2, 3] rfl
  exact L4 ((8 - 0) + 1) 0 (by omega) (Nat.lt_succ_self _) ls (hl)
