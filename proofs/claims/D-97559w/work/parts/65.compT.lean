/-! rows made (printed by gen/comp20.py) -/
set_option maxRecDepth 100000
set_option maxHeartbeats 4000000 in
theorem m_X0_newLane (l : Launch) {E : ps_E} (hE : ps_ZT E) {z : Nat} (hZ : ps_Zk E z) {Γ : ps_Gh} {H : Heap} (hW : ps_W E Γ H) (hX : ps_Zx E) (hLT : l.stackTraces = false) (hA : ps_A E H.size) {k : Nat} (hk : k ≤ 2) {n : Int32} (hn : n ≤ nI 40) : ps_Gx l E yX0_newLane cX0_newLane 2 (some (.object "java/lang/Object")) 8 10260 3 54 [.int (nI k), .int (n)] H (fun v H1 => v = some (.ref H.size) ∧ H1.size = H.size + 1 ∧ ∃ j Γ1, (n = nI j ∧ j ≤ 40) ∧ ps_W E Γ1 H1 ∧ ps_gf Γ H Γ1 H1 ∧ Γ1 H.size = some (.inl (E.2.1 (ps_la k), j, .inl fun _ => 0)) ∧ ∀ q, q ≠ H.size → Γ1 q = Γ q) (fun N H1 => (n < 0 ∧ N = ps_nG) ∧ ps_W E Γ H1 ∧ ps_gf Γ H Γ H1) := by
  refine ps_Gx.of (by decide) (Nat.le_of_ble_eq_true rfl) ?_
  intro p e s m args below meth c X ht ls hl
  have hx := X.1
  have hb := X.2.1
  have ho := X.2.2.2.1
  have hts := X.2.2.2.2.1
  have hS : va_S (ps_A E) s.heap H [] := by rw [X.2.2.2.2.2.2.2.2.1]; exact va_S.rf
  have hl : lv_has ls 2 [(0, .int (nI k)), (1, .int (n))] := hl
  obtain rfl | rfl | rfl : k = 0 ∨ k = 1 ∨ k = 2 := by omega
  · skip
    refine lv_iload_n hx hb dX0_newLane_0 rfl (lv_at hl 0 rfl) ?_
    refine lv_if_ne (tgt := 10) hx hb dX0_newLane_1 (by decide) (fun c_ => absurd c_ (by decide)) (fun _ => ?_)
    refine lv_iload_n hx hb dX0_newLane_4 rfl (lv_at hl 1 rfl) ?_
    rcases ps_nlen hn with ⟨j, rfl, hj1⟩ | hn2
    · skip
      refine ps_newP (atype := .byte) (t := 1) (ty := .byte) (n := j) X q160 rfl rfl rfl (fun U cA h => h) rfl (by show j * 1 ≤ 536870912; omega) (by omega) ⟨(by (try dsimp only) <;> omega), (by (try dsimp only) <;> omega)⟩ hS dX0_newLane_5 (fun H3 ha4 hz5 hq6 hS7 => ?_)
      obtain ⟨Γ8, hW9, hg10, ho11⟩ := hW.new1 hA ha4 hq6
      refine ps_wd (c2 := 1) (s2 := 40) (by omega) (by omega) ?_
      refine lv_goto (tgt := 24) hx hb dX0_newLane_7 (by decide) ?_
      refine vx_ret ?_
      exact ps_aretG X (Or.inl ⟨_, rfl⟩) (Or.inr ⟨_, rfl⟩) hS7 (Nat.le_of_ble_eq_true rfl) (Nat.le_of_ble_eq_true rfl) dX0_newLane_24 (⟨rfl, by omega, j, Γ8, ⟨rfl, hj1⟩, hW9, (ps_gf.rf.new hz5 hq6 ho11), hg10, ho11⟩)
    · skip
      refine ps_newZ X hZ hX hLT hn2 hS hl.1 ⟨⟨Nat.le_of_ble_eq_true rfl, Nat.le_of_ble_eq_true rfl⟩, Nat.le_of_ble_eq_true rfl, Nat.le_of_ble_eq_true rfl⟩ (Nat.le_of_ble_eq_true rfl) dX0_newLane_5 (fun H12 q13 ce14 hz15 hk16 hS17 hce18 hcv19 hcl20 => ?_)
      obtain ⟨hW21, hgf22⟩ := hW.thrown hz15 hk16
      exact ps_out X ht hS17 hce18 hcv19 hcl20 (⟨⟨hn2, rfl⟩, hW21, (ps_gf.rf.tr hgf22)⟩) (Nat.le_of_ble_eq_true rfl) (Nat.le_of_ble_eq_true rfl)
  · skip
    refine lv_iload_n hx hb dX0_newLane_0 rfl (lv_at hl 0 rfl) ?_
    refine lv_if_ne (tgt := 10) hx hb dX0_newLane_1 (by decide) (fun _ => ?_) (fun c_ => absurd c_ (by decide))
    refine lv_iload_n hx hb dX0_newLane_10 rfl (lv_at hl 0 rfl) ?_
    refine lv_iconst (v := nI 1) hx hb dX0_newLane_11 rfl ?_
    refine lv_icmp_ne (tgt := 21) hx hb dX0_newLane_12 (by decide) (fun c_ => absurd c_ (by decide)) (fun _ => ?_)
    refine lv_iload_n hx hb dX0_newLane_15 rfl (lv_at hl 1 rfl) ?_
    rcases ps_nlen hn with ⟨j, rfl, hj23⟩ | hn24
    · skip
      refine ps_newP (atype := .short) (t := 2) (ty := .short) (n := j) X q357 rfl rfl rfl (fun U cA h => h) rfl (by show j * 2 ≤ 536870912; omega) (by omega) ⟨(by (try dsimp only) <;> omega), (by (try dsimp only) <;> omega)⟩ hS dX0_newLane_16 (fun H25 ha26 hz27 hq28 hS29 => ?_)
      obtain ⟨Γ30, hW31, hg32, ho33⟩ := hW.new1 hA ha26 hq28
      refine ps_wd (c2 := 1) (s2 := 40) (by omega) (by omega) ?_
      refine lv_goto (tgt := 24) hx hb dX0_newLane_18 (by decide) ?_
      refine vx_ret ?_
      exact ps_aretG X (Or.inl ⟨_, rfl⟩) (Or.inr ⟨_, rfl⟩) hS29 (Nat.le_of_ble_eq_true rfl) (Nat.le_of_ble_eq_true rfl) dX0_newLane_24 (⟨rfl, by omega, j, Γ30, ⟨rfl, hj23⟩, hW31, (ps_gf.rf.new hz27 hq28 ho33), hg32, ho33⟩)
    · skip
      refine ps_newZ X hZ hX hLT hn24 hS hl.1 ⟨⟨Nat.le_of_ble_eq_true rfl, Nat.le_of_ble_eq_true rfl⟩, Nat.le_of_ble_eq_true rfl, Nat.le_of_ble_eq_true rfl⟩ (Nat.le_of_ble_eq_true rfl) dX0_newLane_16 (fun H34 q35 ce36 hz37 hk38 hS39 hce40 hcv41 hcl42 => ?_)
      obtain ⟨hW43, hgf44⟩ := hW.thrown hz37 hk38
      exact ps_out X ht hS39 hce40 hcv41 hcl42 (⟨⟨hn24, rfl⟩, hW43, (ps_gf.rf.tr hgf44)⟩) (Nat.le_of_ble_eq_true rfl) (Nat.le_of_ble_eq_true rfl)
  · skip
    refine lv_iload_n hx hb dX0_newLane_0 rfl (lv_at hl 0 rfl) ?_
    refine lv_if_ne (tgt := 10) hx hb dX0_newLane_1 (by decide) (fun _ => ?_) (fun c_ => absurd c_ (by decide))
    refine lv_iload_n hx hb dX0_newLane_10 rfl (lv_at hl 0 rfl) ?_
    refine lv_iconst (v := nI 1) hx hb dX0_newLane_11 rfl ?_
    refine lv_icmp_ne (tgt := 21) hx hb dX0_newLane_12 (by decide) (fun _ => ?_) (fun c_ => absurd c_ (by decide))
    refine lv_iload_n hx hb dX0_newLane_21 rfl (lv_at hl 1 rfl) ?_
    rcases ps_nlen hn with ⟨j, rfl, hj45⟩ | hn46
    · skip
      refine ps_newP (atype := .int) (t := 0) (ty := .int) (n := j) X q161 rfl rfl rfl (fun U cA h => h) rfl (by show j * 4 ≤ 536870912; omega) (by omega) ⟨(by (try dsimp only) <;> omega), (by (try dsimp only) <;> omega)⟩ hS dX0_newLane_22 (fun H47 ha48 hz49 hq50 hS51 => ?_)
      obtain ⟨Γ52, hW53, hg54, ho55⟩ := hW.new1 hA ha48 hq50
      refine ps_wd (c2 := 1) (s2 := 40) (by omega) (by omega) ?_
      refine vx_ret ?_
      exact ps_aretG X (Or.inl ⟨_, rfl⟩) (Or.inr ⟨_, rfl⟩) hS51 (Nat.le_of_ble_eq_true rfl) (Nat.le_of_ble_eq_true rfl) dX0_newLane_24 (⟨rfl, by omega, j, Γ52, ⟨rfl, hj45⟩, hW53, (ps_gf.rf.new hz49 hq50 ho55), hg54, ho55⟩)
    · skip
      refine ps_newZ X hZ hX hLT hn46 hS hl.1 ⟨⟨Nat.le_of_ble_eq_true rfl, Nat.le_of_ble_eq_true rfl⟩, Nat.le_of_ble_eq_true rfl, Nat.le_of_ble_eq_true rfl⟩ (Nat.le_of_ble_eq_true rfl) dX0_newLane_22 (fun H56 q57 ce58 hz59 hk60 hS61 hce62 hcv63 hcl64 => ?_)
      obtain ⟨hW65, hgf66⟩ := hW.thrown hz59 hk60
      exact ps_out X ht hS61 hce62 hcv63 hcl64 (⟨⟨hn46, rfl⟩, hW65, (ps_gf.rf.tr hgf66)⟩) (Nat.le_of_ble_eq_true rfl) (Nat.le_of_ble_eq_true rfl)

set_option maxHeartbeats 4000000 in
theorem m_X0_row (l : Launch) {E : ps_E} (hE : ps_ZT E) {z : Nat} (hZ : ps_Zk E z) {Γ : ps_Gh} {H : Heap} (hW : ps_W E Γ H) {x : Nat} {S : SS} {ow : ps_Ow} (hC : ps_Cx E z Γ ow x S) (hwf : wf S) (hX : ps_Zx E) (hLT : l.stackTraces = false) {v y w1 : Int32} : ps_GW l E yX0_row cX0_row 5 (some .int) [(28, 47, 48, 97)] 9 10281 3 54 [.ref (x), .int (v), .int (y), .int (w1)] H (ps_cpost E z Γ H x (op_row S v y w1)) := by
  refine ps_GW.of (by decide) (Nat.le_of_ble_eq_true rfl) ?_
  intro p e s m args below meth c X ht ls hl
  have hx := X.1
  have hb := X.2.1
  have ho := X.2.2.2.1
  have hts := X.2.2.2.2.1
  have hS : va_S (ps_A E) s.heap H [] := by rw [X.2.2.2.2.2.2.2.2.1]; exact va_S.rf
  have hl : lv_has ls 5 [(0, .ref (x)), (1, .int (v)), (2, .int (y)), (3, .int (w1))] := hl
  have hO := hwf.1
  have hm := hO.m
  have hn := hwf.n
  have hl3 := hwf.2.2.2.2.1
  obtain ⟨tr, sa, τ, hOb, hRw, hTp, hTr, hSx, hSl⟩ := id hC
  have hSo := (hSx.2.2.2.2 0 _ hSx.1.1).2
  rw [hSl.1] at hSo
  obtain ⟨smc, sr, pf, kf, tf, df, hD, hOw, hrr, hpo⟩ := id hSo
  refine lv_iload_n hx hb dX0_row_0 rfl (lv_at hl 1 rfl) ?_
  refine ps_roS X hE (m_X0_isRow l hE (H := H) (x := v)) (lw_S q336 q337 q68 q338) (by decide +kernel) ⟨⟨Nat.le_of_ble_eq_true rfl, Nat.le_of_ble_eq_true rfl⟩, Nat.le_of_ble_eq_true rfl, Nat.le_of_ble_eq_true rfl⟩ hS hl.1 (As := [.int (v)]) (rest := []) (n := 1) rfl rfl (Nat.le_of_ble_eq_true rfl) dX0_row_1 ?_
  refine ps_st (st' := [.int (bI (rng v 0 8))]) rfl ?_
  refine ps_ifeqB (tgt := 25) hx hb dX0_row_4 (by decide) (fun c_4 => ?_) (fun c_4 => ?_)
  · skip
    refine lv_ldc (v := -1000001) hx hb ho (hts _ q344) dX0_row_25 ?_
    exact ps_iretG X hS (Nat.le_of_ble_eq_true rfl) (Nat.le_of_ble_eq_true rfl) dX0_row_27 (ps_cend (S1 := S) (by simp [op_row, c_4]) hW ps_gf.rf hC)
  · skip
    obtain ⟨k, rfl, k_lo, k_hi, k_b⟩ := rng_t c_4
    have cl_k : (nI k).toNatClampNeg = k := nI_clamp (by omega)
    refine lv_iload_n hx hb dX0_row_7 rfl (lv_at hl 2 rfl) ?_
    refine lv_i2l (v := (y).toInt64) hx hb dX0_row_8 rfl ?_
    refine lv_lconst (v := lN 0) hx hb dX0_row_9 rfl ?_
    refine lv_ldc2 (v := 2) hx hb ho (hts _ q343) dX0_row_10 ?_
    refine ps_roS X hE (m_X0_isIn l hE (H := H) (x := y) (lo := 0) (hi := 3) (lN_toInt (by decide)) (ps_hcL (k := 2) (by decide +kernel))) (lw_S q340 q341 q68 q342) (by decide +kernel) ⟨⟨Nat.le_of_ble_eq_true rfl, Nat.le_of_ble_eq_true rfl⟩, Nat.le_of_ble_eq_true rfl, Nat.le_of_ble_eq_true rfl⟩ hS hl.1 (As := [.long ((y).toInt64), .long (lN 0), .long (2)]) (rest := []) (n := 3) rfl rfl (Nat.le_of_ble_eq_true rfl) dX0_row_13 ?_
    refine ps_st (st' := [.int (bI (rng y 0 3))]) rfl ?_
    refine ps_ifeqB (tgt := 25) hx hb dX0_row_16 (by decide) (fun c_16 => ?_) (fun c_16 => ?_)
    · skip
      refine lv_ldc (v := -1000001) hx hb ho (hts _ q344) dX0_row_25 ?_
      exact ps_iretG X hS (Nat.le_of_ble_eq_true rfl) (Nat.le_of_ble_eq_true rfl) dX0_row_27 (ps_cend (S1 := S) (by simp [op_row, c_4, cl_k, c_16]) hW ps_gf.rf hC)
    · skip
      obtain ⟨j, rfl, j_lo, j_hi, j_b⟩ := rng_t c_16
      have cl_j : (nI j).toNatClampNeg = j := nI_clamp (by omega)
      refine lv_iload_n hx hb dX0_row_19 rfl (lv_at hl 3 rfl) ?_
      refine lv_bipush (v := nI 40) hx hb dX0_row_20 rfl ?_
      refine lv_icmp_le (tgt := 28) hx hb dX0_row_22 (by decide) (fun c_22 => ?_) (fun c_22 => ?_)
      · skip
        obtain ⟨hr, hRx⟩ := id hRw
        obtain ⟨dr, hrows, hrowo, hdf⟩ := hRx.1
        refine lv_aload_n hx hb dX0_row_28 rfl (lv_at hl 0 rfl) ?_
        refine ps_get (v := .ref (x + 1)) X in_X0 (ci := 0) rfl 0 (by decide) q211 rfl (hW.at hOb.1) rfl dX0_row_29 ?_
        refine lv_iload_n hx hb dX0_row_32 rfl (lv_at hl 1 rfl) ?_
        refine ps_aald (j := k) (o := some (x + 2 + k)) X (t := 4) rfl (hW.at hrows) rfl (by show k < 8; omega) (by first | decide | omega) (hdf _ (by omega)) dX0_row_33 ?_
        refine lv_iload_n hx hb dX0_row_34 rfl (lv_at hl 2 rfl) ?_
        refine lv_iload_n hx hb dX0_row_35 rfl (lv_at hl 3 rfl) ?_
        refine ps_gxS X hE (m_X0_newLane l hE hZ hW hX hLT (Nat.le_trans (hW.A hOb.1) (Nat.le_of_lt (hW.lt hOb.1))) (k := j) (by omega) (n := w1) c_22) (lw_S q345 q346 q68 q347) (by decide +kernel) ⟨⟨Nat.le_of_ble_eq_true rfl, Nat.le_of_ble_eq_true rfl⟩, Nat.le_of_ble_eq_true rfl, Nat.le_of_ble_eq_true rfl⟩ hS hl.1 (As := [.int (nI j), .int (w1)]) (rest := [.ref (x + 2 + k)]) (n := 2) rfl rfl (Nat.le_of_ble_eq_true rfl) dX0_row_36 ?_ (fun N1 H2 locs3 q4 ce5 hp6 hS7 hce8 hcv9 hcl10 => ?_)
        rotate_left
        · skip
          obtain ⟨hc11, hW12, hgf13⟩ := hp6
          obtain ⟨hneg, rfl⟩ := hc11
          refine ps_catch (name := "java/lang/NegativeArraySizeException") (pre := []) (r := (28, 47, 48, 97)) X hZ hX ht rfl (fun y hy => nomatch hy) (by decide) (by decide) q250 q314 hce8 hcv9 hcl10 ?_
          refine lv_astore (lv' := [(4, .ref (q4)), (0, .ref (x)), (1, .int (nI k)), (2, .int (nI j)), (3, .int (w1))]) hx hb dX0_row_48 hl (by decide) rfl (fun ls hl => ?_)
          refine lv_aload_n hx hb dX0_row_50 rfl (lv_at hl 1 rfl) ?_
          refine lv_iconst (v := nI 4) hx hb dX0_row_51 rfl ?_
          refine ps_geV X hE (m_X0_finds l hE hZ hW12 (N := S.1) hOb.1 (f := 4) (by omega)) (lw_V q352 q354 qs3 q68 q355) (by decide +kernel) ⟨⟨Nat.le_of_ble_eq_true rfl, Nat.le_of_ble_eq_true rfl⟩, Nat.le_of_ble_eq_true rfl, Nat.le_of_ble_eq_true rfl⟩ (ps_rc X (ci := 0) rfl (hW12.at hOb.1)) hS7 hl.1 (As := [.int (nI 4)]) (rest := []) (n := 1) rfl rfl (Nat.le_of_ble_eq_true rfl) dX0_row_52 (fun v18 H14 locs15 hp16 hS17 => ?_)
          obtain ⟨hv24, hz25, Γ19, hW20, hgf21, hg22, ho23⟩ := hp16
          subst hv24
          refine ps_st (st' := [.int (fnd 4)]) rfl ?_
          exact ps_iretG X hS17 (Nat.le_of_ble_eq_true rfl) (Nat.le_of_ble_eq_true rfl) dX0_row_55 (ps_cend (S1 := (sStat S 4)) (by
              have h09 : ¬ (0 : Int32) ≤ w1 := Int32.not_le.mpr hneg
              simp [op_row, c_4, cl_k, c_16, cl_j, c_22, h09]) hW20 ((ps_gf.rf.tr hgf13).tr hgf21) (ps_Cx.stat hOb hRw hTp hTr hSx hSl hg22 ho23))
        intro v30 H26 locs27 hp28 hS29
        obtain ⟨hv34, hz35, jn, Γ31, ⟨e39, hj38⟩, hW32, hgf33, hg36, ho37⟩ := hp28
        subst hv34
        refine ps_st (st' := [.ref (H.size), .ref (x + 2 + k)]) rfl ?_
        refine ps_putN X hZ in_X1 tyX1_ok nmX1 (ci := 1) rfl 0 (by decide) q124 rfl rfl rfl rfl (Nat.le_of_ble_eq_true rfl) (hW32.at ((ho37 _ (Nat.ne_of_lt (hW.lt (hRx.2.1 k (by omega)).1))).trans (hRx.2.1 k (by omega)).1)) (hW32.A ((ho37 _ (Nat.ne_of_lt (hW.lt (hRx.2.1 k (by omega)).1))).trans (hRx.2.1 k (by omega)).1)) hS29 dX0_row_39 (fun H40 locs41 ha42 hz43 hq44 hS45 => ?_)
        obtain ⟨Γ46, hW47, hg48, ho49⟩ := hW32.put1 ((ho37 _ (Nat.ne_of_lt (hW.lt (hRx.2.1 k (by omega)).1))).trans (hRx.2.1 k (by omega)).1) ha42 hq44
        refine lv_aload_n hx hb dX0_row_42 rfl (lv_at hl 0 rfl) ?_
        refine lv_iload_n hx hb dX0_row_43 rfl (lv_at hl 3 rfl) ?_
        refine ps_geV X hE (m_X0_well l hE hZ hW47 (N := S.1) ((ho49 _ (by omega)).trans ((ho37 _ (Nat.ne_of_lt (hW.lt hOb.1))).trans hOb.1)) (u := w1)) (lw_V q348 q350 qs2 q68 q351) (by decide +kernel) ⟨⟨Nat.le_of_ble_eq_true rfl, Nat.le_of_ble_eq_true rfl⟩, Nat.le_of_ble_eq_true rfl, Nat.le_of_ble_eq_true rfl⟩ (ps_rc X (ci := 0) rfl (hW47.at ((ho49 _ (by omega)).trans ((ho37 _ (Nat.ne_of_lt (hW.lt hOb.1))).trans hOb.1)))) hS45 hl.1 (As := [.int (w1)]) (rest := []) (n := 1) rfl rfl (Nat.le_of_ble_eq_true rfl) dX0_row_44 (fun v54 H50 locs51 hp52 hS53 => ?_)
        obtain ⟨hv60, hz61, Γ55, hW56, hgf57, hg58, ho59⟩ := hp52
        subst hv60
        refine ps_st (st' := [.int (w1)]) rfl ?_
        have hlt : ∀ q ee, Γ q = some ee → q < H.size := fun q ee h => hW.lt h
        have hfr : ∀ q, q < H.size → q ≠ x → q ≠ x + 2 + k → Γ55 q = Γ q := fun q a1 a2 a3 => (ho59 q a2).trans ((ho49 q a3).trans (ho37 q (Nat.ne_of_lt a1)))
        have hgs := (ho59 (x + 2 + k) (by omega)).trans hg48
        have hsh := hW.lt (hRx.2.1 k (by omega)).1
        have hxl := hW.lt hOb.1
        have hga := (ho59 H.size (by omega)).trans ((ho49 H.size (by omega)).trans hg36)
        have hRx9 := hRx.new (k := j) (j := jn) hW (r := k) (by omega) hj38 (fun r2 h2 => (hl3 r2 h2).2) ⟨_, hOb.1⟩ hgs hga hfr
        have hsp9 : ps_sp (fun w => w = 1 ∨ w = 2) Γ ow Γ55 (va_up ow H.size 2) := ps_rsp hW hOb.2 (hRx.2.1 k (by omega)).2 ⟨_, hg58⟩ ⟨_, hgs⟩ hfr
        exact ps_iretG X hS53 (Nat.le_of_ble_eq_true rfl) (Nat.le_of_ble_eq_true rfl) dX0_row_47 (ps_cend (S1 := (va_up S.1 0 0, (va_up (va_up S.2.1 3 (va_up (S.2.1 3) k j)) 4 (va_up (S.2.1 4) k (jn + 1))), fun q => if 40 * k ≤ q ∧ q < 40 * k + 40 then 0 else S.2.2 q)) (by
            subst e39
            have cl9 : (nI jn).toNatClampNeg = jn := nI_clamp (by omega)
            have h09 : (0 : Int32) ≤ nI jn := (ps_nle (a := 0) (b := jn) (by omega) (by omega)).mpr (Nat.zero_le _)
            simp [op_row, c_4, cl_k, c_16, cl_j, c_22, cl9, h09]) hW56 (((ps_gf.rf.tr hgf33).put ((ho37 _ (Nat.ne_of_lt (hW.lt (hRx.2.1 k (by omega)).1))).trans (hRx.2.1 k (by omega)).1) hz43 hq44 ho49).tr hgf57) (ps_Cx.rows hTp hTr hSx hSl hsp9 ⟨hg58, hsp9.o hOb.1 hOb.2⟩ ⟨_, hRx9⟩ rfl rfl (fun q a1 a2 => by rw [va_up_ne _ _ a2, va_up_ne _ _ a1])))
      · skip
        refine lv_ldc (v := -1000001) hx hb ho (hts _ q344) dX0_row_25 ?_
        exact ps_iretG X hS (Nat.le_of_ble_eq_true rfl) (Nat.le_of_ble_eq_true rfl) dX0_row_27 (ps_cend (S1 := S) (by simp [op_row, c_4, cl_k, c_16, cl_j, c_22]) hW ps_gf.rf hC)
