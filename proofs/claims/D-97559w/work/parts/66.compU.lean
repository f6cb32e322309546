/-! rows: set and drop (printed by gen/comp21.py) -/
set_option maxRecDepth 100000
set_option maxHeartbeats 4000000 in
theorem m_X0_set (l : Launch) {E : ps_E} (hE : ps_ZT E) {z : Nat} (hZ : ps_Zk E z) {Γ : ps_Gh} {H : Heap} (hW : ps_W E Γ H) {x : Nat} {S : SS} {ow : ps_Ow} (hC : ps_Cx E z Γ ow x S) (hwf : wf S) (hX : ps_Zx E) (hLT : l.stackTraces = false) {v y w1 : Int32} : ps_GW l E yX0_set cX0_set 5 (some .int) [(10, 25, 26, 106), (10, 25, 34, 108)] 10 10303 3 222 [.ref (x), .int (v), .int (y), .int (w1)] H (ps_cpost E z Γ H x (op_set S v y w1)) := by
  refine ps_GW.of (by decide) (Nat.le_of_ble_eq_true rfl) ?_
  intro p e s m args below meth c X ht ls hl
  have hx := X.1
  have hb := X.2.1
  have ho := X.2.2.2.1
  have hts := X.2.2.2.2.1
  have hS : va_S (ps_A E) s.heap H [] := by rw [X.2.2.2.2.2.2.2.2.1]; exact va_S.rf
  have hl : lv_has ls 5 [(0, .ref (x)), (1, .int (v)), (2, .int (y)), (3, .int (w1))] := hl
  have hO := hwf.1
  have hm := hO.m
  have hn := hwf.n
  have hl3 := hwf.2.2.2.2.1
  obtain ⟨tr, sa, τ, hOb, hRw, hTp, hTr, hSx, hSl⟩ := id hC
  have hSo := (hSx.2.2.2.2 0 _ hSx.1.1).2
  rw [hSl.1] at hSo
  obtain ⟨smc, sr, pf, kf, tf, df, hD, hOw, hrr, hpo⟩ := id hSo
  refine lv_iload_n hx hb dX0_set_0 rfl (lv_at hl 1 rfl) ?_
  refine ps_roS X hE (m_X0_isRow l hE (H := H) (x := v)) (lw_S q336 q337 q68 q338) (by decide +kernel) ⟨⟨Nat.le_of_ble_eq_true rfl, Nat.le_of_ble_eq_true rfl⟩, Nat.le_of_ble_eq_true rfl, Nat.le_of_ble_eq_true rfl⟩ hS hl.1 (As := [.int (v)]) (rest := []) (n := 1) rfl rfl (Nat.le_of_ble_eq_true rfl) dX0_set_1 ?_
  refine ps_st (st' := [.int (bI (rng v 0 8))]) rfl ?_
  refine ps_ifneB (tgt := 10) hx hb dX0_set_4 (by decide) (fun c_4 => ?_) (fun c_4 => ?_)
  · skip
    obtain ⟨k, rfl, k_lo, k_hi, k_b⟩ := rng_t c_4
    have cl_k : (nI k).toNatClampNeg = k := nI_clamp (by omega)
    obtain ⟨hr, hRx⟩ := id hRw
    obtain ⟨dr, hrows, hrowo, hdf⟩ := hRx.1
    obtain ⟨rf, hq, hqf⟩ := hRx.q (r := k) k_hi (hl3 k k_hi).1 (hl3 k k_hi).2
    refine lv_aload_n hx hb dX0_set_10 rfl (lv_at hl 0 rfl) ?_
    refine lv_aload_n hx hb dX0_set_11 rfl (lv_at hl 0 rfl) ?_
    refine ps_get (v := .ref (x + 1)) X in_X0 (ci := 0) rfl 0 (by decide) q211 rfl (hW.at hOb.1) rfl dX0_set_12 ?_
    refine lv_iload_n hx hb dX0_set_15 rfl (lv_at hl 1 rfl) ?_
    refine ps_aald (j := k) (o := some (x + 2 + k)) X (t := 4) rfl (hW.at hrows) rfl (by show k < 8; omega) (by first | decide | omega) (hdf _ (by omega)) dX0_set_16 ?_
    refine lv_iload_n hx hb dX0_set_17 rfl (lv_at hl 2 rfl) ?_
    refine lv_iload_n hx hb dX0_set_18 rfl (lv_at hl 3 rfl) ?_
    refine ps_gxVN (host := "PromiseScales") X hE (m_X1_put l hE hZ hW hX hLT (i := y) (x := w1) hq) (lw_meth q409) hZ q406 q69 q408 qs4 (by decide +kernel) ⟨⟨Nat.le_of_ble_eq_true rfl, Nat.le_of_ble_eq_true rfl⟩, Nat.le_of_ble_eq_true rfl, Nat.le_of_ble_eq_true rfl⟩ (ps_rc X (ci := 1) rfl (hW.at (hRx.2.1 k (by omega)).1)) hS hl.1 (As := [.int (y), .int (w1)]) (rest := [.ref (x)]) (n := 2) rfl rfl (Nat.le_of_ble_eq_true rfl) dX0_set_19 ?_ (fun N1 H2 locs3 q4 ce5 hp6 hS7 hce8 hcv9 hcl10 => ?_)
    rotate_left
    · skip
      obtain ⟨hc11, hW12, hgf13⟩ := hp6
      rcases hc11 with ⟨hz, rfl⟩ | ⟨hz, hr0, rfl⟩
      · skip
        refine ps_catch (name := "java/lang/NullPointerException") (pre := []) (r := (10, 25, 26, 106)) X hZ hX ht rfl (fun y hy => nomatch hy) (by decide) (by decide) q362 q384 hce8 hcv9 hcl10 ?_
        refine lv_astore (lv' := [(4, .ref (q4)), (0, .ref (x)), (1, .int (nI k)), (2, .int (y)), (3, .int (w1))]) hx hb dX0_set_26 hl (by decide) rfl (fun ls hl => ?_)
        refine lv_aload_n hx hb dX0_set_28 rfl (lv_at hl 1 rfl) ?_
        refine lv_iconst (v := nI 1) hx hb dX0_set_29 rfl ?_
        refine ps_geV X hE (m_X0_finds l hE hZ hW12 (N := S.1) hOb.1 (f := 1) (by omega)) (lw_V q352 q354 qs3 q68 q355) (by decide +kernel) ⟨⟨Nat.le_of_ble_eq_true rfl, Nat.le_of_ble_eq_true rfl⟩, Nat.le_of_ble_eq_true rfl, Nat.le_of_ble_eq_true rfl⟩ (ps_rc X (ci := 0) rfl (hW12.at hOb.1)) hS7 hl.1 (As := [.int (nI 1)]) (rest := []) (n := 1) rfl rfl (Nat.le_of_ble_eq_true rfl) dX0_set_30 (fun v18 H14 locs15 hp16 hS17 => ?_)
        obtain ⟨hv24, hz25, Γ19, hW20, hgf21, hg22, ho23⟩ := hp16
        subst hv24
        refine ps_st (st' := [.int (fnd 1)]) rfl ?_
        exact ps_iretG X hS17 (Nat.le_of_ble_eq_true rfl) (Nat.le_of_ble_eq_true rfl) dX0_set_33 (ps_cend (S1 := (sStat S 1)) (by simp [op_set, c_4, cl_k, hz]) hW20 ((ps_gf.rf.tr hgf13).tr hgf21) (ps_Cx.stat hOb hRw hTp hTr hSx hSl hg22 ho23))
      · skip
        refine ps_catch (name := "java/lang/ArrayIndexOutOfBoundsException") (pre := [(10, 25, 26, 106)]) (r := (10, 25, 34, 108)) X hZ hX ht rfl (fun y hy => by
            obtain rfl := List.mem_singleton.mp hy
            exact Or.inr ⟨by decide, "java/lang/NullPointerException", q362, by decide⟩) (by decide) (by decide) q387 q402 hce8 hcv9 hcl10 ?_
        refine lv_astore (lv' := [(4, .ref (q4)), (0, .ref (x)), (1, .int (nI k)), (2, .int (y)), (3, .int (w1))]) hx hb dX0_set_34 hl (by decide) rfl (fun ls hl => ?_)
        refine lv_aload_n hx hb dX0_set_36 rfl (lv_at hl 1 rfl) ?_
        refine lv_iconst (v := nI 2) hx hb dX0_set_37 rfl ?_
        refine ps_geV X hE (m_X0_finds l hE hZ hW12 (N := S.1) hOb.1 (f := 2) (by omega)) (lw_V q352 q354 qs3 q68 q355) (by decide +kernel) ⟨⟨Nat.le_of_ble_eq_true rfl, Nat.le_of_ble_eq_true rfl⟩, Nat.le_of_ble_eq_true rfl, Nat.le_of_ble_eq_true rfl⟩ (ps_rc X (ci := 0) rfl (hW12.at hOb.1)) hS7 hl.1 (As := [.int (nI 2)]) (rest := []) (n := 1) rfl rfl (Nat.le_of_ble_eq_true rfl) dX0_set_38 (fun v30 H26 locs27 hp28 hS29 => ?_)
        obtain ⟨hv36, hz37, Γ31, hW32, hgf33, hg34, ho35⟩ := hp28
        subst hv36
        refine ps_st (st' := [.int (fnd 2)]) rfl ?_
        exact ps_iretG X hS29 (Nat.le_of_ble_eq_true rfl) (Nat.le_of_ble_eq_true rfl) dX0_set_41 (ps_cend (S1 := (sStat S 2)) (by simp [op_set, c_4, cl_k, hz, hr0]) hW32 ((ps_gf.rf.tr hgf13).tr hgf33) (ps_Cx.stat hOb hRw hTp hTr hSx hSl hg34 ho35))
    intro v42 H38 locs39 hp40 hS41
    obtain ⟨hv46, ⟨hz, hin⟩, Γ43, hW44, hgf45, hg47, ho48⟩ := hp40
    subst hv46
    refine ps_st (st' := [.int (asl (S.2.1 3 k) w1), .ref (x)]) rfl ?_
    refine ps_geV X hE (m_X0_well l hE hZ hW44 (N := S.1) ((ho48 _ (hRx.ane k_hi hz ⟨_, hOb.1⟩)).trans hOb.1) (u := asl (S.2.1 3 k) w1)) (lw_V q348 q350 qs2 q68 q351) (by decide +kernel) ⟨⟨Nat.le_of_ble_eq_true rfl, Nat.le_of_ble_eq_true rfl⟩, Nat.le_of_ble_eq_true rfl, Nat.le_of_ble_eq_true rfl⟩ (ps_rc X (ci := 0) rfl (hW44.at ((ho48 _ (hRx.ane k_hi hz ⟨_, hOb.1⟩)).trans hOb.1))) hS41 hl.1 (As := [.int (asl (S.2.1 3 k) w1)]) (rest := []) (n := 1) rfl rfl (Nat.le_of_ble_eq_true rfl) dX0_set_22 (fun v53 H49 locs50 hp51 hS52 => ?_)
    obtain ⟨hv59, hz60, Γ54, hW55, hgf56, hg57, ho58⟩ := hp51
    subst hv59
    refine ps_st (st' := [.int (asl (S.2.1 3 k) w1)]) rfl ?_
    have hne := hRx.ane k_hi hz ⟨_, hOb.1⟩
    have hfr : ∀ q, q ≠ x → q ≠ hr k → Γ54 q = Γ q := fun q a1 a2 => (ho58 q a1).trans (ho48 q a2)
    have hga := (ho58 (hr k) (Ne.symm hne)).trans hg47
    have hyr := rng_lt hin
    have hRx9 := hRx.set1 (r := k) (n := y.toNatClampNeg) k_hi (fun r2 h2 => (hl3 r2 h2).2) hz (by omega) ⟨_, hOb.1⟩ hqf hga hfr
    have hsp9 := ps_rsp0 hOb.2 (hRx.arr k_hi hz) ⟨_, hg57⟩ ⟨_, hga⟩ hfr
    exact ps_iretG X hS52 (Nat.le_of_ble_eq_true rfl) (Nat.le_of_ble_eq_true rfl) dX0_set_25 (ps_cend (S1 := (va_up S.1 0 0, S.2.1, upd S.2.2 (40 * k + y.toNatClampNeg) (asl (S.2.1 3 k) w1))) (by simp [op_set, c_4, cl_k, hz, hin]) hW55 ((ps_gf.rf.tr hgf45).tr hgf56) (ps_Cx.rows hTp hTr hSx hSl hsp9 ⟨hg57, hOb.2⟩ ⟨_, hRx9⟩ rfl rfl (fun _ _ _ => rfl)))
  · skip
    refine lv_ldc (v := -1000001) hx hb ho (hts _ q344) dX0_set_7 ?_
    exact ps_iretG X hS (Nat.le_of_ble_eq_true rfl) (Nat.le_of_ble_eq_true rfl) dX0_set_9 (ps_cend (S1 := S) (by simp [op_set, c_4]) hW ps_gf.rf hC)

set_option maxHeartbeats 4000000 in
theorem m_X0_drop (l : Launch) {E : ps_E} (hE : ps_ZT E) {z : Nat} (hZ : ps_Zk E z) {Γ : ps_Gh} {H : Heap} (hW : ps_W E Γ H) {x : Nat} {S : SS} {ow : ps_Ow} (hC : ps_Cx E z Γ ow x S) (hwf : wf S) (hX : ps_Zx E) (hLT : l.stackTraces = false) {v : Int32} : ps_GW l E yX0_drop cX0_drop 5 (some .int) [(10, 24, 36, 106), (10, 24, 55, 0), (36, 43, 55, 0), (55, 57, 55, 0)] 9 10280 1 8 [.ref (x), .int (v)] H (ps_cpost E z Γ H x (op_drop S v)) := by
  refine ps_GW.of (by decide) (Nat.le_of_ble_eq_true rfl) ?_
  intro p e s m args below meth c X ht ls hl
  have hx := X.1
  have hb := X.2.1
  have ho := X.2.2.2.1
  have hts := X.2.2.2.2.1
  have hS : va_S (ps_A E) s.heap H [] := by rw [X.2.2.2.2.2.2.2.2.1]; exact va_S.rf
  have hl : lv_has ls 5 [(0, .ref (x)), (1, .int (v))] := hl
  have hO := hwf.1
  have hm := hO.m
  have hn := hwf.n
  have hl3 := hwf.2.2.2.2.1
  obtain ⟨tr, sa, τ, hOb, hRw, hTp, hTr, hSx, hSl⟩ := id hC
  have hSo := (hSx.2.2.2.2 0 _ hSx.1.1).2
  rw [hSl.1] at hSo
  obtain ⟨smc, sr, pf, kf, tf, df, hD, hOw, hrr, hpo⟩ := id hSo
  refine lv_iload_n hx hb dX0_drop_0 rfl (lv_at hl 1 rfl) ?_
  refine ps_roS X hE (m_X0_isRow l hE (H := H) (x := v)) (lw_S q336 q337 q68 q338) (by decide +kernel) ⟨⟨Nat.le_of_ble_eq_true rfl, Nat.le_of_ble_eq_true rfl⟩, Nat.le_of_ble_eq_true rfl, Nat.le_of_ble_eq_true rfl⟩ hS hl.1 (As := [.int (v)]) (rest := []) (n := 1) rfl rfl (Nat.le_of_ble_eq_true rfl) dX0_drop_1 ?_
  refine ps_st (st' := [.int (bI (rng v 0 8))]) rfl ?_
  refine ps_ifneB (tgt := 10) hx hb dX0_drop_4 (by decide) (fun c_4 => ?_) (fun c_4 => ?_)
  · skip
    obtain ⟨k, rfl, k_lo, k_hi, k_b⟩ := rng_t c_4
    have cl_k : (nI k).toNatClampNeg = k := nI_clamp (by omega)
    obtain ⟨hr, hRx⟩ := id hRw
    obtain ⟨dr, hrows, hrowo, hdf⟩ := hRx.1
    obtain ⟨rf, hq, hqf⟩ := hRx.q (r := k) k_hi (hl3 k k_hi).1 (hl3 k k_hi).2
    refine lv_aload_n hx hb dX0_drop_10 rfl (lv_at hl 0 rfl) ?_
    refine lv_aload_n hx hb dX0_drop_11 rfl (lv_at hl 0 rfl) ?_
    refine ps_get (v := .ref (x + 1)) X in_X0 (ci := 0) rfl 0 (by decide) q211 rfl (hW.at hOb.1) rfl dX0_drop_12 ?_
    refine lv_iload_n hx hb dX0_drop_15 rfl (lv_at hl 1 rfl) ?_
    refine ps_aald (j := k) (o := some (x + 2 + k)) X (t := 4) rfl (hW.at hrows) rfl (by show k < 8; omega) (by first | decide | omega) (hdf _ (by omega)) dX0_drop_16 ?_
    refine ps_gxVN (host := "PromiseScales") X hE (m_X1_many l hE hZ hW hX hLT hq) (lw_meth q446) hZ q443 q69 q445 qs6 (by decide +kernel) ⟨⟨Nat.le_of_ble_eq_true rfl, Nat.le_of_ble_eq_true rfl⟩, Nat.le_of_ble_eq_true rfl, Nat.le_of_ble_eq_true rfl⟩ (ps_rc X (ci := 1) rfl (hW.at (hRx.2.1 k (by omega)).1)) hS hl.1 (As := []) (rest := [.ref (x)]) (n := 0) rfl rfl (Nat.le_of_ble_eq_true rfl) dX0_drop_17 ?_ (fun N1 H2 locs3 q4 ce5 hp6 hS7 hce8 hcv9 hcl10 => ?_)
    rotate_left
    · skip
      obtain ⟨hc11, hW12, hgf13⟩ := hp6
      obtain ⟨hz, rfl⟩ := hc11
      refine ps_catch (name := "java/lang/NullPointerException") (pre := []) (r := (10, 24, 36, 106)) X hZ hX ht rfl (fun y hy => nomatch hy) (by decide) (by decide) q362 q384 hce8 hcv9 hcl10 ?_
      refine lv_astore_n (lv' := [(2, .ref (q4)), (0, .ref (x)), (1, .int (nI k))]) hx hb dX0_drop_36 rfl hl (by decide) rfl (fun ls hl => ?_)
      refine lv_aload_n hx hb dX0_drop_37 rfl (lv_at hl 1 rfl) ?_
      refine lv_iconst (v := nI 1) hx hb dX0_drop_38 rfl ?_
      refine ps_geV X hE (m_X0_finds l hE hZ hW12 (N := S.1) hOb.1 (f := 1) (by omega)) (lw_V q352 q354 qs3 q68 q355) (by decide +kernel) ⟨⟨Nat.le_of_ble_eq_true rfl, Nat.le_of_ble_eq_true rfl⟩, Nat.le_of_ble_eq_true rfl, Nat.le_of_ble_eq_true rfl⟩ (ps_rc X (ci := 0) rfl (hW12.at hOb.1)) hS7 hl.1 (As := [.int (nI 1)]) (rest := []) (n := 1) rfl rfl (Nat.le_of_ble_eq_true rfl) dX0_drop_39 (fun v18 H14 locs15 hp16 hS17 => ?_)
      obtain ⟨hv24, hz25, Γ19, hW20, hgf21, hg22, ho23⟩ := hp16
      subst hv24
      refine ps_st (st' := [.int (fnd 1)]) rfl ?_
      refine lv_istore_n (lv' := [(3, .int (fnd 1)), (2, .ref (q4)), (0, .ref (x)), (1, .int (nI k))]) hx hb dX0_drop_42 rfl hl (by decide) rfl (fun ls hl => ?_)
      refine lv_aload_n hx hb dX0_drop_43 rfl (lv_at hl 2 rfl) ?_
      refine ps_get (v := .ref (x + 1)) X in_X0 (ci := 0) rfl 0 (by decide) q211 rfl (hW20.at hg22) rfl dX0_drop_44 ?_
      refine lv_iload_n hx hb dX0_drop_47 rfl (lv_at hl 3 rfl) ?_
      refine ps_aald (j := k) (o := some (x + 2 + k)) X (t := 4) rfl (hW20.at ((ho23 _ (by omega)).trans hrows)) rfl (by show k < 8; omega) (by first | decide | omega) (hdf _ (by omega)) dX0_drop_48 ?_
      refine lv_null hx hb dX0_drop_49 ?_
      refine ps_putN X hZ in_X1 tyX1_ok nmX1 (ci := 1) rfl 0 (by decide) q124 rfl rfl rfl rfl (Nat.le_of_ble_eq_true rfl) (hW20.at ((ho23 _ (by omega)).trans (hRx.2.1 k (by omega)).1)) (hW20.A ((ho23 _ (by omega)).trans (hRx.2.1 k (by omega)).1)) hS17 dX0_drop_50 (fun H26 locs27 ha28 hz29 hq30 hS31 => ?_)
      obtain ⟨Γ32, hW33, hg34, ho35⟩ := hW20.put1 ((ho23 _ (by omega)).trans (hRx.2.1 k (by omega)).1) ha28 hq30
      refine lv_iload_n hx hb dX0_drop_53 rfl (lv_at hl 0 rfl) ?_
      have hfr : ∀ q, q ≠ x → q ≠ x + 2 + k → Γ32 q = Γ q := fun q a1 a2 => (ho35 q a2).trans (ho23 q a1)
      have hx9 := (ho35 x (by omega)).trans hg22
      have hRx9 := hRx.drop (r := k) k_hi ⟨_, hOb.1⟩ hg34 hfr
      have hsp9 := ps_rsp0 hOb.2 (hRx.2.1 k k_hi).2 ⟨_, hx9⟩ ⟨_, hg34⟩ hfr
      exact ps_iretG X hS31 (Nat.le_of_ble_eq_true rfl) (Nat.le_of_ble_eq_true rfl) dX0_drop_54 (ps_cend (S1 := (sStat S 1)) (by simp [op_drop, c_4, cl_k, hz]) hW33 (((ps_gf.rf.tr hgf13).tr hgf21).put ((ho23 _ (by omega)).trans (hRx.2.1 k (by omega)).1) hz29 hq30 ho35) (ps_Cx.rows hTp hTr hSx hSl hsp9 ⟨hx9, hOb.2⟩ ⟨_, hRx9⟩ rfl (ps_up0 hz) (fun _ _ _ => rfl)))
    intro v40 H36 locs37 hp38 hS39
    obtain ⟨hv41, hz, hH42⟩ := hp38
    subst hv41; have hH42s := hH42.symm; subst hH42s
    refine ps_st (st' := [.int (nI (S.2.1 4 k - 1)), .ref (x)]) rfl ?_
    refine ps_geV X hE (m_X0_well l hE hZ hW (N := S.1) hOb.1 (u := nI (S.2.1 4 k - 1))) (lw_V q348 q350 qs2 q68 q351) (by decide +kernel) ⟨⟨Nat.le_of_ble_eq_true rfl, Nat.le_of_ble_eq_true rfl⟩, Nat.le_of_ble_eq_true rfl, Nat.le_of_ble_eq_true rfl⟩ (ps_rc X (ci := 0) rfl (hW.at hOb.1)) hS39 hl.1 (As := [.int (nI (S.2.1 4 k - 1))]) (rest := []) (n := 1) rfl rfl (Nat.le_of_ble_eq_true rfl) dX0_drop_20 (fun v47 H43 locs44 hp45 hS46 => ?_)
    obtain ⟨hv53, hz54, Γ48, hW49, hgf50, hg51, ho52⟩ := hp45
    subst hv53
    refine ps_st (st' := [.int (nI (S.2.1 4 k - 1))]) rfl ?_
    refine lv_istore_n (lv' := [(2, .int (nI (S.2.1 4 k - 1))), (0, .ref (x)), (1, .int (nI k))]) hx hb dX0_drop_23 rfl hl (by decide) rfl (fun ls hl => ?_)
    refine lv_aload_n hx hb dX0_drop_24 rfl (lv_at hl 1 rfl) ?_
    refine ps_get (v := .ref (x + 1)) X in_X0 (ci := 0) rfl 0 (by decide) q211 rfl (hW49.at hg51) rfl dX0_drop_25 ?_
    refine lv_iload_n hx hb dX0_drop_28 rfl (lv_at hl 2 rfl) ?_
    refine ps_aald (j := k) (o := some (x + 2 + k)) X (t := 4) rfl (hW49.at ((ho52 _ (by omega)).trans hrows)) rfl (by show k < 8; omega) (by first | decide | omega) (hdf _ (by omega)) dX0_drop_29 ?_
    refine lv_null hx hb dX0_drop_30 ?_
    refine ps_putN X hZ in_X1 tyX1_ok nmX1 (ci := 1) rfl 0 (by decide) q124 rfl rfl rfl rfl (Nat.le_of_ble_eq_true rfl) (hW49.at ((ho52 _ (by omega)).trans (hRx.2.1 k (by omega)).1)) (hW49.A ((ho52 _ (by omega)).trans (hRx.2.1 k (by omega)).1)) hS46 dX0_drop_31 (fun H55 locs56 ha57 hz58 hq59 hS60 => ?_)
    obtain ⟨Γ61, hW62, hg63, ho64⟩ := hW49.put1 ((ho52 _ (by omega)).trans (hRx.2.1 k (by omega)).1) ha57 hq59
    refine lv_iload_n hx hb dX0_drop_34 rfl (lv_at hl 0 rfl) ?_
    have hfr : ∀ q, q ≠ x → q ≠ x + 2 + k → Γ61 q = Γ q := fun q a1 a2 => (ho64 q a2).trans (ho52 q a1)
    have hx9 := (ho64 x (by omega)).trans hg51
    have hRx9 := hRx.drop (r := k) k_hi ⟨_, hOb.1⟩ hg63 hfr
    have hsp9 := ps_rsp0 hOb.2 (hRx.2.1 k k_hi).2 ⟨_, hx9⟩ ⟨_, hg63⟩ hfr
    exact ps_iretG X hS60 (Nat.le_of_ble_eq_true rfl) (Nat.le_of_ble_eq_true rfl) dX0_drop_35 (ps_cend (S1 := (va_up S.1 0 0, va_up S.2.1 4 (va_up (S.2.1 4) k 0), S.2.2)) (by simp [op_drop, c_4, cl_k, hz]) hW62 ((ps_gf.rf.tr hgf50).put ((ho52 _ (by omega)).trans (hRx.2.1 k (by omega)).1) hz58 hq59 ho64) (ps_Cx.rows hTp hTr hSx hSl hsp9 ⟨hx9, hOb.2⟩ ⟨_, hRx9⟩ rfl rfl (fun q a1 a2 => by rw [va_up_ne _ _ a2])))
  · skip
    refine lv_ldc (v := -1000001) hx hb ho (hts _ q344) dX0_drop_7 ?_
    exact ps_iretG X hS (Nat.le_of_ble_eq_true rfl) (Nat.le_of_ble_eq_true rfl) dX0_drop_9 (ps_cend (S1 := S) (by simp [op_drop, c_4]) hW ps_gf.rf hC)
