/-! the component: ask (printed by gen/comp18.py) -/
set_option maxRecDepth 100000
set_option maxHeartbeats 4000000 in
theorem m_X0_ask (l : Launch) {E : ps_E} (hE : ps_ZT E) {z : Nat} (hZ : ps_Zk E z) {Γ : ps_Gh} {H : Heap} (hW : ps_W E Γ H) (hQ : ps_Zm E) {x : Nat} {S : SS} {ow : ps_Ow} (hC : ps_Cx E z Γ ow x S) (hwf : wf S) {v y : Int32} : ps_Ge l E yX0_ask cX0_ask 5 (some .int) 26 749 3 20 [.ref (x), .int (v), .int (y)] H (ps_cpost E z Γ H x (op_ask S v y)) := by
  refine ps_Ge.of (by decide) (Nat.le_of_ble_eq_true rfl) ?_
  intro p e s m args below meth c X ls hl
  have hx := X.1
  have hb := X.2.1
  have ho := X.2.2.2.1
  have hts := X.2.2.2.2.1
  have hS : va_S (ps_A E) s.heap H [] := by rw [X.2.2.2.2.2.2.2.2.1]; exact va_S.rf
  have hl : lv_has ls 5 [(0, .ref (x)), (1, .int (v)), (2, .int (y))] := hl
  have hO := hwf.1
  have hm := hO.m
  have hn := hwf.n
  obtain ⟨tr, sa, τ, hOb, hRw, hTp, hTr, hSx, hSl⟩ := id hC
  have hSo := (hSx.2.2.2.2 0 _ hSx.1.1).2
  rw [hSl.1] at hSo
  obtain ⟨smc, sr, pf, kf, tf, df, hD, hOw, hrr, hpo⟩ := id hSo
  refine lv_aload_n hx hb dX0_ask_0 rfl (lv_at hl 0 rfl) ?_
  refine lv_iload_n hx hb dX0_ask_1 rfl (lv_at hl 1 rfl) ?_
  refine ps_roV X hE (m_X0_isPromise l hE hZ hW hOb.1 hD hO (v := v)) (lw_V q853 q855 qs18 q68 q856) (by decide +kernel) ⟨⟨Nat.le_of_ble_eq_true rfl, Nat.le_of_ble_eq_true rfl⟩, Nat.le_of_ble_eq_true rfl, Nat.le_of_ble_eq_true rfl⟩ (ps_rc X (ci := 0) rfl (hW.at hOb.1)) hS hl.1 (As := [.int (v)]) (rest := []) (n := 1) rfl rfl (Nat.le_of_ble_eq_true rfl) dX0_ask_2 ?_
  refine ps_st (st' := [.int (bI (rng v 0 ((S.2.1 0) 3)))]) rfl ?_
  refine ps_ifeqB (tgt := 15) hx hb dX0_ask_5 (by decide) (fun c_5 => ?_) (fun c_5 => ?_)
  · skip
    refine lv_ldc (v := -1000001) hx hb ho (hts _ q344) dX0_ask_15 ?_
    exact ps_iretG X hS (Nat.le_of_ble_eq_true rfl) (Nat.le_of_ble_eq_true rfl) dX0_ask_17 (ps_cend (S1 := S) (by simp [op_ask, c_5]) hW ps_gf.rf hC)
  · skip
    obtain ⟨k, rfl, k_lo, k_hi, k_b⟩ := rng_t c_5
    have cl_k : (nI k).toNatClampNeg = k := nI_clamp (by omega)
    refine lv_iload_n hx hb dX0_ask_8 rfl (lv_at hl 2 rfl) ?_
    refine ps_roS X hE (m_X0_isHalf l hE (H := H) (x := y)) (lw_S q857 q858 q68 q859) (by decide +kernel) ⟨⟨Nat.le_of_ble_eq_true rfl, Nat.le_of_ble_eq_true rfl⟩, Nat.le_of_ble_eq_true rfl, Nat.le_of_ble_eq_true rfl⟩ hS hl.1 (As := [.int (y)]) (rest := []) (n := 1) rfl rfl (Nat.le_of_ble_eq_true rfl) dX0_ask_9 ?_
    refine ps_st (st' := [.int (bI (rng y 0 2))]) rfl ?_
    refine ps_ifneB (tgt := 18) hx hb dX0_ask_12 (by decide) (fun c_12 => ?_) (fun c_12 => ?_)
    · skip
      obtain ⟨j, rfl, j_lo, j_hi, j_b⟩ := rng_t c_12
      have cl_j : (nI j).toNatClampNeg = j := nI_clamp (by omega)
      refine lv_aload_n hx hb dX0_ask_18 rfl (lv_at hl 0 rfl) ?_
      refine ps_new (fs := [.null, .int (nI 0)]) X in_X3 tyX3_ok q196 q197 q74 (ci := 3) rfl (fun j hj => by
          obtain rfl | rfl : j = 0 ∨ j = 1 := by omega
          all_goals rfl) ⟨(Nat.le_of_ble_eq_true rfl), (Nat.le_of_ble_eq_true rfl)⟩ hS dX0_ask_19 (fun H1 ha2 hz3 hq4 hS5 => ?_)
      obtain ⟨Γ6, hW7, hg8, ho9⟩ := hW.new1 (Nat.le_trans (hW.A hOb.1) (Nat.le_of_lt (hW.lt hOb.1))) ha2 hq4
      refine lv_dup hx hb dX0_ask_22 rfl ?_
      refine ps_geIN (host := "PromiseScales") X hE (m_X3_init l hE hZ hW7 hg8) (lw_meth q200) hZ q198 q74 q199 rfl (by decide +kernel) ⟨⟨Nat.le_of_ble_eq_true rfl, Nat.le_of_ble_eq_true rfl⟩, Nat.le_of_ble_eq_true rfl, Nat.le_of_ble_eq_true rfl⟩ hS5 hl.1 (As := []) (rest := [.ref (H.size), .ref (x)]) (n := 0) rfl rfl (Nat.le_of_ble_eq_true rfl) dX0_ask_23 (fun v14 H10 locs11 hp12 hS13 => ?_)
      obtain ⟨hv21, hz22, Γ15, hW16, hgf17, hg18, hg19, ho20⟩ := hp12
      subst hv21
      have eH23 : H1.size = H.size + 1 := by omega
      rw [eH23] at hg18 hg19 hz22 ho20
      have hkq24 : ∀ q, q < H.size → Γ15 q = Γ q := fun q hq => (ho20 q (by omega) (by omega)).trans (ho9 q (by omega))
      refine ps_st (st' := [.ref (H.size), .ref (x)]) rfl ?_
      refine ps_put X in_X0 tyX0_ok nmX0 (ci := 0) rfl 9 (by decide) q221 rfl rfl rfl rfl (Nat.le_of_ble_eq_true rfl) (hW16.at ((hkq24 _ (hW.lt hOb.1)).trans hOb.1)) (hW16.A ((hkq24 _ (hW.lt hOb.1)).trans hOb.1)) hS13 dX0_ask_26 (fun H25 locs26 ha27 hz28 hq29 hS30 => ?_)
      obtain ⟨Γ31, hW32, hg33, ho34⟩ := hW16.put1 ((hkq24 _ (hW.lt hOb.1)).trans hOb.1) ha27 hq29
      have hxH := hW.lt hOb.1
      have ht0 := (ho34 _ (by omega)).trans hg18
      have ht1 := (ho34 _ (by omega)).trans hg19
      have hsp3 : ps_sp (fun w => w = 1) Γ ow Γ31 (ps_ot ow H.size) := ps_ask0 hW hOb.2 ⟨_, hg33⟩ (fun q a1 a2 => (ho34 q a2).trans (hkq24 q a1))
      have hx3 := hg33
      have hSo3 := hSo.kept hsp3 (by decide) (by omega)
      obtain ⟨smc3, sr3, pf3, kf3, tf3, df3, hD3, hOw3, hrr3, hpo3⟩ := id hSo3
      have hkS : ∀ q, q < H.size → q ≠ x → Γ31 q = Γ q := fun q a1 a2 => (ho34 q a2).trans (hkq24 q a1)
      refine lv_aload_n hx hb dX0_ask_29 rfl (lv_at hl 0 rfl) ?_
      refine ps_get (v := .ref (x + 11)) X in_X0 (ci := 0) rfl 4 (by decide) q216 rfl (hW32.at hx3) rfl dX0_ask_30 ?_
      refine lv_iload_n hx hb dX0_ask_33 rfl (lv_at hl 1 rfl) ?_
      refine ps_roV X hE (m_X2_promise l hE hZ hW32 hD3 hO (k := k) (by omega)) (lw_V q930 q888 q889 q70 q890) (by decide +kernel) ⟨⟨Nat.le_of_ble_eq_true rfl, Nat.le_of_ble_eq_true rfl⟩, Nat.le_of_ble_eq_true rfl, Nat.le_of_ble_eq_true rfl⟩ (ps_rc X (ci := 2) rfl (hW32.at hD3.1)) hS30 hl.1 (As := [.int (nI k)]) (rest := []) (n := 1) rfl rfl (Nat.le_of_ble_eq_true rfl) dX0_ask_34 ?_
      refine ps_st (st' := [.ref (pf3 k)]) rfl ?_
      refine lv_astore_n (lv' := [(3, .ref (pf3 k)), (0, .ref (x)), (1, .int (nI k)), (2, .int (nI j))]) hx hb dX0_ask_37 rfl hl (by decide) rfl (fun ls hl => ?_)
      refine ps_new (fs := [.int (nI 0), .null]) X in_X13 tyX13_ok q1160 q1161 q104 (ci := 12) rfl (fun j hj => by
          obtain rfl | rfl : j = 0 ∨ j = 1 := by omega
          all_goals rfl) ⟨(Nat.le_of_ble_eq_true rfl), (Nat.le_of_ble_eq_true rfl)⟩ hS30 dX0_ask_38 (fun H35 ha36 hz37 hq38 hS39 => ?_)
      obtain ⟨Γ40, hW41, hg42, ho43⟩ := hW32.new1 (Nat.le_trans (hW32.A hx3) (Nat.le_of_lt (hW32.lt hx3))) ha36 hq38
      have ehg44 : H25.size = H.size + 2 := by omega
      have hg44 := hg42
      rw [ehg44] at hg44
      refine ps_st (st' := [.ref (H.size + 2)]) (by rw [ehg44]) ?_
      refine lv_dup hx hb dX0_ask_41 rfl ?_
      refine lv_aload_n hx hb dX0_ask_42 rfl (lv_at hl 1 rfl) ?_
      refine lv_iload_n hx hb dX0_ask_43 rfl (lv_at hl 2 rfl) ?_
      refine ps_geI X hE (m_X13_init l hE hZ hW41 (x := x) (pn := k) hg44) (lw_meth q1164) q104 q1162 q1163 rfl (by decide +kernel) ⟨⟨Nat.le_of_ble_eq_true rfl, Nat.le_of_ble_eq_true rfl⟩, Nat.le_of_ble_eq_true rfl, Nat.le_of_ble_eq_true rfl⟩ hS39 hl.1 (As := [.ref (x), .int (nI k)]) (rest := [.ref (H.size + 2)]) (n := 2) rfl rfl (Nat.le_of_ble_eq_true rfl) dX0_ask_44 (fun v49 H45 locs46 hp47 hS48 => ?_)
      obtain ⟨hv55, hz56, Γ50, hW51, hgf52, hg53, ho54⟩ := hp47
      subst hv55
      have h3s : H25.size = H.size + 2 := by omega
      have hk5 : ∀ q, q < H.size + 2 → Γ50 q = Γ31 q := fun q hq => (ho54 q (by omega)).trans (ho43 q (by omega))
      have hx5 := (hk5 x (by omega)).trans hx3
      have hsp5 : ps_sp (fun w => w = 1) Γ ow Γ50 (ps_ot ow H.size) := ps_ask0 hW hOb.2 ⟨_, hx5⟩ (fun q a1 a2 => (hk5 q (by omega)).trans (hkS q a1 a2))
      have hOb5 : ps_Ob Γ50 (ps_ot ow H.size) x H.size S.1 := ⟨hx5, hsp5.o hOb.1 hOb.2⟩
      have hpc3 := hD3.2.2.2.2.2.2.2.2 k k_hi
      have hH5 : ps_Hs E z Γ50 (ps_ot ow H.size) x (H.size + 2) (pf3 k) (S.2.1 0) k := ⟨⟨hg53, ps_ot_2 ..⟩, ⟨H.size, S.1, hOb5⟩, hSo.kept hsp5 (by decide) (by omega), ⟨hO, k_hi⟩, (hk5 _ (by have := hW32.lt hpc3; omega)).trans hpc3, hpo3 k k_hi⟩
      have hT5 : ps_Tl E Γ50 (ps_ot ow H.size) H.size [] := ⟨⟨(hk5 _ (by omega)).trans ht0, ps_ot_0 ..⟩, ps_ot_1 .., _, (hk5 _ (by omega)).trans ht1, fun i hi => absurd hi (Nat.not_lt_zero _)⟩
      refine ps_st (st' := [.ref (H.size + 2)]) rfl ?_
      refine lv_astore (lv' := [(4, .ref (H.size + 2)), (3, .ref (pf3 k)), (0, .ref (x)), (1, .int (nI k)), (2, .int (nI j))]) hx hb dX0_ask_47 hl (by decide) rfl (fun ls hl => ?_)
      refine lv_iload_n hx hb dX0_ask_49 rfl (lv_at hl 4 rfl) ?_
      refine ps_ifne (tgt := 66) hx hb dX0_ask_50 (by decide) (by omega) (fun c_50 => ?_) (fun c_50 => ?_)
      · skip
        refine lv_aload_n hx hb dX0_ask_66 rfl (lv_at hl 1 rfl) ?_
        refine lv_aload_n hx hb dX0_ask_67 rfl (lv_at hl 2 rfl) ?_
        refine ps_get (v := .ref (H.size)) X in_X0 (ci := 0) rfl 9 (by decide) q221 rfl (hW51.at hx5) rfl dX0_ask_68 ?_
        refine lv_aload hx hb dX0_ask_71 (lv_at hl 0 rfl) ?_
        refine ps_dmark X hE hZ hW51 hQ hT5 hH5 (by decide) dw_4 ⟨⟨Nat.le_of_ble_eq_true rfl, Nat.le_of_ble_eq_true rfl⟩, Nat.le_of_ble_eq_true rfl, Nat.le_of_ble_eq_true rfl⟩ hS48 hl.1 (rest := []) (Nat.le_of_ble_eq_true rfl) dX0_ask_73 (fun v61 H57 locs58 hp59 hS60 => ?_)
        obtain ⟨hv65, Γ62, hW63, hgf64, hsp6, hT6⟩ := hp59
        subst hv65
        refine ps_st (st' := [.int (sp_mS (S.2.1 0) k)]) rfl ?_
        exact ps_iretG X hS60 (Nat.le_of_ble_eq_true rfl) (Nat.le_of_ble_eq_true rfl) dX0_ask_76 (ps_cend (S1 := (sTr S (sp_mL (S.2.1 0) k))) (by simp [op_ask, c_5, cl_k, c_12, cl_j, c_50]) hW63 ((((((ps_gf.rf.new hz3 hq4 ho9).tr hgf17).put ((hkq24 _ (hW.lt hOb.1)).trans hOb.1) hz28 hq29 ho34).new hz37 hq38 ho43).tr hgf52).tr hgf64) ⟨H.size, sa, τ, (hOb5.kept hsp6 (by first | exact fun h => h | ((try dsimp only) <;> omega))), (hRw.kept hsp5 (by first | exact fun h => h | ((try dsimp only) <;> omega))).kept hsp6 (by first | exact fun h => h | ((try dsimp only) <;> omega)), (hTp.kept hsp5 (by first | exact fun h => h | ((try dsimp only) <;> omega))).kept hsp6 (by first | exact fun h => h | ((try dsimp only) <;> omega)), hT6, (hSx.kept hsp5 (by first | exact fun h => h | ((try dsimp only) <;> omega)) (by first | exact fun h => h | ((try dsimp only) <;> omega)) (fun w => (by first | exact fun h => h | ((try dsimp only) <;> omega)))).kept hsp6 (by first | exact fun h => h | ((try dsimp only) <;> omega)) (by first | exact fun h => h | ((try dsimp only) <;> omega)) (fun w => (by first | exact fun h => h | ((try dsimp only) <;> omega))), hSl.trl⟩)
      · skip
        refine lv_aload_n hx hb dX0_ask_53 rfl (lv_at hl 1 rfl) ?_
        refine lv_aload_n hx hb dX0_ask_54 rfl (lv_at hl 2 rfl) ?_
        refine ps_get (v := .ref (H.size)) X in_X0 (ci := 0) rfl 9 (by decide) q221 rfl (hW51.at hx5) rfl dX0_ask_55 ?_
        refine lv_aload hx hb dX0_ask_58 (lv_at hl 0 rfl) ?_
        refine ps_dsize X hE hZ hW51 hQ hT5 hH5 (by decide) dw_0 ⟨⟨Nat.le_of_ble_eq_true rfl, Nat.le_of_ble_eq_true rfl⟩, Nat.le_of_ble_eq_true rfl, Nat.le_of_ble_eq_true rfl⟩ hS48 hl.1 (rest := []) (Nat.le_of_ble_eq_true rfl) dX0_ask_60 (fun v70 H66 locs67 hp68 hS69 => ?_)
        obtain ⟨hv74, Γ71, hW72, hgf73, hsp6, hT6⟩ := hp68
        subst hv74
        refine ps_st (st' := [.int (sp_sS (S.2.1 0) k)]) rfl ?_
        refine lv_goto (tgt := 76) hx hb dX0_ask_63 (by decide) ?_
        exact ps_iretG X hS69 (Nat.le_of_ble_eq_true rfl) (Nat.le_of_ble_eq_true rfl) dX0_ask_76 (ps_cend (S1 := (sTr S (sp_sL (S.2.1 0) k))) (by subst c_50; simp [op_ask, c_5, cl_k, c_12, cl_j]) hW72 ((((((ps_gf.rf.new hz3 hq4 ho9).tr hgf17).put ((hkq24 _ (hW.lt hOb.1)).trans hOb.1) hz28 hq29 ho34).new hz37 hq38 ho43).tr hgf52).tr hgf73) ⟨H.size, sa, τ, (hOb5.kept hsp6 (by first | exact fun h => h | ((try dsimp only) <;> omega))), (hRw.kept hsp5 (by first | exact fun h => h | ((try dsimp only) <;> omega))).kept hsp6 (by first | exact fun h => h | ((try dsimp only) <;> omega)), (hTp.kept hsp5 (by first | exact fun h => h | ((try dsimp only) <;> omega))).kept hsp6 (by first | exact fun h => h | ((try dsimp only) <;> omega)), hT6, (hSx.kept hsp5 (by first | exact fun h => h | ((try dsimp only) <;> omega)) (by first | exact fun h => h | ((try dsimp only) <;> omega)) (fun w => (by first | exact fun h => h | ((try dsimp only) <;> omega)))).kept hsp6 (by first | exact fun h => h | ((try dsimp only) <;> omega)) (by first | exact fun h => h | ((try dsimp only) <;> omega)) (fun w => (by first | exact fun h => h | ((try dsimp only) <;> omega))), hSl.trl⟩)
    · skip
      refine lv_ldc (v := -1000001) hx hb ho (hts _ q344) dX0_ask_15 ?_
      exact ps_iretG X hS (Nat.le_of_ble_eq_true rfl) (Nat.le_of_ble_eq_true rfl) dX0_ask_17 (ps_cend (S1 := S) (by simp [op_ask, c_5, cl_k, c_12]) hW ps_gf.rf hC)
