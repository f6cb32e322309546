/-! the component: acts undone, images (printed by gen/comp14.py) -/
set_option maxRecDepth 100000
set_option maxHeartbeats 4000000 in
theorem m_X0_undo (l : Launch) {E : ps_E} (hE : ps_ZT E) {z : Nat} (hZ : ps_Zk E z) {Γ : ps_Gh} {H : Heap} (hW : ps_W E Γ H) {x : Nat} {S : SS} {ow : ps_Ow} (hC : ps_Cx E z Γ ow x S) (hwf : wf S) : ps_Ge l E yX0_undo cX0_undo 1 (some .int) 6 133 8 80 [.ref (x)] H (ps_cpost E z Γ H x (op_undo S)) := by
  refine ps_Ge.of (by decide) (Nat.le_of_ble_eq_true rfl) ?_
  intro p e s m args below meth c X ls hl
  have hx := X.1
  have hb := X.2.1
  have ho := X.2.2.2.1
  have hts := X.2.2.2.2.1
  have hS : va_S (ps_A E) s.heap H [] := by rw [X.2.2.2.2.2.2.2.2.1]; exact va_S.rf
  have hl : lv_has ls 1 [(0, .ref (x))] := hl
  have hO := hwf.1
  have hm := hO.m
  have hn := hwf.n
  obtain ⟨tr, sa, τ, hOb, hRw, hTp, hTr, hSx, hSl⟩ := id hC
  have hSo := (hSx.2.2.2.2 0 _ hSx.1.1).2
  rw [hSl.1] at hSo
  obtain ⟨smc, sr, pf, kf, tf, df, hD, hOw, hrr, hpo⟩ := id hSo
  refine lv_aload_n hx hb dX0_undo_0 rfl (lv_at hl 0 rfl) ?_
  refine ps_get (v := .int (nI (S.1 3))) X in_X0 (ci := 0) rfl 7 (by decide) q219 rfl (hW.at hOb.1) rfl dX0_undo_1 ?_
  refine ps_ifne (tgt := 10) hx hb dX0_undo_4 (by decide) (by omega) (fun c_4 => ?_) (fun c_4 => ?_)
  · skip
    refine lv_aload_n hx hb dX0_undo_10 rfl (lv_at hl 0 rfl) ?_
    refine lv_dup hx hb dX0_undo_11 rfl ?_
    refine ps_get (v := .int (nI (S.1 3))) X in_X0 (ci := 0) rfl 7 (by decide) q219 rfl (hW.at hOb.1) rfl dX0_undo_12 ?_
    refine lv_iconst (v := nI 1) hx hb dX0_undo_15 rfl ?_
    refine ps_isub hx hb dX0_undo_16 (by omega) ?_
    refine ps_put X in_X0 tyX0_ok nmX0 (ci := 0) rfl 7 (by decide) q219 rfl rfl rfl rfl (Nat.le_of_ble_eq_true rfl) (hW.at hOb.1) (hW.A hOb.1) hS dX0_undo_17 (fun H1 locs2 ha3 hz4 hq5 hS6 => ?_)
    obtain ⟨Γ7, hW8, hg9, ho10⟩ := hW.put1 hOb.1 ha3 hq5
    have hCa := ps_Cx.acts hC (n := S.1 3 - 1) (by omega) hOb.1 hg9 ho10
    obtain ⟨S1, e13, e12, e1⟩ : ∃ S1 : SS, S1.1 3 = S.1 3 - 1 ∧ S1.2 = S.2 ∧ S1 = (va_up S.1 3 (S.1 3 - 1), S.2) := ⟨(va_up S.1 3 (S.1 3 - 1), S.2), va_up_self S.1 3 (S.1 3 - 1), rfl, rfl⟩
    have hsx : ps_sp (fun w => w = 1) Γ ow Γ7 ow := ps_sp.rf.put hOb.2 rfl hg9 ho10
    have hOb1 : ps_Ob Γ7 ow x tr S1.1 := by rw [e1]; exact ⟨hg9, hOb.2⟩
    have hRw1 : ps_Rw E Γ7 ow x (S1.2.1 3) (S1.2.1 4) S1.2.2 := by rw [e12]; exact hRw.kept hsx (by first | exact fun h => h | ((try dsimp only) <;> omega))
    have hTp1 : ps_Tp E Γ7 ow x (S1.1 2) (S1.2.1 1) := by rw [e1]; exact hTp.kept hsx (by first | exact fun h => h | ((try dsimp only) <;> omega))
    have hTr1 : ps_Tr E Γ7 ow tr (S1.1 4) (S1.2.1 2) := by rw [e1]; exact hTr.kept hsx (by first | exact fun h => h | ((try dsimp only) <;> omega))
    have hSx1 := hSx.kept hsx (by first | exact fun h => h | ((try dsimp only) <;> omega)) (by first | exact fun h => h | ((try dsimp only) <;> omega)) (fun w => (by first | exact fun h => h | ((try dsimp only) <;> omega)))
    have hSl1 : ps_Sl sa τ S1 := by rw [e1]; exact ⟨hSl.1, fun k hk => hSl.2.1 k (by have h9 : k < S.1 3 - 1 := hk; omega), hSl.2.2⟩
    have hk0 := hSl.2.1 (S.1 3 - 1) (by omega)
    obtain ⟨qk, hsn⟩ := Option.ne_none_iff_exists'.mp hk0.1
    have hqq := hSx1.2.2.2.2 _ _ hsn
    rw [hk0.2] at hqq
    have hSoA := (hSx1.2.2.2.2 0 _ hSx1.1.1).2
    rw [hSl.1] at hSoA
    have hqne : x + 11 ≠ qk := fun e => by
      have h9 := hSx1.2.2.2.1 _ _ _ hsn (hSx1.1.1.trans (congrArg some e))
      omega
    obtain ⟨_, _, _, _, _, _, hQd, _⟩ := hqq.2
    have hQ := hQd.1
    obtain ⟨_, _, _, _, _, _, hAd, _⟩ := id hSoA
    obtain ⟨pa, hpa, hpo2, hpk⟩ := hSx1.2.1
    refine lv_aload_n hx hb dX0_undo_20 rfl (lv_at hl 0 rfl) ?_
    refine ps_get (v := .ref (x + 11)) X in_X0 (ci := 0) rfl 4 (by decide) q216 rfl (hW8.at hg9) rfl dX0_undo_21 ?_
    refine lv_aload_n hx hb dX0_undo_24 rfl (lv_at hl 0 rfl) ?_
    refine ps_get (v := .ref (x + 19)) X in_X0 (ci := 0) rfl 6 (by decide) q218 rfl (hW8.at hg9) rfl dX0_undo_25 ?_
    refine lv_aload_n hx hb dX0_undo_28 rfl (lv_at hl 0 rfl) ?_
    refine ps_get (v := .int (nI (S.1 3 - 1))) X in_X0 (ci := 0) rfl 7 (by decide) q219 rfl (hW8.at hg9) rfl dX0_undo_29 ?_
    refine ps_aald (j := S.1 3 - 1) (o := some qk) X (t := 5) rfl (hW8.at hpa) rfl (by show S.1 3 - 1 < 24; omega) (by first | decide | omega) ((hpk _ (by omega)).trans hsn) dX0_undo_32 ?_
    refine ps_geV X hE (m_X2_become l hE hZ hW8 hSoA hqq.2 hO hqq.1 hqne) (lw_V q808 q809 q810 q70 q811) (by decide +kernel) ⟨⟨Nat.le_of_ble_eq_true rfl, Nat.le_of_ble_eq_true rfl⟩, Nat.le_of_ble_eq_true rfl, Nat.le_of_ble_eq_true rfl⟩ (ps_rc X (ci := 2) rfl (hW8.at hAd.1)) hS6 hl.1 (As := [.ref (qk)]) (rest := []) (n := 1) rfl rfl (Nat.le_of_ble_eq_true rfl) dX0_undo_33 (fun v15 H11 locs12 hp13 hS14 => ?_)
    obtain ⟨hv19, Γ16, ow20, hW17, hgf18, hsp21, hSo22⟩ := hp13
    subst hv19
    refine ps_st (st' := []) rfl ?_
    refine lv_aload_n hx hb dX0_undo_36 rfl (lv_at hl 0 rfl) ?_
    refine ps_get (v := .int (nI (S.1 3 - 1))) X in_X0 (ci := 0) rfl 7 (by decide) q219 rfl (hW17.at (hsp21.k hg9 hOb1.2 (by first | exact fun h => h | ((try dsimp only) <;> omega)))) rfl dX0_undo_37 ?_
    exact ps_iretG X hS14 (Nat.le_of_ble_eq_true rfl) (Nat.le_of_ble_eq_true rfl) dX0_undo_40 (ps_cend (S1 := (sSt S1 (S.2.1 (10 + (S.1 3 - 1))))) (by simp only [sSt, e1, op_undo, if_neg c_4]) hW17 ((ps_gf.rf.put hOb.1 hz4 hq5 ho10).tr hgf18) (ps_Cx.scl hOb1 hRw1 hTp1 hTr1 hSx1 hSl1 hsp21 hqq.1 hSo22))
  · skip
    refine lv_ldc (v := -1000002) hx hb ho (hts _ q867) dX0_undo_7 ?_
    exact ps_iretG X hS (Nat.le_of_ble_eq_true rfl) (Nat.le_of_ble_eq_true rfl) dX0_undo_9 (ps_cend (S1 := S) (by simp [op_undo, c_4]) hW ps_gf.rf hC)

set_option maxHeartbeats 4000000 in
theorem m_X0_image (l : Launch) {E : ps_E} (hE : ps_ZT E) {z : Nat} (hZ : ps_Zk E z) {Γ : ps_Gh} {H : Heap} (hW : ps_W E Γ H) {x : Nat} {S : SS} {ow : ps_Ow} (hC : ps_Cx E z Γ ow x S) (hwf : wf S) {v : Int32} : ps_Ge l E yX0_image cX0_image 2 (some .int) 6 133 12 102 [.ref (x), .int (v)] H (ps_cpost E z Γ H x (op_image S v)) := by
  refine ps_Ge.of (by decide) (Nat.le_of_ble_eq_true rfl) ?_
  intro p e s m args below meth c X ls hl
  have hx := X.1
  have hb := X.2.1
  have ho := X.2.2.2.1
  have hts := X.2.2.2.2.1
  have hS : va_S (ps_A E) s.heap H [] := by rw [X.2.2.2.2.2.2.2.2.1]; exact va_S.rf
  have hl : lv_has ls 2 [(0, .ref (x)), (1, .int (v))] := hl
  have hO := hwf.1
  have hm := hO.m
  have hn := hwf.n
  obtain ⟨tr, sa, τ, hOb, hRw, hTp, hTr, hSx, hSl⟩ := id hC
  have hSo := (hSx.2.2.2.2 0 _ hSx.1.1).2
  rw [hSl.1] at hSo
  obtain ⟨smc, sr, pf, kf, tf, df, hD, hOw, hrr, hpo⟩ := id hSo
  refine lv_iload_n hx hb dX0_image_0 rfl (lv_at hl 1 rfl) ?_
  refine lv_i2l (v := (v).toInt64) hx hb dX0_image_1 rfl ?_
  refine lv_lconst (v := lN 0) hx hb dX0_image_2 rfl ?_
  refine lv_lconst (v := lN 1) hx hb dX0_image_3 rfl ?_
  refine ps_roS X hE (m_X0_isIn l hE (H := H) (x := v) (lo := 0) (hi := 2) (lN_toInt (by decide)) (ps_hcN 1 (by decide))) (lw_S q340 q341 q68 q342) (by decide +kernel) ⟨⟨Nat.le_of_ble_eq_true rfl, Nat.le_of_ble_eq_true rfl⟩, Nat.le_of_ble_eq_true rfl, Nat.le_of_ble_eq_true rfl⟩ hS hl.1 (As := [.long ((v).toInt64), .long (lN 0), .long (lN 1)]) (rest := []) (n := 3) rfl rfl (Nat.le_of_ble_eq_true rfl) dX0_image_4 ?_
  refine ps_st (st' := [.int (bI (rng v 0 2))]) rfl ?_
  refine ps_ifneB (tgt := 13) hx hb dX0_image_7 (by decide) (fun c_7 => ?_) (fun c_7 => ?_)
  · skip
    obtain ⟨k, rfl, k_lo, k_hi, k_b⟩ := rng_t c_7
    have cl_k : (nI k).toNatClampNeg = k := nI_clamp (by omega)
    refine lv_aload_n hx hb dX0_image_13 rfl (lv_at hl 0 rfl) ?_
    refine ps_roV X hE (m_X0_isThere l hE hZ hW hOb.1 hD hO ) (lw_V q935 q937 qs20 q68 q938) (by decide +kernel) ⟨⟨Nat.le_of_ble_eq_true rfl, Nat.le_of_ble_eq_true rfl⟩, Nat.le_of_ble_eq_true rfl, Nat.le_of_ble_eq_true rfl⟩ (ps_rc X (ci := 0) rfl (hW.at hOb.1)) hS hl.1 (As := []) (rest := []) (n := 0) rfl rfl (Nat.le_of_ble_eq_true rfl) dX0_image_14 ?_
    refine ps_st (st' := [.int (bI (decide (1 ≤ (S.2.1 0) 1)))]) rfl ?_
    refine ps_ifneB (tgt := 23) hx hb dX0_image_17 (by decide) (fun c_17 => ?_) (fun c_17 => ?_)
    · skip
      have h1 : 1 ≤ (S.2.1 0) 1 := of_decide_eq_true c_17
      have h1' : ¬ (S.2.1 0) 1 = 0 := by omega
      obtain ⟨ia, hia, hio, hik⟩ := hSx.2.2.1
      refine lv_aload_n hx hb dX0_image_23 rfl (lv_at hl 0 rfl) ?_
      refine ps_get (v := .ref (x + 20)) X in_X0 (ci := 0) rfl 8 (by decide) q220 rfl (hW.at hOb.1) rfl dX0_image_24 ?_
      rcases hsn : sa (40 + k) with _ | qk
      · skip
        refine lv_iload_n hx hb dX0_image_27 rfl (lv_at hl 1 rfl) ?_
        refine ps_aald (j := k) (o := none) X (t := 5) rfl (hW.at hia) rfl (by show k < 2; omega) (by first | decide | omega) ((hik _ (by omega)).trans hsn) dX0_image_28 ?_
        refine lv_ifnonnullN hx hb dX0_image_29 ?_
        refine lv_aload_n hx hb dX0_image_32 rfl (lv_at hl 0 rfl) ?_
        refine ps_get (v := .ref (x + 20)) X in_X0 (ci := 0) rfl 8 (by decide) q220 rfl (hW.at hOb.1) rfl dX0_image_33 ?_
        refine lv_iload_n hx hb dX0_image_36 rfl (lv_at hl 1 rfl) ?_
        refine ps_new (fs := [.int (nI 0), .int (nI 0), .int (nI 0), .null, .null, .null, .int (nI 0)]) X in_X2 tyX2_ok q128 q129 q70 (ci := 2) rfl (fun j hj => by
            obtain rfl | rfl | rfl | rfl | rfl | rfl | rfl : j = 0 ∨ j = 1 ∨ j = 2 ∨ j = 3 ∨ j = 4 ∨ j = 5 ∨ j = 6 := by omega
            all_goals rfl) ⟨(Nat.le_of_ble_eq_true rfl), (Nat.le_of_ble_eq_true rfl)⟩ hS dX0_image_37 (fun H1 ha2 hz3 hq4 hS5 => ?_)
        obtain ⟨Γ6, hW7, hg8, ho9⟩ := hW.new1 (Nat.le_trans (hW.A hOb.1) (Nat.le_of_lt (hW.lt hOb.1))) ha2 hq4
        refine lv_dup hx hb dX0_image_40 rfl ?_
        refine ps_geIN (host := "PromiseScales") X hE (m_X2_init l hE hZ hW7 hg8) (lw_meth q132) hZ q130 q70 q131 rfl (by decide +kernel) ⟨⟨Nat.le_of_ble_eq_true rfl, Nat.le_of_ble_eq_true rfl⟩, Nat.le_of_ble_eq_true rfl, Nat.le_of_ble_eq_true rfl⟩ hS5 hl.1 (As := []) (rest := [.ref (H.size), .int (nI k), .ref (x + 20)]) (n := 0) rfl rfl (Nat.le_of_ble_eq_true rfl) dX0_image_41 (fun v14 H10 locs11 hp12 hS13 => ?_)
        obtain ⟨hv23, hz24, Γ15, hW16, hgf17, hg18, hg19, hg20, hg21, ho22⟩ := hp12
        subst hv23
        have hborn25 : ps_So E z Γ15 (ps_own ow H.size) H.size (fun _ => 0) := ps_So.born hz3 hg18 hg19 hg20 hg21
        have hkeep26 : ∀ a, a < H.size → Γ15 a = Γ a := fun a ha => (ho22 a (by omega) (by omega)).trans (ho9 a (by omega))
        refine ps_st (st' := [.ref (H.size), .int (nI k), .ref (x + 20)]) rfl ?_
        refine ps_aast (j := k) X (t := 5) (C := "PromiseScales$Scales") rfl (hW16.at ((hkeep26 _ (hW.lt hia)).trans hia)) (hW16.at hg18) (ci := 2) rfl (Or.inl rfl) rfl (by show k < 2; omega) (by decide) (hW16.A ((hkeep26 _ (hW.lt hia)).trans hia)) hS13 dX0_image_44 (fun H27 locs28 ha29 hz30 hq31 hS32 => ?_)
        obtain ⟨Γ33, hW34, hg35, ho36⟩ := hW16.put1 ((hkeep26 _ (hW.lt hia)).trans hia) ha29 hq31
        have hlt : ∀ a e, Γ a = some e → a < H.size := fun a e h => hW.lt h
        have hspF : ps_sp (fun _ => False) Γ ow Γ15 (ps_own ow H.size) := ps_sp.rf.born hlt hkeep26
        have hsp4 : ps_sp (fun w => w = 4) Γ15 (ps_own ow H.size) Γ33 (ps_own ow H.size) := ps_sp.rf.put (hspF.o hia hio) rfl hg35 ho36
        have hSx9 := ps_Sx.newI (P := fun _ => False) hSx k_hi hsn (fun r i h e => by
          obtain ⟨_, _, _, _, _, _, h9, _⟩ := (hSx.2.2.2.2 i r h).2
          have := hlt _ _ h9.1
          omega) hspF (by first | exact fun h => h | ((try dsimp only) <;> omega)) (by first | exact fun h => h | ((try dsimp only) <;> omega)) (fun w => (by first | exact fun h => h | ((try dsimp only) <;> omega))) hborn25 (hspF.k hia hio (by first | exact fun h => h | ((try dsimp only) <;> omega))) hik (hspF.o hia hio) hg35 ho36
        have hOb9 := (hOb.kept hspF (by first | exact fun h => h | ((try dsimp only) <;> omega))).kept hsp4 (by first | exact fun h => h | ((try dsimp only) <;> omega))
        have hRw9 := (hRw.kept hspF (by first | exact fun h => h | ((try dsimp only) <;> omega))).kept hsp4 (by first | exact fun h => h | ((try dsimp only) <;> omega))
        have hTp9 := (hTp.kept hspF (by first | exact fun h => h | ((try dsimp only) <;> omega))).kept hsp4 (by first | exact fun h => h | ((try dsimp only) <;> omega))
        have hTr9 := (hTr.kept hspF (by first | exact fun h => h | ((try dsimp only) <;> omega))).kept hsp4 (by first | exact fun h => h | ((try dsimp only) <;> omega))
        have hsq9 : va_up sa (40 + k) (some (H.size)) (40 + k) = some (H.size) := va_up_self ..
        have hSoA := (hSx9.2.2.2.2 0 _ hSx9.1.1).2
        rw [((va_up_ne _ _ (by omega)).trans hSl.1)] at hSoA
        have hqne : H.size ≠ x + 11 := fun e => by
          have h9 := hSx9.2.2.2.1 _ _ _ hsq9 (hSx9.1.1.trans (congrArg some e.symm))
          omega
        obtain ⟨_, _, _, _, _, _, hQd, _⟩ := (hSx9.2.2.2.2 _ _ hsq9).2
        have hQ := hQd.1
        obtain ⟨_, _, _, _, _, _, hAd, _⟩ := id hSoA
        refine lv_aload_n hx hb dX0_image_45 rfl (lv_at hl 0 rfl) ?_
        refine ps_get (v := .ref (x + 20)) X in_X0 (ci := 0) rfl 8 (by decide) q220 rfl (hW34.at hOb9.1) rfl dX0_image_46 ?_
        refine lv_iload_n hx hb dX0_image_49 rfl (lv_at hl 1 rfl) ?_
        refine ps_aald (j := k) (o := some (H.size)) X (t := 5) rfl (hW34.at hg35) rfl (by show k < 2; omega) (by first | decide | omega) (va_up_self ..) dX0_image_50 ?_
        refine lv_aload_n hx hb dX0_image_51 rfl (lv_at hl 0 rfl) ?_
        refine ps_get (v := .ref (x + 11)) X in_X0 (ci := 0) rfl 4 (by decide) q216 rfl (hW34.at hOb9.1) rfl dX0_image_52 ?_
        refine ps_geV X hE (m_X2_become l hE hZ hW34 (hSx9.2.2.2.2 _ _ hsq9).2 hSoA (hSx9.2.2.2.2 _ _ hsq9).1 hO hqne) (lw_V q808 q809 q810 q70 q811) (by decide +kernel) ⟨⟨Nat.le_of_ble_eq_true rfl, Nat.le_of_ble_eq_true rfl⟩, Nat.le_of_ble_eq_true rfl, Nat.le_of_ble_eq_true rfl⟩ (ps_rc X (ci := 2) rfl (hW34.at hQ)) hS32 hl.1 (As := [.ref (x + 11)]) (rest := []) (n := 1) rfl rfl (Nat.le_of_ble_eq_true rfl) dX0_image_55 (fun v41 H37 locs38 hp39 hS40 => ?_)
        obtain ⟨hv45, Γ42, ow46, hW43, hgf44, hsp47, hSo48⟩ := hp39
        subst hv45
        refine ps_st (st' := []) rfl ?_
        refine lv_iconst (v := nI 1) hx hb dX0_image_58 rfl ?_
        exact ps_iretG X hS40 (Nat.le_of_ble_eq_true rfl) (Nat.le_of_ble_eq_true rfl) dX0_image_59 (ps_cend (S1 := (S.1, va_up (va_up S.2.1 5 (va_up (S.2.1 5) k 1)) (40 + k) (S.2.1 0), S.2.2)) (by simp [op_image, c_7, cl_k, h1, h1']) hW43 ((((ps_gf.rf.new hz3 hq4 ho9).tr hgf17).put ((hkeep26 _ (hW.lt hia)).trans hia) hz30 hq31 ho36).tr hgf44) (ps_Cx.img hOb9 hRw9 hTp9 hTr9 hSx9 ((va_up_ne _ _ (by omega)).trans hSl.1) (fun j hj => by rw [va_up_ne _ _ (by omega), va_up_ne _ _ (by omega)]; exact hSl.2.1 j hj) (fun j hj hjk => by rw [va_up_ne _ _ (by omega), va_up_ne _ _ (by omega)]; exact hSl.2.2 j hj) hn.2.2.2.1 k_hi hsq9 hO hsp47 hSo48))
      · skip
        refine lv_iload_n hx hb dX0_image_27 rfl (lv_at hl 1 rfl) ?_
        refine ps_aald (j := k) (o := some qk) X (t := 5) rfl (hW.at hia) rfl (by show k < 2; omega) (by first | decide | omega) ((hik _ (by omega)).trans hsn) dX0_image_28 ?_
        refine lv_ifnonnull (tgt := 45) hx hb dX0_image_29 (by decide) ?_
        have hSoA := (hSx.2.2.2.2 0 _ hSx.1.1).2
        rw [hSl.1] at hSoA
        have hqne : qk ≠ x + 11 := fun e => by
          have h9 := hSx.2.2.2.1 _ _ _ hsn (hSx.1.1.trans (congrArg some e.symm))
          omega
        obtain ⟨_, _, _, _, _, _, hQd, _⟩ := (hSx.2.2.2.2 _ _ hsn).2
        have hQ := hQd.1
        obtain ⟨_, _, _, _, _, _, hAd, _⟩ := id hSoA
        refine lv_aload_n hx hb dX0_image_45 rfl (lv_at hl 0 rfl) ?_
        refine ps_get (v := .ref (x + 20)) X in_X0 (ci := 0) rfl 8 (by decide) q220 rfl (hW.at hOb.1) rfl dX0_image_46 ?_
        refine lv_iload_n hx hb dX0_image_49 rfl (lv_at hl 1 rfl) ?_
        refine ps_aald (j := k) (o := some qk) X (t := 5) rfl (hW.at hia) rfl (by show k < 2; omega) (by first | decide | omega) ((hik _ (by omega)).trans hsn) dX0_image_50 ?_
        refine lv_aload_n hx hb dX0_image_51 rfl (lv_at hl 0 rfl) ?_
        refine ps_get (v := .ref (x + 11)) X in_X0 (ci := 0) rfl 4 (by decide) q216 rfl (hW.at hOb.1) rfl dX0_image_52 ?_
        refine ps_geV X hE (m_X2_become l hE hZ hW (hSx.2.2.2.2 _ _ hsn).2 hSoA (hSx.2.2.2.2 _ _ hsn).1 hO hqne) (lw_V q808 q809 q810 q70 q811) (by decide +kernel) ⟨⟨Nat.le_of_ble_eq_true rfl, Nat.le_of_ble_eq_true rfl⟩, Nat.le_of_ble_eq_true rfl, Nat.le_of_ble_eq_true rfl⟩ (ps_rc X (ci := 2) rfl (hW.at hQ)) hS hl.1 (As := [.ref (x + 11)]) (rest := []) (n := 1) rfl rfl (Nat.le_of_ble_eq_true rfl) dX0_image_55 (fun v53 H49 locs50 hp51 hS52 => ?_)
        obtain ⟨hv57, Γ54, ow58, hW55, hgf56, hsp59, hSo60⟩ := hp51
        subst hv57
        refine ps_st (st' := []) rfl ?_
        refine lv_iconst (v := nI 1) hx hb dX0_image_58 rfl ?_
        exact ps_iretG X hS52 (Nat.le_of_ble_eq_true rfl) (Nat.le_of_ble_eq_true rfl) dX0_image_59 (ps_cend (S1 := (S.1, va_up (va_up S.2.1 5 (va_up (S.2.1 5) k 1)) (40 + k) (S.2.1 0), S.2.2)) (by simp [op_image, c_7, cl_k, h1, h1']) hW55 (ps_gf.rf.tr hgf56) (ps_Cx.img hOb hRw hTp hTr hSx hSl.1 hSl.2.1 (fun j hj _ => hSl.2.2 j hj) hn.2.2.2.1 k_hi hsn hO hsp59 hSo60))
    · skip
      have h1 : ¬ 1 ≤ (S.2.1 0) 1 := of_decide_eq_false c_17
      have h1' : (S.2.1 0) 1 = 0 := by omega
      refine lv_ldc (v := -1000002) hx hb ho (hts _ q867) dX0_image_20 ?_
      exact ps_iretG X hS (Nat.le_of_ble_eq_true rfl) (Nat.le_of_ble_eq_true rfl) dX0_image_22 (ps_cend (S1 := S) (by simp [op_image, c_7, cl_k, h1']) hW ps_gf.rf hC)
  · skip
    refine lv_ldc (v := -1000001) hx hb ho (hts _ q344) dX0_image_10 ?_
    exact ps_iretG X hS (Nat.le_of_ble_eq_true rfl) (Nat.le_of_ble_eq_true rfl) dX0_image_12 (ps_cend (S1 := S) (by simp [op_image, c_7]) hW ps_gf.rf hC)

set_option maxHeartbeats 4000000 in
theorem m_X0_restore (l : Launch) {E : ps_E} (hE : ps_ZT E) {z : Nat} (hZ : ps_Zk E z) {Γ : ps_Gh} {H : Heap} (hW : ps_W E Γ H) {x : Nat} {S : SS} {ow : ps_Ow} (hC : ps_Cx E z Γ ow x S) (hwf : wf S) {v : Int32} : ps_Ge l E yX0_restore cX0_restore 2 (some .int) 6 133 8 80 [.ref (x), .int (v)] H (ps_cpost E z Γ H x (op_restore S v)) := by
  refine ps_Ge.of (by decide) (Nat.le_of_ble_eq_true rfl) ?_
  intro p e s m args below meth c X ls hl
  have hx := X.1
  have hb := X.2.1
  have ho := X.2.2.2.1
  have hts := X.2.2.2.2.1
  have hS : va_S (ps_A E) s.heap H [] := by rw [X.2.2.2.2.2.2.2.2.1]; exact va_S.rf
  have hl : lv_has ls 2 [(0, .ref (x)), (1, .int (v))] := hl
  have hO := hwf.1
  have hm := hO.m
  have hn := hwf.n
  obtain ⟨tr, sa, τ, hOb, hRw, hTp, hTr, hSx, hSl⟩ := id hC
  have hSo := (hSx.2.2.2.2 0 _ hSx.1.1).2
  rw [hSl.1] at hSo
  obtain ⟨smc, sr, pf, kf, tf, df, hD, hOw, hrr, hpo⟩ := id hSo
  refine lv_iload_n hx hb dX0_restore_0 rfl (lv_at hl 1 rfl) ?_
  refine lv_i2l (v := (v).toInt64) hx hb dX0_restore_1 rfl ?_
  refine lv_lconst (v := lN 0) hx hb dX0_restore_2 rfl ?_
  refine lv_lconst (v := lN 1) hx hb dX0_restore_3 rfl ?_
  refine ps_roS X hE (m_X0_isIn l hE (H := H) (x := v) (lo := 0) (hi := 2) (lN_toInt (by decide)) (ps_hcN 1 (by decide))) (lw_S q340 q341 q68 q342) (by decide +kernel) ⟨⟨Nat.le_of_ble_eq_true rfl, Nat.le_of_ble_eq_true rfl⟩, Nat.le_of_ble_eq_true rfl, Nat.le_of_ble_eq_true rfl⟩ hS hl.1 (As := [.long ((v).toInt64), .long (lN 0), .long (lN 1)]) (rest := []) (n := 3) rfl rfl (Nat.le_of_ble_eq_true rfl) dX0_restore_4 ?_
  refine ps_st (st' := [.int (bI (rng v 0 2))]) rfl ?_
  refine ps_ifneB (tgt := 13) hx hb dX0_restore_7 (by decide) (fun c_7 => ?_) (fun c_7 => ?_)
  · skip
    obtain ⟨k, rfl, k_lo, k_hi, k_b⟩ := rng_t c_7
    have cl_k : (nI k).toNatClampNeg = k := nI_clamp (by omega)
    obtain ⟨ia, hia, hio, hik⟩ := hSx.2.2.1
    refine lv_aload_n hx hb dX0_restore_13 rfl (lv_at hl 0 rfl) ?_
    refine ps_get (v := .ref (x + 20)) X in_X0 (ci := 0) rfl 8 (by decide) q220 rfl (hW.at hOb.1) rfl dX0_restore_14 ?_
    rcases hsn : sa (40 + k) with _ | qk
    · skip
      have h5 : ¬ S.2.1 5 k = 1 := fun h => ((hSl.2.2 k k_hi).2 h).1 hsn
      refine lv_iload_n hx hb dX0_restore_17 rfl (lv_at hl 1 rfl) ?_
      refine ps_aald (j := k) (o := none) X (t := 5) rfl (hW.at hia) rfl (by show k < 2; omega) (by first | decide | omega) ((hik _ (by omega)).trans hsn) dX0_restore_18 ?_
      refine lv_ifnonnullN hx hb dX0_restore_19 ?_
      refine lv_ldc (v := -1000002) hx hb ho (hts _ q867) dX0_restore_22 ?_
      exact ps_iretG X hS (Nat.le_of_ble_eq_true rfl) (Nat.le_of_ble_eq_true rfl) dX0_restore_24 (ps_cend (S1 := S) (by simp [op_restore, c_7, cl_k, h5]) hW ps_gf.rf hC)
    · skip
      have h5 : S.2.1 5 k = 1 := by
        by_cases e : S.2.1 5 k = 1
        · exact e
        · rw [(hSl.2.2 k k_hi).1 e] at hsn; cases hsn
      have hqq := hSx.2.2.2.2 _ _ hsn
      rw [((hSl.2.2 k k_hi).2 h5).2] at hqq
      have hqne : x + 11 ≠ qk := fun e => by
        have h9 := hSx.2.2.2.1 _ _ _ hsn (hSx.1.1.trans (congrArg some e))
        omega
      obtain ⟨_, _, _, _, _, _, hQd, _⟩ := hqq.2
      have hQ := hQd.1
      refine lv_iload_n hx hb dX0_restore_17 rfl (lv_at hl 1 rfl) ?_
      refine ps_aald (j := k) (o := some qk) X (t := 5) rfl (hW.at hia) rfl (by show k < 2; omega) (by first | decide | omega) ((hik _ (by omega)).trans hsn) dX0_restore_18 ?_
      refine lv_ifnonnull (tgt := 25) hx hb dX0_restore_19 (by decide) ?_
      refine lv_aload_n hx hb dX0_restore_25 rfl (lv_at hl 0 rfl) ?_
      refine ps_get (v := .ref (x + 11)) X in_X0 (ci := 0) rfl 4 (by decide) q216 rfl (hW.at hOb.1) rfl dX0_restore_26 ?_
      refine lv_aload_n hx hb dX0_restore_29 rfl (lv_at hl 0 rfl) ?_
      refine ps_get (v := .ref (x + 20)) X in_X0 (ci := 0) rfl 8 (by decide) q220 rfl (hW.at hOb.1) rfl dX0_restore_30 ?_
      refine lv_iload_n hx hb dX0_restore_33 rfl (lv_at hl 1 rfl) ?_
      refine ps_aald (j := k) (o := some qk) X (t := 5) rfl (hW.at hia) rfl (by show k < 2; omega) (by first | decide | omega) ((hik _ (by omega)).trans hsn) dX0_restore_34 ?_
      refine ps_geV X hE (m_X2_become l hE hZ hW hSo hqq.2 hO hqq.1 hqne) (lw_V q808 q809 q810 q70 q811) (by decide +kernel) ⟨⟨Nat.le_of_ble_eq_true rfl, Nat.le_of_ble_eq_true rfl⟩, Nat.le_of_ble_eq_true rfl, Nat.le_of_ble_eq_true rfl⟩ (ps_rc X (ci := 2) rfl (hW.at hD.1)) hS hl.1 (As := [.ref (qk)]) (rest := []) (n := 1) rfl rfl (Nat.le_of_ble_eq_true rfl) dX0_restore_35 (fun v5 H1 locs2 hp3 hS4 => ?_)
      obtain ⟨hv9, Γ6, ow10, hW7, hgf8, hsp11, hSo12⟩ := hp3
      subst hv9
      refine ps_st (st' := []) rfl ?_
      have hCb : ps_Cx E z Γ6 ow10 x (sSt S (S.2.1 (40 + k))) := ps_Cx.scl hOb hRw hTp hTr hSx hSl hsp11 hqq.1 hSo12
      refine lv_aload_n hx hb dX0_restore_38 rfl (lv_at hl 0 rfl) ?_
      refine lv_iconst (v := nI 0) hx hb dX0_restore_39 rfl ?_
      refine ps_put X in_X0 tyX0_ok nmX0 (ci := 0) rfl 7 (by decide) q219 rfl rfl rfl rfl (Nat.le_of_ble_eq_true rfl) (hW7.at (hsp11.k hOb.1 hOb.2 (by first | exact fun h => h | ((try dsimp only) <;> omega)))) (hW7.A (hsp11.k hOb.1 hOb.2 (by first | exact fun h => h | ((try dsimp only) <;> omega)))) hS4 dX0_restore_40 (fun H13 locs14 ha15 hz16 hq17 hS18 => ?_)
      obtain ⟨Γ19, hW20, hg21, ho22⟩ := hW7.put1 (hsp11.k hOb.1 hOb.2 (by first | exact fun h => h | ((try dsimp only) <;> omega))) ha15 hq17
      refine lv_iconst (v := nI 1) hx hb dX0_restore_43 rfl ?_
      exact ps_iretG X hS18 (Nat.le_of_ble_eq_true rfl) (Nat.le_of_ble_eq_true rfl) dX0_restore_44 (ps_cend (S1 := (va_up S.1 3 0, va_up S.2.1 0 (S.2.1 (40 + k)), S.2.2)) (by simp [op_restore, c_7, cl_k, h5]) hW20 ((ps_gf.rf.tr hgf8).put (hsp11.k hOb.1 hOb.2 (by first | exact fun h => h | ((try dsimp only) <;> omega))) hz16 hq17 ho22) (ps_Cx.acts hCb (n := 0) (Nat.zero_le _) (hsp11.k hOb.1 hOb.2 (by first | exact fun h => h | ((try dsimp only) <;> omega))) hg21 ho22))
  · skip
    refine lv_ldc (v := -1000001) hx hb ho (hts _ q344) dX0_restore_10 ?_
    exact ps_iretG X hS (Nat.le_of_ble_eq_true rfl) (Nat.le_of_ble_eq_true rfl) dX0_restore_12 (ps_cend (S1 := S) (by simp [op_restore, c_7]) hW ps_gf.rf hC)
