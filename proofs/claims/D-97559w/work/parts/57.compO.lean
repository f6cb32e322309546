/-! the component: what is foretold (printed by gen/comp15.py) -/
set_option maxRecDepth 100000
theorem ps_Cx.thn {E : ps_E} {z x tr : Nat} {Γ Γ1 : ps_Gh} {ow ow1 : ps_Ow} {σ : Nat → Nat} {sa : Nat → Option Nat} {τ : Nat → Nat → Nat} {S : SS} (hOb : ps_Ob Γ ow x tr S.1) (hRw : ps_Rw E Γ ow x (S.2.1 3) (S.2.1 4) S.2.2) (hTp : ps_Tp E Γ ow x (S.1 2) (S.2.1 1)) (hTr : ps_Tr E Γ ow tr (S.1 4) (S.2.1 2)) (hSx : ps_Sx E z Γ ow x sa τ) (hSl : ps_Sl sa τ S) (hs : ps_sp (fun w => w = x + 15 + 6) Γ ow Γ1 ow1) (hO : sp_ok σ) (hSo : ps_So E z Γ1 ow1 (x + 15) σ) : ps_Cx E z Γ1 ow1 x S :=
  ⟨tr, sa, _, hOb.kept hs (by omega), hRw.kept hs (by omega), hTp.kept hs (by omega), hTr.kept hs (by omega), hSx.upd hSx.1.2 hs (by omega) (by omega) (fun w hw => by omega) hO hSo, (va_up_ne _ _ (by omega)).trans hSl.1, fun k hk => by rw [va_up_ne _ _ (by omega)]; exact hSl.2.1 k hk, fun k hk => by rw [va_up_ne _ _ (by omega)]; exact hSl.2.2 k hk⟩

set_option maxHeartbeats 4000000 in
theorem m_X0_goOn (l : Launch) {E : ps_E} (hE : ps_ZT E) {z : Nat} (hZ : ps_Zk E z) {Γ : ps_Gh} {H : Heap} (hW : ps_W E Γ H) {x : Nat} {S : SS} {ow : ps_Ow} (hC : ps_Cx E z Γ ow x S) (hwf : wf S) {h : Nat} (hh : h < 21) : ps_Ge l E yX0_goOn cX0_goOn 4 none 21 641 8 80 [.ref (x), .int (nI h)] H (fun v H1 => v = none ∧ ∃ Γ1 ow1, ps_W E Γ1 H1 ∧ ps_gf Γ H Γ1 H1 ∧ ps_Cx E z Γ1 ow1 x S ∧ ps_So E z Γ1 ow1 (x + 15) (sp_go (S.2.1 0) h 10)) := by
  refine ps_Ge.of (by decide) (Nat.le_of_ble_eq_true rfl) ?_
  intro p e s m args below meth c X ls hl
  have hx := X.1
  have hb := X.2.1
  have ho := X.2.2.2.1
  have hts := X.2.2.2.2.1
  have hS : va_S (ps_A E) s.heap H [] := by rw [X.2.2.2.2.2.2.2.2.1]; exact va_S.rf
  have hl : lv_has ls 4 [(0, .ref (x)), (1, .int (nI h))] := hl
  have hO := hwf.1
  have hm := hO.m
  have hgo := fun d => sp_go_ok hO (hv := h) (d := d)
  obtain ⟨tr, sa, τ, hOb, hRw, hTp, hTr, hSx, hSl⟩ := id hC
  have hSo := (hSx.2.2.2.2 0 _ hSx.1.1).2
  rw [hSl.1] at hSo
  obtain ⟨smc, sr, pf, kf, tf, df, hD, hOw, hrr, hpo⟩ := id hSo
  have hSth := hSx.2.2.2.2 1 _ hSx.1.2
  obtain ⟨_, _, _, _, _, _, hTh, _⟩ := id hSth.2
  refine lv_aload_n hx hb dX0_goOn_0 rfl (lv_at hl 0 rfl) ?_
  refine ps_get (v := .ref (x + 15)) X in_X0 (ci := 0) rfl 5 (by decide) q217 rfl (hW.at hOb.1) rfl dX0_goOn_1 ?_
  refine lv_aload_n hx hb dX0_goOn_4 rfl (lv_at hl 0 rfl) ?_
  refine ps_get (v := .ref (x + 11)) X in_X0 (ci := 0) rfl 4 (by decide) q216 rfl (hW.at hOb.1) rfl dX0_goOn_5 ?_
  refine ps_geV X hE (m_X2_become l hE hZ hW hSth.2 hSo hSth.1 hO (by omega)) (lw_V q808 q809 q810 q70 q811) (by decide +kernel) ⟨⟨Nat.le_of_ble_eq_true rfl, Nat.le_of_ble_eq_true rfl⟩, Nat.le_of_ble_eq_true rfl, Nat.le_of_ble_eq_true rfl⟩ (ps_rc X (ci := 2) rfl (hW.at hTh.1)) hS hl.1 (As := [.ref (x + 11)]) (rest := []) (n := 1) rfl rfl (Nat.le_of_ble_eq_true rfl) dX0_goOn_8 (fun v5 H1 locs2 hp3 hS4 => ?_)
  obtain ⟨hv9, Γ6, ow10, hW7, hgf8, hsp11, hSo12⟩ := hp3
  subst hv9
  refine ps_st (st' := []) rfl ?_
  refine lv_iconst (v := nI 0) hx hb dX0_goOn_11 rfl ?_
  refine lv_istore_n (lv' := [(2, .int (nI 0)), (0, .ref (x)), (1, .int (nI h))]) hx hb dX0_goOn_12 rfl hl (by decide) rfl (fun ls hl => ?_)
  have L13 : ∀ (n : Nat) (d : Nat) (Γi : ps_Gh) (owi : ps_Ow) (Hi : Heap) (locsi : List Loc) (hd : d ≤ 10) (hWi : ps_W E Γi Hi) (hgi : ps_gf Γ H Γi Hi) (hspi : ps_sp (fun w => w = x + 15 + 6) Γ ow Γi owi) (hSoi : ps_So E z Γi owi (x + 15) (sp_go (S.2.1 0) h d)) (hSi : va_S (ps_A E) s.heap Hi locsi) (hmu : 10 - d < n) (ls : Array Slot) (hl : lv_has ls 4 [(2, .int (nI d)), (0, .ref (x)), (1, .int (nI h))]), W p l e ({ frames := 21, cells := 8, slots := 80, locals := 641 } : Room) s m args below meth c Hi locsi (0 + 8) (0 + 80) (MQ below (ps_ge (fun v H1 => v = none ∧ ∃ Γ1 ow1, ps_W E Γ1 H1 ∧ ps_gf Γ H Γ1 H1 ∧ ps_Cx E z Γ1 ow1 x S ∧ ps_So E z Γ1 ow1 (x + 15) (sp_go (S.2.1 0) h 10)) (ps_A E)) args s 8 80 (ps_A E)) (F0 m 13 ls []) := by
    intro n
    induction n with
    | zero => intro d Γi owi Hi locsi hd hWi hgi hspi hSoi hSi hmu; exact absurd hmu (Nat.not_lt_zero _)
    | succ n ih13 =>
      intro d Γi owi Hi locsi hd hWi hgi hspi hSoi hSi hmu ls hl
      refine lv_iload_n hx hb dX0_goOn_13 rfl (lv_at hl 0 rfl) ?_
      refine lv_bipush (v := nI 9) hx hb dX0_goOn_14 rfl ?_
      refine ps_cgt (tgt := 95) hx hb dX0_goOn_16 (by decide) (by omega) (fun c_16 => ?_) (fun c_16 => ?_)
      · skip
        have ed : d = 10 := by omega
        exact ps_vretG X hSi (Nat.le_of_ble_eq_true rfl) (Nat.le_of_ble_eq_true rfl) dX0_goOn_95 (⟨rfl, _, _, hWi, hgi, ps_Cx.thn hOb hRw hTp hTr hSx hSl hspi (hgo 10).1 (by rw [← ed]; exact hSoi), by rw [← ed]; exact hSoi⟩)
      · skip
        refine lv_iconst (v := nI 0) hx hb dX0_goOn_19 rfl ?_
        refine lv_istore_n (lv' := [(3, .int (nI 0)), (2, .int (nI d)), (0, .ref (x)), (1, .int (nI h))]) hx hb dX0_goOn_20 rfl hl (by decide) rfl (fun ls hl => ?_)
        have L21 : ∀ (n : Nat) (n1 : Nat) (Γj : ps_Gh) (owj : ps_Ow) (Hj : Heap) (locsj : List Loc) (hn1 : n1 ≤ S.2.1 0 3) (hWj : ps_W E Γj Hj) (hgj : ps_gf Γ H Γj Hj) (hspj : ps_sp (fun w => w = x + 15 + 6) Γ ow Γj owj) (hSoj : ps_So E z Γj owj (x + 15) (sp_goD (sp_go (S.2.1 0) h d) h d n1)) (hSj : va_S (ps_A E) s.heap Hj locsj) (hmu : S.2.1 0 3 - n1 < n) (ls : Array Slot) (hl : lv_has ls 4 [(3, .int (nI n1)), (2, .int (nI d)), (0, .ref (x)), (1, .int (nI h))]), W p l e ({ frames := 21, cells := 8, slots := 80, locals := 641 } : Room) s m args below meth c Hj locsj (0 + 8) (0 + 80) (MQ below (ps_ge (fun v H1 => v = none ∧ ∃ Γ1 ow1, ps_W E Γ1 H1 ∧ ps_gf Γ H Γ1 H1 ∧ ps_Cx E z Γ1 ow1 x S ∧ ps_So E z Γ1 ow1 (x + 15) (sp_go (S.2.1 0) h 10)) (ps_A E)) args s 8 80 (ps_A E)) (F0 m 21 ls []) := by
          intro n
          induction n with
          | zero => intro n1 Γj owj Hj locsj hn1 hWj hgj hspj hSoj hSj hmu; exact absurd hmu (Nat.not_lt_zero _)
          | succ n ih21 =>
            intro n1 Γj owj Hj locsj hn1 hWj hgj hspj hSoj hSj hmu ls hl
            have hgd := sp_goD_ok (hgo d).1 (hv := h) (d := d) (n := n1) (by have := (hgo d).2 3 (by omega); omega)
            have e3d := hgd.2 3 (by omega)
            have e3 := (hgo d).2 3 (by omega)
            have hm1 := hgd.1.m
            have hSok := hSoj
            obtain ⟨smcj, srj, pfj, kfj, tfj, dfj, hDj, hOwj, hrrj, hpoj⟩ := id hSok
            refine lv_iload_n hx hb dX0_goOn_21 rfl (lv_at hl 0 rfl) ?_
            refine lv_aload_n hx hb dX0_goOn_22 rfl (lv_at hl 2 rfl) ?_
            refine ps_get (v := .ref (x + 15)) X in_X0 (ci := 0) rfl 5 (by decide) q217 rfl (hWj.at (hspj.k hOb.1 hOb.2 (by first | exact fun h => h | ((try dsimp only) <;> omega)))) rfl dX0_goOn_23 ?_
            refine ps_roV X hE (m_X2_many l hE hZ hWj hDj hgd.1 ) (lw_V q844 q647 q648 q70 q649) (by decide +kernel) ⟨⟨Nat.le_of_ble_eq_true rfl, Nat.le_of_ble_eq_true rfl⟩, Nat.le_of_ble_eq_true rfl, Nat.le_of_ble_eq_true rfl⟩ (ps_rc X (ci := 2) rfl (hWj.at hDj.1)) hSj hl.1 (As := []) (rest := [.int (nI n1)]) (n := 0) rfl rfl (Nat.le_of_ble_eq_true rfl) dX0_goOn_26 ?_
            refine ps_st (st' := [.int (nI ((sp_goD (sp_go (S.2.1 0) h d) h d n1) 3)), .int (nI n1)]) rfl ?_
            refine ps_cge (tgt := 89) hx hb dX0_goOn_29 (by decide) (by omega) (fun c_29 => ?_) (fun c_29 => ?_)
            · skip
              have en : n1 = S.2.1 0 3 := by omega
              refine lv_iinc (v := nI (d + 1)) (lv' := [(2, .int (nI (d + 1))), (3, .int (nI n1)), (0, .ref (x)), (1, .int (nI h))]) hx hb dX0_goOn_89 hl (k := 1) rfl (ps_inc _) (by decide) rfl (fun ls hl => ?_)
              refine lv_goto (tgt := 13) hx hb dX0_goOn_92 (by decide) ?_
              exact ih13  (d + 1) Γj owj Hj _ (by omega) hWj hgj hspj (by rw [sp_go, ← en]; exact hSok) hSj (by omega) ls (lv_sub hl [0, 2, 3] rfl)
            · skip
              refine lv_aload_n hx hb dX0_goOn_32 rfl (lv_at hl 2 rfl) ?_
              refine ps_get (v := .ref (x + 15)) X in_X0 (ci := 0) rfl 5 (by decide) q217 rfl (hWj.at (hspj.k hOb.1 hOb.2 (by first | exact fun h => h | ((try dsimp only) <;> omega)))) rfl dX0_goOn_33 ?_
              refine lv_iload_n hx hb dX0_goOn_36 rfl (lv_at hl 0 rfl) ?_
              refine ps_roV X hE (m_X2_isOpen l hE hZ hWj hDj hgd.1 (k := n1) (by omega)) (lw_V q860 q861 q862 q70 q863) (by decide +kernel) ⟨⟨Nat.le_of_ble_eq_true rfl, Nat.le_of_ble_eq_true rfl⟩, Nat.le_of_ble_eq_true rfl, Nat.le_of_ble_eq_true rfl⟩ (ps_rc X (ci := 2) rfl (hWj.at hDj.1)) hSj hl.1 (As := [.int (nI n1)]) (rest := []) (n := 1) rfl rfl (Nat.le_of_ble_eq_true rfl) dX0_goOn_37 ?_
              refine ps_st (st' := [.int (bI (sp_open (sp_goD (sp_go (S.2.1 0) h d) h d n1) n1))]) rfl ?_
              refine ps_ifeqB (tgt := 83) hx hb dX0_goOn_40 (by decide) (fun c_40 => ?_) (fun c_40 => ?_)
              · skip
                have hH : ¬ (sp_open (sp_goD (sp_go (S.2.1 0) h d) h d n1) n1 = true ∧ (sp_goD (sp_go (S.2.1 0) h d) h d n1) (33 + n1) = d) := fun z => by rw [c_40] at z; exact absurd z.1 (by decide)
                refine lv_iinc (v := nI (n1 + 1)) (lv' := [(3, .int (nI (n1 + 1))), (2, .int (nI d)), (0, .ref (x)), (1, .int (nI h))]) hx hb dX0_goOn_83 hl (k := 0) rfl (ps_inc _) (by decide) rfl (fun ls hl => ?_)
                refine lv_goto (tgt := 21) hx hb dX0_goOn_86 (by decide) ?_
                exact ih21  (n1 + 1) Γj owj Hj _ (by omega) hWj hgj hspj (by rw [sp_goD, if_neg hH]; exact hSok) hSj (by omega) ls (lv_sub hl [0, 1, 2, 3] rfl)
              · skip
                refine lv_aload_n hx hb dX0_goOn_43 rfl (lv_at hl 2 rfl) ?_
                refine ps_get (v := .ref (x + 15)) X in_X0 (ci := 0) rfl 5 (by decide) q217 rfl (hWj.at (hspj.k hOb.1 hOb.2 (by first | exact fun h => h | ((try dsimp only) <;> omega)))) rfl dX0_goOn_44 ?_
                refine lv_iload_n hx hb dX0_goOn_47 rfl (lv_at hl 0 rfl) ?_
                have hp := hgd.1.p (p := n1) (by omega)
                refine ps_roV X hE (m_X2_promise l hE hZ hWj hDj hgd.1 (k := n1) (by omega)) (lw_V q930 q888 q889 q70 q890) (by decide +kernel) ⟨⟨Nat.le_of_ble_eq_true rfl, Nat.le_of_ble_eq_true rfl⟩, Nat.le_of_ble_eq_true rfl, Nat.le_of_ble_eq_true rfl⟩ (ps_rc X (ci := 2) rfl (hWj.at hDj.1)) hSj hl.1 (As := [.int (nI n1)]) (rest := []) (n := 1) rfl rfl (Nat.le_of_ble_eq_true rfl) dX0_goOn_48 ?_
                refine ps_st (st' := [.ref (pfj n1)]) rfl ?_
                refine ps_pget (v := .int (nI ((sp_goD (sp_go (S.2.1 0) h d) h d n1) (33 + n1)))) X (hgd.1.p (p := n1) (by omega)).1 4 (by decide) q682 (hWj.at (hDj.2.2.2.2.2.2.2.2 n1 (by omega))) rfl dX0_goOn_51 ?_
                refine lv_iload_n hx hb dX0_goOn_54 rfl (lv_at hl 1 rfl) ?_
                refine ps_cne (tgt := 83) hx hb dX0_goOn_55 (by decide) (by omega) (fun c_55 => ?_) (fun c_55 => ?_)
                · skip
                  have hH : ¬ (sp_open (sp_goD (sp_go (S.2.1 0) h d) h d n1) n1 = true ∧ (sp_goD (sp_go (S.2.1 0) h d) h d n1) (33 + n1) = d) := fun z => c_55 z.2
                  refine lv_iinc (v := nI (n1 + 1)) (lv' := [(3, .int (nI (n1 + 1))), (2, .int (nI d)), (0, .ref (x)), (1, .int (nI h))]) hx hb dX0_goOn_83 hl (k := 0) rfl (ps_inc _) (by decide) rfl (fun ls hl => ?_)
                  refine lv_goto (tgt := 21) hx hb dX0_goOn_86 (by decide) ?_
                  exact ih21  (n1 + 1) Γj owj Hj _ (by omega) hWj hgj hspj (by rw [sp_goD, if_neg hH]; exact hSok) hSj (by omega) ls (lv_sub hl [0, 1, 2, 3] rfl)
                · skip
                  have hH : (sp_open (sp_goD (sp_go (S.2.1 0) h d) h d n1) n1 = true ∧ (sp_goD (sp_go (S.2.1 0) h d) h d n1) (33 + n1) = d) := ⟨c_40, c_55⟩
                  refine lv_aload_n hx hb dX0_goOn_58 rfl (lv_at hl 2 rfl) ?_
                  refine ps_get (v := .ref (x + 15)) X in_X0 (ci := 0) rfl 5 (by decide) q217 rfl (hWj.at (hspj.k hOb.1 hOb.2 (by first | exact fun h => h | ((try dsimp only) <;> omega)))) rfl dX0_goOn_59 ?_
                  refine lv_iload_n hx hb dX0_goOn_62 rfl (lv_at hl 0 rfl) ?_
                  have hw1 := sp_w_le hgd.1 (k := n1 + 1) (by omega)
                  have J80 : W p l e ({ frames := 21, cells := 8, slots := 80, locals := 641 } : Room) s m args below meth c Hj locsj (0 + 8) (0 + 80) (MQ below (ps_ge (fun v H1 => v = none ∧ ∃ Γ1 ow1, ps_W E Γ1 H1 ∧ ps_gf Γ H Γ1 H1 ∧ ps_Cx E z Γ1 ow1 x S ∧ ps_So E z Γ1 ow1 (x + 15) (sp_go (S.2.1 0) h 10)) (ps_A E)) args s 8 80 (ps_A E)) (F0 m 80 ls [.int (bI (decide (h ≤ sp_w (sp_goD (sp_go (S.2.1 0) h d) h d n1) (n1 + 1)))), .int (nI n1), .ref (x + 15)]) := by
                    refine ps_geV X hE (m_X2_settle l hE hZ hWj hDj hgd.1 (k := n1) (b := (decide (h ≤ sp_w (sp_goD (sp_go (S.2.1 0) h d) h d n1) (n1 + 1)))) (by omega)) (lw_V q924 q925 q926 q70 q927) (by decide +kernel) ⟨⟨Nat.le_of_ble_eq_true rfl, Nat.le_of_ble_eq_true rfl⟩, Nat.le_of_ble_eq_true rfl, Nat.le_of_ble_eq_true rfl⟩ (ps_rc X (ci := 2) rfl (hWj.at hDj.1)) hSj hl.1 (As := [.int (nI n1), .int (bI (decide (h ≤ sp_w (sp_goD (sp_go (S.2.1 0) h d) h d n1) (n1 + 1))))]) (rest := []) (n := 2) rfl rfl (Nat.le_of_ble_eq_true rfl) dX0_goOn_80 (fun v17 H13 locs14 hp15 hS16 => ?_)
                    obtain ⟨hv21, Γ18, kf22, tf23, hW19, hgf20, hD24, ho25⟩ := hp15
                    subst hv21
                    have hst26 := ps_So.setd (P := fun w => w = x + 15 + 6) hgd.1 (k := n1) (by omega) rfl hDj hOwj hrrj hpoj hD24 ho25
                    refine ps_st (st' := []) rfl ?_
                    refine lv_iinc (v := nI (n1 + 1)) (lv' := [(3, .int (nI (n1 + 1))), (2, .int (nI d)), (0, .ref (x)), (1, .int (nI h))]) hx hb dX0_goOn_83 hl (k := 0) rfl (ps_inc _) (by decide) rfl (fun ls hl => ?_)
                    refine lv_goto (tgt := 21) hx hb dX0_goOn_86 (by decide) ?_
                    exact ih21  (n1 + 1) Γ18 owj H13 _ (by omega) hW19 ((hgj.tr hgf20)) ((hspj.tr hst26.1)) (by rw [sp_goD, if_pos hH]; exact hst26.2) hS16 (by omega) ls (lv_sub hl [0, 1, 2, 3] rfl)
                  refine lv_aload_n hx hb dX0_goOn_63 rfl (lv_at hl 2 rfl) ?_
                  refine ps_get (v := .ref (x + 15)) X in_X0 (ci := 0) rfl 5 (by decide) q217 rfl (hWj.at (hspj.k hOb.1 hOb.2 (by first | exact fun h => h | ((try dsimp only) <;> omega)))) rfl dX0_goOn_64 ?_
                  refine lv_iload_n hx hb dX0_goOn_67 rfl (lv_at hl 0 rfl) ?_
                  refine ps_roV X hE (m_X2_weight l hE hZ hWj hDj hgd.1 (k := n1) (by omega)) (lw_V q957 q883 q884 q70 q885) (by decide +kernel) ⟨⟨Nat.le_of_ble_eq_true rfl, Nat.le_of_ble_eq_true rfl⟩, Nat.le_of_ble_eq_true rfl, Nat.le_of_ble_eq_true rfl⟩ (ps_rc X (ci := 2) rfl (hWj.at hDj.1)) hSj hl.1 (As := [.int (nI n1)]) (rest := [.int (nI n1), .ref (x + 15)]) (n := 1) rfl rfl (Nat.le_of_ble_eq_true rfl) dX0_goOn_68 ?_
                  refine ps_st (st' := [.int (nI (sp_w (sp_goD (sp_go (S.2.1 0) h d) h d n1) (n1 + 1))), .int (nI n1), .ref (x + 15)]) rfl ?_
                  refine lv_iload_n hx hb dX0_goOn_71 rfl (lv_at hl 3 rfl) ?_
                  refine ps_clt (tgt := 79) hx hb dX0_goOn_72 (by decide) (by omega) (fun c_72 => ?_) (fun c_72 => ?_)
                  · skip
                    refine lv_iconst (v := nI 0) hx hb dX0_goOn_79 rfl ?_
                    exact ps_top ((bI_is0 (by simp [c_16, c_29, c_40, c_55, c_72]))) J80
                  · skip
                    refine lv_iconst (v := nI 1) hx hb dX0_goOn_75 rfl ?_
                    refine lv_goto (tgt := 80) hx hb dX0_goOn_76 (by decide) ?_
                    exact ps_top ((bI_is1 (by simp [c_16, c_29, c_40, c_55, c_72]))) J80
        exact L21 ((S.2.1 0 3 - 0) + 1) 0 Γi owi Hi _ (by omega) hWi hgi hspi hSoi hSi (Nat.lt_succ_self _) ls (lv_sub hl [0, 1, 2, 3] rfl)
  exact L13 ((10 - 0) + 1) 0 Γ6 ow10 H1 _ (by omega) hW7 ((ps_gf.rf.tr hgf8)) hsp11 hSo12 hS4 (Nat.lt_succ_self _) ls (lv_sub hl [0, 1, 2] rfl)

set_option maxHeartbeats 4000000 in
theorem m_X0_settles (l : Launch) {E : ps_E} (hE : ps_ZT E) {z : Nat} (hZ : ps_Zk E z) {Γ : ps_Gh} {H : Heap} (hW : ps_W E Γ H) {x : Nat} {S : SS} {ow : ps_Ow} (hC : ps_Cx E z Γ ow x S) (hwf : wf S) {v y w1 : Int32} : ps_Ge l E yX0_settles cX0_settles 6 (some .int) 22 664 8 80 [.ref (x), .int (v), .int (y), .int (w1)] H (ps_cpost E z Γ H x (op_settles (S.2.1 0) v y w1, S)) := by
  refine ps_Ge.of (by decide) (Nat.le_of_ble_eq_true rfl) ?_
  intro p e s m args below meth c X ls hl
  have hx := X.1
  have hb := X.2.1
  have ho := X.2.2.2.1
  have hts := X.2.2.2.2.1
  have hS : va_S (ps_A E) s.heap H [] := by rw [X.2.2.2.2.2.2.2.2.1]; exact va_S.rf
  have hl : lv_has ls 6 [(0, .ref (x)), (1, .int (v)), (2, .int (y)), (3, .int (w1))] := hl
  have hO := hwf.1
  have hm := hO.m
  have hn := hwf.n
  obtain ⟨tr, sa, τ, hOb, hRw, hTp, hTr, hSx, hSl⟩ := id hC
  have hSo := (hSx.2.2.2.2 0 _ hSx.1.1).2
  rw [hSl.1] at hSo
  obtain ⟨smc, sr, pf, kf, tf, df, hD, hOw, hrr, hpo⟩ := id hSo
  refine lv_aload_n hx hb dX0_settles_0 rfl (lv_at hl 0 rfl) ?_
  refine lv_iload_n hx hb dX0_settles_1 rfl (lv_at hl 1 rfl) ?_
  refine ps_roV X hE (m_X0_isGiver l hE hZ hW hOb.1 hD hO (v := v)) (lw_V q962 q964 qs21 q68 q965) (by decide +kernel) ⟨⟨Nat.le_of_ble_eq_true rfl, Nat.le_of_ble_eq_true rfl⟩, Nat.le_of_ble_eq_true rfl, Nat.le_of_ble_eq_true rfl⟩ (ps_rc X (ci := 0) rfl (hW.at hOb.1)) hS hl.1 (As := [.int (v)]) (rest := []) (n := 1) rfl rfl (Nat.le_of_ble_eq_true rfl) dX0_settles_2 ?_
  refine ps_st (st' := [.int (bI (rng v 0 ((S.2.1 0) 2)))]) rfl ?_
  refine ps_ifeqB (tgt := 27) hx hb dX0_settles_5 (by decide) (fun c_5 => ?_) (fun c_5 => ?_)
  · skip
    refine lv_ldc (v := -1000001) hx hb ho (hts _ q344) dX0_settles_27 ?_
    exact ps_iretG X hS (Nat.le_of_ble_eq_true rfl) (Nat.le_of_ble_eq_true rfl) dX0_settles_29 (ps_cend (S1 := S) (by simp [op_settles, c_5]) hW ps_gf.rf hC)
  · skip
    obtain ⟨k, rfl, k_lo, k_hi, k_b⟩ := rng_t c_5
    have cl_k : (nI k).toNatClampNeg = k := nI_clamp (by omega)
    refine lv_iload_n hx hb dX0_settles_8 rfl (lv_at hl 2 rfl) ?_
    refine lv_i2l (v := (y).toInt64) hx hb dX0_settles_9 rfl ?_
    refine lv_lconst (v := lN 0) hx hb dX0_settles_10 rfl ?_
    refine lv_ldc2 (v := 20) hx hb ho (hts _ q1040) dX0_settles_11 ?_
    refine ps_roS X hE (m_X0_isIn l hE (H := H) (x := y) (lo := 0) (hi := 21) (lN_toInt (by decide)) (ps_hcL (k := 20) (by decide +kernel))) (lw_S q340 q341 q68 q342) (by decide +kernel) ⟨⟨Nat.le_of_ble_eq_true rfl, Nat.le_of_ble_eq_true rfl⟩, Nat.le_of_ble_eq_true rfl, Nat.le_of_ble_eq_true rfl⟩ hS hl.1 (As := [.long ((y).toInt64), .long (lN 0), .long (20)]) (rest := []) (n := 3) rfl rfl (Nat.le_of_ble_eq_true rfl) dX0_settles_14 ?_
    refine ps_st (st' := [.int (bI (rng y 0 21))]) rfl ?_
    refine ps_ifeqB (tgt := 27) hx hb dX0_settles_17 (by decide) (fun c_17 => ?_) (fun c_17 => ?_)
    · skip
      refine lv_ldc (v := -1000001) hx hb ho (hts _ q344) dX0_settles_27 ?_
      exact ps_iretG X hS (Nat.le_of_ble_eq_true rfl) (Nat.le_of_ble_eq_true rfl) dX0_settles_29 (ps_cend (S1 := S) (by simp [op_settles, c_5, cl_k, c_17]) hW ps_gf.rf hC)
    · skip
      obtain ⟨j, rfl, j_lo, j_hi, j_b⟩ := rng_t c_17
      have cl_j : (nI j).toNatClampNeg = j := nI_clamp (by omega)
      refine lv_iload_n hx hb dX0_settles_20 rfl (lv_at hl 3 rfl) ?_
      refine ps_roS X hE (m_X0_isHalf l hE (H := H) (x := w1)) (lw_S q857 q858 q68 q859) (by decide +kernel) ⟨⟨Nat.le_of_ble_eq_true rfl, Nat.le_of_ble_eq_true rfl⟩, Nat.le_of_ble_eq_true rfl, Nat.le_of_ble_eq_true rfl⟩ hS hl.1 (As := [.int (w1)]) (rest := []) (n := 1) rfl rfl (Nat.le_of_ble_eq_true rfl) dX0_settles_21 ?_
      refine ps_st (st' := [.int (bI (rng w1 0 2))]) rfl ?_
      refine ps_ifneB (tgt := 30) hx hb dX0_settles_24 (by decide) (fun c_24 => ?_) (fun c_24 => ?_)
      · skip
        obtain ⟨t, rfl, t_lo, t_hi, t_b⟩ := rng_t c_24
        have cl_t : (nI t).toNatClampNeg = t := nI_clamp (by omega)
        refine lv_aload_n hx hb dX0_settles_30 rfl (lv_at hl 0 rfl) ?_
        refine lv_iload_n hx hb dX0_settles_31 rfl (lv_at hl 2 rfl) ?_
        refine ps_geV X hE (m_X0_goOn l hE hZ hW hC hwf (h := j) (by omega)) (lw_V q1041 q1043 qs26 q68 q1044) (by decide +kernel) ⟨⟨Nat.le_of_ble_eq_true rfl, Nat.le_of_ble_eq_true rfl⟩, Nat.le_of_ble_eq_true rfl, Nat.le_of_ble_eq_true rfl⟩ (ps_rc X (ci := 0) rfl (hW.at hOb.1)) hS hl.1 (As := [.int (nI j)]) (rest := []) (n := 1) rfl rfl (Nat.le_of_ble_eq_true rfl) dX0_settles_32 (fun v5 H1 locs2 hp3 hS4 => ?_)
        obtain ⟨hv9, Γ6, ow10, hW7, hgf8, hC11, hSo12⟩ := hp3
        subst hv9
        refine ps_st (st' := []) rfl ?_
        obtain ⟨trg, _, _, hObg, _⟩ := id hC11
        have hgo := sp_go_ok hO (hv := j) (d := 10)
        have e3 := hgo.2 3 (by omega)
        have e2 := hgo.2 2 (by omega)
        have hmg := hgo.1.m
        obtain ⟨smcg, srg, pfg, kfg, tfg, dfg, hDg, hOwg, hrrg, hpog⟩ := id hSo12
        refine lv_iload_n hx hb dX0_settles_35 rfl (lv_at hl 3 rfl) ?_
        refine ps_ifne (tgt := 49) hx hb dX0_settles_36 (by decide) (by omega) (fun c_36 => ?_) (fun c_36 => ?_)
        · skip
          refine lv_iconst (v := nI 0) hx hb dX0_settles_49 rfl ?_
          refine lv_istore (lv' := [(4, .int (nI 0)), (0, .ref (x)), (1, .int (nI k)), (2, .int (nI j)), (3, .int (nI t))]) hx hb dX0_settles_50 hl (by decide) rfl (fun ls hl => ?_)
          refine lv_iconst (v := nI 0) hx hb dX0_settles_52 rfl ?_
          refine lv_istore (lv' := [(5, .int (nI 0)), (4, .int (nI 0)), (0, .ref (x)), (1, .int (nI k)), (2, .int (nI j)), (3, .int (nI t))]) hx hb dX0_settles_53 hl (by decide) rfl (fun ls hl => ?_)
          have L55 : ∀ (n : Nat) (i : Nat) (hi : i ≤ S.2.1 0 3) (hmu : S.2.1 0 3 - i < n) (ls : Array Slot) (hl : lv_has ls 6 [(5, .int (nI i)), (4, .int (nI ((sp_kept (sp_go (S.2.1 0) j 10) k i)))), (0, .ref (x)), (1, .int (nI k)), (2, .int (nI j)), (3, .int (nI t))]), W p l e ({ frames := 22, cells := 8, slots := 80, locals := 664 } : Room) s m args below meth c H1 locs2 (0 + 8) (0 + 80) (MQ below (ps_ge (ps_cpost E z Γ H x (op_settles (S.2.1 0) (nI k) (nI j) (nI t), S)) (ps_A E)) args s 8 80 (ps_A E)) (F0 m 55 ls []) := by
            intro n
            induction n with
            | zero => intro i hi hmu; exact absurd hmu (Nat.not_lt_zero _)
            | succ n ih55 =>
              intro i hi hmu ls hl
              refine lv_iload hx hb dX0_settles_55 (lv_at hl 0 rfl) ?_
              refine lv_aload_n hx hb dX0_settles_57 rfl (lv_at hl 2 rfl) ?_
              refine ps_get (v := .ref (x + 15)) X in_X0 (ci := 0) rfl 5 (by decide) q217 rfl (hW7.at hObg.1) rfl dX0_settles_58 ?_
              refine ps_roV X hE (m_X2_many l hE hZ hW7 hDg hgo.1 ) (lw_V q844 q647 q648 q70 q649) (by decide +kernel) ⟨⟨Nat.le_of_ble_eq_true rfl, Nat.le_of_ble_eq_true rfl⟩, Nat.le_of_ble_eq_true rfl, Nat.le_of_ble_eq_true rfl⟩ (ps_rc X (ci := 2) rfl (hW7.at hDg.1)) hS4 hl.1 (As := []) (rest := [.int (nI i)]) (n := 0) rfl rfl (Nat.le_of_ble_eq_true rfl) dX0_settles_61 ?_
              refine ps_st (st' := [.int (nI ((sp_go (S.2.1 0) j 10) 3)), .int (nI i)]) rfl ?_
              refine ps_cge (tgt := 113) hx hb dX0_settles_64 (by decide) (by omega) (fun c_64 => ?_) (fun c_64 => ?_)
              · skip
                have ei : i = S.2.1 0 3 := by omega
                refine lv_iload hx hb dX0_settles_113 (lv_at hl 1 rfl) ?_
                exact ps_iretG X hS4 (Nat.le_of_ble_eq_true rfl) (Nat.le_of_ble_eq_true rfl) dX0_settles_115 (ps_cend (S1 := S) (by rw [ei]; simp [op_settles, c_5, cl_k, c_17, cl_j, c_24, cl_t, c_36, c_64]) hW7 (ps_gf.rf.tr hgf8) hC11)
              · skip
                have hp := hgo.1.p (p := i) (by omega)
                have hh9 := hgo.1.h (p := i) (by omega)
                refine lv_iload hx hb dX0_settles_67 (lv_at hl 1 rfl) ?_
                have J104 : W p l e ({ frames := 22, cells := 8, slots := 80, locals := 664 } : Room) s m args below meth c H1 locs2 (0 + 8) (0 + 80) (MQ below (ps_ge (ps_cpost E z Γ H x (op_settles (S.2.1 0) (nI k) (nI j) (nI t), S)) (ps_A E)) args s 8 80 (ps_A E)) (F0 m 104 ls [.int (nI (if (sp_go (S.2.1 0) j 10) (17 + i) = k ∧ (sp_go (S.2.1 0) j 10) (49 + i) = 1 then 1 else 0)), .int (nI ((sp_kept (sp_go (S.2.1 0) j 10) k i)))]) := by
                  refine ps_iadd hx hb dX0_settles_104 ?_
                  refine lv_istore (lv' := [(4, .int (nI (((sp_kept (sp_go (S.2.1 0) j 10) k i)) + (if (sp_go (S.2.1 0) j 10) (17 + i) = k ∧ (sp_go (S.2.1 0) j 10) (49 + i) = 1 then 1 else 0)))), (5, .int (nI i)), (0, .ref (x)), (1, .int (nI k)), (2, .int (nI j)), (3, .int (nI t))]) hx hb dX0_settles_105 hl (by decide) rfl (fun ls hl => ?_)
                  refine lv_iinc (v := nI (i + 1)) (lv' := [(5, .int (nI (i + 1))), (4, .int (nI (((sp_kept (sp_go (S.2.1 0) j 10) k i)) + (if (sp_go (S.2.1 0) j 10) (17 + i) = k ∧ (sp_go (S.2.1 0) j 10) (49 + i) = 1 then 1 else 0)))), (0, .ref (x)), (1, .int (nI k)), (2, .int (nI j)), (3, .int (nI t))]) hx hb dX0_settles_107 hl (k := 1) rfl (ps_inc _) (by decide) rfl (fun ls hl => ?_)
                  refine lv_goto (tgt := 55) hx hb dX0_settles_110 (by decide) ?_
                  have e13 : (nI (((sp_kept (sp_go (S.2.1 0) j 10) k i)) + (if (sp_go (S.2.1 0) j 10) (17 + i) = k ∧ (sp_go (S.2.1 0) j 10) (49 + i) = 1 then 1 else 0)) : Int32) = nI ((sp_kept (sp_go (S.2.1 0) j 10) k (i + 1))) := congrArg nI (by simp [sp_kept, sumR])
                  have hl : lv_has ls 6 [(5, .int (nI (i + 1))), (4, .int (nI ((sp_kept (sp_go (S.2.1 0) j 10) k (i + 1))))), (0, .ref (x)), (1, .int (nI k)), (2, .int (nI j)), (3, .int (nI t))] := ps_lv (l1 := [(5, .int (nI (i + 1))), (4, .int (nI (((sp_kept (sp_go (S.2.1 0) j 10) k i)) + (if (sp_go (S.2.1 0) j 10) (17 + i) = k ∧ (sp_go (S.2.1 0) j 10) (49 + i) = 1 then 1 else 0)))), (0, .ref (x)), (1, .int (nI k)), (2, .int (nI j)), (3, .int (nI t))]) (lv_sub hl [0, 1, 2, 3, 4, 5] rfl) (by rw [e13])
                  exact ih55  (i + 1) (by omega) (by omega) ls (hl)
                refine lv_aload_n hx hb dX0_settles_69 rfl (lv_at hl 2 rfl) ?_
                refine ps_get (v := .ref (x + 15)) X in_X0 (ci := 0) rfl 5 (by decide) q217 rfl (hW7.at hObg.1) rfl dX0_settles_70 ?_
                refine lv_iload hx hb dX0_settles_73 (lv_at hl 0 rfl) ?_
                refine ps_roV X hE (m_X2_promise l hE hZ hW7 hDg hgo.1 (k := i) (by omega)) (lw_V q930 q888 q889 q70 q890) (by decide +kernel) ⟨⟨Nat.le_of_ble_eq_true rfl, Nat.le_of_ble_eq_true rfl⟩, Nat.le_of_ble_eq_true rfl, Nat.le_of_ble_eq_true rfl⟩ (ps_rc X (ci := 2) rfl (hW7.at hDg.1)) hS4 hl.1 (As := [.int (nI i)]) (rest := [.int (nI ((sp_kept (sp_go (S.2.1 0) j 10) k i)))]) (n := 1) rfl rfl (Nat.le_of_ble_eq_true rfl) dX0_settles_75 ?_
                refine ps_st (st' := [.ref (pfg i), .int (nI ((sp_kept (sp_go (S.2.1 0) j 10) k i)))]) rfl ?_
                refine ps_pget (v := .int (nI ((sp_go (S.2.1 0) j 10) (17 + i)))) X (hgo.1.p (p := i) (by omega)).1 2 (by decide) q676 (hW7.at (hDg.2.2.2.2.2.2.2.2 i (by omega))) rfl dX0_settles_78 ?_
                refine lv_iload_n hx hb dX0_settles_81 rfl (lv_at hl 3 rfl) ?_
                refine ps_cne (tgt := 103) hx hb dX0_settles_82 (by decide) (by omega) (fun c_82 => ?_) (fun c_82 => ?_)
                · skip
                  refine lv_iconst (v := nI 0) hx hb dX0_settles_103 rfl ?_
                  exact ps_top (congrArg nI (by first | rfl | (simp [c_5, cl_k, c_17, cl_j, c_24, cl_t, c_36, c_64, c_82]; done) | (simp [c_5, cl_k, c_17, cl_j, c_24, cl_t, c_36, c_64, c_82]; omega) | omega)) J104
                · skip
                  refine lv_aload_n hx hb dX0_settles_85 rfl (lv_at hl 2 rfl) ?_
                  refine ps_get (v := .ref (x + 15)) X in_X0 (ci := 0) rfl 5 (by decide) q217 rfl (hW7.at hObg.1) rfl dX0_settles_86 ?_
                  refine ps_get (v := .ref (x + 15 + 3)) X in_X2 (ci := 2) rfl 5 (by decide) q177 rfl (hW7.at hDg.1) rfl dX0_settles_89 ?_
                  refine lv_iload hx hb dX0_settles_92 (lv_at hl 0 rfl) ?_
                  refine ps_iald (j := i) X (hW7.at hDg.2.2.2.2.1) rfl (by show i < 8; omega) (by first | decide | omega) dX0_settles_94 ?_
                  refine ps_top (y := nI ((sp_go (S.2.1 0) j 10) (49 + i))) (hDg.2.2.2.2.2.1 _ (by show i < 8; omega)) ?_
                  refine lv_iconst (v := nI 1) hx hb dX0_settles_95 rfl ?_
                  refine ps_cne (tgt := 103) hx hb dX0_settles_96 (by decide) (by omega) (fun c_96 => ?_) (fun c_96 => ?_)
                  · skip
                    refine lv_iconst (v := nI 0) hx hb dX0_settles_103 rfl ?_
                    exact ps_top (congrArg nI (by first | rfl | (simp [c_5, cl_k, c_17, cl_j, c_24, cl_t, c_36, c_64, c_82, c_96]; done) | (simp [c_5, cl_k, c_17, cl_j, c_24, cl_t, c_36, c_64, c_82, c_96]; omega) | omega)) J104
                  · skip
                    refine lv_iconst (v := nI 1) hx hb dX0_settles_99 rfl ?_
                    refine lv_goto (tgt := 104) hx hb dX0_settles_100 (by decide) ?_
                    exact ps_top (congrArg nI (by first | rfl | (simp [c_5, cl_k, c_17, cl_j, c_24, cl_t, c_36, c_64, c_82, c_96]; done) | (simp [c_5, cl_k, c_17, cl_j, c_24, cl_t, c_36, c_64, c_82, c_96]; omega) | omega)) J104
          have hl : lv_has ls 6 [(5, .int (nI 0)), (4, .int (nI ((sp_kept (sp_go (S.2.1 0) j 10) k 0)))), (0, .ref (x)), (1, .int (nI k)), (2, .int (nI j)), (3, .int (nI t))] := lv_sub hl [0, 1, 2, 3, 4, 5] rfl
          exact L55 ((S.2.1 0 3 - 0) + 1) 0 (by omega) (Nat.lt_succ_self _) ls (hl)
        · skip
          refine lv_aload_n hx hb dX0_settles_39 rfl (lv_at hl 0 rfl) ?_
          refine ps_get (v := .ref (x + 15)) X in_X0 (ci := 0) rfl 5 (by decide) q217 rfl (hW7.at hObg.1) rfl dX0_settles_40 ?_
          refine ps_get (v := .ref (x + 15 + 1)) X in_X2 (ci := 2) rfl 3 (by decide) q173 rfl (hW7.at hDg.1) rfl dX0_settles_43 ?_
          refine lv_iload_n hx hb dX0_settles_46 rfl (lv_at hl 1 rfl) ?_
          refine ps_iald (j := k) X (hW7.at hDg.2.1) rfl (by show k < 4; omega) (by first | decide | omega) dX0_settles_47 ?_
          refine ps_top (y := nI ((sp_go (S.2.1 0) j 10) (5 + k))) (hDg.2.2.1 _ (by show k < 4; omega)) ?_
          exact ps_iretG X hS4 (Nat.le_of_ble_eq_true rfl) (Nat.le_of_ble_eq_true rfl) dX0_settles_48 (ps_cend (S1 := S) (by subst c_36; simp [op_settles, c_5, cl_k, c_17, cl_j, c_24, cl_t]) hW7 (ps_gf.rf.tr hgf8) hC11)
      · skip
        refine lv_ldc (v := -1000001) hx hb ho (hts _ q344) dX0_settles_27 ?_
        exact ps_iretG X hS (Nat.le_of_ble_eq_true rfl) (Nat.le_of_ble_eq_true rfl) dX0_settles_29 (ps_cend (S1 := S) (by simp [op_settles, c_5, cl_k, c_17, cl_j, c_24]) hW ps_gf.rf hC)

theorem bh_le {σ : Nat → Nat} {k i K : Nat} (hK : K ≤ 10) (hB : sp_bm σ k i ≤ 11) : (nI K ≤ (if sp_bm σ k i = 0 then (-1000000 : Int32) else nI (sp_bm σ k i - 1))) ↔ K < sp_bm σ k i := by
  by_cases e : sp_bm σ k i = 0
  · rw [if_pos e, e]
    constructor
    · intro q
      rw [Int32.le_iff_toInt_le, nI_toInt (by omega), show (-1000000 : Int32).toInt = -1000000 by decide] at q
      omega
    · intro q; omega
  · rw [if_neg e, ps_nle (by omega) (by omega)]
    omega
theorem bh_mx {σ : Nat → Nat} {g i : Nat} (hK : sp_go σ i 10 (5 + g) ≤ 10) (hB : sp_bm σ g i ≤ 11) : (if (if sp_bm σ g i = 0 then (-1000000 : Int32) else nI (sp_bm σ g i - 1)) < nI (sp_go σ i 10 (5 + g)) then nI (sp_go σ i 10 (5 + g)) else (if sp_bm σ g i = 0 then (-1000000 : Int32) else nI (sp_bm σ g i - 1))) = (if sp_bm σ g (i + 1) = 0 then (-1000000 : Int32) else nI (sp_bm σ g (i + 1) - 1)) := by
  by_cases e : sp_bm σ g i ≤ sp_go σ i 10 (5 + g)
  · have h1 : sp_bm σ g (i + 1) = sp_go σ i 10 (5 + g) + 1 := by rw [sp_bm, sp_bh_1 e]
    rw [h1, if_neg (Nat.succ_ne_zero _), Nat.add_sub_cancel]
    by_cases e2 : sp_bm σ g i = 0
    · rw [if_pos e2, if_pos]
      rw [Int32.lt_iff_toInt_lt, nI_toInt (by omega), show (-1000000 : Int32).toInt = -1000000 by decide]; omega
    · rw [if_neg e2, if_pos ((ps_nlt (by omega) (by omega)).mpr (by omega))]
  · have h2 := sp_bh_2 (Nat.lt_of_not_le e)
    rw [h2.2]
    have e2 : ¬ sp_bm σ g i = 0 := by omega
    rw [if_neg e2]
    split
    · rename_i q
      have := (ps_nlt (by omega) (by omega)).mp q
      rw [show sp_go σ i 10 (5 + g) = sp_bm σ g i - 1 by omega]
    · rfl
section BHS
variable {p : Program} {l : Launch} {e : Env} {R : Room} {s : State} {m : MethodId} {args : Array Value} {below : List Frame} {meth : Method} {c : Code} {H : Heap} {locs : List Loc} {cells slots : Nat} {Q : State → Prop}
theorem ps_cleH {cc : ByteArray} {pc : Nat} {ls : Array Slot} {rest : List Value} {σ : Nat → Nat} {k i K tgt : Nat} {off : Int} (hexec : p.tables.exec = Jvm.exec) (hb : c.code = cc) (hdg : decode cc pc = .ok (.if_icmp .le off, 3)) (ht : (pc : Int) + off = (tgt : Int)) (h : K ≤ 10 ∧ sp_bm σ k i ≤ 11) (kt : K < sp_bm σ k i → W p l e R s m args below meth c H locs cells slots Q (F0 m tgt ls rest)) (kf : sp_bm σ k i ≤ K → W p l e R s m args below meth c H locs cells slots Q (F0 m (pc + 3) ls rest)) : W p l e R s m args below meth c H locs cells slots Q (F0 m pc ls (.int (if sp_bm σ k i = 0 then (-1000000 : Int32) else nI (sp_bm σ k i - 1)) :: .int (nI K) :: rest)) :=
  lv_icmp_le hexec hb hdg ht (fun q => kt ((bh_le h.1 h.2).mp q)) (fun q => kf (Nat.not_lt.mp fun z => q ((bh_le h.1 h.2).mpr z)))
end BHS

set_option maxHeartbeats 4000000 in
theorem m_X0_bestHeavy (l : Launch) {E : ps_E} (hE : ps_ZT E) {z : Nat} (hZ : ps_Zk E z) {Γ : ps_Gh} {H : Heap} (hW : ps_W E Γ H) {x : Nat} {S : SS} {ow : ps_Ow} (hC : ps_Cx E z Γ ow x S) (hwf : wf S) {v : Int32} : ps_Ge l E yX0_bestHeavy cX0_bestHeavy 5 (some .int) 22 664 168 1680 [.ref (x), .int (v)] H (ps_cpost E z Γ H x (op_bestHeavy (S.2.1 0) v, S)) := by
  refine ps_Ge.of (by decide) (Nat.le_of_ble_eq_true rfl) ?_
  intro p e s m args below meth c X ls hl
  have hx := X.1
  have hb := X.2.1
  have ho := X.2.2.2.1
  have hts := X.2.2.2.2.1
  have hS : va_S (ps_A E) s.heap H [] := by rw [X.2.2.2.2.2.2.2.2.1]; exact va_S.rf
  have hl : lv_has ls 5 [(0, .ref (x)), (1, .int (v))] := hl
  have hO := hwf.1
  have hm := hO.m
  have hn := hwf.n
  obtain ⟨tr, sa, τ, hOb, hRw, hTp, hTr, hSx, hSl⟩ := id hC
  have hSo := (hSx.2.2.2.2 0 _ hSx.1.1).2
  rw [hSl.1] at hSo
  obtain ⟨smc, sr, pf, kf, tf, df, hD, hOw, hrr, hpo⟩ := id hSo
  refine lv_aload_n hx hb dX0_bestHeavy_0 rfl (lv_at hl 0 rfl) ?_
  refine lv_iload_n hx hb dX0_bestHeavy_1 rfl (lv_at hl 1 rfl) ?_
  refine ps_roV X hE (m_X0_isGiver l hE hZ hW hOb.1 hD hO (v := v)) (lw_V q962 q964 qs21 q68 q965) (by decide +kernel) ⟨⟨(by (try dsimp only) <;> omega), (by (try dsimp only) <;> omega)⟩, (by (try dsimp only) <;> omega), (by (try dsimp only) <;> omega)⟩ (ps_rc X (ci := 0) rfl (hW.at hOb.1)) hS hl.1 (As := [.int (v)]) (rest := []) (n := 1) rfl rfl (Nat.le_of_ble_eq_true rfl) dX0_bestHeavy_2 ?_
  refine ps_st (st' := [.int (bI (rng v 0 ((S.2.1 0) 2)))]) rfl ?_
  refine ps_ifneB (tgt := 11) hx hb dX0_bestHeavy_5 (by decide) (fun c_5 => ?_) (fun c_5 => ?_)
  · skip
    obtain ⟨k, rfl, k_lo, k_hi, k_b⟩ := rng_t c_5
    have cl_k : (nI k).toNatClampNeg = k := nI_clamp (by omega)
    refine lv_iconst (v := nI 0) hx hb dX0_bestHeavy_11 rfl ?_
    refine lv_istore_n (lv' := [(2, .int (nI 0)), (0, .ref (x)), (1, .int (nI k))]) hx hb dX0_bestHeavy_12 rfl hl (by decide) rfl (fun ls hl => ?_)
    refine lv_ldc (v := -1000000) hx hb ho (hts _ q982) dX0_bestHeavy_13 ?_
    refine lv_istore_n (lv' := [(3, .int ((-1000000))), (2, .int (nI 0)), (0, .ref (x)), (1, .int (nI k))]) hx hb dX0_bestHeavy_15 rfl hl (by decide) rfl (fun ls hl => ?_)
    refine lv_iconst (v := nI 0) hx hb dX0_bestHeavy_16 rfl ?_
    refine lv_istore (lv' := [(4, .int (nI 0)), (3, .int ((-1000000))), (2, .int (nI 0)), (0, .ref (x)), (1, .int (nI k))]) hx hb dX0_bestHeavy_17 hl (by decide) rfl (fun ls hl => ?_)
    have L19 : ∀ (n : Nat) (i : Nat) (Γi : ps_Gh) (owi : ps_Ow) (Hi : Heap) (locsi : List Loc) (hi : i ≤ 21) (hWi : ps_W E Γi Hi) (hgi : ps_gf Γ H Γi Hi) (hCi : ps_Cx E z Γi owi x S) (hSi : va_S (ps_A E) s.heap Hi locsi) (hmu : 21 - i < n) (ls : Array Slot) (hl : lv_has ls 5 [(4, .int (nI i)), (3, .int ((if (sp_bm (S.2.1 0) k i) = 0 then (-1000000) else nI ((sp_bm (S.2.1 0) k i) - 1)))), (2, .int (nI ((sp_bh (S.2.1 0) k i)))), (0, .ref (x)), (1, .int (nI k))]), W p l e ({ frames := 22, cells := 168, slots := 1680, locals := 664 } : Room) s m args below meth c Hi locsi (8 * i) (80 * i) (MQ below (ps_ge (ps_cpost E z Γ H x (op_bestHeavy (S.2.1 0) (nI k), S)) (ps_A E)) args s 168 1680 (ps_A E)) (F0 m 19 ls []) := by
      intro n
      induction n with
      | zero => intro i Γi owi Hi locsi hi hWi hgi hCi hSi hmu; exact absurd hmu (Nat.not_lt_zero _)
      | succ n ih19 =>
        intro i Γi owi Hi locsi hi hWi hgi hCi hSi hmu ls hl
        obtain ⟨trb, _, _, hObb, _⟩ := id hCi
        refine lv_iload hx hb dX0_bestHeavy_19 (lv_at hl 0 rfl) ?_
        refine lv_bipush (v := nI 20) hx hb dX0_bestHeavy_21 rfl ?_
        refine ps_cgt (tgt := 72) hx hb dX0_bestHeavy_23 (by decide) (by omega) (fun c_23 => ?_) (fun c_23 => ?_)
        · skip
          have ei : i = 21 := by omega
          refine lv_iload_n hx hb dX0_bestHeavy_72 rfl (lv_at hl 2 rfl) ?_
          exact ps_iretG X hSi (by (try dsimp only) <;> omega) (by (try dsimp only) <;> omega) dX0_bestHeavy_73 (ps_cend (S1 := S) (by rw [ei]; simp [op_bestHeavy, c_5, cl_k, c_23]) hWi hgi hCi)
        · skip
          refine lv_aload_n hx hb dX0_bestHeavy_26 rfl (lv_at hl 3 rfl) ?_
          refine lv_iload hx hb dX0_bestHeavy_27 (lv_at hl 0 rfl) ?_
          refine ps_geV X hE (m_X0_goOn l hE hZ hWi hCi hwf (h := i) (by omega)) (lw_V q1041 q1043 qs26 q68 q1044) (by decide +kernel) ⟨⟨(by (try dsimp only) <;> omega), (by (try dsimp only) <;> omega)⟩, (by (try dsimp only) <;> omega), (by (try dsimp only) <;> omega)⟩ (ps_rc X (ci := 0) rfl (hWi.at hObb.1)) hSi hl.1 (As := [.int (nI i)]) (rest := []) (n := 1) rfl rfl (Nat.le_of_ble_eq_true rfl) dX0_bestHeavy_29 (fun v5 H1 locs2 hp3 hS4 => ?_)
          obtain ⟨hv9, Γ6, ow10, hW7, hgf8, hC11, hSo12⟩ := hp3
          subst hv9
          refine ps_st (st' := []) rfl ?_
          obtain ⟨trg, _, _, hObg, _⟩ := id hC11
          have hgo := sp_go_ok hO (hv := i) (d := 10)
          have e3 := hgo.2 3 (by omega)
          have e2 := hgo.2 2 (by omega)
          have hmg := hgo.1.m
          obtain ⟨smcg, srg, pfg, kfg, tfg, dfg, hDg, hOwg, hrrg, hpog⟩ := id hSo12
          have hk5 := hgo.1.k (g := k) (by omega)
          have hbm : (sp_bm (S.2.1 0) k i) ≤ 11 := sp_bm_le hO (by omega)
          have J51 : W p l e ({ frames := 22, cells := 168, slots := 1680, locals := 664 } : Room) s m args below meth c H1 locs2 (8 * i + 8) (80 * i + 80) (MQ below (ps_ge (ps_cpost E z Γ H x (op_bestHeavy (S.2.1 0) (nI k), S)) (ps_A E)) args s 168 1680 (ps_A E)) (F0 m 51 ls [.int (nI ((sp_bh (S.2.1 0) k (i + 1))))]) := by
            refine lv_istore_n (lv' := [(2, .int (nI ((sp_bh (S.2.1 0) k (i + 1))))), (4, .int (nI i)), (3, .int ((if (sp_bm (S.2.1 0) k i) = 0 then (-1000000) else nI ((sp_bm (S.2.1 0) k i) - 1)))), (0, .ref (x)), (1, .int (nI k))]) hx hb dX0_bestHeavy_51 rfl hl (by decide) rfl (fun ls hl => ?_)
            refine lv_iload_n hx hb dX0_bestHeavy_52 rfl (lv_at hl 2 rfl) ?_
            refine lv_aload_n hx hb dX0_bestHeavy_53 rfl (lv_at hl 3 rfl) ?_
            refine ps_get (v := .ref (x + 15)) X in_X0 (ci := 0) rfl 5 (by decide) q217 rfl (hW7.at hObg.1) rfl dX0_bestHeavy_54 ?_
            refine ps_get (v := .ref (x + 15 + 1)) X in_X2 (ci := 2) rfl 3 (by decide) q173 rfl (hW7.at hDg.1) rfl dX0_bestHeavy_57 ?_
            refine lv_iload_n hx hb dX0_bestHeavy_60 rfl (lv_at hl 4 rfl) ?_
            refine ps_iald (j := k) X (hW7.at hDg.2.1) rfl (by show k < 4; omega) (by first | decide | omega) dX0_bestHeavy_61 ?_
            refine ps_top (y := nI ((sp_go (S.2.1 0) i 10) (5 + k))) (hDg.2.2.1 _ (by show k < 4; omega)) ?_
            refine ps_mmaxX X q1022 hl.1 ⟨⟨Nat.le_of_ble_eq_true rfl, Nat.le_of_ble_eq_true rfl⟩, (by (try dsimp only) <;> omega), (by (try dsimp only) <;> omega)⟩ dX0_bestHeavy_62 ?_
            refine ps_top (y := (if (sp_bm (S.2.1 0) k (i + 1)) = 0 then (-1000000) else nI ((sp_bm (S.2.1 0) k (i + 1)) - 1))) (bh_mx hk5 hbm) ?_
            refine lv_istore_n (lv' := [(3, .int ((if (sp_bm (S.2.1 0) k (i + 1)) = 0 then (-1000000) else nI ((sp_bm (S.2.1 0) k (i + 1)) - 1)))), (2, .int (nI ((sp_bh (S.2.1 0) k (i + 1))))), (4, .int (nI i)), (0, .ref (x)), (1, .int (nI k))]) hx hb dX0_bestHeavy_65 rfl hl (by decide) rfl (fun ls hl => ?_)
            refine lv_iinc (v := nI (i + 1)) (lv' := [(4, .int (nI (i + 1))), (3, .int ((if (sp_bm (S.2.1 0) k (i + 1)) = 0 then (-1000000) else nI ((sp_bm (S.2.1 0) k (i + 1)) - 1)))), (2, .int (nI ((sp_bh (S.2.1 0) k (i + 1))))), (0, .ref (x)), (1, .int (nI k))]) hx hb dX0_bestHeavy_66 hl (k := 2) rfl (ps_inc _) (by decide) rfl (fun ls hl => ?_)
            refine lv_goto (tgt := 19) hx hb dX0_bestHeavy_69 (by decide) ?_
            refine ps_wd (c2 := 8 * (i + 1)) (s2 := 80 * (i + 1)) (by omega) (by omega) ?_
            exact ih19  (i + 1) Γ6 ow10 H1 _ (by omega) hW7 ((hgi.tr hgf8)) hC11 hS4 (by omega) ls (lv_sub hl [0, 1, 2, 3, 4] rfl)
          refine lv_aload_n hx hb dX0_bestHeavy_32 rfl (lv_at hl 3 rfl) ?_
          refine ps_get (v := .ref (x + 15)) X in_X0 (ci := 0) rfl 5 (by decide) q217 rfl (hW7.at hObg.1) rfl dX0_bestHeavy_33 ?_
          refine ps_get (v := .ref (x + 15 + 1)) X in_X2 (ci := 2) rfl 3 (by decide) q173 rfl (hW7.at hDg.1) rfl dX0_bestHeavy_36 ?_
          refine lv_iload_n hx hb dX0_bestHeavy_39 rfl (lv_at hl 4 rfl) ?_
          refine ps_iald (j := k) X (hW7.at hDg.2.1) rfl (by show k < 4; omega) (by first | decide | omega) dX0_bestHeavy_40 ?_
          refine ps_top (y := nI ((sp_go (S.2.1 0) i 10) (5 + k))) (hDg.2.2.1 _ (by show k < 4; omega)) ?_
          refine lv_iload_n hx hb dX0_bestHeavy_41 rfl (lv_at hl 1 rfl) ?_
          refine ps_cleH (tgt := 50) hx hb dX0_bestHeavy_42 (by decide) (by omega) (fun c_42 => ?_) (fun c_42 => ?_)
          · skip
            refine lv_iload_n hx hb dX0_bestHeavy_50 rfl (lv_at hl 2 rfl) ?_
            exact ps_top (congrArg nI (sp_bh_2 c_42).1.symm) J51
          · skip
            refine lv_iload hx hb dX0_bestHeavy_45 (lv_at hl 0 rfl) ?_
            refine lv_goto (tgt := 51) hx hb dX0_bestHeavy_47 (by decide) ?_
            exact ps_top (congrArg nI (sp_bh_1 c_42).symm) J51
    have hl : lv_has ls 5 [(4, .int (nI 0)), (3, .int ((if (sp_bm (S.2.1 0) k 0) = 0 then (-1000000) else nI ((sp_bm (S.2.1 0) k 0) - 1)))), (2, .int (nI ((sp_bh (S.2.1 0) k 0)))), (0, .ref (x)), (1, .int (nI k))] := lv_sub hl [0, 1, 2, 3, 4] rfl
    exact L19 ((21 - 0) + 1) 0 Γ ow H _ (by omega) hW ps_gf.rf hC hS (Nat.lt_succ_self _) ls (hl)
  · skip
    refine lv_ldc (v := -1000001) hx hb ho (hts _ q344) dX0_bestHeavy_8 ?_
    exact ps_iretG X hS (by (try dsimp only) <;> omega) (by (try dsimp only) <;> omega) dX0_bestHeavy_10 (ps_cend (S1 := S) (by simp [op_bestHeavy, c_5]) hW ps_gf.rf hC)
