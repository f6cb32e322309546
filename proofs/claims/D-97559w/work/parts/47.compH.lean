/-! scales become others (printed by gen/comp8.py) -/
set_option maxRecDepth 100000
set_option maxHeartbeats 4000000 in
theorem m_X2_become (l : Launch) {E : ps_E} (hE : ps_ZT E) {z : Nat} (hZ : ps_Zk E z) {Γ : ps_Gh} {H : Heap} (hW : ps_W E Γ H) {sq sp : Nat} {σ τ : Nat → Nat} {ow : ps_Ow} (hSo : ps_So E z Γ ow sq σ) (hTo : ps_So E z Γ ow sp τ) (hO : sp_ok σ) (hO2 : sp_ok τ) (hne : sq ≠ sp) : ps_Ge l E yX2_become cX2_become 3 none 5 111 8 80 [.ref (sq), .ref (sp)] H (fun v H1 => v = none ∧ ∃ Γ1 ow1, ps_W E Γ1 H1 ∧ ps_gf Γ H Γ1 H1 ∧ ps_sp (fun w => w = sq + 6) Γ ow Γ1 ow1 ∧ ps_So E z Γ1 ow1 sq τ) := by
  refine ps_Ge.of (by decide) (Nat.le_of_ble_eq_true rfl) ?_
  intro p e s m args below meth c X ls hl
  have hx := X.1
  have hb := X.2.1
  have ho := X.2.2.2.1
  have hts := X.2.2.2.2.1
  have hS : va_S (ps_A E) s.heap H [] := by rw [X.2.2.2.2.2.2.2.2.1]; exact va_S.rf
  have hl : lv_has ls 3 [(0, .ref (sq)), (1, .ref (sp))] := hl
  obtain ⟨smc, sr, pf, kf, tf, df, hD, hOw, hr, hpo⟩ := hSo
  obtain ⟨tmc, tr, pg, kg, tg, dg, hT, hTw, htr, hpt⟩ := id hTo
  have hzA : ¬ ps_A E z := (X.zc hZ).2.2.2.1
  have hzn := ps_no hW hzA
  have hm := hO.m
  have hm2 := hO2.m
  have hd : sp + 3 < sq ∨ sq + 3 < sp := by
    have f : ∀ a b, ow a = sq + 6 → ow b = sp + 6 → b ≠ a := fun a b h1 h2 e => by subst e; omega
    have := f sq sp hOw.1 hTw.1
    have := f (sq + 1) sp hOw.2.1 hTw.1
    have := f (sq + 2) sp hOw.2.2.1 hTw.1
    have := f (sq + 3) sp hOw.2.2.2 hTw.1
    have := f sq (sp + 1) hOw.1 hTw.2.1
    have := f sq (sp + 2) hOw.1 hTw.2.2.1
    have := f sq (sp + 3) hOw.1 hTw.2.2.2
    omega
  have n0 : sq ≠ sr := ps_nesr hzn hr hD.1 (fun f q => by cases q)
  have n1 : sq + 1 ≠ sr := ps_nesr hzn hr hD.2.1 (fun f q => ps_qne q.symm)
  have n2 : sq + 2 ≠ sr := ps_nesr hzn hr hD.2.2.2.1 (fun f q => by cases q)
  have n3 : sq + 3 ≠ sr := ps_nesr hzn hr hD.2.2.2.2.1 (fun f q => ps_qne q.symm)
  have m0 : sp ≠ sr := ps_nesr hzn hr hT.1 (fun f q => by cases q)
  have m1 : sp + 1 ≠ sr := ps_nesr hzn hr hT.2.1 (fun f q => ps_qne q.symm)
  have m2 : sp + 2 ≠ sr := ps_nesr hzn hr hT.2.2.2.1 (fun f q => by cases q)
  have m3 : sp + 3 ≠ sr := ps_nesr hzn hr hT.2.2.2.2.1 (fun f q => ps_qne q.symm)
  refine lv_aload_n hx hb dX2_become_0 rfl (lv_at hl 0 rfl) ?_
  refine lv_aload_n hx hb dX2_become_1 rfl (lv_at hl 1 rfl) ?_
  refine ps_get (v := .int (nI (τ 0))) X in_X2 (ci := 2) rfl 0 (by decide) q162 rfl (hW.at hT.1) rfl dX2_become_2 ?_
  refine ps_put X in_X2 tyX2_ok nmX2 (ci := 2) rfl 0 (by decide) q162 rfl rfl rfl rfl (Nat.le_of_ble_eq_true rfl) (hW.at hD.1) (hW.A hD.1) hS dX2_become_5 (fun H1 locs2 ha3 hz4 hq5 hS6 => ?_)
  obtain ⟨Γ7, hW8, hg9, ho10⟩ := hW.put1 hD.1 ha3 hq5
  refine lv_aload_n hx hb dX2_become_8 rfl (lv_at hl 0 rfl) ?_
  refine lv_aload_n hx hb dX2_become_9 rfl (lv_at hl 1 rfl) ?_
  refine ps_get (v := .int (nI (τ 1))) X in_X2 (ci := 2) rfl 1 (by decide) q165 rfl (hW8.at ((ho10 _ (by omega)).trans hT.1)) rfl dX2_become_10 ?_
  refine ps_put X in_X2 tyX2_ok nmX2 (ci := 2) rfl 1 (by decide) q165 rfl rfl rfl rfl (Nat.le_of_ble_eq_true rfl) (hW8.at hg9) (hW8.A hg9) hS6 dX2_become_13 (fun H11 locs12 ha13 hz14 hq15 hS16 => ?_)
  obtain ⟨Γ17, hW18, hg19, ho20⟩ := hW8.put1 hg9 ha13 hq15
  refine lv_aload_n hx hb dX2_become_16 rfl (lv_at hl 0 rfl) ?_
  refine lv_aload_n hx hb dX2_become_17 rfl (lv_at hl 1 rfl) ?_
  refine ps_get (v := .int (nI (τ 2))) X in_X2 (ci := 2) rfl 2 (by decide) q168 rfl (hW18.at ((ho20 _ (by omega)).trans ((ho10 _ (by omega)).trans hT.1))) rfl dX2_become_18 ?_
  refine ps_put X in_X2 tyX2_ok nmX2 (ci := 2) rfl 2 (by decide) q168 rfl rfl rfl rfl (Nat.le_of_ble_eq_true rfl) (hW18.at hg19) (hW18.A hg19) hS16 dX2_become_21 (fun H21 locs22 ha23 hz24 hq25 hS26 => ?_)
  obtain ⟨Γ27, hW28, hg29, ho30⟩ := hW18.put1 hg19 ha23 hq25
  refine lv_aload_n hx hb dX2_become_24 rfl (lv_at hl 0 rfl) ?_
  refine lv_aload_n hx hb dX2_become_25 rfl (lv_at hl 1 rfl) ?_
  refine ps_get (v := .int (nI (τ 4))) X in_X2 (ci := 2) rfl 6 (by decide) q178 rfl (hW28.at ((ho30 _ (by omega)).trans ((ho20 _ (by omega)).trans ((ho10 _ (by omega)).trans hT.1)))) rfl dX2_become_26 ?_
  refine ps_put X in_X2 tyX2_ok nmX2 (ci := 2) rfl 6 (by decide) q178 rfl rfl rfl rfl (Nat.le_of_ble_eq_true rfl) (hW28.at hg29) (hW28.A hg29) hS26 dX2_become_29 (fun H31 locs32 ha33 hz34 hq35 hS36 => ?_)
  obtain ⟨Γ37, hW38, hg39, ho40⟩ := hW28.put1 hg29 ha33 hq35
  refine lv_aload_n hx hb dX2_become_32 rfl (lv_at hl 1 rfl) ?_
  refine ps_get (v := .ref (sp + 1)) X in_X2 (ci := 2) rfl 3 (by decide) q171 rfl (hW38.at ((ho40 _ (by omega)).trans ((ho30 _ (by omega)).trans ((ho20 _ (by omega)).trans ((ho10 _ (by omega)).trans hT.1))))) rfl dX2_become_33 ?_
  refine lv_iconst (v := nI 0) hx hb dX2_become_36 rfl ?_
  refine lv_aload_n hx hb dX2_become_37 rfl (lv_at hl 0 rfl) ?_
  refine ps_get (v := .ref (sq + 1)) X in_X2 (ci := 2) rfl 3 (by decide) q171 rfl (hW38.at hg39) rfl dX2_become_38 ?_
  refine lv_iconst (v := nI 0) hx hb dX2_become_41 rfl ?_
  refine lv_iconst (v := nI 4) hx hb dX2_become_42 rfl ?_
  refine ps_icpy (sp := 0) (dp := 0) (k := 4) X q812 q438 q437 q85 (ty := .int) rfl (t := 0) rfl (hW38.at ((ho40 _ (by omega)).trans ((ho30 _ (by omega)).trans ((ho20 _ (by omega)).trans ((ho10 _ (by omega)).trans hT.2.1))))) (hW38.at ((ho40 _ (by omega)).trans ((ho30 _ (by omega)).trans ((ho20 _ (by omega)).trans ((ho10 _ (by omega)).trans hD.2.1))))) rfl rfl rfl (by omega) (fun i hi => rfl) hl.1 ⟨Nat.le_of_ble_eq_true rfl, by decide +kernel⟩ (hW38.A ((ho40 _ (by omega)).trans ((ho30 _ (by omega)).trans ((ho20 _ (by omega)).trans ((ho10 _ (by omega)).trans hD.2.1))))) hS36 dX2_become_43 (fun H41 locs42 ha43 hz44 hq45 hS46 => ?_)
  obtain ⟨Γ47, hW48, hg49, ho50⟩ := hW38.put1 ((ho40 _ (by omega)).trans ((ho30 _ (by omega)).trans ((ho20 _ (by omega)).trans ((ho10 _ (by omega)).trans hD.2.1)))) ha43 hq45
  refine lv_aload_n hx hb dX2_become_46 rfl (lv_at hl 1 rfl) ?_
  refine ps_get (v := .ref (sp + 3)) X in_X2 (ci := 2) rfl 5 (by decide) q176 rfl (hW48.at ((ho50 _ (by omega)).trans ((ho40 _ (by omega)).trans ((ho30 _ (by omega)).trans ((ho20 _ (by omega)).trans ((ho10 _ (by omega)).trans hT.1)))))) rfl dX2_become_47 ?_
  refine lv_iconst (v := nI 0) hx hb dX2_become_50 rfl ?_
  refine lv_aload_n hx hb dX2_become_51 rfl (lv_at hl 0 rfl) ?_
  refine ps_get (v := .ref (sq + 3)) X in_X2 (ci := 2) rfl 5 (by decide) q176 rfl (hW48.at ((ho50 _ (by omega)).trans hg39)) rfl dX2_become_52 ?_
  refine lv_iconst (v := nI 0) hx hb dX2_become_55 rfl ?_
  refine lv_bipush (v := nI 8) hx hb dX2_become_56 rfl ?_
  refine ps_icpy (sp := 0) (dp := 0) (k := 8) X q812 q438 q437 q85 (ty := .int) rfl (t := 0) rfl (hW48.at ((ho50 _ (by omega)).trans ((ho40 _ (by omega)).trans ((ho30 _ (by omega)).trans ((ho20 _ (by omega)).trans ((ho10 _ (by omega)).trans hT.2.2.2.2.1)))))) (hW48.at ((ho50 _ (by omega)).trans ((ho40 _ (by omega)).trans ((ho30 _ (by omega)).trans ((ho20 _ (by omega)).trans ((ho10 _ (by omega)).trans hD.2.2.2.2.1)))))) rfl rfl rfl (by omega) (fun i hi => rfl) hl.1 ⟨Nat.le_of_ble_eq_true rfl, by decide +kernel⟩ (hW48.A ((ho50 _ (by omega)).trans ((ho40 _ (by omega)).trans ((ho30 _ (by omega)).trans ((ho20 _ (by omega)).trans ((ho10 _ (by omega)).trans hD.2.2.2.2.1)))))) hS46 dX2_become_58 (fun H51 locs52 ha53 hz54 hq55 hS56 => ?_)
  obtain ⟨Γ57, hW58, hg59, ho60⟩ := hW48.put1 ((ho50 _ (by omega)).trans ((ho40 _ (by omega)).trans ((ho30 _ (by omega)).trans ((ho20 _ (by omega)).trans ((ho10 _ (by omega)).trans hD.2.2.2.2.1))))) ha53 hq55
  refine lv_aload_n hx hb dX2_become_61 rfl (lv_at hl 0 rfl) ?_
  refine ps_get (v := .ref (sq + 2)) X in_X2 (ci := 2) rfl 4 (by decide) q174 rfl (hW58.at ((ho60 _ (by omega)).trans ((ho50 _ (by omega)).trans hg39))) rfl dX2_become_62 ?_
  obtain ⟨cAL, hAL⟩ := ps_cla X
  refine ps_geF X hE (m_J2_clear l hE hZ hW58 (df := df) ((ho60 _ (by omega)).trans ((ho50 _ (by omega)).trans ((ho40 _ (by omega)).trans ((ho30 _ (by omega)).trans ((ho20 _ (by omega)).trans ((ho10 _ (by omega)).trans hD.2.2.2.1)))))) (hr.imp (fun h => ⟨h.1.symm, h.2⟩) (fun h => ((ho60 _ (by omega)).trans ((ho50 _ (by omega)).trans ((ho40 _ (by omega)).trans ((ho30 _ (by omega)).trans ((ho20 _ (by omega)).trans (ho10 _ (by omega))))))).trans h.1)) (by omega)) (lw_F q814 q817 q819 q73 q821) hZ (by decide) (by decide +kernel) hAL ⟨⟨(by (try dsimp only) <;> omega), (by (try dsimp only) <;> omega)⟩, (by (try dsimp only) <;> omega), (by (try dsimp only) <;> omega)⟩ (ps_rc X (ci := 13) rfl (hW58.at ((ho60 _ (by omega)).trans ((ho50 _ (by omega)).trans ((ho40 _ (by omega)).trans ((ho30 _ (by omega)).trans ((ho20 _ (by omega)).trans ((ho10 _ (by omega)).trans hD.2.2.2.1)))))))) hS56 hl.1 (As := []) (rest := []) (n := 0) rfl rfl (Nat.le_of_ble_eq_true rfl) dX2_become_65 (fun v65 H61 locs62 hp63 hS64 => ?_)
  obtain ⟨hv72, Γ66, df73, x74, hW67, hgf68, hg69, hg70, ho71⟩ := hp63
  subst hv72
  refine ps_st (st' := []) rfl ?_
  have hfr : ∀ a, a ≠ sq → a ≠ sq + 1 → a ≠ sq + 2 → a ≠ sq + 3 → a ≠ sr → Γ66 a = Γ a := fun q a0 a1 a2 a3 a4 => (ho71 _ (by omega) (by omega)).trans ((ho60 _ (by omega)).trans ((ho50 _ (by omega)).trans ((ho40 _ (by omega)).trans ((ho30 _ (by omega)).trans ((ho20 _ (by omega)).trans (ho10 _ (by omega)))))))
  have hsp1 : ps_sp (fun w => w = sq + 6) Γ ow Γ66 ow := ps_sp.five rfl hOw (by
    rcases hg70 with h | h
    · exact Or.inl (by rw [← h.1]; exact hzn)
    · rcases hr with h2 | h2
      · exact Or.inl (by rw [h2.1]; exact hzn)
      · exact Or.inr ⟨h2.2, _, h⟩) ⟨_, ((ho71 _ (by omega) (by omega)).trans ((ho60 _ (by omega)).trans ((ho50 _ (by omega)).trans hg39)))⟩ ⟨_, ((ho71 _ (by omega) (by omega)).trans ((ho60 _ (by omega)).trans hg49))⟩ ⟨_, hg69⟩ ⟨_, ((ho71 _ (by omega) (by omega)).trans hg59)⟩ hfr
  have hG0 := ((ho71 _ (by omega) (by omega)).trans ((ho60 _ (by omega)).trans ((ho50 _ (by omega)).trans hg39)))
  have hG1 := ((ho71 _ (by omega) (by omega)).trans ((ho60 _ (by omega)).trans hg49))
  have hG2 := hg69
  have hG3 := ((ho71 _ (by omega) (by omega)).trans hg59)
  have hr9 : (sr = z ∧ (0 : Nat) = 0) ∨ (Γ66 sr = some (ps_q (E.2.1 6) 10 df73) ∧ ow sr = sq + 6) := by
    rcases hg70 with h | h
    · exact Or.inl ⟨h.1.symm, rfl⟩
    · rcases hr with h2 | h2
      · exact Or.inl ⟨h2.1, rfl⟩
      · exact Or.inr ⟨h, h2.2⟩
  have hSo1 : ps_So E z Γ66 ow sq (va_up τ 3 0) := ⟨x74, sr, pf, _, _, df73, ⟨hG0, hG1, fun g hg => (ps_cpyv hg).trans ((hT.2.2.1 g hg).trans (congrArg nI (va_up_ne _ _ (by omega)).symm)), hG2, hG3, fun p hp => (ps_cpyv hp).trans ((hT.2.2.2.2.2.1 p hp).trans (congrArg nI (va_up_ne _ _ (by omega)).symm)), hr9.imp id And.left, fun p hp => absurd hp (Nat.not_lt_zero _), fun p hp => absurd hp (Nat.not_lt_zero _)⟩, hOw, hr9, fun p hp => absurd hp (Nat.not_lt_zero _)⟩
  refine lv_iconst (v := nI 0) hx hb dX2_become_70 rfl ?_
  refine lv_istore_n (lv' := [(2, .int (nI 0)), (0, .ref (sq)), (1, .ref (sp))]) hx hb dX2_become_71 rfl hl (by decide) rfl (fun ls hl => ?_)
  have L72 : ∀ (n : Nat) (i : Nat) (Γi : ps_Gh) (owi : ps_Ow) (Hi : Heap) (locsi : List Loc) (hi : i ≤ τ 3) (hWi : ps_W E Γi Hi) (hgi : ps_gf Γ H Γi Hi) (hspi : ps_sp (fun w => w = sq + 6) Γ ow Γi owi) (hSoi : ps_So E z Γi owi sq (va_up τ 3 i)) (hSi : va_S (ps_A E) s.heap Hi locsi) (hmu : τ 3 - i < n) (ls : Array Slot) (hl : lv_has ls 3 [(2, .int (nI i)), (0, .ref (sq)), (1, .ref (sp))]), W p l e ({ frames := 5, cells := 8, slots := 80, locals := 111 } : Room) s m args below meth c Hi locsi i (10 * i) (MQ below (ps_ge (fun v H1 => v = none ∧ ∃ Γ1 ow1, ps_W E Γ1 H1 ∧ ps_gf Γ H Γ1 H1 ∧ ps_sp (fun w => w = sq + 6) Γ ow Γ1 ow1 ∧ ps_So E z Γ1 ow1 sq τ) (ps_A E)) args s 8 80 (ps_A E)) (F0 m 72 ls []) := by
    intro n
    induction n with
    | zero => intro i Γi owi Hi locsi hi hWi hgi hspi hSoi hSi hmu; exact absurd hmu (Nat.not_lt_zero _)
    | succ n ih72 =>
      intro i Γi owi Hi locsi hi hWi hgi hspi hSoi hSi hmu ls hl
      have hSoj := hSoi
      obtain ⟨mci, ri, pfi, kfi, tfi, dfi, hDi, hOwi, hri, hpoi⟩ := hSoi
      have hToi := hTo.kept hspi (show ¬ 0 = sq + 6 by omega) (show ¬ sp + 6 = sq + 6 by omega)
      obtain ⟨tmci, tri, pgi, kgi, tgi, dgi, hTi, hTwi, htri, hpti⟩ := hToi
      have hGi0 : Γi sq = some (.inr (2, [.int (nI (τ 0)), .int (nI (τ 1)), .int (nI (τ 2)), .ref (sq + 1), .ref (sq + 2), .ref (sq + 3), .int (nI (τ 4))])) := hDi.1
      have hGi2 : Γi (sq + 2) = some (.inr (13, [.int mci, .ref ri, .int (nI i)])) := hDi.2.2.2.1
      have hri2 : (z = ri ∧ i = 0) ∨ Γi ri = some (ps_q (E.2.1 6) 10 dfi) := hri.imp (fun h => ⟨h.1.symm, h.2⟩) And.left
      refine lv_iload_n hx hb dX2_become_72 rfl (lv_at hl 0 rfl) ?_
      refine lv_aload_n hx hb dX2_become_73 rfl (lv_at hl 2 rfl) ?_
      refine ps_get (v := .ref (sp + 2)) X in_X2 (ci := 2) rfl 4 (by decide) q174 rfl (hWi.at hTi.1) rfl dX2_become_74 ?_
      obtain ⟨cAL, hAL⟩ := ps_cla X
      refine ps_roF X hE (m_J2_size l hE hZ hWi hTi.2.2.2.1 ) (lw_F q651 q655 q657 q73 q659) hZ (by decide) (by decide +kernel) hAL ⟨⟨(by (try dsimp only) <;> omega), (by (try dsimp only) <;> omega)⟩, (by (try dsimp only) <;> omega), (by (try dsimp only) <;> omega)⟩ (ps_rc X (ci := 13) rfl (hWi.at hTi.2.2.2.1)) hSi hl.1 (As := []) (rest := [.int (nI i)]) (n := 0) rfl rfl (Nat.le_of_ble_eq_true rfl) dX2_become_77 ?_
      refine ps_st (st' := [.int (nI (τ 3)), .int (nI i)]) rfl ?_
      refine ps_cge (tgt := 114) hx hb dX2_become_82 (by decide) (by omega) (fun c_82 => ?_) (fun c_82 => ?_)
      · skip
        have ei : i = τ 3 := by omega
        subst ei
        exact ps_vretG X hSi (by (try dsimp only) <;> omega) (by (try dsimp only) <;> omega) dX2_become_114 (⟨rfl, Γi, owi, hWi, hgi, hspi, by have h9 := hSoj; rw [va_up_id] at h9; exact h9⟩)
      · skip
        refine lv_aload_n hx hb dX2_become_85 rfl (lv_at hl 1 rfl) ?_
        refine ps_get (v := .ref (sq + 2)) X in_X2 (ci := 2) rfl 4 (by decide) q174 rfl (hWi.at hGi0) rfl dX2_become_86 ?_
        refine lv_aload_n hx hb dX2_become_89 rfl (lv_at hl 2 rfl) ?_
        refine ps_get (v := .ref (sp + 2)) X in_X2 (ci := 2) rfl 4 (by decide) q174 rfl (hWi.at hTi.1) rfl dX2_become_90 ?_
        refine lv_iload_n hx hb dX2_become_93 rfl (lv_at hl 0 rfl) ?_
        obtain ⟨cAL, hAL⟩ := ps_cla X
        refine ps_roF X hE (m_J2_get l hE hZ hWi hTi.2.2.2.1 (k := i) (b := pgi i) (hTi.2.2.2.2.2.2.1.resolve_left (fun h => by omega)) (by omega) (by omega) (hTi.2.2.2.2.2.2.2.1 _ (by omega))) (lw_F q823 q826 q828 q73 q830) hZ (by decide) (by decide +kernel) hAL ⟨⟨(by (try dsimp only) <;> omega), (by (try dsimp only) <;> omega)⟩, (by (try dsimp only) <;> omega), (by (try dsimp only) <;> omega)⟩ (ps_rc X (ci := 13) rfl (hWi.at hTi.2.2.2.1)) hSi hl.1 (As := [.int (nI i)]) (rest := [.ref (sq + 2)]) (n := 1) rfl rfl (Nat.le_of_ble_eq_true rfl) dX2_become_94 ?_
        refine ps_st (st' := [.ref (pgi i), .ref (sq + 2)]) rfl ?_
        refine ps_castP X hZ q841 (hO2.p (p := i) (by omega)).1 (hWi.at (hTi.2.2.2.2.2.2.2.2 i (by omega))) dX2_become_99 ?_
        obtain ⟨cAL, hAL⟩ := ps_cla X
        refine ps_geF X hE (m_J2_add l hE hZ hWi hGi2 hri2 (by omega) (hTi.2.2.2.2.2.2.2.2 i (by omega)) (hO2.p (p := i) (by omega)).1) (lw_F q843 q746 q748 q73 q750) hZ (by decide) (by decide +kernel) hAL ⟨⟨(by (try dsimp only) <;> omega), (by (try dsimp only) <;> omega)⟩, (by (try dsimp only) <;> omega), (by (try dsimp only) <;> omega)⟩ (ps_rc X (ci := 13) rfl (hWi.at hGi2)) hSi hl.1 (As := [.ref (pgi i)]) (rest := []) (n := 1) rfl rfl (Nat.le_of_ble_eq_true rfl) dX2_become_102 (fun v79 H75 locs76 hp77 hS78 => ?_)
        obtain ⟨hv86, Γ80, r87, df88, x89, hW81, hgf82, hg83, hg84, hd90, hr91, ho85⟩ := hp77
        subst hv86
        refine ps_st (st' := [.int (bI true)]) rfl ?_
        refine lv_pop hx hb dX2_become_107 rfl ?_
        refine lv_iinc (v := nI (i + 1)) (lv' := [(2, .int (nI (i + 1))), (0, .ref (sq)), (1, .ref (sp))]) hx hb dX2_become_108 hl (k := 0) rfl (ps_inc _) (by decide) rfl (fun ls hl => ?_)
        refine lv_goto (tgt := 72) hx hb dX2_become_111 (by decide) ?_
        have hadd := ps_So.add (P := fun w => w = sq + 6) (σ := va_up τ 3 i) (σ' := va_up τ 3 (i + 1)) rfl hWi hzA hW81 hDi hOwi hri hpoi (hTi.2.2.2.2.2.2.2.2 i (by omega)) (hpti i (by omega)) ⟨va_up_ne _ _ (by omega), va_up_ne _ _ (by omega), va_up_ne _ _ (by omega), va_up_ne _ _ (by omega), va_up_ne _ _ (by omega)⟩ hg83 hg84 hd90 hr91 ho85 ⟨rfl, fun j h1 h2 => by rw [va_up_ne _ _ h2, va_up_ne _ _ h2], fun j h1 => by rw [va_up_ne _ _ (by omega), va_up_ne _ _ (by omega)], fun p hp => by refine ⟨?_, ?_, ?_, ?_, ?_⟩ <;> rw [va_up_ne _ _ (by omega), va_up_ne _ _ (by omega)]⟩
        refine ps_wd (c2 := i + 1) (s2 := 10 * (i + 1)) (by omega) (by omega) ?_
        exact ih72  (i + 1) Γ80 (va_up owi r87 (sq + 6)) H75 _ (by omega) hW81 ((hgi.tr hgf82)) ((hspi.tr hadd.1)) hadd.2 hS78 (by omega) ls (lv_sub hl [0, 1, 2] rfl)
  exact L72 ((τ 3 - 0) + 1) 0 Γ66 ow H61 _ (by omega) hW67 ((((((((ps_gf.rf.put hD.1 hz4 hq5 ho10).put hg9 hz14 hq15 ho20).put hg19 hz24 hq25 ho30).put hg29 hz34 hq35 ho40).put ((ho40 _ (by omega)).trans ((ho30 _ (by omega)).trans ((ho20 _ (by omega)).trans ((ho10 _ (by omega)).trans hD.2.1)))) hz44 hq45 ho50).put ((ho50 _ (by omega)).trans ((ho40 _ (by omega)).trans ((ho30 _ (by omega)).trans ((ho20 _ (by omega)).trans ((ho10 _ (by omega)).trans hD.2.2.2.2.1))))) hz54 hq55 ho60).tr hgf68)) hsp1 hSo1 hS64 (Nat.lt_succ_self _) ls (lv_sub hl [0, 1, 2] rfl)
