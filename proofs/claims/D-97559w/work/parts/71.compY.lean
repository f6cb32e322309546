/-! as: casts (printed by gen/comp25.py) -/
set_option maxRecDepth 100000
set_option maxHeartbeats 4000000 in
theorem m_X0_taken (l : Launch) {E : ps_E} (hE : ps_ZT E) {z : Nat} (hZ : ps_Zk E z) {Γ : ps_Gh} {H : Heap} (hW : ps_W E Γ H) (hX : ps_Zx E) (hLT : l.stackTraces = false) (hOm : ps_Zo E) {a n lk gv dd dy kd j : Nat} (hP : Γ a = some (ps_pr kd n lk gv dd dy)) (hk : 1 ≤ kd ∧ kd ≤ 5) (hj : j ≤ 5) : ps_Gx l E yX0_taken cX0_taken 2 (some (.object "PromiseScales$Promise")) 8 10260 3 970 [.ref (a), .int (nI j)] H (fun v H1 => v = some (.ref a) ∧ sp_isK kd j = true ∧ H1 = H) (fun N H1 => (sp_isK kd j = false ∧ N = ps_nC) ∧ ps_W E Γ H1 ∧ ps_gf Γ H Γ H1) := by
  refine ps_Gx.of (by decide) (Nat.le_of_ble_eq_true rfl) ?_
  intro p e s m args below meth c X ht ls hl
  have hx := X.1
  have hb := X.2.1
  have ho := X.2.2.2.1
  have hts := X.2.2.2.2.1
  have hS : va_S (ps_A E) s.heap H [] := by rw [X.2.2.2.2.2.2.2.2.1]; exact va_S.rf
  have hl : lv_has ls 2 [(0, .ref (a)), (1, .int (nI j))] := hl
  obtain ⟨hk1, hk2⟩ := hk
  obtain rfl | rfl | rfl | rfl | rfl : kd = 1 ∨ kd = 2 ∨ kd = 3 ∨ kd = 4 ∨ kd = 5 := by omega
  · skip
    refine lv_iload_n hx hb dX0_taken_0 rfl (lv_at hl 1 rfl) ?_
    by_cases e_0 : j = 0
    · subst e_0
      refine lv_tableIn (off := 35) (tgt := 36) hx hb dX0_taken_1 (by decide) (by decide) (by decide) (by decide) ?_
      refine lv_aload_n hx hb dX0_taken_36 rfl (lv_at hl 0 rfl) ?_
      refine ps_castP X hZ q1146 (by decide) (hW.at hP) dX0_taken_37 ?_
      refine vx_ret ?_
      exact ps_aretG X (Or.inl ⟨_, rfl⟩) (Or.inr ⟨_, rfl⟩) hS (Nat.le_of_ble_eq_true rfl) (Nat.le_of_ble_eq_true rfl) dX0_taken_40 (⟨rfl, by decide, rfl⟩)
    by_cases e_1 : j = 1
    · subst e_1
      refine lv_tableIn (off := 40) (tgt := 41) hx hb dX0_taken_1 (by decide) (by decide) (by decide) (by decide) ?_
      refine lv_aload_n hx hb dX0_taken_41 rfl (lv_at hl 0 rfl) ?_
      refine ps_castA (nn := "PromiseScales$Plain") X q663 (ps_rc X (ci := 7) rfl (hW.at hP)) dX0_taken_42 ?_
      refine vx_ret ?_
      exact ps_aretG X (Or.inl ⟨_, rfl⟩) (Or.inr ⟨_, rfl⟩) hS (Nat.le_of_ble_eq_true rfl) (Nat.le_of_ble_eq_true rfl) dX0_taken_45 (⟨rfl, by decide, rfl⟩)
    by_cases e_2 : j = 2
    · subst e_2
      refine lv_tableIn (off := 45) (tgt := 46) hx hb dX0_taken_1 (by decide) (by decide) (by decide) (by decide) ?_
      refine lv_aload_n hx hb dX0_taken_46 rfl (lv_at hl 0 rfl) ?_
      refine ps_castZ (nn := "PromiseScales$If") X hZ hX hOm hLT q694 (ps_clA X (ci := 7) rfl) (ps_clA X (ci := 8) rfl) (by decide +kernel) (by decide +kernel) (ps_rc X (ci := 7) rfl (hW.at hP)) (by decide) hS hl.1 ⟨⟨Nat.le_of_ble_eq_true rfl, Nat.le_of_ble_eq_true rfl⟩, Nat.le_of_ble_eq_true rfl, Nat.le_of_ble_eq_true rfl⟩ (Nat.le_of_ble_eq_true rfl) dX0_taken_47 (fun H1 q2 ce3 hz4 hk5 hS6 hce7 hcv8 hcl9 => ?_)
      obtain ⟨hW10, hgf11⟩ := hW.thrown hz4 hk5
      exact ps_out X ht hS6 hce7 hcv8 hcl9 (⟨⟨by decide, rfl⟩, hW10, (ps_gf.rf.tr hgf11)⟩) (Nat.le_of_ble_eq_true rfl) (Nat.le_of_ble_eq_true rfl)
    by_cases e_3 : j = 3
    · subst e_3
      refine lv_tableIn (off := 50) (tgt := 51) hx hb dX0_taken_1 (by decide) (by decide) (by decide) (by decide) ?_
      refine lv_aload_n hx hb dX0_taken_51 rfl (lv_at hl 0 rfl) ?_
      refine ps_castZ (nn := "PromiseScales$Twice") X hZ hX hOm hLT q706 (ps_clA X (ci := 7) rfl) (ps_clA X (ci := 9) rfl) (by decide +kernel) (by decide +kernel) (ps_rc X (ci := 7) rfl (hW.at hP)) (by decide) hS hl.1 ⟨⟨Nat.le_of_ble_eq_true rfl, Nat.le_of_ble_eq_true rfl⟩, Nat.le_of_ble_eq_true rfl, Nat.le_of_ble_eq_true rfl⟩ (Nat.le_of_ble_eq_true rfl) dX0_taken_52 (fun H12 q13 ce14 hz15 hk16 hS17 hce18 hcv19 hcl20 => ?_)
      obtain ⟨hW21, hgf22⟩ := hW.thrown hz15 hk16
      exact ps_out X ht hS17 hce18 hcv19 hcl20 (⟨⟨by decide, rfl⟩, hW21, (ps_gf.rf.tr hgf22)⟩) (Nat.le_of_ble_eq_true rfl) (Nat.le_of_ble_eq_true rfl)
    by_cases e_4 : j = 4
    · subst e_4
      refine lv_tableIn (off := 55) (tgt := 56) hx hb dX0_taken_1 (by decide) (by decide) (by decide) (by decide) ?_
      refine lv_aload_n hx hb dX0_taken_56 rfl (lv_at hl 0 rfl) ?_
      refine ps_castZ (nn := "PromiseScales$Oath") X hZ hX hOm hLT q718 (ps_clA X (ci := 7) rfl) (ps_clA X (ci := 10) rfl) (by decide +kernel) (by decide +kernel) (ps_rc X (ci := 7) rfl (hW.at hP)) (by decide) hS hl.1 ⟨⟨Nat.le_of_ble_eq_true rfl, Nat.le_of_ble_eq_true rfl⟩, Nat.le_of_ble_eq_true rfl, Nat.le_of_ble_eq_true rfl⟩ (Nat.le_of_ble_eq_true rfl) dX0_taken_57 (fun H23 q24 ce25 hz26 hk27 hS28 hce29 hcv30 hcl31 => ?_)
      obtain ⟨hW32, hgf33⟩ := hW.thrown hz26 hk27
      exact ps_out X ht hS28 hce29 hcv30 hcl31 (⟨⟨by decide, rfl⟩, hW32, (ps_gf.rf.tr hgf33)⟩) (Nat.le_of_ble_eq_true rfl) (Nat.le_of_ble_eq_true rfl)
    obtain rfl : j = 5 := by omega
    refine lv_tableOut (tgt := 61) hx hb dX0_taken_1 (by decide) (by decide) ?_
    refine lv_aload_n hx hb dX0_taken_61 rfl (lv_at hl 0 rfl) ?_
    refine ps_castZ (nn := "PromiseScales$About") X hZ hX hOm hLT q730 (ps_clA X (ci := 7) rfl) (ps_clA X (ci := 11) rfl) (by decide +kernel) (by decide +kernel) (ps_rc X (ci := 7) rfl (hW.at hP)) (by decide) hS hl.1 ⟨⟨Nat.le_of_ble_eq_true rfl, Nat.le_of_ble_eq_true rfl⟩, Nat.le_of_ble_eq_true rfl, Nat.le_of_ble_eq_true rfl⟩ (Nat.le_of_ble_eq_true rfl) dX0_taken_62 (fun H34 q35 ce36 hz37 hk38 hS39 hce40 hcv41 hcl42 => ?_)
    obtain ⟨hW43, hgf44⟩ := hW.thrown hz37 hk38
    exact ps_out X ht hS39 hce40 hcv41 hcl42 (⟨⟨by decide, rfl⟩, hW43, (ps_gf.rf.tr hgf44)⟩) (Nat.le_of_ble_eq_true rfl) (Nat.le_of_ble_eq_true rfl)
  · skip
    refine lv_iload_n hx hb dX0_taken_0 rfl (lv_at hl 1 rfl) ?_
    by_cases e_0 : j = 0
    · subst e_0
      refine lv_tableIn (off := 35) (tgt := 36) hx hb dX0_taken_1 (by decide) (by decide) (by decide) (by decide) ?_
      refine lv_aload_n hx hb dX0_taken_36 rfl (lv_at hl 0 rfl) ?_
      refine ps_castP X hZ q1146 (by decide) (hW.at hP) dX0_taken_37 ?_
      refine vx_ret ?_
      exact ps_aretG X (Or.inl ⟨_, rfl⟩) (Or.inr ⟨_, rfl⟩) hS (Nat.le_of_ble_eq_true rfl) (Nat.le_of_ble_eq_true rfl) dX0_taken_40 (⟨rfl, by decide, rfl⟩)
    by_cases e_1 : j = 1
    · subst e_1
      refine lv_tableIn (off := 40) (tgt := 41) hx hb dX0_taken_1 (by decide) (by decide) (by decide) (by decide) ?_
      refine lv_aload_n hx hb dX0_taken_41 rfl (lv_at hl 0 rfl) ?_
      refine ps_cast (C := "PromiseScales$If") X q663 (X.nw hZ q1689 rfl) (ps_rc X (ci := 8) rfl (hW.at hP)) dX0_taken_42 ?_
      refine vx_ret ?_
      exact ps_aretG X (Or.inl ⟨_, rfl⟩) (Or.inr ⟨_, rfl⟩) hS (Nat.le_of_ble_eq_true rfl) (Nat.le_of_ble_eq_true rfl) dX0_taken_45 (⟨rfl, by decide, rfl⟩)
    by_cases e_2 : j = 2
    · subst e_2
      refine lv_tableIn (off := 45) (tgt := 46) hx hb dX0_taken_1 (by decide) (by decide) (by decide) (by decide) ?_
      refine lv_aload_n hx hb dX0_taken_46 rfl (lv_at hl 0 rfl) ?_
      refine ps_castA (nn := "PromiseScales$If") X q694 (ps_rc X (ci := 8) rfl (hW.at hP)) dX0_taken_47 ?_
      refine vx_ret ?_
      exact ps_aretG X (Or.inl ⟨_, rfl⟩) (Or.inr ⟨_, rfl⟩) hS (Nat.le_of_ble_eq_true rfl) (Nat.le_of_ble_eq_true rfl) dX0_taken_50 (⟨rfl, by decide, rfl⟩)
    by_cases e_3 : j = 3
    · subst e_3
      refine lv_tableIn (off := 50) (tgt := 51) hx hb dX0_taken_1 (by decide) (by decide) (by decide) (by decide) ?_
      refine lv_aload_n hx hb dX0_taken_51 rfl (lv_at hl 0 rfl) ?_
      refine ps_castZ (nn := "PromiseScales$Twice") X hZ hX hOm hLT q706 (ps_clA X (ci := 8) rfl) (ps_clA X (ci := 9) rfl) (by decide +kernel) (by decide +kernel) (ps_rc X (ci := 8) rfl (hW.at hP)) (by decide) hS hl.1 ⟨⟨Nat.le_of_ble_eq_true rfl, Nat.le_of_ble_eq_true rfl⟩, Nat.le_of_ble_eq_true rfl, Nat.le_of_ble_eq_true rfl⟩ (Nat.le_of_ble_eq_true rfl) dX0_taken_52 (fun H45 q46 ce47 hz48 hk49 hS50 hce51 hcv52 hcl53 => ?_)
      obtain ⟨hW54, hgf55⟩ := hW.thrown hz48 hk49
      exact ps_out X ht hS50 hce51 hcv52 hcl53 (⟨⟨by decide, rfl⟩, hW54, (ps_gf.rf.tr hgf55)⟩) (Nat.le_of_ble_eq_true rfl) (Nat.le_of_ble_eq_true rfl)
    by_cases e_4 : j = 4
    · subst e_4
      refine lv_tableIn (off := 55) (tgt := 56) hx hb dX0_taken_1 (by decide) (by decide) (by decide) (by decide) ?_
      refine lv_aload_n hx hb dX0_taken_56 rfl (lv_at hl 0 rfl) ?_
      refine ps_castZ (nn := "PromiseScales$Oath") X hZ hX hOm hLT q718 (ps_clA X (ci := 8) rfl) (ps_clA X (ci := 10) rfl) (by decide +kernel) (by decide +kernel) (ps_rc X (ci := 8) rfl (hW.at hP)) (by decide) hS hl.1 ⟨⟨Nat.le_of_ble_eq_true rfl, Nat.le_of_ble_eq_true rfl⟩, Nat.le_of_ble_eq_true rfl, Nat.le_of_ble_eq_true rfl⟩ (Nat.le_of_ble_eq_true rfl) dX0_taken_57 (fun H56 q57 ce58 hz59 hk60 hS61 hce62 hcv63 hcl64 => ?_)
      obtain ⟨hW65, hgf66⟩ := hW.thrown hz59 hk60
      exact ps_out X ht hS61 hce62 hcv63 hcl64 (⟨⟨by decide, rfl⟩, hW65, (ps_gf.rf.tr hgf66)⟩) (Nat.le_of_ble_eq_true rfl) (Nat.le_of_ble_eq_true rfl)
    obtain rfl : j = 5 := by omega
    refine lv_tableOut (tgt := 61) hx hb dX0_taken_1 (by decide) (by decide) ?_
    refine lv_aload_n hx hb dX0_taken_61 rfl (lv_at hl 0 rfl) ?_
    refine ps_castZ (nn := "PromiseScales$About") X hZ hX hOm hLT q730 (ps_clA X (ci := 8) rfl) (ps_clA X (ci := 11) rfl) (by decide +kernel) (by decide +kernel) (ps_rc X (ci := 8) rfl (hW.at hP)) (by decide) hS hl.1 ⟨⟨Nat.le_of_ble_eq_true rfl, Nat.le_of_ble_eq_true rfl⟩, Nat.le_of_ble_eq_true rfl, Nat.le_of_ble_eq_true rfl⟩ (Nat.le_of_ble_eq_true rfl) dX0_taken_62 (fun H67 q68 ce69 hz70 hk71 hS72 hce73 hcv74 hcl75 => ?_)
    obtain ⟨hW76, hgf77⟩ := hW.thrown hz70 hk71
    exact ps_out X ht hS72 hce73 hcv74 hcl75 (⟨⟨by decide, rfl⟩, hW76, (ps_gf.rf.tr hgf77)⟩) (Nat.le_of_ble_eq_true rfl) (Nat.le_of_ble_eq_true rfl)
  · skip
    refine lv_iload_n hx hb dX0_taken_0 rfl (lv_at hl 1 rfl) ?_
    by_cases e_0 : j = 0
    · subst e_0
      refine lv_tableIn (off := 35) (tgt := 36) hx hb dX0_taken_1 (by decide) (by decide) (by decide) (by decide) ?_
      refine lv_aload_n hx hb dX0_taken_36 rfl (lv_at hl 0 rfl) ?_
      refine ps_castP X hZ q1146 (by decide) (hW.at hP) dX0_taken_37 ?_
      refine vx_ret ?_
      exact ps_aretG X (Or.inl ⟨_, rfl⟩) (Or.inr ⟨_, rfl⟩) hS (Nat.le_of_ble_eq_true rfl) (Nat.le_of_ble_eq_true rfl) dX0_taken_40 (⟨rfl, by decide, rfl⟩)
    by_cases e_1 : j = 1
    · subst e_1
      refine lv_tableIn (off := 40) (tgt := 41) hx hb dX0_taken_1 (by decide) (by decide) (by decide) (by decide) ?_
      refine lv_aload_n hx hb dX0_taken_41 rfl (lv_at hl 0 rfl) ?_
      refine ps_cast (C := "PromiseScales$Twice") X q663 (X.nw hZ q1690 rfl) (ps_rc X (ci := 9) rfl (hW.at hP)) dX0_taken_42 ?_
      refine vx_ret ?_
      exact ps_aretG X (Or.inl ⟨_, rfl⟩) (Or.inr ⟨_, rfl⟩) hS (Nat.le_of_ble_eq_true rfl) (Nat.le_of_ble_eq_true rfl) dX0_taken_45 (⟨rfl, by decide, rfl⟩)
    by_cases e_2 : j = 2
    · subst e_2
      refine lv_tableIn (off := 45) (tgt := 46) hx hb dX0_taken_1 (by decide) (by decide) (by decide) (by decide) ?_
      refine lv_aload_n hx hb dX0_taken_46 rfl (lv_at hl 0 rfl) ?_
      refine ps_castZ (nn := "PromiseScales$If") X hZ hX hOm hLT q694 (ps_clA X (ci := 9) rfl) (ps_clA X (ci := 8) rfl) (by decide +kernel) (by decide +kernel) (ps_rc X (ci := 9) rfl (hW.at hP)) (by decide) hS hl.1 ⟨⟨Nat.le_of_ble_eq_true rfl, Nat.le_of_ble_eq_true rfl⟩, Nat.le_of_ble_eq_true rfl, Nat.le_of_ble_eq_true rfl⟩ (Nat.le_of_ble_eq_true rfl) dX0_taken_47 (fun H78 q79 ce80 hz81 hk82 hS83 hce84 hcv85 hcl86 => ?_)
      obtain ⟨hW87, hgf88⟩ := hW.thrown hz81 hk82
      exact ps_out X ht hS83 hce84 hcv85 hcl86 (⟨⟨by decide, rfl⟩, hW87, (ps_gf.rf.tr hgf88)⟩) (Nat.le_of_ble_eq_true rfl) (Nat.le_of_ble_eq_true rfl)
    by_cases e_3 : j = 3
    · subst e_3
      refine lv_tableIn (off := 50) (tgt := 51) hx hb dX0_taken_1 (by decide) (by decide) (by decide) (by decide) ?_
      refine lv_aload_n hx hb dX0_taken_51 rfl (lv_at hl 0 rfl) ?_
      refine ps_castA (nn := "PromiseScales$Twice") X q706 (ps_rc X (ci := 9) rfl (hW.at hP)) dX0_taken_52 ?_
      refine vx_ret ?_
      exact ps_aretG X (Or.inl ⟨_, rfl⟩) (Or.inr ⟨_, rfl⟩) hS (Nat.le_of_ble_eq_true rfl) (Nat.le_of_ble_eq_true rfl) dX0_taken_55 (⟨rfl, by decide, rfl⟩)
    by_cases e_4 : j = 4
    · subst e_4
      refine lv_tableIn (off := 55) (tgt := 56) hx hb dX0_taken_1 (by decide) (by decide) (by decide) (by decide) ?_
      refine lv_aload_n hx hb dX0_taken_56 rfl (lv_at hl 0 rfl) ?_
      refine ps_castZ (nn := "PromiseScales$Oath") X hZ hX hOm hLT q718 (ps_clA X (ci := 9) rfl) (ps_clA X (ci := 10) rfl) (by decide +kernel) (by decide +kernel) (ps_rc X (ci := 9) rfl (hW.at hP)) (by decide) hS hl.1 ⟨⟨Nat.le_of_ble_eq_true rfl, Nat.le_of_ble_eq_true rfl⟩, Nat.le_of_ble_eq_true rfl, Nat.le_of_ble_eq_true rfl⟩ (Nat.le_of_ble_eq_true rfl) dX0_taken_57 (fun H89 q90 ce91 hz92 hk93 hS94 hce95 hcv96 hcl97 => ?_)
      obtain ⟨hW98, hgf99⟩ := hW.thrown hz92 hk93
      exact ps_out X ht hS94 hce95 hcv96 hcl97 (⟨⟨by decide, rfl⟩, hW98, (ps_gf.rf.tr hgf99)⟩) (Nat.le_of_ble_eq_true rfl) (Nat.le_of_ble_eq_true rfl)
    obtain rfl : j = 5 := by omega
    refine lv_tableOut (tgt := 61) hx hb dX0_taken_1 (by decide) (by decide) ?_
    refine lv_aload_n hx hb dX0_taken_61 rfl (lv_at hl 0 rfl) ?_
    refine ps_castZ (nn := "PromiseScales$About") X hZ hX hOm hLT q730 (ps_clA X (ci := 9) rfl) (ps_clA X (ci := 11) rfl) (by decide +kernel) (by decide +kernel) (ps_rc X (ci := 9) rfl (hW.at hP)) (by decide) hS hl.1 ⟨⟨Nat.le_of_ble_eq_true rfl, Nat.le_of_ble_eq_true rfl⟩, Nat.le_of_ble_eq_true rfl, Nat.le_of_ble_eq_true rfl⟩ (Nat.le_of_ble_eq_true rfl) dX0_taken_62 (fun H100 q101 ce102 hz103 hk104 hS105 hce106 hcv107 hcl108 => ?_)
    obtain ⟨hW109, hgf110⟩ := hW.thrown hz103 hk104
    exact ps_out X ht hS105 hce106 hcv107 hcl108 (⟨⟨by decide, rfl⟩, hW109, (ps_gf.rf.tr hgf110)⟩) (Nat.le_of_ble_eq_true rfl) (Nat.le_of_ble_eq_true rfl)
  · skip
    refine lv_iload_n hx hb dX0_taken_0 rfl (lv_at hl 1 rfl) ?_
    by_cases e_0 : j = 0
    · subst e_0
      refine lv_tableIn (off := 35) (tgt := 36) hx hb dX0_taken_1 (by decide) (by decide) (by decide) (by decide) ?_
      refine lv_aload_n hx hb dX0_taken_36 rfl (lv_at hl 0 rfl) ?_
      refine ps_castP X hZ q1146 (by decide) (hW.at hP) dX0_taken_37 ?_
      refine vx_ret ?_
      exact ps_aretG X (Or.inl ⟨_, rfl⟩) (Or.inr ⟨_, rfl⟩) hS (Nat.le_of_ble_eq_true rfl) (Nat.le_of_ble_eq_true rfl) dX0_taken_40 (⟨rfl, by decide, rfl⟩)
    by_cases e_1 : j = 1
    · subst e_1
      refine lv_tableIn (off := 40) (tgt := 41) hx hb dX0_taken_1 (by decide) (by decide) (by decide) (by decide) ?_
      refine lv_aload_n hx hb dX0_taken_41 rfl (lv_at hl 0 rfl) ?_
      refine ps_castZ (nn := "PromiseScales$Plain") X hZ hX hOm hLT q663 (ps_clA X (ci := 10) rfl) (ps_clA X (ci := 7) rfl) (by decide +kernel) (by decide +kernel) (ps_rc X (ci := 10) rfl (hW.at hP)) (by decide) hS hl.1 ⟨⟨Nat.le_of_ble_eq_true rfl, Nat.le_of_ble_eq_true rfl⟩, Nat.le_of_ble_eq_true rfl, Nat.le_of_ble_eq_true rfl⟩ (Nat.le_of_ble_eq_true rfl) dX0_taken_42 (fun H111 q112 ce113 hz114 hk115 hS116 hce117 hcv118 hcl119 => ?_)
      obtain ⟨hW120, hgf121⟩ := hW.thrown hz114 hk115
      exact ps_out X ht hS116 hce117 hcv118 hcl119 (⟨⟨by decide, rfl⟩, hW120, (ps_gf.rf.tr hgf121)⟩) (Nat.le_of_ble_eq_true rfl) (Nat.le_of_ble_eq_true rfl)
    by_cases e_2 : j = 2
    · subst e_2
      refine lv_tableIn (off := 45) (tgt := 46) hx hb dX0_taken_1 (by decide) (by decide) (by decide) (by decide) ?_
      refine lv_aload_n hx hb dX0_taken_46 rfl (lv_at hl 0 rfl) ?_
      refine ps_castZ (nn := "PromiseScales$If") X hZ hX hOm hLT q694 (ps_clA X (ci := 10) rfl) (ps_clA X (ci := 8) rfl) (by decide +kernel) (by decide +kernel) (ps_rc X (ci := 10) rfl (hW.at hP)) (by decide) hS hl.1 ⟨⟨Nat.le_of_ble_eq_true rfl, Nat.le_of_ble_eq_true rfl⟩, Nat.le_of_ble_eq_true rfl, Nat.le_of_ble_eq_true rfl⟩ (Nat.le_of_ble_eq_true rfl) dX0_taken_47 (fun H122 q123 ce124 hz125 hk126 hS127 hce128 hcv129 hcl130 => ?_)
      obtain ⟨hW131, hgf132⟩ := hW.thrown hz125 hk126
      exact ps_out X ht hS127 hce128 hcv129 hcl130 (⟨⟨by decide, rfl⟩, hW131, (ps_gf.rf.tr hgf132)⟩) (Nat.le_of_ble_eq_true rfl) (Nat.le_of_ble_eq_true rfl)
    by_cases e_3 : j = 3
    · subst e_3
      refine lv_tableIn (off := 50) (tgt := 51) hx hb dX0_taken_1 (by decide) (by decide) (by decide) (by decide) ?_
      refine lv_aload_n hx hb dX0_taken_51 rfl (lv_at hl 0 rfl) ?_
      refine ps_castZ (nn := "PromiseScales$Twice") X hZ hX hOm hLT q706 (ps_clA X (ci := 10) rfl) (ps_clA X (ci := 9) rfl) (by decide +kernel) (by decide +kernel) (ps_rc X (ci := 10) rfl (hW.at hP)) (by decide) hS hl.1 ⟨⟨Nat.le_of_ble_eq_true rfl, Nat.le_of_ble_eq_true rfl⟩, Nat.le_of_ble_eq_true rfl, Nat.le_of_ble_eq_true rfl⟩ (Nat.le_of_ble_eq_true rfl) dX0_taken_52 (fun H133 q134 ce135 hz136 hk137 hS138 hce139 hcv140 hcl141 => ?_)
      obtain ⟨hW142, hgf143⟩ := hW.thrown hz136 hk137
      exact ps_out X ht hS138 hce139 hcv140 hcl141 (⟨⟨by decide, rfl⟩, hW142, (ps_gf.rf.tr hgf143)⟩) (Nat.le_of_ble_eq_true rfl) (Nat.le_of_ble_eq_true rfl)
    by_cases e_4 : j = 4
    · subst e_4
      refine lv_tableIn (off := 55) (tgt := 56) hx hb dX0_taken_1 (by decide) (by decide) (by decide) (by decide) ?_
      refine lv_aload_n hx hb dX0_taken_56 rfl (lv_at hl 0 rfl) ?_
      refine ps_castA (nn := "PromiseScales$Oath") X q718 (ps_rc X (ci := 10) rfl (hW.at hP)) dX0_taken_57 ?_
      refine vx_ret ?_
      exact ps_aretG X (Or.inl ⟨_, rfl⟩) (Or.inr ⟨_, rfl⟩) hS (Nat.le_of_ble_eq_true rfl) (Nat.le_of_ble_eq_true rfl) dX0_taken_60 (⟨rfl, by decide, rfl⟩)
    obtain rfl : j = 5 := by omega
    refine lv_tableOut (tgt := 61) hx hb dX0_taken_1 (by decide) (by decide) ?_
    refine lv_aload_n hx hb dX0_taken_61 rfl (lv_at hl 0 rfl) ?_
    refine ps_castZ (nn := "PromiseScales$About") X hZ hX hOm hLT q730 (ps_clA X (ci := 10) rfl) (ps_clA X (ci := 11) rfl) (by decide +kernel) (by decide +kernel) (ps_rc X (ci := 10) rfl (hW.at hP)) (by decide) hS hl.1 ⟨⟨Nat.le_of_ble_eq_true rfl, Nat.le_of_ble_eq_true rfl⟩, Nat.le_of_ble_eq_true rfl, Nat.le_of_ble_eq_true rfl⟩ (Nat.le_of_ble_eq_true rfl) dX0_taken_62 (fun H144 q145 ce146 hz147 hk148 hS149 hce150 hcv151 hcl152 => ?_)
    obtain ⟨hW153, hgf154⟩ := hW.thrown hz147 hk148
    exact ps_out X ht hS149 hce150 hcv151 hcl152 (⟨⟨by decide, rfl⟩, hW153, (ps_gf.rf.tr hgf154)⟩) (Nat.le_of_ble_eq_true rfl) (Nat.le_of_ble_eq_true rfl)
  · skip
    refine lv_iload_n hx hb dX0_taken_0 rfl (lv_at hl 1 rfl) ?_
    by_cases e_0 : j = 0
    · subst e_0
      refine lv_tableIn (off := 35) (tgt := 36) hx hb dX0_taken_1 (by decide) (by decide) (by decide) (by decide) ?_
      refine lv_aload_n hx hb dX0_taken_36 rfl (lv_at hl 0 rfl) ?_
      refine ps_castP X hZ q1146 (by decide) (hW.at hP) dX0_taken_37 ?_
      refine vx_ret ?_
      exact ps_aretG X (Or.inl ⟨_, rfl⟩) (Or.inr ⟨_, rfl⟩) hS (Nat.le_of_ble_eq_true rfl) (Nat.le_of_ble_eq_true rfl) dX0_taken_40 (⟨rfl, by decide, rfl⟩)
    by_cases e_1 : j = 1
    · subst e_1
      refine lv_tableIn (off := 40) (tgt := 41) hx hb dX0_taken_1 (by decide) (by decide) (by decide) (by decide) ?_
      refine lv_aload_n hx hb dX0_taken_41 rfl (lv_at hl 0 rfl) ?_
      refine ps_castZ (nn := "PromiseScales$Plain") X hZ hX hOm hLT q663 (ps_clA X (ci := 11) rfl) (ps_clA X (ci := 7) rfl) (by decide +kernel) (by decide +kernel) (ps_rc X (ci := 11) rfl (hW.at hP)) (by decide) hS hl.1 ⟨⟨Nat.le_of_ble_eq_true rfl, Nat.le_of_ble_eq_true rfl⟩, Nat.le_of_ble_eq_true rfl, Nat.le_of_ble_eq_true rfl⟩ (Nat.le_of_ble_eq_true rfl) dX0_taken_42 (fun H155 q156 ce157 hz158 hk159 hS160 hce161 hcv162 hcl163 => ?_)
      obtain ⟨hW164, hgf165⟩ := hW.thrown hz158 hk159
      exact ps_out X ht hS160 hce161 hcv162 hcl163 (⟨⟨by decide, rfl⟩, hW164, (ps_gf.rf.tr hgf165)⟩) (Nat.le_of_ble_eq_true rfl) (Nat.le_of_ble_eq_true rfl)
    by_cases e_2 : j = 2
    · subst e_2
      refine lv_tableIn (off := 45) (tgt := 46) hx hb dX0_taken_1 (by decide) (by decide) (by decide) (by decide) ?_
      refine lv_aload_n hx hb dX0_taken_46 rfl (lv_at hl 0 rfl) ?_
      refine ps_castZ (nn := "PromiseScales$If") X hZ hX hOm hLT q694 (ps_clA X (ci := 11) rfl) (ps_clA X (ci := 8) rfl) (by decide +kernel) (by decide +kernel) (ps_rc X (ci := 11) rfl (hW.at hP)) (by decide) hS hl.1 ⟨⟨Nat.le_of_ble_eq_true rfl, Nat.le_of_ble_eq_true rfl⟩, Nat.le_of_ble_eq_true rfl, Nat.le_of_ble_eq_true rfl⟩ (Nat.le_of_ble_eq_true rfl) dX0_taken_47 (fun H166 q167 ce168 hz169 hk170 hS171 hce172 hcv173 hcl174 => ?_)
      obtain ⟨hW175, hgf176⟩ := hW.thrown hz169 hk170
      exact ps_out X ht hS171 hce172 hcv173 hcl174 (⟨⟨by decide, rfl⟩, hW175, (ps_gf.rf.tr hgf176)⟩) (Nat.le_of_ble_eq_true rfl) (Nat.le_of_ble_eq_true rfl)
    by_cases e_3 : j = 3
    · subst e_3
      refine lv_tableIn (off := 50) (tgt := 51) hx hb dX0_taken_1 (by decide) (by decide) (by decide) (by decide) ?_
      refine lv_aload_n hx hb dX0_taken_51 rfl (lv_at hl 0 rfl) ?_
      refine ps_castZ (nn := "PromiseScales$Twice") X hZ hX hOm hLT q706 (ps_clA X (ci := 11) rfl) (ps_clA X (ci := 9) rfl) (by decide +kernel) (by decide +kernel) (ps_rc X (ci := 11) rfl (hW.at hP)) (by decide) hS hl.1 ⟨⟨Nat.le_of_ble_eq_true rfl, Nat.le_of_ble_eq_true rfl⟩, Nat.le_of_ble_eq_true rfl, Nat.le_of_ble_eq_true rfl⟩ (Nat.le_of_ble_eq_true rfl) dX0_taken_52 (fun H177 q178 ce179 hz180 hk181 hS182 hce183 hcv184 hcl185 => ?_)
      obtain ⟨hW186, hgf187⟩ := hW.thrown hz180 hk181
      exact ps_out X ht hS182 hce183 hcv184 hcl185 (⟨⟨by decide, rfl⟩, hW186, (ps_gf.rf.tr hgf187)⟩) (Nat.le_of_ble_eq_true rfl) (Nat.le_of_ble_eq_true rfl)
    by_cases e_4 : j = 4
    · subst e_4
      refine lv_tableIn (off := 55) (tgt := 56) hx hb dX0_taken_1 (by decide) (by decide) (by decide) (by decide) ?_
      refine lv_aload_n hx hb dX0_taken_56 rfl (lv_at hl 0 rfl) ?_
      refine ps_cast (C := "PromiseScales$About") X q718 (X.nw hZ q1691 rfl) (ps_rc X (ci := 11) rfl (hW.at hP)) dX0_taken_57 ?_
      refine vx_ret ?_
      exact ps_aretG X (Or.inl ⟨_, rfl⟩) (Or.inr ⟨_, rfl⟩) hS (Nat.le_of_ble_eq_true rfl) (Nat.le_of_ble_eq_true rfl) dX0_taken_60 (⟨rfl, by decide, rfl⟩)
    obtain rfl : j = 5 := by omega
    refine lv_tableOut (tgt := 61) hx hb dX0_taken_1 (by decide) (by decide) ?_
    refine lv_aload_n hx hb dX0_taken_61 rfl (lv_at hl 0 rfl) ?_
    refine ps_castA (nn := "PromiseScales$About") X q730 (ps_rc X (ci := 11) rfl (hW.at hP)) dX0_taken_62 ?_
    refine vx_ret ?_
    exact ps_aretG X (Or.inl ⟨_, rfl⟩) (Or.inr ⟨_, rfl⟩) hS (Nat.le_of_ble_eq_true rfl) (Nat.le_of_ble_eq_true rfl) dX0_taken_65 (⟨rfl, by decide, rfl⟩)

set_option maxHeartbeats 4000000 in
theorem m_X0_as (l : Launch) {E : ps_E} (hE : ps_ZT E) {z : Nat} (hZ : ps_Zk E z) {Γ : ps_Gh} {H : Heap} (hW : ps_W E Γ H) {x : Nat} {S : SS} {ow : ps_Ow} (hC : ps_Cx E z Γ ow x S) (hwf : wf S) (hX : ps_Zx E) (hLT : l.stackTraces = false) (hOm : ps_Zo E) {v y : Int32} : ps_GW l E yX0_as cX0_as 4 (some .int) [(23, 42, 43, 328)] 9 10281 3 970 [.ref (x), .int (v), .int (y)] H (ps_cpost E z Γ H x (op_as S v y)) := by
  refine ps_GW.of (by decide) (Nat.le_of_ble_eq_true rfl) ?_
  intro p e s m args below meth c X ht ls hl
  have hx := X.1
  have hb := X.2.1
  have ho := X.2.2.2.1
  have hts := X.2.2.2.2.1
  have hS : va_S (ps_A E) s.heap H [] := by rw [X.2.2.2.2.2.2.2.2.1]; exact va_S.rf
  have hl : lv_has ls 4 [(0, .ref (x)), (1, .int (v)), (2, .int (y))] := hl
  have hO := hwf.1
  have hm := hO.m
  have hn := hwf.n
  have hl3 := hwf.2.2.2.2.1
  obtain ⟨tr, sa, τ, hOb, hRw, hTp, hTr, hSx, hSl⟩ := id hC
  have hSo := (hSx.2.2.2.2 0 _ hSx.1.1).2
  rw [hSl.1] at hSo
  obtain ⟨smc, sr, pf, kf, tf, df, hD, hOw, hrr, hpo⟩ := id hSo
  refine lv_aload_n hx hb dX0_as_0 rfl (lv_at hl 0 rfl) ?_
  refine lv_iload_n hx hb dX0_as_1 rfl (lv_at hl 1 rfl) ?_
  refine ps_roV X hE (m_X0_isPromise l hE hZ hW hOb.1 hD hO (v := v)) (lw_V q853 q855 qs18 q68 q856) (by decide +kernel) ⟨⟨Nat.le_of_ble_eq_true rfl, Nat.le_of_ble_eq_true rfl⟩, Nat.le_of_ble_eq_true rfl, Nat.le_of_ble_eq_true rfl⟩ (ps_rc X (ci := 0) rfl (hW.at hOb.1)) hS hl.1 (As := [.int (v)]) (rest := []) (n := 1) rfl rfl (Nat.le_of_ble_eq_true rfl) dX0_as_2 ?_
  refine ps_st (st' := [.int (bI (rng v 0 ((S.2.1 0) 3)))]) rfl ?_
  refine ps_ifeqB (tgt := 20) hx hb dX0_as_5 (by decide) (fun c_5 => ?_) (fun c_5 => ?_)
  · skip
    refine lv_ldc (v := -1000001) hx hb ho (hts _ q344) dX0_as_20 ?_
    exact ps_iretG X hS (Nat.le_of_ble_eq_true rfl) (Nat.le_of_ble_eq_true rfl) dX0_as_22 (ps_cend (S1 := S) (by simp [op_as, c_5]) hW ps_gf.rf hC)
  · skip
    obtain ⟨k, rfl, k_lo, k_hi, k_b⟩ := rng_t c_5
    have cl_k : (nI k).toNatClampNeg = k := nI_clamp (by omega)
    refine lv_iload_n hx hb dX0_as_8 rfl (lv_at hl 2 rfl) ?_
    refine lv_i2l (v := (y).toInt64) hx hb dX0_as_9 rfl ?_
    refine lv_lconst (v := lN 0) hx hb dX0_as_10 rfl ?_
    refine lv_ldc2 (v := 5) hx hb ho (hts _ q1015) dX0_as_11 ?_
    refine ps_roS X hE (m_X0_isIn l hE (H := H) (x := y) (lo := 0) (hi := 6) (lN_toInt (by decide)) (ps_hcL (k := 5) (by decide +kernel))) (lw_S q340 q341 q68 q342) (by decide +kernel) ⟨⟨Nat.le_of_ble_eq_true rfl, Nat.le_of_ble_eq_true rfl⟩, Nat.le_of_ble_eq_true rfl, Nat.le_of_ble_eq_true rfl⟩ hS hl.1 (As := [.long ((y).toInt64), .long (lN 0), .long (5)]) (rest := []) (n := 3) rfl rfl (Nat.le_of_ble_eq_true rfl) dX0_as_14 ?_
    refine ps_st (st' := [.int (bI (rng y 0 6))]) rfl ?_
    refine ps_ifneB (tgt := 23) hx hb dX0_as_17 (by decide) (fun c_17 => ?_) (fun c_17 => ?_)
    · skip
      obtain ⟨j, rfl, j_lo, j_hi, j_b⟩ := rng_t c_17
      have cl_j : (nI j).toNatClampNeg = j := nI_clamp (by omega)
      have hp := hO.p k_hi
      have hh := hO.h (p := k) (by omega)
      refine lv_aload_n hx hb dX0_as_23 rfl (lv_at hl 0 rfl) ?_
      refine lv_aload_n hx hb dX0_as_24 rfl (lv_at hl 0 rfl) ?_
      refine ps_get (v := .ref (x + 11)) X in_X0 (ci := 0) rfl 4 (by decide) q216 rfl (hW.at hOb.1) rfl dX0_as_25 ?_
      refine lv_iload_n hx hb dX0_as_28 rfl (lv_at hl 1 rfl) ?_
      refine ps_roV X hE (m_X2_promise l hE hZ hW hD hO (k := k) (by omega)) (lw_V q930 q888 q889 q70 q890) (by decide +kernel) ⟨⟨Nat.le_of_ble_eq_true rfl, Nat.le_of_ble_eq_true rfl⟩, Nat.le_of_ble_eq_true rfl, Nat.le_of_ble_eq_true rfl⟩ (ps_rc X (ci := 2) rfl (hW.at hD.1)) hS hl.1 (As := [.int (nI k)]) (rest := [.ref (x)]) (n := 1) rfl rfl (Nat.le_of_ble_eq_true rfl) dX0_as_29 ?_
      refine ps_st (st' := [.ref (pf k), .ref (x)]) rfl ?_
      refine lv_iload_n hx hb dX0_as_32 rfl (lv_at hl 2 rfl) ?_
      refine ps_gxS X hE (m_X0_taken l hE hZ hW hX hLT hOm (hD.2.2.2.2.2.2.2.2 k (by omega)) (hO.p (p := k) (by omega)).1 (j := j) (by omega)) (lw_S q1143 q1144 q68 q1145) (by decide +kernel) ⟨⟨Nat.le_of_ble_eq_true rfl, Nat.le_of_ble_eq_true rfl⟩, Nat.le_of_ble_eq_true rfl, Nat.le_of_ble_eq_true rfl⟩ hS hl.1 (As := [.ref (pf k), .int (nI j)]) (rest := [.ref (x)]) (n := 2) rfl rfl (Nat.le_of_ble_eq_true rfl) dX0_as_33 ?_ (fun N1 H2 locs3 q4 ce5 hp6 hS7 hce8 hcv9 hcl10 => ?_)
      rotate_left
      · skip
        obtain ⟨hc11, hW12, hgf13⟩ := hp6
        obtain ⟨hkd, rfl⟩ := hc11
        refine ps_catch (name := "java/lang/ClassCastException") (pre := []) (r := (23, 42, 43, 328)) X hZ hX ht rfl (fun y hy => nomatch hy) (by decide) (by decide) q1129 q1141 hce8 hcv9 hcl10 ?_
        refine lv_astore_n (lv' := [(3, .ref (q4)), (0, .ref (x)), (1, .int (nI k)), (2, .int (nI j))]) hx hb dX0_as_43 rfl hl (by decide) rfl (fun ls hl => ?_)
        refine lv_aload_n hx hb dX0_as_44 rfl (lv_at hl 1 rfl) ?_
        refine lv_iconst (v := nI 3) hx hb dX0_as_45 rfl ?_
        refine ps_geV X hE (m_X0_finds l hE hZ hW12 (N := S.1) hOb.1 (f := 3) (by omega)) (lw_V q352 q354 qs3 q68 q355) (by decide +kernel) ⟨⟨Nat.le_of_ble_eq_true rfl, Nat.le_of_ble_eq_true rfl⟩, Nat.le_of_ble_eq_true rfl, Nat.le_of_ble_eq_true rfl⟩ (ps_rc X (ci := 0) rfl (hW12.at hOb.1)) hS7 hl.1 (As := [.int (nI 3)]) (rest := []) (n := 1) rfl rfl (Nat.le_of_ble_eq_true rfl) dX0_as_46 (fun v18 H14 locs15 hp16 hS17 => ?_)
        obtain ⟨hv24, hz25, Γ19, hW20, hgf21, hg22, ho23⟩ := hp16
        subst hv24
        refine ps_st (st' := [.int (fnd 3)]) rfl ?_
        exact ps_iretG X hS17 (Nat.le_of_ble_eq_true rfl) (Nat.le_of_ble_eq_true rfl) dX0_as_49 (ps_cend (S1 := (sStat S 3)) (by simp [op_as, c_5, cl_k, c_17, cl_j, hkd]) hW20 ((ps_gf.rf.tr hgf13).tr hgf21) (ps_Cx.stat hOb hRw hTp hTr hSx hSl hg22 ho23))
      intro v30 H26 locs27 hp28 hS29
      obtain ⟨hv31, hkd, hH32⟩ := hp28
      subst hv31; have hH32s := hH32.symm; subst hH32s
      refine ps_st (st' := [.ref (pf k), .ref (x)]) rfl ?_
      refine ps_number  X hE hZ hW (hD.2.2.2.2.2.2.2.2 k (by omega)) (hO.p (p := k) (by omega)).1 q1147 ⟨⟨Nat.le_of_ble_eq_true rfl, Nat.le_of_ble_eq_true rfl⟩, Nat.le_of_ble_eq_true rfl, Nat.le_of_ble_eq_true rfl⟩ hS29 hl.1 (Nat.le_of_ble_eq_true rfl) dX0_as_36 ?_
      refine ps_geV X hE (m_X0_well l hE hZ hW (N := S.1) hOb.1 (u := nI k)) (lw_V q348 q350 qs2 q68 q351) (by decide +kernel) ⟨⟨Nat.le_of_ble_eq_true rfl, Nat.le_of_ble_eq_true rfl⟩, Nat.le_of_ble_eq_true rfl, Nat.le_of_ble_eq_true rfl⟩ (ps_rc X (ci := 0) rfl (hW.at hOb.1)) hS29 hl.1 (As := [.int (nI k)]) (rest := []) (n := 1) rfl rfl (Nat.le_of_ble_eq_true rfl) dX0_as_39 (fun v37 H33 locs34 hp35 hS36 => ?_)
      obtain ⟨hv43, hz44, Γ38, hW39, hgf40, hg41, ho42⟩ := hp35
      subst hv43
      refine ps_st (st' := [.int (nI k)]) rfl ?_
      exact ps_iretG X hS36 (Nat.le_of_ble_eq_true rfl) (Nat.le_of_ble_eq_true rfl) dX0_as_42 (ps_cend (S1 := (sStat S 0)) (by simp [op_as, c_5, cl_k, c_17, cl_j, hkd]) hW39 (ps_gf.rf.tr hgf40) (ps_Cx.stat hOb hRw hTp hTr hSx hSl hg41 ho42))
    · skip
      refine lv_ldc (v := -1000001) hx hb ho (hts _ q344) dX0_as_20 ?_
      exact ps_iretG X hS (Nat.le_of_ble_eq_true rfl) (Nat.le_of_ble_eq_true rfl) dX0_as_22 (ps_cend (S1 := S) (by simp [op_as, c_5, cl_k, c_17]) hW ps_gf.rf hC)
