/-! objects made (printed by gen/comp7.py) -/
set_option maxRecDepth 100000
set_option maxHeartbeats 4000000 in
theorem m_X2_init (l : Launch) {E : ps_E} (hE : ps_ZT E) {z : Nat} (hZ : ps_Zk E z) {Γ : ps_Gh} {H : Heap} (hW : ps_W E Γ H) {a : Nat} (hL : Γ a = some (.inr (2, [.int (nI 0), .int (nI 0), .int (nI 0), .null, .null, .null, .int (nI 0)]))) : ps_Ge l E yX2_init cX2_init 1 none 5 100 3 15 [.ref (a)] H (fun v H1 => v = none ∧ H1.size = H.size + 3 ∧ ∃ Γ1, ps_W E Γ1 H1 ∧ ps_gf Γ H Γ1 H1 ∧ Γ1 a = some (.inr (2, [.int (nI 0), .int (nI 0), .int (nI 0), .ref H.size, .ref (H.size + 1), .ref (H.size + 2), .int (nI 0)])) ∧ Γ1 H.size = some (.inl (E.2.1 0, 4, .inl fun _ => 0)) ∧ Γ1 (H.size + 1) = some (.inr (13, [.int (nI 0), .ref z, .int (nI 0)])) ∧ Γ1 (H.size + 2) = some (.inl (E.2.1 0, 8, .inl fun _ => 0)) ∧ ∀ q, q ≠ a → q < H.size → Γ1 q = Γ q) := by
  refine ps_Ge.of (by decide) (Nat.le_of_ble_eq_true rfl) ?_
  intro p e s m args below meth c X ls hl
  have hx := X.1
  have hb := X.2.1
  have ho := X.2.2.2.1
  have hts := X.2.2.2.2.1
  have hS : va_S (ps_A E) s.heap H [] := by rw [X.2.2.2.2.2.2.2.2.1]; exact va_S.rf
  have hl : lv_has ls 1 [(0, .ref (a))] := hl
  have hla := hW.lt hL
  refine lv_aload_n hx hb dX2_init_0 rfl (lv_at hl 0 rfl) ?_
  refine W.objInit hx hb ho (hts _ q133) (hts _ q111) (hts _ q112) rfl (by rw [X.2.2.1]; exact hl.1) rfl dX2_init_1 (Nat.le_of_ble_eq_true rfl) (Nat.le_of_ble_eq_true rfl) ?_
  refine lv_aload_n hx hb dX2_init_4 rfl (lv_at hl 0 rfl) ?_
  refine lv_iconst (v := nI 4) hx hb dX2_init_5 rfl ?_
  refine ps_newP (atype := .int) (t := 0) (ty := .int) (n := 4) X q161 rfl rfl rfl (fun U cA h => h) rfl (by show 4 * 4 ≤ 536870912; omega) (by omega) ⟨(Nat.le_of_ble_eq_true rfl), (Nat.le_of_ble_eq_true rfl)⟩ hS dX2_init_6 (fun H1 ha2 hz3 hq4 hS5 => ?_)
  obtain ⟨Γ6, hW7, hg8, ho9⟩ := hW.new1 (Nat.le_trans (hW.A hL) (Nat.le_of_lt (hW.lt hL))) ha2 hq4
  refine ps_putF X in_X2 tyX2_ok nmX2 (ci := 2) rfl 3 (by decide) q171 rfl rfl rfl rfl rfl rfl (Nat.le_of_ble_eq_true rfl) (hW7.at ((ho9 _ (Nat.ne_of_lt (hW.lt hL))).trans hL)) (hW7.A ((ho9 _ (Nat.ne_of_lt (hW.lt hL))).trans hL)) hS5 dX2_init_8 (fun H10 locs11 ha12 hz13 hq14 hS15 => ?_)
  obtain ⟨Γ16, hW17, hg18, ho19⟩ := hW7.put1 ((ho9 _ (Nat.ne_of_lt (hW.lt hL))).trans hL) ha12 hq14
  refine lv_aload_n hx hb dX2_init_11 rfl (lv_at hl 0 rfl) ?_
  refine ps_new (fs := [.int (nI 0), .null, .int (nI 0)]) X in_J2 tyJ2_ok q134 q135 q73 (ci := 13) rfl (fun j hj => by
      obtain rfl | rfl | rfl : j = 0 ∨ j = 1 ∨ j = 2 := by omega
      all_goals rfl) ⟨(Nat.le_of_ble_eq_true rfl), (Nat.le_of_ble_eq_true rfl)⟩ hS15 dX2_init_12 (fun H20 ha21 hz22 hq23 hS24 => ?_)
  obtain ⟨Γ25, hW26, hg27, ho28⟩ := hW17.new1 (Nat.le_trans (hW17.A ((ho19 _ (by omega)).trans hg8)) (Nat.le_of_lt (hW17.lt ((ho19 _ (by omega)).trans hg8)))) ha21 hq23
  have ehg29 : H10.size = H.size + 1 := by omega
  have hg29 := hg27
  rw [ehg29] at hg29
  refine ps_st (st' := [.ref (H.size + 1), .ref (a)]) (by rw [ehg29]) ?_
  refine lv_dup hx hb dX2_init_15 rfl ?_
  refine ps_geI X hE (m_J2_init l hE hZ hW26 hg29) (lw_meth q138) q73 q136 q137 rfl (by decide +kernel) ⟨⟨Nat.le_of_ble_eq_true rfl, Nat.le_of_ble_eq_true rfl⟩, Nat.le_of_ble_eq_true rfl, Nat.le_of_ble_eq_true rfl⟩ hS24 hl.1 (As := []) (rest := [.ref (H.size + 1), .ref (a)]) (n := 0) rfl rfl (Nat.le_of_ble_eq_true rfl) dX2_init_16 (fun v34 H30 locs31 hp32 hS33 => ?_)
  obtain ⟨hv40, hz41, Γ35, hW36, hgf37, hg38, ho39⟩ := hp32
  subst hv40
  refine ps_st (st' := [.ref (H.size + 1), .ref (a)]) rfl ?_
  refine ps_putF X in_X2 tyX2_ok nmX2 (ci := 2) rfl 4 (by decide) q174 rfl rfl rfl rfl rfl rfl (Nat.le_of_ble_eq_true rfl) (hW36.at ((ho39 _ (by omega)).trans ((ho28 _ (Nat.ne_of_lt (hW17.lt hg18))).trans hg18))) (hW36.A ((ho39 _ (by omega)).trans ((ho28 _ (Nat.ne_of_lt (hW17.lt hg18))).trans hg18))) hS33 dX2_init_19 (fun H42 locs43 ha44 hz45 hq46 hS47 => ?_)
  obtain ⟨Γ48, hW49, hg50, ho51⟩ := hW36.put1 ((ho39 _ (by omega)).trans ((ho28 _ (Nat.ne_of_lt (hW17.lt hg18))).trans hg18)) ha44 hq46
  refine lv_aload_n hx hb dX2_init_22 rfl (lv_at hl 0 rfl) ?_
  refine lv_bipush (v := nI 8) hx hb dX2_init_23 rfl ?_
  refine ps_newP (atype := .int) (t := 0) (ty := .int) (n := 8) X q161 rfl rfl rfl (fun U cA h => h) rfl (by show 8 * 4 ≤ 536870912; omega) (by omega) ⟨(Nat.le_of_ble_eq_true rfl), (Nat.le_of_ble_eq_true rfl)⟩ hS47 dX2_init_25 (fun H52 ha53 hz54 hq55 hS56 => ?_)
  obtain ⟨Γ57, hW58, hg59, ho60⟩ := hW49.new1 (Nat.le_trans (hW49.A ((ho51 _ (by omega)).trans ((ho39 _ (by omega)).trans ((ho28 _ (Nat.ne_of_lt (hW17.lt ((ho19 _ (by omega)).trans hg8)))).trans ((ho19 _ (by omega)).trans hg8))))) (Nat.le_of_lt (hW49.lt ((ho51 _ (by omega)).trans ((ho39 _ (by omega)).trans ((ho28 _ (Nat.ne_of_lt (hW17.lt ((ho19 _ (by omega)).trans hg8)))).trans ((ho19 _ (by omega)).trans hg8))))))) ha53 hq55
  have ehg61 : H42.size = H.size + 2 := by omega
  have hg61 := hg59
  rw [ehg61] at hg61
  refine ps_st (st' := [.ref (H.size + 2), .ref (a)]) (by rw [ehg61]) ?_
  refine ps_putF X in_X2 tyX2_ok nmX2 (ci := 2) rfl 5 (by decide) q176 rfl rfl rfl rfl rfl rfl (Nat.le_of_ble_eq_true rfl) (hW58.at ((ho60 _ (Nat.ne_of_lt (hW49.lt hg50))).trans hg50)) (hW58.A ((ho60 _ (Nat.ne_of_lt (hW49.lt hg50))).trans hg50)) hS56 dX2_init_27 (fun H62 locs63 ha64 hz65 hq66 hS67 => ?_)
  obtain ⟨Γ68, hW69, hg70, ho71⟩ := hW58.put1 ((ho60 _ (Nat.ne_of_lt (hW49.lt hg50))).trans hg50) ha64 hq66
  exact ps_vretG X hS67 (Nat.le_of_ble_eq_true rfl) (Nat.le_of_ble_eq_true rfl) dX2_init_30 (⟨rfl, by omega, Γ68, hW69, (((((((ps_gf.rf.new hz3 hq4 ho9).put ((ho9 _ (Nat.ne_of_lt (hW.lt hL))).trans hL) hz13 hq14 ho19).new hz22 hq23 ho28).tr hgf37).put ((ho39 _ (by omega)).trans ((ho28 _ (Nat.ne_of_lt (hW17.lt hg18))).trans hg18)) hz45 hq46 ho51).new hz54 hq55 ho60).put ((ho60 _ (Nat.ne_of_lt (hW49.lt hg50))).trans hg50) hz65 hq66 ho71), hg70, ((ho71 _ (by omega)).trans ((ho60 _ (Nat.ne_of_lt (hW49.lt ((ho51 _ (by omega)).trans ((ho39 _ (by omega)).trans ((ho28 _ (Nat.ne_of_lt (hW17.lt ((ho19 _ (by omega)).trans hg8)))).trans ((ho19 _ (by omega)).trans hg8))))))).trans ((ho51 _ (by omega)).trans ((ho39 _ (by omega)).trans ((ho28 _ (Nat.ne_of_lt (hW17.lt ((ho19 _ (by omega)).trans hg8)))).trans ((ho19 _ (by omega)).trans hg8)))))), ((ho71 _ (by omega)).trans ((ho60 _ (Nat.ne_of_lt (hW49.lt ((ho51 _ (by omega)).trans hg38)))).trans ((ho51 _ (by omega)).trans hg38))), ((ho71 _ (by omega)).trans hg61), fun q a1 a2 => (ho71 _ a1).trans ((ho60 _ (by omega)).trans ((ho51 _ a1).trans ((ho39 _ (by omega)).trans ((ho28 _ (by omega)).trans ((ho19 _ a1).trans (ho9 _ (by omega)))))))⟩)

set_option maxHeartbeats 4000000 in
theorem m_X3_init (l : Launch) {E : ps_E} (hE : ps_ZT E) {z : Nat} (hZ : ps_Zk E z) {Γ : ps_Gh} {H : Heap} (hW : ps_W E Γ H) {a : Nat} (hL : Γ a = some (.inr (3, [.null, .int (nI 0)]))) : ps_Ge l E yX3_init cX3_init 1 none 2 40 1 16 [.ref (a)] H (fun v H1 => v = none ∧ H1.size = H.size + 1 ∧ ∃ Γ1, ps_W E Γ1 H1 ∧ ps_gf Γ H Γ1 H1 ∧ Γ1 a = some (.inr (3, [.ref H.size, .int (nI 0)])) ∧ Γ1 H.size = some (.inl (E.2.1 0, 16, .inl fun _ => 0)) ∧ ∀ q, q ≠ a → q < H.size → Γ1 q = Γ q) := by
  refine ps_Ge.of (by decide) (Nat.le_of_ble_eq_true rfl) ?_
  intro p e s m args below meth c X ls hl
  have hx := X.1
  have hb := X.2.1
  have ho := X.2.2.2.1
  have hts := X.2.2.2.2.1
  have hS : va_S (ps_A E) s.heap H [] := by rw [X.2.2.2.2.2.2.2.2.1]; exact va_S.rf
  have hl : lv_has ls 1 [(0, .ref (a))] := hl
  have hla := hW.lt hL
  refine lv_aload_n hx hb dX3_init_0 rfl (lv_at hl 0 rfl) ?_
  refine W.objInit hx hb ho (hts _ q201) (hts _ q111) (hts _ q112) rfl (by rw [X.2.2.1]; exact hl.1) rfl dX3_init_1 (Nat.le_of_ble_eq_true rfl) (Nat.le_of_ble_eq_true rfl) ?_
  refine lv_aload_n hx hb dX3_init_4 rfl (lv_at hl 0 rfl) ?_
  refine lv_bipush (v := nI 16) hx hb dX3_init_5 rfl ?_
  refine ps_newP (atype := .int) (t := 0) (ty := .int) (n := 16) X q161 rfl rfl rfl (fun U cA h => h) rfl (by show 16 * 4 ≤ 536870912; omega) (by omega) ⟨(Nat.le_of_ble_eq_true rfl), (Nat.le_of_ble_eq_true rfl)⟩ hS dX3_init_7 (fun H1 ha2 hz3 hq4 hS5 => ?_)
  obtain ⟨Γ6, hW7, hg8, ho9⟩ := hW.new1 (Nat.le_trans (hW.A hL) (Nat.le_of_lt (hW.lt hL))) ha2 hq4
  refine ps_putF X in_X3 tyX3_ok nmX3 (ci := 3) rfl 0 (by decide) q202 rfl rfl rfl rfl rfl rfl (Nat.le_of_ble_eq_true rfl) (hW7.at ((ho9 _ (Nat.ne_of_lt (hW.lt hL))).trans hL)) (hW7.A ((ho9 _ (Nat.ne_of_lt (hW.lt hL))).trans hL)) hS5 dX3_init_9 (fun H10 locs11 ha12 hz13 hq14 hS15 => ?_)
  obtain ⟨Γ16, hW17, hg18, ho19⟩ := hW7.put1 ((ho9 _ (Nat.ne_of_lt (hW.lt hL))).trans hL) ha12 hq14
  exact ps_vretG X hS15 (Nat.le_of_ble_eq_true rfl) (Nat.le_of_ble_eq_true rfl) dX3_init_12 (⟨rfl, by omega, Γ16, hW17, ((ps_gf.rf.new hz3 hq4 ho9).put ((ho9 _ (Nat.ne_of_lt (hW.lt hL))).trans hL) hz13 hq14 ho19), hg18, ((ho19 _ (by omega)).trans hg8), fun q a1 a2 => (ho19 _ a1).trans (ho9 _ (by omega))⟩)

set_option maxHeartbeats 4000000 in
theorem m_X7_init (l : Launch) {E : ps_E} (hE : ps_ZT E) {z : Nat} (hZ : ps_Zk E z) {Γ : ps_Gh} {H : Heap} (hW : ps_W E Γ H) {a kd n gv dd dy lk : Nat} (hP : Γ a = some (ps_pr kd 0 0 0 0 0)) (hk : 1 ≤ kd ∧ kd ≤ 5) : ps_Ge l E yX7_init cX7_init 6 none 2 40 0 0 [.ref (a), .int (nI n), .int (nI gv), .int (nI dd), .int (nI dy), .int (nI lk)] H (fun v H1 => v = none ∧ H1.size = H.size ∧ ∃ Γ1, ps_W E Γ1 H1 ∧ ps_gf Γ H Γ1 H1 ∧ Γ1 a = some (ps_pr kd n lk gv dd dy) ∧ ∀ q, q ≠ a → Γ1 q = Γ q) := by
  refine ps_Ge.of (by decide) (Nat.le_of_ble_eq_true rfl) ?_
  intro p e s m args below meth c X ls hl
  have hx := X.1
  have hb := X.2.1
  have ho := X.2.2.2.1
  have hts := X.2.2.2.2.1
  have hS : va_S (ps_A E) s.heap H [] := by rw [X.2.2.2.2.2.2.2.2.1]; exact va_S.rf
  have hl : lv_has ls 6 [(0, .ref (a)), (1, .int (nI n)), (2, .int (nI gv)), (3, .int (nI dd)), (4, .int (nI dy)), (5, .int (nI lk))] := hl
  refine lv_aload_n hx hb dX7_init_0 rfl (lv_at hl 0 rfl) ?_
  refine W.objInit hx hb ho (hts _ q671) (hts _ q111) (hts _ q112) rfl (by rw [X.2.2.1]; exact hl.1) rfl dX7_init_1 (Nat.le_of_ble_eq_true rfl) (Nat.le_of_ble_eq_true rfl) ?_
  refine lv_aload_n hx hb dX7_init_4 rfl (lv_at hl 0 rfl) ?_
  refine lv_iload_n hx hb dX7_init_5 rfl (lv_at hl 1 rfl) ?_
  refine ps_pputF X hk 0 (by decide) q672 (hW.at hP) rfl rfl (Nat.le_of_ble_eq_true rfl) (hW.A hP) hS dX7_init_6 (fun H1 locs2 ha3 hz4 hq5 hS6 => ?_)
  obtain ⟨Γ7, hW8, hg9, ho10⟩ := hW.put1 hP ha3 hq5
  refine lv_aload_n hx hb dX7_init_9 rfl (lv_at hl 0 rfl) ?_
  refine lv_iload_n hx hb dX7_init_10 rfl (lv_at hl 2 rfl) ?_
  refine ps_pputF X hk 2 (by decide) q674 (hW8.at hg9) rfl rfl (Nat.le_of_ble_eq_true rfl) (hW8.A hg9) hS6 dX7_init_11 (fun H11 locs12 ha13 hz14 hq15 hS16 => ?_)
  obtain ⟨Γ17, hW18, hg19, ho20⟩ := hW8.put1 hg9 ha13 hq15
  refine lv_aload_n hx hb dX7_init_14 rfl (lv_at hl 0 rfl) ?_
  refine lv_iload_n hx hb dX7_init_15 rfl (lv_at hl 3 rfl) ?_
  refine ps_pputF X hk 3 (by decide) q677 (hW18.at hg19) rfl rfl (Nat.le_of_ble_eq_true rfl) (hW18.A hg19) hS16 dX7_init_16 (fun H21 locs22 ha23 hz24 hq25 hS26 => ?_)
  obtain ⟨Γ27, hW28, hg29, ho30⟩ := hW18.put1 hg19 ha23 hq25
  refine lv_aload_n hx hb dX7_init_19 rfl (lv_at hl 0 rfl) ?_
  refine lv_iload hx hb dX7_init_20 (lv_at hl 4 rfl) ?_
  refine ps_pputF X hk 4 (by decide) q680 (hW28.at hg29) rfl rfl (Nat.le_of_ble_eq_true rfl) (hW28.A hg29) hS26 dX7_init_22 (fun H31 locs32 ha33 hz34 hq35 hS36 => ?_)
  obtain ⟨Γ37, hW38, hg39, ho40⟩ := hW28.put1 hg29 ha33 hq35
  refine lv_aload_n hx hb dX7_init_25 rfl (lv_at hl 0 rfl) ?_
  refine lv_iload hx hb dX7_init_26 (lv_at hl 5 rfl) ?_
  refine ps_pputF X hk 1 (by decide) q673 (hW38.at hg39) rfl rfl (Nat.le_of_ble_eq_true rfl) (hW38.A hg39) hS36 dX7_init_28 (fun H41 locs42 ha43 hz44 hq45 hS46 => ?_)
  obtain ⟨Γ47, hW48, hg49, ho50⟩ := hW38.put1 hg39 ha43 hq45
  exact ps_vretG X hS46 (Nat.le_of_ble_eq_true rfl) (Nat.le_of_ble_eq_true rfl) dX7_init_31 (⟨rfl, by omega, Γ47, hW48, (((((ps_gf.rf.put hP hz4 hq5 ho10).put hg9 hz14 hq15 ho20).put hg19 hz24 hq25 ho30).put hg29 hz34 hq35 ho40).put hg39 hz44 hq45 ho50), hg49, fun q a1 => (ho50 _ a1).trans ((ho40 _ a1).trans ((ho30 _ a1).trans ((ho20 _ a1).trans (ho10 _ a1))))⟩)

set_option maxHeartbeats 4000000 in
theorem m_X8_init (l : Launch) {E : ps_E} (hE : ps_ZT E) {z : Nat} (hZ : ps_Zk E z) {Γ : ps_Gh} {H : Heap} (hW : ps_W E Γ H) {a kd n gv dd dy lk : Nat} (hP : Γ a = some (ps_pr kd 0 0 0 0 0)) (hk : 1 ≤ kd ∧ kd ≤ 5) : ps_Ge l E yX8_init cX8_init 6 none 3 65 0 0 [.ref (a), .int (nI n), .int (nI gv), .int (nI dd), .int (nI dy), .int (nI lk)] H (fun v H1 => v = none ∧ H1.size = H.size ∧ ∃ Γ1, ps_W E Γ1 H1 ∧ ps_gf Γ H Γ1 H1 ∧ Γ1 a = some (ps_pr kd n lk gv dd dy) ∧ ∀ q, q ≠ a → Γ1 q = Γ q) := by
  refine ps_Ge.of (by decide) (Nat.le_of_ble_eq_true rfl) ?_
  intro p e s m args below meth c X ls hl
  have hx := X.1
  have hb := X.2.1
  have ho := X.2.2.2.1
  have hts := X.2.2.2.2.1
  have hS : va_S (ps_A E) s.heap H [] := by rw [X.2.2.2.2.2.2.2.2.1]; exact va_S.rf
  have hl : lv_has ls 6 [(0, .ref (a)), (1, .int (nI n)), (2, .int (nI gv)), (3, .int (nI dd)), (4, .int (nI dy)), (5, .int (nI lk))] := hl
  refine lv_aload_n hx hb dX8_init_0 rfl (lv_at hl 0 rfl) ?_
  refine lv_iload_n hx hb dX8_init_1 rfl (lv_at hl 1 rfl) ?_
  refine lv_iload_n hx hb dX8_init_2 rfl (lv_at hl 2 rfl) ?_
  refine lv_iload_n hx hb dX8_init_3 rfl (lv_at hl 3 rfl) ?_
  refine lv_iload hx hb dX8_init_4 (lv_at hl 4 rfl) ?_
  refine lv_iload hx hb dX8_init_6 (lv_at hl 5 rfl) ?_
  refine ps_geI X hE (m_X7_init l hE hZ hW (n := n) (gv := gv) (dd := dd) (dy := dy) (lk := lk) hP hk) (lw_meth q670) q93 q668 q669 rfl (by decide +kernel) ⟨⟨Nat.le_of_ble_eq_true rfl, Nat.le_of_ble_eq_true rfl⟩, Nat.le_of_ble_eq_true rfl, Nat.le_of_ble_eq_true rfl⟩ hS hl.1 (As := [.int (nI n), .int (nI gv), .int (nI dd), .int (nI dy), .int (nI lk)]) (rest := []) (n := 5) rfl rfl (Nat.le_of_ble_eq_true rfl) dX8_init_8 (fun v5 H1 locs2 hp3 hS4 => ?_)
  obtain ⟨hv11, hz12, Γ6, hW7, hgf8, hg9, ho10⟩ := hp3
  subst hv11
  refine ps_st (st' := []) rfl ?_
  exact ps_vretG X hS4 (Nat.le_of_ble_eq_true rfl) (Nat.le_of_ble_eq_true rfl) dX8_init_11 (⟨rfl, by omega, Γ6, hW7, (ps_gf.rf.tr hgf8), hg9, fun q a1 => ho10 _ a1⟩)

set_option maxHeartbeats 4000000 in
theorem m_X9_init (l : Launch) {E : ps_E} (hE : ps_ZT E) {z : Nat} (hZ : ps_Zk E z) {Γ : ps_Gh} {H : Heap} (hW : ps_W E Γ H) {a kd n gv dd dy lk : Nat} (hP : Γ a = some (ps_pr kd 0 0 0 0 0)) (hk : 1 ≤ kd ∧ kd ≤ 5) : ps_Ge l E yX9_init cX9_init 6 none 4 90 0 0 [.ref (a), .int (nI n), .int (nI gv), .int (nI dd), .int (nI dy), .int (nI lk)] H (fun v H1 => v = none ∧ H1.size = H.size ∧ ∃ Γ1, ps_W E Γ1 H1 ∧ ps_gf Γ H Γ1 H1 ∧ Γ1 a = some (ps_pr kd n lk gv dd dy) ∧ ∀ q, q ≠ a → Γ1 q = Γ q) := by
  refine ps_Ge.of (by decide) (Nat.le_of_ble_eq_true rfl) ?_
  intro p e s m args below meth c X ls hl
  have hx := X.1
  have hb := X.2.1
  have ho := X.2.2.2.1
  have hts := X.2.2.2.2.1
  have hS : va_S (ps_A E) s.heap H [] := by rw [X.2.2.2.2.2.2.2.2.1]; exact va_S.rf
  have hl : lv_has ls 6 [(0, .ref (a)), (1, .int (nI n)), (2, .int (nI gv)), (3, .int (nI dd)), (4, .int (nI dy)), (5, .int (nI lk))] := hl
  refine lv_aload_n hx hb dX9_init_0 rfl (lv_at hl 0 rfl) ?_
  refine lv_iload_n hx hb dX9_init_1 rfl (lv_at hl 1 rfl) ?_
  refine lv_iload_n hx hb dX9_init_2 rfl (lv_at hl 2 rfl) ?_
  refine lv_iload_n hx hb dX9_init_3 rfl (lv_at hl 3 rfl) ?_
  refine lv_iload hx hb dX9_init_4 (lv_at hl 4 rfl) ?_
  refine lv_iload hx hb dX9_init_6 (lv_at hl 5 rfl) ?_
  refine ps_geI X hE (m_X8_init l hE hZ hW (n := n) (gv := gv) (dd := dd) (dy := dy) (lk := lk) hP hk) (lw_meth q667) q94 q699 q666 rfl (by decide +kernel) ⟨⟨Nat.le_of_ble_eq_true rfl, Nat.le_of_ble_eq_true rfl⟩, Nat.le_of_ble_eq_true rfl, Nat.le_of_ble_eq_true rfl⟩ hS hl.1 (As := [.int (nI n), .int (nI gv), .int (nI dd), .int (nI dy), .int (nI lk)]) (rest := []) (n := 5) rfl rfl (Nat.le_of_ble_eq_true rfl) dX9_init_8 (fun v5 H1 locs2 hp3 hS4 => ?_)
  obtain ⟨hv11, hz12, Γ6, hW7, hgf8, hg9, ho10⟩ := hp3
  subst hv11
  refine ps_st (st' := []) rfl ?_
  exact ps_vretG X hS4 (Nat.le_of_ble_eq_true rfl) (Nat.le_of_ble_eq_true rfl) dX9_init_11 (⟨rfl, by omega, Γ6, hW7, (ps_gf.rf.tr hgf8), hg9, fun q a1 => ho10 _ a1⟩)

set_option maxHeartbeats 4000000 in
theorem m_X10_init (l : Launch) {E : ps_E} (hE : ps_ZT E) {z : Nat} (hZ : ps_Zk E z) {Γ : ps_Gh} {H : Heap} (hW : ps_W E Γ H) {a kd n gv dd dy lk : Nat} (hP : Γ a = some (ps_pr kd 0 0 0 0 0)) (hk : 1 ≤ kd ∧ kd ≤ 5) : ps_Ge l E yX10_init cX10_init 6 none 4 90 0 0 [.ref (a), .int (nI n), .int (nI gv), .int (nI dd), .int (nI dy), .int (nI lk)] H (fun v H1 => v = none ∧ H1.size = H.size ∧ ∃ Γ1, ps_W E Γ1 H1 ∧ ps_gf Γ H Γ1 H1 ∧ Γ1 a = some (ps_pr kd n lk gv dd dy) ∧ ∀ q, q ≠ a → Γ1 q = Γ q) := by
  refine ps_Ge.of (by decide) (Nat.le_of_ble_eq_true rfl) ?_
  intro p e s m args below meth c X ls hl
  have hx := X.1
  have hb := X.2.1
  have ho := X.2.2.2.1
  have hts := X.2.2.2.2.1
  have hS : va_S (ps_A E) s.heap H [] := by rw [X.2.2.2.2.2.2.2.2.1]; exact va_S.rf
  have hl : lv_has ls 6 [(0, .ref (a)), (1, .int (nI n)), (2, .int (nI gv)), (3, .int (nI dd)), (4, .int (nI dy)), (5, .int (nI lk))] := hl
  refine lv_aload_n hx hb dX10_init_0 rfl (lv_at hl 0 rfl) ?_
  refine lv_iload_n hx hb dX10_init_1 rfl (lv_at hl 1 rfl) ?_
  refine lv_iload_n hx hb dX10_init_2 rfl (lv_at hl 2 rfl) ?_
  refine lv_iload_n hx hb dX10_init_3 rfl (lv_at hl 3 rfl) ?_
  refine lv_iload hx hb dX10_init_4 (lv_at hl 4 rfl) ?_
  refine lv_iload hx hb dX10_init_6 (lv_at hl 5 rfl) ?_
  refine ps_geI X hE (m_X8_init l hE hZ hW (n := n) (gv := gv) (dd := dd) (dy := dy) (lk := lk) hP hk) (lw_meth q667) q94 q711 q666 rfl (by decide +kernel) ⟨⟨Nat.le_of_ble_eq_true rfl, Nat.le_of_ble_eq_true rfl⟩, Nat.le_of_ble_eq_true rfl, Nat.le_of_ble_eq_true rfl⟩ hS hl.1 (As := [.int (nI n), .int (nI gv), .int (nI dd), .int (nI dy), .int (nI lk)]) (rest := []) (n := 5) rfl rfl (Nat.le_of_ble_eq_true rfl) dX10_init_8 (fun v5 H1 locs2 hp3 hS4 => ?_)
  obtain ⟨hv11, hz12, Γ6, hW7, hgf8, hg9, ho10⟩ := hp3
  subst hv11
  refine ps_st (st' := []) rfl ?_
  exact ps_vretG X hS4 (Nat.le_of_ble_eq_true rfl) (Nat.le_of_ble_eq_true rfl) dX10_init_11 (⟨rfl, by omega, Γ6, hW7, (ps_gf.rf.tr hgf8), hg9, fun q a1 => ho10 _ a1⟩)

set_option maxHeartbeats 4000000 in
theorem m_X11_init (l : Launch) {E : ps_E} (hE : ps_ZT E) {z : Nat} (hZ : ps_Zk E z) {Γ : ps_Gh} {H : Heap} (hW : ps_W E Γ H) {a kd n gv dd dy lk : Nat} (hP : Γ a = some (ps_pr kd 0 0 0 0 0)) (hk : 1 ≤ kd ∧ kd ≤ 5) : ps_Ge l E yX11_init cX11_init 6 none 3 65 0 0 [.ref (a), .int (nI n), .int (nI gv), .int (nI dd), .int (nI dy), .int (nI lk)] H (fun v H1 => v = none ∧ H1.size = H.size ∧ ∃ Γ1, ps_W E Γ1 H1 ∧ ps_gf Γ H Γ1 H1 ∧ Γ1 a = some (ps_pr kd n lk gv dd dy) ∧ ∀ q, q ≠ a → Γ1 q = Γ q) := by
  refine ps_Ge.of (by decide) (Nat.le_of_ble_eq_true rfl) ?_
  intro p e s m args below meth c X ls hl
  have hx := X.1
  have hb := X.2.1
  have ho := X.2.2.2.1
  have hts := X.2.2.2.2.1
  have hS : va_S (ps_A E) s.heap H [] := by rw [X.2.2.2.2.2.2.2.2.1]; exact va_S.rf
  have hl : lv_has ls 6 [(0, .ref (a)), (1, .int (nI n)), (2, .int (nI gv)), (3, .int (nI dd)), (4, .int (nI dy)), (5, .int (nI lk))] := hl
  refine lv_aload_n hx hb dX11_init_0 rfl (lv_at hl 0 rfl) ?_
  refine lv_iload_n hx hb dX11_init_1 rfl (lv_at hl 1 rfl) ?_
  refine lv_iload_n hx hb dX11_init_2 rfl (lv_at hl 2 rfl) ?_
  refine lv_iload_n hx hb dX11_init_3 rfl (lv_at hl 3 rfl) ?_
  refine lv_iload hx hb dX11_init_4 (lv_at hl 4 rfl) ?_
  refine lv_iload hx hb dX11_init_6 (lv_at hl 5 rfl) ?_
  refine ps_geI X hE (m_X7_init l hE hZ hW (n := n) (gv := gv) (dd := dd) (dy := dy) (lk := lk) hP hk) (lw_meth q670) q93 q723 q669 rfl (by decide +kernel) ⟨⟨Nat.le_of_ble_eq_true rfl, Nat.le_of_ble_eq_true rfl⟩, Nat.le_of_ble_eq_true rfl, Nat.le_of_ble_eq_true rfl⟩ hS hl.1 (As := [.int (nI n), .int (nI gv), .int (nI dd), .int (nI dy), .int (nI lk)]) (rest := []) (n := 5) rfl rfl (Nat.le_of_ble_eq_true rfl) dX11_init_8 (fun v5 H1 locs2 hp3 hS4 => ?_)
  obtain ⟨hv11, hz12, Γ6, hW7, hgf8, hg9, ho10⟩ := hp3
  subst hv11
  refine ps_st (st' := []) rfl ?_
  exact ps_vretG X hS4 (Nat.le_of_ble_eq_true rfl) (Nat.le_of_ble_eq_true rfl) dX11_init_11 (⟨rfl, by omega, Γ6, hW7, (ps_gf.rf.tr hgf8), hg9, fun q a1 => ho10 _ a1⟩)

set_option maxHeartbeats 4000000 in
theorem m_X12_init (l : Launch) {E : ps_E} (hE : ps_ZT E) {z : Nat} (hZ : ps_Zk E z) {Γ : ps_Gh} {H : Heap} (hW : ps_W E Γ H) {a kd n gv dd dy lk : Nat} (hP : Γ a = some (ps_pr kd 0 0 0 0 0)) (hk : 1 ≤ kd ∧ kd ≤ 5) : ps_Ge l E yX12_init cX12_init 6 none 4 90 0 0 [.ref (a), .int (nI n), .int (nI gv), .int (nI dd), .int (nI dy), .int (nI lk)] H (fun v H1 => v = none ∧ H1.size = H.size ∧ ∃ Γ1, ps_W E Γ1 H1 ∧ ps_gf Γ H Γ1 H1 ∧ Γ1 a = some (ps_pr kd n lk gv dd dy) ∧ ∀ q, q ≠ a → Γ1 q = Γ q) := by
  refine ps_Ge.of (by decide) (Nat.le_of_ble_eq_true rfl) ?_
  intro p e s m args below meth c X ls hl
  have hx := X.1
  have hb := X.2.1
  have ho := X.2.2.2.1
  have hts := X.2.2.2.2.1
  have hS : va_S (ps_A E) s.heap H [] := by rw [X.2.2.2.2.2.2.2.2.1]; exact va_S.rf
  have hl : lv_has ls 6 [(0, .ref (a)), (1, .int (nI n)), (2, .int (nI gv)), (3, .int (nI dd)), (4, .int (nI dy)), (5, .int (nI lk))] := hl
  refine lv_aload_n hx hb dX12_init_0 rfl (lv_at hl 0 rfl) ?_
  refine lv_iload_n hx hb dX12_init_1 rfl (lv_at hl 1 rfl) ?_
  refine lv_iload_n hx hb dX12_init_2 rfl (lv_at hl 2 rfl) ?_
  refine lv_iload_n hx hb dX12_init_3 rfl (lv_at hl 3 rfl) ?_
  refine lv_iload hx hb dX12_init_4 (lv_at hl 4 rfl) ?_
  refine lv_iload hx hb dX12_init_6 (lv_at hl 5 rfl) ?_
  refine ps_geI X hE (m_X11_init l hE hZ hW (n := n) (gv := gv) (dd := dd) (dy := dy) (lk := lk) hP hk) (lw_meth q722) q97 q735 q721 rfl (by decide +kernel) ⟨⟨Nat.le_of_ble_eq_true rfl, Nat.le_of_ble_eq_true rfl⟩, Nat.le_of_ble_eq_true rfl, Nat.le_of_ble_eq_true rfl⟩ hS hl.1 (As := [.int (nI n), .int (nI gv), .int (nI dd), .int (nI dy), .int (nI lk)]) (rest := []) (n := 5) rfl rfl (Nat.le_of_ble_eq_true rfl) dX12_init_8 (fun v5 H1 locs2 hp3 hS4 => ?_)
  obtain ⟨hv11, hz12, Γ6, hW7, hgf8, hg9, ho10⟩ := hp3
  subst hv11
  refine ps_st (st' := []) rfl ?_
  exact ps_vretG X hS4 (Nat.le_of_ble_eq_true rfl) (Nat.le_of_ble_eq_true rfl) dX12_init_11 (⟨rfl, by omega, Γ6, hW7, (ps_gf.rf.tr hgf8), hg9, fun q a1 => ho10 _ a1⟩)

set_option maxHeartbeats 4000000 in
theorem m_X0_promiseBy (l : Launch) {E : ps_E} (hE : ps_ZT E) {z : Nat} (hZ : ps_Zk E z) {Γ : ps_Gh} {H : Heap} (hW : ps_W E Γ H) (hA : ps_A E H.size) {kd n gv dd dy lk : Nat} (hk : 1 ≤ kd ∧ kd ≤ 5) : ps_Ge l E yX0_promiseBy cX0_promiseBy 6 (some (.object "PromiseScales$Promise")) 5 115 1 5 [.int (nI kd), .int (nI n), .int (nI gv), .int (nI dd), .int (nI dy), .int (nI lk)] H (fun v H1 => v = some (.ref H.size) ∧ H1.size = H.size + 1 ∧ ∃ Γ1, ps_W E Γ1 H1 ∧ ps_gf Γ H Γ1 H1 ∧ Γ1 H.size = some (ps_pr kd n lk gv dd dy) ∧ ∀ q, q ≠ H.size → Γ1 q = Γ q) := by
  refine ps_Ge.of (by decide) (Nat.le_of_ble_eq_true rfl) ?_
  intro p e s m args below meth c X ls hl
  have hx := X.1
  have hb := X.2.1
  have ho := X.2.2.2.1
  have hts := X.2.2.2.2.1
  have hS : va_S (ps_A E) s.heap H [] := by rw [X.2.2.2.2.2.2.2.2.1]; exact va_S.rf
  have hl : lv_has ls 6 [(0, .int (nI kd)), (1, .int (nI n)), (2, .int (nI gv)), (3, .int (nI dd)), (4, .int (nI dy)), (5, .int (nI lk))] := hl
  refine lv_iload_n hx hb dX0_promiseBy_0 rfl (lv_at hl 0 rfl) ?_
  by_cases e_1 : kd = 1
  · subst e_1
    refine lv_tableIn (off := 31) (tgt := 32) hx hb dX0_promiseBy_1 (by decide) (by decide) (by decide) (by decide) ?_
    refine ps_new (fs := [.int (nI 0), .int (nI 0), .int (nI 0), .int (nI 0), .int (nI 0)]) X in_X8 tyX8_ok q663 q664 q94 (ci := 7) rfl (fun j hj => by
        obtain rfl | rfl | rfl | rfl | rfl : j = 0 ∨ j = 1 ∨ j = 2 ∨ j = 3 ∨ j = 4 := by omega
        all_goals rfl) ⟨(Nat.le_of_ble_eq_true rfl), (Nat.le_of_ble_eq_true rfl)⟩ hS dX0_promiseBy_32 (fun H1 ha2 hz3 hq4 hS5 => ?_)
    obtain ⟨Γ6, hW7, hg8, ho9⟩ := hW.new1 hA ha2 hq4
    refine lv_dup hx hb dX0_promiseBy_35 rfl ?_
    refine lv_iload_n hx hb dX0_promiseBy_36 rfl (lv_at hl 1 rfl) ?_
    refine lv_iload_n hx hb dX0_promiseBy_37 rfl (lv_at hl 2 rfl) ?_
    refine lv_iload_n hx hb dX0_promiseBy_38 rfl (lv_at hl 3 rfl) ?_
    refine lv_iload hx hb dX0_promiseBy_39 (lv_at hl 4 rfl) ?_
    refine lv_iload hx hb dX0_promiseBy_41 (lv_at hl 5 rfl) ?_
    refine ps_geI X hE (m_X8_init l hE hZ hW7 (n := n) (gv := gv) (dd := dd) (dy := dy) (lk := lk) hg8 (by decide)) (lw_meth q667) q94 q665 q666 rfl (by decide +kernel) ⟨⟨Nat.le_of_ble_eq_true rfl, Nat.le_of_ble_eq_true rfl⟩, Nat.le_of_ble_eq_true rfl, Nat.le_of_ble_eq_true rfl⟩ hS5 hl.1 (As := [.int (nI n), .int (nI gv), .int (nI dd), .int (nI dy), .int (nI lk)]) (rest := [.ref (H.size)]) (n := 5) rfl rfl (Nat.le_of_ble_eq_true rfl) dX0_promiseBy_43 (fun v14 H10 locs11 hp12 hS13 => ?_)
    obtain ⟨hv20, hz21, Γ15, hW16, hgf17, hg18, ho19⟩ := hp12
    subst hv20
    refine ps_st (st' := [.ref (H.size)]) rfl ?_
    exact ps_aretG X (Or.inl ⟨_, rfl⟩) (Or.inr ⟨_, rfl⟩) hS13 (Nat.le_of_ble_eq_true rfl) (Nat.le_of_ble_eq_true rfl) dX0_promiseBy_46 (⟨rfl, by omega, Γ15, hW16, ((ps_gf.rf.new hz3 hq4 ho9).tr hgf17), hg18, fun q a1 => (ho19 _ a1).trans (ho9 _ a1)⟩)
  by_cases e_2 : kd = 2
  · subst e_2
    refine lv_tableIn (off := 46) (tgt := 47) hx hb dX0_promiseBy_1 (by decide) (by decide) (by decide) (by decide) ?_
    refine ps_new (fs := [.int (nI 0), .int (nI 0), .int (nI 0), .int (nI 0), .int (nI 0)]) X in_X9 tyX9_ok q694 q695 q95 (ci := 8) rfl (fun j hj => by
        obtain rfl | rfl | rfl | rfl | rfl : j = 0 ∨ j = 1 ∨ j = 2 ∨ j = 3 ∨ j = 4 := by omega
        all_goals rfl) ⟨(Nat.le_of_ble_eq_true rfl), (Nat.le_of_ble_eq_true rfl)⟩ hS dX0_promiseBy_47 (fun H22 ha23 hz24 hq25 hS26 => ?_)
    obtain ⟨Γ27, hW28, hg29, ho30⟩ := hW.new1 hA ha23 hq25
    refine lv_dup hx hb dX0_promiseBy_50 rfl ?_
    refine lv_iload_n hx hb dX0_promiseBy_51 rfl (lv_at hl 1 rfl) ?_
    refine lv_iload_n hx hb dX0_promiseBy_52 rfl (lv_at hl 2 rfl) ?_
    refine lv_iload_n hx hb dX0_promiseBy_53 rfl (lv_at hl 3 rfl) ?_
    refine lv_iload hx hb dX0_promiseBy_54 (lv_at hl 4 rfl) ?_
    refine lv_iload hx hb dX0_promiseBy_56 (lv_at hl 5 rfl) ?_
    refine ps_geI X hE (m_X9_init l hE hZ hW28 (n := n) (gv := gv) (dd := dd) (dy := dy) (lk := lk) hg29 (by decide)) (lw_meth q698) q95 q696 q697 rfl (by decide +kernel) ⟨⟨Nat.le_of_ble_eq_true rfl, Nat.le_of_ble_eq_true rfl⟩, Nat.le_of_ble_eq_true rfl, Nat.le_of_ble_eq_true rfl⟩ hS26 hl.1 (As := [.int (nI n), .int (nI gv), .int (nI dd), .int (nI dy), .int (nI lk)]) (rest := [.ref (H.size)]) (n := 5) rfl rfl (Nat.le_of_ble_eq_true rfl) dX0_promiseBy_58 (fun v35 H31 locs32 hp33 hS34 => ?_)
    obtain ⟨hv41, hz42, Γ36, hW37, hgf38, hg39, ho40⟩ := hp33
    subst hv41
    refine ps_st (st' := [.ref (H.size)]) rfl ?_
    exact ps_aretG X (Or.inl ⟨_, rfl⟩) (Or.inr ⟨_, rfl⟩) hS34 (Nat.le_of_ble_eq_true rfl) (Nat.le_of_ble_eq_true rfl) dX0_promiseBy_61 (⟨rfl, by omega, Γ36, hW37, ((ps_gf.rf.new hz24 hq25 ho30).tr hgf38), hg39, fun q a1 => (ho40 _ a1).trans (ho30 _ a1)⟩)
  by_cases e_3 : kd = 3
  · subst e_3
    refine lv_tableIn (off := 61) (tgt := 62) hx hb dX0_promiseBy_1 (by decide) (by decide) (by decide) (by decide) ?_
    refine ps_new (fs := [.int (nI 0), .int (nI 0), .int (nI 0), .int (nI 0), .int (nI 0)]) X in_X10 tyX10_ok q706 q707 q96 (ci := 9) rfl (fun j hj => by
        obtain rfl | rfl | rfl | rfl | rfl : j = 0 ∨ j = 1 ∨ j = 2 ∨ j = 3 ∨ j = 4 := by omega
        all_goals rfl) ⟨(Nat.le_of_ble_eq_true rfl), (Nat.le_of_ble_eq_true rfl)⟩ hS dX0_promiseBy_62 (fun H43 ha44 hz45 hq46 hS47 => ?_)
    obtain ⟨Γ48, hW49, hg50, ho51⟩ := hW.new1 hA ha44 hq46
    refine lv_dup hx hb dX0_promiseBy_65 rfl ?_
    refine lv_iload_n hx hb dX0_promiseBy_66 rfl (lv_at hl 1 rfl) ?_
    refine lv_iload_n hx hb dX0_promiseBy_67 rfl (lv_at hl 2 rfl) ?_
    refine lv_iload_n hx hb dX0_promiseBy_68 rfl (lv_at hl 3 rfl) ?_
    refine lv_iload hx hb dX0_promiseBy_69 (lv_at hl 4 rfl) ?_
    refine lv_iload hx hb dX0_promiseBy_71 (lv_at hl 5 rfl) ?_
    refine ps_geI X hE (m_X10_init l hE hZ hW49 (n := n) (gv := gv) (dd := dd) (dy := dy) (lk := lk) hg50 (by decide)) (lw_meth q710) q96 q708 q709 rfl (by decide +kernel) ⟨⟨Nat.le_of_ble_eq_true rfl, Nat.le_of_ble_eq_true rfl⟩, Nat.le_of_ble_eq_true rfl, Nat.le_of_ble_eq_true rfl⟩ hS47 hl.1 (As := [.int (nI n), .int (nI gv), .int (nI dd), .int (nI dy), .int (nI lk)]) (rest := [.ref (H.size)]) (n := 5) rfl rfl (Nat.le_of_ble_eq_true rfl) dX0_promiseBy_73 (fun v56 H52 locs53 hp54 hS55 => ?_)
    obtain ⟨hv62, hz63, Γ57, hW58, hgf59, hg60, ho61⟩ := hp54
    subst hv62
    refine ps_st (st' := [.ref (H.size)]) rfl ?_
    exact ps_aretG X (Or.inl ⟨_, rfl⟩) (Or.inr ⟨_, rfl⟩) hS55 (Nat.le_of_ble_eq_true rfl) (Nat.le_of_ble_eq_true rfl) dX0_promiseBy_76 (⟨rfl, by omega, Γ57, hW58, ((ps_gf.rf.new hz45 hq46 ho51).tr hgf59), hg60, fun q a1 => (ho61 _ a1).trans (ho51 _ a1)⟩)
  by_cases e_4 : kd = 4
  · subst e_4
    refine lv_tableIn (off := 76) (tgt := 77) hx hb dX0_promiseBy_1 (by decide) (by decide) (by decide) (by decide) ?_
    refine ps_new (fs := [.int (nI 0), .int (nI 0), .int (nI 0), .int (nI 0), .int (nI 0)]) X in_X11 tyX11_ok q718 q719 q97 (ci := 10) rfl (fun j hj => by
        obtain rfl | rfl | rfl | rfl | rfl : j = 0 ∨ j = 1 ∨ j = 2 ∨ j = 3 ∨ j = 4 := by omega
        all_goals rfl) ⟨(Nat.le_of_ble_eq_true rfl), (Nat.le_of_ble_eq_true rfl)⟩ hS dX0_promiseBy_77 (fun H64 ha65 hz66 hq67 hS68 => ?_)
    obtain ⟨Γ69, hW70, hg71, ho72⟩ := hW.new1 hA ha65 hq67
    refine lv_dup hx hb dX0_promiseBy_80 rfl ?_
    refine lv_iload_n hx hb dX0_promiseBy_81 rfl (lv_at hl 1 rfl) ?_
    refine lv_iload_n hx hb dX0_promiseBy_82 rfl (lv_at hl 2 rfl) ?_
    refine lv_iload_n hx hb dX0_promiseBy_83 rfl (lv_at hl 3 rfl) ?_
    refine lv_iload hx hb dX0_promiseBy_84 (lv_at hl 4 rfl) ?_
    refine lv_iload hx hb dX0_promiseBy_86 (lv_at hl 5 rfl) ?_
    refine ps_geI X hE (m_X11_init l hE hZ hW70 (n := n) (gv := gv) (dd := dd) (dy := dy) (lk := lk) hg71 (by decide)) (lw_meth q722) q97 q720 q721 rfl (by decide +kernel) ⟨⟨Nat.le_of_ble_eq_true rfl, Nat.le_of_ble_eq_true rfl⟩, Nat.le_of_ble_eq_true rfl, Nat.le_of_ble_eq_true rfl⟩ hS68 hl.1 (As := [.int (nI n), .int (nI gv), .int (nI dd), .int (nI dy), .int (nI lk)]) (rest := [.ref (H.size)]) (n := 5) rfl rfl (Nat.le_of_ble_eq_true rfl) dX0_promiseBy_88 (fun v77 H73 locs74 hp75 hS76 => ?_)
    obtain ⟨hv83, hz84, Γ78, hW79, hgf80, hg81, ho82⟩ := hp75
    subst hv83
    refine ps_st (st' := [.ref (H.size)]) rfl ?_
    exact ps_aretG X (Or.inl ⟨_, rfl⟩) (Or.inr ⟨_, rfl⟩) hS76 (Nat.le_of_ble_eq_true rfl) (Nat.le_of_ble_eq_true rfl) dX0_promiseBy_91 (⟨rfl, by omega, Γ78, hW79, ((ps_gf.rf.new hz66 hq67 ho72).tr hgf80), hg81, fun q a1 => (ho82 _ a1).trans (ho72 _ a1)⟩)
  obtain rfl : kd = 5 := by omega
  refine lv_tableOut (tgt := 92) hx hb dX0_promiseBy_1 (by decide) (by decide) ?_
  refine ps_new (fs := [.int (nI 0), .int (nI 0), .int (nI 0), .int (nI 0), .int (nI 0)]) X in_X12 tyX12_ok q730 q731 q98 (ci := 11) rfl (fun j hj => by
      obtain rfl | rfl | rfl | rfl | rfl : j = 0 ∨ j = 1 ∨ j = 2 ∨ j = 3 ∨ j = 4 := by omega
      all_goals rfl) ⟨(Nat.le_of_ble_eq_true rfl), (Nat.le_of_ble_eq_true rfl)⟩ hS dX0_promiseBy_92 (fun H85 ha86 hz87 hq88 hS89 => ?_)
  obtain ⟨Γ90, hW91, hg92, ho93⟩ := hW.new1 hA ha86 hq88
  refine lv_dup hx hb dX0_promiseBy_95 rfl ?_
  refine lv_iload_n hx hb dX0_promiseBy_96 rfl (lv_at hl 1 rfl) ?_
  refine lv_iload_n hx hb dX0_promiseBy_97 rfl (lv_at hl 2 rfl) ?_
  refine lv_iload_n hx hb dX0_promiseBy_98 rfl (lv_at hl 3 rfl) ?_
  refine lv_iload hx hb dX0_promiseBy_99 (lv_at hl 4 rfl) ?_
  refine lv_iload hx hb dX0_promiseBy_101 (lv_at hl 5 rfl) ?_
  refine ps_geI X hE (m_X12_init l hE hZ hW91 (n := n) (gv := gv) (dd := dd) (dy := dy) (lk := lk) hg92 (by decide)) (lw_meth q734) q98 q732 q733 rfl (by decide +kernel) ⟨⟨Nat.le_of_ble_eq_true rfl, Nat.le_of_ble_eq_true rfl⟩, Nat.le_of_ble_eq_true rfl, Nat.le_of_ble_eq_true rfl⟩ hS89 hl.1 (As := [.int (nI n), .int (nI gv), .int (nI dd), .int (nI dy), .int (nI lk)]) (rest := [.ref (H.size)]) (n := 5) rfl rfl (Nat.le_of_ble_eq_true rfl) dX0_promiseBy_103 (fun v98 H94 locs95 hp96 hS97 => ?_)
  obtain ⟨hv104, hz105, Γ99, hW100, hgf101, hg102, ho103⟩ := hp96
  subst hv104
  refine ps_st (st' := [.ref (H.size)]) rfl ?_
  exact ps_aretG X (Or.inl ⟨_, rfl⟩) (Or.inr ⟨_, rfl⟩) hS97 (Nat.le_of_ble_eq_true rfl) (Nat.le_of_ble_eq_true rfl) dX0_promiseBy_106 (⟨rfl, by omega, Γ99, hW100, ((ps_gf.rf.new hz87 hq88 ho93).tr hgf101), hg102, fun q a1 => (ho103 _ a1).trans (ho93 _ a1)⟩)
