/-! the component: status, tape (printed by gen/comp11.py) -/
set_option maxRecDepth 100000
set_option maxHeartbeats 4000000 in
theorem m_X0_finds (l : Launch) {E : ps_E} (hE : ps_ZT E) {z : Nat} (hZ : ps_Zk E z) {Γ : ps_Gh} {H : Heap} (hW : ps_W E Γ H) {x tr : Nat} {N : Nat → Nat} (hX : Γ x = some (ps_xo x tr N)) {f : Nat} (hf0 : f < 6) : ps_Ge l E yX0_finds cX0_finds 2 (some .int) 1 12 0 0 [.ref (x), .int (nI f)] H (fun v H1 => v = some (.int (fnd f)) ∧ H1.size = H.size ∧ ∃ Γ1, ps_W E Γ1 H1 ∧ ps_gf Γ H Γ1 H1 ∧ Γ1 x = some (ps_xo x tr (va_up N 0 (f))) ∧ ∀ q, q ≠ x → Γ1 q = Γ q) := by
  refine ps_Ge.of (by decide) (Nat.le_of_ble_eq_true rfl) ?_
  intro p e s m args below meth c X ls hl
  have hx := X.1
  have hb := X.2.1
  have ho := X.2.2.2.1
  have hts := X.2.2.2.2.1
  have hS : va_S (ps_A E) s.heap H [] := by rw [X.2.2.2.2.2.2.2.2.1]; exact va_S.rf
  have hl : lv_has ls 2 [(0, .ref (x)), (1, .int (nI f))] := hl
  refine lv_aload_n hx hb dX0_finds_0 rfl (lv_at hl 0 rfl) ?_
  refine lv_iload_n hx hb dX0_finds_1 rfl (lv_at hl 1 rfl) ?_
  refine ps_put X in_X0 tyX0_ok nmX0 (ci := 0) rfl 10 (by decide) q222 rfl rfl rfl rfl (Nat.le_of_ble_eq_true rfl) (hW.at hX) (hW.A hX) hS dX0_finds_2 (fun H1 locs2 ha3 hz4 hq5 hS6 => ?_)
  obtain ⟨Γ7, hW8, hg9, ho10⟩ := hW.put1 hX ha3 hq5
  refine lv_ldc (v := -1000010) hx hb ho (hts _ q356) dX0_finds_5 ?_
  refine lv_iload_n hx hb dX0_finds_7 rfl (lv_at hl 1 rfl) ?_
  refine lv_isub hx hb dX0_finds_8 ?_
  refine ps_top (y := fnd f) (rfl) ?_
  exact ps_iretG X hS6 (Nat.le_of_ble_eq_true rfl) (Nat.le_of_ble_eq_true rfl) dX0_finds_9 (⟨rfl, by omega, Γ7, hW8, (ps_gf.rf.put hX hz4 hq5 ho10), hg9, fun q a1 => ho10 _ a1⟩)

set_option maxHeartbeats 4000000 in
theorem m_X0_well (l : Launch) {E : ps_E} (hE : ps_ZT E) {z : Nat} (hZ : ps_Zk E z) {Γ : ps_Gh} {H : Heap} (hW : ps_W E Γ H) {x tr : Nat} {N : Nat → Nat} (hX : Γ x = some (ps_xo x tr N)) {u : Int32} : ps_Ge l E yX0_well cX0_well 2 (some .int) 1 12 0 0 [.ref (x), .int (u)] H (fun v H1 => v = some (.int (u)) ∧ H1.size = H.size ∧ ∃ Γ1, ps_W E Γ1 H1 ∧ ps_gf Γ H Γ1 H1 ∧ Γ1 x = some (ps_xo x tr (va_up N 0 (0))) ∧ ∀ q, q ≠ x → Γ1 q = Γ q) := by
  refine ps_Ge.of (by decide) (Nat.le_of_ble_eq_true rfl) ?_
  intro p e s m args below meth c X ls hl
  have hx := X.1
  have hb := X.2.1
  have ho := X.2.2.2.1
  have hts := X.2.2.2.2.1
  have hS : va_S (ps_A E) s.heap H [] := by rw [X.2.2.2.2.2.2.2.2.1]; exact va_S.rf
  have hl : lv_has ls 2 [(0, .ref (x)), (1, .int (u))] := hl
  refine lv_aload_n hx hb dX0_well_0 rfl (lv_at hl 0 rfl) ?_
  refine lv_iconst (v := nI 0) hx hb dX0_well_1 rfl ?_
  refine ps_put X in_X0 tyX0_ok nmX0 (ci := 0) rfl 10 (by decide) q222 rfl rfl rfl rfl (Nat.le_of_ble_eq_true rfl) (hW.at hX) (hW.A hX) hS dX0_well_2 (fun H1 locs2 ha3 hz4 hq5 hS6 => ?_)
  obtain ⟨Γ7, hW8, hg9, ho10⟩ := hW.put1 hX ha3 hq5
  refine lv_iload_n hx hb dX0_well_5 rfl (lv_at hl 1 rfl) ?_
  exact ps_iretG X hS6 (Nat.le_of_ble_eq_true rfl) (Nat.le_of_ble_eq_true rfl) dX0_well_6 (⟨rfl, by omega, Γ7, hW8, (ps_gf.rf.put hX hz4 hq5 ho10), hg9, fun q a1 => ho10 _ a1⟩)

theorem ps_Sl.eq {sa : Nat → Option Nat} {τ : Nat → Nat → Nat} {S S' : SS} (h : ps_Sl sa τ S) (h3 : S'.1 3 = S.1 3) (ht : ∀ t, (t = 0 ∨ t = 5 ∨ 10 ≤ t) → S'.2.1 t = S.2.1 t) : ps_Sl sa τ S' := by
  obtain ⟨a, b, c⟩ := h
  refine ⟨a.trans (ht 0 (by omega)).symm, fun k hk => ?_, fun k hk => ?_⟩
  · rw [ht (10 + k) (by omega)]; exact b k (by rw [← h3]; exact hk)
  · rw [ht 5 (by omega), ht (40 + k) (by omega)]; exact c k hk
theorem ps_tpw {f : Nat → Int32} {n k : Nat} {tb : Nat → Nat} (h : ∀ i, i < n → f i = (nI (tb i)).toInt8.toInt32) : ∀ i, i < n + 1 → upd f n (vp_nar .byte ((nI k).toInt8.toInt32)) i = (nI (va_up tb n k i)).toInt8.toInt32 := by
  intro i hi
  by_cases e : i = n
  · subst e; rw [pk_us, va_up_self]; show ((nI k).toInt8.toInt32).toInt8.toInt32 = _; simp
  · rw [pk_un e, va_up_ne _ _ e]; exact h i (by omega)

set_option maxHeartbeats 4000000 in
theorem m_X0_feed (l : Launch) {E : ps_E} (hE : ps_ZT E) {z : Nat} (hZ : ps_Zk E z) {Γ : ps_Gh} {H : Heap} (hW : ps_W E Γ H) {x : Nat} {S : SS} {ow : ps_Ow} (hC : ps_Cx E z Γ ow x S) (hwf : wf S) {v : Int32} : ps_Ge l E yX0_feed cX0_feed 2 (some .int) 2 37 0 0 [.ref (x), .int (v)] H (ps_cpost E z Γ H x (op_feed S v)) := by
  refine ps_Ge.of (by decide) (Nat.le_of_ble_eq_true rfl) ?_
  intro p e s m args below meth c X ls hl
  have hx := X.1
  have hb := X.2.1
  have ho := X.2.2.2.1
  have hts := X.2.2.2.2.1
  have hS : va_S (ps_A E) s.heap H [] := by rw [X.2.2.2.2.2.2.2.2.1]; exact va_S.rf
  have hl : lv_has ls 2 [(0, .ref (x)), (1, .int (v))] := hl
  have hO := hwf.1
  have hm := hO.m
  have hn := hwf.n
  obtain ⟨tr, sa, τ, hOb, hRw, hTp, hTr, hSx, hSl⟩ := id hC
  have hSo := (hSx.2.2.2.2 0 _ hSx.1.1).2
  rw [hSl.1] at hSo
  obtain ⟨smc, sr, pf, kf, tf, df, hD, hOw, hrr, hpo⟩ := id hSo
  obtain ⟨ft1, ht2, htv3⟩ := hTp.2
  refine lv_iload_n hx hb dX0_feed_0 rfl (lv_at hl 1 rfl) ?_
  refine lv_i2l (v := (v).toInt64) hx hb dX0_feed_1 rfl ?_
  refine lv_lconst (v := lN 0) hx hb dX0_feed_2 rfl ?_
  refine lv_ldc2 (v := 255) hx hb ho (hts _ q451) dX0_feed_3 ?_
  refine ps_roS X hE (m_X0_isIn l hE (H := H) (x := v) (lo := 0) (hi := 256) (lN_toInt (by decide)) (ps_hcL (k := 255) (by decide +kernel))) (lw_S q340 q341 q68 q342) (by decide +kernel) ⟨⟨Nat.le_of_ble_eq_true rfl, Nat.le_of_ble_eq_true rfl⟩, Nat.le_of_ble_eq_true rfl, Nat.le_of_ble_eq_true rfl⟩ hS hl.1 (As := [.long ((v).toInt64), .long (lN 0), .long (255)]) (rest := []) (n := 3) rfl rfl (Nat.le_of_ble_eq_true rfl) dX0_feed_6 ?_
  refine ps_st (st' := [.int (bI (rng v 0 256))]) rfl ?_
  refine ps_ifneB (tgt := 15) hx hb dX0_feed_9 (by decide) (fun c_9 => ?_) (fun c_9 => ?_)
  · skip
    obtain ⟨k, rfl, k_lo, k_hi, k_b⟩ := rng_t c_9
    have cl_k : (nI k).toNatClampNeg = k := nI_clamp (by omega)
    refine lv_aload_n hx hb dX0_feed_15 rfl (lv_at hl 0 rfl) ?_
    refine ps_get (v := .int (nI (S.1 2))) X in_X0 (ci := 0) rfl 2 (by decide) q213 rfl (hW.at hOb.1) rfl dX0_feed_16 ?_
    refine lv_bipush (v := nI 120) hx hb dX0_feed_19 rfl ?_
    refine ps_cne (tgt := 27) hx hb dX0_feed_21 (by decide) (by omega) (fun c_21 => ?_) (fun c_21 => ?_)
    · skip
      refine lv_aload_n hx hb dX0_feed_27 rfl (lv_at hl 0 rfl) ?_
      refine ps_get (v := .ref (x + 10)) X in_X0 (ci := 0) rfl 1 (by decide) q212 rfl (hW.at hOb.1) rfl dX0_feed_28 ?_
      refine lv_aload_n hx hb dX0_feed_31 rfl (lv_at hl 0 rfl) ?_
      refine lv_dup hx hb dX0_feed_32 rfl ?_
      refine ps_get (v := .int (nI (S.1 2))) X in_X0 (ci := 0) rfl 2 (by decide) q213 rfl (hW.at hOb.1) rfl dX0_feed_33 ?_
      refine lv_dup_x1 hx hb dX0_feed_36 rfl rfl ?_
      refine lv_iconst (v := nI 1) hx hb dX0_feed_37 rfl ?_
      refine ps_iadd hx hb dX0_feed_38 ?_
      refine ps_put X in_X0 tyX0_ok nmX0 (ci := 0) rfl 2 (by decide) q213 rfl rfl rfl rfl (Nat.le_of_ble_eq_true rfl) (hW.at hOb.1) (hW.A hOb.1) hS dX0_feed_39 (fun H4 locs5 ha6 hz7 hq8 hS9 => ?_)
      obtain ⟨Γ10, hW11, hg12, ho13⟩ := hW.put1 hOb.1 ha6 hq8
      have hsp14 := (ps_sp.rf).put (P := (fun w => w = 1 ∨ w = 3)) (Γ := Γ) (ow := ow) (((ps_sp.rf) : ps_sp (fun w => w = 1 ∨ w = 3) Γ ow _ ow).o hOb.1 hOb.2) (by simp) hg12 ho13
      refine lv_iload_n hx hb dX0_feed_42 rfl (lv_at hl 1 rfl) ?_
      refine lv_i2b (v := (nI k).toInt8.toInt32) hx hb dX0_feed_43 rfl ?_
      refine ps_bast (j := S.1 2) X (hW11.at ((ho13 _ (by omega)).trans ht2)) rfl (by show S.1 2 < 120; omega) (by first | decide | omega) (hW11.A ((ho13 _ (by omega)).trans ht2)) hS9 dX0_feed_44 (fun H15 locs16 ha17 hz18 hq19 hS20 => ?_)
      obtain ⟨Γ21, hW22, hg23, ho24⟩ := hW11.put1 ((ho13 _ (by omega)).trans ht2) ha17 hq19
      have hsp25 := hsp14.put (P := (fun w => w = 1 ∨ w = 3)) (Γ := Γ) (ow := ow) ((hsp14 : ps_sp (fun w => w = 1 ∨ w = 3) Γ ow _ ow).o ht2 hTp.1) (by simp) hg23 ho24
      refine lv_aload_n hx hb dX0_feed_45 rfl (lv_at hl 0 rfl) ?_
      refine ps_get (v := .int (nI ((S.1 2) + 1))) X in_X0 (ci := 0) rfl 2 (by decide) q213 rfl (hW22.at ((ho24 _ (by omega)).trans hg12)) rfl dX0_feed_46 ?_
      exact ps_iretG X hS20 (Nat.le_of_ble_eq_true rfl) (Nat.le_of_ble_eq_true rfl) dX0_feed_49 (ps_cend (S1 := (va_up S.1 2 (S.1 2 + 1), va_up S.2.1 1 (va_up (S.2.1 1) (S.1 2) k), S.2.2)) (by simp [op_feed, c_9, cl_k, c_21]) hW22 ((ps_gf.rf.put hOb.1 hz7 hq8 ho13).put ((ho13 _ (by omega)).trans ht2) hz18 hq19 ho24) ⟨_, _, _, ⟨((ho24 _ (by omega)).trans hg12), hOb.2⟩, hRw.kept hsp25 (by first | exact fun h => h | ((try dsimp only) <;> omega)), ⟨hTp.1, _, hg23, ps_tpw htv3⟩, hTr.kept hsp25 (by first | exact fun h => h | ((try dsimp only) <;> omega)), hSx.kept hsp25 (by first | exact fun h => h | ((try dsimp only) <;> omega)) (by first | exact fun h => h | ((try dsimp only) <;> omega)) (fun w => (by first | exact fun h => h | ((try dsimp only) <;> omega))), hSl.eq rfl (fun t ht => va_up_ne _ _ (by omega))⟩)
    · skip
      refine lv_ldc (v := -1000003) hx hb ho (hts _ q452) dX0_feed_24 ?_
      exact ps_iretG X hS (Nat.le_of_ble_eq_true rfl) (Nat.le_of_ble_eq_true rfl) dX0_feed_26 (ps_cend (S1 := S) (by simp [op_feed, c_9, cl_k, c_21]) hW ps_gf.rf hC)
  · skip
    refine lv_ldc (v := -1000001) hx hb ho (hts _ q344) dX0_feed_12 ?_
    exact ps_iretG X hS (Nat.le_of_ble_eq_true rfl) (Nat.le_of_ble_eq_true rfl) dX0_feed_14 (ps_cend (S1 := S) (by simp [op_feed, c_9]) hW ps_gf.rf hC)
