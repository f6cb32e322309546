/-! the component: changes of scales (printed by gen/comp4.py) -/
set_option maxRecDepth 100000
set_option maxHeartbeats 4000000 in
theorem m_X2_settle (l : Launch) {E : ps_E} (hE : ps_ZT E) {z : Nat} (hZ : ps_Zk E z) {Γ : ps_Gh} {H : Heap} (hW : ps_W E Γ H) {sq : Nat} {σ : Nat → Nat} {smc : Int32} {sr : Nat} {pf : Nat → Nat} {kf tf : Nat → Int32} {df : Nat → Option Nat} (hD : ps_Sd E z Γ sq σ smc sr pf kf tf df) (hO : sp_ok σ) {k : Nat} {b : Bool} (hk : k < σ 3) : ps_Ge l E yX2_settle cX2_settle 4 none 5 97 0 0 [.ref (sq), .int (nI k), .int (bI b)] H (fun v H1 => v = none ∧ ∃ Γ1 kf1 tf1, ps_W E Γ1 H1 ∧ ps_gf Γ H Γ1 H1 ∧ ps_Sd E z Γ1 sq (sp_settle σ k b) smc sr pf kf1 tf1 df ∧ ∀ q e, Γ q = some e → q ≠ sq → q ≠ sq + 1 → q ≠ sq + 3 → Γ1 q = some e) := by
  refine ps_Ge.of (by decide) (Nat.le_of_ble_eq_true rfl) ?_
  intro p e s m args below meth c X ls hl
  have hx := X.1
  have hb := X.2.1
  have ho := X.2.2.2.1
  have hts := X.2.2.2.2.1
  have hS : va_S (ps_A E) s.heap H [] := by rw [X.2.2.2.2.2.2.2.2.1]; exact va_S.rf
  have hl : lv_has ls 4 [(0, .ref (sq)), (1, .int (nI k)), (2, .int (bI b))] := hl
  have hm := hO.m
  have hp := hO.p hk
  have hk5 := hO.k (g := σ (17 + k)) (by omega)
  refine lv_aload_n hx hb dX2_settle_0 rfl (lv_at hl 0 rfl) ?_
  refine lv_iload_n hx hb dX2_settle_1 rfl (lv_at hl 1 rfl) ?_
  refine ps_roV X hE (m_X2_promise l hE hZ hW hD hO (k := k) (by omega)) (lw_V q887 q888 q889 q70 q890) (by decide +kernel) ⟨⟨Nat.le_of_ble_eq_true rfl, Nat.le_of_ble_eq_true rfl⟩, Nat.le_of_ble_eq_true rfl, Nat.le_of_ble_eq_true rfl⟩ (ps_rc X (ci := 2) rfl (hW.at hD.1)) hS hl.1 (As := [.int (nI k)]) (rest := []) (n := 1) rfl rfl (Nat.le_of_ble_eq_true rfl) dX2_settle_2 ?_
  refine ps_st (st' := [.ref (pf k)]) rfl ?_
  refine ps_pget (v := .int (nI (σ (17 + k)))) X (hO.p (p := k) (by omega)).1 2 (by decide) q675 (hW.at (hD.2.2.2.2.2.2.2.2 k (by omega))) rfl dX2_settle_5 ?_
  refine lv_istore_n (lv' := [(3, .int (nI (σ (17 + k)))), (0, .ref (sq)), (1, .int (nI k)), (2, .int (bI b))]) hx hb dX2_settle_8 rfl hl (by decide) rfl (fun ls hl => ?_)
  refine lv_aload_n hx hb dX2_settle_9 rfl (lv_at hl 1 rfl) ?_
  refine ps_get (v := .ref (sq + 3)) X in_X2 (ci := 2) rfl 5 (by decide) q176 rfl (hW.at hD.1) rfl dX2_settle_10 ?_
  refine lv_iload_n hx hb dX2_settle_13 rfl (lv_at hl 2 rfl) ?_
  have J23 : W p l e ({ frames := 5, cells := 0, slots := 0, locals := 97 } : Room) s m args below meth c H [] 0 0 (MQ below (ps_ge (fun v H1 => v = none ∧ ∃ Γ1 kf1 tf1, ps_W E Γ1 H1 ∧ ps_gf Γ H Γ1 H1 ∧ ps_Sd E z Γ1 sq (sp_settle σ k b) smc sr pf kf1 tf1 df ∧ ∀ q e, Γ q = some e → q ≠ sq → q ≠ sq + 1 → q ≠ sq + 3 → Γ1 q = some e) (ps_A E)) args s 0 0 (ps_A E)) (F0 m 23 ls [.int (nI (if b = true then 1 else 2)), .int (nI k), .ref (sq + 3)]) := by
    refine ps_iast (j := k) X (hW.at hD.2.2.2.2.1) rfl (by show k < 8; omega) (by first | decide | omega) (hW.A hD.2.2.2.2.1) hS dX2_settle_23 (fun H1 locs2 ha3 hz4 hq5 hS6 => ?_)
    obtain ⟨Γ7, hW8, hg9, ho10⟩ := hW.put1 hD.2.2.2.2.1 ha3 hq5
    refine lv_aload_n hx hb dX2_settle_24 rfl (lv_at hl 1 rfl) ?_
    refine lv_dup hx hb dX2_settle_25 rfl ?_
    refine ps_get (v := .int (nI (σ 4))) X in_X2 (ci := 2) rfl 6 (by decide) q178 rfl (hW8.at ((ho10 _ (by omega)).trans hD.1)) rfl dX2_settle_26 ?_
    refine lv_iconst (v := nI 1) hx hb dX2_settle_29 rfl ?_
    refine lv_iload_n hx hb dX2_settle_30 rfl (lv_at hl 2 rfl) ?_
    refine lv_ishl hx hb dX2_settle_31 ?_
    refine ps_top (y := nI (2 ^ k)) (ps_shl1 (by omega)) ?_
    refine lv_iconst (v := (-1)) hx hb dX2_settle_32 rfl ?_
    refine lv_ixor hx hb dX2_settle_33 ?_
    refine ps_top (y := nI (2 ^ k ^^^ 4294967295)) (ps_xm1 _) ?_
    refine lv_iand hx hb dX2_settle_34 ?_
    refine ps_top (y := nI (σ 4 &&& (2 ^ k ^^^ 4294967295))) (nI_and _ _) ?_
    refine ps_put X in_X2 tyX2_ok nmX2 (ci := 2) rfl 6 (by decide) q178 rfl rfl rfl rfl (Nat.le_of_ble_eq_true rfl) (hW8.at ((ho10 _ (by omega)).trans hD.1)) (hW8.A ((ho10 _ (by omega)).trans hD.1)) hS6 dX2_settle_35 (fun H11 locs12 ha13 hz14 hq15 hS16 => ?_)
    obtain ⟨Γ17, hW18, hg19, ho20⟩ := hW8.put1 ((ho10 _ (by omega)).trans hD.1) ha13 hq15
    refine lv_aload_n hx hb dX2_settle_38 rfl (lv_at hl 1 rfl) ?_
    refine ps_get (v := .ref (sq + 1)) X in_X2 (ci := 2) rfl 3 (by decide) q171 rfl (hW18.at hg19) rfl dX2_settle_39 ?_
    refine lv_iload_n hx hb dX2_settle_42 rfl (lv_at hl 0 rfl) ?_
    refine lv_iconst (v := nI 0) hx hb dX2_settle_43 rfl ?_
    refine lv_bipush (v := nI 10) hx hb dX2_settle_44 rfl ?_
    refine lv_aload_n hx hb dX2_settle_46 rfl (lv_at hl 1 rfl) ?_
    refine ps_get (v := .ref (sq + 1)) X in_X2 (ci := 2) rfl 3 (by decide) q171 rfl (hW18.at hg19) rfl dX2_settle_47 ?_
    refine lv_iload_n hx hb dX2_settle_50 rfl (lv_at hl 0 rfl) ?_
    refine ps_iald (j := σ (17 + k)) X (hW18.at ((ho20 _ (by omega)).trans ((ho10 _ (by omega)).trans hD.2.1))) rfl (by show σ (17 + k) < 4; omega) (by first | decide | omega) dX2_settle_51 ?_
    refine ps_top (y := nI (σ (5 + (σ (17 + k))))) (hD.2.2.1 _ (by show σ (17 + k) < 4; omega)) ?_
    have J61 : W p l e ({ frames := 5, cells := 0, slots := 0, locals := 97 } : Room) s m args below meth c H11 locs12 0 0 (MQ below (ps_ge (fun v H1 => v = none ∧ ∃ Γ1 kf1 tf1, ps_W E Γ1 H1 ∧ ps_gf Γ H Γ1 H1 ∧ ps_Sd E z Γ1 sq (sp_settle σ k b) smc sr pf kf1 tf1 df ∧ ∀ q e, Γ q = some e → q ≠ sq → q ≠ sq + 1 → q ≠ sq + 3 → Γ1 q = some e) (ps_A E)) args s 0 0 (ps_A E)) (F0 m 61 ls [.int (if b = true then nI 1 else (-1)), .int (nI (σ (5 + (σ (17 + k))))), .int (nI 10), .int (nI 0), .int (nI (σ (17 + k))), .ref (sq + 1)]) := by
      refine lv_iadd hx hb dX2_settle_61 ?_
      refine ps_mminX X q928 hl.1 ⟨⟨Nat.le_of_ble_eq_true rfl, Nat.le_of_ble_eq_true rfl⟩, Nat.le_of_ble_eq_true rfl, Nat.le_of_ble_eq_true rfl⟩ dX2_settle_62 ?_
      refine ps_mmaxX X q929 hl.1 ⟨⟨Nat.le_of_ble_eq_true rfl, Nat.le_of_ble_eq_true rfl⟩, Nat.le_of_ble_eq_true rfl, Nat.le_of_ble_eq_true rfl⟩ dX2_settle_65 ?_
      refine ps_top (y := nI (if b = true then (if 10 ≤ σ (5 + σ (17 + k)) then 10 else σ (5 + σ (17 + k)) + 1) else σ (5 + σ (17 + k)) - 1)) (ps_stl hk5) ?_
      refine ps_iast (j := σ (17 + k)) X (hW18.at ((ho20 _ (by omega)).trans ((ho10 _ (by omega)).trans hD.2.1))) rfl (by show σ (17 + k) < 4; omega) (by first | decide | omega) (hW18.A ((ho20 _ (by omega)).trans ((ho10 _ (by omega)).trans hD.2.1))) hS16 dX2_settle_68 (fun H21 locs22 ha23 hz24 hq25 hS26 => ?_)
      obtain ⟨Γ27, hW28, hg29, ho30⟩ := hW18.put1 ((ho20 _ (by omega)).trans ((ho10 _ (by omega)).trans hD.2.1)) ha23 hq25
      have ho31 : ∀ q e, Γ q = some e → q ≠ sq → q ≠ sq + 1 → q ≠ sq + 3 → Γ27 q = some e := fun q e h a1 a2 a3 => (ho30 _ (by omega)).trans ((ho20 _ (by omega)).trans ((ho10 _ (by omega)).trans h))
      exact ps_vretG X hS26 (Nat.le_of_ble_eq_true rfl) (Nat.le_of_ble_eq_true rfl) dX2_settle_69 (⟨rfl, Γ27, _, _, hW28, (((ps_gf.rf.put hD.2.2.2.2.1 hz4 hq5 ho10).put ((ho10 _ (by omega)).trans hD.1) hz14 hq15 ho20).put ((ho20 _ (by omega)).trans ((ho10 _ (by omega)).trans hD.2.1)) hz24 hq25 ho30), hD.settle hO hk ((ho30 _ (by omega)).trans hg19) hg29 ((ho30 _ (by omega)).trans ((ho20 _ (by omega)).trans hg9)) ho31, ho31⟩)
    refine lv_iload_n hx hb dX2_settle_52 rfl (lv_at hl 3 rfl) ?_
    refine ps_ifeqB (tgt := 60) hx hb dX2_settle_53 (by decide) (fun c_53 => ?_) (fun c_53 => ?_)
    · skip
      refine lv_iconst (v := (-1)) hx hb dX2_settle_60 rfl ?_
      exact ps_top (by rw [if_neg (by rw [c_53]; decide)]) J61
    · skip
      refine lv_iconst (v := nI 1) hx hb dX2_settle_56 rfl ?_
      refine lv_goto (tgt := 61) hx hb dX2_settle_57 (by decide) ?_
      exact ps_top (by rw [if_pos c_53]) J61
  refine lv_iload_n hx hb dX2_settle_14 rfl (lv_at hl 3 rfl) ?_
  refine ps_ifeqB (tgt := 22) hx hb dX2_settle_15 (by decide) (fun c_15 => ?_) (fun c_15 => ?_)
  · skip
    refine lv_iconst (v := nI 2) hx hb dX2_settle_22 rfl ?_
    exact ps_top (congrArg nI (by first | rfl | (simp [c_15]; done) | (simp [c_15]; omega) | omega)) J23
  · skip
    refine lv_iconst (v := nI 1) hx hb dX2_settle_18 rfl ?_
    refine lv_goto (tgt := 23) hx hb dX2_settle_19 (by decide) ?_
    exact ps_top (congrArg nI (by first | rfl | (simp [c_15]; done) | (simp [c_15]; omega) | omega)) J23
