/-! the list: made, added to, cleared (printed by gen/comp5.py) -/
set_option maxRecDepth 100000
set_option maxHeartbeats 4000000 in
theorem m_J0_init (l : Launch) {E : ps_E} (hE : ps_ZT E) {H : Heap} {a : Nat} : ps_Ge l E yJ0_init cJ0_init 1 none 2 40 0 0 [.ref (a)] H (fun v H1 => v = none ∧ H1 = H) := by
  refine ps_Ge.of (by decide) (Nat.le_of_ble_eq_true rfl) ?_
  intro p e s m args below meth c X ls hl
  have hx := X.1
  have hb := X.2.1
  have ho := X.2.2.2.1
  have hts := X.2.2.2.2.1
  have hS : va_S (ps_A E) s.heap H [] := by rw [X.2.2.2.2.2.2.2.2.1]; exact va_S.rf
  have hl : lv_has ls 1 [(0, .ref (a))] := hl
  refine lv_aload_n hx hb dJ0_init_0 rfl (lv_at hl 0 rfl) ?_
  refine W.objInit hx hb ho (hts _ q145) (hts _ q111) (hts _ q112) rfl (by rw [X.2.2.1]; exact hl.1) rfl dJ0_init_1 (Nat.le_of_ble_eq_true rfl) (Nat.le_of_ble_eq_true rfl) ?_
  exact ps_vretG X hS (Nat.le_of_ble_eq_true rfl) (Nat.le_of_ble_eq_true rfl) dJ0_init_4 (⟨rfl, rfl⟩)

set_option maxHeartbeats 4000000 in
theorem m_J1_init (l : Launch) {E : ps_E} (hE : ps_ZT E) {z : Nat} (hZ : ps_Zk E z) {Γ : ps_Gh} {H : Heap} (hW : ps_W E Γ H) {a : Nat} {x0 : Int32} {v1 v2 : Value} (hL : Γ a = some (.inr (13, [.int x0, v1, v2]))) : ps_Ge l E yJ1_init cJ1_init 1 none 3 60 0 0 [.ref (a)] H (fun v H1 => v = none ∧ H1.size = H.size ∧ ∃ Γ1, ps_W E Γ1 H1 ∧ ps_gf Γ H Γ1 H1 ∧ Γ1 a = some (.inr (13, [.int (nI 0), v1, v2])) ∧ ∀ q, q ≠ a → Γ1 q = Γ q) := by
  refine ps_Ge.of (by decide) (Nat.le_of_ble_eq_true rfl) ?_
  intro p e s m args below meth c X ls hl
  have hx := X.1
  have hb := X.2.1
  have ho := X.2.2.2.1
  have hts := X.2.2.2.2.1
  have hS : va_S (ps_A E) s.heap H [] := by rw [X.2.2.2.2.2.2.2.2.1]; exact va_S.rf
  have hl : lv_has ls 1 [(0, .ref (a))] := hl
  refine lv_aload_n hx hb dJ1_init_0 rfl (lv_at hl 0 rfl) ?_
  refine ps_geI X hE (m_J0_init l hE (H := H) (a := a)) (lw_meth q144) q71 q142 q143 rfl (by decide +kernel) ⟨⟨Nat.le_of_ble_eq_true rfl, Nat.le_of_ble_eq_true rfl⟩, Nat.le_of_ble_eq_true rfl, Nat.le_of_ble_eq_true rfl⟩ hS hl.1 (As := []) (rest := []) (n := 0) rfl rfl (Nat.le_of_ble_eq_true rfl) dJ1_init_1 (fun v5 H1 locs2 hp3 hS4 => ?_)
  obtain ⟨rfl, rfl⟩ := hp3
  refine ps_st (st' := []) rfl ?_
  refine lv_aload_n hx hb dJ1_init_4 rfl (lv_at hl 0 rfl) ?_
  refine lv_iconst (v := nI 0) hx hb dJ1_init_5 rfl ?_
  refine ps_put X in_J2 tyJ2_ok nmJ2 (ci := 13) rfl 0 (by decide) q150 rfl rfl rfl rfl (Nat.le_of_ble_eq_true rfl) (hW.at hL) (hW.A hL) hS4 dJ1_init_6 (fun H6 locs7 ha8 hz9 hq10 hS11 => ?_)
  obtain ⟨Γ12, hW13, hg14, ho15⟩ := hW.put1 hL ha8 hq10
  exact ps_vretG X hS11 (Nat.le_of_ble_eq_true rfl) (Nat.le_of_ble_eq_true rfl) dJ1_init_9 (⟨rfl, by omega, Γ12, hW13, (ps_gf.rf.put hL hz9 hq10 ho15), hg14, fun q a1 => ho15 _ a1⟩)

set_option maxHeartbeats 4000000 in
theorem m_J2_init (l : Launch) {E : ps_E} (hE : ps_ZT E) {z : Nat} (hZ : ps_Zk E z) {Γ : ps_Gh} {H : Heap} (hW : ps_W E Γ H) {a : Nat} {x0 : Int32} {v1 v2 : Value} (hL : Γ a = some (.inr (13, [.int x0, v1, v2]))) : ps_Ge l E yJ2_init cJ2_init 1 none 4 80 0 0 [.ref (a)] H (fun v H1 => v = none ∧ H1.size = H.size ∧ ∃ Γ1, ps_W E Γ1 H1 ∧ ps_gf Γ H Γ1 H1 ∧ Γ1 a = some (.inr (13, [.int (nI 0), .ref z, v2])) ∧ ∀ q, q ≠ a → Γ1 q = Γ q) := by
  refine ps_Ge.of (by decide) (Nat.le_of_ble_eq_true rfl) ?_
  intro p e s m args below meth c X ls hl
  have hx := X.1
  have hb := X.2.1
  have ho := X.2.2.2.1
  have hts := X.2.2.2.2.1
  have hS : va_S (ps_A E) s.heap H [] := by rw [X.2.2.2.2.2.2.2.2.1]; exact va_S.rf
  have hl : lv_has ls 1 [(0, .ref (a))] := hl
  refine lv_aload_n hx hb dJ2_init_0 rfl (lv_at hl 0 rfl) ?_
  refine ps_geI X hE (m_J1_init l hE hZ hW hL) (lw_meth q141) q72 q139 q140 rfl (by decide +kernel) ⟨⟨Nat.le_of_ble_eq_true rfl, Nat.le_of_ble_eq_true rfl⟩, Nat.le_of_ble_eq_true rfl, Nat.le_of_ble_eq_true rfl⟩ hS hl.1 (As := []) (rest := []) (n := 0) rfl rfl (Nat.le_of_ble_eq_true rfl) dJ2_init_1 (fun v5 H1 locs2 hp3 hS4 => ?_)
  obtain ⟨hv11, hz12, Γ6, hW7, hgf8, hg9, ho10⟩ := hp3
  subst hv11
  refine ps_st (st' := []) rfl ?_
  refine lv_aload_n hx hb dJ2_init_4 rfl (lv_at hl 0 rfl) ?_
  refine ps_gets0 X hZ q146 hS4 dJ2_init_5 ?_
  refine ps_put X in_J2 tyJ2_ok nmJ2 (ci := 13) rfl 1 (by decide) q148 rfl rfl rfl rfl (Nat.le_of_ble_eq_true rfl) (hW7.at hg9) (hW7.A hg9) hS4 dJ2_init_8 (fun H13 locs14 ha15 hz16 hq17 hS18 => ?_)
  obtain ⟨Γ19, hW20, hg21, ho22⟩ := hW7.put1 hg9 ha15 hq17
  exact ps_vretG X hS18 (Nat.le_of_ble_eq_true rfl) (Nat.le_of_ble_eq_true rfl) dJ2_init_11 (⟨rfl, by omega, Γ19, hW20, ((ps_gf.rf.tr hgf8).put hg9 hz16 hq17 ho22), hg21, fun q a1 => (ho22 _ a1).trans (ho10 _ a1)⟩)

set_option maxHeartbeats 4000000 in
theorem m_J2_grow_2 (l : Launch) {E : ps_E} (hE : ps_ZT E) {z : Nat} (hZ : ps_Zk E z) {Γ : ps_Gh} {H : Heap} (hW : ps_W E Γ H) {a : Nat} {x0 : Int32} (hL : Γ a = some (.inr (13, [.int x0, .ref z, .int (nI 0)]))) : ps_Ge l E yJ2_grow_2 cJ2_grow_2 4 (some (.array (.object "java/lang/Object"))) 1 24 1 10 [.ref (a), .int (nI 1)] H (fun v H1 => v = some (.ref H.size) ∧ ∃ Γ1, ps_W E Γ1 H1 ∧ ps_gf Γ H Γ1 H1 ∧ Γ1 a = some (.inr (13, [.int x0, .ref H.size, .int (nI 0)])) ∧ Γ1 H.size = some (ps_q (E.2.1 6) 10 fun _ => none) ∧ ∀ q, q ≠ a → q ≠ H.size → Γ1 q = Γ q) := by
  refine ps_Ge.of (by decide) (Nat.le_of_ble_eq_true rfl) ?_
  intro p e s m args below meth c X ls hl
  have hx := X.1
  have hb := X.2.1
  have ho := X.2.2.2.1
  have hts := X.2.2.2.2.1
  have hS : va_S (ps_A E) s.heap H [] := by rw [X.2.2.2.2.2.2.2.2.1]; exact va_S.rf
  have hl : lv_has ls 4 [(0, .ref (a)), (1, .int (nI 1))] := hl
  have hne := Nat.ne_of_lt (hW.lt hL)
  refine lv_aload_n hx hb dJ2_grow_2_0 rfl (lv_at hl 0 rfl) ?_
  refine ps_get (v := .ref (z)) X in_J2 (ci := 13) rfl 1 (by decide) q148 rfl (hW.at hL) rfl dJ2_grow_2_1 ?_
  refine ps_alen (t := 6) (n := 0) X rfl (ps_z0 X hZ hS) rfl dJ2_grow_2_4 ?_
  refine lv_istore_n (lv' := [(2, .int (nI 0)), (0, .ref (a)), (1, .int (nI 1))]) hx hb dJ2_grow_2_5 rfl hl (by decide) rfl (fun ls hl => ?_)
  refine lv_iload_n hx hb dJ2_grow_2_6 rfl (lv_at hl 0 rfl) ?_
  refine lv_if_gt (tgt := 20) hx hb dJ2_grow_2_7 (by decide) (fun c_ => absurd c_ (by decide)) (fun _ => ?_)
  refine lv_aload_n hx hb dJ2_grow_2_10 rfl (lv_at hl 1 rfl) ?_
  refine ps_get (v := .ref (z)) X in_J2 (ci := 13) rfl 1 (by decide) q148 rfl (hW.at hL) rfl dJ2_grow_2_11 ?_
  refine ps_gets0 X hZ q146 hS dJ2_grow_2_14 ?_
  refine lv_acmp_eq (rx := some z) (ry := some z) (tgt := 45) hx hb dJ2_grow_2_17 (by decide) (fun _ => ?_) (fun c_ => absurd rfl c_)
  refine lv_aload_n hx hb dJ2_grow_2_45 rfl (lv_at hl 1 rfl) ?_
  refine lv_bipush (v := nI 10) hx hb dJ2_grow_2_46 rfl ?_
  refine lv_iload_n hx hb dJ2_grow_2_48 rfl (lv_at hl 2 rfl) ?_
  refine ps_mmax X q805 (by omega) hl.1 ⟨⟨Nat.le_of_ble_eq_true rfl, Nat.le_of_ble_eq_true rfl⟩, Nat.le_of_ble_eq_true rfl, Nat.le_of_ble_eq_true rfl⟩ dJ2_grow_2_49 ?_
  refine ps_anew (n := if 10 < 1 then 1 else 10) X q806 (t := 6) rfl (X.nw hZ q801 rfl) rfl (by decide) ⟨Nat.le_of_ble_eq_true rfl, Nat.le_of_ble_eq_true rfl⟩ hS dJ2_grow_2_52 (fun H1 ha2 hz3 hq4 hS5 => ?_)
  obtain ⟨Γ6, hW7, hg8, ho9⟩ := hW.new1 (Nat.le_trans (hW.A hL) (Nat.le_of_lt (hW.lt hL))) ha2 hq4
  refine lv_dup_x1 hx hb dJ2_grow_2_55 rfl rfl ?_
  refine ps_put X in_J2 tyJ2_ok nmJ2 (ci := 13) rfl 1 (by decide) q148 rfl rfl rfl rfl (Nat.le_of_ble_eq_true rfl) (hW7.at ((ho9 _ (Nat.ne_of_lt (hW.lt hL))).trans hL)) (hW7.A ((ho9 _ (Nat.ne_of_lt (hW.lt hL))).trans hL)) hS5 dJ2_grow_2_56 (fun H10 locs11 ha12 hz13 hq14 hS15 => ?_)
  obtain ⟨Γ16, hW17, hg18, ho19⟩ := hW7.put1 ((ho9 _ (Nat.ne_of_lt (hW.lt hL))).trans hL) ha12 hq14
  exact ps_aretG X (Or.inr ⟨_, rfl⟩) (Or.inr ⟨_, rfl⟩) hS15 (Nat.le_of_ble_eq_true rfl) (Nat.le_of_ble_eq_true rfl) dJ2_grow_2_59 (⟨rfl, Γ16, hW17, ((ps_gf.rf.new hz3 hq4 ho9).put ((ho9 _ (Nat.ne_of_lt (hW.lt hL))).trans hL) hz13 hq14 ho19), hg18, ((ho19 _ (Ne.symm hne)).trans hg8), fun q a1 a2 => (ho19 _ a1).trans (ho9 _ a2)⟩)

set_option maxHeartbeats 4000000 in
theorem m_J2_grow (l : Launch) {E : ps_E} (hE : ps_ZT E) {z : Nat} (hZ : ps_Zk E z) {Γ : ps_Gh} {H : Heap} (hW : ps_W E Γ H) {a : Nat} {x0 : Int32} (hL : Γ a = some (.inr (13, [.int x0, .ref z, .int (nI 0)]))) : ps_Ge l E yJ2_grow cJ2_grow 1 (some (.array (.object "java/lang/Object"))) 2 47 1 10 [.ref (a)] H (fun v H1 => v = some (.ref H.size) ∧ ∃ Γ1, ps_W E Γ1 H1 ∧ ps_gf Γ H Γ1 H1 ∧ Γ1 a = some (.inr (13, [.int x0, .ref H.size, .int (nI 0)])) ∧ Γ1 H.size = some (ps_q (E.2.1 6) 10 fun _ => none) ∧ ∀ q, q ≠ a → q ≠ H.size → Γ1 q = Γ q) := by
  refine ps_Ge.of (by decide) (Nat.le_of_ble_eq_true rfl) ?_
  intro p e s m args below meth c X ls hl
  have hx := X.1
  have hb := X.2.1
  have ho := X.2.2.2.1
  have hts := X.2.2.2.2.1
  have hS : va_S (ps_A E) s.heap H [] := by rw [X.2.2.2.2.2.2.2.2.1]; exact va_S.rf
  have hl : lv_has ls 1 [(0, .ref (a))] := hl
  refine lv_aload_n hx hb dJ2_grow_0 rfl (lv_at hl 0 rfl) ?_
  refine lv_aload_n hx hb dJ2_grow_1 rfl (lv_at hl 0 rfl) ?_
  refine ps_get (v := .int (nI 0)) X in_J2 (ci := 13) rfl 2 (by decide) q149 rfl (hW.at hL) rfl dJ2_grow_2 ?_
  refine lv_iconst (v := nI 1) hx hb dJ2_grow_5 rfl ?_
  refine ps_iadd hx hb dJ2_grow_6 ?_
  refine ps_geV X hE (m_J2_grow_2 l hE hZ hW hL) (lw_V q759 q761 qs17 q73 q762) (by decide +kernel) ⟨⟨Nat.le_of_ble_eq_true rfl, Nat.le_of_ble_eq_true rfl⟩, Nat.le_of_ble_eq_true rfl, Nat.le_of_ble_eq_true rfl⟩ (ps_rc X (ci := 13) rfl (hW.at hL)) hS hl.1 (As := [.int (nI (0 + 1))]) (rest := []) (n := 1) rfl rfl (Nat.le_of_ble_eq_true rfl) dJ2_grow_7 (fun v5 H1 locs2 hp3 hS4 => ?_)
  obtain ⟨hv12, Γ6, hW7, hgf8, hg9, hg10, ho11⟩ := hp3
  subst hv12
  refine ps_st (st' := [.ref (H.size)]) rfl ?_
  exact ps_aretG X (Or.inr ⟨_, rfl⟩) (Or.inr ⟨_, rfl⟩) hS4 (Nat.le_of_ble_eq_true rfl) (Nat.le_of_ble_eq_true rfl) dJ2_grow_10 (⟨rfl, Γ6, hW7, (ps_gf.rf.tr hgf8), hg9, hg10, fun q a1 a2 => ho11 _ a1 a2⟩)

set_option maxHeartbeats 4000000 in
theorem m_J2_add_2n (l : Launch) {E : ps_E} (hE : ps_ZT E) {z : Nat} (hZ : ps_Zk E z) {Γ : ps_Gh} {H : Heap} (hW : ps_W E Γ H) {a sr u b kd n lk gv dd dy : Nat} {x0 : Int32} {df : Nat → Option Nat} (hL : Γ a = some (.inr (13, [.int x0, .ref sr, .int (nI u)]))) (hq : Γ sr = some (ps_q (E.2.1 6) 10 df)) (hu : u < 10) (hP : Γ b = some (ps_pr kd n lk gv dd dy)) (hk : 1 ≤ kd ∧ kd ≤ 5) : ps_Ge l E yJ2_add_2 cJ2_add_2 4 none 1 12 0 0 [.ref (a), .ref (b), .ref (sr), .int (nI u)] H (fun v H1 => v = none ∧ ∃ Γ1, ps_W E Γ1 H1 ∧ ps_gf Γ H Γ1 H1 ∧ Γ1 a = some (.inr (13, [.int x0, .ref sr, .int (nI (u + 1))])) ∧ Γ1 sr = some (ps_q (E.2.1 6) 10 (va_up df u (some b))) ∧ ∀ q, q ≠ a → q ≠ sr → Γ1 q = Γ q) := by
  refine ps_Ge.of (by decide) (Nat.le_of_ble_eq_true rfl) ?_
  intro p e s m args below meth c X ls hl
  have hx := X.1
  have hb := X.2.1
  have ho := X.2.2.2.1
  have hts := X.2.2.2.2.1
  have hS : va_S (ps_A E) s.heap H [] := by rw [X.2.2.2.2.2.2.2.2.1]; exact va_S.rf
  have hl : lv_has ls 4 [(0, .ref (a)), (1, .ref (b)), (2, .ref (sr)), (3, .int (nI u))] := hl
  have hne : a ≠ sr := ps_gne hL hq (by intro q; cases q)
  have hnb : b ≠ sr := ps_gne hP hq (by intro q; cases q)
  have hna : b ≠ a := ps_gne hP hL (by intro q; have q1 : 2 + (kd + 6) = 2 + 13 := congrArg ps_tag q; omega)
  refine lv_iload_n hx hb dJ2_add_2_0 rfl (lv_at hl 3 rfl) ?_
  refine lv_aload_n hx hb dJ2_add_2_1 rfl (lv_at hl 2 rfl) ?_
  refine ps_alen (t := 6) (n := 10) X rfl (hW.at hq) rfl dJ2_add_2_2 ?_
  refine ps_cne (tgt := 11) hx hb dJ2_add_2_3 (by decide) (by omega) (fun c_3 => ?_) (fun c_3 => ?_)
  · skip
    refine lv_aload_n hx hb dJ2_add_2_11 rfl (lv_at hl 2 rfl) ?_
    refine lv_iload_n hx hb dJ2_add_2_12 rfl (lv_at hl 3 rfl) ?_
    refine lv_aload_n hx hb dJ2_add_2_13 rfl (lv_at hl 1 rfl) ?_
    refine ps_aastP (j := u) X hZ hk (hW.at hq) (hW.at hP) rfl (by show u < 10; omega) (by decide) (hW.A hq) hS dJ2_add_2_14 (fun H1 locs2 ha3 hz4 hq5 hS6 => ?_)
    obtain ⟨Γ7, hW8, hg9, ho10⟩ := hW.put1 hq ha3 hq5
    refine lv_aload_n hx hb dJ2_add_2_15 rfl (lv_at hl 0 rfl) ?_
    refine lv_iload_n hx hb dJ2_add_2_16 rfl (lv_at hl 3 rfl) ?_
    refine lv_iconst (v := nI 1) hx hb dJ2_add_2_17 rfl ?_
    refine ps_iadd hx hb dJ2_add_2_18 ?_
    refine ps_put X in_J2 tyJ2_ok nmJ2 (ci := 13) rfl 2 (by decide) q149 rfl rfl rfl rfl (Nat.le_of_ble_eq_true rfl) (hW8.at ((ho10 _ hne).trans hL)) (hW8.A ((ho10 _ hne).trans hL)) hS6 dJ2_add_2_19 (fun H11 locs12 ha13 hz14 hq15 hS16 => ?_)
    obtain ⟨Γ17, hW18, hg19, ho20⟩ := hW8.put1 ((ho10 _ hne).trans hL) ha13 hq15
    exact ps_vretG X hS16 (Nat.le_of_ble_eq_true rfl) (Nat.le_of_ble_eq_true rfl) dJ2_add_2_22 (⟨rfl, Γ17, hW18, ((ps_gf.rf.put hq hz4 hq5 ho10).put ((ho10 _ hne).trans hL) hz14 hq15 ho20), hg19, ((ho20 _ (Ne.symm hne)).trans hg9), fun q a1 a2 => (ho20 _ a1).trans (ho10 _ a2)⟩)
  · skip
    exact absurd c_3 (by omega)
