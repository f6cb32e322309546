/-! the list, on: add, clear (printed by gen/comp6.py) -/
set_option maxRecDepth 100000
set_option maxHeartbeats 4000000 in
theorem m_J2_add_2z (l : Launch) {E : ps_E} (hE : ps_ZT E) {z : Nat} (hZ : ps_Zk E z) {Γ : ps_Gh} {H : Heap} (hW : ps_W E Γ H) {a b kd n lk gv dd dy : Nat} {x0 : Int32} (hL : Γ a = some (.inr (13, [.int x0, .ref z, .int (nI 0)]))) (hP : Γ b = some (ps_pr kd n lk gv dd dy)) (hk : 1 ≤ kd ∧ kd ≤ 5) : ps_Ge l E yJ2_add_2 cJ2_add_2 4 none 3 67 1 10 [.ref (a), .ref (b), .ref (z), .int (nI 0)] H (fun v H1 => v = none ∧ ∃ Γ1, ps_W E Γ1 H1 ∧ ps_gf Γ H Γ1 H1 ∧ Γ1 a = some (.inr (13, [.int x0, .ref H.size, .int (nI (0 + 1))])) ∧ Γ1 H.size = some (ps_q (E.2.1 6) 10 (va_up (fun _ => none) 0 (some b))) ∧ ∀ q, q ≠ a → q ≠ H.size → Γ1 q = Γ q) := by
  refine ps_Ge.of (by decide) (Nat.le_of_ble_eq_true rfl) ?_
  intro p e s m args below meth c X ls hl
  have hx := X.1
  have hb := X.2.1
  have ho := X.2.2.2.1
  have hts := X.2.2.2.2.1
  have hS : va_S (ps_A E) s.heap H [] := by rw [X.2.2.2.2.2.2.2.2.1]; exact va_S.rf
  have hl : lv_has ls 4 [(0, .ref (a)), (1, .ref (b)), (2, .ref (z)), (3, .int (nI 0))] := hl
  have hne := Nat.ne_of_lt (hW.lt hL)
  have hnb := Nat.ne_of_lt (hW.lt hP)
  have hna : b ≠ a := ps_gne hP hL (by intro q; have q1 : 2 + (kd + 6) = 2 + 13 := congrArg ps_tag q; omega)
  refine lv_iload_n hx hb dJ2_add_2_0 rfl (lv_at hl 3 rfl) ?_
  refine lv_aload_n hx hb dJ2_add_2_1 rfl (lv_at hl 2 rfl) ?_
  refine ps_alen (t := 6) (n := 0) X rfl (ps_z0 X hZ hS) rfl dJ2_add_2_2 ?_
  refine lv_icmp_ne (tgt := 11) hx hb dJ2_add_2_3 (by decide) (fun c_ => absurd c_ (by decide)) (fun _ => ?_)
  refine lv_aload_n hx hb dJ2_add_2_6 rfl (lv_at hl 0 rfl) ?_
  refine ps_geV X hE (m_J2_grow l hE hZ hW hL) (lw_V q755 q757 qs16 q73 q758) (by decide +kernel) ⟨⟨Nat.le_of_ble_eq_true rfl, Nat.le_of_ble_eq_true rfl⟩, Nat.le_of_ble_eq_true rfl, Nat.le_of_ble_eq_true rfl⟩ (ps_rc X (ci := 13) rfl (hW.at hL)) hS hl.1 (As := []) (rest := []) (n := 0) rfl rfl (Nat.le_of_ble_eq_true rfl) dJ2_add_2_7 (fun v5 H1 locs2 hp3 hS4 => ?_)
  obtain ⟨hv12, Γ6, hW7, hgf8, hg9, hg10, ho11⟩ := hp3
  subst hv12
  refine ps_st (st' := [.ref (H.size)]) rfl ?_
  refine lv_astore_n (lv' := [(2, .ref (H.size)), (0, .ref (a)), (1, .ref (b)), (3, .int (nI 0))]) hx hb dJ2_add_2_10 rfl hl (by decide) rfl (fun ls hl => ?_)
  refine lv_aload_n hx hb dJ2_add_2_11 rfl (lv_at hl 0 rfl) ?_
  refine lv_iload_n hx hb dJ2_add_2_12 rfl (lv_at hl 3 rfl) ?_
  refine lv_aload_n hx hb dJ2_add_2_13 rfl (lv_at hl 2 rfl) ?_
  refine ps_aastP (j := 0) X hZ hk (hW7.at hg10) (hW7.at ((ho11 _ hna (Nat.ne_of_lt (hW.lt hP))).trans hP)) rfl (by show 0 < 10; omega) (by decide) (hW7.A hg10) hS4 dJ2_add_2_14 (fun H13 locs14 ha15 hz16 hq17 hS18 => ?_)
  obtain ⟨Γ19, hW20, hg21, ho22⟩ := hW7.put1 hg10 ha15 hq17
  refine lv_aload_n hx hb dJ2_add_2_15 rfl (lv_at hl 1 rfl) ?_
  refine lv_iload_n hx hb dJ2_add_2_16 rfl (lv_at hl 3 rfl) ?_
  refine lv_iconst (v := nI 1) hx hb dJ2_add_2_17 rfl ?_
  refine ps_iadd hx hb dJ2_add_2_18 ?_
  refine ps_put X in_J2 tyJ2_ok nmJ2 (ci := 13) rfl 2 (by decide) q149 rfl rfl rfl rfl (Nat.le_of_ble_eq_true rfl) (hW20.at ((ho22 _ hne).trans hg9)) (hW20.A ((ho22 _ hne).trans hg9)) hS18 dJ2_add_2_19 (fun H23 locs24 ha25 hz26 hq27 hS28 => ?_)
  obtain ⟨Γ29, hW30, hg31, ho32⟩ := hW20.put1 ((ho22 _ hne).trans hg9) ha25 hq27
  exact ps_vretG X hS28 (Nat.le_of_ble_eq_true rfl) (Nat.le_of_ble_eq_true rfl) dJ2_add_2_22 (⟨rfl, Γ29, hW30, (((ps_gf.rf.tr hgf8).put hg10 hz16 hq17 ho22).put ((ho22 _ hne).trans hg9) hz26 hq27 ho32), hg31, ((ho32 _ (Ne.symm hne)).trans hg21), fun q a1 a2 => (ho32 _ a1).trans ((ho22 _ a2).trans (ho11 _ a1 a2))⟩)

set_option maxHeartbeats 4000000 in
theorem m_J2_add (l : Launch) {E : ps_E} (hE : ps_ZT E) {z : Nat} (hZ : ps_Zk E z) {Γ : ps_Gh} {H : Heap} (hW : ps_W E Γ H) {a sr u b kd n lk gv dd dy : Nat} {x0 : Int32} {df : Nat → Option Nat} (hL : Γ a = some (.inr (13, [.int x0, .ref sr, .int (nI u)]))) (hr : (z = sr ∧ u = 0) ∨ Γ sr = some (ps_q (E.2.1 6) 10 df)) (hu : u < 10) (hP : Γ b = some (ps_pr kd n lk gv dd dy)) (hk : 1 ≤ kd ∧ kd ≤ 5) : ps_Ge l E yJ2_add cJ2_add 2 (some .boolean) 4 90 1 10 [.ref (a), .ref (b)] H (fun v H1 => v = some (.int (bI true)) ∧ ∃ Γ1 r1 df1 x1, ps_W E Γ1 H1 ∧ ps_gf Γ H Γ1 H1 ∧ Γ1 a = some (.inr (13, [.int x1, .ref r1, .int (nI (u + 1))])) ∧ Γ1 r1 = some (ps_q (E.2.1 6) 10 df1) ∧ (df1 u = some b ∧ ∀ k, k < u → df1 k = df k) ∧ (r1 = sr ∨ (z = sr ∧ r1 = H.size)) ∧ ∀ q, q ≠ a → q ≠ r1 → Γ1 q = Γ q) := by
  refine ps_Ge.of (by decide) (Nat.le_of_ble_eq_true rfl) ?_
  intro p e s m args below meth c X ls hl
  have hx := X.1
  have hb := X.2.1
  have ho := X.2.2.2.1
  have hts := X.2.2.2.2.1
  have hS : va_S (ps_A E) s.heap H [] := by rw [X.2.2.2.2.2.2.2.2.1]; exact va_S.rf
  have hl : lv_has ls 2 [(0, .ref (a)), (1, .ref (b))] := hl
  have hna : b ≠ a := ps_gne hP hL (by intro q; have q1 : 2 + (kd + 6) = 2 + 13 := congrArg ps_tag q; omega)
  rcases hr with hr | hr
  · skip
    obtain ⟨h1, h2⟩ := hr
    subst h1; subst h2
    have hne := Nat.ne_of_lt (hW.lt hL)
    refine lv_aload_n hx hb dJ2_add_0 rfl (lv_at hl 0 rfl) ?_
    refine lv_dup hx hb dJ2_add_1 rfl ?_
    refine ps_getS (v := .int (x0)) X in_J2 (ci := 13) rfl 0 (by decide) q151 q152 (hW.at hL) rfl dJ2_add_2 ?_
    refine lv_iconst (v := nI 1) hx hb dJ2_add_5 rfl ?_
    refine lv_iadd hx hb dJ2_add_6 ?_
    refine ps_putS X in_J2 tyJ2_ok nmJ2 (ci := 13) rfl 0 (by decide) q151 q152 rfl rfl rfl (Nat.le_of_ble_eq_true rfl) (hW.at hL) (hW.A hL) hS dJ2_add_7 (fun H1 locs2 ha3 hz4 hq5 hS6 => ?_)
    obtain ⟨Γ7, hW8, hg9, ho10⟩ := hW.put1 hL ha3 hq5
    have hsz1 : H1.size = H.size := hz4
    refine lv_aload_n hx hb dJ2_add_10 rfl (lv_at hl 0 rfl) ?_
    refine lv_aload_n hx hb dJ2_add_11 rfl (lv_at hl 1 rfl) ?_
    refine lv_aload_n hx hb dJ2_add_12 rfl (lv_at hl 0 rfl) ?_
    refine ps_get (v := .ref (z)) X in_J2 (ci := 13) rfl 1 (by decide) q148 rfl (hW8.at hg9) rfl dJ2_add_13 ?_
    refine lv_aload_n hx hb dJ2_add_16 rfl (lv_at hl 0 rfl) ?_
    refine ps_get (v := .int (nI 0)) X in_J2 (ci := 13) rfl 2 (by decide) q149 rfl (hW8.at hg9) rfl dJ2_add_17 ?_
    refine ps_geV X hE (m_J2_add_2z l hE hZ hW8 hg9 ((ho10 _ hna).trans hP) hk) (lw_V q751 q753 qs15 q73 q754) (by decide +kernel) ⟨⟨Nat.le_of_ble_eq_true rfl, Nat.le_of_ble_eq_true rfl⟩, Nat.le_of_ble_eq_true rfl, Nat.le_of_ble_eq_true rfl⟩ (ps_rc X (ci := 13) rfl (hW8.at hg9)) hS6 hl.1 (As := [.ref (b), .ref (z), .int (nI 0)]) (rest := []) (n := 3) rfl rfl (Nat.le_of_ble_eq_true rfl) dJ2_add_20 (fun v15 H11 locs12 hp13 hS14 => ?_)
    obtain ⟨hv22, Γ16, hW17, hgf18, hg19, hg20, ho21⟩ := hp13
    subst hv22
    refine ps_st (st' := []) rfl ?_
    refine lv_iconst (v := nI 1) hx hb dJ2_add_23 rfl ?_
    exact ps_zretG (b := true) X hS14 (Nat.le_of_ble_eq_true rfl) (Nat.le_of_ble_eq_true rfl) dJ2_add_24 (rfl) (⟨rfl, Γ16, _, _, _, hW17, ((ps_gf.rf.put hL hz4 hq5 ho10).tr hgf18), hg19, hg20, ⟨va_up_self .., fun k hk => absurd hk (Nat.not_lt_zero _)⟩, Or.inr ⟨rfl, hsz1⟩, fun q a1 a2 => (ho21 q a1 a2).trans (ho10 _ a1)⟩)
  · skip
    have hq := hr
    have hne : a ≠ sr := ps_gne hL hq (by intro q; cases q)
    have hnb : b ≠ sr := ps_gne hP hq (by intro q; cases q)
    refine lv_aload_n hx hb dJ2_add_0 rfl (lv_at hl 0 rfl) ?_
    refine lv_dup hx hb dJ2_add_1 rfl ?_
    refine ps_getS (v := .int (x0)) X in_J2 (ci := 13) rfl 0 (by decide) q151 q152 (hW.at hL) rfl dJ2_add_2 ?_
    refine lv_iconst (v := nI 1) hx hb dJ2_add_5 rfl ?_
    refine lv_iadd hx hb dJ2_add_6 ?_
    refine ps_putS X in_J2 tyJ2_ok nmJ2 (ci := 13) rfl 0 (by decide) q151 q152 rfl rfl rfl (Nat.le_of_ble_eq_true rfl) (hW.at hL) (hW.A hL) hS dJ2_add_7 (fun H23 locs24 ha25 hz26 hq27 hS28 => ?_)
    obtain ⟨Γ29, hW30, hg31, ho32⟩ := hW.put1 hL ha25 hq27
    have hsz1 : H23.size = H.size := hz26
    refine lv_aload_n hx hb dJ2_add_10 rfl (lv_at hl 0 rfl) ?_
    refine lv_aload_n hx hb dJ2_add_11 rfl (lv_at hl 1 rfl) ?_
    refine lv_aload_n hx hb dJ2_add_12 rfl (lv_at hl 0 rfl) ?_
    refine ps_get (v := .ref (sr)) X in_J2 (ci := 13) rfl 1 (by decide) q148 rfl (hW30.at hg31) rfl dJ2_add_13 ?_
    refine lv_aload_n hx hb dJ2_add_16 rfl (lv_at hl 0 rfl) ?_
    refine ps_get (v := .int (nI u)) X in_J2 (ci := 13) rfl 2 (by decide) q149 rfl (hW30.at hg31) rfl dJ2_add_17 ?_
    refine ps_geV X hE (m_J2_add_2n l hE hZ hW30 hg31 ((ho32 _ (Ne.symm hne)).trans hq) (by omega) ((ho32 _ hna).trans hP) hk) (lw_V q751 q753 qs15 q73 q754) (by decide +kernel) ⟨⟨Nat.le_of_ble_eq_true rfl, Nat.le_of_ble_eq_true rfl⟩, Nat.le_of_ble_eq_true rfl, Nat.le_of_ble_eq_true rfl⟩ (ps_rc X (ci := 13) rfl (hW30.at hg31)) hS28 hl.1 (As := [.ref (b), .ref (sr), .int (nI u)]) (rest := []) (n := 3) rfl rfl (Nat.le_of_ble_eq_true rfl) dJ2_add_20 (fun v37 H33 locs34 hp35 hS36 => ?_)
    obtain ⟨hv44, Γ38, hW39, hgf40, hg41, hg42, ho43⟩ := hp35
    subst hv44
    refine ps_st (st' := []) rfl ?_
    refine lv_iconst (v := nI 1) hx hb dJ2_add_23 rfl ?_
    exact ps_zretG (b := true) X hS36 (Nat.le_of_ble_eq_true rfl) (Nat.le_of_ble_eq_true rfl) dJ2_add_24 (rfl) (⟨rfl, Γ38, _, _, _, hW39, ((ps_gf.rf.put hL hz26 hq27 ho32).tr hgf40), hg41, hg42, ⟨va_up_self .., fun k hk => va_up_ne _ _ (Nat.ne_of_lt hk)⟩, Or.inl rfl, fun q a1 a2 => (ho43 q a1 a2).trans (ho32 _ a1)⟩)

set_option maxHeartbeats 4000000 in
theorem m_J2_clear (l : Launch) {E : ps_E} (hE : ps_ZT E) {z : Nat} (hZ : ps_Zk E z) {Γ : ps_Gh} {H : Heap} (hW : ps_W E Γ H) {a sr u : Nat} {x0 : Int32} {df : Nat → Option Nat} (hL : Γ a = some (.inr (13, [.int x0, .ref sr, .int (nI u)]))) (hr : (z = sr ∧ u = 0) ∨ Γ sr = some (ps_q (E.2.1 6) 10 df)) (hu : u ≤ 10) : ps_Ge l E yJ2_clear cJ2_clear 4 none 1 12 0 0 [.ref (a)] H (fun v H1 => v = none ∧ ∃ Γ1 df1 x1, ps_W E Γ1 H1 ∧ ps_gf Γ H Γ1 H1 ∧ Γ1 a = some (.inr (13, [.int x1, .ref sr, .int (nI 0)])) ∧ ((z = sr ∧ u = 0) ∨ Γ1 sr = some (ps_q (E.2.1 6) 10 df1)) ∧ ∀ q, q ≠ a → q ≠ sr → Γ1 q = Γ q) := by
  refine ps_Ge.of (by decide) (Nat.le_of_ble_eq_true rfl) ?_
  intro p e s m args below meth c X ls hl
  have hx := X.1
  have hb := X.2.1
  have ho := X.2.2.2.1
  have hts := X.2.2.2.2.1
  have hS : va_S (ps_A E) s.heap H [] := by rw [X.2.2.2.2.2.2.2.2.1]; exact va_S.rf
  have hl : lv_has ls 4 [(0, .ref (a))] := hl
  refine lv_aload_n hx hb dJ2_clear_0 rfl (lv_at hl 0 rfl) ?_
  refine lv_dup hx hb dJ2_clear_1 rfl ?_
  refine ps_getS (v := .int (x0)) X in_J2 (ci := 13) rfl 0 (by decide) q151 q152 (hW.at hL) rfl dJ2_clear_2 ?_
  refine lv_iconst (v := nI 1) hx hb dJ2_clear_5 rfl ?_
  refine lv_iadd hx hb dJ2_clear_6 ?_
  refine ps_putS X in_J2 tyJ2_ok nmJ2 (ci := 13) rfl 0 (by decide) q151 q152 rfl rfl rfl (Nat.le_of_ble_eq_true rfl) (hW.at hL) (hW.A hL) hS dJ2_clear_7 (fun H1 locs2 ha3 hz4 hq5 hS6 => ?_)
  obtain ⟨Γ7, hW8, hg9, ho10⟩ := hW.put1 hL ha3 hq5
  refine lv_aload_n hx hb dJ2_clear_10 rfl (lv_at hl 0 rfl) ?_
  refine ps_get (v := .ref (sr)) X in_J2 (ci := 13) rfl 1 (by decide) q148 rfl (hW8.at hg9) rfl dJ2_clear_11 ?_
  refine lv_astore_n (lv' := [(1, .ref (sr)), (0, .ref (a))]) hx hb dJ2_clear_14 rfl hl (by decide) rfl (fun ls hl => ?_)
  refine lv_aload_n hx hb dJ2_clear_15 rfl (lv_at hl 1 rfl) ?_
  refine ps_get (v := .int (nI u)) X in_J2 (ci := 13) rfl 2 (by decide) q149 rfl (hW8.at hg9) rfl dJ2_clear_16 ?_
  refine lv_istore_n (lv' := [(2, .int (nI u)), (1, .ref (sr)), (0, .ref (a))]) hx hb dJ2_clear_19 rfl hl (by decide) rfl (fun ls hl => ?_)
  refine lv_aload_n hx hb dJ2_clear_20 rfl (lv_at hl 2 rfl) ?_
  refine lv_iconst (v := nI 0) hx hb dJ2_clear_21 rfl ?_
  refine lv_dup_x1 hx hb dJ2_clear_22 rfl rfl ?_
  refine ps_put X in_J2 tyJ2_ok nmJ2 (ci := 13) rfl 2 (by decide) q149 rfl rfl rfl rfl (Nat.le_of_ble_eq_true rfl) (hW8.at hg9) (hW8.A hg9) hS6 dJ2_clear_23 (fun H11 locs12 ha13 hz14 hq15 hS16 => ?_)
  obtain ⟨Γ17, hW18, hg19, ho20⟩ := hW8.put1 hg9 ha13 hq15
  have hsn : sr ≠ a ∨ (z = sr ∧ u = 0) := hr.symm.imp (fun h => ps_gne h hL (by intro q; cases q)) id
  have hsr : Γ sr = some (ps_q (E.2.1 6) 10 df) → Γ17 sr = some (ps_q (E.2.1 6) 10 df) := fun h => by
    have n1 : sr ≠ a := ps_gne h hL (by intro q; cases q)
    exact (ho20 _ n1).trans ((ho10 _ n1).trans (h))
  refine lv_istore_n (lv' := [(3, .int (nI 0)), (2, .int (nI u)), (1, .ref (sr)), (0, .ref (a))]) hx hb dJ2_clear_26 rfl hl (by decide) rfl (fun ls hl => ?_)
  have L27 : ∀ (n : Nat) (i : Nat) (Γi : ps_Gh) (dfi : Nat → Option Nat) (Hi : Heap) (locsi : List Loc) (hi : i ≤ u) (hWi : ps_W E Γi Hi) (hgi : ps_gf Γ H Γi Hi) (hLi : Γi a = some (.inr (13, [.int (x0 + nI 1), .ref sr, .int (nI 0)]))) (hqi : (z = sr ∧ u = 0) ∨ Γi sr = some (ps_q (E.2.1 6) 10 dfi)) (hoi : ∀ q, q ≠ a → q ≠ sr → Γi q = Γ q) (hSi : va_S (ps_A E) s.heap Hi locsi) (hmu : u - i < n) (ls : Array Slot) (hl : lv_has ls 4 [(3, .int (nI i)), (2, .int (nI u)), (1, .ref (sr)), (0, .ref (a))]), W p l e ({ frames := 1, cells := 0, slots := 0, locals := 12 } : Room) s m args below meth c Hi locsi 0 0 (MQ below (ps_ge (fun v H1 => v = none ∧ ∃ Γ1 df1 x1, ps_W E Γ1 H1 ∧ ps_gf Γ H Γ1 H1 ∧ Γ1 a = some (.inr (13, [.int x1, .ref sr, .int (nI 0)])) ∧ ((z = sr ∧ u = 0) ∨ Γ1 sr = some (ps_q (E.2.1 6) 10 df1)) ∧ ∀ q, q ≠ a → q ≠ sr → Γ1 q = Γ q) (ps_A E)) args s 0 0 (ps_A E)) (F0 m 27 ls []) := by
    intro n
    induction n with
    | zero => intro i Γi dfi Hi locsi hi hWi hgi hLi hqi hoi hSi hmu; exact absurd hmu (Nat.not_lt_zero _)
    | succ n ih27 =>
      intro i Γi dfi Hi locsi hi hWi hgi hLi hqi hoi hSi hmu ls hl
      refine lv_iload_n hx hb dJ2_clear_27 rfl (lv_at hl 0 rfl) ?_
      refine lv_iload_n hx hb dJ2_clear_28 rfl (lv_at hl 1 rfl) ?_
      refine ps_cge (tgt := 42) hx hb dJ2_clear_29 (by decide) (by omega) (fun c_29 => ?_) (fun c_29 => ?_)
      · skip
        exact ps_vretG X hSi (Nat.le_of_ble_eq_true rfl) (Nat.le_of_ble_eq_true rfl) dJ2_clear_42 (⟨rfl, _, _, _, hWi, hgi, hLi, hqi, fun q a1 a2 => hoi q a1 a2⟩)
      · skip
        refine lv_aload_n hx hb dJ2_clear_32 rfl (lv_at hl 2 rfl) ?_
        refine lv_iload_n hx hb dJ2_clear_33 rfl (lv_at hl 0 rfl) ?_
        refine lv_null hx hb dJ2_clear_34 ?_
        refine ps_aastN (j := i) X (t := 6) rfl (hWi.at (hqi.resolve_left (fun h => by omega))) rfl (by show i < 10; omega) (by decide) (hWi.A (hqi.resolve_left (fun h => by omega))) hSi dJ2_clear_35 (fun H21 locs22 ha23 hz24 hq25 hS26 => ?_)
        obtain ⟨Γ27, hW28, hg29, ho30⟩ := hWi.put1 (hqi.resolve_left (fun h => by omega)) ha23 hq25
        refine lv_iinc (v := nI (i + 1)) (lv' := [(3, .int (nI (i + 1))), (2, .int (nI u)), (1, .ref (sr)), (0, .ref (a))]) hx hb dJ2_clear_36 hl (k := 0) rfl (ps_inc _) (by decide) rfl (fun ls hl => ?_)
        refine lv_goto (tgt := 27) hx hb dJ2_clear_39 (by decide) ?_
        exact ih27  (i + 1) Γ27 ((va_up dfi i none)) H21 _ (by omega) hW28 ((hgi.put (hqi.resolve_left (fun h => by omega)) hz24 hq25 ho30)) (((ho30 _ (Ne.symm (ps_gne (hqi.resolve_left (fun h => by omega)) hLi (by intro q; cases q)))).trans hLi)) (Or.inr hg29) (fun q a1 a2 => (ho30 _ a2).trans (hoi q a1 a2)) hS26 (by omega) ls (lv_sub hl [0, 1, 2, 3] rfl)
  exact L27 ((u - 0) + 1) 0 Γ17 df H11 _ (by omega) hW18 (((ps_gf.rf.put hL hz4 hq5 ho10).put hg9 hz14 hq15 ho20)) hg19 (hr.imp id (fun h => hsr h)) (fun q a1 a2 => (ho20 _ a1).trans (ho10 _ a1)) hS16 (Nat.lt_succ_self _) ls (lv_sub hl [0, 1, 2, 3] rfl)
