/-! the model is made (printed by gen/model10.py) -/
set_option maxRecDepth 100000
set_option maxHeartbeats 4000000 in
theorem m_X4_init (l : Launch) {E : ps_E} (hE : ps_ZT E) {H : Heap} {o : Nat} (hI : ps_Mi E H H o 1 [.null, .null, .null, .int 0, .int 0, .null, .null, .null, .int 0, .int 0, .int 0, .int 0, .int 0, .int 0, .int 0, .null, .null, .int 0, .null, .int 0, .null, .null, .null, .int 0]) : ps_Ge l E yX4_init cX4_init 2 none 1 12 12 2167 [.ref (o)] H (fun v H1 => v = none ∧ ps_MS E H1 o S_0 ∧ H1.size = o + 13 ∧ ∀ q : Nat, q < o → H1[q]? = H[q]?) := by
  refine ps_Ge.of (by decide) (Nat.le_of_ble_eq_true rfl) ?_
  intro p e s m args below meth c X ls hl
  have hx := X.1
  have hb := X.2.1
  have ho := X.2.2.2.1
  have hts := X.2.2.2.2.1
  have hS : va_S (ps_A E) s.heap H [] := by rw [X.2.2.2.2.2.2.2.2.1]; exact va_S.rf
  have hl : lv_has ls 2 [(0, .ref (o))] := hl
  refine lv_aload_n hx hb dX4_init_0 rfl (lv_at hl 0 rfl) ?_
  refine W.objInit hx hb ho (hts _ q1288) (hts _ q111) (hts _ q112) rfl (by rw [X.2.2.1]; exact hl.1) rfl dX4_init_1 (Nat.le_of_ble_eq_true rfl) (Nat.le_of_ble_eq_true rfl) ?_
  refine lv_aload_n hx hb dX4_init_4 rfl (lv_at hl 0 rfl) ?_
  refine lv_bipush (v := nI 8) hx hb dX4_init_5 rfl ?_
  refine ps_mna X hI (k := 1) (by decide) (by decide) rfl q161 (kf := 0) (by decide) q1289 rfl rfl rfl rfl ⟨Nat.le_of_ble_eq_true rfl, Nat.le_of_ble_eq_true rfl⟩ hS dX4_init_7 dX4_init_9 (fun H3 locs4 hI1 hS2 => ?_)
  refine lv_aload_n hx hb dX4_init_12 rfl (lv_at hl 0 rfl) ?_
  refine lv_bipush (v := nI 8) hx hb dX4_init_13 rfl ?_
  refine ps_mna X hI1 (k := 2) (by decide) (by decide) rfl q161 (kf := 1) (by decide) q1290 rfl rfl rfl rfl ⟨Nat.le_of_ble_eq_true rfl, Nat.le_of_ble_eq_true rfl⟩ hS2 dX4_init_15 dX4_init_17 (fun H7 locs8 hI5 hS6 => ?_)
  refine lv_aload_n hx hb dX4_init_20 rfl (lv_at hl 0 rfl) ?_
  refine lv_sipush (v := nI 320) hx hb dX4_init_21 rfl ?_
  refine ps_mna X hI5 (k := 3) (by decide) (by decide) rfl q161 (kf := 2) (by decide) q1291 rfl rfl rfl rfl ⟨Nat.le_of_ble_eq_true rfl, Nat.le_of_ble_eq_true rfl⟩ hS6 dX4_init_24 dX4_init_26 (fun H11 locs12 hI9 hS10 => ?_)
  refine lv_aload_n hx hb dX4_init_29 rfl (lv_at hl 0 rfl) ?_
  refine lv_bipush (v := nI 57) hx hb dX4_init_30 rfl ?_
  refine ps_mna X hI9 (k := 4) (by decide) (by decide) rfl q161 (kf := 5) (by decide) q1294 rfl rfl rfl rfl ⟨Nat.le_of_ble_eq_true rfl, Nat.le_of_ble_eq_true rfl⟩ hS10 dX4_init_32 dX4_init_34 (fun H15 locs16 hI13 hS14 => ?_)
  refine lv_aload_n hx hb dX4_init_37 rfl (lv_at hl 0 rfl) ?_
  refine lv_bipush (v := nI 40) hx hb dX4_init_38 rfl ?_
  refine ps_mna X hI13 (k := 5) (by decide) (by decide) rfl q161 (kf := 6) (by decide) q1295 rfl rfl rfl rfl ⟨Nat.le_of_ble_eq_true rfl, Nat.le_of_ble_eq_true rfl⟩ hS14 dX4_init_40 dX4_init_42 (fun H19 locs20 hI17 hS18 => ?_)
  refine lv_aload_n hx hb dX4_init_45 rfl (lv_at hl 0 rfl) ?_
  refine lv_bipush (v := nI 120) hx hb dX4_init_46 rfl ?_
  refine ps_mna X hI17 (k := 6) (by decide) (by decide) rfl q161 (kf := 7) (by decide) q1296 rfl rfl rfl rfl ⟨Nat.le_of_ble_eq_true rfl, Nat.le_of_ble_eq_true rfl⟩ hS18 dX4_init_48 dX4_init_50 (fun H23 locs24 hI21 hS22 => ?_)
  refine lv_aload_n hx hb dX4_init_53 rfl (lv_at hl 0 rfl) ?_
  refine lv_bipush (v := nI 57) hx hb dX4_init_54 rfl ?_
  refine ps_mna X hI21 (k := 7) (by decide) (by decide) rfl q161 (kf := 15) (by decide) q1304 rfl rfl rfl rfl ⟨Nat.le_of_ble_eq_true rfl, Nat.le_of_ble_eq_true rfl⟩ hS22 dX4_init_56 dX4_init_58 (fun H27 locs28 hI25 hS26 => ?_)
  refine lv_aload_n hx hb dX4_init_61 rfl (lv_at hl 0 rfl) ?_
  refine lv_sipush (v := nI 1368) hx hb dX4_init_62 rfl ?_
  refine ps_mna X hI25 (k := 8) (by decide) (by decide) rfl q161 (kf := 16) (by decide) q1305 rfl rfl rfl rfl ⟨Nat.le_of_ble_eq_true rfl, Nat.le_of_ble_eq_true rfl⟩ hS26 dX4_init_65 dX4_init_67 (fun H31 locs32 hI29 hS30 => ?_)
  refine lv_aload_n hx hb dX4_init_70 rfl (lv_at hl 0 rfl) ?_
  refine lv_bipush (v := nI 57) hx hb dX4_init_71 rfl ?_
  refine ps_mna X hI29 (k := 9) (by decide) (by decide) rfl q161 (kf := 18) (by decide) q1307 rfl rfl rfl rfl ⟨Nat.le_of_ble_eq_true rfl, Nat.le_of_ble_eq_true rfl⟩ hS30 dX4_init_73 dX4_init_75 (fun H35 locs36 hI33 hS34 => ?_)
  refine lv_aload_n hx hb dX4_init_78 rfl (lv_at hl 0 rfl) ?_
  refine lv_iconst (v := nI 2) hx hb dX4_init_79 rfl ?_
  refine ps_mnaZ X hI33 q1362 (kf := 20) (by decide) q1309 rfl rfl rfl rfl ⟨Nat.le_of_ble_eq_true rfl, Nat.le_of_ble_eq_true rfl⟩ hS34 dX4_init_80 dX4_init_82 (fun H39 locs40 hI37 hS38 => ?_)
  refine lv_aload_n hx hb dX4_init_85 rfl (lv_at hl 0 rfl) ?_
  refine lv_bipush (v := nI 114) hx hb dX4_init_86 rfl ?_
  refine ps_mna X hI37 (k := 11) (by decide) (by decide) rfl q161 (kf := 21) (by decide) q1310 rfl rfl rfl rfl ⟨Nat.le_of_ble_eq_true rfl, Nat.le_of_ble_eq_true rfl⟩ hS38 dX4_init_88 dX4_init_90 (fun H43 locs44 hI41 hS42 => ?_)
  refine lv_aload_n hx hb dX4_init_93 rfl (lv_at hl 0 rfl) ?_
  refine lv_bipush (v := nI 16) hx hb dX4_init_94 rfl ?_
  refine ps_mna X hI41 (k := 12) (by decide) (by decide) rfl q161 (kf := 22) (by decide) q1311 rfl rfl rfl rfl ⟨Nat.le_of_ble_eq_true rfl, Nat.le_of_ble_eq_true rfl⟩ hS42 dX4_init_96 dX4_init_98 (fun H47 locs48 hI45 hS46 => ?_)
  have hM0 := ps_Mi.Mo hI45
  have hF0 : ps_Mf o H47 H47 := ps_Mf.rf
  refine lv_iconst (v := nI 0) hx hb dX4_init_101 rfl ?_
  refine lv_istore_n (lv' := [(1, .int (nI 0)), (0, .ref (o))]) hx hb dX4_init_102 rfl hl (by decide) rfl (fun ls hl => ?_)
  have L103 : ∀ (n : Nat) (i : Nat) (Ak103 : Nat → Nat → Int32) (Hk103 : Heap) (lk103 : List Loc) (hi103 : i ≤ 8) (hMk103 : ps_Mo E Hk103 o (fun _ => 0) Ak103) (hFk103 : ps_Mf o H47 Hk103) (hAk103 : ∀ qk, qk ≠ 2 → Ak103 qk = (fun _ _ => 0) qk) (hgk103 : ∀ q, Ak103 2 q = if q < i then (fun _ => (-1)) q else (fun _ _ => 0) 2 q) (hSk103 : va_S (ps_A E) s.heap Hk103 lk103) (hmu : 8 - i < n) (ls : Array Slot) (hl : lv_has ls 2 [(1, .int (nI i)), (0, .ref (o))]), W p l e ({ frames := 1, cells := 12, slots := 2167, locals := 12 } : Room) s m args below meth c Hk103 lk103 12 2167 (MQ below (ps_ge (fun v H1 => v = none ∧ ps_MS E H1 o S_0 ∧ H1.size = o + 13 ∧ ∀ q : Nat, q < o → H1[q]? = H[q]?) (ps_A E)) args s 12 2167 (ps_A E)) (F0 m 103 ls []) := by
    intro n
    induction n with
    | zero => intro i Ak103 Hk103 lk103 hi103 hMk103 hFk103 hAk103 hgk103 hSk103 hmu; exact absurd hmu (Nat.not_lt_zero _)
    | succ n ih103 =>
      intro i Ak103 Hk103 lk103 hi103 hMk103 hFk103 hAk103 hgk103 hSk103 hmu ls hl
      refine lv_iload_n hx hb dX4_init_103 rfl (lv_at hl 0 rfl) ?_
      refine lv_bipush (v := nI 8) hx hb dX4_init_104 rfl ?_
      refine ps_cge (tgt := 122) hx hb dX4_init_106 (by decide) (by omega) (fun c_106 => ?_) (fun c_106 => ?_)
      · skip
        have ei103 : i = 8 := by omega
        have eA103 := va_eta hAk103
        have hMx103 := hMk103
        rw [eA103] at hMx103
        exact ps_vretG X hSk103 (Nat.le_of_ble_eq_true rfl) (Nat.le_of_ble_eq_true rfl) dX4_init_122 (⟨rfl, ⟨_, _, hMx103, sm_0 (fun r hr => (hgk103 r).trans (by rw [ei103, if_pos hr]))⟩, by rw [hFk103.1]; exact hI45.2.1, fun q hq => (hFk103.2 q (Or.inl hq)).trans (hI45.2.2.2.2.2.2 q hq)⟩)
      · skip
        refine lv_aload_n hx hb dX4_init_109 rfl (lv_at hl 1 rfl) ?_
        refine ps_mget (v := .ref (o + 2)) X hMk103 1 (by decide) q1290 rfl rfl dX4_init_110 ?_
        refine lv_iload_n hx hb dX4_init_113 rfl (lv_at hl 0 rfl) ?_
        refine lv_iconst (v := (-1)) hx hb dX4_init_114 rfl ?_
        refine ps_mst (j := i) X hMk103 2 (by decide) rfl (by show i < 8; omega) hSk103 dX4_init_115 (fun H49 locs50 hM51 hf52 hS53 => ?_)
        refine lv_iinc (v := nI (i + 1)) (lv' := [(1, .int (nI (i + 1))), (0, .ref (o))]) hx hb dX4_init_116 hl (k := 0) rfl (ps_inc _) (by decide) rfl (fun ls hl => ?_)
        refine lv_goto (tgt := 103) hx hb dX4_init_119 (by decide) ?_
        exact ih103  (i + 1) ((va_up Ak103 2 (upd (Ak103 2) i ((-1))))) H49 _ (by omega) hM51 ((hFk103.tr hf52)) (fun qk hqk => by rw [va_up_ne _ _ hqk]; exact hAk103 qk hqk) (ps_lpZ (f := Ak103 2) (src := fun _ => (-1)) hgk103 (rfl)) hS53 (by omega) ls (lv_sub hl [0, 1] rfl)
  exact L103 ((8 - 0) + 1) 0 ((fun _ _ => 0)) H47 _ (by omega) hM0 hF0 (fun _ _ => rfl) (ps_lp00 (src := fun _ => (-1))) hS46 (Nat.lt_succ_self _) ls (lv_sub hl [0, 1] rfl)
