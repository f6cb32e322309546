/-! the model: what changes it, with loops (printed by gen/model5.py) -/
set_option maxRecDepth 100000
set_option maxHeartbeats 4000000 in
theorem m_X4_settleNow (l : Launch) {E : ps_E} (hE : ps_ZT E) {H : Heap} {o : Nat} {F : Nat → Int32} {A : Nat → Nat → Int32} (hM : ps_Mo E H o F A) {σ : Nat → Nat} (hσ : ps_Vw A 4 57 σ) (hO : sp_ok σ) {k : Nat} {b : Bool} (hk : k < σ 3) : ps_Ge l E yX4_settleNow cX4_settleNow 5 none 1 12 0 0 [.ref (o), .int (nI k), .int (bI b)] H (fun v H1 => v = none ∧ ∃ g, ps_Mo E H1 o F (va_up A 4 g) ∧ ps_Mf o H H1 ∧ ∀ i, i < 57 → g i = nI (sp_settle σ k b i)) := by
  refine ps_Ge.of (by decide) (Nat.le_of_ble_eq_true rfl) ?_
  intro p e s m args below meth c X ls hl
  have hx := X.1
  have hb := X.2.1
  have ho := X.2.2.2.1
  have hts := X.2.2.2.2.1
  have hS : va_S (ps_A E) s.heap H [] := by rw [X.2.2.2.2.2.2.2.2.1]; exact va_S.rf
  have hl : lv_has ls 5 [(0, .ref (o)), (1, .int (nI k)), (2, .int (bI b))] := hl
  have hm := hO.m
  have hp := hO.p hk
  have hq := hO.k (g := σ (17 + k)) (by omega)
  have hr := sp_plain_le hO hk
  refine lv_iconst (v := nI 5) hx hb dX4_settleNow_0 rfl ?_
  refine lv_aload_n hx hb dX4_settleNow_1 rfl (lv_at hl 0 rfl) ?_
  refine ps_mget (v := .ref (o + 4)) X hM 5 (by decide) q1294 rfl rfl dX4_settleNow_2 ?_
  refine lv_bipush (v := nI 17) hx hb dX4_settleNow_5 rfl ?_
  refine lv_iload_n hx hb dX4_settleNow_7 rfl (lv_at hl 1 rfl) ?_
  refine ps_iadd hx hb dX4_settleNow_8 ?_
  refine ps_mld (j := 17 + k) (v := nI (σ (17 + k))) X hM 4 (by decide) rfl (by show 17 + k < 57; omega) (hσ _ (by show 17 + k < 57; omega)) dX4_settleNow_9 ?_
  refine ps_iadd hx hb dX4_settleNow_10 ?_
  refine lv_istore_n (lv' := [(3, .int (nI (5 + (σ (17 + k))))), (0, .ref (o)), (1, .int (nI k)), (2, .int (bI b))]) hx hb dX4_settleNow_11 rfl hl (by decide) rfl (fun ls hl => ?_)
  refine lv_aload_n hx hb dX4_settleNow_12 rfl (lv_at hl 1 rfl) ?_
  refine ps_mget (v := .ref (o + 4)) X hM 5 (by decide) q1294 rfl rfl dX4_settleNow_13 ?_
  refine lv_bipush (v := nI 49) hx hb dX4_settleNow_16 rfl ?_
  refine lv_iload_n hx hb dX4_settleNow_18 rfl (lv_at hl 2 rfl) ?_
  refine ps_iadd hx hb dX4_settleNow_19 ?_
  have J29 : W p l e ({ frames := 1, cells := 0, slots := 0, locals := 12 } : Room) s m args below meth c H [] 0 0 (MQ below (ps_ge (fun v H1 => v = none ∧ ∃ g, ps_Mo E H1 o F (va_up A 4 g) ∧ ps_Mf o H H1 ∧ ∀ i, i < 57 → g i = nI (sp_settle σ k b i)) (ps_A E)) args s 0 0 (ps_A E)) (F0 m 29 ls [.int (nI (if b = true then 1 else 2)), .int (nI (49 + k)), .ref (o + 4)]) := by
    refine ps_mst (j := 49 + k) X hM 4 (by decide) rfl (by show 49 + k < 57; omega) hS dX4_settleNow_29 (fun H1 locs2 hM3 hf4 hS5 => ?_)
    refine lv_aload_n hx hb dX4_settleNow_30 rfl (lv_at hl 1 rfl) ?_
    refine ps_mget (v := .ref (o + 4)) X hM3 5 (by decide) q1294 rfl rfl dX4_settleNow_31 ?_
    refine lv_iconst (v := nI 4) hx hb dX4_settleNow_34 rfl ?_
    refine lv_dup2_11 hx hb dX4_settleNow_35 rfl rfl ?_
    refine ps_mld (j := 4) (v := nI (σ 4)) X hM3 4 (by decide) rfl (by show 4 < 57; omega) (((hσ.up (v := if b = true then 1 else 2) rfl) _ (by decide)).trans (congrArg nI (by rw [va_up_ne _ _ (by omega)]))) dX4_settleNow_36 ?_
    refine lv_iconst (v := nI 1) hx hb dX4_settleNow_37 rfl ?_
    refine lv_iload_n hx hb dX4_settleNow_38 rfl (lv_at hl 2 rfl) ?_
    refine lv_ishl hx hb dX4_settleNow_39 ?_
    refine ps_top (y := nI (2 ^ k)) (ps_shl1 (by omega)) ?_
    refine lv_iconst (v := (-1)) hx hb dX4_settleNow_40 rfl ?_
    refine lv_ixor hx hb dX4_settleNow_41 ?_
    refine ps_top (y := nI (2 ^ k ^^^ 4294967295)) (ps_xm1 _) ?_
    refine lv_iand hx hb dX4_settleNow_42 ?_
    refine ps_top (y := nI (σ 4 &&& (2 ^ k ^^^ 4294967295))) (nI_and _ _) ?_
    refine ps_mst (j := 4) X hM3 4 (by decide) rfl (by show 4 < 57; omega) hS5 dX4_settleNow_43 (fun H6 locs7 hM8 hf9 hS10 => ?_)
    refine lv_iload_n hx hb dX4_settleNow_44 rfl (lv_at hl 3 rfl) ?_
    refine ps_ifeqB (tgt := 59) hx hb dX4_settleNow_45 (by decide) (fun c_45 => ?_) (fun c_45 => ?_)
    · skip
      refine lv_aload_n hx hb dX4_settleNow_59 rfl (lv_at hl 1 rfl) ?_
      refine ps_mget (v := .ref (o + 4)) X hM8 5 (by decide) q1294 rfl rfl dX4_settleNow_60 ?_
      refine lv_iload_n hx hb dX4_settleNow_63 rfl (lv_at hl 0 rfl) ?_
      refine ps_mld (j := 5 + (σ (17 + k))) (v := nI (σ (5 + σ (17 + k)))) X hM8 4 (by decide) rfl (by show 5 + (σ (17 + k)) < 57; omega) ((((hσ.up (v := if b = true then 1 else 2) rfl).up (v := σ 4 &&& (2 ^ k ^^^ 4294967295)) rfl) _ (by show 5 + σ (17 + k) < 57; omega)).trans (congrArg nI (by rw [va_up_ne _ _ (by omega), va_up_ne _ _ (by omega)]))) dX4_settleNow_64 ?_
      refine lv_iconst (v := nI 1) hx hb dX4_settleNow_65 rfl ?_
      refine lv_isub hx hb dX4_settleNow_66 ?_
      refine ps_top (y := nI (σ (5 + σ (17 + k))) - nI 1) (rfl) ?_
      refine lv_istore (lv' := [(4, .int (nI (σ (5 + σ (17 + k))) - nI 1)), (3, .int (nI (5 + (σ (17 + k))))), (0, .ref (o)), (1, .int (nI k)), (2, .int (bI b))]) hx hb dX4_settleNow_67 hl (by decide) rfl (fun ls hl => ?_)
      refine lv_aload_n hx hb dX4_settleNow_69 rfl (lv_at hl 2 rfl) ?_
      refine ps_mget (v := .ref (o + 4)) X hM8 5 (by decide) q1294 rfl rfl dX4_settleNow_70 ?_
      refine lv_iload_n hx hb dX4_settleNow_73 rfl (lv_at hl 1 rfl) ?_
      have J97 : W p l e ({ frames := 1, cells := 0, slots := 0, locals := 12 } : Room) s m args below meth c H6 locs7 0 0 (MQ below (ps_ge (fun v H1 => v = none ∧ ∃ g, ps_Mo E H1 o F (va_up A 4 g) ∧ ps_Mf o H H1 ∧ ∀ i, i < 57 → g i = nI (sp_settle σ k b i)) (ps_A E)) args s 0 0 (ps_A E)) (F0 m 97 ls [.int (nI (if b = true then (if 10 ≤ σ (5 + σ (17 + k)) then 10 else σ (5 + σ (17 + k)) + 1) else σ (5 + σ (17 + k)) - 1)), .int (nI (5 + (σ (17 + k)))), .ref (o + 4)]) := by
        refine ps_mst (j := 5 + (σ (17 + k))) X hM8 4 (by decide) rfl (by show 5 + (σ (17 + k)) < 57; omega) hS10 dX4_settleNow_97 (fun H11 locs12 hM13 hf14 hS15 => ?_)
        exact ps_vretG X hS15 (Nat.le_of_ble_eq_true rfl) (Nat.le_of_ble_eq_true rfl) dX4_settleNow_98 (⟨rfl, _, by have h := hM13; rw [bx_uu, bx_uu] at h; exact h, ((hf4.tr hf9).tr hf14), (((hσ.up (v := if b = true then 1 else 2) rfl).up (v := σ 4 &&& (2 ^ k ^^^ 4294967295)) rfl).up (v := if b = true then (if 10 ≤ σ (5 + σ (17 + k)) then 10 else σ (5 + σ (17 + k)) + 1) else σ (5 + σ (17 + k)) - 1) rfl)⟩)
      refine lv_iload hx hb dX4_settleNow_74 (lv_at hl 0 rfl) ?_
      refine ps_ifgp (tgt := 83) hx hb dX4_settleNow_76 (by decide) (by omega) (fun c_76 => ?_) (fun c_76 => ?_)
      · skip
        have hl : lv_has ls 5 [(4, .int (nI (σ (5 + σ (17 + k)) - 1))), (3, .int (nI (5 + (σ (17 + k))))), (0, .ref (o)), (1, .int (nI k)), (2, .int (bI b))] := by rw [pk_sub (show 1 ≤ σ (5 + σ (17 + k)) by omega)] at hl; exact hl
        refine lv_iload hx hb dX4_settleNow_83 (lv_at hl 0 rfl) ?_
        refine lv_bipush (v := nI 10) hx hb dX4_settleNow_85 rfl ?_
        refine ps_cle (tgt := 95) hx hb dX4_settleNow_87 (by decide) (by omega) (fun c_87 => ?_) (fun c_87 => ?_)
        · skip
          refine lv_iload hx hb dX4_settleNow_95 (lv_at hl 0 rfl) ?_
          exact ps_top (congrArg nI (by simp_all; try omega)) J97
        · skip
          refine lv_bipush (v := nI 10) hx hb dX4_settleNow_90 rfl ?_
          refine lv_goto (tgt := 97) hx hb dX4_settleNow_92 (by decide) ?_
          exact ps_top (congrArg nI (by simp_all; try omega)) J97
      · skip
        refine lv_iconst (v := nI 0) hx hb dX4_settleNow_79 rfl ?_
        refine lv_goto (tgt := 97) hx hb dX4_settleNow_80 (by decide) ?_
        exact ps_top (congrArg nI (by simp_all; try omega)) J97
    · skip
      refine lv_aload_n hx hb dX4_settleNow_48 rfl (lv_at hl 1 rfl) ?_
      refine ps_mget (v := .ref (o + 4)) X hM8 5 (by decide) q1294 rfl rfl dX4_settleNow_49 ?_
      refine lv_iload_n hx hb dX4_settleNow_52 rfl (lv_at hl 0 rfl) ?_
      refine ps_mld (j := 5 + (σ (17 + k))) (v := nI (σ (5 + σ (17 + k)))) X hM8 4 (by decide) rfl (by show 5 + (σ (17 + k)) < 57; omega) ((((hσ.up (v := if b = true then 1 else 2) rfl).up (v := σ 4 &&& (2 ^ k ^^^ 4294967295)) rfl) _ (by show 5 + σ (17 + k) < 57; omega)).trans (congrArg nI (by rw [va_up_ne _ _ (by omega), va_up_ne _ _ (by omega)]))) dX4_settleNow_53 ?_
      refine lv_iconst (v := nI 1) hx hb dX4_settleNow_54 rfl ?_
      refine ps_iadd hx hb dX4_settleNow_55 ?_
      refine lv_goto (tgt := 67) hx hb dX4_settleNow_56 (by decide) ?_
      refine lv_istore (lv' := [(4, .int (nI ((σ (5 + σ (17 + k))) + 1))), (3, .int (nI (5 + (σ (17 + k))))), (0, .ref (o)), (1, .int (nI k)), (2, .int (bI b))]) hx hb dX4_settleNow_67 hl (by decide) rfl (fun ls hl => ?_)
      refine lv_aload_n hx hb dX4_settleNow_69 rfl (lv_at hl 2 rfl) ?_
      refine ps_mget (v := .ref (o + 4)) X hM8 5 (by decide) q1294 rfl rfl dX4_settleNow_70 ?_
      refine lv_iload_n hx hb dX4_settleNow_73 rfl (lv_at hl 1 rfl) ?_
      have J97 : W p l e ({ frames := 1, cells := 0, slots := 0, locals := 12 } : Room) s m args below meth c H6 locs7 0 0 (MQ below (ps_ge (fun v H1 => v = none ∧ ∃ g, ps_Mo E H1 o F (va_up A 4 g) ∧ ps_Mf o H H1 ∧ ∀ i, i < 57 → g i = nI (sp_settle σ k b i)) (ps_A E)) args s 0 0 (ps_A E)) (F0 m 97 ls [.int (nI (if b = true then (if 10 ≤ σ (5 + σ (17 + k)) then 10 else σ (5 + σ (17 + k)) + 1) else σ (5 + σ (17 + k)) - 1)), .int (nI (5 + (σ (17 + k)))), .ref (o + 4)]) := by
        refine ps_mst (j := 5 + (σ (17 + k))) X hM8 4 (by decide) rfl (by show 5 + (σ (17 + k)) < 57; omega) hS10 dX4_settleNow_97 (fun H16 locs17 hM18 hf19 hS20 => ?_)
        exact ps_vretG X hS20 (Nat.le_of_ble_eq_true rfl) (Nat.le_of_ble_eq_true rfl) dX4_settleNow_98 (⟨rfl, _, by have h := hM18; rw [bx_uu, bx_uu] at h; exact h, ((hf4.tr hf9).tr hf19), (((hσ.up (v := if b = true then 1 else 2) rfl).up (v := σ 4 &&& (2 ^ k ^^^ 4294967295)) rfl).up (v := if b = true then (if 10 ≤ σ (5 + σ (17 + k)) then 10 else σ (5 + σ (17 + k)) + 1) else σ (5 + σ (17 + k)) - 1) rfl)⟩)
      refine lv_iload hx hb dX4_settleNow_74 (lv_at hl 0 rfl) ?_
      refine ps_ifge (tgt := 83) hx hb dX4_settleNow_76 (by decide) (by omega) ?_
      refine lv_iload hx hb dX4_settleNow_83 (lv_at hl 0 rfl) ?_
      refine lv_bipush (v := nI 10) hx hb dX4_settleNow_85 rfl ?_
      refine ps_cle (tgt := 95) hx hb dX4_settleNow_87 (by decide) (by omega) (fun c_87 => ?_) (fun c_87 => ?_)
      · skip
        refine lv_iload hx hb dX4_settleNow_95 (lv_at hl 0 rfl) ?_
        exact ps_top (congrArg nI (by simp_all; try omega)) J97
      · skip
        refine lv_bipush (v := nI 10) hx hb dX4_settleNow_90 rfl ?_
        refine lv_goto (tgt := 97) hx hb dX4_settleNow_92 (by decide) ?_
        exact ps_top (congrArg nI (by simp_all; try omega)) J97
  refine lv_iload_n hx hb dX4_settleNow_20 rfl (lv_at hl 3 rfl) ?_
  refine ps_ifeqB (tgt := 28) hx hb dX4_settleNow_21 (by decide) (fun c_21 => ?_) (fun c_21 => ?_)
  · skip
    refine lv_iconst (v := nI 2) hx hb dX4_settleNow_28 rfl ?_
    exact ps_top (congrArg nI (by simp_all; try omega)) J29
  · skip
    refine lv_iconst (v := nI 1) hx hb dX4_settleNow_24 rfl ?_
    refine lv_goto (tgt := 29) hx hb dX4_settleNow_25 (by decide) ?_
    exact ps_top (congrArg nI (by simp_all; try omega)) J29

set_option maxHeartbeats 4000000 in
theorem m_X4_note (l : Launch) {E : ps_E} (hE : ps_ZT E) {H : Heap} {o : Nat} {F : Nat → Int32} {A : Nat → Nat → Int32} (hM : ps_Mo E H o F A) {S : SS} (hs : sm F A S) (hW : wf S) : ps_Ge l E yX4_note cX4_note 2 none 1 12 0 0 [.ref (o)] H (fun v H1 => v = none ∧ ∃ g, ps_Mo E H1 o (va_up F 17 (nI ((sNote S).1 3))) (va_up A 8 g) ∧ ps_Mf o H H1 ∧ sm (va_up F 17 (nI ((sNote S).1 3))) (va_up A 8 g) (sNote S)) := by
  refine ps_Ge.of (by decide) (Nat.le_of_ble_eq_true rfl) ?_
  intro p e s m args below meth c X ls hl
  have hx := X.1
  have hb := X.2.1
  have ho := X.2.2.2.1
  have hts := X.2.2.2.2.1
  have hS : va_S (ps_A E) s.heap H [] := by rw [X.2.2.2.2.2.2.2.2.1]; exact va_S.rf
  have hl : lv_has ls 2 [(0, .ref (o))] := hl
  have hσ := hs.2.2.2.2.1
  have hO := hW.1
  have hm := hO.m
  have hn := hW.n
  refine lv_aload_n hx hb dX4_note_0 rfl (lv_at hl 0 rfl) ?_
  refine ps_mget (v := .int (F 17)) X hM 17 (by decide) q1306 rfl rfl dX4_note_1 ?_
  refine ps_top (y := nI (S.1 3)) (hs.1.2.2.2.1) ?_
  refine lv_bipush (v := nI 24) hx hb dX4_note_4 rfl ?_
  refine ps_cne (tgt := 49) hx hb dX4_note_6 (by decide) (by omega) (fun c_6 => ?_) (fun c_6 => ?_)
  · skip
    refine lv_iconst (v := nI 0) hx hb dX4_note_49 rfl ?_
    refine lv_istore_n (lv' := [(1, .int (nI 0)), (0, .ref (o))]) hx hb dX4_note_50 rfl hl (by decide) rfl (fun ls hl => ?_)
    have L51 : ∀ (n : Nat) (j : Nat) (Ak51 : Nat → Nat → Int32) (Hk51 : Heap) (lk51 : List Loc) (hi51 : j ≤ 57) (hMk51 : ps_Mo E Hk51 o F Ak51) (hFk51 : ps_Mf o H Hk51) (hAk51 : ∀ qk, qk ≠ 8 → Ak51 qk = A qk) (hgk51 : ∀ q, Ak51 8 q = if 57 * (S.1 3) ≤ q ∧ q < 57 * (S.1 3) + j then (fun q => nI (S.2.1 0 q)) (q - (57 * (S.1 3))) else A 8 q) (hSk51 : va_S (ps_A E) s.heap Hk51 lk51) (hmu : 57 - j < n) (ls : Array Slot) (hl : lv_has ls 2 [(1, .int (nI j)), (0, .ref (o))]), W p l e ({ frames := 1, cells := 0, slots := 0, locals := 12 } : Room) s m args below meth c Hk51 lk51 0 0 (MQ below (ps_ge (fun v H1 => v = none ∧ ∃ g, ps_Mo E H1 o (va_up F 17 (nI ((sNote S).1 3))) (va_up A 8 g) ∧ ps_Mf o H H1 ∧ sm (va_up F 17 (nI ((sNote S).1 3))) (va_up A 8 g) (sNote S)) (ps_A E)) args s 0 0 (ps_A E)) (F0 m 51 ls []) := by
      intro n
      induction n with
      | zero => intro j Ak51 Hk51 lk51 hi51 hMk51 hFk51 hAk51 hgk51 hSk51 hmu; exact absurd hmu (Nat.not_lt_zero _)
      | succ n ih51 =>
        intro j Ak51 Hk51 lk51 hi51 hMk51 hFk51 hAk51 hgk51 hSk51 hmu ls hl
        refine lv_iload_n hx hb dX4_note_51 rfl (lv_at hl 0 rfl) ?_
        refine lv_bipush (v := nI 57) hx hb dX4_note_52 rfl ?_
        refine ps_cge (tgt := 83) hx hb dX4_note_54 (by decide) (by omega) (fun c_54 => ?_) (fun c_54 => ?_)
        · skip
          have ei51 : j = 57 := by omega
          have eA51 := va_eta hAk51
          have hMx51 := hMk51
          rw [eA51] at hMx51
          refine lv_aload_n hx hb dX4_note_83 rfl (lv_at hl 1 rfl) ?_
          refine lv_dup hx hb dX4_note_84 rfl ?_
          refine ps_mget (v := .int (F 17)) X hMx51 17 (by decide) q1306 rfl rfl dX4_note_85 ?_
          refine ps_top (y := nI (S.1 3)) (hs.1.2.2.2.1) ?_
          refine lv_iconst (v := nI 1) hx hb dX4_note_88 rfl ?_
          refine ps_iadd hx hb dX4_note_89 ?_
          refine ps_mput X hMx51 17 (by decide) q1306 rfl rfl rfl rfl hSk51 dX4_note_90 (fun H1 locs2 hM3 hf4 hS5 => ?_)
          have h6 := hM3
          rw [← (show (sNote S).1 3 = S.1 3 + 1 by rw [sNote_n, if_neg c_6])] at h6
          exact ps_vretG X hS5 (Nat.le_of_ble_eq_true rfl) (Nat.le_of_ble_eq_true rfl) dX4_note_93 (⟨rfl, _, h6, (hFk51.tr hf4), hs.note hn.2.2.2.1 (note_2 hs.2.2.2.2.2.2.1 c_6 (fun q => (hgk51 q).trans (by rw [ei51])))⟩)
        · skip
          refine lv_aload_n hx hb dX4_note_57 rfl (lv_at hl 1 rfl) ?_
          refine ps_mget (v := .ref (o + 8)) X hMk51 16 (by decide) q1305 rfl rfl dX4_note_58 ?_
          refine lv_bipush (v := nI 57) hx hb dX4_note_61 rfl ?_
          refine lv_aload_n hx hb dX4_note_63 rfl (lv_at hl 1 rfl) ?_
          refine ps_mget (v := .int (F 17)) X hMk51 17 (by decide) q1306 rfl rfl dX4_note_64 ?_
          refine ps_top (y := nI (S.1 3)) (hs.1.2.2.2.1) ?_
          refine ps_imul hx hb dX4_note_67 ?_
          refine lv_iload_n hx hb dX4_note_68 rfl (lv_at hl 0 rfl) ?_
          refine ps_iadd hx hb dX4_note_69 ?_
          refine lv_aload_n hx hb dX4_note_70 rfl (lv_at hl 1 rfl) ?_
          refine ps_mget (v := .ref (o + 4)) X hMk51 5 (by decide) q1294 rfl rfl dX4_note_71 ?_
          refine lv_iload_n hx hb dX4_note_74 rfl (lv_at hl 0 rfl) ?_
          refine ps_mld (j := j) (v := nI ((S.2.1 0) j)) X hMk51 4 (by decide) rfl (by show j < 57; omega) ((hσ.eq (hAk51 4 (by decide))) _ (by show j < 57; omega)) dX4_note_75 ?_
          refine ps_mst (j := (57 * (S.1 3)) + j) X hMk51 8 (by decide) rfl (by show (57 * (S.1 3)) + j < 1368; omega) hSk51 dX4_note_76 (fun H7 locs8 hM9 hf10 hS11 => ?_)
          refine lv_iinc (v := nI (j + 1)) (lv' := [(1, .int (nI (j + 1))), (0, .ref (o))]) hx hb dX4_note_77 hl (k := 0) rfl (ps_inc _) (by decide) rfl (fun ls hl => ?_)
          refine lv_goto (tgt := 51) hx hb dX4_note_80 (by decide) ?_
          exact ih51  (j + 1) ((va_up Ak51 8 (upd (Ak51 8) ((57 * (S.1 3)) + j) (nI ((S.2.1 0) j))))) H7 _ (by omega) hM9 ((hFk51.tr hf10)) (fun qk hqk => by rw [va_up_ne _ _ hqk]; exact hAk51 qk hqk) (ps_lpU (f := Ak51 8) (src := fun q => nI (S.2.1 0 q)) hgk51 (rfl)) hS11 (by omega) ls (lv_sub hl [0, 1] rfl)
    exact L51 ((57 - 0) + 1) 0 A H _ (by omega) hM ps_Mf.rf (fun _ _ => rfl) (ps_lp0 (src := fun q => nI (S.2.1 0 q)) (b := 57 * (S.1 3))) hS (Nat.lt_succ_self _) ls (lv_sub hl [0, 1] rfl)
  · skip
    refine lv_iconst (v := nI 0) hx hb dX4_note_9 rfl ?_
    refine lv_istore_n (lv' := [(1, .int (nI 0)), (0, .ref (o))]) hx hb dX4_note_10 rfl hl (by decide) rfl (fun ls hl => ?_)
    have L11 : ∀ (n : Nat) (i : Nat) (Ak11 : Nat → Nat → Int32) (Hk11 : Heap) (lk11 : List Loc) (hi11 : i ≤ 1311) (hMk11 : ps_Mo E Hk11 o F Ak11) (hFk11 : ps_Mf o H Hk11) (hAk11 : ∀ qk, qk ≠ 8 → Ak11 qk = A qk) (hgk11 : ∀ q, Ak11 8 q = if q < i then (fun q => A 8 (q + 57)) q else A 8 q) (hSk11 : va_S (ps_A E) s.heap Hk11 lk11) (hmu : 1311 - i < n) (ls : Array Slot) (hl : lv_has ls 2 [(1, .int (nI i)), (0, .ref (o))]), W p l e ({ frames := 1, cells := 0, slots := 0, locals := 12 } : Room) s m args below meth c Hk11 lk11 0 0 (MQ below (ps_ge (fun v H1 => v = none ∧ ∃ g, ps_Mo E H1 o (va_up F 17 (nI ((sNote S).1 3))) (va_up A 8 g) ∧ ps_Mf o H H1 ∧ sm (va_up F 17 (nI ((sNote S).1 3))) (va_up A 8 g) (sNote S)) (ps_A E)) args s 0 0 (ps_A E)) (F0 m 11 ls []) := by
      intro n
      induction n with
      | zero => intro i Ak11 Hk11 lk11 hi11 hMk11 hFk11 hAk11 hgk11 hSk11 hmu; exact absurd hmu (Nat.not_lt_zero _)
      | succ n ih11 =>
        intro i Ak11 Hk11 lk11 hi11 hMk11 hFk11 hAk11 hgk11 hSk11 hmu ls hl
        refine lv_iload_n hx hb dX4_note_11 rfl (lv_at hl 0 rfl) ?_
        refine lv_sipush (v := nI 1311) hx hb dX4_note_12 rfl ?_
        refine ps_cge (tgt := 39) hx hb dX4_note_15 (by decide) (by omega) (fun c_15 => ?_) (fun c_15 => ?_)
        · skip
          have ei11 : i = 1311 := by omega
          have eA11 := va_eta hAk11
          have hMx11 := hMk11
          rw [eA11] at hMx11
          refine lv_aload_n hx hb dX4_note_39 rfl (lv_at hl 1 rfl) ?_
          refine lv_dup hx hb dX4_note_40 rfl ?_
          refine ps_mget (v := .int (F 17)) X hMx11 17 (by decide) q1306 rfl rfl dX4_note_41 ?_
          refine ps_top (y := nI (S.1 3)) (hs.1.2.2.2.1) ?_
          refine lv_iconst (v := nI 1) hx hb dX4_note_44 rfl ?_
          refine ps_isub hx hb dX4_note_45 (by omega) ?_
          refine ps_mput X hMx11 17 (by decide) q1306 rfl rfl rfl rfl hSk11 dX4_note_46 (fun H12 locs13 hM14 hf15 hS16 => ?_)
          refine lv_iconst (v := nI 0) hx hb dX4_note_49 rfl ?_
          refine lv_istore_n (lv' := [(1, .int (nI 0)), (0, .ref (o))]) hx hb dX4_note_50 rfl hl (by decide) rfl (fun ls hl => ?_)
          have L51 : ∀ (n : Nat) (j : Nat) (Ak51 : Nat → Nat → Int32) (Hk51 : Heap) (lk51 : List Loc) (hi51 : j ≤ 57) (hMk51 : ps_Mo E Hk51 o (va_up F 17 (nI ((S.1 3) - 1))) Ak51) (hFk51 : ps_Mf o H Hk51) (hAk51 : ∀ qk, qk ≠ 8 → Ak51 qk = (va_up A 8 (Ak11 8)) qk) (hgk51 : ∀ q, Ak51 8 q = if 57 * (S.1 3 - 1) ≤ q ∧ q < 57 * (S.1 3 - 1) + j then (fun q => nI (S.2.1 0 q)) (q - (57 * (S.1 3 - 1))) else (va_up A 8 (Ak11 8)) 8 q) (hSk51 : va_S (ps_A E) s.heap Hk51 lk51) (hmu : 57 - j < n) (ls : Array Slot) (hl : lv_has ls 2 [(1, .int (nI j)), (0, .ref (o))]), W p l e ({ frames := 1, cells := 0, slots := 0, locals := 12 } : Room) s m args below meth c Hk51 lk51 0 0 (MQ below (ps_ge (fun v H1 => v = none ∧ ∃ g, ps_Mo E H1 o (va_up F 17 (nI ((sNote S).1 3))) (va_up A 8 g) ∧ ps_Mf o H H1 ∧ sm (va_up F 17 (nI ((sNote S).1 3))) (va_up A 8 g) (sNote S)) (ps_A E)) args s 0 0 (ps_A E)) (F0 m 51 ls []) := by
            intro n
            induction n with
            | zero => intro j Ak51 Hk51 lk51 hi51 hMk51 hFk51 hAk51 hgk51 hSk51 hmu; exact absurd hmu (Nat.not_lt_zero _)
            | succ n ih51 =>
              intro j Ak51 Hk51 lk51 hi51 hMk51 hFk51 hAk51 hgk51 hSk51 hmu ls hl
              refine lv_iload_n hx hb dX4_note_51 rfl (lv_at hl 0 rfl) ?_
              refine lv_bipush (v := nI 57) hx hb dX4_note_52 rfl ?_
              refine ps_cge (tgt := 83) hx hb dX4_note_54 (by decide) (by omega) (fun c_54 => ?_) (fun c_54 => ?_)
              · skip
                have ei51 : j = 57 := by omega
                have eA51 := va_eta hAk51
                have hMx51 := hMk51
                rw [eA51] at hMx51
                refine lv_aload_n hx hb dX4_note_83 rfl (lv_at hl 1 rfl) ?_
                refine lv_dup hx hb dX4_note_84 rfl ?_
                refine ps_mget (v := .int (nI ((S.1 3) - 1))) X hMx51 17 (by decide) q1306 rfl rfl dX4_note_85 ?_
                refine lv_iconst (v := nI 1) hx hb dX4_note_88 rfl ?_
                refine ps_iadd hx hb dX4_note_89 ?_
                refine ps_mput X hMx51 17 (by decide) q1306 rfl rfl rfl rfl hSk51 dX4_note_90 (fun H17 locs18 hM19 hf20 hS21 => ?_)
                have h22 := hM19
                rw [bx_uu, bx_uu] at h22
                rw [← (show (sNote S).1 3 = S.1 3 - 1 + 1 by rw [sNote_n, if_pos c_6]; omega)] at h22
                exact ps_vretG X hS21 (Nat.le_of_ble_eq_true rfl) (Nat.le_of_ble_eq_true rfl) dX4_note_93 (⟨rfl, _, h22, (hFk51.tr hf20), hs.note hn.2.2.2.1 (note_1 hs.2.2.2.2.2.2.1 c_6 (fun q => (hgk11 q).trans (by rw [ei11])) (fun q => (hgk51 q).trans (by rw [ei51]; rfl)))⟩)
              · skip
                refine lv_aload_n hx hb dX4_note_57 rfl (lv_at hl 1 rfl) ?_
                refine ps_mget (v := .ref (o + 8)) X hMk51 16 (by decide) q1305 rfl rfl dX4_note_58 ?_
                refine lv_bipush (v := nI 57) hx hb dX4_note_61 rfl ?_
                refine lv_aload_n hx hb dX4_note_63 rfl (lv_at hl 1 rfl) ?_
                refine ps_mget (v := .int (nI ((S.1 3) - 1))) X hMk51 17 (by decide) q1306 rfl rfl dX4_note_64 ?_
                refine ps_imul hx hb dX4_note_67 ?_
                refine lv_iload_n hx hb dX4_note_68 rfl (lv_at hl 0 rfl) ?_
                refine ps_iadd hx hb dX4_note_69 ?_
                refine lv_aload_n hx hb dX4_note_70 rfl (lv_at hl 1 rfl) ?_
                refine ps_mget (v := .ref (o + 4)) X hMk51 5 (by decide) q1294 rfl rfl dX4_note_71 ?_
                refine lv_iload_n hx hb dX4_note_74 rfl (lv_at hl 0 rfl) ?_
                refine ps_mld (j := j) (v := nI ((S.2.1 0) j)) X hMk51 4 (by decide) rfl (by show j < 57; omega) (((hσ.ne (by decide)).eq (hAk51 4 (by decide))) _ (by show j < 57; omega)) dX4_note_75 ?_
                refine ps_mst (j := (57 * ((S.1 3) - 1)) + j) X hMk51 8 (by decide) rfl (by show (57 * ((S.1 3) - 1)) + j < 1368; omega) hSk51 dX4_note_76 (fun H23 locs24 hM25 hf26 hS27 => ?_)
                refine lv_iinc (v := nI (j + 1)) (lv' := [(1, .int (nI (j + 1))), (0, .ref (o))]) hx hb dX4_note_77 hl (k := 0) rfl (ps_inc _) (by decide) rfl (fun ls hl => ?_)
                refine lv_goto (tgt := 51) hx hb dX4_note_80 (by decide) ?_
                exact ih51  (j + 1) ((va_up Ak51 8 (upd (Ak51 8) ((57 * ((S.1 3) - 1)) + j) (nI ((S.2.1 0) j))))) H23 _ (by omega) hM25 ((hFk51.tr hf26)) (fun qk hqk => by rw [va_up_ne _ _ hqk]; exact hAk51 qk hqk) (ps_lpU (f := Ak51 8) (src := fun q => nI (S.2.1 0 q)) hgk51 (rfl)) hS27 (by omega) ls (lv_sub hl [0, 1] rfl)
          exact L51 ((57 - 0) + 1) 0 ((va_up A 8 (Ak11 8))) H12 _ (by omega) hM14 ((hFk11.tr hf15)) (fun _ _ => rfl) (ps_lp0 (src := fun q => nI (S.2.1 0 q)) (b := 57 * (S.1 3 - 1))) hS16 (Nat.lt_succ_self _) ls (lv_sub hl [0, 1] rfl)
        · skip
          refine lv_aload_n hx hb dX4_note_18 rfl (lv_at hl 1 rfl) ?_
          refine ps_mget (v := .ref (o + 8)) X hMk11 16 (by decide) q1305 rfl rfl dX4_note_19 ?_
          refine lv_iload_n hx hb dX4_note_22 rfl (lv_at hl 0 rfl) ?_
          refine lv_aload_n hx hb dX4_note_23 rfl (lv_at hl 1 rfl) ?_
          refine ps_mget (v := .ref (o + 8)) X hMk11 16 (by decide) q1305 rfl rfl dX4_note_24 ?_
          refine lv_iload_n hx hb dX4_note_27 rfl (lv_at hl 0 rfl) ?_
          refine lv_bipush (v := nI 57) hx hb dX4_note_28 rfl ?_
          refine ps_iadd hx hb dX4_note_30 ?_
          refine ps_mld (j := i + 57) (v := A 8 (i + 57)) X hMk11 8 (by decide) rfl (by show i + 57 < 1368; omega) ((hgk11 _).trans (if_neg (by omega))) dX4_note_31 ?_
          refine ps_mst (j := i) X hMk11 8 (by decide) rfl (by show i < 1368; omega) hSk11 dX4_note_32 (fun H28 locs29 hM30 hf31 hS32 => ?_)
          refine lv_iinc (v := nI (i + 1)) (lv' := [(1, .int (nI (i + 1))), (0, .ref (o))]) hx hb dX4_note_33 hl (k := 0) rfl (ps_inc _) (by decide) rfl (fun ls hl => ?_)
          refine lv_goto (tgt := 11) hx hb dX4_note_36 (by decide) ?_
          exact ih11  (i + 1) ((va_up Ak11 8 (upd (Ak11 8) i (A 8 (i + 57))))) H28 _ (by omega) hM30 ((hFk11.tr hf31)) (fun qk hqk => by rw [va_up_ne _ _ hqk]; exact hAk11 qk hqk) (ps_lpZ (f := Ak11 8) (src := fun q => A 8 (q + 57)) hgk11 (rfl)) hS32 (by omega) ls (lv_sub hl [0, 1] rfl)
    exact L11 ((1311 - 0) + 1) 0 A H _ (by omega) hM ps_Mf.rf (fun _ _ => rfl) (ps_lp00 (src := fun q => A 8 (q + 57))) hS (Nat.lt_succ_self _) ls (lv_sub hl [0, 1] rfl)

set_option maxHeartbeats 4000000 in
theorem m_X4_row (l : Launch) {E : ps_E} (hE : ps_ZT E) {H : Heap} {o : Nat} {F : Nat → Int32} {A : Nat → Nat → Int32} (hM : ps_Mo E H o F A) {S : SS} (hs : sm F A S) (hW : wf S) {x y z : Int32} : ps_Ge l E yX4_row cX4_row 5 (some .int) 3 57 0 0 [.ref (o), .int (x), .int (y), .int (z)] H (ps_mpost E H o (op_row S x y z)) := by
  refine ps_Ge.of (by decide) (Nat.le_of_ble_eq_true rfl) ?_
  intro p e s m args below meth c X ls hl
  have hx := X.1
  have hb := X.2.1
  have ho := X.2.2.2.1
  have hts := X.2.2.2.2.1
  have hS : va_S (ps_A E) s.heap H [] := by rw [X.2.2.2.2.2.2.2.2.1]; exact va_S.rf
  have hl : lv_has ls 5 [(0, .ref (o)), (1, .int (x)), (2, .int (y)), (3, .int (z))] := hl
  have hσ := hs.2.2.2.2.1
  have hO := hW.1
  have hm := hO.m
  have hn := hW.n
  refine lv_iload_n hx hb dX4_row_0 rfl (lv_at hl 1 rfl) ?_
  refine ps_roS X hE (m_X4_isRow l hE (H := H) (x := x)) (lw_S q1367 q1368 q75 q1369) (by decide +kernel) ⟨⟨Nat.le_of_ble_eq_true rfl, Nat.le_of_ble_eq_true rfl⟩, Nat.le_of_ble_eq_true rfl, Nat.le_of_ble_eq_true rfl⟩ hS hl.1 (As := [.int (x)]) (rest := []) (n := 1) rfl rfl (Nat.le_of_ble_eq_true rfl) dX4_row_1 ?_
  refine ps_st (st' := [.int (bI (rng x 0 8))]) rfl ?_
  refine ps_ifeqB (tgt := 25) hx hb dX4_row_4 (by decide) (fun c_4 => ?_) (fun c_4 => ?_)
  · skip
    refine lv_ldc (v := -1000001) hx hb ho (hts _ q1375) dX4_row_25 ?_
    exact ps_iretG X hS (Nat.le_of_ble_eq_true rfl) (Nat.le_of_ble_eq_true rfl) dX4_row_27 (ps_mend (S := S) (by simp [op_row, c_4]) hM (hs) ps_Mf.rf)
  · skip
    obtain ⟨k, rfl, k_lo, k_hi, k_b⟩ := rng_t c_4
    have cl_k : (nI k).toNatClampNeg = k := nI_clamp (by omega)
    have hr := hW.r (r := k) (by omega)
    refine lv_iload_n hx hb dX4_row_7 rfl (lv_at hl 2 rfl) ?_
    refine lv_i2l (v := (y).toInt64) hx hb dX4_row_8 rfl ?_
    refine lv_lconst (v := lN 0) hx hb dX4_row_9 rfl ?_
    refine lv_ldc2 (v := 2) hx hb ho (hts _ q1374) dX4_row_10 ?_
    refine ps_roS X hE (m_X4_in l hE (H := H) (x := y) (lo := 0) (hi := 3) (lN_toInt (by decide)) (ps_hcL (k := 2) (by decide +kernel))) (lw_S q1371 q1372 q75 q1373) (by decide +kernel) ⟨⟨Nat.le_of_ble_eq_true rfl, Nat.le_of_ble_eq_true rfl⟩, Nat.le_of_ble_eq_true rfl, Nat.le_of_ble_eq_true rfl⟩ hS hl.1 (As := [.long ((y).toInt64), .long (lN 0), .long (2)]) (rest := []) (n := 3) rfl rfl (Nat.le_of_ble_eq_true rfl) dX4_row_13 ?_
    refine ps_st (st' := [.int (bI (rng y 0 3))]) rfl ?_
    refine ps_ifeqB (tgt := 25) hx hb dX4_row_16 (by decide) (fun c_16 => ?_) (fun c_16 => ?_)
    · skip
      refine lv_ldc (v := -1000001) hx hb ho (hts _ q1375) dX4_row_25 ?_
      exact ps_iretG X hS (Nat.le_of_ble_eq_true rfl) (Nat.le_of_ble_eq_true rfl) dX4_row_27 (ps_mend (S := S) (by simp [op_row, c_4, cl_k, c_16]) hM (hs) ps_Mf.rf)
    · skip
      obtain ⟨j, rfl, j_lo, j_hi, j_b⟩ := rng_t c_16
      have cl_j : (nI j).toNatClampNeg = j := nI_clamp (by omega)
      refine lv_iload_n hx hb dX4_row_19 rfl (lv_at hl 3 rfl) ?_
      refine lv_bipush (v := nI 40) hx hb dX4_row_20 rfl ?_
      refine lv_icmp_le (tgt := 28) hx hb dX4_row_22 (by decide) (fun c_22 => ?_) (fun c_22 => ?_)
      · skip
        refine lv_iload_n hx hb dX4_row_28 rfl (lv_at hl 3 rfl) ?_
        refine lv_if_ge (tgt := 38) hx hb dX4_row_29 (by decide) (fun c_29 => ?_) (fun c_29 => ?_)
        · skip
          obtain ⟨u, hu, rfl⟩ := ps_zin c_29 c_22
          have cl_u : (nI u).toNatClampNeg = u := nI_clamp (by omega)
          refine lv_aload_n hx hb dX4_row_38 rfl (lv_at hl 0 rfl) ?_
          refine ps_mget (v := .ref (o + 1)) X hM 0 (by decide) q1289 rfl rfl dX4_row_39 ?_
          refine lv_iload_n hx hb dX4_row_42 rfl (lv_at hl 1 rfl) ?_
          refine lv_iload_n hx hb dX4_row_43 rfl (lv_at hl 2 rfl) ?_
          refine ps_mst (j := k) X hM 1 (by decide) rfl (by show k < 8; omega) hS dX4_row_44 (fun H1 locs2 hM3 hf4 hS5 => ?_)
          refine lv_aload_n hx hb dX4_row_45 rfl (lv_at hl 0 rfl) ?_
          refine ps_mget (v := .ref (o + 2)) X hM3 1 (by decide) q1290 rfl rfl dX4_row_46 ?_
          refine lv_iload_n hx hb dX4_row_49 rfl (lv_at hl 1 rfl) ?_
          refine lv_iload_n hx hb dX4_row_50 rfl (lv_at hl 3 rfl) ?_
          refine ps_mst (j := k) X hM3 2 (by decide) rfl (by show k < 8; omega) hS5 dX4_row_51 (fun H6 locs7 hM8 hf9 hS10 => ?_)
          refine lv_iconst (v := nI 0) hx hb dX4_row_52 rfl ?_
          refine lv_istore (lv' := [(4, .int (nI 0)), (0, .ref (o)), (1, .int (nI k)), (2, .int (nI j)), (3, .int (nI u))]) hx hb dX4_row_53 hl (by decide) rfl (fun ls hl => ?_)
          have L55 : ∀ (n : Nat) (i : Nat) (Ak55 : Nat → Nat → Int32) (Hk55 : Heap) (lk55 : List Loc) (hi55 : i ≤ 40) (hMk55 : ps_Mo E Hk55 o F Ak55) (hFk55 : ps_Mf o H Hk55) (hAk55 : ∀ qk, qk ≠ 3 → Ak55 qk = (va_up (va_up A 1 (upd (A 1) k (nI j))) 2 (upd ((va_up A 1 (upd (A 1) k (nI j))) 2) k (nI u))) qk) (hgk55 : ∀ q, Ak55 3 q = if 40 * k ≤ q ∧ q < 40 * k + i then (fun _ => nI 0) (q - (40 * k)) else (va_up (va_up A 1 (upd (A 1) k (nI j))) 2 (upd ((va_up A 1 (upd (A 1) k (nI j))) 2) k (nI u))) 3 q) (hSk55 : va_S (ps_A E) s.heap Hk55 lk55) (hmu : 40 - i < n) (ls : Array Slot) (hl : lv_has ls 5 [(4, .int (nI i)), (0, .ref (o)), (1, .int (nI k)), (2, .int (nI j)), (3, .int (nI u))]), W p l e ({ frames := 3, cells := 0, slots := 0, locals := 57 } : Room) s m args below meth c Hk55 lk55 0 0 (MQ below (ps_ge (ps_mpost E H o (op_row S (nI k) (nI j) (nI u))) (ps_A E)) args s 0 0 (ps_A E)) (F0 m 55 ls []) := by
            intro n
            induction n with
            | zero => intro i Ak55 Hk55 lk55 hi55 hMk55 hFk55 hAk55 hgk55 hSk55 hmu; exact absurd hmu (Nat.not_lt_zero _)
            | succ n ih55 =>
              intro i Ak55 Hk55 lk55 hi55 hMk55 hFk55 hAk55 hgk55 hSk55 hmu ls hl
              refine lv_iload hx hb dX4_row_55 (lv_at hl 0 rfl) ?_
              refine lv_bipush (v := nI 40) hx hb dX4_row_57 rfl ?_
              refine ps_cge (tgt := 81) hx hb dX4_row_59 (by decide) (by omega) (fun c_59 => ?_) (fun c_59 => ?_)
              · skip
                have ei55 : i = 40 := by omega
                have eA55 := va_eta hAk55
                have hMx55 := hMk55
                rw [eA55] at hMx55
                refine lv_aload_n hx hb dX4_row_81 rfl (lv_at hl 1 rfl) ?_
                refine lv_iload_n hx hb dX4_row_82 rfl (lv_at hl 4 rfl) ?_
                refine ps_geV X hE (m_X4_well l hE hMx55 (x := nI u)) (lw_V q1381 q1383 qs33 q75 q1384) (by decide +kernel) ⟨⟨Nat.le_of_ble_eq_true rfl, Nat.le_of_ble_eq_true rfl⟩, Nat.le_of_ble_eq_true rfl, Nat.le_of_ble_eq_true rfl⟩ (ps_mrc X hMx55) hSk55 hl.1 (As := [.int (nI u)]) (rest := []) (n := 1) rfl rfl (Nat.le_of_ble_eq_true rfl) dX4_row_83 (fun v15 H11 locs12 hp13 hS14 => ?_)
                obtain ⟨hv18, hM16, hf17⟩ := hp13
                subst hv18
                refine ps_st (st' := [.int (nI u)]) rfl ?_
                exact ps_iretG X hS14 (Nat.le_of_ble_eq_true rfl) (Nat.le_of_ble_eq_true rfl) dX4_row_86 (ps_mend (S := (va_up S.1 0 0, va_up (va_up S.2.1 3 (va_up (S.2.1 3) k j)) 4 (va_up (S.2.1 4) k (u + 1)), fun q => if 40 * k ≤ q ∧ q < 40 * k + 40 then 0 else S.2.2 q)) (by simp [op_row, c_4, cl_k, c_16, cl_j, c_22, c_29, cl_u, c_59]) hM16 (⟨⟨rfl, hs.1.2⟩, fun i hi => ps_vwc hs.2.1 hi, fun r hr => ps_szc hs.2.2.1 hr (by rw [pk_sub (by omega)]; rfl), fun q hq => (hgk55 q).trans (by rw [ei55]; exact ite_congr rfl (fun _ => rfl) (fun _ => hs.2.2.2.1 q hq)), hs.2.2.2.2.1, hs.2.2.2.2.2.1, sm_t8 (j := 4) (sm_t8 (j := 3) (hs.2.2.2.2.2.2.1) (by decide)) (by decide), hs.2.2.2.2.2.2.2.1, sm_t11 (j := 4) (sm_t11 (j := 3) (hs.2.2.2.2.2.2.2.2.1) (by decide)) (by decide), hs.2.2.2.2.2.2.2.2.2⟩) (hFk55.tr hf17))
              · skip
                refine lv_aload_n hx hb dX4_row_62 rfl (lv_at hl 1 rfl) ?_
                refine ps_mget (v := .ref (o + 3)) X hMk55 2 (by decide) q1291 rfl rfl dX4_row_63 ?_
                refine lv_bipush (v := nI 40) hx hb dX4_row_66 rfl ?_
                refine lv_iload_n hx hb dX4_row_68 rfl (lv_at hl 2 rfl) ?_
                refine ps_imul hx hb dX4_row_69 ?_
                refine lv_iload hx hb dX4_row_70 (lv_at hl 0 rfl) ?_
                refine ps_iadd hx hb dX4_row_72 ?_
                refine lv_iconst (v := nI 0) hx hb dX4_row_73 rfl ?_
                refine ps_mst (j := (40 * k) + i) X hMk55 3 (by decide) rfl (by show (40 * k) + i < 320; omega) hSk55 dX4_row_74 (fun H19 locs20 hM21 hf22 hS23 => ?_)
                refine lv_iinc (v := nI (i + 1)) (lv' := [(4, .int (nI (i + 1))), (0, .ref (o)), (1, .int (nI k)), (2, .int (nI j)), (3, .int (nI u))]) hx hb dX4_row_75 hl (k := 0) rfl (ps_inc _) (by decide) rfl (fun ls hl => ?_)
                refine lv_goto (tgt := 55) hx hb dX4_row_78 (by decide) ?_
                exact ih55  (i + 1) ((va_up Ak55 3 (upd (Ak55 3) ((40 * k) + i) (nI 0)))) H19 _ (by omega) hM21 ((hFk55.tr hf22)) (fun qk hqk => by rw [va_up_ne _ _ hqk]; exact hAk55 qk hqk) (ps_lpU (f := Ak55 3) (src := fun _ => nI 0) hgk55 (rfl)) hS23 (by omega) ls (lv_sub hl [0, 1, 2, 3, 4] rfl)
          exact L55 ((40 - 0) + 1) 0 ((va_up (va_up A 1 (upd (A 1) k (nI j))) 2 (upd ((va_up A 1 (upd (A 1) k (nI j))) 2) k (nI u)))) H6 _ (by omega) hM8 ((hf4.tr hf9)) (fun _ _ => rfl) (ps_lp0 (src := fun _ => nI 0) (b := 40 * k)) hS10 (Nat.lt_succ_self _) ls (lv_sub hl [0, 1, 2, 3, 4] rfl)
        · skip
          refine lv_aload_n hx hb dX4_row_32 rfl (lv_at hl 0 rfl) ?_
          refine lv_iconst (v := nI 4) hx hb dX4_row_33 rfl ?_
          refine ps_geV X hE (m_X4_find l hE hM (f := 4) (by omega)) (lw_V q1376 q1378 qs32 q75 q1379) (by decide +kernel) ⟨⟨Nat.le_of_ble_eq_true rfl, Nat.le_of_ble_eq_true rfl⟩, Nat.le_of_ble_eq_true rfl, Nat.le_of_ble_eq_true rfl⟩ (ps_mrc X hM) hS hl.1 (As := [.int (nI 4)]) (rest := []) (n := 1) rfl rfl (Nat.le_of_ble_eq_true rfl) dX4_row_34 (fun v28 H24 locs25 hp26 hS27 => ?_)
          obtain ⟨hv31, hM29, hf30⟩ := hp26
          subst hv31
          refine ps_st (st' := [.int (fnd 4)]) rfl ?_
          exact ps_iretG X hS27 (Nat.le_of_ble_eq_true rfl) (Nat.le_of_ble_eq_true rfl) dX4_row_37 (ps_mend (S := (sStat S 4)) (by simp [op_row, c_4, cl_k, c_16, cl_j, c_22, c_29]) hM29 (hs.stat 4) hf30)
      · skip
        refine lv_ldc (v := -1000001) hx hb ho (hts _ q1375) dX4_row_25 ?_
        exact ps_iretG X hS (Nat.le_of_ble_eq_true rfl) (Nat.le_of_ble_eq_true rfl) dX4_row_27 (ps_mend (S := S) (by simp [op_row, c_4, cl_k, c_16, cl_j, c_22]) hM (hs) ps_Mf.rf)

set_option maxHeartbeats 4000000 in
theorem m_X4_image (l : Launch) {E : ps_E} (hE : ps_ZT E) {H : Heap} {o : Nat} {F : Nat → Int32} {A : Nat → Nat → Int32} (hM : ps_Mo E H o F A) {S : SS} (hs : sm F A S) (hW : wf S) {x : Int32} : ps_Ge l E yX4_image cX4_image 3 (some .int) 2 37 0 0 [.ref (o), .int (x)] H (ps_mpost E H o (op_image S x)) := by
  refine ps_Ge.of (by decide) (Nat.le_of_ble_eq_true rfl) ?_
  intro p e s m args below meth c X ls hl
  have hx := X.1
  have hb := X.2.1
  have ho := X.2.2.2.1
  have hts := X.2.2.2.2.1
  have hS : va_S (ps_A E) s.heap H [] := by rw [X.2.2.2.2.2.2.2.2.1]; exact va_S.rf
  have hl : lv_has ls 3 [(0, .ref (o)), (1, .int (x))] := hl
  have hσ := hs.2.2.2.2.1
  have hO := hW.1
  have hm := hO.m
  have hn := hW.n
  refine lv_iload_n hx hb dX4_image_0 rfl (lv_at hl 1 rfl) ?_
  refine lv_i2l (v := (x).toInt64) hx hb dX4_image_1 rfl ?_
  refine lv_lconst (v := lN 0) hx hb dX4_image_2 rfl ?_
  refine lv_lconst (v := lN 1) hx hb dX4_image_3 rfl ?_
  refine ps_roS X hE (m_X4_in l hE (H := H) (x := x) (lo := 0) (hi := 2) (lN_toInt (by decide)) (ps_hcN 1 (by decide))) (lw_S q1371 q1372 q75 q1373) (by decide +kernel) ⟨⟨Nat.le_of_ble_eq_true rfl, Nat.le_of_ble_eq_true rfl⟩, Nat.le_of_ble_eq_true rfl, Nat.le_of_ble_eq_true rfl⟩ hS hl.1 (As := [.long ((x).toInt64), .long (lN 0), .long (lN 1)]) (rest := []) (n := 3) rfl rfl (Nat.le_of_ble_eq_true rfl) dX4_image_4 ?_
  refine ps_st (st' := [.int (bI (rng x 0 2))]) rfl ?_
  refine ps_ifneB (tgt := 13) hx hb dX4_image_7 (by decide) (fun c_7 => ?_) (fun c_7 => ?_)
  · skip
    obtain ⟨k, rfl, k_lo, k_hi, k_b⟩ := rng_t c_7
    have cl_k : (nI k).toNatClampNeg = k := nI_clamp (by omega)
    refine lv_aload_n hx hb dX4_image_13 rfl (lv_at hl 0 rfl) ?_
    refine ps_mget (v := .int (F 4)) X hM 4 (by decide) q1293 rfl rfl dX4_image_14 ?_
    refine ps_top (y := bI (decide (1 ≤ (S.2.1 0) 1))) (hs.1.2.2.2.2.2) ?_
    refine ps_ifneB (tgt := 23) hx hb dX4_image_17 (by decide) (fun c_17 => ?_) (fun c_17 => ?_)
    · skip
      have h1 : 1 ≤ (S.2.1 0) 1 := of_decide_eq_true c_17
      have h1' : ¬ (S.2.1 0) 1 = 0 := by omega
      refine lv_iconst (v := nI 0) hx hb dX4_image_23 rfl ?_
      refine lv_istore_n (lv' := [(2, .int (nI 0)), (0, .ref (o)), (1, .int (nI k))]) hx hb dX4_image_24 rfl hl (by decide) rfl (fun ls hl => ?_)
      have L25 : ∀ (n : Nat) (i : Nat) (Ak25 : Nat → Nat → Int32) (Hk25 : Heap) (lk25 : List Loc) (hi25 : i ≤ 57) (hMk25 : ps_Mo E Hk25 o F Ak25) (hFk25 : ps_Mf o H Hk25) (hAk25 : ∀ qk, qk ≠ 11 → Ak25 qk = A qk) (hgk25 : ∀ q, Ak25 11 q = if 57 * k ≤ q ∧ q < 57 * k + i then (fun q => nI (S.2.1 0 q)) (q - (57 * k)) else A 11 q) (hSk25 : va_S (ps_A E) s.heap Hk25 lk25) (hmu : 57 - i < n) (ls : Array Slot) (hl : lv_has ls 3 [(2, .int (nI i)), (0, .ref (o)), (1, .int (nI k))]), W p l e ({ frames := 2, cells := 0, slots := 0, locals := 37 } : Room) s m args below meth c Hk25 lk25 0 0 (MQ below (ps_ge (ps_mpost E H o (op_image S (nI k))) (ps_A E)) args s 0 0 (ps_A E)) (F0 m 25 ls []) := by
        intro n
        induction n with
        | zero => intro i Ak25 Hk25 lk25 hi25 hMk25 hFk25 hAk25 hgk25 hSk25 hmu; exact absurd hmu (Nat.not_lt_zero _)
        | succ n ih25 =>
          intro i Ak25 Hk25 lk25 hi25 hMk25 hFk25 hAk25 hgk25 hSk25 hmu ls hl
          refine lv_iload_n hx hb dX4_image_25 rfl (lv_at hl 0 rfl) ?_
          refine lv_bipush (v := nI 57) hx hb dX4_image_26 rfl ?_
          refine ps_cge (tgt := 54) hx hb dX4_image_28 (by decide) (by omega) (fun c_28 => ?_) (fun c_28 => ?_)
          · skip
            have ei25 : i = 57 := by omega
            have eA25 := va_eta hAk25
            have hMx25 := hMk25
            rw [eA25] at hMx25
            refine lv_aload_n hx hb dX4_image_54 rfl (lv_at hl 1 rfl) ?_
            refine ps_mget (v := .ref (o + 10)) X hMx25 20 (by decide) q1309 rfl rfl dX4_image_55 ?_
            refine lv_iload_n hx hb dX4_image_58 rfl (lv_at hl 2 rfl) ?_
            refine lv_iconst (v := nI 1) hx hb dX4_image_59 rfl ?_
            refine ps_mstZ (j := k) X hMx25 rfl (by omega) hSk25 dX4_image_60 (fun H1 locs2 hM3 hf4 hS5 => ?_)
            refine lv_iconst (v := nI 1) hx hb dX4_image_61 rfl ?_
            exact ps_iretG X hS5 (Nat.le_of_ble_eq_true rfl) (Nat.le_of_ble_eq_true rfl) dX4_image_62 (ps_mend (S := (S.1, va_up (va_up S.2.1 5 (va_up (S.2.1 5) k 1)) (40 + k) (S.2.1 0), S.2.2)) (by simp [op_image, c_7, cl_k, h1, h1', c_28]) hM3 (sm_image hs hn.2.2.2.1 k_hi (fun q => (hgk25 q).trans (by rw [ei25]))) (hFk25.tr hf4))
          · skip
            refine lv_aload_n hx hb dX4_image_31 rfl (lv_at hl 1 rfl) ?_
            refine ps_mget (v := .ref (o + 11)) X hMk25 21 (by decide) q1310 rfl rfl dX4_image_32 ?_
            refine lv_bipush (v := nI 57) hx hb dX4_image_35 rfl ?_
            refine lv_iload_n hx hb dX4_image_37 rfl (lv_at hl 2 rfl) ?_
            refine ps_imul hx hb dX4_image_38 ?_
            refine lv_iload_n hx hb dX4_image_39 rfl (lv_at hl 0 rfl) ?_
            refine ps_iadd hx hb dX4_image_40 ?_
            refine lv_aload_n hx hb dX4_image_41 rfl (lv_at hl 1 rfl) ?_
            refine ps_mget (v := .ref (o + 4)) X hMk25 5 (by decide) q1294 rfl rfl dX4_image_42 ?_
            refine lv_iload_n hx hb dX4_image_45 rfl (lv_at hl 0 rfl) ?_
            refine ps_mld (j := i) (v := nI ((S.2.1 0) i)) X hMk25 4 (by decide) rfl (by show i < 57; omega) ((hσ.eq (hAk25 4 (by decide))) _ (by show i < 57; omega)) dX4_image_46 ?_
            refine ps_mst (j := (57 * k) + i) X hMk25 11 (by decide) rfl (by show (57 * k) + i < 114; omega) hSk25 dX4_image_47 (fun H6 locs7 hM8 hf9 hS10 => ?_)
            refine lv_iinc (v := nI (i + 1)) (lv' := [(2, .int (nI (i + 1))), (0, .ref (o)), (1, .int (nI k))]) hx hb dX4_image_48 hl (k := 0) rfl (ps_inc _) (by decide) rfl (fun ls hl => ?_)
            refine lv_goto (tgt := 25) hx hb dX4_image_51 (by decide) ?_
            exact ih25  (i + 1) ((va_up Ak25 11 (upd (Ak25 11) ((57 * k) + i) (nI ((S.2.1 0) i))))) H6 _ (by omega) hM8 ((hFk25.tr hf9)) (fun qk hqk => by rw [va_up_ne _ _ hqk]; exact hAk25 qk hqk) (ps_lpU (f := Ak25 11) (src := fun q => nI (S.2.1 0 q)) hgk25 (rfl)) hS10 (by omega) ls (lv_sub hl [0, 1, 2] rfl)
      exact L25 ((57 - 0) + 1) 0 A H _ (by omega) hM ps_Mf.rf (fun _ _ => rfl) (ps_lp0 (src := fun q => nI (S.2.1 0 q)) (b := 57 * k)) hS (Nat.lt_succ_self _) ls (lv_sub hl [0, 1, 2] rfl)
    · skip
      have h1 : ¬ 1 ≤ (S.2.1 0) 1 := of_decide_eq_false c_17
      have h1' : (S.2.1 0) 1 = 0 := by omega
      refine lv_ldc (v := -1000002) hx hb ho (hts _ q1463) dX4_image_20 ?_
      exact ps_iretG X hS (Nat.le_of_ble_eq_true rfl) (Nat.le_of_ble_eq_true rfl) dX4_image_22 (ps_mend (S := S) (by simp [op_image, c_7, cl_k, h1']) hM (hs) ps_Mf.rf)
  · skip
    refine lv_ldc (v := -1000001) hx hb ho (hts _ q1375) dX4_image_10 ?_
    exact ps_iretG X hS (Nat.le_of_ble_eq_true rfl) (Nat.le_of_ble_eq_true rfl) dX4_image_12 (ps_mend (S := S) (by simp [op_image, c_7]) hM (hs) ps_Mf.rf)

set_option maxHeartbeats 4000000 in
theorem m_X4_restore (l : Launch) {E : ps_E} (hE : ps_ZT E) {H : Heap} {o : Nat} {F : Nat → Int32} {A : Nat → Nat → Int32} (hM : ps_Mo E H o F A) {S : SS} (hs : sm F A S) (hW : wf S) {x : Int32} : ps_Ge l E yX4_restore cX4_restore 3 (some .int) 2 37 0 0 [.ref (o), .int (x)] H (ps_mpost E H o (op_restore S x)) := by
  refine ps_Ge.of (by decide) (Nat.le_of_ble_eq_true rfl) ?_
  intro p e s m args below meth c X ls hl
  have hx := X.1
  have hb := X.2.1
  have ho := X.2.2.2.1
  have hts := X.2.2.2.2.1
  have hS : va_S (ps_A E) s.heap H [] := by rw [X.2.2.2.2.2.2.2.2.1]; exact va_S.rf
  have hl : lv_has ls 3 [(0, .ref (o)), (1, .int (x))] := hl
  have hσ := hs.2.2.2.2.1
  have hO := hW.1
  have hm := hO.m
  have hn := hW.n
  refine lv_iload_n hx hb dX4_restore_0 rfl (lv_at hl 1 rfl) ?_
  refine lv_i2l (v := (x).toInt64) hx hb dX4_restore_1 rfl ?_
  refine lv_lconst (v := lN 0) hx hb dX4_restore_2 rfl ?_
  refine lv_lconst (v := lN 1) hx hb dX4_restore_3 rfl ?_
  refine ps_roS X hE (m_X4_in l hE (H := H) (x := x) (lo := 0) (hi := 2) (lN_toInt (by decide)) (ps_hcN 1 (by decide))) (lw_S q1371 q1372 q75 q1373) (by decide +kernel) ⟨⟨Nat.le_of_ble_eq_true rfl, Nat.le_of_ble_eq_true rfl⟩, Nat.le_of_ble_eq_true rfl, Nat.le_of_ble_eq_true rfl⟩ hS hl.1 (As := [.long ((x).toInt64), .long (lN 0), .long (lN 1)]) (rest := []) (n := 3) rfl rfl (Nat.le_of_ble_eq_true rfl) dX4_restore_4 ?_
  refine ps_st (st' := [.int (bI (rng x 0 2))]) rfl ?_
  refine ps_ifneB (tgt := 13) hx hb dX4_restore_7 (by decide) (fun c_7 => ?_) (fun c_7 => ?_)
  · skip
    obtain ⟨k, rfl, k_lo, k_hi, k_b⟩ := rng_t c_7
    have cl_k : (nI k).toNatClampNeg = k := nI_clamp (by omega)
    refine lv_aload_n hx hb dX4_restore_13 rfl (lv_at hl 0 rfl) ?_
    refine ps_mget (v := .ref (o + 10)) X hM 20 (by decide) q1309 rfl rfl dX4_restore_14 ?_
    refine lv_iload_n hx hb dX4_restore_17 rfl (lv_at hl 1 rfl) ?_
    refine ps_mldZ (j := k) (v := bI (decide (S.2.1 5 k = 1))) X hM rfl (by omega) (hs.2.2.2.2.2.2.2.1 k k_hi) dX4_restore_18 ?_
    refine ps_ifneB (tgt := 25) hx hb dX4_restore_19 (by decide) (fun c_19 => ?_) (fun c_19 => ?_)
    · skip
      have c_19 : S.2.1 5 k = 1 := of_decide_eq_true c_19
      have hi1 := (hW.im k_hi c_19).2
      refine lv_iconst (v := nI 0) hx hb dX4_restore_25 rfl ?_
      refine lv_istore_n (lv' := [(2, .int (nI 0)), (0, .ref (o)), (1, .int (nI k))]) hx hb dX4_restore_26 rfl hl (by decide) rfl (fun ls hl => ?_)
      have L27 : ∀ (n : Nat) (i : Nat) (Ak27 : Nat → Nat → Int32) (Hk27 : Heap) (lk27 : List Loc) (hi27 : i ≤ 57) (hMk27 : ps_Mo E Hk27 o F Ak27) (hFk27 : ps_Mf o H Hk27) (hAk27 : ∀ qk, qk ≠ 4 → Ak27 qk = A qk) (hgk27 : ∀ q, Ak27 4 q = if q < i then (fun q => A 11 (57 * k + q)) q else A 4 q) (hSk27 : va_S (ps_A E) s.heap Hk27 lk27) (hmu : 57 - i < n) (ls : Array Slot) (hl : lv_has ls 3 [(2, .int (nI i)), (0, .ref (o)), (1, .int (nI k))]), W p l e ({ frames := 2, cells := 0, slots := 0, locals := 37 } : Room) s m args below meth c Hk27 lk27 0 0 (MQ below (ps_ge (ps_mpost E H o (op_restore S (nI k))) (ps_A E)) args s 0 0 (ps_A E)) (F0 m 27 ls []) := by
        intro n
        induction n with
        | zero => intro i Ak27 Hk27 lk27 hi27 hMk27 hFk27 hAk27 hgk27 hSk27 hmu; exact absurd hmu (Nat.not_lt_zero _)
        | succ n ih27 =>
          intro i Ak27 Hk27 lk27 hi27 hMk27 hFk27 hAk27 hgk27 hSk27 hmu ls hl
          refine lv_iload_n hx hb dX4_restore_27 rfl (lv_at hl 0 rfl) ?_
          refine lv_bipush (v := nI 57) hx hb dX4_restore_28 rfl ?_
          refine ps_cge (tgt := 56) hx hb dX4_restore_30 (by decide) (by omega) (fun c_30 => ?_) (fun c_30 => ?_)
          · skip
            have ei27 : i = 57 := by omega
            have eA27 := va_eta hAk27
            have hMx27 := hMk27
            rw [eA27] at hMx27
            refine lv_aload_n hx hb dX4_restore_56 rfl (lv_at hl 1 rfl) ?_
            refine lv_iconst (v := nI 0) hx hb dX4_restore_57 rfl ?_
            refine ps_mput X hMx27 17 (by decide) q1306 rfl rfl rfl rfl hSk27 dX4_restore_58 (fun H1 locs2 hM3 hf4 hS5 => ?_)
            refine lv_iconst (v := nI 1) hx hb dX4_restore_61 rfl ?_
            exact ps_iretG X hS5 (Nat.le_of_ble_eq_true rfl) (Nat.le_of_ble_eq_true rfl) dX4_restore_62 (ps_mend (S := (va_up S.1 3 0, va_up S.2.1 0 (S.2.1 (40 + k)), S.2.2)) (by simp [op_restore, c_7, cl_k, c_19, c_30]) hM3 (sm_restore hs hi1 (fun i hi => (hgk27 i).trans (by rw [ei27, if_pos hi]; exact hs.2.2.2.2.2.2.2.2.1 k k_hi c_19 i hi)) rfl (Nat.zero_le _)) (hFk27.tr hf4))
          · skip
            refine lv_aload_n hx hb dX4_restore_33 rfl (lv_at hl 1 rfl) ?_
            refine ps_mget (v := .ref (o + 4)) X hMk27 5 (by decide) q1294 rfl rfl dX4_restore_34 ?_
            refine lv_iload_n hx hb dX4_restore_37 rfl (lv_at hl 0 rfl) ?_
            refine lv_aload_n hx hb dX4_restore_38 rfl (lv_at hl 1 rfl) ?_
            refine ps_mget (v := .ref (o + 11)) X hMk27 21 (by decide) q1310 rfl rfl dX4_restore_39 ?_
            refine lv_bipush (v := nI 57) hx hb dX4_restore_42 rfl ?_
            refine lv_iload_n hx hb dX4_restore_44 rfl (lv_at hl 2 rfl) ?_
            refine ps_imul hx hb dX4_restore_45 ?_
            refine lv_iload_n hx hb dX4_restore_46 rfl (lv_at hl 0 rfl) ?_
            refine ps_iadd hx hb dX4_restore_47 ?_
            refine ps_mld (j := (57 * k) + i) (v := A 11 (57 * k + i)) X hMk27 11 (by decide) rfl (by show (57 * k) + i < 114; omega) (congrFun (hAk27 11 (by decide)) _) dX4_restore_48 ?_
            refine ps_mst (j := i) X hMk27 4 (by decide) rfl (by show i < 57; omega) hSk27 dX4_restore_49 (fun H6 locs7 hM8 hf9 hS10 => ?_)
            refine lv_iinc (v := nI (i + 1)) (lv' := [(2, .int (nI (i + 1))), (0, .ref (o)), (1, .int (nI k))]) hx hb dX4_restore_50 hl (k := 0) rfl (ps_inc _) (by decide) rfl (fun ls hl => ?_)
            refine lv_goto (tgt := 27) hx hb dX4_restore_53 (by decide) ?_
            exact ih27  (i + 1) ((va_up Ak27 4 (upd (Ak27 4) i (A 11 (57 * k + i))))) H6 _ (by omega) hM8 ((hFk27.tr hf9)) (fun qk hqk => by rw [va_up_ne _ _ hqk]; exact hAk27 qk hqk) (ps_lpZ (f := Ak27 4) (src := fun q => A 11 (57 * k + q)) hgk27 (rfl)) hS10 (by omega) ls (lv_sub hl [0, 1, 2] rfl)
      exact L27 ((57 - 0) + 1) 0 A H _ (by omega) hM ps_Mf.rf (fun _ _ => rfl) (ps_lp00 (src := fun q => A 11 (57 * k + q))) hS (Nat.lt_succ_self _) ls (lv_sub hl [0, 1, 2] rfl)
    · skip
      have c_19 : ¬ S.2.1 5 k = 1 := of_decide_eq_false c_19
      refine lv_ldc (v := -1000002) hx hb ho (hts _ q1463) dX4_restore_22 ?_
      exact ps_iretG X hS (Nat.le_of_ble_eq_true rfl) (Nat.le_of_ble_eq_true rfl) dX4_restore_24 (ps_mend (S := S) (by simp [op_restore, c_7, cl_k, c_19]) hM (hs) ps_Mf.rf)
  · skip
    refine lv_ldc (v := -1000001) hx hb ho (hts _ q1375) dX4_restore_10 ?_
    exact ps_iretG X hS (Nat.le_of_ble_eq_true rfl) (Nat.le_of_ble_eq_true rfl) dX4_restore_12 (ps_mend (S := S) (by simp [op_restore, c_7]) hM (hs) ps_Mf.rf)

set_option maxHeartbeats 4000000 in
theorem m_X4_undo (l : Launch) {E : ps_E} (hE : ps_ZT E) {H : Heap} {o : Nat} {F : Nat → Int32} {A : Nat → Nat → Int32} (hM : ps_Mo E H o F A) {S : SS} (hs : sm F A S) (hW : wf S) : ps_Ge l E yX4_undo cX4_undo 2 (some .int) 1 12 0 0 [.ref (o)] H (ps_mpost E H o (op_undo S)) := by
  refine ps_Ge.of (by decide) (Nat.le_of_ble_eq_true rfl) ?_
  intro p e s m args below meth c X ls hl
  have hx := X.1
  have hb := X.2.1
  have ho := X.2.2.2.1
  have hts := X.2.2.2.2.1
  have hS : va_S (ps_A E) s.heap H [] := by rw [X.2.2.2.2.2.2.2.2.1]; exact va_S.rf
  have hl : lv_has ls 2 [(0, .ref (o))] := hl
  have hσ := hs.2.2.2.2.1
  have hO := hW.1
  have hm := hO.m
  have hn := hW.n
  refine lv_aload_n hx hb dX4_undo_0 rfl (lv_at hl 0 rfl) ?_
  refine ps_mget (v := .int (F 17)) X hM 17 (by decide) q1306 rfl rfl dX4_undo_1 ?_
  refine ps_top (y := nI (S.1 3)) (hs.1.2.2.2.1) ?_
  refine ps_ifne (tgt := 10) hx hb dX4_undo_4 (by decide) (by omega) (fun c_4 => ?_) (fun c_4 => ?_)
  · skip
    have ha := hW.a (k := S.1 3 - 1) (by omega)
    refine lv_aload_n hx hb dX4_undo_10 rfl (lv_at hl 0 rfl) ?_
    refine lv_dup hx hb dX4_undo_11 rfl ?_
    refine ps_mget (v := .int (F 17)) X hM 17 (by decide) q1306 rfl rfl dX4_undo_12 ?_
    refine ps_top (y := nI (S.1 3)) (hs.1.2.2.2.1) ?_
    refine lv_iconst (v := nI 1) hx hb dX4_undo_15 rfl ?_
    refine ps_isub hx hb dX4_undo_16 (by omega) ?_
    refine ps_mput X hM 17 (by decide) q1306 rfl rfl rfl rfl hS dX4_undo_17 (fun H1 locs2 hM3 hf4 hS5 => ?_)
    refine lv_iconst (v := nI 0) hx hb dX4_undo_20 rfl ?_
    refine lv_istore_n (lv' := [(1, .int (nI 0)), (0, .ref (o))]) hx hb dX4_undo_21 rfl hl (by decide) rfl (fun ls hl => ?_)
    have L22 : ∀ (n : Nat) (i : Nat) (Ak22 : Nat → Nat → Int32) (Hk22 : Heap) (lk22 : List Loc) (hi22 : i ≤ 57) (hMk22 : ps_Mo E Hk22 o (va_up F 17 (nI ((S.1 3) - 1))) Ak22) (hFk22 : ps_Mf o H Hk22) (hAk22 : ∀ qk, qk ≠ 4 → Ak22 qk = A qk) (hgk22 : ∀ q, Ak22 4 q = if q < i then (fun q => A 8 (57 * (S.1 3 - 1) + q)) q else A 4 q) (hSk22 : va_S (ps_A E) s.heap Hk22 lk22) (hmu : 57 - i < n) (ls : Array Slot) (hl : lv_has ls 2 [(1, .int (nI i)), (0, .ref (o))]), W p l e ({ frames := 1, cells := 0, slots := 0, locals := 12 } : Room) s m args below meth c Hk22 lk22 0 0 (MQ below (ps_ge (ps_mpost E H o (op_undo S)) (ps_A E)) args s 0 0 (ps_A E)) (F0 m 22 ls []) := by
      intro n
      induction n with
      | zero => intro i Ak22 Hk22 lk22 hi22 hMk22 hFk22 hAk22 hgk22 hSk22 hmu; exact absurd hmu (Nat.not_lt_zero _)
      | succ n ih22 =>
        intro i Ak22 Hk22 lk22 hi22 hMk22 hFk22 hAk22 hgk22 hSk22 hmu ls hl
        refine lv_iload_n hx hb dX4_undo_22 rfl (lv_at hl 0 rfl) ?_
        refine lv_bipush (v := nI 57) hx hb dX4_undo_23 rfl ?_
        refine ps_cge (tgt := 54) hx hb dX4_undo_25 (by decide) (by omega) (fun c_25 => ?_) (fun c_25 => ?_)
        · skip
          have ei22 : i = 57 := by omega
          have eA22 := va_eta hAk22
          have hMx22 := hMk22
          rw [eA22] at hMx22
          refine lv_aload_n hx hb dX4_undo_54 rfl (lv_at hl 1 rfl) ?_
          refine ps_mget (v := .int (nI ((S.1 3) - 1))) X hMx22 17 (by decide) q1306 rfl rfl dX4_undo_55 ?_
          exact ps_iretG X hSk22 (Nat.le_of_ble_eq_true rfl) (Nat.le_of_ble_eq_true rfl) dX4_undo_58 (ps_mend (S := (va_up S.1 3 (S.1 3 - 1), va_up S.2.1 0 (S.2.1 (10 + (S.1 3 - 1))), S.2.2)) (by simp [op_undo, c_4, c_25]) hMx22 (sm_restore hs ⟨ha.2, hW.th (by omega)⟩ (fun i hi => (hgk22 i).trans (by rw [ei22, if_pos hi]; exact hs.2.2.2.2.2.2.1 _ (by omega) i hi)) rfl (Nat.sub_le _ _)) hFk22)
        · skip
          refine lv_aload_n hx hb dX4_undo_28 rfl (lv_at hl 1 rfl) ?_
          refine ps_mget (v := .ref (o + 4)) X hMk22 5 (by decide) q1294 rfl rfl dX4_undo_29 ?_
          refine lv_iload_n hx hb dX4_undo_32 rfl (lv_at hl 0 rfl) ?_
          refine lv_aload_n hx hb dX4_undo_33 rfl (lv_at hl 1 rfl) ?_
          refine ps_mget (v := .ref (o + 8)) X hMk22 16 (by decide) q1305 rfl rfl dX4_undo_34 ?_
          refine lv_bipush (v := nI 57) hx hb dX4_undo_37 rfl ?_
          refine lv_aload_n hx hb dX4_undo_39 rfl (lv_at hl 1 rfl) ?_
          refine ps_mget (v := .int (nI ((S.1 3) - 1))) X hMk22 17 (by decide) q1306 rfl rfl dX4_undo_40 ?_
          refine ps_imul hx hb dX4_undo_43 ?_
          refine lv_iload_n hx hb dX4_undo_44 rfl (lv_at hl 0 rfl) ?_
          refine ps_iadd hx hb dX4_undo_45 ?_
          refine ps_mld (j := (57 * ((S.1 3) - 1)) + i) (v := A 8 (57 * (S.1 3 - 1) + i)) X hMk22 8 (by decide) rfl (by show (57 * ((S.1 3) - 1)) + i < 1368; omega) (congrFun (hAk22 8 (by decide)) _) dX4_undo_46 ?_
          refine ps_mst (j := i) X hMk22 4 (by decide) rfl (by show i < 57; omega) hSk22 dX4_undo_47 (fun H6 locs7 hM8 hf9 hS10 => ?_)
          refine lv_iinc (v := nI (i + 1)) (lv' := [(1, .int (nI (i + 1))), (0, .ref (o))]) hx hb dX4_undo_48 hl (k := 0) rfl (ps_inc _) (by decide) rfl (fun ls hl => ?_)
          refine lv_goto (tgt := 22) hx hb dX4_undo_51 (by decide) ?_
          exact ih22  (i + 1) ((va_up Ak22 4 (upd (Ak22 4) i (A 8 (57 * (S.1 3 - 1) + i))))) H6 _ (by omega) hM8 ((hFk22.tr hf9)) (fun qk hqk => by rw [va_up_ne _ _ hqk]; exact hAk22 qk hqk) (ps_lpZ (f := Ak22 4) (src := fun q => A 8 (57 * (S.1 3 - 1) + q)) hgk22 (rfl)) hS10 (by omega) ls (lv_sub hl [0, 1] rfl)
    exact L22 ((57 - 0) + 1) 0 A H1 _ (by omega) hM3 hf4 (fun _ _ => rfl) (ps_lp00 (src := fun q => A 8 (57 * (S.1 3 - 1) + q))) hS5 (Nat.lt_succ_self _) ls (lv_sub hl [0, 1] rfl)
  · skip
    refine lv_ldc (v := -1000002) hx hb ho (hts _ q1463) dX4_undo_7 ?_
    exact ps_iretG X hS (Nat.le_of_ble_eq_true rfl) (Nat.le_of_ble_eq_true rfl) dX4_undo_9 (ps_mend (S := S) (by simp [op_undo, c_4]) hM (hs) ps_Mf.rf)

set_option maxHeartbeats 4000000 in
theorem m_X4_wax (l : Launch) {E : ps_E} (hE : ps_ZT E) {H : Heap} {o : Nat} {F : Nat → Int32} {A : Nat → Nat → Int32} (hM : ps_Mo E H o F A) {S : SS} (hs : sm F A S) (hW : wf S) {x : Int32} : ps_Ge l E yX4_wax cX4_wax 3 (some .int) 2 37 0 0 [.ref (o), .int (x)] H (ps_mpost E H o (op_wax S x)) := by
  refine ps_Ge.of (by decide) (Nat.le_of_ble_eq_true rfl) ?_
  intro p e s m args below meth c X ls hl
  have hx := X.1
  have hb := X.2.1
  have ho := X.2.2.2.1
  have hts := X.2.2.2.2.1
  have hS : va_S (ps_A E) s.heap H [] := by rw [X.2.2.2.2.2.2.2.2.1]; exact va_S.rf
  have hl : lv_has ls 3 [(0, .ref (o)), (1, .int (x))] := hl
  have hσ := hs.2.2.2.2.1
  have hO := hW.1
  have hm := hO.m
  have hn := hW.n
  refine lv_aload_n hx hb dX4_wax_0 rfl (lv_at hl 0 rfl) ?_
  refine ps_mget (v := .int (F 4)) X hM 4 (by decide) q1293 rfl rfl dX4_wax_1 ?_
  refine ps_top (y := bI (decide (1 ≤ (S.2.1 0) 1))) (hs.1.2.2.2.2.2) ?_
  refine ps_ifneB (tgt := 10) hx hb dX4_wax_4 (by decide) (fun c_4 => ?_) (fun c_4 => ?_)
  · skip
    have h1 : 1 ≤ (S.2.1 0) 1 := of_decide_eq_true c_4
    have h1' : ¬ (S.2.1 0) 1 = 0 := by omega
    refine lv_iload_n hx hb dX4_wax_10 rfl (lv_at hl 1 rfl) ?_
    refine lv_i2l (v := (x).toInt64) hx hb dX4_wax_11 rfl ?_
    refine lv_lconst (v := lN 0) hx hb dX4_wax_12 rfl ?_
    refine lv_ldc2 (v := 9) hx hb ho (hts _ q1506) dX4_wax_13 ?_
    refine ps_roS X hE (m_X4_in l hE (H := H) (x := x) (lo := 0) (hi := 10) (lN_toInt (by decide)) (ps_hcL (k := 9) (by decide +kernel))) (lw_S q1371 q1372 q75 q1373) (by decide +kernel) ⟨⟨Nat.le_of_ble_eq_true rfl, Nat.le_of_ble_eq_true rfl⟩, Nat.le_of_ble_eq_true rfl, Nat.le_of_ble_eq_true rfl⟩ hS hl.1 (As := [.long ((x).toInt64), .long (lN 0), .long (9)]) (rest := []) (n := 3) rfl rfl (Nat.le_of_ble_eq_true rfl) dX4_wax_16 ?_
    refine ps_st (st' := [.int (bI (rng x 0 10))]) rfl ?_
    refine ps_ifneB (tgt := 25) hx hb dX4_wax_19 (by decide) (fun c_19 => ?_) (fun c_19 => ?_)
    · skip
      obtain ⟨k, rfl, k_lo, k_hi, k_b⟩ := rng_t c_19
      have cl_k : (nI k).toNatClampNeg = k := nI_clamp (by omega)
      refine lv_aload_n hx hb dX4_wax_25 rfl (lv_at hl 0 rfl) ?_
      refine ps_geV X hE (m_X4_note l hE hM hs hW) (lw_V q1464 q1466 qs44 q75 q1467) (by decide +kernel) ⟨⟨Nat.le_of_ble_eq_true rfl, Nat.le_of_ble_eq_true rfl⟩, Nat.le_of_ble_eq_true rfl, Nat.le_of_ble_eq_true rfl⟩ (ps_mrc X hM) hS hl.1 (As := []) (rest := []) (n := 0) rfl rfl (Nat.le_of_ble_eq_true rfl) dX4_wax_26 (fun v5 H1 locs2 hp3 hS4 => ?_)
      obtain ⟨hv9, g6, hM7, hf8, hs10⟩ := hp3
      subst hv9
      refine ps_st (st' := []) rfl ?_
      refine lv_aload_n hx hb dX4_wax_29 rfl (lv_at hl 0 rfl) ?_
      refine ps_mget (v := .ref (o + 4)) X hM7 5 (by decide) q1294 rfl rfl dX4_wax_30 ?_
      refine lv_iconst (v := nI 0) hx hb dX4_wax_33 rfl ?_
      refine ps_mld (j := 0) (v := nI ((S.2.1 0) 0)) X hM7 4 (by decide) rfl (by show 0 < 57; omega) ((hσ.ne (by decide)) _ (by show 0 < 57; omega)) dX4_wax_34 ?_
      refine lv_istore_n (lv' := [(2, .int (nI ((S.2.1 0) 0))), (0, .ref (o)), (1, .int (nI k))]) hx hb dX4_wax_35 rfl hl (by decide) rfl (fun ls hl => ?_)
      refine lv_aload_n hx hb dX4_wax_36 rfl (lv_at hl 1 rfl) ?_
      refine ps_mget (v := .ref (o + 4)) X hM7 5 (by decide) q1294 rfl rfl dX4_wax_37 ?_
      refine lv_iconst (v := nI 0) hx hb dX4_wax_40 rfl ?_
      refine lv_iload_n hx hb dX4_wax_41 rfl (lv_at hl 2 rfl) ?_
      refine ps_mst (j := 0) X hM7 4 (by decide) rfl (by show 0 < 57; omega) hS4 dX4_wax_42 (fun H11 locs12 hM13 hf14 hS15 => ?_)
      refine lv_iload_n hx hb dX4_wax_43 rfl (lv_at hl 0 rfl) ?_
      exact ps_iretG X hS15 (Nat.le_of_ble_eq_true rfl) (Nat.le_of_ble_eq_true rfl) dX4_wax_44 (ps_mend (S := (sSt (sNote S) (va_up (S.2.1 0) 0 k))) (by simp [op_wax, h1, h1', c_19, cl_k]) hM13 (hs10.st (σ := (va_up (S.2.1 0) 0 k)) ((hσ.ne (by decide)).up (v := k) rfl) (by simp [sNote_lt, va_up])) (hf8.tr hf14))
    · skip
      refine lv_ldc (v := -1000001) hx hb ho (hts _ q1375) dX4_wax_22 ?_
      exact ps_iretG X hS (Nat.le_of_ble_eq_true rfl) (Nat.le_of_ble_eq_true rfl) dX4_wax_24 (ps_mend (S := S) (by simp [op_wax, h1, h1', c_19]) hM (hs) ps_Mf.rf)
  · skip
    have h1 : ¬ 1 ≤ (S.2.1 0) 1 := of_decide_eq_false c_4
    have h1' : (S.2.1 0) 1 = 0 := by omega
    refine lv_ldc (v := -1000002) hx hb ho (hts _ q1463) dX4_wax_7 ?_
    exact ps_iretG X hS (Nat.le_of_ble_eq_true rfl) (Nat.le_of_ble_eq_true rfl) dX4_wax_9 (ps_mend (S := S) (by simp [op_wax, h1']) hM (hs) ps_Mf.rf)

set_option maxHeartbeats 4000000 in
theorem m_X4_lay (l : Launch) {E : ps_E} (hE : ps_ZT E) {H : Heap} {o : Nat} {F : Nat → Int32} {A : Nat → Nat → Int32} (hM : ps_Mo E H o F A) {S : SS} (hs : sm F A S) (hW : wf S) {x y : Int32} : ps_Ge l E yX4_lay cX4_lay 3 (some .int) 6 124 0 0 [.ref (o), .int (x), .int (y)] H (ps_mpost E H o (op_lay S x y)) := by
  refine ps_Ge.of (by decide) (Nat.le_of_ble_eq_true rfl) ?_
  intro p e s m args below meth c X ls hl
  have hx := X.1
  have hb := X.2.1
  have ho := X.2.2.2.1
  have hts := X.2.2.2.2.1
  have hS : va_S (ps_A E) s.heap H [] := by rw [X.2.2.2.2.2.2.2.2.1]; exact va_S.rf
  have hl : lv_has ls 3 [(0, .ref (o)), (1, .int (x)), (2, .int (y))] := hl
  have hσ := hs.2.2.2.2.1
  have hO := hW.1
  have hm := hO.m
  have hn := hW.n
  refine lv_aload_n hx hb dX4_lay_0 rfl (lv_at hl 0 rfl) ?_
  refine lv_iload_n hx hb dX4_lay_1 rfl (lv_at hl 1 rfl) ?_
  refine ps_roV X hE (m_X4_isPromise l hE hM hσ hO (x := x)) (lw_V q1455 q1457 qs42 q75 q1458) (by decide +kernel) ⟨⟨Nat.le_of_ble_eq_true rfl, Nat.le_of_ble_eq_true rfl⟩, Nat.le_of_ble_eq_true rfl, Nat.le_of_ble_eq_true rfl⟩ (ps_mrc X hM) hS hl.1 (As := [.int (x)]) (rest := []) (n := 1) rfl rfl (Nat.le_of_ble_eq_true rfl) dX4_lay_2 ?_
  refine ps_st (st' := [.int (bI (rng x 0 ((S.2.1 0) 3)))]) rfl ?_
  refine ps_ifeqB (tgt := 18) hx hb dX4_lay_5 (by decide) (fun c_5 => ?_) (fun c_5 => ?_)
  · skip
    refine lv_ldc (v := -1000001) hx hb ho (hts _ q1375) dX4_lay_18 ?_
    exact ps_iretG X hS (Nat.le_of_ble_eq_true rfl) (Nat.le_of_ble_eq_true rfl) dX4_lay_20 (ps_mend (S := S) (by simp [op_lay, c_5]) hM (hs) ps_Mf.rf)
  · skip
    obtain ⟨k, rfl, k_lo, k_hi, k_b⟩ := rng_t c_5
    have cl_k : (nI k).toNatClampNeg = k := nI_clamp (by omega)
    refine lv_iload_n hx hb dX4_lay_8 rfl (lv_at hl 2 rfl) ?_
    refine lv_i2l (v := (y).toInt64) hx hb dX4_lay_9 rfl ?_
    refine lv_lconst (v := lN 0) hx hb dX4_lay_10 rfl ?_
    refine lv_lconst (v := lN 1) hx hb dX4_lay_11 rfl ?_
    refine ps_roS X hE (m_X4_in l hE (H := H) (x := y) (lo := 0) (hi := 2) (lN_toInt (by decide)) (ps_hcN 1 (by decide))) (lw_S q1371 q1372 q75 q1373) (by decide +kernel) ⟨⟨Nat.le_of_ble_eq_true rfl, Nat.le_of_ble_eq_true rfl⟩, Nat.le_of_ble_eq_true rfl, Nat.le_of_ble_eq_true rfl⟩ hS hl.1 (As := [.long ((y).toInt64), .long (lN 0), .long (lN 1)]) (rest := []) (n := 3) rfl rfl (Nat.le_of_ble_eq_true rfl) dX4_lay_12 ?_
    refine ps_st (st' := [.int (bI (rng y 0 2))]) rfl ?_
    refine ps_ifneB (tgt := 21) hx hb dX4_lay_15 (by decide) (fun c_15 => ?_) (fun c_15 => ?_)
    · skip
      obtain ⟨j, rfl, j_lo, j_hi, j_b⟩ := rng_t c_15
      have cl_j : (nI j).toNatClampNeg = j := nI_clamp (by omega)
      refine lv_aload_n hx hb dX4_lay_21 rfl (lv_at hl 0 rfl) ?_
      refine lv_iload_n hx hb dX4_lay_22 rfl (lv_at hl 1 rfl) ?_
      refine ps_roV X hE (m_X4_isOpen l hE hM hσ hO (k := k) (by omega)) (lw_V q1459 q1461 qs43 q75 q1462) (by decide +kernel) ⟨⟨Nat.le_of_ble_eq_true rfl, Nat.le_of_ble_eq_true rfl⟩, Nat.le_of_ble_eq_true rfl, Nat.le_of_ble_eq_true rfl⟩ (ps_mrc X hM) hS hl.1 (As := [.int (nI k)]) (rest := []) (n := 1) rfl rfl (Nat.le_of_ble_eq_true rfl) dX4_lay_23 ?_
      refine ps_st (st' := [.int (bI (sp_open (S.2.1 0) k))]) rfl ?_
      refine ps_ifeqB (tgt := 43) hx hb dX4_lay_26 (by decide) (fun c_26 => ?_) (fun c_26 => ?_)
      · skip
        refine lv_ldc (v := -1000002) hx hb ho (hts _ q1463) dX4_lay_43 ?_
        exact ps_iretG X hS (Nat.le_of_ble_eq_true rfl) (Nat.le_of_ble_eq_true rfl) dX4_lay_45 (ps_mend (S := S) (by simp [op_lay, c_5, cl_k, c_15, cl_j, c_26]) hM (hs) ps_Mf.rf)
      · skip
        have hp := hO.p k_hi
        refine lv_aload_n hx hb dX4_lay_29 rfl (lv_at hl 0 rfl) ?_
        refine ps_mget (v := .ref (o + 4)) X hM 5 (by decide) q1294 rfl rfl dX4_lay_30 ?_
        refine lv_iconst (v := nI 4) hx hb dX4_lay_33 rfl ?_
        refine ps_mld (j := 4) (v := nI ((S.2.1 0) 4)) X hM 4 (by decide) rfl (by show 4 < 57; omega) (hσ _ (by show 4 < 57; omega)) dX4_lay_34 ?_
        refine lv_iload_n hx hb dX4_lay_35 rfl (lv_at hl 1 rfl) ?_
        refine lv_ishr hx hb dX4_lay_36 ?_
        refine ps_top (y := nI (((S.2.1 0) 4) / 2 ^ k)) (ps_shr (by omega) (by omega)) ?_
        refine lv_iconst (v := nI 1) hx hb dX4_lay_37 rfl ?_
        refine lv_iand hx hb dX4_lay_38 ?_
        refine ps_top (y := nI ((((S.2.1 0) 4) / 2 ^ k) % 2)) (ps_and1 (ps_divlt (by omega))) ?_
        refine lv_iload_n hx hb dX4_lay_39 rfl (lv_at hl 2 rfl) ?_
        refine ps_cne (tgt := 46) hx hb dX4_lay_40 (by decide) (by omega) (fun c_40 => ?_) (fun c_40 => ?_)
        · skip
          have hp2 := ps_p2 (k := k) (by omega)
          have hx8 : S.2.1 0 4 ^^^ 2 ^ k < 256 := Nat.xor_lt_two_pow (n := 8) (by omega) (Nat.pow_lt_pow_right (by decide) (by omega))
          refine lv_aload_n hx hb dX4_lay_46 rfl (lv_at hl 0 rfl) ?_
          refine ps_geV X hE (m_X4_note l hE hM hs hW) (lw_V q1464 q1466 qs44 q75 q1467) (by decide +kernel) ⟨⟨Nat.le_of_ble_eq_true rfl, Nat.le_of_ble_eq_true rfl⟩, Nat.le_of_ble_eq_true rfl, Nat.le_of_ble_eq_true rfl⟩ (ps_mrc X hM) hS hl.1 (As := []) (rest := []) (n := 0) rfl rfl (Nat.le_of_ble_eq_true rfl) dX4_lay_47 (fun v5 H1 locs2 hp3 hS4 => ?_)
          obtain ⟨hv9, g6, hM7, hf8, hs10⟩ := hp3
          subst hv9
          refine ps_st (st' := []) rfl ?_
          have h1 : 1 ≤ S.2.1 0 1 := Nat.pos_of_ne_zero (fun z => by have := (hO.n z).2; omega)
          have hO2 : sp_ok (va_up (S.2.1 0) 4 (S.2.1 0 4 ^^^ 2 ^ k)) := sp_ok_pan hO hx8
          refine lv_aload_n hx hb dX4_lay_50 rfl (lv_at hl 0 rfl) ?_
          refine ps_mget (v := .ref (o + 4)) X hM7 5 (by decide) q1294 rfl rfl dX4_lay_51 ?_
          refine lv_iconst (v := nI 4) hx hb dX4_lay_54 rfl ?_
          refine lv_dup2_11 hx hb dX4_lay_55 rfl rfl ?_
          refine ps_mld (j := 4) (v := nI ((S.2.1 0) 4)) X hM7 4 (by decide) rfl (by show 4 < 57; omega) ((hσ.ne (by decide)) _ (by show 4 < 57; omega)) dX4_lay_56 ?_
          refine lv_iconst (v := nI 1) hx hb dX4_lay_57 rfl ?_
          refine lv_iload_n hx hb dX4_lay_58 rfl (lv_at hl 1 rfl) ?_
          refine lv_ishl hx hb dX4_lay_59 ?_
          refine ps_top (y := nI (2 ^ k)) (ps_shl1 (by omega)) ?_
          refine lv_ixor hx hb dX4_lay_60 ?_
          refine ps_top (y := nI (S.2.1 0 4 ^^^ 2 ^ k)) (nI_xor _ _) ?_
          refine ps_mst (j := 4) X hM7 4 (by decide) rfl (by show 4 < 57; omega) hS4 dX4_lay_61 (fun H11 locs12 hM13 hf14 hS15 => ?_)
          refine lv_aload_n hx hb dX4_lay_62 rfl (lv_at hl 0 rfl) ?_
          refine lv_aload_n hx hb dX4_lay_63 rfl (lv_at hl 0 rfl) ?_
          refine ps_mget (v := .ref (o + 4)) X hM13 5 (by decide) q1294 rfl rfl dX4_lay_64 ?_
          refine lv_iconst (v := nI 4) hx hb dX4_lay_67 rfl ?_
          refine ps_mld (j := 4) (v := nI (S.2.1 0 4 ^^^ 2 ^ k)) X hM13 4 (by decide) rfl (by show 4 < 57; omega) ((((hσ.ne (by decide)).up (v := S.2.1 0 4 ^^^ 2 ^ k) rfl) _ (by decide)).trans (congrArg nI (va_up_self _ _ _))) dX4_lay_68 ?_
          refine ps_roV X hE (m_X4_readOf l hE hM13 ((hσ.ne (by decide)).up (v := S.2.1 0 4 ^^^ 2 ^ k) rfl) hO2 (u := S.2.1 0 4 ^^^ 2 ^ k) (by omega) (by first | omega | exact h1)) (lw_V q1468 q1470 qs45 q75 q1471) (by decide +kernel) ⟨⟨Nat.le_of_ble_eq_true rfl, Nat.le_of_ble_eq_true rfl⟩, Nat.le_of_ble_eq_true rfl, Nat.le_of_ble_eq_true rfl⟩ (ps_mrc X hM13) hS15 hl.1 (As := [.int (nI (S.2.1 0 4 ^^^ 2 ^ k))]) (rest := []) (n := 1) rfl rfl (Nat.le_of_ble_eq_true rfl) dX4_lay_69 ?_
          refine ps_st (st' := [.int (nI (sp_read (va_up (S.2.1 0) 4 (S.2.1 0 4 ^^^ 2 ^ k)) (S.2.1 0 4 ^^^ 2 ^ k)))]) rfl ?_
          exact ps_iretG X hS15 (Nat.le_of_ble_eq_true rfl) (Nat.le_of_ble_eq_true rfl) dX4_lay_72 (ps_mend (S := (sSt (sNote S) (va_up (S.2.1 0) 4 (S.2.1 0 4 ^^^ 2 ^ k)))) (by simp [op_lay, c_5, cl_k, c_15, cl_j, c_26, c_40]) hM13 (hs10.st (σ := (va_up (S.2.1 0) 4 (S.2.1 0 4 ^^^ 2 ^ k))) ((hσ.ne (by decide)).up (v := S.2.1 0 4 ^^^ 2 ^ k) rfl) (by simp [sNote_lt, va_up])) (hf8.tr hf14))
        · skip
          refine lv_ldc (v := -1000002) hx hb ho (hts _ q1463) dX4_lay_43 ?_
          exact ps_iretG X hS (Nat.le_of_ble_eq_true rfl) (Nat.le_of_ble_eq_true rfl) dX4_lay_45 (ps_mend (S := S) (by simp [op_lay, c_5, cl_k, c_15, cl_j, c_26, c_40]) hM (hs) ps_Mf.rf)
    · skip
      refine lv_ldc (v := -1000001) hx hb ho (hts _ q1375) dX4_lay_18 ?_
      exact ps_iretG X hS (Nat.le_of_ble_eq_true rfl) (Nat.le_of_ble_eq_true rfl) dX4_lay_20 (ps_mend (S := S) (by simp [op_lay, c_5, cl_k, c_15]) hM (hs) ps_Mf.rf)

set_option maxHeartbeats 4000000 in
theorem m_X4_settle (l : Launch) {E : ps_E} (hE : ps_ZT E) {H : Heap} {o : Nat} {F : Nat → Int32} {A : Nat → Nat → Int32} (hM : ps_Mo E H o F A) {S : SS} (hs : sm F A S) (hW : wf S) {x y : Int32} : ps_Ge l E yX4_settle cX4_settle 3 (some .int) 3 58 0 0 [.ref (o), .int (x), .int (y)] H (ps_mpost E H o (op_settle S x y)) := by
  refine ps_Ge.of (by decide) (Nat.le_of_ble_eq_true rfl) ?_
  intro p e s m args below meth c X ls hl
  have hx := X.1
  have hb := X.2.1
  have ho := X.2.2.2.1
  have hts := X.2.2.2.2.1
  have hS : va_S (ps_A E) s.heap H [] := by rw [X.2.2.2.2.2.2.2.2.1]; exact va_S.rf
  have hl : lv_has ls 3 [(0, .ref (o)), (1, .int (x)), (2, .int (y))] := hl
  have hσ := hs.2.2.2.2.1
  have hO := hW.1
  have hm := hO.m
  have hn := hW.n
  refine lv_aload_n hx hb dX4_settle_0 rfl (lv_at hl 0 rfl) ?_
  refine lv_iload_n hx hb dX4_settle_1 rfl (lv_at hl 1 rfl) ?_
  refine ps_roV X hE (m_X4_isPromise l hE hM hσ hO (x := x)) (lw_V q1455 q1457 qs42 q75 q1458) (by decide +kernel) ⟨⟨Nat.le_of_ble_eq_true rfl, Nat.le_of_ble_eq_true rfl⟩, Nat.le_of_ble_eq_true rfl, Nat.le_of_ble_eq_true rfl⟩ (ps_mrc X hM) hS hl.1 (As := [.int (x)]) (rest := []) (n := 1) rfl rfl (Nat.le_of_ble_eq_true rfl) dX4_settle_2 ?_
  refine ps_st (st' := [.int (bI (rng x 0 ((S.2.1 0) 3)))]) rfl ?_
  refine ps_ifeqB (tgt := 18) hx hb dX4_settle_5 (by decide) (fun c_5 => ?_) (fun c_5 => ?_)
  · skip
    refine lv_ldc (v := -1000001) hx hb ho (hts _ q1375) dX4_settle_18 ?_
    exact ps_iretG X hS (Nat.le_of_ble_eq_true rfl) (Nat.le_of_ble_eq_true rfl) dX4_settle_20 (ps_mend (S := S) (by simp [op_settle, c_5]) hM (hs) ps_Mf.rf)
  · skip
    obtain ⟨k, rfl, k_lo, k_hi, k_b⟩ := rng_t c_5
    have cl_k : (nI k).toNatClampNeg = k := nI_clamp (by omega)
    refine lv_iload_n hx hb dX4_settle_8 rfl (lv_at hl 2 rfl) ?_
    refine lv_i2l (v := (y).toInt64) hx hb dX4_settle_9 rfl ?_
    refine lv_lconst (v := lN 0) hx hb dX4_settle_10 rfl ?_
    refine lv_lconst (v := lN 1) hx hb dX4_settle_11 rfl ?_
    refine ps_roS X hE (m_X4_in l hE (H := H) (x := y) (lo := 0) (hi := 2) (lN_toInt (by decide)) (ps_hcN 1 (by decide))) (lw_S q1371 q1372 q75 q1373) (by decide +kernel) ⟨⟨Nat.le_of_ble_eq_true rfl, Nat.le_of_ble_eq_true rfl⟩, Nat.le_of_ble_eq_true rfl, Nat.le_of_ble_eq_true rfl⟩ hS hl.1 (As := [.long ((y).toInt64), .long (lN 0), .long (lN 1)]) (rest := []) (n := 3) rfl rfl (Nat.le_of_ble_eq_true rfl) dX4_settle_12 ?_
    refine ps_st (st' := [.int (bI (rng y 0 2))]) rfl ?_
    refine ps_ifneB (tgt := 21) hx hb dX4_settle_15 (by decide) (fun c_15 => ?_) (fun c_15 => ?_)
    · skip
      obtain ⟨j, rfl, j_lo, j_hi, j_b⟩ := rng_t c_15
      have cl_j : (nI j).toNatClampNeg = j := nI_clamp (by omega)
      refine lv_aload_n hx hb dX4_settle_21 rfl (lv_at hl 0 rfl) ?_
      refine lv_iload_n hx hb dX4_settle_22 rfl (lv_at hl 1 rfl) ?_
      refine ps_roV X hE (m_X4_isOpen l hE hM hσ hO (k := k) (by omega)) (lw_V q1459 q1461 qs43 q75 q1462) (by decide +kernel) ⟨⟨Nat.le_of_ble_eq_true rfl, Nat.le_of_ble_eq_true rfl⟩, Nat.le_of_ble_eq_true rfl, Nat.le_of_ble_eq_true rfl⟩ (ps_mrc X hM) hS hl.1 (As := [.int (nI k)]) (rest := []) (n := 1) rfl rfl (Nat.le_of_ble_eq_true rfl) dX4_settle_23 ?_
      refine ps_st (st' := [.int (bI (sp_open (S.2.1 0) k))]) rfl ?_
      refine ps_ifneB (tgt := 32) hx hb dX4_settle_26 (by decide) (fun c_26 => ?_) (fun c_26 => ?_)
      · skip
        have hp := hO.p k_hi
        have hq := hO.k (g := S.2.1 0 (17 + k)) (by omega)
        refine lv_aload_n hx hb dX4_settle_32 rfl (lv_at hl 0 rfl) ?_
        refine ps_geV X hE (m_X4_note l hE hM hs hW) (lw_V q1464 q1466 qs44 q75 q1467) (by decide +kernel) ⟨⟨Nat.le_of_ble_eq_true rfl, Nat.le_of_ble_eq_true rfl⟩, Nat.le_of_ble_eq_true rfl, Nat.le_of_ble_eq_true rfl⟩ (ps_mrc X hM) hS hl.1 (As := []) (rest := []) (n := 0) rfl rfl (Nat.le_of_ble_eq_true rfl) dX4_settle_33 (fun v5 H1 locs2 hp3 hS4 => ?_)
        obtain ⟨hv9, g6, hM7, hf8, hs10⟩ := hp3
        subst hv9
        refine ps_st (st' := []) rfl ?_
        refine lv_aload_n hx hb dX4_settle_36 rfl (lv_at hl 0 rfl) ?_
        refine lv_iload_n hx hb dX4_settle_37 rfl (lv_at hl 1 rfl) ?_
        refine lv_iload_n hx hb dX4_settle_38 rfl (lv_at hl 2 rfl) ?_
        refine lv_iconst (v := nI 1) hx hb dX4_settle_39 rfl ?_
        refine ps_cne (tgt := 47) hx hb dX4_settle_40 (by decide) (by omega) (fun c_40 => ?_) (fun c_40 => ?_)
        · skip
          refine lv_iconst (v := nI 0) hx hb dX4_settle_47 rfl ?_
          refine ps_geV X hE (m_X4_settleNow l hE hM7 (hσ.ne (by decide)) hO (k := k) (b := false) (by omega)) (lw_V q1498 q1500 qs50 q75 q1501) (by decide +kernel) ⟨⟨Nat.le_of_ble_eq_true rfl, Nat.le_of_ble_eq_true rfl⟩, Nat.le_of_ble_eq_true rfl, Nat.le_of_ble_eq_true rfl⟩ (ps_mrc X hM7) hS4 hl.1 (As := [.int (nI k), .int (nI 0)]) (rest := []) (n := 2) rfl rfl (Nat.le_of_ble_eq_true rfl) dX4_settle_48 (fun v15 H11 locs12 hp13 hS14 => ?_)
          obtain ⟨hv19, g16, hM17, hf18, hg20⟩ := hp13
          subst hv19
          refine ps_st (st' := []) rfl ?_
          refine lv_aload_n hx hb dX4_settle_51 rfl (lv_at hl 0 rfl) ?_
          refine ps_mget (v := .ref (o + 4)) X hM17 5 (by decide) q1294 rfl rfl dX4_settle_52 ?_
          refine lv_iconst (v := nI 5) hx hb dX4_settle_55 rfl ?_
          refine lv_aload_n hx hb dX4_settle_56 rfl (lv_at hl 0 rfl) ?_
          refine ps_mget (v := .ref (o + 4)) X hM17 5 (by decide) q1294 rfl rfl dX4_settle_57 ?_
          refine lv_bipush (v := nI 17) hx hb dX4_settle_60 rfl ?_
          refine lv_iload_n hx hb dX4_settle_62 rfl (lv_at hl 1 rfl) ?_
          refine ps_iadd hx hb dX4_settle_63 ?_
          refine ps_mld (j := 17 + k) (v := nI (S.2.1 0 (17 + k))) X hM17 4 (by decide) rfl (by show 17 + k < 57; omega) ((hg20 _ (by omega)).trans (congrArg nI (sp_settle_o (by omega) (by omega) (by omega)))) dX4_settle_64 ?_
          refine ps_iadd hx hb dX4_settle_65 ?_
          refine ps_mld (j := 5 + (S.2.1 0 (17 + k))) (v := nI ((sp_settle (S.2.1 0) k false) (5 + (S.2.1 0 (17 + k))))) X hM17 4 (by decide) rfl (by show 5 + (S.2.1 0 (17 + k)) < 57; omega) (hg20 _ (by show 5 + (S.2.1 0 (17 + k)) < 57; omega)) dX4_settle_66 ?_
          exact ps_iretG X hS14 (Nat.le_of_ble_eq_true rfl) (Nat.le_of_ble_eq_true rfl) dX4_settle_67 (ps_mend (S := (sSt (sNote S) (sp_settle (S.2.1 0) k false))) (by simp [op_settle, c_5, cl_k, c_15, cl_j, c_26, c_40]) hM17 (hs10.st (σ := (sp_settle (S.2.1 0) k false)) hg20 (by rw [sp_settle_o (by omega) (by omega) (by omega), sNote_lt (by decide)])) (hf8.tr hf18))
        · skip
          refine lv_iconst (v := nI 1) hx hb dX4_settle_43 rfl ?_
          refine lv_goto (tgt := 48) hx hb dX4_settle_44 (by decide) ?_
          refine ps_geV X hE (m_X4_settleNow l hE hM7 (hσ.ne (by decide)) hO (k := k) (b := true) (by omega)) (lw_V q1498 q1500 qs50 q75 q1501) (by decide +kernel) ⟨⟨Nat.le_of_ble_eq_true rfl, Nat.le_of_ble_eq_true rfl⟩, Nat.le_of_ble_eq_true rfl, Nat.le_of_ble_eq_true rfl⟩ (ps_mrc X hM7) hS4 hl.1 (As := [.int (nI k), .int (nI 1)]) (rest := []) (n := 2) rfl rfl (Nat.le_of_ble_eq_true rfl) dX4_settle_48 (fun v25 H21 locs22 hp23 hS24 => ?_)
          obtain ⟨hv29, g26, hM27, hf28, hg30⟩ := hp23
          subst hv29
          refine ps_st (st' := []) rfl ?_
          refine lv_aload_n hx hb dX4_settle_51 rfl (lv_at hl 0 rfl) ?_
          refine ps_mget (v := .ref (o + 4)) X hM27 5 (by decide) q1294 rfl rfl dX4_settle_52 ?_
          refine lv_iconst (v := nI 5) hx hb dX4_settle_55 rfl ?_
          refine lv_aload_n hx hb dX4_settle_56 rfl (lv_at hl 0 rfl) ?_
          refine ps_mget (v := .ref (o + 4)) X hM27 5 (by decide) q1294 rfl rfl dX4_settle_57 ?_
          refine lv_bipush (v := nI 17) hx hb dX4_settle_60 rfl ?_
          refine lv_iload_n hx hb dX4_settle_62 rfl (lv_at hl 1 rfl) ?_
          refine ps_iadd hx hb dX4_settle_63 ?_
          refine ps_mld (j := 17 + k) (v := nI (S.2.1 0 (17 + k))) X hM27 4 (by decide) rfl (by show 17 + k < 57; omega) ((hg30 _ (by omega)).trans (congrArg nI (sp_settle_o (by omega) (by omega) (by omega)))) dX4_settle_64 ?_
          refine ps_iadd hx hb dX4_settle_65 ?_
          refine ps_mld (j := 5 + (S.2.1 0 (17 + k))) (v := nI ((sp_settle (S.2.1 0) k true) (5 + (S.2.1 0 (17 + k))))) X hM27 4 (by decide) rfl (by show 5 + (S.2.1 0 (17 + k)) < 57; omega) (hg30 _ (by show 5 + (S.2.1 0 (17 + k)) < 57; omega)) dX4_settle_66 ?_
          exact ps_iretG X hS24 (Nat.le_of_ble_eq_true rfl) (Nat.le_of_ble_eq_true rfl) dX4_settle_67 (ps_mend (S := (sSt (sNote S) (sp_settle (S.2.1 0) k true))) (by subst c_40; simp [op_settle, c_5, cl_k, c_15, cl_j, c_26]) hM27 (hs10.st (σ := (sp_settle (S.2.1 0) k true)) hg30 (by rw [sp_settle_o (by omega) (by omega) (by omega), sNote_lt (by decide)])) (hf8.tr hf28))
      · skip
        refine lv_ldc (v := -1000002) hx hb ho (hts _ q1463) dX4_settle_29 ?_
        exact ps_iretG X hS (Nat.le_of_ble_eq_true rfl) (Nat.le_of_ble_eq_true rfl) dX4_settle_31 (ps_mend (S := S) (by simp [op_settle, c_5, cl_k, c_15, cl_j, c_26]) hM (hs) ps_Mf.rf)
    · skip
      refine lv_ldc (v := -1000001) hx hb ho (hts _ q1375) dX4_settle_18 ?_
      exact ps_iretG X hS (Nat.le_of_ble_eq_true rfl) (Nat.le_of_ble_eq_true rfl) dX4_settle_20 (ps_mend (S := S) (by simp [op_settle, c_5, cl_k, c_15]) hM (hs) ps_Mf.rf)

set_option maxHeartbeats 4000000 in
theorem m_X4_as (l : Launch) {E : ps_E} (hE : ps_ZT E) {H : Heap} {o : Nat} {F : Nat → Int32} {A : Nat → Nat → Int32} (hM : ps_Mo E H o F A) {S : SS} (hs : sm F A S) (hW : wf S) {x y : Int32} : ps_Ge l E yX4_as cX4_as 3 (some .int) 3 58 0 0 [.ref (o), .int (x), .int (y)] H (ps_mpost E H o (op_as S x y)) := by
  refine ps_Ge.of (by decide) (Nat.le_of_ble_eq_true rfl) ?_
  intro p e s m args below meth c X ls hl
  have hx := X.1
  have hb := X.2.1
  have ho := X.2.2.2.1
  have hts := X.2.2.2.2.1
  have hS : va_S (ps_A E) s.heap H [] := by rw [X.2.2.2.2.2.2.2.2.1]; exact va_S.rf
  have hl : lv_has ls 3 [(0, .ref (o)), (1, .int (x)), (2, .int (y))] := hl
  have hσ := hs.2.2.2.2.1
  have hO := hW.1
  have hm := hO.m
  have hn := hW.n
  refine lv_aload_n hx hb dX4_as_0 rfl (lv_at hl 0 rfl) ?_
  refine lv_iload_n hx hb dX4_as_1 rfl (lv_at hl 1 rfl) ?_
  refine ps_roV X hE (m_X4_isPromise l hE hM hσ hO (x := x)) (lw_V q1455 q1457 qs42 q75 q1458) (by decide +kernel) ⟨⟨Nat.le_of_ble_eq_true rfl, Nat.le_of_ble_eq_true rfl⟩, Nat.le_of_ble_eq_true rfl, Nat.le_of_ble_eq_true rfl⟩ (ps_mrc X hM) hS hl.1 (As := [.int (x)]) (rest := []) (n := 1) rfl rfl (Nat.le_of_ble_eq_true rfl) dX4_as_2 ?_
  refine ps_st (st' := [.int (bI (rng x 0 ((S.2.1 0) 3)))]) rfl ?_
  refine ps_ifeqB (tgt := 20) hx hb dX4_as_5 (by decide) (fun c_5 => ?_) (fun c_5 => ?_)
  · skip
    refine lv_ldc (v := -1000001) hx hb ho (hts _ q1375) dX4_as_20 ?_
    exact ps_iretG X hS (Nat.le_of_ble_eq_true rfl) (Nat.le_of_ble_eq_true rfl) dX4_as_22 (ps_mend (S := S) (by simp [op_as, c_5]) hM (hs) ps_Mf.rf)
  · skip
    obtain ⟨k, rfl, k_lo, k_hi, k_b⟩ := rng_t c_5
    have cl_k : (nI k).toNatClampNeg = k := nI_clamp (by omega)
    refine lv_iload_n hx hb dX4_as_8 rfl (lv_at hl 2 rfl) ?_
    refine lv_i2l (v := (y).toInt64) hx hb dX4_as_9 rfl ?_
    refine lv_lconst (v := lN 0) hx hb dX4_as_10 rfl ?_
    refine lv_ldc2 (v := 5) hx hb ho (hts _ q1561) dX4_as_11 ?_
    refine ps_roS X hE (m_X4_in l hE (H := H) (x := y) (lo := 0) (hi := 6) (lN_toInt (by decide)) (ps_hcL (k := 5) (by decide +kernel))) (lw_S q1371 q1372 q75 q1373) (by decide +kernel) ⟨⟨Nat.le_of_ble_eq_true rfl, Nat.le_of_ble_eq_true rfl⟩, Nat.le_of_ble_eq_true rfl, Nat.le_of_ble_eq_true rfl⟩ hS hl.1 (As := [.long ((y).toInt64), .long (lN 0), .long (5)]) (rest := []) (n := 3) rfl rfl (Nat.le_of_ble_eq_true rfl) dX4_as_14 ?_
    refine ps_st (st' := [.int (bI (rng y 0 6))]) rfl ?_
    refine ps_ifneB (tgt := 23) hx hb dX4_as_17 (by decide) (fun c_17 => ?_) (fun c_17 => ?_)
    · skip
      obtain ⟨j, rfl, j_lo, j_hi, j_b⟩ := rng_t c_17
      have cl_j : (nI j).toNatClampNeg = j := nI_clamp (by omega)
      have hp := hO.p k_hi
      refine lv_aload_n hx hb dX4_as_23 rfl (lv_at hl 0 rfl) ?_
      refine ps_mget (v := .ref (o + 4)) X hM 5 (by decide) q1294 rfl rfl dX4_as_24 ?_
      refine lv_bipush (v := nI 9) hx hb dX4_as_27 rfl ?_
      refine lv_iload_n hx hb dX4_as_29 rfl (lv_at hl 1 rfl) ?_
      refine ps_iadd hx hb dX4_as_30 ?_
      refine ps_mld (j := 9 + k) (v := nI ((S.2.1 0) (9 + k))) X hM 4 (by decide) rfl (by show 9 + k < 57; omega) (hσ _ (by show 9 + k < 57; omega)) dX4_as_31 ?_
      refine lv_iload_n hx hb dX4_as_32 rfl (lv_at hl 2 rfl) ?_
      refine ps_roS X hE (m_X4_isKind l hE (H := H) (u := (S.2.1 0) (9 + k)) (k := j) (by omega) (by omega)) (lw_S q1625 q1626 q75 q1627) (by decide +kernel) ⟨⟨Nat.le_of_ble_eq_true rfl, Nat.le_of_ble_eq_true rfl⟩, Nat.le_of_ble_eq_true rfl, Nat.le_of_ble_eq_true rfl⟩ hS hl.1 (As := [.int (nI ((S.2.1 0) (9 + k))), .int (nI j)]) (rest := []) (n := 2) rfl rfl (Nat.le_of_ble_eq_true rfl) dX4_as_33 ?_
      refine ps_st (st' := [.int (bI (sp_isK ((S.2.1 0) (9 + k)) j))]) rfl ?_
      refine ps_ifeqB (tgt := 47) hx hb dX4_as_36 (by decide) (fun c_36 => ?_) (fun c_36 => ?_)
      · skip
        refine lv_aload_n hx hb dX4_as_47 rfl (lv_at hl 0 rfl) ?_
        refine lv_iconst (v := nI 3) hx hb dX4_as_48 rfl ?_
        refine ps_geV X hE (m_X4_find l hE hM (f := 3) (by omega)) (lw_V q1376 q1378 qs32 q75 q1379) (by decide +kernel) ⟨⟨Nat.le_of_ble_eq_true rfl, Nat.le_of_ble_eq_true rfl⟩, Nat.le_of_ble_eq_true rfl, Nat.le_of_ble_eq_true rfl⟩ (ps_mrc X hM) hS hl.1 (As := [.int (nI 3)]) (rest := []) (n := 1) rfl rfl (Nat.le_of_ble_eq_true rfl) dX4_as_49 (fun v5 H1 locs2 hp3 hS4 => ?_)
        obtain ⟨hv8, hM6, hf7⟩ := hp3
        subst hv8
        refine ps_st (st' := [.int (fnd 3)]) rfl ?_
        exact ps_iretG X hS4 (Nat.le_of_ble_eq_true rfl) (Nat.le_of_ble_eq_true rfl) dX4_as_52 (ps_mend (S := (sStat S 3)) (by simp [op_as, c_5, cl_k, c_17, cl_j, c_36]) hM6 (hs.stat 3) hf7)
      · skip
        refine lv_aload_n hx hb dX4_as_39 rfl (lv_at hl 0 rfl) ?_
        refine lv_iload_n hx hb dX4_as_40 rfl (lv_at hl 1 rfl) ?_
        refine ps_geV X hE (m_X4_well l hE hM (x := nI k)) (lw_V q1381 q1383 qs33 q75 q1384) (by decide +kernel) ⟨⟨Nat.le_of_ble_eq_true rfl, Nat.le_of_ble_eq_true rfl⟩, Nat.le_of_ble_eq_true rfl, Nat.le_of_ble_eq_true rfl⟩ (ps_mrc X hM) hS hl.1 (As := [.int (nI k)]) (rest := []) (n := 1) rfl rfl (Nat.le_of_ble_eq_true rfl) dX4_as_41 (fun v13 H9 locs10 hp11 hS12 => ?_)
        obtain ⟨hv16, hM14, hf15⟩ := hp11
        subst hv16
        refine ps_st (st' := [.int (nI k)]) rfl ?_
        refine lv_goto (tgt := 52) hx hb dX4_as_44 (by decide) ?_
        exact ps_iretG X hS12 (Nat.le_of_ble_eq_true rfl) (Nat.le_of_ble_eq_true rfl) dX4_as_52 (ps_mend (S := (sStat S 0)) (by simp [op_as, c_5, cl_k, c_17, cl_j, c_36]) hM14 (hs.stat 0) hf15)
    · skip
      refine lv_ldc (v := -1000001) hx hb ho (hts _ q1375) dX4_as_20 ?_
      exact ps_iretG X hS (Nat.le_of_ble_eq_true rfl) (Nat.le_of_ble_eq_true rfl) dX4_as_22 (ps_mend (S := S) (by simp [op_as, c_5, cl_k, c_17]) hM (hs) ps_Mf.rf)
