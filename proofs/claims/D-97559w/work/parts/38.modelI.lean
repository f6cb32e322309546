/-! the model: the text of scales (printed by gen/model9.py) -/
set_option maxRecDepth 100000
set_option maxHeartbeats 4000000 in
theorem m_X4_nextToken (l : Launch) {E : ps_E} (hE : ps_ZT E) {H : Heap} {o : Nat} {F : Nat → Int32} {A : Nat → Nat → Int32} (hM : ps_Mo E H o F A) {tb : Nat → Nat} {tn b : Nat} (hT : pt_T F A tb tn) (hb10 : F 10 = nI b) (hbn : b ≤ tn) : ps_Ge l E yX4_nextToken cX4_nextToken 1 none 2 37 0 0 [.ref (o)] H (fun v H1 => v = none ∧ ∃ F1, ps_Mo E H1 o F1 A ∧ ps_Mf o H H1 ∧ pt_sc F A F1 A ∧ pt_at F1 tb tn b) := by
  refine ps_Ge.of (by decide) (Nat.le_of_ble_eq_true rfl) ?_
  intro p e s m args below meth c X ls hl
  have hx := X.1
  have hb := X.2.1
  have ho := X.2.2.2.1
  have hts := X.2.2.2.2.1
  have hS : va_S (ps_A E) s.heap H [] := by rw [X.2.2.2.2.2.2.2.2.1]; exact va_S.rf
  have hl : lv_has ls 1 [(0, .ref (o))] := hl
  have hn := hT.2.1
  refine lv_aload_n hx hb dX4_nextToken_0 rfl (lv_at hl 0 rfl) ?_
  refine lv_aload_n hx hb dX4_nextToken_1 rfl (lv_at hl 0 rfl) ?_
  refine ps_mget (v := .int (F 10)) X hM 10 (by decide) q1299 rfl rfl dX4_nextToken_2 ?_
  refine ps_top (y := nI b) (hb10) ?_
  refine ps_mput X hM 13 (by decide) q1302 rfl rfl rfl rfl hS dX4_nextToken_5 (fun H1 locs2 hM3 hf4 hS5 => ?_)
  refine lv_aload_n hx hb dX4_nextToken_8 rfl (lv_at hl 0 rfl) ?_
  have J25 : W p l e ({ frames := 2, cells := 0, slots := 0, locals := 37 } : Room) s m args below meth c H1 locs2 0 0 (MQ below (ps_ge (fun v H1 => v = none ∧ ∃ F1, ps_Mo E H1 o F1 A ∧ ps_Mf o H H1 ∧ pt_sc F A F1 A ∧ pt_at F1 tb tn b) (ps_A E)) args s 0 0 (ps_A E)) (F0 m 25 ls [.int (nI (if b = tn then 3 else 0)), .ref (o)]) := by
    refine ps_mput X hM3 11 (by decide) q1300 rfl rfl rfl rfl hS5 dX4_nextToken_25 (fun H6 locs7 hM8 hf9 hS10 => ?_)
    refine lv_aload_n hx hb dX4_nextToken_28 rfl (lv_at hl 0 rfl) ?_
    refine lv_iconst (v := nI 0) hx hb dX4_nextToken_29 rfl ?_
    refine ps_mput X hM8 12 (by decide) q1301 rfl rfl rfl rfl hS10 dX4_nextToken_30 (fun H11 locs12 hM13 hf14 hS15 => ?_)
    have L33 : ∀ (n : Nat) (q1 v : Nat) (Fk33 : Nat → Int32) (Hk33 : Heap) (lk33 : List Loc) (hpn : b ≤ q1 ∧ q1 ≤ tn) (hend : tk_end tb tn q1 = tk_end tb tn b) (hvl : v < 1000 ∧ (q1 ≤ b + 1 → v ≤ 9)) (hvp : q1 ≤ b + 2 → v = tk_num tb b (q1 - b)) (hMk33 : ps_Mo E Hk33 o Fk33 A) (hFk33 : ps_Mf o H Hk33) (hsk33 : pt_sc F A Fk33 A) (hk10 : Fk33 10 = nI q1) (hk11 : Fk33 11 = nI (if b = tn then 3 else 0)) (hk12 : Fk33 12 = nI v) (hk13 : Fk33 13 = nI b) (hSk33 : va_S (ps_A E) s.heap Hk33 lk33) (hmu : tn - q1 < n) (ls : Array Slot) (hl : lv_has ls 1 [(0, .ref (o))]), W p l e ({ frames := 2, cells := 0, slots := 0, locals := 37 } : Room) s m args below meth c Hk33 lk33 0 0 (MQ below (ps_ge (fun v H1 => v = none ∧ ∃ F1, ps_Mo E H1 o F1 A ∧ ps_Mf o H H1 ∧ pt_sc F A F1 A ∧ pt_at F1 tb tn b) (ps_A E)) args s 0 0 (ps_A E)) (F0 m 33 ls []) := by
      intro n
      induction n with
      | zero => intro q1 v Fk33 Hk33 lk33 hpn hend hvl hvp hMk33 hFk33 hsk33 hk10 hk11 hk12 hk13 hSk33 hmu; exact absurd hmu (Nat.not_lt_zero _)
      | succ n ih33 =>
        intro q1 v Fk33 Hk33 lk33 hpn hend hvl hvp hMk33 hFk33 hsk33 hk10 hk11 hk12 hk13 hSk33 hmu ls hl
        refine lv_aload_n hx hb dX4_nextToken_33 rfl (lv_at hl 0 rfl) ?_
        refine ps_mget (v := .int (Fk33 10)) X hMk33 10 (by decide) q1299 rfl rfl dX4_nextToken_34 ?_
        refine ps_top (y := nI q1) (hk10) ?_
        refine lv_aload_n hx hb dX4_nextToken_37 rfl (lv_at hl 0 rfl) ?_
        refine ps_mget (v := .int (Fk33 8)) X hMk33 8 (by decide) q1297 rfl rfl dX4_nextToken_38 ?_
        refine ps_top (y := nI tn) ((hT.sc hsk33).1) ?_
        refine ps_cge (tgt := 119) hx hb dX4_nextToken_41 (by decide) (by omega) (fun c_41 => ?_) (fun c_41 => ?_)
        · skip
          have he : tk_end tb tn b = q1 := hend.symm.trans (tk_end_0 fun q => absurd q (by omega))
          have hpn := hpn.2
          refine lv_aload_n hx hb dX4_nextToken_119 rfl (lv_at hl 0 rfl) ?_
          refine ps_mget (v := .int (Fk33 10)) X hMk33 10 (by decide) q1299 rfl rfl dX4_nextToken_120 ?_
          refine ps_top (y := nI q1) (hk10) ?_
          refine lv_aload_n hx hb dX4_nextToken_123 rfl (lv_at hl 0 rfl) ?_
          refine ps_mget (v := .int (Fk33 13)) X hMk33 13 (by decide) q1302 rfl rfl dX4_nextToken_124 ?_
          refine ps_top (y := nI b) (hk13) ?_
          refine ps_cle (tgt := 155) hx hb dX4_nextToken_127 (by decide) (by omega) (fun c_127 => ?_) (fun c_127 => ?_)
          · skip
            have hpe : q1 = b := by omega
            refine lv_aload_n hx hb dX4_nextToken_155 rfl (lv_at hl 0 rfl) ?_
            have h3 : (if b = tn then 3 else 0) ≤ 3 := by split <;> omega
            refine ps_mget (v := .int (Fk33 11)) X hMk33 11 (by decide) q1300 rfl rfl dX4_nextToken_156 ?_
            refine ps_top (y := nI (if b = tn then 3 else 0)) (hk11) ?_
            refine ps_ifne (tgt := 229) hx hb dX4_nextToken_159 (by decide) (by omega) (fun c_159 => ?_) (fun c_159 => ?_)
            · skip
              have hbe : b = tn := Classical.byContradiction fun q => c_159 (if_neg q)
              exact ps_vretG X hSk33 (Nat.le_of_ble_eq_true rfl) (Nat.le_of_ble_eq_true rfl) dX4_nextToken_229 (⟨rfl, _, hMk33, hFk33, hsk33, pt_at_2 hbe hk13 (hk10.trans (congrArg nI hpe)) (hk11.trans (congrArg nI (if_pos hbe)))⟩)
            · skip
              have hbl : b < tn := by
                rcases Nat.lt_or_eq_of_le hbn with q | q
                · exact q
                · rw [if_pos q] at c_159; exact absurd c_159 (by decide)
              refine lv_aload_n hx hb dX4_nextToken_162 rfl (lv_at hl 0 rfl) ?_
              refine lv_aload_n hx hb dX4_nextToken_163 rfl (lv_at hl 0 rfl) ?_
              refine ps_mget (v := .ref (o + 6)) X hMk33 7 (by decide) q1296 rfl rfl dX4_nextToken_164 ?_
              refine lv_aload_n hx hb dX4_nextToken_167 rfl (lv_at hl 0 rfl) ?_
              refine ps_mget (v := .int (Fk33 10)) X hMk33 10 (by decide) q1299 rfl rfl dX4_nextToken_168 ?_
              refine ps_top (y := nI q1) (hk10) ?_
              refine ps_mld (j := q1) (v := nI (tb q1)) X hMk33 6 (by decide) rfl (by show q1 < 120; omega) (hT.2.2.1 _ (by omega)) dX4_nextToken_171 ?_
              refine ps_mput X hMk33 12 (by decide) q1301 rfl rfl rfl rfl hSk33 dX4_nextToken_172 (fun H16 locs17 hM18 hf19 hS20 => ?_)
              refine lv_aload_n hx hb dX4_nextToken_175 rfl (lv_at hl 0 rfl) ?_
              have J216 : W p l e ({ frames := 2, cells := 0, slots := 0, locals := 37 } : Room) s m args below meth c H16 locs17 0 0 (MQ below (ps_ge (fun v H1 => v = none ∧ ∃ F1, ps_Mo E H1 o F1 A ∧ ps_Mf o H H1 ∧ pt_sc F A F1 A ∧ pt_at F1 tb tn b) (ps_A E)) args s 0 0 (ps_A E)) (F0 m 216 ls [.int (nI (if tk_lt (tb q1) = true then 1 else 0)), .ref (o)]) := by
                refine ps_mput X hM18 11 (by decide) q1300 rfl rfl rfl rfl hS20 dX4_nextToken_216 (fun H21 locs22 hM23 hf24 hS25 => ?_)
                refine lv_aload_n hx hb dX4_nextToken_219 rfl (lv_at hl 0 rfl) ?_
                refine lv_dup hx hb dX4_nextToken_220 rfl ?_
                refine ps_mget (v := .int ((va_up (va_up Fk33 12 (nI (tb q1))) 11 (nI (if tk_lt (tb q1) = true then 1 else 0))) 10)) X hM23 10 (by decide) q1299 rfl rfl dX4_nextToken_221 ?_
                refine ps_top (y := nI q1) (hk10) ?_
                refine lv_iconst (v := nI 1) hx hb dX4_nextToken_224 rfl ?_
                refine ps_iadd hx hb dX4_nextToken_225 ?_
                refine ps_mput X hM23 10 (by decide) q1299 rfl rfl rfl rfl hS25 dX4_nextToken_226 (fun H26 locs27 hM28 hf29 hS30 => ?_)
                exact ps_vretG X hS30 (Nat.le_of_ble_eq_true rfl) (Nat.le_of_ble_eq_true rfl) dX4_nextToken_229 (⟨rfl, _, hM28, (((hFk33.tr hf19).tr hf24).tr hf29), (((hsk33.f (by decide)).f (by decide)).f (by decide)), by subst hpe; exact pt_at_3 hbl he hk13 rfl rfl rfl⟩)
              refine lv_aload_n hx hb dX4_nextToken_176 rfl (lv_at hl 0 rfl) ?_
              refine ps_mget (v := .int (nI (tb q1))) X hM18 12 (by decide) q1301 rfl rfl dX4_nextToken_177 ?_
              refine lv_i2l (v := (nI (tb q1)).toInt64) hx hb dX4_nextToken_180 rfl ?_
              refine lv_ldc2 (v := 97) hx hb ho (hts _ q1420) dX4_nextToken_181 ?_
              refine lv_ldc2 (v := 122) hx hb ho (hts _ q1421) dX4_nextToken_184 ?_
              refine ps_roS X hE (m_X4_in l hE (H := H16) (x := nI (tb q1)) (lo := 97) (hi := 123) (by decide) (ps_hcL (k := 122) (by decide +kernel))) (lw_S q1371 q1372 q75 q1373) (by decide +kernel) ⟨⟨Nat.le_of_ble_eq_true rfl, Nat.le_of_ble_eq_true rfl⟩, Nat.le_of_ble_eq_true rfl, Nat.le_of_ble_eq_true rfl⟩ hS20 hl.1 (As := [.long ((nI (tb q1)).toInt64), .long (97), .long (122)]) (rest := [.ref (o)]) (n := 3) rfl rfl (Nat.le_of_ble_eq_true rfl) dX4_nextToken_187 ?_
              refine ps_st (st' := [.int (bI (rng (nI (tb q1)) 97 123)), .ref (o)]) rfl ?_
              refine ps_ifneB (tgt := 211) hx hb dX4_nextToken_190 (by decide) (fun c_190 => ?_) (fun c_190 => ?_)
              · skip
                have hlt1 := tk_lt_1 (show tb q1 < 2147483648 by omega) (Or.inl c_190)
                refine lv_iconst (v := nI 1) hx hb dX4_nextToken_211 rfl ?_
                refine lv_goto (tgt := 216) hx hb dX4_nextToken_212 (by decide) ?_
                exact ps_top (congrArg nI (if_pos hlt1).symm) J216
              · skip
                refine lv_aload_n hx hb dX4_nextToken_193 rfl (lv_at hl 0 rfl) ?_
                refine ps_mget (v := .int (nI (tb q1))) X hM18 12 (by decide) q1301 rfl rfl dX4_nextToken_194 ?_
                refine lv_bipush (v := nI 44) hx hb dX4_nextToken_197 rfl ?_
                refine ps_ceq (tgt := 211) hx hb dX4_nextToken_199 (by decide) (by omega) (fun c_199 => ?_) (fun c_199 => ?_)
                · skip
                  have hlt1 := tk_lt_1 (show tb q1 < 2147483648 by omega) (Or.inr (Or.inl c_199))
                  refine lv_iconst (v := nI 1) hx hb dX4_nextToken_211 rfl ?_
                  refine lv_goto (tgt := 216) hx hb dX4_nextToken_212 (by decide) ?_
                  exact ps_top (congrArg nI (if_pos hlt1).symm) J216
                · skip
                  refine lv_aload_n hx hb dX4_nextToken_202 rfl (lv_at hl 0 rfl) ?_
                  refine ps_mget (v := .int (nI (tb q1))) X hM18 12 (by decide) q1301 rfl rfl dX4_nextToken_203 ?_
                  refine lv_bipush (v := nI 59) hx hb dX4_nextToken_206 rfl ?_
                  refine ps_cne (tgt := 215) hx hb dX4_nextToken_208 (by decide) (by omega) (fun c_208 => ?_) (fun c_208 => ?_)
                  · skip
                    refine lv_iconst (v := nI 0) hx hb dX4_nextToken_215 rfl ?_
                    exact ps_top (congrArg nI (if_neg (by rw [tk_lt_0 (by omega) c_190 c_199 c_208]; decide)).symm) J216
                  · skip
                    have hlt1 := tk_lt_1 (show tb q1 < 2147483648 by omega) (Or.inr (Or.inr c_208))
                    refine lv_iconst (v := nI 1) hx hb dX4_nextToken_211 rfl ?_
                    refine lv_goto (tgt := 216) hx hb dX4_nextToken_212 (by decide) ?_
                    exact ps_top (congrArg nI (if_pos hlt1).symm) J216
          · skip
            refine lv_aload_n hx hb dX4_nextToken_130 rfl (lv_at hl 0 rfl) ?_
            have J149 : W p l e ({ frames := 2, cells := 0, slots := 0, locals := 37 } : Room) s m args below meth c Hk33 lk33 0 0 (MQ below (ps_ge (fun v H1 => v = none ∧ ∃ F1, ps_Mo E H1 o F1 A ∧ ps_Mf o H H1 ∧ pt_sc F A F1 A ∧ pt_at F1 tb tn b) (ps_A E)) args s 0 0 (ps_A E)) (F0 m 149 ls [.int (nI (if b + 2 < q1 then 0 else 2)), .ref (o)]) := by
              refine ps_mput X hMk33 11 (by decide) q1300 rfl rfl rfl rfl hSk33 dX4_nextToken_149 (fun H31 locs32 hM33 hf34 hS35 => ?_)
              refine lv_goto (tgt := 229) hx hb dX4_nextToken_152 (by decide) ?_
              exact ps_vretG X hS35 (Nat.le_of_ble_eq_true rfl) (Nat.le_of_ble_eq_true rfl) dX4_nextToken_229 (⟨rfl, _, hM33, (hFk33.tr hf34), (hsk33.f (by decide)), pt_at_1 hbn he (by omega) hpn hk13 hk10 hk12 hvp rfl⟩)
            refine lv_aload_n hx hb dX4_nextToken_131 rfl (lv_at hl 0 rfl) ?_
            refine ps_mget (v := .int (Fk33 10)) X hMk33 10 (by decide) q1299 rfl rfl dX4_nextToken_132 ?_
            refine ps_top (y := nI q1) (hk10) ?_
            refine lv_aload_n hx hb dX4_nextToken_135 rfl (lv_at hl 0 rfl) ?_
            refine ps_mget (v := .int (Fk33 13)) X hMk33 13 (by decide) q1302 rfl rfl dX4_nextToken_136 ?_
            refine ps_top (y := nI b) (hk13) ?_
            refine ps_isub hx hb dX4_nextToken_139 (by omega) ?_
            refine lv_iconst (v := nI 2) hx hb dX4_nextToken_140 rfl ?_
            refine ps_cle (tgt := 148) hx hb dX4_nextToken_141 (by decide) (by omega) (fun c_141 => ?_) (fun c_141 => ?_)
            · skip
              refine lv_iconst (v := nI 2) hx hb dX4_nextToken_148 rfl ?_
              exact ps_top (congrArg nI (if_neg (by omega)).symm) J149
            · skip
              refine lv_iconst (v := nI 0) hx hb dX4_nextToken_144 rfl ?_
              refine lv_goto (tgt := 149) hx hb dX4_nextToken_145 (by decide) ?_
              exact ps_top (congrArg nI (if_pos (by omega)).symm) J149
        · skip
          refine lv_aload_n hx hb dX4_nextToken_44 rfl (lv_at hl 0 rfl) ?_
          refine ps_mget (v := .ref (o + 6)) X hMk33 7 (by decide) q1296 rfl rfl dX4_nextToken_45 ?_
          refine lv_aload_n hx hb dX4_nextToken_48 rfl (lv_at hl 0 rfl) ?_
          refine ps_mget (v := .int (Fk33 10)) X hMk33 10 (by decide) q1299 rfl rfl dX4_nextToken_49 ?_
          refine ps_top (y := nI q1) (hk10) ?_
          refine ps_mld (j := q1) (v := nI (tb q1)) X hMk33 6 (by decide) rfl (by show q1 < 120; omega) (hT.2.2.1 _ (by omega)) dX4_nextToken_52 ?_
          have ht := hT.2.2.2 q1 (by omega)
          refine lv_i2l (v := (nI (tb q1)).toInt64) hx hb dX4_nextToken_53 rfl ?_
          refine lv_ldc2 (v := 48) hx hb ho (hts _ q1418) dX4_nextToken_54 ?_
          refine lv_ldc2 (v := 57) hx hb ho (hts _ q1419) dX4_nextToken_57 ?_
          refine ps_roS X hE (m_X4_in l hE (H := Hk33) (x := nI (tb q1)) (lo := 48) (hi := 58) (by decide) (ps_hcL (k := 57) (by decide +kernel))) (lw_S q1371 q1372 q75 q1373) (by decide +kernel) ⟨⟨Nat.le_of_ble_eq_true rfl, Nat.le_of_ble_eq_true rfl⟩, Nat.le_of_ble_eq_true rfl, Nat.le_of_ble_eq_true rfl⟩ hSk33 hl.1 (As := [.long ((nI (tb q1)).toInt64), .long (48), .long (57)]) (rest := []) (n := 3) rfl rfl (Nat.le_of_ble_eq_true rfl) dX4_nextToken_60 ?_
          refine ps_st (st' := [.int (bI (rng (nI (tb q1)) 48 58))]) rfl ?_
          refine ps_ifeqB (tgt := 119) hx hb dX4_nextToken_63 (by decide) (fun c_63 => ?_) (fun c_63 => ?_)
          · skip
            have he : tk_end tb tn b = q1 := hend.symm.trans (tk_end_0 fun q => (tk_dig_r (by omega)).symm.trans c_63)
            have hpn := hpn.2
            refine lv_aload_n hx hb dX4_nextToken_119 rfl (lv_at hl 0 rfl) ?_
            refine ps_mget (v := .int (Fk33 10)) X hMk33 10 (by decide) q1299 rfl rfl dX4_nextToken_120 ?_
            refine ps_top (y := nI q1) (hk10) ?_
            refine lv_aload_n hx hb dX4_nextToken_123 rfl (lv_at hl 0 rfl) ?_
            refine ps_mget (v := .int (Fk33 13)) X hMk33 13 (by decide) q1302 rfl rfl dX4_nextToken_124 ?_
            refine ps_top (y := nI b) (hk13) ?_
            refine ps_cle (tgt := 155) hx hb dX4_nextToken_127 (by decide) (by omega) (fun c_127 => ?_) (fun c_127 => ?_)
            · skip
              have hpe : q1 = b := by omega
              refine lv_aload_n hx hb dX4_nextToken_155 rfl (lv_at hl 0 rfl) ?_
              have h3 : (if b = tn then 3 else 0) ≤ 3 := by split <;> omega
              refine ps_mget (v := .int (Fk33 11)) X hMk33 11 (by decide) q1300 rfl rfl dX4_nextToken_156 ?_
              refine ps_top (y := nI (if b = tn then 3 else 0)) (hk11) ?_
              refine ps_ifne (tgt := 229) hx hb dX4_nextToken_159 (by decide) (by omega) (fun c_159 => ?_) (fun c_159 => ?_)
              · skip
                have hbe : b = tn := Classical.byContradiction fun q => c_159 (if_neg q)
                exact ps_vretG X hSk33 (Nat.le_of_ble_eq_true rfl) (Nat.le_of_ble_eq_true rfl) dX4_nextToken_229 (⟨rfl, _, hMk33, hFk33, hsk33, pt_at_2 hbe hk13 (hk10.trans (congrArg nI hpe)) (hk11.trans (congrArg nI (if_pos hbe)))⟩)
              · skip
                have hbl : b < tn := by
                  rcases Nat.lt_or_eq_of_le hbn with q | q
                  · exact q
                  · rw [if_pos q] at c_159; exact absurd c_159 (by decide)
                refine lv_aload_n hx hb dX4_nextToken_162 rfl (lv_at hl 0 rfl) ?_
                refine lv_aload_n hx hb dX4_nextToken_163 rfl (lv_at hl 0 rfl) ?_
                refine ps_mget (v := .ref (o + 6)) X hMk33 7 (by decide) q1296 rfl rfl dX4_nextToken_164 ?_
                refine lv_aload_n hx hb dX4_nextToken_167 rfl (lv_at hl 0 rfl) ?_
                refine ps_mget (v := .int (Fk33 10)) X hMk33 10 (by decide) q1299 rfl rfl dX4_nextToken_168 ?_
                refine ps_top (y := nI q1) (hk10) ?_
                refine ps_mld (j := q1) (v := nI (tb q1)) X hMk33 6 (by decide) rfl (by show q1 < 120; omega) (hT.2.2.1 _ (by omega)) dX4_nextToken_171 ?_
                refine ps_mput X hMk33 12 (by decide) q1301 rfl rfl rfl rfl hSk33 dX4_nextToken_172 (fun H36 locs37 hM38 hf39 hS40 => ?_)
                refine lv_aload_n hx hb dX4_nextToken_175 rfl (lv_at hl 0 rfl) ?_
                have J216 : W p l e ({ frames := 2, cells := 0, slots := 0, locals := 37 } : Room) s m args below meth c H36 locs37 0 0 (MQ below (ps_ge (fun v H1 => v = none ∧ ∃ F1, ps_Mo E H1 o F1 A ∧ ps_Mf o H H1 ∧ pt_sc F A F1 A ∧ pt_at F1 tb tn b) (ps_A E)) args s 0 0 (ps_A E)) (F0 m 216 ls [.int (nI (if tk_lt (tb q1) = true then 1 else 0)), .ref (o)]) := by
                  refine ps_mput X hM38 11 (by decide) q1300 rfl rfl rfl rfl hS40 dX4_nextToken_216 (fun H41 locs42 hM43 hf44 hS45 => ?_)
                  refine lv_aload_n hx hb dX4_nextToken_219 rfl (lv_at hl 0 rfl) ?_
                  refine lv_dup hx hb dX4_nextToken_220 rfl ?_
                  refine ps_mget (v := .int ((va_up (va_up Fk33 12 (nI (tb q1))) 11 (nI (if tk_lt (tb q1) = true then 1 else 0))) 10)) X hM43 10 (by decide) q1299 rfl rfl dX4_nextToken_221 ?_
                  refine ps_top (y := nI q1) (hk10) ?_
                  refine lv_iconst (v := nI 1) hx hb dX4_nextToken_224 rfl ?_
                  refine ps_iadd hx hb dX4_nextToken_225 ?_
                  refine ps_mput X hM43 10 (by decide) q1299 rfl rfl rfl rfl hS45 dX4_nextToken_226 (fun H46 locs47 hM48 hf49 hS50 => ?_)
                  exact ps_vretG X hS50 (Nat.le_of_ble_eq_true rfl) (Nat.le_of_ble_eq_true rfl) dX4_nextToken_229 (⟨rfl, _, hM48, (((hFk33.tr hf39).tr hf44).tr hf49), (((hsk33.f (by decide)).f (by decide)).f (by decide)), by subst hpe; exact pt_at_3 hbl he hk13 rfl rfl rfl⟩)
                refine lv_aload_n hx hb dX4_nextToken_176 rfl (lv_at hl 0 rfl) ?_
                refine ps_mget (v := .int (nI (tb q1))) X hM38 12 (by decide) q1301 rfl rfl dX4_nextToken_177 ?_
                refine lv_i2l (v := (nI (tb q1)).toInt64) hx hb dX4_nextToken_180 rfl ?_
                refine lv_ldc2 (v := 97) hx hb ho (hts _ q1420) dX4_nextToken_181 ?_
                refine lv_ldc2 (v := 122) hx hb ho (hts _ q1421) dX4_nextToken_184 ?_
                refine ps_roS X hE (m_X4_in l hE (H := H36) (x := nI (tb q1)) (lo := 97) (hi := 123) (by decide) (ps_hcL (k := 122) (by decide +kernel))) (lw_S q1371 q1372 q75 q1373) (by decide +kernel) ⟨⟨Nat.le_of_ble_eq_true rfl, Nat.le_of_ble_eq_true rfl⟩, Nat.le_of_ble_eq_true rfl, Nat.le_of_ble_eq_true rfl⟩ hS40 hl.1 (As := [.long ((nI (tb q1)).toInt64), .long (97), .long (122)]) (rest := [.ref (o)]) (n := 3) rfl rfl (Nat.le_of_ble_eq_true rfl) dX4_nextToken_187 ?_
                refine ps_st (st' := [.int (bI (rng (nI (tb q1)) 97 123)), .ref (o)]) rfl ?_
                refine ps_ifneB (tgt := 211) hx hb dX4_nextToken_190 (by decide) (fun c_190 => ?_) (fun c_190 => ?_)
                · skip
                  have hlt1 := tk_lt_1 (show tb q1 < 2147483648 by omega) (Or.inl c_190)
                  refine lv_iconst (v := nI 1) hx hb dX4_nextToken_211 rfl ?_
                  refine lv_goto (tgt := 216) hx hb dX4_nextToken_212 (by decide) ?_
                  exact ps_top (congrArg nI (if_pos hlt1).symm) J216
                · skip
                  refine lv_aload_n hx hb dX4_nextToken_193 rfl (lv_at hl 0 rfl) ?_
                  refine ps_mget (v := .int (nI (tb q1))) X hM38 12 (by decide) q1301 rfl rfl dX4_nextToken_194 ?_
                  refine lv_bipush (v := nI 44) hx hb dX4_nextToken_197 rfl ?_
                  refine ps_ceq (tgt := 211) hx hb dX4_nextToken_199 (by decide) (by omega) (fun c_199 => ?_) (fun c_199 => ?_)
                  · skip
                    have hlt1 := tk_lt_1 (show tb q1 < 2147483648 by omega) (Or.inr (Or.inl c_199))
                    refine lv_iconst (v := nI 1) hx hb dX4_nextToken_211 rfl ?_
                    refine lv_goto (tgt := 216) hx hb dX4_nextToken_212 (by decide) ?_
                    exact ps_top (congrArg nI (if_pos hlt1).symm) J216
                  · skip
                    refine lv_aload_n hx hb dX4_nextToken_202 rfl (lv_at hl 0 rfl) ?_
                    refine ps_mget (v := .int (nI (tb q1))) X hM38 12 (by decide) q1301 rfl rfl dX4_nextToken_203 ?_
                    refine lv_bipush (v := nI 59) hx hb dX4_nextToken_206 rfl ?_
                    refine ps_cne (tgt := 215) hx hb dX4_nextToken_208 (by decide) (by omega) (fun c_208 => ?_) (fun c_208 => ?_)
                    · skip
                      refine lv_iconst (v := nI 0) hx hb dX4_nextToken_215 rfl ?_
                      exact ps_top (congrArg nI (if_neg (by rw [tk_lt_0 (by omega) c_190 c_199 c_208]; decide)).symm) J216
                    · skip
                      have hlt1 := tk_lt_1 (show tb q1 < 2147483648 by omega) (Or.inr (Or.inr c_208))
                      refine lv_iconst (v := nI 1) hx hb dX4_nextToken_211 rfl ?_
                      refine lv_goto (tgt := 216) hx hb dX4_nextToken_212 (by decide) ?_
                      exact ps_top (congrArg nI (if_pos hlt1).symm) J216
            · skip
              refine lv_aload_n hx hb dX4_nextToken_130 rfl (lv_at hl 0 rfl) ?_
              have J149 : W p l e ({ frames := 2, cells := 0, slots := 0, locals := 37 } : Room) s m args below meth c Hk33 lk33 0 0 (MQ below (ps_ge (fun v H1 => v = none ∧ ∃ F1, ps_Mo E H1 o F1 A ∧ ps_Mf o H H1 ∧ pt_sc F A F1 A ∧ pt_at F1 tb tn b) (ps_A E)) args s 0 0 (ps_A E)) (F0 m 149 ls [.int (nI (if b + 2 < q1 then 0 else 2)), .ref (o)]) := by
                refine ps_mput X hMk33 11 (by decide) q1300 rfl rfl rfl rfl hSk33 dX4_nextToken_149 (fun H51 locs52 hM53 hf54 hS55 => ?_)
                refine lv_goto (tgt := 229) hx hb dX4_nextToken_152 (by decide) ?_
                exact ps_vretG X hS55 (Nat.le_of_ble_eq_true rfl) (Nat.le_of_ble_eq_true rfl) dX4_nextToken_229 (⟨rfl, _, hM53, (hFk33.tr hf54), (hsk33.f (by decide)), pt_at_1 hbn he (by omega) hpn hk13 hk10 hk12 hvp rfl⟩)
              refine lv_aload_n hx hb dX4_nextToken_131 rfl (lv_at hl 0 rfl) ?_
              refine ps_mget (v := .int (Fk33 10)) X hMk33 10 (by decide) q1299 rfl rfl dX4_nextToken_132 ?_
              refine ps_top (y := nI q1) (hk10) ?_
              refine lv_aload_n hx hb dX4_nextToken_135 rfl (lv_at hl 0 rfl) ?_
              refine ps_mget (v := .int (Fk33 13)) X hMk33 13 (by decide) q1302 rfl rfl dX4_nextToken_136 ?_
              refine ps_top (y := nI b) (hk13) ?_
              refine ps_isub hx hb dX4_nextToken_139 (by omega) ?_
              refine lv_iconst (v := nI 2) hx hb dX4_nextToken_140 rfl ?_
              refine ps_cle (tgt := 148) hx hb dX4_nextToken_141 (by decide) (by omega) (fun c_141 => ?_) (fun c_141 => ?_)
              · skip
                refine lv_iconst (v := nI 2) hx hb dX4_nextToken_148 rfl ?_
                exact ps_top (congrArg nI (if_neg (by omega)).symm) J149
              · skip
                refine lv_iconst (v := nI 0) hx hb dX4_nextToken_144 rfl ?_
                refine lv_goto (tgt := 149) hx hb dX4_nextToken_145 (by decide) ?_
                exact ps_top (congrArg nI (if_pos (by omega)).symm) J149
          · skip
            have hpl : q1 < tn := by omega
            have hd : tk_dig (tb q1) = true := (tk_dig_r (by omega)).symm.trans c_63
            have hd1 : 48 ≤ tb q1 ∧ tb q1 < 58 := by unfold tk_dig at hd; simpa using hd
            obtain ⟨vq, hvq0⟩ : ∃ vq, (if 99 < v then v else 10 * v + tb q1 - 48) = vq := ⟨_, rfl⟩
            have h0 : q1 ≤ b → v = 0 := fun q => (hvp (by omega)).trans (by rw [show q1 - b = 0 by omega]; rfl)
            have hvl1 : vq < 1000 ∧ (q1 + 1 ≤ b + 1 → vq ≤ 9) := by rw [← hvq0]; split <;> omega
            have hvq : q1 + 1 ≤ b + 2 → vq = tk_num tb b (q1 + 1 - b) := fun q => by
              have h99 : v ≤ 99 := by have := hvl.2 (by omega); omega
              rw [← hvq0, if_neg (by omega)]; exact tk_num_s hpn.1 hvp hd1.1 q
            refine lv_aload_n hx hb dX4_nextToken_66 rfl (lv_at hl 0 rfl) ?_
            have J103 : W p l e ({ frames := 2, cells := 0, slots := 0, locals := 37 } : Room) s m args below meth c Hk33 lk33 0 0 (MQ below (ps_ge (fun v H1 => v = none ∧ ∃ F1, ps_Mo E H1 o F1 A ∧ ps_Mf o H H1 ∧ pt_sc F A F1 A ∧ pt_at F1 tb tn b) (ps_A E)) args s 0 0 (ps_A E)) (F0 m 103 ls [.int (nI vq), .ref (o)]) := by
              refine ps_mput X hMk33 12 (by decide) q1301 rfl rfl rfl rfl hSk33 dX4_nextToken_103 (fun H56 locs57 hM58 hf59 hS60 => ?_)
              refine lv_aload_n hx hb dX4_nextToken_106 rfl (lv_at hl 0 rfl) ?_
              refine lv_dup hx hb dX4_nextToken_107 rfl ?_
              refine ps_mget (v := .int ((va_up Fk33 12 (nI vq)) 10)) X hM58 10 (by decide) q1299 rfl rfl dX4_nextToken_108 ?_
              refine ps_top (y := nI q1) (hk10) ?_
              refine lv_iconst (v := nI 1) hx hb dX4_nextToken_111 rfl ?_
              refine ps_iadd hx hb dX4_nextToken_112 ?_
              refine ps_mput X hM58 10 (by decide) q1299 rfl rfl rfl rfl hS60 dX4_nextToken_113 (fun H61 locs62 hM63 hf64 hS65 => ?_)
              refine lv_goto (tgt := 33) hx hb dX4_nextToken_116 (by decide) ?_
              exact ih33  (q1 + 1) vq ((va_up (va_up Fk33 12 (nI vq)) 10 (nI (q1 + 1)))) H61 _ (by omega) (hend.symm.trans (tk_end_s hpl hd) |>.symm) hvl1 hvq hM63 (((hFk33.tr hf59).tr hf64)) (((hsk33.f (by decide)).f (by decide))) rfl hk11 rfl hk13 hS65 (by omega) ls (lv_sub hl [0] rfl)
            refine lv_aload_n hx hb dX4_nextToken_67 rfl (lv_at hl 0 rfl) ?_
            refine ps_mget (v := .int (Fk33 12)) X hMk33 12 (by decide) q1301 rfl rfl dX4_nextToken_68 ?_
            refine ps_top (y := nI v) (hk12) ?_
            refine lv_bipush (v := nI 99) hx hb dX4_nextToken_71 rfl ?_
            refine ps_cle (tgt := 83) hx hb dX4_nextToken_73 (by decide) (by omega) (fun c_73 => ?_) (fun c_73 => ?_)
            · skip
              refine lv_bipush (v := nI 10) hx hb dX4_nextToken_83 rfl ?_
              refine lv_aload_n hx hb dX4_nextToken_85 rfl (lv_at hl 0 rfl) ?_
              refine ps_mget (v := .int (Fk33 12)) X hMk33 12 (by decide) q1301 rfl rfl dX4_nextToken_86 ?_
              refine ps_top (y := nI v) (hk12) ?_
              refine ps_imul hx hb dX4_nextToken_89 ?_
              refine lv_aload_n hx hb dX4_nextToken_90 rfl (lv_at hl 0 rfl) ?_
              refine ps_mget (v := .ref (o + 6)) X hMk33 7 (by decide) q1296 rfl rfl dX4_nextToken_91 ?_
              refine lv_aload_n hx hb dX4_nextToken_94 rfl (lv_at hl 0 rfl) ?_
              refine ps_mget (v := .int (Fk33 10)) X hMk33 10 (by decide) q1299 rfl rfl dX4_nextToken_95 ?_
              refine ps_top (y := nI q1) (hk10) ?_
              refine ps_mld (j := q1) (v := nI (tb q1)) X hMk33 6 (by decide) rfl (by show q1 < 120; omega) (hT.2.2.1 _ (by omega)) dX4_nextToken_98 ?_
              refine ps_iadd hx hb dX4_nextToken_99 ?_
              refine lv_bipush (v := nI 48) hx hb dX4_nextToken_100 rfl ?_
              refine ps_isub hx hb dX4_nextToken_102 (by omega) ?_
              exact ps_top (congrArg nI (show 10 * v + tb q1 - 48 = vq by rw [← hvq0, if_neg (by omega)])) J103
            · skip
              refine lv_aload_n hx hb dX4_nextToken_76 rfl (lv_at hl 0 rfl) ?_
              refine ps_mget (v := .int (Fk33 12)) X hMk33 12 (by decide) q1301 rfl rfl dX4_nextToken_77 ?_
              refine ps_top (y := nI v) (hk12) ?_
              refine lv_goto (tgt := 103) hx hb dX4_nextToken_80 (by decide) ?_
              exact ps_top (congrArg nI (show v = vq by rw [← hvq0, if_pos (by omega)])) J103
    exact L33 ((tn - b) + 1) b 0 ((va_up (va_up (va_up F 13 (nI b)) 11 (nI (if b = tn then 3 else 0))) 12 (nI 0))) H11 _ (⟨Nat.le_refl _, hbn⟩) rfl (⟨by decide, fun _ => Nat.zero_le _⟩) (fun _ => by rw [Nat.sub_self]; rfl) hM13 (((hf4.tr hf9).tr hf14)) ((((pt_sc.rf.f (by decide)).f (by decide)).f (by decide))) hb10 rfl rfl rfl hS15 (Nat.lt_succ_self _) ls (lv_sub hl [0] rfl)
  refine lv_aload_n hx hb dX4_nextToken_9 rfl (lv_at hl 0 rfl) ?_
  refine ps_mget (v := .int ((va_up F 13 (nI b)) 10)) X hM3 10 (by decide) q1299 rfl rfl dX4_nextToken_10 ?_
  refine ps_top (y := nI b) (hb10) ?_
  refine lv_aload_n hx hb dX4_nextToken_13 rfl (lv_at hl 0 rfl) ?_
  refine ps_mget (v := .int ((va_up F 13 (nI b)) 8)) X hM3 8 (by decide) q1297 rfl rfl dX4_nextToken_14 ?_
  refine ps_top (y := nI tn) (hT.1) ?_
  refine ps_cne (tgt := 24) hx hb dX4_nextToken_17 (by decide) (by omega) (fun c_17 => ?_) (fun c_17 => ?_)
  · skip
    refine lv_iconst (v := nI 0) hx hb dX4_nextToken_24 rfl ?_
    exact ps_top (congrArg nI (by first | rfl | (simp [c_17]; done) | (simp [c_17]; omega) | omega)) J25
  · skip
    refine lv_iconst (v := nI 3) hx hb dX4_nextToken_20 rfl ?_
    refine lv_goto (tgt := 25) hx hb dX4_nextToken_21 (by decide) ?_
    exact ps_top (congrArg nI (by first | rfl | (simp [c_17]; done) | (simp [c_17]; omega) | omega)) J25

set_option maxHeartbeats 4000000 in
theorem m_X4_isLetter (l : Launch) {E : ps_E} (hE : ps_ZT E) {H : Heap} {o : Nat} {F : Nat → Int32} {A : Nat → Nat → Int32} (hM : ps_Mo E H o F A) {tb : Nat → Nat} {tn b : Nat} (hT : pt_T F A tb tn) (hA : pt_at F tb tn b) {lc : Nat} (hc : lc < 1000) : ps_Ro l E yX4_isLetter cX4_isLetter 2 (some .boolean) 1 12 [.ref (o), .int (nI lc)] H (some (.int (bI (tk_is tb tn b lc)))) := by
  refine ps_Ro.of (by decide) (Nat.le_of_ble_eq_true rfl) ?_
  intro p e s m args below meth c X ls hl
  have hx := X.1
  have hb := X.2.1
  have ho := X.2.2.2.1
  have hts := X.2.2.2.2.1
  have hS : va_S (ps_A E) s.heap H [] := by rw [X.2.2.2.2.2.2.2.2.1]; exact va_S.rf
  have hl : lv_has ls 2 [(0, .ref (o)), (1, .int (nI lc))] := hl
  have hn := hT.2.1
  have hbn := hA.1
  have hp := tk_p_le (tb := tb) hA.1
  have hk := tk_k_le (tb := tb) (n := tn) (b := b)
  have hv := tk_v_lt hT.2.2.2 hA.1
  refine lv_aload_n hx hb dX4_isLetter_0 rfl (lv_at hl 0 rfl) ?_
  refine ps_mget (v := .int (F 11)) X hM 11 (by decide) q1300 rfl rfl dX4_isLetter_1 ?_
  refine ps_top (y := nI (tk_k tb tn b)) (hA.2.2.2.1) ?_
  refine lv_iconst (v := nI 1) hx hb dX4_isLetter_4 rfl ?_
  refine ps_cne (tgt := 20) hx hb dX4_isLetter_5 (by decide) (by omega) (fun c_5 => ?_) (fun c_5 => ?_)
  · skip
    refine lv_iconst (v := nI 0) hx hb dX4_isLetter_20 rfl ?_
    exact ps_zretR (b := tk_is tb tn b lc) X dX4_isLetter_21 ((bI_is0 (by simp [tk_is, c_5]))) rfl
  · skip
    refine lv_aload_n hx hb dX4_isLetter_8 rfl (lv_at hl 0 rfl) ?_
    refine ps_mget (v := .int (F 12)) X hM 12 (by decide) q1301 rfl rfl dX4_isLetter_9 ?_
    refine ps_top (y := nI (tk_v tb tn b)) (hA.2.2.2.2 (Or.inl c_5)) ?_
    refine lv_iload_n hx hb dX4_isLetter_12 rfl (lv_at hl 1 rfl) ?_
    refine ps_cne (tgt := 20) hx hb dX4_isLetter_13 (by decide) (by omega) (fun c_13 => ?_) (fun c_13 => ?_)
    · skip
      refine lv_iconst (v := nI 0) hx hb dX4_isLetter_20 rfl ?_
      exact ps_zretR (b := tk_is tb tn b lc) X dX4_isLetter_21 ((bI_is0 (by simp [tk_is, c_5, c_13]))) rfl
    · skip
      refine lv_iconst (v := nI 1) hx hb dX4_isLetter_16 rfl ?_
      refine lv_goto (tgt := 21) hx hb dX4_isLetter_17 (by decide) ?_
      exact ps_zretR (b := tk_is tb tn b lc) X dX4_isLetter_21 ((bI_is1 (by simp [tk_is, c_5, c_13]))) rfl

set_option maxHeartbeats 4000000 in
theorem m_X4_faults (l : Launch) {E : ps_E} (hE : ps_ZT E) {H : Heap} {o : Nat} {F : Nat → Int32} {A : Nat → Nat → Int32} (hM : ps_Mo E H o F A) {f : Nat} : ps_Ge l E yX4_faults cX4_faults 2 (some .boolean) 1 12 0 0 [.ref (o), .int (nI f)] H (fun v H1 => v = some (.int (bI false)) ∧ ps_Mo E H1 o (va_up F 14 (nI f)) A ∧ ps_Mf o H H1) := by
  refine ps_Ge.of (by decide) (Nat.le_of_ble_eq_true rfl) ?_
  intro p e s m args below meth c X ls hl
  have hx := X.1
  have hb := X.2.1
  have ho := X.2.2.2.1
  have hts := X.2.2.2.2.1
  have hS : va_S (ps_A E) s.heap H [] := by rw [X.2.2.2.2.2.2.2.2.1]; exact va_S.rf
  have hl : lv_has ls 2 [(0, .ref (o)), (1, .int (nI f))] := hl
  refine lv_aload_n hx hb dX4_faults_0 rfl (lv_at hl 0 rfl) ?_
  refine lv_iload_n hx hb dX4_faults_1 rfl (lv_at hl 1 rfl) ?_
  refine ps_mput X hM 14 (by decide) q1303 rfl rfl rfl rfl hS dX4_faults_2 (fun H1 locs2 hM3 hf4 hS5 => ?_)
  refine lv_iconst (v := nI 0) hx hb dX4_faults_5 rfl ?_
  exact ps_zretG (b := false) X hS5 (Nat.le_of_ble_eq_true rfl) (Nat.le_of_ble_eq_true rfl) dX4_faults_6 (rfl) (⟨rfl, hM3, hf4⟩)

set_option maxHeartbeats 4000000 in
theorem m_X4_takes (l : Launch) {E : ps_E} (hE : ps_ZT E) {H : Heap} {o : Nat} {F : Nat → Int32} {A : Nat → Nat → Int32} (hM : ps_Mo E H o F A) {tb : Nat → Nat} {tn b : Nat} {σ : Nat → Nat} (hT : pt_T F A tb tn) (hA : pt_at F tb tn b) (hσ : ps_Vw A 7 57 σ) {lc : Nat} (hc : lc < 1000) : ps_Ge l E yX4_takes cX4_takes 2 (some .boolean) 3 57 0 0 [.ref (o), .int (nI lc)] H (pt_post E H o F A tb tn (tk_sign tb tn lc b σ)) := by
  refine ps_Ge.of (by decide) (Nat.le_of_ble_eq_true rfl) ?_
  intro p e s m args below meth c X ls hl
  have hx := X.1
  have hb := X.2.1
  have ho := X.2.2.2.1
  have hts := X.2.2.2.2.1
  have hS : va_S (ps_A E) s.heap H [] := by rw [X.2.2.2.2.2.2.2.2.1]; exact va_S.rf
  have hl : lv_has ls 2 [(0, .ref (o)), (1, .int (nI lc))] := hl
  have hn := hT.2.1
  have hbn := hA.1
  have hp := tk_p_le (tb := tb) hA.1
  have hk := tk_k_le (tb := tb) (n := tn) (b := b)
  have hv := tk_v_lt hT.2.2.2 hA.1
  refine lv_aload_n hx hb dX4_takes_0 rfl (lv_at hl 0 rfl) ?_
  refine lv_iload_n hx hb dX4_takes_1 rfl (lv_at hl 1 rfl) ?_
  refine ps_roV X hE (m_X4_isLetter l hE hM (hT.sc pt_sc.rf) hA (lc := lc) (by omega)) (lw_V q1426 q1428 qs37 q75 q1429) (by decide +kernel) ⟨⟨Nat.le_of_ble_eq_true rfl, Nat.le_of_ble_eq_true rfl⟩, Nat.le_of_ble_eq_true rfl, Nat.le_of_ble_eq_true rfl⟩ (ps_mrc X hM) hS hl.1 (As := [.int (nI lc)]) (rest := []) (n := 1) rfl rfl (Nat.le_of_ble_eq_true rfl) dX4_takes_2 ?_
  refine ps_st (st' := [.int (bI (tk_is tb tn b lc))]) rfl ?_
  refine ps_ifneB (tgt := 14) hx hb dX4_takes_5 (by decide) (fun c_5 => ?_) (fun c_5 => ?_)
  · skip
    refine lv_aload_n hx hb dX4_takes_14 rfl (lv_at hl 0 rfl) ?_
    refine ps_geV X hE (m_X4_nextToken l hE hM (hT.sc pt_sc.rf) (b := tk_p tb tn b) (hA.2.2.1) ((tk_p_le hA.1).2)) (lw_V q1414 q1416 qs35 q75 q1417) (by decide +kernel) ⟨⟨Nat.le_of_ble_eq_true rfl, Nat.le_of_ble_eq_true rfl⟩, Nat.le_of_ble_eq_true rfl, Nat.le_of_ble_eq_true rfl⟩ (ps_mrc X hM) hS hl.1 (As := []) (rest := []) (n := 0) rfl rfl (Nat.le_of_ble_eq_true rfl) dX4_takes_15 (fun v5 H1 locs2 hp3 hS4 => ?_)
    obtain ⟨hv11, F6, hM7, hf8, hsc9, hat10⟩ := hp3
    subst hv11
    refine ps_st (st' := []) rfl ?_
    refine lv_iconst (v := nI 1) hx hb dX4_takes_18 rfl ?_
    exact ps_zretG (b := true) X hS4 (Nat.le_of_ble_eq_true rfl) (Nat.le_of_ble_eq_true rfl) dX4_takes_19 (rfl) (pt_end_s (by unfold tk_sign; rw [if_pos (by simpa [tk_is] using c_5)]) hM7 hf8 (pt_sc.rf.tr hsc9) hat10 hσ)
  · skip
    refine lv_aload_n hx hb dX4_takes_8 rfl (lv_at hl 0 rfl) ?_
    refine lv_iconst (v := nI 1) hx hb dX4_takes_9 rfl ?_
    refine ps_geV X hE (m_X4_faults l hE hM (f := 1)) (lw_V q1430 q1432 qs38 q75 q1433) (by decide +kernel) ⟨⟨Nat.le_of_ble_eq_true rfl, Nat.le_of_ble_eq_true rfl⟩, Nat.le_of_ble_eq_true rfl, Nat.le_of_ble_eq_true rfl⟩ (ps_mrc X hM) hS hl.1 (As := [.int (nI 1)]) (rest := []) (n := 1) rfl rfl (Nat.le_of_ble_eq_true rfl) dX4_takes_10 (fun v16 H12 locs13 hp14 hS15 => ?_)
    obtain ⟨hv19, hM17, hf18⟩ := hp14
    subst hv19
    refine ps_st (st' := [.int (bI false)]) rfl ?_
    exact ps_zretG (b := false) X hS15 (Nat.le_of_ble_eq_true rfl) (Nat.le_of_ble_eq_true rfl) dX4_takes_13 (rfl) (pt_end_f (f := 1) (by unfold tk_sign; rw [if_neg (by simpa [tk_is] using c_5)]) (by decide) hM17 hf18 (pt_sc.rf.f (by decide)) rfl hA.2.1)

set_option maxHeartbeats 4000000 in
theorem m_X4_takesNumber (l : Launch) {E : ps_E} (hE : ps_ZT E) {H : Heap} {o : Nat} {F : Nat → Int32} {A : Nat → Nat → Int32} (hM : ps_Mo E H o F A) {tb : Nat → Nat} {tn b : Nat} {σ : Nat → Nat} (hT : pt_T F A tb tn) (hA : pt_at F tb tn b) (hσ : ps_Vw A 7 57 σ) {lo hi ax lc : Nat} {x : Int32} (hx0 : x = nI hi - nI 1) (hlo : lo < 10 ∧ hi < 100) (hax : ax < 57) (hc : lc < 1000) : ps_Ge l E yX4_takesNumber cX4_takesNumber 5 (some .boolean) 4 78 0 0 [.ref (o), .int (nI lo), .int (x), .int (nI ax), .int (nI lc)] H (pt_post E H o F A tb tn (tk_fig tb tn lo hi ax lc b σ)) := by
  refine ps_Ge.of (by decide) (Nat.le_of_ble_eq_true rfl) ?_
  intro p e s m args below meth c X ls hl
  have hx := X.1
  have hb := X.2.1
  have ho := X.2.2.2.1
  have hts := X.2.2.2.2.1
  have hS : va_S (ps_A E) s.heap H [] := by rw [X.2.2.2.2.2.2.2.2.1]; exact va_S.rf
  have hl : lv_has ls 5 [(0, .ref (o)), (1, .int (nI lo)), (2, .int (x)), (3, .int (nI ax)), (4, .int (nI lc))] := hl
  have hn := hT.2.1
  have hbn := hA.1
  have hp := tk_p_le (tb := tb) hA.1
  have hk := tk_k_le (tb := tb) (n := tn) (b := b)
  have hv := tk_v_lt hT.2.2.2 hA.1
  refine lv_aload_n hx hb dX4_takesNumber_0 rfl (lv_at hl 0 rfl) ?_
  refine ps_mget (v := .int (F 11)) X hM 11 (by decide) q1300 rfl rfl dX4_takesNumber_1 ?_
  refine ps_top (y := nI (tk_k tb tn b)) (hA.2.2.2.1) ?_
  refine lv_iconst (v := nI 2) hx hb dX4_takesNumber_4 rfl ?_
  refine ps_cne (tgt := 23) hx hb dX4_takesNumber_5 (by decide) (by omega) (fun c_5 => ?_) (fun c_5 => ?_)
  · skip
    refine lv_aload_n hx hb dX4_takesNumber_23 rfl (lv_at hl 0 rfl) ?_
    have J37 : W p l e ({ frames := 4, cells := 0, slots := 0, locals := 78 } : Room) s m args below meth c H [] 0 0 (MQ below (ps_ge (pt_post E H o F A tb tn (tk_fig tb tn lo hi ax lc b σ)) (ps_A E)) args s 0 0 (ps_A E)) (F0 m 37 ls [.int (nI (if tk_k tb tn b = 2 then 2 else 1)), .ref (o)]) := by
      refine ps_geV X hE (m_X4_faults l hE hM (f := if tk_k tb tn b = 2 then 2 else 1)) (lw_V q1430 q1432 qs38 q75 q1433) (by decide +kernel) ⟨⟨Nat.le_of_ble_eq_true rfl, Nat.le_of_ble_eq_true rfl⟩, Nat.le_of_ble_eq_true rfl, Nat.le_of_ble_eq_true rfl⟩ (ps_mrc X hM) hS hl.1 (As := [.int (nI (if tk_k tb tn b = 2 then 2 else 1))]) (rest := []) (n := 1) rfl rfl (Nat.le_of_ble_eq_true rfl) dX4_takesNumber_37 (fun v5 H1 locs2 hp3 hS4 => ?_)
      obtain ⟨hv8, hM6, hf7⟩ := hp3
      subst hv8
      refine ps_st (st' := [.int (bI false)]) rfl ?_
      exact ps_zretG (b := false) X hS4 (Nat.le_of_ble_eq_true rfl) (Nat.le_of_ble_eq_true rfl) dX4_takesNumber_40 (rfl) (pt_end_f (f := if tk_k tb tn b = 2 then 2 else 1) (by unfold tk_fig; first | (rw [if_neg c_5, if_neg c_5]; done) | (rw [if_pos c_5, if_neg hrg, if_pos c_5])) (by split <;> decide) hM6 hf7 (pt_sc.rf.f (by decide)) rfl hA.2.1)
    refine lv_aload_n hx hb dX4_takesNumber_24 rfl (lv_at hl 0 rfl) ?_
    refine ps_mget (v := .int (F 11)) X hM 11 (by decide) q1300 rfl rfl dX4_takesNumber_25 ?_
    refine ps_top (y := nI (tk_k tb tn b)) (hA.2.2.2.1) ?_
    refine lv_iconst (v := nI 2) hx hb dX4_takesNumber_28 rfl ?_
    refine ps_cne (tgt := 36) hx hb dX4_takesNumber_29 (by decide) (by omega) (fun c_29 => ?_) (fun c_29 => ?_)
    · skip
      refine lv_iconst (v := nI 1) hx hb dX4_takesNumber_36 rfl ?_
      exact ps_top (congrArg nI (by first | rfl | (simp [c_5, c_29]; done) | (simp [c_5, c_29]; omega) | omega)) J37
    · skip
      refine lv_iconst (v := nI 2) hx hb dX4_takesNumber_32 rfl ?_
      refine lv_goto (tgt := 37) hx hb dX4_takesNumber_33 (by decide) ?_
      exact ps_top (congrArg nI (by first | rfl | (simp [c_5, c_29]; done) | (simp [c_5, c_29]; omega) | omega)) J37
  · skip
    refine lv_aload_n hx hb dX4_takesNumber_8 rfl (lv_at hl 0 rfl) ?_
    refine ps_mget (v := .int (F 12)) X hM 12 (by decide) q1301 rfl rfl dX4_takesNumber_9 ?_
    refine ps_top (y := nI (tk_v tb tn b)) (hA.2.2.2.2 (Or.inr c_5)) ?_
    refine lv_i2l (v := (nI (tk_v tb tn b)).toInt64) hx hb dX4_takesNumber_12 rfl ?_
    refine lv_iload_n hx hb dX4_takesNumber_13 rfl (lv_at hl 1 rfl) ?_
    refine lv_i2l (v := (nI lo).toInt64) hx hb dX4_takesNumber_14 rfl ?_
    refine lv_iload_n hx hb dX4_takesNumber_15 rfl (lv_at hl 2 rfl) ?_
    refine lv_i2l (v := (x).toInt64) hx hb dX4_takesNumber_16 rfl ?_
    refine ps_roS X hE (m_X4_in l hE (H := H) (x := nI (tk_v tb tn b)) (lo := lo) (hi := hi) (by rw [Int32.toInt_toInt64, nI_toInt (by omega)]) (by rw [hx0]; exact ps_hcP (by omega))) (lw_S q1371 q1372 q75 q1373) (by decide +kernel) ⟨⟨Nat.le_of_ble_eq_true rfl, Nat.le_of_ble_eq_true rfl⟩, Nat.le_of_ble_eq_true rfl, Nat.le_of_ble_eq_true rfl⟩ hS hl.1 (As := [.long ((nI (tk_v tb tn b)).toInt64), .long ((nI lo).toInt64), .long ((x).toInt64)]) (rest := []) (n := 3) rfl rfl (Nat.le_of_ble_eq_true rfl) dX4_takesNumber_17 ?_
    refine ps_st (st' := [.int (bI (rng (nI (tk_v tb tn b)) lo hi))]) rfl ?_
    refine ps_ifneB (tgt := 41) hx hb dX4_takesNumber_20 (by decide) (fun c_20 => ?_) (fun c_20 => ?_)
    · skip
      have hrg : lo ≤ tk_v tb tn b ∧ tk_v tb tn b < hi := by rw [rng_N (by omega)] at c_20; simpa using c_20
      refine lv_aload_n hx hb dX4_takesNumber_41 rfl (lv_at hl 0 rfl) ?_
      refine ps_mget (v := .ref (o + 7)) X hM 15 (by decide) q1304 rfl rfl dX4_takesNumber_42 ?_
      refine lv_iload_n hx hb dX4_takesNumber_45 rfl (lv_at hl 3 rfl) ?_
      refine lv_aload_n hx hb dX4_takesNumber_46 rfl (lv_at hl 0 rfl) ?_
      refine ps_mget (v := .int (F 12)) X hM 12 (by decide) q1301 rfl rfl dX4_takesNumber_47 ?_
      refine ps_top (y := nI (tk_v tb tn b)) (hA.2.2.2.2 (Or.inr c_5)) ?_
      refine ps_mst (j := ax) X hM 7 (by decide) rfl (by show ax < 57; omega) hS dX4_takesNumber_50 (fun H9 locs10 hM11 hf12 hS13 => ?_)
      refine lv_aload_n hx hb dX4_takesNumber_51 rfl (lv_at hl 0 rfl) ?_
      refine ps_geV X hE (m_X4_nextToken l hE hM11 (hT.sc (pt_sc.rf.a)) (b := tk_p tb tn b) (hA.2.2.1) ((tk_p_le hA.1).2)) (lw_V q1414 q1416 qs35 q75 q1417) (by decide +kernel) ⟨⟨Nat.le_of_ble_eq_true rfl, Nat.le_of_ble_eq_true rfl⟩, Nat.le_of_ble_eq_true rfl, Nat.le_of_ble_eq_true rfl⟩ (ps_mrc X hM11) hS13 hl.1 (As := []) (rest := []) (n := 0) rfl rfl (Nat.le_of_ble_eq_true rfl) dX4_takesNumber_52 (fun v18 H14 locs15 hp16 hS17 => ?_)
      obtain ⟨hv24, F19, hM20, hf21, hsc22, hat23⟩ := hp16
      subst hv24
      refine ps_st (st' := []) rfl ?_
      refine lv_aload_n hx hb dX4_takesNumber_55 rfl (lv_at hl 0 rfl) ?_
      refine lv_iload hx hb dX4_takesNumber_56 (lv_at hl 4 rfl) ?_
      refine ps_geV X hE (m_X4_takes l hE hM20 (hT.sc ((pt_sc.rf.a).tr hsc22)) hat23 (σ := (va_up σ ax (tk_v tb tn b))) (hσ.up (v := tk_v tb tn b) rfl) (lc := lc) (by omega)) (lw_V q1422 q1424 qs36 q75 q1425) (by decide +kernel) ⟨⟨Nat.le_of_ble_eq_true rfl, Nat.le_of_ble_eq_true rfl⟩, Nat.le_of_ble_eq_true rfl, Nat.le_of_ble_eq_true rfl⟩ (ps_mrc X hM20) hS17 hl.1 (As := [.int (nI lc)]) (rest := []) (n := 1) rfl rfl (Nat.le_of_ble_eq_true rfl) dX4_takesNumber_58 (fun v29 H25 locs26 hp27 hS28 => ?_)
      generalize hR31 : tk_sign tb tn lc (tk_p tb tn b) ((va_up σ ax (tk_v tb tn b))) = R30 at hp27
      obtain ⟨hv39, F32, A33, hM34, hf35, hsc36, hok37, hbad38⟩ := hp27
      subst hv39
      refine ps_st (st' := [.int (bI (decide (R30.1 = 0)))]) rfl ?_
      exact ps_zretG (b := decide (R30.1 = 0)) X hS28 (Nat.le_of_ble_eq_true rfl) (Nat.le_of_ble_eq_true rfl) dX4_takesNumber_61 (rfl) (pt_end_r (R := R30) (by unfold tk_fig; rw [if_pos c_5, if_pos hrg]; exact hR31) hM34 ((hf12.tr hf21).tr hf35) (((pt_sc.rf.a).tr hsc22).tr hsc36) hok37 hbad38)
    · skip
      have hrg : ¬ (lo ≤ tk_v tb tn b ∧ tk_v tb tn b < hi) := by rw [rng_N (by omega)] at c_20; simpa using c_20
      refine lv_aload_n hx hb dX4_takesNumber_23 rfl (lv_at hl 0 rfl) ?_
      have J37 : W p l e ({ frames := 4, cells := 0, slots := 0, locals := 78 } : Room) s m args below meth c H [] 0 0 (MQ below (ps_ge (pt_post E H o F A tb tn (tk_fig tb tn lo hi ax lc b σ)) (ps_A E)) args s 0 0 (ps_A E)) (F0 m 37 ls [.int (nI (if tk_k tb tn b = 2 then 2 else 1)), .ref (o)]) := by
        refine ps_geV X hE (m_X4_faults l hE hM (f := if tk_k tb tn b = 2 then 2 else 1)) (lw_V q1430 q1432 qs38 q75 q1433) (by decide +kernel) ⟨⟨Nat.le_of_ble_eq_true rfl, Nat.le_of_ble_eq_true rfl⟩, Nat.le_of_ble_eq_true rfl, Nat.le_of_ble_eq_true rfl⟩ (ps_mrc X hM) hS hl.1 (As := [.int (nI (if tk_k tb tn b = 2 then 2 else 1))]) (rest := []) (n := 1) rfl rfl (Nat.le_of_ble_eq_true rfl) dX4_takesNumber_37 (fun v44 H40 locs41 hp42 hS43 => ?_)
        obtain ⟨hv47, hM45, hf46⟩ := hp42
        subst hv47
        refine ps_st (st' := [.int (bI false)]) rfl ?_
        exact ps_zretG (b := false) X hS43 (Nat.le_of_ble_eq_true rfl) (Nat.le_of_ble_eq_true rfl) dX4_takesNumber_40 (rfl) (pt_end_f (f := if tk_k tb tn b = 2 then 2 else 1) (by unfold tk_fig; first | (rw [if_neg c_5, if_neg c_5]; done) | (rw [if_pos c_5, if_neg hrg, if_pos c_5])) (by split <;> decide) hM45 hf46 (pt_sc.rf.f (by decide)) rfl hA.2.1)
      refine lv_aload_n hx hb dX4_takesNumber_24 rfl (lv_at hl 0 rfl) ?_
      refine ps_mget (v := .int (F 11)) X hM 11 (by decide) q1300 rfl rfl dX4_takesNumber_25 ?_
      refine ps_top (y := nI (tk_k tb tn b)) (hA.2.2.2.1) ?_
      refine lv_iconst (v := nI 2) hx hb dX4_takesNumber_28 rfl ?_
      refine ps_cne (tgt := 36) hx hb dX4_takesNumber_29 (by decide) (by omega) (fun c_29 => ?_) (fun c_29 => ?_)
      · skip
        refine lv_iconst (v := nI 1) hx hb dX4_takesNumber_36 rfl ?_
        exact ps_top (congrArg nI (by first | rfl | (simp [c_5, c_20, c_29]; done) | (simp [c_5, c_20, c_29]; omega) | omega)) J37
      · skip
        refine lv_iconst (v := nI 2) hx hb dX4_takesNumber_32 rfl ?_
        refine lv_goto (tgt := 37) hx hb dX4_takesNumber_33 (by decide) ?_
        exact ps_top (congrArg nI (by first | rfl | (simp [c_5, c_20, c_29]; done) | (simp [c_5, c_20, c_29]; omega) | omega)) J37

set_option maxHeartbeats 4000000 in
theorem m_X4_readGiver (l : Launch) {E : ps_E} (hE : ps_ZT E) {H : Heap} {o : Nat} {F : Nat → Int32} {A : Nat → Nat → Int32} (hM : ps_Mo E H o F A) {tb : Nat → Nat} {tn b : Nat} {σ : Nat → Nat} (hT : pt_T F A tb tn) (hA : pt_at F tb tn b) (hσ : ps_Vw A 7 57 σ) (h2 : σ 2 ≤ 4 ∧ σ 3 ≤ 8) : ps_Ge l E yX4_readGiver cX4_readGiver 1 (some .boolean) 5 102 0 0 [.ref (o)] H (pt_post E H o F A tb tn (tk_giver tb tn b σ)) := by
  refine ps_Ge.of (by decide) (Nat.le_of_ble_eq_true rfl) ?_
  intro p e s m args below meth c X ls hl
  have hx := X.1
  have hb := X.2.1
  have ho := X.2.2.2.1
  have hts := X.2.2.2.2.1
  have hS : va_S (ps_A E) s.heap H [] := by rw [X.2.2.2.2.2.2.2.2.1]; exact va_S.rf
  have hl : lv_has ls 1 [(0, .ref (o))] := hl
  have hn := hT.2.1
  have hbn := hA.1
  have hp := tk_p_le (tb := tb) hA.1
  have hk := tk_k_le (tb := tb) (n := tn) (b := b)
  have hv := tk_v_lt hT.2.2.2 hA.1
  refine lv_aload_n hx hb dX4_readGiver_0 rfl (lv_at hl 0 rfl) ?_
  refine ps_mget (v := .ref (o + 7)) X hM 15 (by decide) q1304 rfl rfl dX4_readGiver_1 ?_
  refine lv_iconst (v := nI 2) hx hb dX4_readGiver_4 rfl ?_
  refine ps_mld (j := 2) (v := nI (σ 2)) X hM 7 (by decide) rfl (by show 2 < 57; omega) (hσ _ (by show 2 < 57; omega)) dX4_readGiver_5 ?_
  refine lv_iconst (v := nI 4) hx hb dX4_readGiver_6 rfl ?_
  refine ps_ceq (tgt := 19) hx hb dX4_readGiver_7 (by decide) (by omega) (fun c_7 => ?_) (fun c_7 => ?_)
  · skip
    refine lv_aload_n hx hb dX4_readGiver_19 rfl (lv_at hl 0 rfl) ?_
    have J34 : W p l e ({ frames := 5, cells := 0, slots := 0, locals := 102 } : Room) s m args below meth c H [] 0 0 (MQ below (ps_ge (pt_post E H o F A tb tn (tk_giver tb tn b σ)) (ps_A E)) args s 0 0 (ps_A E)) (F0 m 34 ls [.int (nI (if 0 < σ 3 then 1 else 3)), .ref (o)]) := by
      refine ps_geV X hE (m_X4_faults l hE hM (f := if 0 < σ 3 then 1 else 3)) (lw_V q1430 q1432 qs38 q75 q1433) (by decide +kernel) ⟨⟨Nat.le_of_ble_eq_true rfl, Nat.le_of_ble_eq_true rfl⟩, Nat.le_of_ble_eq_true rfl, Nat.le_of_ble_eq_true rfl⟩ (ps_mrc X hM) hS hl.1 (As := [.int (nI (if 0 < σ 3 then 1 else 3))]) (rest := []) (n := 1) rfl rfl (Nat.le_of_ble_eq_true rfl) dX4_readGiver_34 (fun v5 H1 locs2 hp3 hS4 => ?_)
      obtain ⟨hv8, hM6, hf7⟩ := hp3
      subst hv8
      refine ps_st (st' := [.int (bI false)]) rfl ?_
      exact ps_zretG (b := false) X hS4 (Nat.le_of_ble_eq_true rfl) (Nat.le_of_ble_eq_true rfl) dX4_readGiver_37 (rfl) (pt_end_f (f := if 0 < σ 3 then 1 else 3) (by unfold tk_giver; rw [if_pos (by omega)]) (by split <;> decide) hM6 hf7 (pt_sc.rf.f (by decide)) rfl hA.2.1)
    refine lv_aload_n hx hb dX4_readGiver_20 rfl (lv_at hl 0 rfl) ?_
    refine ps_mget (v := .ref (o + 7)) X hM 15 (by decide) q1304 rfl rfl dX4_readGiver_21 ?_
    refine lv_iconst (v := nI 3) hx hb dX4_readGiver_24 rfl ?_
    refine ps_mld (j := 3) (v := nI (σ 3)) X hM 7 (by decide) rfl (by show 3 < 57; omega) (hσ _ (by show 3 < 57; omega)) dX4_readGiver_25 ?_
    refine ps_ifle (tgt := 33) hx hb dX4_readGiver_26 (by decide) (by omega) (fun c_26 => ?_) (fun c_26 => ?_)
    · skip
      refine lv_iconst (v := nI 3) hx hb dX4_readGiver_33 rfl ?_
      exact ps_top (congrArg nI (by first | rfl | (simp [c_7, c_26]; done) | (simp [c_7, c_26]; omega) | omega)) J34
    · skip
      refine lv_iconst (v := nI 1) hx hb dX4_readGiver_29 rfl ?_
      refine lv_goto (tgt := 34) hx hb dX4_readGiver_30 (by decide) ?_
      exact ps_top (congrArg nI (by first | rfl | (simp [c_7, c_26]; done) | (simp [c_7, c_26]; omega) | omega)) J34
  · skip
    refine lv_aload_n hx hb dX4_readGiver_10 rfl (lv_at hl 0 rfl) ?_
    refine ps_mget (v := .ref (o + 7)) X hM 15 (by decide) q1304 rfl rfl dX4_readGiver_11 ?_
    refine lv_iconst (v := nI 3) hx hb dX4_readGiver_14 rfl ?_
    refine ps_mld (j := 3) (v := nI (σ 3)) X hM 7 (by decide) rfl (by show 3 < 57; omega) (hσ _ (by show 3 < 57; omega)) dX4_readGiver_15 ?_
    refine ps_ifle (tgt := 38) hx hb dX4_readGiver_16 (by decide) (by omega) (fun c_16 => ?_) (fun c_16 => ?_)
    · skip
      refine lv_aload_n hx hb dX4_readGiver_38 rfl (lv_at hl 0 rfl) ?_
      refine ps_geV X hE (m_X4_nextToken l hE hM (hT.sc pt_sc.rf) (b := tk_p tb tn b) (hA.2.2.1) ((tk_p_le hA.1).2)) (lw_V q1414 q1416 qs35 q75 q1417) (by decide +kernel) ⟨⟨Nat.le_of_ble_eq_true rfl, Nat.le_of_ble_eq_true rfl⟩, Nat.le_of_ble_eq_true rfl, Nat.le_of_ble_eq_true rfl⟩ (ps_mrc X hM) hS hl.1 (As := []) (rest := []) (n := 0) rfl rfl (Nat.le_of_ble_eq_true rfl) dX4_readGiver_39 (fun v13 H9 locs10 hp11 hS12 => ?_)
      obtain ⟨hv19, F14, hM15, hf16, hsc17, hat18⟩ := hp11
      subst hv19
      refine ps_st (st' := []) rfl ?_
      refine lv_aload_n hx hb dX4_readGiver_42 rfl (lv_at hl 0 rfl) ?_
      refine ps_mget (v := .ref (o + 7)) X hM15 15 (by decide) q1304 rfl rfl dX4_readGiver_43 ?_
      refine lv_iconst (v := nI 2) hx hb dX4_readGiver_46 rfl ?_
      refine lv_dup2_11 hx hb dX4_readGiver_47 rfl rfl ?_
      refine ps_mld (j := 2) (v := nI (σ 2)) X hM15 7 (by decide) rfl (by show 2 < 57; omega) (hσ _ (by show 2 < 57; omega)) dX4_readGiver_48 ?_
      refine lv_iconst (v := nI 1) hx hb dX4_readGiver_49 rfl ?_
      refine ps_iadd hx hb dX4_readGiver_50 ?_
      refine ps_mst (j := 2) X hM15 7 (by decide) rfl (by show 2 < 57; omega) hS12 dX4_readGiver_51 (fun H20 locs21 hM22 hf23 hS24 => ?_)
      refine lv_aload_n hx hb dX4_readGiver_52 rfl (lv_at hl 0 rfl) ?_
      refine lv_iconst (v := nI 0) hx hb dX4_readGiver_53 rfl ?_
      refine lv_bipush (v := nI 10) hx hb dX4_readGiver_54 rfl ?_
      refine lv_iconst (v := nI 5) hx hb dX4_readGiver_56 rfl ?_
      refine lv_aload_n hx hb dX4_readGiver_57 rfl (lv_at hl 0 rfl) ?_
      refine ps_mget (v := .ref (o + 7)) X hM22 15 (by decide) q1304 rfl rfl dX4_readGiver_58 ?_
      refine lv_iconst (v := nI 2) hx hb dX4_readGiver_61 rfl ?_
      refine ps_mld (j := 2) (v := nI (σ 2 + 1)) X hM22 7 (by decide) rfl (by show 2 < 57; omega) ((hσ.up (v := (σ 2) + 1) rfl) _ (by omega)) dX4_readGiver_62 ?_
      refine ps_iadd hx hb dX4_readGiver_63 ?_
      refine lv_iconst (v := nI 1) hx hb dX4_readGiver_64 rfl ?_
      refine ps_isub hx hb dX4_readGiver_65 (by omega) ?_
      refine lv_bipush (v := nI 59) hx hb dX4_readGiver_66 rfl ?_
      refine ps_geV X hE (m_X4_takesNumber l hE hM22 (hT.sc ((pt_sc.rf.tr hsc17).a)) hat18 (σ := (va_up σ 2 ((σ 2) + 1))) (hσ.up (v := (σ 2) + 1) rfl) (lo := 0) (x := nI 10) (hi := 11) (ax := (5 + (σ 2 + 1)) - 1) (lc := 59) (by decide) (by omega) (by omega) (by omega)) (lw_V q1434 q1436 qs39 q75 q1437) (by decide +kernel) ⟨⟨Nat.le_of_ble_eq_true rfl, Nat.le_of_ble_eq_true rfl⟩, Nat.le_of_ble_eq_true rfl, Nat.le_of_ble_eq_true rfl⟩ (ps_mrc X hM22) hS24 hl.1 (As := [.int (nI 0), .int (nI 10), .int (nI ((5 + (σ 2 + 1)) - 1)), .int (nI 59)]) (rest := []) (n := 4) rfl rfl (Nat.le_of_ble_eq_true rfl) dX4_readGiver_68 (fun v29 H25 locs26 hp27 hS28 => ?_)
      generalize hR31 : tk_fig tb tn 0 11 ((5 + (σ 2 + 1)) - 1) 59 (tk_p tb tn b) ((va_up σ 2 ((σ 2) + 1))) = R30 at hp27
      obtain ⟨hv39, F32, A33, hM34, hf35, hsc36, hok37, hbad38⟩ := hp27
      subst hv39
      refine ps_st (st' := [.int (bI (decide (R30.1 = 0)))]) rfl ?_
      exact ps_zretG (b := decide (R30.1 = 0)) X hS28 (Nat.le_of_ble_eq_true rfl) (Nat.le_of_ble_eq_true rfl) dX4_readGiver_71 (rfl) (pt_end_r (R := R30) (by unfold tk_giver; rw [if_neg (by omega)]; exact hR31) hM34 ((hf16.tr hf23).tr hf35) (((pt_sc.rf.tr hsc17).a).tr hsc36) hok37 hbad38)
    · skip
      refine lv_aload_n hx hb dX4_readGiver_19 rfl (lv_at hl 0 rfl) ?_
      have J34 : W p l e ({ frames := 5, cells := 0, slots := 0, locals := 102 } : Room) s m args below meth c H [] 0 0 (MQ below (ps_ge (pt_post E H o F A tb tn (tk_giver tb tn b σ)) (ps_A E)) args s 0 0 (ps_A E)) (F0 m 34 ls [.int (nI (if 0 < σ 3 then 1 else 3)), .ref (o)]) := by
        refine ps_geV X hE (m_X4_faults l hE hM (f := if 0 < σ 3 then 1 else 3)) (lw_V q1430 q1432 qs38 q75 q1433) (by decide +kernel) ⟨⟨Nat.le_of_ble_eq_true rfl, Nat.le_of_ble_eq_true rfl⟩, Nat.le_of_ble_eq_true rfl, Nat.le_of_ble_eq_true rfl⟩ (ps_mrc X hM) hS hl.1 (As := [.int (nI (if 0 < σ 3 then 1 else 3))]) (rest := []) (n := 1) rfl rfl (Nat.le_of_ble_eq_true rfl) dX4_readGiver_34 (fun v44 H40 locs41 hp42 hS43 => ?_)
        obtain ⟨hv47, hM45, hf46⟩ := hp42
        subst hv47
        refine ps_st (st' := [.int (bI false)]) rfl ?_
        exact ps_zretG (b := false) X hS43 (Nat.le_of_ble_eq_true rfl) (Nat.le_of_ble_eq_true rfl) dX4_readGiver_37 (rfl) (pt_end_f (f := if 0 < σ 3 then 1 else 3) (by unfold tk_giver; rw [if_pos (by omega)]) (by split <;> decide) hM45 hf46 (pt_sc.rf.f (by decide)) rfl hA.2.1)
      refine lv_aload_n hx hb dX4_readGiver_20 rfl (lv_at hl 0 rfl) ?_
      refine ps_mget (v := .ref (o + 7)) X hM 15 (by decide) q1304 rfl rfl dX4_readGiver_21 ?_
      refine lv_iconst (v := nI 3) hx hb dX4_readGiver_24 rfl ?_
      refine ps_mld (j := 3) (v := nI (σ 3)) X hM 7 (by decide) rfl (by show 3 < 57; omega) (hσ _ (by show 3 < 57; omega)) dX4_readGiver_25 ?_
      refine ps_ifle (tgt := 33) hx hb dX4_readGiver_26 (by decide) (by omega) (fun c_26 => ?_) (fun c_26 => ?_)
      · skip
        refine lv_iconst (v := nI 3) hx hb dX4_readGiver_33 rfl ?_
        exact ps_top (congrArg nI (by first | rfl | (simp [c_7, c_16, c_26]; done) | (simp [c_7, c_16, c_26]; omega) | omega)) J34
      · skip
        refine lv_iconst (v := nI 1) hx hb dX4_readGiver_29 rfl ?_
        refine lv_goto (tgt := 34) hx hb dX4_readGiver_30 (by decide) ?_
        exact ps_top (congrArg nI (by first | rfl | (simp [c_7, c_16, c_26]; done) | (simp [c_7, c_16, c_26]; omega) | omega)) J34

set_option maxHeartbeats 4000000 in
theorem m_X4_readPromise (l : Launch) {E : ps_E} (hE : ps_ZT E) {H : Heap} {o : Nat} {F : Nat → Int32} {A : Nat → Nat → Int32} (hM : ps_Mo E H o F A) {tb : Nat → Nat} {tn b : Nat} {σ : Nat → Nat} (hT : pt_T F A tb tn) (hA : pt_at F tb tn b) (hσ : ps_Vw A 7 57 σ) {kd : Nat} (h2 : σ 2 ≤ 4 ∧ σ 3 ≤ 8) : ps_Ge l E yX4_readPromise cX4_readPromise 3 (some .boolean) 5 102 0 0 [.ref (o), .int (nI kd)] H (pt_post E H o F A tb tn (tk_promise tb tn kd b σ)) := by
  refine ps_Ge.of (by decide) (Nat.le_of_ble_eq_true rfl) ?_
  intro p e s m args below meth c X ls hl
  have hx := X.1
  have hb := X.2.1
  have ho := X.2.2.2.1
  have hts := X.2.2.2.2.1
  have hS : va_S (ps_A E) s.heap H [] := by rw [X.2.2.2.2.2.2.2.2.1]; exact va_S.rf
  have hl : lv_has ls 3 [(0, .ref (o)), (1, .int (nI kd))] := hl
  have hn := hT.2.1
  have hbn := hA.1
  have hp := tk_p_le (tb := tb) hA.1
  have hk := tk_k_le (tb := tb) (n := tn) (b := b)
  have hv := tk_v_lt hT.2.2.2 hA.1
  refine lv_aload_n hx hb dX4_readPromise_0 rfl (lv_at hl 0 rfl) ?_
  refine ps_mget (v := .ref (o + 7)) X hM 15 (by decide) q1304 rfl rfl dX4_readPromise_1 ?_
  refine lv_iconst (v := nI 3) hx hb dX4_readPromise_4 rfl ?_
  refine ps_mld (j := 3) (v := nI (σ 3)) X hM 7 (by decide) rfl (by show 3 < 57; omega) (hσ _ (by show 3 < 57; omega)) dX4_readPromise_5 ?_
  refine lv_istore_n (lv' := [(2, .int (nI (σ 3))), (0, .ref (o)), (1, .int (nI kd))]) hx hb dX4_readPromise_6 rfl hl (by decide) rfl (fun ls hl => ?_)
  refine lv_iload_n hx hb dX4_readPromise_7 rfl (lv_at hl 0 rfl) ?_
  refine lv_bipush (v := nI 8) hx hb dX4_readPromise_8 rfl ?_
  refine ps_cne (tgt := 19) hx hb dX4_readPromise_10 (by decide) (by omega) (fun c_10 => ?_) (fun c_10 => ?_)
  · skip
    refine lv_aload_n hx hb dX4_readPromise_19 rfl (lv_at hl 1 rfl) ?_
    refine ps_geV X hE (m_X4_nextToken l hE hM (hT.sc pt_sc.rf) (b := tk_p tb tn b) (hA.2.2.1) ((tk_p_le hA.1).2)) (lw_V q1414 q1416 qs35 q75 q1417) (by decide +kernel) ⟨⟨Nat.le_of_ble_eq_true rfl, Nat.le_of_ble_eq_true rfl⟩, Nat.le_of_ble_eq_true rfl, Nat.le_of_ble_eq_true rfl⟩ (ps_mrc X hM) hS hl.1 (As := []) (rest := []) (n := 0) rfl rfl (Nat.le_of_ble_eq_true rfl) dX4_readPromise_20 (fun v5 H1 locs2 hp3 hS4 => ?_)
    obtain ⟨hv11, F6, hM7, hf8, hsc9, hat10⟩ := hp3
    subst hv11
    refine ps_st (st' := []) rfl ?_
    refine lv_aload_n hx hb dX4_readPromise_23 rfl (lv_at hl 1 rfl) ?_
    refine ps_mget (v := .ref (o + 7)) X hM7 15 (by decide) q1304 rfl rfl dX4_readPromise_24 ?_
    refine lv_bipush (v := nI 9) hx hb dX4_readPromise_27 rfl ?_
    refine lv_iload_n hx hb dX4_readPromise_29 rfl (lv_at hl 0 rfl) ?_
    refine ps_iadd hx hb dX4_readPromise_30 ?_
    refine lv_iload_n hx hb dX4_readPromise_31 rfl (lv_at hl 2 rfl) ?_
    refine ps_mst (j := 9 + (σ 3)) X hM7 7 (by decide) rfl (by show 9 + (σ 3) < 57; omega) hS4 dX4_readPromise_32 (fun H12 locs13 hM14 hf15 hS16 => ?_)
    refine lv_aload_n hx hb dX4_readPromise_33 rfl (lv_at hl 1 rfl) ?_
    refine ps_mget (v := .ref (o + 7)) X hM14 15 (by decide) q1304 rfl rfl dX4_readPromise_34 ?_
    refine lv_iconst (v := nI 3) hx hb dX4_readPromise_37 rfl ?_
    refine lv_dup2_11 hx hb dX4_readPromise_38 rfl rfl ?_
    refine ps_mld (j := 3) (v := nI (σ 3)) X hM14 7 (by decide) rfl (by show 3 < 57; omega) (((hσ.up (v := kd) rfl) _ (by omega)).trans (congrArg nI (by rw [va_up_ne _ _ (by omega)]))) dX4_readPromise_39 ?_
    refine lv_iconst (v := nI 1) hx hb dX4_readPromise_40 rfl ?_
    refine ps_iadd hx hb dX4_readPromise_41 ?_
    refine ps_mst (j := 3) X hM14 7 (by decide) rfl (by show 3 < 57; omega) hS16 dX4_readPromise_42 (fun H17 locs18 hM19 hf20 hS21 => ?_)
    refine lv_aload_n hx hb dX4_readPromise_43 rfl (lv_at hl 1 rfl) ?_
    refine lv_iconst (v := nI 0) hx hb dX4_readPromise_44 rfl ?_
    refine lv_aload_n hx hb dX4_readPromise_45 rfl (lv_at hl 1 rfl) ?_
    refine ps_mget (v := .ref (o + 7)) X hM19 15 (by decide) q1304 rfl rfl dX4_readPromise_46 ?_
    refine lv_iconst (v := nI 2) hx hb dX4_readPromise_49 rfl ?_
    refine ps_mld (j := 2) (v := nI (σ 2)) X hM19 7 (by decide) rfl (by show 2 < 57; omega) ((((hσ.up (v := kd) rfl).up (v := (σ 3) + 1) rfl) _ (by omega)).trans (congrArg nI (by rw [va_up_ne _ _ (by omega), va_up_ne _ _ (by omega)]))) dX4_readPromise_50 ?_
    refine lv_iconst (v := nI 1) hx hb dX4_readPromise_51 rfl ?_
    refine lv_isub hx hb dX4_readPromise_52 ?_
    refine ps_top (y := nI (σ 2) - nI 1) (rfl) ?_
    refine lv_bipush (v := nI 17) hx hb dX4_readPromise_53 rfl ?_
    refine lv_iload_n hx hb dX4_readPromise_55 rfl (lv_at hl 0 rfl) ?_
    refine ps_iadd hx hb dX4_readPromise_56 ?_
    refine lv_bipush (v := nI 44) hx hb dX4_readPromise_57 rfl ?_
    refine ps_geV X hE (m_X4_takesNumber l hE hM19 (hT.sc (((pt_sc.rf.tr hsc9).a).a)) hat10 (σ := (va_up (va_up σ (9 + (σ 3)) kd) 3 ((σ 3) + 1))) ((hσ.up (v := kd) rfl).up (v := (σ 3) + 1) rfl) (lo := 0) (x := nI (σ 2) - nI 1) (hi := σ 2) (ax := 17 + (σ 3)) (lc := 44) (rfl) (by omega) (by omega) (by omega)) (lw_V q1434 q1436 qs39 q75 q1437) (by decide +kernel) ⟨⟨Nat.le_of_ble_eq_true rfl, Nat.le_of_ble_eq_true rfl⟩, Nat.le_of_ble_eq_true rfl, Nat.le_of_ble_eq_true rfl⟩ (ps_mrc X hM19) hS21 hl.1 (As := [.int (nI 0), .int (nI (σ 2) - nI 1), .int (nI (17 + (σ 3))), .int (nI 44)]) (rest := []) (n := 4) rfl rfl (Nat.le_of_ble_eq_true rfl) dX4_readPromise_59 (fun v26 H22 locs23 hp24 hS25 => ?_)
    generalize hR28 : tk_fig tb tn 0 (σ 2) (17 + (σ 3)) 44 (tk_p tb tn b) ((va_up (va_up σ (9 + (σ 3)) kd) 3 ((σ 3) + 1))) = R27 at hp24
    obtain ⟨hv36, F29, A30, hM31, hf32, hsc33, hok34, hbad35⟩ := hp24
    subst hv36
    refine ps_st (st' := [.int (bI (decide (R27.1 = 0)))]) rfl ?_
    refine ps_ifeqB (tgt := 116) hx hb dX4_readPromise_62 (by decide) (fun c_62 => ?_) (fun c_62 => ?_)
    · skip
      have hz37 : ¬ R27.1 = 0 := of_decide_eq_false c_62
      refine lv_iconst (v := nI 0) hx hb dX4_readPromise_116 rfl ?_
      exact ps_zretG (b := false) X hS25 (Nat.le_of_ble_eq_true rfl) (Nat.le_of_ble_eq_true rfl) dX4_readPromise_117 (rfl) (pt_end_z (R := R27) (by unfold tk_promise; rw [if_neg c_10]; rw [hR28]; exact tk_then_0 hz37) (by rw [decide_eq_false hz37]) hM31 (((hf8.tr hf15).tr hf20).tr hf32) ((((pt_sc.rf.tr hsc9).a).a).tr hsc33) hok34 hbad35)
    · skip
      have hz38 : R27.1 = 0 := of_decide_eq_true c_62
      have hat39 := (hok34 hz38).1
      refine lv_aload_n hx hb dX4_readPromise_65 rfl (lv_at hl 1 rfl) ?_
      refine lv_iconst (v := nI 0) hx hb dX4_readPromise_66 rfl ?_
      refine lv_iconst (v := nI 5) hx hb dX4_readPromise_67 rfl ?_
      refine lv_bipush (v := nI 25) hx hb dX4_readPromise_68 rfl ?_
      refine lv_iload_n hx hb dX4_readPromise_70 rfl (lv_at hl 0 rfl) ?_
      refine ps_iadd hx hb dX4_readPromise_71 ?_
      refine lv_bipush (v := nI 44) hx hb dX4_readPromise_72 rfl ?_
      refine ps_geV X hE (m_X4_takesNumber l hE hM31 (hT.sc ((((pt_sc.rf.tr hsc9).a).a).tr hsc33)) hat39 (σ := R27.2.2) (hok34 hz38).2 (lo := 0) (x := nI 5) (hi := 6) (ax := 25 + (σ 3)) (lc := 44) (by decide) (by omega) (by omega) (by omega)) (lw_V q1434 q1436 qs39 q75 q1437) (by decide +kernel) ⟨⟨Nat.le_of_ble_eq_true rfl, Nat.le_of_ble_eq_true rfl⟩, Nat.le_of_ble_eq_true rfl, Nat.le_of_ble_eq_true rfl⟩ (ps_mrc X hM31) hS25 hl.1 (As := [.int (nI 0), .int (nI 5), .int (nI (25 + (σ 3))), .int (nI 44)]) (rest := []) (n := 4) rfl rfl (Nat.le_of_ble_eq_true rfl) dX4_readPromise_74 (fun v44 H40 locs41 hp42 hS43 => ?_)
      generalize hR46 : tk_fig tb tn 0 6 (25 + (σ 3)) 44 R27.2.1 R27.2.2 = R45 at hp42
      obtain ⟨hv54, F47, A48, hM49, hf50, hsc51, hok52, hbad53⟩ := hp42
      subst hv54
      refine ps_st (st' := [.int (bI (decide (R45.1 = 0)))]) rfl ?_
      refine ps_ifeqB (tgt := 116) hx hb dX4_readPromise_77 (by decide) (fun c_77 => ?_) (fun c_77 => ?_)
      · skip
        have hz55 : ¬ R45.1 = 0 := of_decide_eq_false c_77
        refine lv_iconst (v := nI 0) hx hb dX4_readPromise_116 rfl ?_
        exact ps_zretG (b := false) X hS43 (Nat.le_of_ble_eq_true rfl) (Nat.le_of_ble_eq_true rfl) dX4_readPromise_117 (rfl) (pt_end_z (R := R45) (by unfold tk_promise; rw [if_neg c_10]; rw [hR28]; rw [tk_then_1 hz38]; rw [hR46]; exact tk_then_0 hz55) (by rw [decide_eq_false hz55]) hM49 ((((hf8.tr hf15).tr hf20).tr hf32).tr hf50) (((((pt_sc.rf.tr hsc9).a).a).tr hsc33).tr hsc51) hok52 hbad53)
      · skip
        have hz56 : R45.1 = 0 := of_decide_eq_true c_77
        have hat57 := (hok52 hz56).1
        refine lv_aload_n hx hb dX4_readPromise_80 rfl (lv_at hl 1 rfl) ?_
        refine lv_iconst (v := nI 0) hx hb dX4_readPromise_81 rfl ?_
        refine lv_bipush (v := nI 9) hx hb dX4_readPromise_82 rfl ?_
        refine lv_bipush (v := nI 33) hx hb dX4_readPromise_84 rfl ?_
        refine lv_iload_n hx hb dX4_readPromise_86 rfl (lv_at hl 0 rfl) ?_
        refine ps_iadd hx hb dX4_readPromise_87 ?_
        refine lv_bipush (v := nI 44) hx hb dX4_readPromise_88 rfl ?_
        refine ps_geV X hE (m_X4_takesNumber l hE hM49 (hT.sc (((((pt_sc.rf.tr hsc9).a).a).tr hsc33).tr hsc51)) hat57 (σ := R45.2.2) (hok52 hz56).2 (lo := 0) (x := nI 9) (hi := 10) (ax := 33 + (σ 3)) (lc := 44) (by decide) (by omega) (by omega) (by omega)) (lw_V q1434 q1436 qs39 q75 q1437) (by decide +kernel) ⟨⟨Nat.le_of_ble_eq_true rfl, Nat.le_of_ble_eq_true rfl⟩, Nat.le_of_ble_eq_true rfl, Nat.le_of_ble_eq_true rfl⟩ (ps_mrc X hM49) hS43 hl.1 (As := [.int (nI 0), .int (nI 9), .int (nI (33 + (σ 3))), .int (nI 44)]) (rest := []) (n := 4) rfl rfl (Nat.le_of_ble_eq_true rfl) dX4_readPromise_90 (fun v62 H58 locs59 hp60 hS61 => ?_)
        generalize hR64 : tk_fig tb tn 0 10 (33 + (σ 3)) 44 R45.2.1 R45.2.2 = R63 at hp60
        obtain ⟨hv72, F65, A66, hM67, hf68, hsc69, hok70, hbad71⟩ := hp60
        subst hv72
        refine ps_st (st' := [.int (bI (decide (R63.1 = 0)))]) rfl ?_
        refine ps_ifeqB (tgt := 116) hx hb dX4_readPromise_93 (by decide) (fun c_93 => ?_) (fun c_93 => ?_)
        · skip
          have hz73 : ¬ R63.1 = 0 := of_decide_eq_false c_93
          refine lv_iconst (v := nI 0) hx hb dX4_readPromise_116 rfl ?_
          exact ps_zretG (b := false) X hS61 (Nat.le_of_ble_eq_true rfl) (Nat.le_of_ble_eq_true rfl) dX4_readPromise_117 (rfl) (pt_end_z (R := R63) (by unfold tk_promise; rw [if_neg c_10]; rw [hR28]; rw [tk_then_1 hz38]; rw [hR46]; rw [tk_then_1 hz56]; rw [hR64]; exact tk_then_0 hz73) (by rw [decide_eq_false hz73]) hM67 (((((hf8.tr hf15).tr hf20).tr hf32).tr hf50).tr hf68) ((((((pt_sc.rf.tr hsc9).a).a).tr hsc33).tr hsc51).tr hsc69) hok70 hbad71)
        · skip
          have hz74 : R63.1 = 0 := of_decide_eq_true c_93
          have hat75 := (hok70 hz74).1
          refine lv_aload_n hx hb dX4_readPromise_96 rfl (lv_at hl 1 rfl) ?_
          refine lv_iconst (v := nI 0) hx hb dX4_readPromise_97 rfl ?_
          refine lv_bipush (v := nI 20) hx hb dX4_readPromise_98 rfl ?_
          refine lv_bipush (v := nI 41) hx hb dX4_readPromise_100 rfl ?_
          refine lv_iload_n hx hb dX4_readPromise_102 rfl (lv_at hl 0 rfl) ?_
          refine ps_iadd hx hb dX4_readPromise_103 ?_
          refine lv_bipush (v := nI 59) hx hb dX4_readPromise_104 rfl ?_
          refine ps_geV X hE (m_X4_takesNumber l hE hM67 (hT.sc ((((((pt_sc.rf.tr hsc9).a).a).tr hsc33).tr hsc51).tr hsc69)) hat75 (σ := R63.2.2) (hok70 hz74).2 (lo := 0) (x := nI 20) (hi := 21) (ax := 41 + (σ 3)) (lc := 59) (by decide) (by omega) (by omega) (by omega)) (lw_V q1434 q1436 qs39 q75 q1437) (by decide +kernel) ⟨⟨Nat.le_of_ble_eq_true rfl, Nat.le_of_ble_eq_true rfl⟩, Nat.le_of_ble_eq_true rfl, Nat.le_of_ble_eq_true rfl⟩ (ps_mrc X hM67) hS61 hl.1 (As := [.int (nI 0), .int (nI 20), .int (nI (41 + (σ 3))), .int (nI 59)]) (rest := []) (n := 4) rfl rfl (Nat.le_of_ble_eq_true rfl) dX4_readPromise_106 (fun v80 H76 locs77 hp78 hS79 => ?_)
          generalize hR82 : tk_fig tb tn 0 21 (41 + (σ 3)) 59 R63.2.1 R63.2.2 = R81 at hp78
          obtain ⟨hv90, F83, A84, hM85, hf86, hsc87, hok88, hbad89⟩ := hp78
          subst hv90
          refine ps_st (st' := [.int (bI (decide (R81.1 = 0)))]) rfl ?_
          refine ps_ifeqB (tgt := 116) hx hb dX4_readPromise_109 (by decide) (fun c_109 => ?_) (fun c_109 => ?_)
          · skip
            have hz91 : ¬ R81.1 = 0 := of_decide_eq_false c_109
            refine lv_iconst (v := nI 0) hx hb dX4_readPromise_116 rfl ?_
            exact ps_zretG (b := false) X hS79 (Nat.le_of_ble_eq_true rfl) (Nat.le_of_ble_eq_true rfl) dX4_readPromise_117 (rfl) (pt_end_z (R := R81) (by unfold tk_promise; rw [if_neg c_10]; rw [hR28]; rw [tk_then_1 hz38]; rw [hR46]; rw [tk_then_1 hz56]; rw [hR64]; rw [tk_then_1 hz74]; exact hR82) (by rw [decide_eq_false hz91]) hM85 ((((((hf8.tr hf15).tr hf20).tr hf32).tr hf50).tr hf68).tr hf86) (((((((pt_sc.rf.tr hsc9).a).a).tr hsc33).tr hsc51).tr hsc69).tr hsc87) hok88 hbad89)
          · skip
            have hz92 : R81.1 = 0 := of_decide_eq_true c_109
            have hat93 := (hok88 hz92).1
            refine lv_iconst (v := nI 1) hx hb dX4_readPromise_112 rfl ?_
            refine lv_goto (tgt := 117) hx hb dX4_readPromise_113 (by decide) ?_
            exact ps_zretG (b := true) X hS79 (Nat.le_of_ble_eq_true rfl) (Nat.le_of_ble_eq_true rfl) dX4_readPromise_117 (rfl) (pt_end_z (R := R81) (by unfold tk_promise; rw [if_neg c_10]; rw [hR28]; rw [tk_then_1 hz38]; rw [hR46]; rw [tk_then_1 hz56]; rw [hR64]; rw [tk_then_1 hz74]; exact hR82) (by rw [decide_eq_true hz92]) hM85 ((((((hf8.tr hf15).tr hf20).tr hf32).tr hf50).tr hf68).tr hf86) (((((((pt_sc.rf.tr hsc9).a).a).tr hsc33).tr hsc51).tr hsc69).tr hsc87) hok88 hbad89)
  · skip
    refine lv_aload_n hx hb dX4_readPromise_13 rfl (lv_at hl 1 rfl) ?_
    refine lv_iconst (v := nI 3) hx hb dX4_readPromise_14 rfl ?_
    refine ps_geV X hE (m_X4_faults l hE hM (f := 3)) (lw_V q1430 q1432 qs38 q75 q1433) (by decide +kernel) ⟨⟨Nat.le_of_ble_eq_true rfl, Nat.le_of_ble_eq_true rfl⟩, Nat.le_of_ble_eq_true rfl, Nat.le_of_ble_eq_true rfl⟩ (ps_mrc X hM) hS hl.1 (As := [.int (nI 3)]) (rest := []) (n := 1) rfl rfl (Nat.le_of_ble_eq_true rfl) dX4_readPromise_15 (fun v98 H94 locs95 hp96 hS97 => ?_)
    obtain ⟨hv101, hM99, hf100⟩ := hp96
    subst hv101
    refine ps_st (st' := [.int (bI false)]) rfl ?_
    exact ps_zretG (b := false) X hS97 (Nat.le_of_ble_eq_true rfl) (Nat.le_of_ble_eq_true rfl) dX4_readPromise_18 (rfl) (pt_end_f (f := 3) (by unfold tk_promise; rw [if_pos c_10]) (by decide) hM99 hf100 (pt_sc.rf.f (by decide)) rfl hA.2.1)

set_option maxHeartbeats 4000000 in
theorem m_X4_readScales (l : Launch) {E : ps_E} (hE : ps_ZT E) {H : Heap} {o : Nat} {F : Nat → Int32} {A : Nat → Nat → Int32} (hM : ps_Mo E H o F A) {tb : Nat → Nat} {tn : Nat} (hT : pt_T F A tb tn) : ps_Ge l E yX4_readScales cX4_readScales 3 (some .boolean) 6 124 0 0 [.ref (o)] H (pt_post E H o F A tb tn (tk_text tb tn)) := by
  refine ps_Ge.of (by decide) (Nat.le_of_ble_eq_true rfl) ?_
  intro p e s m args below meth c X ls hl
  have hx := X.1
  have hb := X.2.1
  have ho := X.2.2.2.1
  have hts := X.2.2.2.2.1
  have hS : va_S (ps_A E) s.heap H [] := by rw [X.2.2.2.2.2.2.2.2.1]; exact va_S.rf
  have hl : lv_has ls 3 [(0, .ref (o))] := hl
  have hn := hT.2.1
  refine lv_aload_n hx hb dX4_readScales_0 rfl (lv_at hl 0 rfl) ?_
  refine lv_iconst (v := nI 0) hx hb dX4_readScales_1 rfl ?_
  refine ps_mput X hM 10 (by decide) q1299 rfl rfl rfl rfl hS dX4_readScales_2 (fun H1 locs2 hM3 hf4 hS5 => ?_)
  refine lv_iconst (v := nI 0) hx hb dX4_readScales_5 rfl ?_
  refine lv_istore_n (lv' := [(1, .int (nI 0)), (0, .ref (o))]) hx hb dX4_readScales_6 rfl hl (by decide) rfl (fun ls hl => ?_)
  have L7 : ∀ (n : Nat) (i : Nat) (Ak7 : Nat → Nat → Int32) (Hk7 : Heap) (lk7 : List Loc) (hi7 : i ≤ 57) (hMk7 : ps_Mo E Hk7 o (va_up F 10 (nI 0)) Ak7) (hFk7 : ps_Mf o H Hk7) (hAk7 : ∀ qk, qk ≠ 7 → Ak7 qk = A qk) (hgk7 : ∀ q, Ak7 7 q = if q < i then (fun _ => nI 0) q else A 7 q) (hSk7 : va_S (ps_A E) s.heap Hk7 lk7) (hmu : 57 - i < n) (ls : Array Slot) (hl : lv_has ls 3 [(1, .int (nI i)), (0, .ref (o))]), W p l e ({ frames := 6, cells := 0, slots := 0, locals := 124 } : Room) s m args below meth c Hk7 lk7 0 0 (MQ below (ps_ge (pt_post E H o F A tb tn (tk_text tb tn)) (ps_A E)) args s 0 0 (ps_A E)) (F0 m 7 ls []) := by
    intro n
    induction n with
    | zero => intro i Ak7 Hk7 lk7 hi7 hMk7 hFk7 hAk7 hgk7 hSk7 hmu; exact absurd hmu (Nat.not_lt_zero _)
    | succ n ih7 =>
      intro i Ak7 Hk7 lk7 hi7 hMk7 hFk7 hAk7 hgk7 hSk7 hmu ls hl
      refine lv_iload_n hx hb dX4_readScales_7 rfl (lv_at hl 0 rfl) ?_
      refine lv_bipush (v := nI 57) hx hb dX4_readScales_8 rfl ?_
      refine ps_cge (tgt := 26) hx hb dX4_readScales_10 (by decide) (by omega) (fun c_10 => ?_) (fun c_10 => ?_)
      · skip
        have ei7 : i = 57 := by omega
        have eA7 := va_eta hAk7
        have hMx7 := hMk7
        rw [eA7] at hMx7
        have hv7 : ps_Vw (va_up A 7 (Ak7 7)) 7 57 (fun _ => 0) := fun i hi => (hgk7 i).trans (by rw [ei7, if_pos hi])
        refine lv_aload_n hx hb dX4_readScales_26 rfl (lv_at hl 1 rfl) ?_
        refine ps_geV X hE (m_X4_nextToken l hE hMx7 (hT.sc ((pt_sc.rf.f (by decide)).a)) (b := 0) (rfl) (Nat.zero_le _)) (lw_V q1414 q1416 qs35 q75 q1417) (by decide +kernel) ⟨⟨Nat.le_of_ble_eq_true rfl, Nat.le_of_ble_eq_true rfl⟩, Nat.le_of_ble_eq_true rfl, Nat.le_of_ble_eq_true rfl⟩ (ps_mrc X hMx7) hSk7 hl.1 (As := []) (rest := []) (n := 0) rfl rfl (Nat.le_of_ble_eq_true rfl) dX4_readScales_27 (fun v10 H6 locs7 hp8 hS9 => ?_)
        obtain ⟨hv16, F11, hM12, hf13, hsc14, hat15⟩ := hp8
        subst hv16
        refine ps_st (st' := []) rfl ?_
        refine lv_aload_n hx hb dX4_readScales_30 rfl (lv_at hl 1 rfl) ?_
        refine lv_bipush (v := nI 115) hx hb dX4_readScales_31 rfl ?_
        refine ps_geV X hE (m_X4_takes l hE hM12 (hT.sc (((pt_sc.rf.f (by decide)).a).tr hsc14)) hat15 (σ := (fun _ => 0)) hv7 (lc := 115) (by omega)) (lw_V q1422 q1424 qs36 q75 q1425) (by decide +kernel) ⟨⟨Nat.le_of_ble_eq_true rfl, Nat.le_of_ble_eq_true rfl⟩, Nat.le_of_ble_eq_true rfl, Nat.le_of_ble_eq_true rfl⟩ (ps_mrc X hM12) hS9 hl.1 (As := [.int (nI 115)]) (rest := []) (n := 1) rfl rfl (Nat.le_of_ble_eq_true rfl) dX4_readScales_33 (fun v21 H17 locs18 hp19 hS20 => ?_)
        generalize hR23 : tk_sign tb tn 115 0 ((fun _ => 0)) = R22 at hp19
        obtain ⟨hv31, F24, A25, hM26, hf27, hsc28, hok29, hbad30⟩ := hp19
        subst hv31
        refine ps_st (st' := [.int (bI (decide (R22.1 = 0)))]) rfl ?_
        refine ps_ifeqB (tgt := 64) hx hb dX4_readScales_36 (by decide) (fun c_36 => ?_) (fun c_36 => ?_)
        · skip
          have hz32 : ¬ R22.1 = 0 := of_decide_eq_false c_36
          refine lv_iconst (v := nI 0) hx hb dX4_readScales_64 rfl ?_
          exact ps_zretG (b := false) X hS20 (Nat.le_of_ble_eq_true rfl) (Nat.le_of_ble_eq_true rfl) dX4_readScales_65 (rfl) (pt_end_z (R := R22) (by unfold tk_text; rw [hR23]; exact tk_then_0 hz32) (by rw [decide_eq_false hz32]) hM26 ((hFk7.tr hf13).tr hf27) ((((pt_sc.rf.f (by decide)).a).tr hsc14).tr hsc28) hok29 hbad30)
        · skip
          have hz33 : R22.1 = 0 := of_decide_eq_true c_36
          have hat34 := (hok29 hz33).1
          refine lv_aload_n hx hb dX4_readScales_39 rfl (lv_at hl 1 rfl) ?_
          refine lv_iconst (v := nI 0) hx hb dX4_readScales_40 rfl ?_
          refine lv_bipush (v := nI 9) hx hb dX4_readScales_41 rfl ?_
          refine lv_iconst (v := nI 0) hx hb dX4_readScales_43 rfl ?_
          refine lv_bipush (v := nI 44) hx hb dX4_readScales_44 rfl ?_
          refine ps_geV X hE (m_X4_takesNumber l hE hM26 (hT.sc ((((pt_sc.rf.f (by decide)).a).tr hsc14).tr hsc28)) hat34 (σ := R22.2.2) (hok29 hz33).2 (lo := 0) (x := nI 9) (hi := 10) (ax := 0) (lc := 44) (by decide) (by omega) (by omega) (by omega)) (lw_V q1434 q1436 qs39 q75 q1437) (by decide +kernel) ⟨⟨Nat.le_of_ble_eq_true rfl, Nat.le_of_ble_eq_true rfl⟩, Nat.le_of_ble_eq_true rfl, Nat.le_of_ble_eq_true rfl⟩ (ps_mrc X hM26) hS20 hl.1 (As := [.int (nI 0), .int (nI 9), .int (nI 0), .int (nI 44)]) (rest := []) (n := 4) rfl rfl (Nat.le_of_ble_eq_true rfl) dX4_readScales_46 (fun v39 H35 locs36 hp37 hS38 => ?_)
          generalize hR41 : tk_fig tb tn 0 10 0 44 R22.2.1 R22.2.2 = R40 at hp37
          obtain ⟨hv49, F42, A43, hM44, hf45, hsc46, hok47, hbad48⟩ := hp37
          subst hv49
          refine ps_st (st' := [.int (bI (decide (R40.1 = 0)))]) rfl ?_
          refine ps_ifeqB (tgt := 64) hx hb dX4_readScales_49 (by decide) (fun c_49 => ?_) (fun c_49 => ?_)
          · skip
            have hz50 : ¬ R40.1 = 0 := of_decide_eq_false c_49
            refine lv_iconst (v := nI 0) hx hb dX4_readScales_64 rfl ?_
            exact ps_zretG (b := false) X hS38 (Nat.le_of_ble_eq_true rfl) (Nat.le_of_ble_eq_true rfl) dX4_readScales_65 (rfl) (pt_end_z (R := R40) (by unfold tk_text; rw [hR23]; rw [tk_then_1 hz33]; rw [hR41]; exact tk_then_0 hz50) (by rw [decide_eq_false hz50]) hM44 (((hFk7.tr hf13).tr hf27).tr hf45) (((((pt_sc.rf.f (by decide)).a).tr hsc14).tr hsc28).tr hsc46) hok47 hbad48)
          · skip
            have hz51 : R40.1 = 0 := of_decide_eq_true c_49
            have hat52 := (hok47 hz51).1
            refine lv_aload_n hx hb dX4_readScales_52 rfl (lv_at hl 1 rfl) ?_
            refine lv_iconst (v := nI 1) hx hb dX4_readScales_53 rfl ?_
            refine lv_iconst (v := nI 5) hx hb dX4_readScales_54 rfl ?_
            refine lv_iconst (v := nI 1) hx hb dX4_readScales_55 rfl ?_
            refine lv_bipush (v := nI 59) hx hb dX4_readScales_56 rfl ?_
            refine ps_geV X hE (m_X4_takesNumber l hE hM44 (hT.sc (((((pt_sc.rf.f (by decide)).a).tr hsc14).tr hsc28).tr hsc46)) hat52 (σ := R40.2.2) (hok47 hz51).2 (lo := 1) (x := nI 5) (hi := 6) (ax := 1) (lc := 59) (by decide) (by omega) (by omega) (by omega)) (lw_V q1434 q1436 qs39 q75 q1437) (by decide +kernel) ⟨⟨Nat.le_of_ble_eq_true rfl, Nat.le_of_ble_eq_true rfl⟩, Nat.le_of_ble_eq_true rfl, Nat.le_of_ble_eq_true rfl⟩ (ps_mrc X hM44) hS38 hl.1 (As := [.int (nI 1), .int (nI 5), .int (nI 1), .int (nI 59)]) (rest := []) (n := 4) rfl rfl (Nat.le_of_ble_eq_true rfl) dX4_readScales_58 (fun v57 H53 locs54 hp55 hS56 => ?_)
            generalize hR59 : tk_fig tb tn 1 6 1 59 R40.2.1 R40.2.2 = R58 at hp55
            obtain ⟨hv67, F60, A61, hM62, hf63, hsc64, hok65, hbad66⟩ := hp55
            subst hv67
            refine ps_st (st' := [.int (bI (decide (R58.1 = 0)))]) rfl ?_
            refine ps_ifneB (tgt := 66) hx hb dX4_readScales_61 (by decide) (fun c_61 => ?_) (fun c_61 => ?_)
            · skip
              have hz68 : R58.1 = 0 := of_decide_eq_true c_61
              have hat69 := (hok65 hz68).1
              refine lv_iconst (v := nI 1) hx hb dX4_readScales_66 rfl ?_
              refine lv_istore_n (lv' := [(1, .int (nI 1)), (0, .ref (o))]) hx hb dX4_readScales_67 rfl hl (by decide) rfl (fun ls hl => ?_)
              have L68 : ∀ (n : Nat) (r68 : tk_R) (k68 : Nat) (Fk68 : Nat → Int32) (Ak68 : Nat → Nat → Int32) (Hk68 : Heap) (lk68 : List Loc) (hR68 : tk_text tb tn = tk_all tb tn k68 r68) (hr0k : r68.1 = 0 → tk_ok r68.2.2) (hk68 : r68.1 = 0 → tn - r68.2.1 < k68) (hb1 : r68.1 = 0 → r68.2.1 ≤ tn) (hMk68 : ps_Mo E Hk68 o Fk68 Ak68) (hFk68 : ps_Mf o H Hk68) (hsk68 : pt_sc F A Fk68 Ak68) (hok68 : r68.1 = 0 → pt_at Fk68 tb tn r68.2.1 ∧ ps_Vw Ak68 7 57 r68.2.2) (hbad68 : r68.1 ≠ 0 → Fk68 14 = nI r68.1 ∧ Fk68 13 = nI r68.2.1) (hSk68 : va_S (ps_A E) s.heap Hk68 lk68) (hmu : (if r68.1 = 0 then tn + 1 - r68.2.1 else 0) < n) (ls : Array Slot) (hl : lv_has ls 3 [(1, .int (bI (decide (r68.1 = 0)))), (0, .ref (o))]), W p l e ({ frames := 6, cells := 0, slots := 0, locals := 124 } : Room) s m args below meth c Hk68 lk68 0 0 (MQ below (ps_ge (pt_post E H o F A tb tn (tk_text tb tn)) (ps_A E)) args s 0 0 (ps_A E)) (F0 m 68 ls []) := by
                intro n
                induction n with
                | zero => intro r68 k68 Fk68 Ak68 Hk68 lk68 hR68 hr0k hk68 hb1 hMk68 hFk68 hsk68 hok68 hbad68 hSk68 hmu; exact absurd hmu (Nat.not_lt_zero _)
                | succ n ih68 =>
                  intro r68 k68 Fk68 Ak68 Hk68 lk68 hR68 hr0k hk68 hb1 hMk68 hFk68 hsk68 hok68 hbad68 hSk68 hmu ls hl
                  refine lv_iload_n hx hb dX4_readScales_68 rfl (lv_at hl 0 rfl) ?_
                  refine ps_ifeqB (tgt := 184) hx hb dX4_readScales_69 (by decide) (fun c_69 => ?_) (fun c_69 => ?_)
                  · skip
                    have hz68 : ¬ r68.1 = 0 := of_decide_eq_false c_69
                    refine lv_iload_n hx hb dX4_readScales_184 rfl (lv_at hl 0 rfl) ?_
                    exact ps_zretG (b := decide (r68.1 = 0)) X hSk68 (Nat.le_of_ble_eq_true rfl) (Nat.le_of_ble_eq_true rfl) dX4_readScales_185 (rfl) (pt_end_r (R := r68) (hR68.trans (tk_all_end (fun q => hz68 q.1))) hMk68 hFk68 hsk68 hok68 hbad68)
                  · skip
                    have hz68 : r68.1 = 0 := of_decide_eq_true c_69
                    have hat68 := (hok68 hz68).1
                    have hok1 := hr0k hz68
                    have hm68 := hok1.1.m
                    have hr68 : (0, r68.2.1, r68.2.2) = r68 := by rw [← hz68]
                    have hk3 := tk_k_le (tb := tb) (n := tn) (b := r68.2.1)
                    have hk1 : 0 < k68 := by have := hk68 hz68; omega
                    have hkd := tk_kind_le (tb := tb) (n := tn) (b := r68.2.1)
                    refine lv_aload_n hx hb dX4_readScales_72 rfl (lv_at hl 1 rfl) ?_
                    refine ps_mget (v := .int (Fk68 11)) X hMk68 11 (by decide) q1300 rfl rfl dX4_readScales_73 ?_
                    refine ps_top (y := nI (tk_k tb tn r68.2.1)) (hat68.2.2.2.1) ?_
                    refine lv_iconst (v := nI 3) hx hb dX4_readScales_76 rfl ?_
                    refine ps_ceq (tgt := 184) hx hb dX4_readScales_77 (by decide) (by omega) (fun c_77 => ?_) (fun c_77 => ?_)
                    · skip
                      refine lv_iload_n hx hb dX4_readScales_184 rfl (lv_at hl 0 rfl) ?_
                      exact ps_zretG (b := decide (r68.1 = 0)) X hSk68 (Nat.le_of_ble_eq_true rfl) (Nat.le_of_ble_eq_true rfl) dX4_readScales_185 (rfl) (pt_end_r (R := r68) (hR68.trans (tk_all_end (fun q => q.2 c_77))) hMk68 hFk68 hsk68 hok68 hbad68)
                    · skip
                      have J146 : W p l e ({ frames := 6, cells := 0, slots := 0, locals := 124 } : Room) s m args below meth c Hk68 lk68 0 0 (MQ below (ps_ge (pt_post E H o F A tb tn (tk_text tb tn)) (ps_A E)) args s 0 0 (ps_A E)) (F0 m 146 ls [.int (nI (tk_kind tb tn r68.2.1))]) := by
                        refine lv_istore_n (lv' := [(2, .int (nI (tk_kind tb tn r68.2.1))), (1, .int (bI (decide (r68.1 = 0)))), (0, .ref (o))]) hx hb dX4_readScales_146 rfl hl (by decide) rfl (fun ls hl => ?_)
                        refine lv_iload_n hx hb dX4_readScales_147 rfl (lv_at hl 0 rfl) ?_
                        refine ps_ifle (tgt := 159) hx hb dX4_readScales_148 (by decide) (by omega) (fun c_148 => ?_) (fun c_148 => ?_)
                        · skip
                          refine lv_aload_n hx hb dX4_readScales_159 rfl (lv_at hl 2 rfl) ?_
                          refine lv_bipush (v := nI 103) hx hb dX4_readScales_160 rfl ?_
                          refine ps_roV X hE (m_X4_isLetter l hE hMk68 (hT.sc hsk68) hat68 (lc := 103) (by omega)) (lw_V q1426 q1428 qs37 q75 q1429) (by decide +kernel) ⟨⟨Nat.le_of_ble_eq_true rfl, Nat.le_of_ble_eq_true rfl⟩, Nat.le_of_ble_eq_true rfl, Nat.le_of_ble_eq_true rfl⟩ (ps_mrc X hMk68) hSk68 hl.1 (As := [.int (nI 103)]) (rest := []) (n := 1) rfl rfl (Nat.le_of_ble_eq_true rfl) dX4_readScales_162 ?_
                          refine ps_st (st' := [.int (bI (tk_is tb tn r68.2.1 103))]) rfl ?_
                          refine ps_ifeqB (tgt := 175) hx hb dX4_readScales_165 (by decide) (fun c_165 => ?_) (fun c_165 => ?_)
                          · skip
                            refine lv_aload_n hx hb dX4_readScales_175 rfl (lv_at hl 2 rfl) ?_
                            refine lv_iconst (v := nI 1) hx hb dX4_readScales_176 rfl ?_
                            refine ps_geV X hE (m_X4_faults l hE hMk68 (f := 1)) (lw_V q1430 q1432 qs38 q75 q1433) (by decide +kernel) ⟨⟨Nat.le_of_ble_eq_true rfl, Nat.le_of_ble_eq_true rfl⟩, Nat.le_of_ble_eq_true rfl, Nat.le_of_ble_eq_true rfl⟩ (ps_mrc X hMk68) hSk68 hl.1 (As := [.int (nI 1)]) (rest := []) (n := 1) rfl rfl (Nat.le_of_ble_eq_true rfl) dX4_readScales_177 (fun v74 H70 locs71 hp72 hS73 => ?_)
                            obtain ⟨hv77, hM75, hf76⟩ := hp72
                            subst hv77
                            refine ps_st (st' := [.int (bI false)]) rfl ?_
                            refine lv_istore_n (lv' := [(1, .int (bI false)), (2, .int (nI (tk_kind tb tn r68.2.1))), (0, .ref (o))]) hx hb dX4_readScales_180 rfl hl (by decide) rfl (fun ls hl => ?_)
                            refine lv_goto (tgt := 68) hx hb dX4_readScales_181 (by decide) ?_
                            have hst78 : tk_step tb tn r68.2.1 r68.2.2 = (1, r68.2.1, r68.2.2) := by unfold tk_step; exact ((if_neg (by rw [c_148]; decide)).trans (if_neg (by rw [c_165]; decide)))
                            have hb68 := tk_step_b (tb := tb) (σ := r68.2.2) hat68.1 c_77
                            rw [hst78] at hb68
                            have hl : lv_has ls 3 [(1, .int (bI (decide (((1, r68.2.1, r68.2.2) : tk_R).1 = 0)))), (0, .ref (o))] := lv_sub hl [0, 2] rfl
                            exact ih68  ((1, r68.2.1, r68.2.2)) (k68 - 1) ((va_up Fk68 14 (nI 1))) Ak68 H70 _ ((by rw [hR68, ← hr68, tk_all_go hk1 c_77, hst78])) (fun q => by have hz := tk_step_ok (tb := tb) (n := tn) (b := r68.2.1) hok1; rw [hst78] at hz; exact hz q) (fun q => by have h1 := hk68 hz68; have h2 := hb68.2.2 q; have h3 := hb68.2.1; omega) (fun q => hb68.2.1) hM75 ((hFk68.tr hf76)) ((hsk68.f (by decide))) (fun q => absurd q (show ¬ (1 : Nat) = 0 by decide)) (fun _ => ⟨rfl, hat68.2.1⟩) hS73 (by have h2 := hb68.2.2; have h3 := hb68.2.1; simp only [hz68, if_true] at hmu; split <;> omega) ls (hl)
                          · skip
                            refine lv_aload_n hx hb dX4_readScales_168 rfl (lv_at hl 2 rfl) ?_
                            refine ps_geV X hE (m_X4_readGiver l hE hMk68 (hT.sc hsk68) hat68 (σ := r68.2.2) (hok68 hz68).2 (by omega)) (lw_V q1442 q1444 qs41 q75 q1445) (by decide +kernel) ⟨⟨Nat.le_of_ble_eq_true rfl, Nat.le_of_ble_eq_true rfl⟩, Nat.le_of_ble_eq_true rfl, Nat.le_of_ble_eq_true rfl⟩ (ps_mrc X hMk68) hSk68 hl.1 (As := []) (rest := []) (n := 0) rfl rfl (Nat.le_of_ble_eq_true rfl) dX4_readScales_169 (fun v83 H79 locs80 hp81 hS82 => ?_)
                            generalize hR85 : tk_giver tb tn r68.2.1 r68.2.2 = R84 at hp81
                            obtain ⟨hv93, F86, A87, hM88, hf89, hsc90, hok91, hbad92⟩ := hp81
                            subst hv93
                            refine ps_st (st' := [.int (bI (decide (R84.1 = 0)))]) rfl ?_
                            refine lv_goto (tgt := 180) hx hb dX4_readScales_172 (by decide) ?_
                            refine lv_istore_n (lv' := [(1, .int (bI (decide (R84.1 = 0)))), (2, .int (nI (tk_kind tb tn r68.2.1))), (0, .ref (o))]) hx hb dX4_readScales_180 rfl hl (by decide) rfl (fun ls hl => ?_)
                            refine lv_goto (tgt := 68) hx hb dX4_readScales_181 (by decide) ?_
                            have hst94 : tk_step tb tn r68.2.1 r68.2.2 = R84 := by unfold tk_step; exact ((if_neg (by rw [c_148]; decide)).trans (if_pos c_165)).trans hR85
                            have hb68 := tk_step_b (tb := tb) (σ := r68.2.2) hat68.1 c_77
                            rw [hst94] at hb68
                            exact ih68  R84 (k68 - 1) F86 A87 H79 _ ((by rw [hR68, ← hr68, tk_all_go hk1 c_77, hst94])) (fun q => by have hz := tk_step_ok (tb := tb) (n := tn) (b := r68.2.1) hok1; rw [hst94] at hz; exact hz q) (fun q => by have h1 := hk68 hz68; have h2 := hb68.2.2 q; have h3 := hb68.2.1; omega) (fun q => hb68.2.1) hM88 ((hFk68.tr hf89)) ((hsk68.tr hsc90)) hok91 hbad92 hS82 (by have h2 := hb68.2.2; have h3 := hb68.2.1; simp only [hz68, if_true] at hmu; split <;> omega) ls (lv_sub hl [0, 2] rfl)
                        · skip
                          refine lv_aload_n hx hb dX4_readScales_151 rfl (lv_at hl 2 rfl) ?_
                          refine lv_iload_n hx hb dX4_readScales_152 rfl (lv_at hl 0 rfl) ?_
                          refine ps_geV X hE (m_X4_readPromise l hE hMk68 (hT.sc hsk68) hat68 (σ := r68.2.2) (hok68 hz68).2 (kd := tk_kind tb tn r68.2.1) (by omega)) (lw_V q1438 q1440 qs40 q75 q1441) (by decide +kernel) ⟨⟨Nat.le_of_ble_eq_true rfl, Nat.le_of_ble_eq_true rfl⟩, Nat.le_of_ble_eq_true rfl, Nat.le_of_ble_eq_true rfl⟩ (ps_mrc X hMk68) hSk68 hl.1 (As := [.int (nI (tk_kind tb tn r68.2.1))]) (rest := []) (n := 1) rfl rfl (Nat.le_of_ble_eq_true rfl) dX4_readScales_153 (fun v99 H95 locs96 hp97 hS98 => ?_)
                          generalize hR101 : tk_promise tb tn (tk_kind tb tn r68.2.1) r68.2.1 r68.2.2 = R100 at hp97
                          obtain ⟨hv109, F102, A103, hM104, hf105, hsc106, hok107, hbad108⟩ := hp97
                          subst hv109
                          refine ps_st (st' := [.int (bI (decide (R100.1 = 0)))]) rfl ?_
                          refine lv_goto (tgt := 180) hx hb dX4_readScales_156 (by decide) ?_
                          refine lv_istore_n (lv' := [(1, .int (bI (decide (R100.1 = 0)))), (2, .int (nI (tk_kind tb tn r68.2.1))), (0, .ref (o))]) hx hb dX4_readScales_180 rfl hl (by decide) rfl (fun ls hl => ?_)
                          refine lv_goto (tgt := 68) hx hb dX4_readScales_181 (by decide) ?_
                          have hst110 : tk_step tb tn r68.2.1 r68.2.2 = R100 := by unfold tk_step; exact (if_pos c_148).trans hR101
                          have hb68 := tk_step_b (tb := tb) (σ := r68.2.2) hat68.1 c_77
                          rw [hst110] at hb68
                          exact ih68  R100 (k68 - 1) F102 A103 H95 _ ((by rw [hR68, ← hr68, tk_all_go hk1 c_77, hst110])) (fun q => by have hz := tk_step_ok (tb := tb) (n := tn) (b := r68.2.1) hok1; rw [hst110] at hz; exact hz q) (fun q => by have h1 := hk68 hz68; have h2 := hb68.2.2 q; have h3 := hb68.2.1; omega) (fun q => hb68.2.1) hM104 ((hFk68.tr hf105)) ((hsk68.tr hsc106)) hok107 hbad108 hS98 (by have h2 := hb68.2.2; have h3 := hb68.2.1; simp only [hz68, if_true] at hmu; split <;> omega) ls (lv_sub hl [0, 2] rfl)
                      refine lv_aload_n hx hb dX4_readScales_80 rfl (lv_at hl 1 rfl) ?_
                      refine lv_bipush (v := nI 112) hx hb dX4_readScales_81 rfl ?_
                      refine ps_roV X hE (m_X4_isLetter l hE hMk68 (hT.sc hsk68) hat68 (lc := 112) (by omega)) (lw_V q1426 q1428 qs37 q75 q1429) (by decide +kernel) ⟨⟨Nat.le_of_ble_eq_true rfl, Nat.le_of_ble_eq_true rfl⟩, Nat.le_of_ble_eq_true rfl, Nat.le_of_ble_eq_true rfl⟩ (ps_mrc X hMk68) hSk68 hl.1 (As := [.int (nI 112)]) (rest := []) (n := 1) rfl rfl (Nat.le_of_ble_eq_true rfl) dX4_readScales_83 ?_
                      refine ps_st (st' := [.int (bI (tk_is tb tn r68.2.1 112))]) rfl ?_
                      refine ps_ifeqB (tgt := 93) hx hb dX4_readScales_86 (by decide) (fun c_86 => ?_) (fun c_86 => ?_)
                      · skip
                        refine lv_aload_n hx hb dX4_readScales_93 rfl (lv_at hl 1 rfl) ?_
                        refine lv_bipush (v := nI 105) hx hb dX4_readScales_94 rfl ?_
                        refine ps_roV X hE (m_X4_isLetter l hE hMk68 (hT.sc hsk68) hat68 (lc := 105) (by omega)) (lw_V q1426 q1428 qs37 q75 q1429) (by decide +kernel) ⟨⟨Nat.le_of_ble_eq_true rfl, Nat.le_of_ble_eq_true rfl⟩, Nat.le_of_ble_eq_true rfl, Nat.le_of_ble_eq_true rfl⟩ (ps_mrc X hMk68) hSk68 hl.1 (As := [.int (nI 105)]) (rest := []) (n := 1) rfl rfl (Nat.le_of_ble_eq_true rfl) dX4_readScales_96 ?_
                        refine ps_st (st' := [.int (bI (tk_is tb tn r68.2.1 105))]) rfl ?_
                        refine ps_ifeqB (tgt := 106) hx hb dX4_readScales_99 (by decide) (fun c_99 => ?_) (fun c_99 => ?_)
                        · skip
                          refine lv_aload_n hx hb dX4_readScales_106 rfl (lv_at hl 1 rfl) ?_
                          refine lv_bipush (v := nI 116) hx hb dX4_readScales_107 rfl ?_
                          refine ps_roV X hE (m_X4_isLetter l hE hMk68 (hT.sc hsk68) hat68 (lc := 116) (by omega)) (lw_V q1426 q1428 qs37 q75 q1429) (by decide +kernel) ⟨⟨Nat.le_of_ble_eq_true rfl, Nat.le_of_ble_eq_true rfl⟩, Nat.le_of_ble_eq_true rfl, Nat.le_of_ble_eq_true rfl⟩ (ps_mrc X hMk68) hSk68 hl.1 (As := [.int (nI 116)]) (rest := []) (n := 1) rfl rfl (Nat.le_of_ble_eq_true rfl) dX4_readScales_109 ?_
                          refine ps_st (st' := [.int (bI (tk_is tb tn r68.2.1 116))]) rfl ?_
                          refine ps_ifeqB (tgt := 119) hx hb dX4_readScales_112 (by decide) (fun c_112 => ?_) (fun c_112 => ?_)
                          · skip
                            refine lv_aload_n hx hb dX4_readScales_119 rfl (lv_at hl 1 rfl) ?_
                            refine lv_bipush (v := nI 111) hx hb dX4_readScales_120 rfl ?_
                            refine ps_roV X hE (m_X4_isLetter l hE hMk68 (hT.sc hsk68) hat68 (lc := 111) (by omega)) (lw_V q1426 q1428 qs37 q75 q1429) (by decide +kernel) ⟨⟨Nat.le_of_ble_eq_true rfl, Nat.le_of_ble_eq_true rfl⟩, Nat.le_of_ble_eq_true rfl, Nat.le_of_ble_eq_true rfl⟩ (ps_mrc X hMk68) hSk68 hl.1 (As := [.int (nI 111)]) (rest := []) (n := 1) rfl rfl (Nat.le_of_ble_eq_true rfl) dX4_readScales_122 ?_
                            refine ps_st (st' := [.int (bI (tk_is tb tn r68.2.1 111))]) rfl ?_
                            refine ps_ifeqB (tgt := 132) hx hb dX4_readScales_125 (by decide) (fun c_125 => ?_) (fun c_125 => ?_)
                            · skip
                              refine lv_aload_n hx hb dX4_readScales_132 rfl (lv_at hl 1 rfl) ?_
                              refine lv_bipush (v := nI 109) hx hb dX4_readScales_133 rfl ?_
                              refine ps_roV X hE (m_X4_isLetter l hE hMk68 (hT.sc hsk68) hat68 (lc := 109) (by omega)) (lw_V q1426 q1428 qs37 q75 q1429) (by decide +kernel) ⟨⟨Nat.le_of_ble_eq_true rfl, Nat.le_of_ble_eq_true rfl⟩, Nat.le_of_ble_eq_true rfl, Nat.le_of_ble_eq_true rfl⟩ (ps_mrc X hMk68) hSk68 hl.1 (As := [.int (nI 109)]) (rest := []) (n := 1) rfl rfl (Nat.le_of_ble_eq_true rfl) dX4_readScales_135 ?_
                              refine ps_st (st' := [.int (bI (tk_is tb tn r68.2.1 109))]) rfl ?_
                              refine ps_ifeqB (tgt := 145) hx hb dX4_readScales_138 (by decide) (fun c_138 => ?_) (fun c_138 => ?_)
                              · skip
                                refine lv_iconst (v := nI 0) hx hb dX4_readScales_145 rfl ?_
                                exact ps_top (congrArg nI (by first | rfl | (simp [tk_kind, c_10, c_36, c_49, c_61, c_69, c_77, c_86, c_99, c_112, c_125, c_138]; done) | (simp [tk_kind, c_10, c_36, c_49, c_61, c_69, c_77, c_86, c_99, c_112, c_125, c_138]; omega) | omega)) J146
                              · skip
                                refine lv_iconst (v := nI 5) hx hb dX4_readScales_141 rfl ?_
                                refine lv_goto (tgt := 146) hx hb dX4_readScales_142 (by decide) ?_
                                exact ps_top (congrArg nI (by first | rfl | (simp [tk_kind, c_10, c_36, c_49, c_61, c_69, c_77, c_86, c_99, c_112, c_125, c_138]; done) | (simp [tk_kind, c_10, c_36, c_49, c_61, c_69, c_77, c_86, c_99, c_112, c_125, c_138]; omega) | omega)) J146
                            · skip
                              refine lv_iconst (v := nI 4) hx hb dX4_readScales_128 rfl ?_
                              refine lv_goto (tgt := 146) hx hb dX4_readScales_129 (by decide) ?_
                              exact ps_top (congrArg nI (by first | rfl | (simp [tk_kind, c_10, c_36, c_49, c_61, c_69, c_77, c_86, c_99, c_112, c_125]; done) | (simp [tk_kind, c_10, c_36, c_49, c_61, c_69, c_77, c_86, c_99, c_112, c_125]; omega) | omega)) J146
                          · skip
                            refine lv_iconst (v := nI 3) hx hb dX4_readScales_115 rfl ?_
                            refine lv_goto (tgt := 146) hx hb dX4_readScales_116 (by decide) ?_
                            exact ps_top (congrArg nI (by first | rfl | (simp [tk_kind, c_10, c_36, c_49, c_61, c_69, c_77, c_86, c_99, c_112]; done) | (simp [tk_kind, c_10, c_36, c_49, c_61, c_69, c_77, c_86, c_99, c_112]; omega) | omega)) J146
                        · skip
                          refine lv_iconst (v := nI 2) hx hb dX4_readScales_102 rfl ?_
                          refine lv_goto (tgt := 146) hx hb dX4_readScales_103 (by decide) ?_
                          exact ps_top (congrArg nI (by first | rfl | (simp [tk_kind, c_10, c_36, c_49, c_61, c_69, c_77, c_86, c_99]; done) | (simp [tk_kind, c_10, c_36, c_49, c_61, c_69, c_77, c_86, c_99]; omega) | omega)) J146
                      · skip
                        refine lv_iconst (v := nI 1) hx hb dX4_readScales_89 rfl ?_
                        refine lv_goto (tgt := 146) hx hb dX4_readScales_90 (by decide) ?_
                        exact ps_top (congrArg nI (by first | rfl | (simp [tk_kind, c_10, c_36, c_49, c_61, c_69, c_77, c_86]; done) | (simp [tk_kind, c_10, c_36, c_49, c_61, c_69, c_77, c_86]; omega) | omega)) J146
              have hR0 : tk_text tb tn = tk_all tb tn (tn + 1) (0, R58.2.1, R58.2.2) := by unfold tk_text; rw [hR23]; rw [tk_then_1 hz33]; rw [hR41]; rw [tk_then_1 hz51]; rw [hR59]; rw [tk_then_1 hz68]; skip
              have hok0 : tk_ok (R58.2.2) := by
                obtain ⟨w1, -, g1, g2⟩ := tk_fig_ok ((congrArg Prod.fst hR41).trans hz51)
                obtain ⟨w2, g3, g4, g5⟩ := tk_fig_ok ((congrArg Prod.fst hR59).trans hz68)
                rw [hR41] at g2
                rw [hR59] at g5
                have g6 := tk_sign_ok ((congrArg Prod.fst hR23).trans hz33)
                rw [hR23] at g6
                rw [g5, g2, g6]; exact tk_ok_0 g1 ⟨g3, g4⟩
              have hl : lv_has ls 3 [(1, .int (bI (decide (((0, R58.2.1, R58.2.2) : tk_R).1 = 0)))), (0, .ref (o))] := lv_sub hl [0, 1] rfl
              exact L68 ((tn + 1 - R58.2.1) + 1) ((0, R58.2.1, R58.2.2)) (tn + 1) F60 A61 H53 _ hR0 (fun _ => hok0) (fun _ => by have := hat69.1; show tn - R58.2.1 < tn + 1; omega) (fun _ => hat69.1) hM62 (((((hFk7.tr hf13).tr hf27).tr hf45).tr hf63)) (((((((pt_sc.rf.f (by decide)).a).tr hsc14).tr hsc28).tr hsc46).tr hsc64)) (fun _ => ⟨hat69, (hok65 hz68).2⟩) (fun q => absurd rfl q) hS56 (Nat.lt_succ_self _) ls (hl)
            · skip
              have hz111 : ¬ R58.1 = 0 := of_decide_eq_false c_61
              refine lv_iconst (v := nI 0) hx hb dX4_readScales_64 rfl ?_
              exact ps_zretG (b := false) X hS56 (Nat.le_of_ble_eq_true rfl) (Nat.le_of_ble_eq_true rfl) dX4_readScales_65 (rfl) (pt_end_z (R := R58) (by unfold tk_text; rw [hR23]; rw [tk_then_1 hz33]; rw [hR41]; rw [tk_then_1 hz51]; rw [hR59]; exact tk_then_0 hz111) (by rw [decide_eq_false hz111]) hM62 ((((hFk7.tr hf13).tr hf27).tr hf45).tr hf63) ((((((pt_sc.rf.f (by decide)).a).tr hsc14).tr hsc28).tr hsc46).tr hsc64) hok65 hbad66)
      · skip
        refine lv_aload_n hx hb dX4_readScales_13 rfl (lv_at hl 1 rfl) ?_
        refine ps_mget (v := .ref (o + 7)) X hMk7 15 (by decide) q1304 rfl rfl dX4_readScales_14 ?_
        refine lv_iload_n hx hb dX4_readScales_17 rfl (lv_at hl 0 rfl) ?_
        refine lv_iconst (v := nI 0) hx hb dX4_readScales_18 rfl ?_
        refine ps_mst (j := i) X hMk7 7 (by decide) rfl (by show i < 57; omega) hSk7 dX4_readScales_19 (fun H112 locs113 hM114 hf115 hS116 => ?_)
        refine lv_iinc (v := nI (i + 1)) (lv' := [(1, .int (nI (i + 1))), (0, .ref (o))]) hx hb dX4_readScales_20 hl (k := 0) rfl (ps_inc _) (by decide) rfl (fun ls hl => ?_)
        refine lv_goto (tgt := 7) hx hb dX4_readScales_23 (by decide) ?_
        exact ih7  (i + 1) ((va_up Ak7 7 (upd (Ak7 7) i (nI 0)))) H112 _ (by omega) hM114 ((hFk7.tr hf115)) (fun qk hqk => by rw [va_up_ne _ _ hqk]; exact hAk7 qk hqk) (ps_lpZ (f := Ak7 7) (src := fun _ => nI 0) hgk7 (rfl)) hS116 (by omega) ls (lv_sub hl [0, 1] rfl)
  exact L7 ((57 - 0) + 1) 0 A H1 _ (by omega) hM3 hf4 (fun _ _ => rfl) (ps_lp00 (src := fun _ => nI 0)) hS5 (Nat.lt_succ_self _) ls (lv_sub hl [0, 1] rfl)

set_option maxHeartbeats 4000000 in
theorem m_X4_scales (l : Launch) {E : ps_E} (hE : ps_ZT E) {H : Heap} {o : Nat} {F : Nat → Int32} {A : Nat → Nat → Int32} (hM : ps_Mo E H o F A) {S : SS} (hs : sm F A S) (hW : wf S) : ps_Ge l E yX4_scales cX4_scales 3 (some .int) 7 146 0 0 [.ref (o)] H (ps_mpost E H o (op_scales S)) := by
  refine ps_Ge.of (by decide) (Nat.le_of_ble_eq_true rfl) ?_
  intro p e s m args below meth c X ls hl
  have hx := X.1
  have hb := X.2.1
  have ho := X.2.2.2.1
  have hts := X.2.2.2.2.1
  have hS : va_S (ps_A E) s.heap H [] := by rw [X.2.2.2.2.2.2.2.2.1]; exact va_S.rf
  have hl : lv_has ls 3 [(0, .ref (o))] := hl
  have hσ := hs.2.2.2.2.1
  have hO := hW.1
  have hm := hO.m
  have hn := hW.n
  refine lv_aload_n hx hb dX4_scales_0 rfl (lv_at hl 0 rfl) ?_
  refine ps_geV X hE (m_X4_readScales l hE hM (tb := (S.2.1 1)) (tn := (S.1 2)) ⟨hs.1.2.2.1, hn.2.2.1, hs.2.2.2.2.2.1, fun i hi => hW.t hi⟩) (lw_V q1410 q1412 qs34 q75 q1413) (by decide +kernel) ⟨⟨Nat.le_of_ble_eq_true rfl, Nat.le_of_ble_eq_true rfl⟩, Nat.le_of_ble_eq_true rfl, Nat.le_of_ble_eq_true rfl⟩ (ps_mrc X hM) hS hl.1 (As := []) (rest := []) (n := 0) rfl rfl (Nat.le_of_ble_eq_true rfl) dX4_scales_1 (fun v5 H1 locs2 hp3 hS4 => ?_)
  generalize hR7 : tk_text ((S.2.1 1)) ((S.1 2)) = R6 at hp3
  obtain ⟨hv15, F8, A9, hM10, hf11, hsc12, hok13, hbad14⟩ := hp3
  subst hv15
  refine ps_st (st' := [.int (bI (decide (R6.1 = 0)))]) rfl ?_
  have hcF := (pt_sc.rf.tr hsc12).1
  have hcA := (pt_sc.rf.tr hsc12).2
  have hn0 := wf.n hW
  refine lv_istore_n (lv' := [(1, .int (bI (decide (R6.1 = 0)))), (0, .ref (o))]) hx hb dX4_scales_4 rfl hl (by decide) rfl (fun ls hl => ?_)
  refine lv_aload_n hx hb dX4_scales_5 rfl (lv_at hl 1 rfl) ?_
  refine lv_iconst (v := nI 0) hx hb dX4_scales_6 rfl ?_
  refine ps_mput X hM10 8 (by decide) q1297 rfl rfl rfl rfl hS4 dX4_scales_7 (fun H16 locs17 hM18 hf19 hS20 => ?_)
  refine lv_iload_n hx hb dX4_scales_10 rfl (lv_at hl 0 rfl) ?_
  refine ps_ifneB (tgt := 30) hx hb dX4_scales_11 (by decide) (fun c_11 => ?_) (fun c_11 => ?_)
  · skip
    have hz : R6.1 = 0 := of_decide_eq_true c_11
    have hv7 := (hok13 hz).2
    have hgood : tk_ok R6.2.2 := by have := tk_text_ok ((congrArg Prod.fst hR7).trans hz); rwa [hR7] at this
    have hm7 := hgood.1.m
    refine lv_iconst (v := nI 0) hx hb dX4_scales_30 rfl ?_
    refine lv_istore_n (lv' := [(2, .int (nI 0)), (1, .int (bI (decide (R6.1 = 0)))), (0, .ref (o))]) hx hb dX4_scales_31 rfl hl (by decide) rfl (fun ls hl => ?_)
    have L32 : ∀ (n : Nat) (i : Nat) (Ak32 : Nat → Nat → Int32) (Hk32 : Heap) (lk32 : List Loc) (hi32 : i ≤ 57) (hMk32 : ps_Mo E Hk32 o (va_up F8 8 (nI 0)) Ak32) (hFk32 : ps_Mf o H Hk32) (hAk32 : ∀ qk, qk ≠ 4 → Ak32 qk = A9 qk) (hgk32 : ∀ q, Ak32 4 q = if q < i then (fun q => nI (R6.2.2 q)) q else A9 4 q) (hSk32 : va_S (ps_A E) s.heap Hk32 lk32) (hmu : 57 - i < n) (ls : Array Slot) (hl : lv_has ls 3 [(2, .int (nI i)), (0, .ref (o))]), W p l e ({ frames := 7, cells := 0, slots := 0, locals := 146 } : Room) s m args below meth c Hk32 lk32 0 0 (MQ below (ps_ge (ps_mpost E H o (op_scales S)) (ps_A E)) args s 0 0 (ps_A E)) (F0 m 32 ls []) := by
      intro n
      induction n with
      | zero => intro i Ak32 Hk32 lk32 hi32 hMk32 hFk32 hAk32 hgk32 hSk32 hmu; exact absurd hmu (Nat.not_lt_zero _)
      | succ n ih32 =>
        intro i Ak32 Hk32 lk32 hi32 hMk32 hFk32 hAk32 hgk32 hSk32 hmu ls hl
        refine lv_iload_n hx hb dX4_scales_32 rfl (lv_at hl 0 rfl) ?_
        refine lv_bipush (v := nI 57) hx hb dX4_scales_33 rfl ?_
        refine ps_cge (tgt := 56) hx hb dX4_scales_35 (by decide) (by omega) (fun c_35 => ?_) (fun c_35 => ?_)
        · skip
          have ei32 : i = 57 := by omega
          have eA32 := va_eta hAk32
          have hMx32 := hMk32
          rw [eA32] at hMx32
          refine lv_aload_n hx hb dX4_scales_56 rfl (lv_at hl 1 rfl) ?_
          refine lv_iconst (v := nI 1) hx hb dX4_scales_57 rfl ?_
          refine ps_mput X hMx32 4 (by decide) q1293 rfl rfl rfl rfl hSk32 dX4_scales_58 (fun H21 locs22 hM23 hf24 hS25 => ?_)
          refine lv_aload_n hx hb dX4_scales_61 rfl (lv_at hl 1 rfl) ?_
          refine lv_iconst (v := nI 0) hx hb dX4_scales_62 rfl ?_
          refine ps_mput X hM23 17 (by decide) q1306 rfl rfl rfl rfl hS25 dX4_scales_63 (fun H26 locs27 hM28 hf29 hS30 => ?_)
          refine lv_aload_n hx hb dX4_scales_66 rfl (lv_at hl 1 rfl) ?_
          refine ps_mget (v := .ref (o + 4)) X hM28 5 (by decide) q1294 rfl rfl dX4_scales_67 ?_
          refine lv_iconst (v := nI 3) hx hb dX4_scales_70 rfl ?_
          refine ps_mld (j := 3) (v := nI (R6.2.2 3)) X hM28 4 (by decide) rfl (by show 3 < 57; omega) ((fun i hi => (hgk32 i).trans (by rw [ei32, if_pos hi]) : ps_Vw (va_up A9 4 (Ak32 4)) 4 57 R6.2.2) _ (by show 3 < 57; omega)) dX4_scales_71 ?_
          exact ps_iretG X hS30 (Nat.le_of_ble_eq_true rfl) (Nat.le_of_ble_eq_true rfl) dX4_scales_72 (ps_mend (S := (va_up (va_up S.1 2 0) 3 0, va_up S.2.1 0 R6.2.2, S.2.2)) (by unfold op_scales; rw [hR7, if_pos hz]) hM28 (⟨⟨(hcF 3 (by decide)).trans (hs.1.1), (hcF 9 (by decide)).trans (hs.1.2.1), rfl, rfl, (hcF 23 (by decide)).trans (hs.1.2.2.2.2.1), by rw [decide_eq_true (show 1 ≤ va_up S.2.1 0 R6.2.2 0 1 from hgood.2.1)]; rfl⟩, sc_A4 (S := S) hcA hs.2 (fun i hi => (hgk32 i).trans (by rw [ei32, if_pos hi]))⟩) ((hFk32.tr hf24).tr hf29))
        · skip
          refine lv_aload_n hx hb dX4_scales_38 rfl (lv_at hl 1 rfl) ?_
          refine ps_mget (v := .ref (o + 4)) X hMk32 5 (by decide) q1294 rfl rfl dX4_scales_39 ?_
          refine lv_iload_n hx hb dX4_scales_42 rfl (lv_at hl 0 rfl) ?_
          refine lv_aload_n hx hb dX4_scales_43 rfl (lv_at hl 1 rfl) ?_
          refine ps_mget (v := .ref (o + 7)) X hMk32 15 (by decide) q1304 rfl rfl dX4_scales_44 ?_
          refine lv_iload_n hx hb dX4_scales_47 rfl (lv_at hl 0 rfl) ?_
          refine ps_mld (j := i) (v := nI (R6.2.2 i)) X hMk32 7 (by decide) rfl (by show i < 57; omega) ((hv7.eq (hAk32 7 (by decide))) _ (by show i < 57; omega)) dX4_scales_48 ?_
          refine ps_mst (j := i) X hMk32 4 (by decide) rfl (by show i < 57; omega) hSk32 dX4_scales_49 (fun H31 locs32 hM33 hf34 hS35 => ?_)
          refine lv_iinc (v := nI (i + 1)) (lv' := [(2, .int (nI (i + 1))), (0, .ref (o))]) hx hb dX4_scales_50 hl (k := 0) rfl (ps_inc _) (by decide) rfl (fun ls hl => ?_)
          refine lv_goto (tgt := 32) hx hb dX4_scales_53 (by decide) ?_
          exact ih32  (i + 1) ((va_up Ak32 4 (upd (Ak32 4) i (nI (R6.2.2 i))))) H31 _ (by omega) hM33 ((hFk32.tr hf34)) (fun qk hqk => by rw [va_up_ne _ _ hqk]; exact hAk32 qk hqk) (ps_lpZ (f := Ak32 4) (src := fun q => nI (R6.2.2 q)) hgk32 (rfl)) hS35 (by omega) ls (lv_sub hl [0, 1] rfl)
    exact L32 ((57 - 0) + 1) 0 A9 H16 _ (by omega) hM18 ((hf11.tr hf19)) (fun _ _ => rfl) (ps_lp00 (src := fun q => nI (R6.2.2 q))) hS20 (Nat.lt_succ_self _) ls (lv_sub hl [0, 2] rfl)
  · skip
    have hz : ¬ R6.1 = 0 := of_decide_eq_false c_11
    have hb14 := (hbad14 hz).1
    have hb13 := (hbad14 hz).2
    refine lv_aload_n hx hb dX4_scales_14 rfl (lv_at hl 1 rfl) ?_
    refine lv_aload_n hx hb dX4_scales_15 rfl (lv_at hl 1 rfl) ?_
    refine ps_mget (v := .int ((va_up F8 8 (nI 0)) 14)) X hM18 14 (by decide) q1303 rfl rfl dX4_scales_16 ?_
    refine ps_top (y := nI R6.1) (hb14) ?_
    refine ps_mput X hM18 9 (by decide) q1298 rfl rfl rfl rfl hS20 dX4_scales_19 (fun H36 locs37 hM38 hf39 hS40 => ?_)
    refine lv_ldc (v := -1000100) hx hb ho (hts _ q1446) dX4_scales_22 ?_
    refine lv_aload_n hx hb dX4_scales_24 rfl (lv_at hl 1 rfl) ?_
    refine ps_mget (v := .int ((va_up (va_up F8 8 (nI 0)) 9 (nI R6.1)) 13)) X hM38 13 (by decide) q1302 rfl rfl dX4_scales_25 ?_
    refine ps_top (y := nI R6.2.1) (hb13) ?_
    refine lv_isub hx hb dX4_scales_28 ?_
    exact ps_iretG X hS40 (Nat.le_of_ble_eq_true rfl) (Nat.le_of_ble_eq_true rfl) dX4_scales_29 (ps_mend (S := (va_up (va_up S.1 2 0) 1 R6.1, S.2.1, S.2.2)) (by unfold op_scales; rw [hR7, if_neg hz]) hM38 (⟨⟨(hcF 3 (by decide)).trans (hs.1.1), rfl, rfl, (hcF 17 (by decide)).trans (hs.1.2.2.2.1), (hcF 23 (by decide)).trans (hs.1.2.2.2.2.1), (hcF 4 (by decide)).trans (hs.1.2.2.2.2.2)⟩, sc_A (S := S) hcA hs.2⟩) ((hf11.tr hf19).tr hf39))
