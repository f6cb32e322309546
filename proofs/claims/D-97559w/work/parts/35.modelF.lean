/-! the model: what is foretold (printed by gen/model6.py) -/
set_option maxRecDepth 100000
set_option maxHeartbeats 4000000 in
theorem m_X4_settleAll (l : Launch) {E : ps_E} (hE : ps_ZT E) {H : Heap} {o : Nat} {F : Nat → Int32} {A : Nat → Nat → Int32} (hM : ps_Mo E H o F A) {σ : Nat → Nat} (hσ : ps_Vw A 4 57 σ) (hO : sp_ok σ) {g h : Nat} (hg : g < 4) (hh : h < 21) : ps_Ge l E yX4_settleAll cX4_settleAll 5 (some .int) 4 80 0 0 [.ref (o), .int (nI g), .int (nI h)] H (fun v H1 => v = some (.int (nI (sp_go σ h 10 (5 + g)))) ∧ ∃ g9 g4, ps_Mo E H1 o (va_up F 19 (nI (sp_kept (sp_go σ h 10) g (σ 3)))) (va_up (va_up A 9 g9) 4 g4) ∧ ps_Mf o H H1 ∧ ∀ i, i < 57 → g4 i = nI (σ i)) := by
  refine ps_Ge.of (by decide) (Nat.le_of_ble_eq_true rfl) ?_
  intro p e s m args below meth c X ls hl
  have hx := X.1
  have hb := X.2.1
  have ho := X.2.2.2.1
  have hts := X.2.2.2.2.1
  have hS : va_S (ps_A E) s.heap H [] := by rw [X.2.2.2.2.2.2.2.2.1]; exact va_S.rf
  have hl : lv_has ls 5 [(0, .ref (o)), (1, .int (nI g)), (2, .int (nI h))] := hl
  have hm := hO.m
  have hgo := fun d => sp_go_ok hO (hv := h) (d := d)
  refine lv_iconst (v := nI 0) hx hb dX4_settleAll_0 rfl ?_
  refine lv_istore_n (lv' := [(3, .int (nI 0)), (0, .ref (o)), (1, .int (nI g)), (2, .int (nI h))]) hx hb dX4_settleAll_1 rfl hl (by decide) rfl (fun ls hl => ?_)
  have L2 : ∀ (n : Nat) (i : Nat) (Ak2 : Nat → Nat → Int32) (Hk2 : Heap) (lk2 : List Loc) (hi2 : i ≤ 57) (hMk2 : ps_Mo E Hk2 o F Ak2) (hFk2 : ps_Mf o H Hk2) (hAk2 : ∀ qk, qk ≠ 9 → Ak2 qk = A qk) (hgk2 : ∀ q, Ak2 9 q = if q < i then (fun q => nI (σ q)) q else A 9 q) (hSk2 : va_S (ps_A E) s.heap Hk2 lk2) (hmu : 57 - i < n) (ls : Array Slot) (hl : lv_has ls 5 [(3, .int (nI i)), (0, .ref (o)), (1, .int (nI g)), (2, .int (nI h))]), W p l e ({ frames := 4, cells := 0, slots := 0, locals := 80 } : Room) s m args below meth c Hk2 lk2 0 0 (MQ below (ps_ge (fun v H1 => v = some (.int (nI (sp_go σ h 10 (5 + g)))) ∧ ∃ g9 g4, ps_Mo E H1 o (va_up F 19 (nI (sp_kept (sp_go σ h 10) g (σ 3)))) (va_up (va_up A 9 g9) 4 g4) ∧ ps_Mf o H H1 ∧ ∀ i, i < 57 → g4 i = nI (σ i)) (ps_A E)) args s 0 0 (ps_A E)) (F0 m 2 ls []) := by
    intro n
    induction n with
    | zero => intro i Ak2 Hk2 lk2 hi2 hMk2 hFk2 hAk2 hgk2 hSk2 hmu; exact absurd hmu (Nat.not_lt_zero _)
    | succ n ih2 =>
      intro i Ak2 Hk2 lk2 hi2 hMk2 hFk2 hAk2 hgk2 hSk2 hmu ls hl
      refine lv_iload_n hx hb dX4_settleAll_2 rfl (lv_at hl 0 rfl) ?_
      refine lv_bipush (v := nI 57) hx hb dX4_settleAll_3 rfl ?_
      refine ps_cge (tgt := 26) hx hb dX4_settleAll_5 (by decide) (by omega) (fun c_5 => ?_) (fun c_5 => ?_)
      · skip
        have ei2 : i = 57 := by omega
        have eA2 := va_eta hAk2
        have hMx2 := hMk2
        rw [eA2] at hMx2
        have hv9 : ps_Vw (va_up A 9 (Ak2 9)) 9 57 σ := fun i hi => (hgk2 i).trans (by rw [ei2, if_pos hi])
        refine lv_iconst (v := nI 0) hx hb dX4_settleAll_26 rfl ?_
        refine lv_istore_n (lv' := [(3, .int (nI 0)), (0, .ref (o)), (1, .int (nI g)), (2, .int (nI h))]) hx hb dX4_settleAll_27 rfl hl (by decide) rfl (fun ls hl => ?_)
        have L28 : ∀ (n : Nat) (d : Nat) (Ak28 : Nat → Nat → Int32) (Hk28 : Heap) (lk28 : List Loc) (hd : d ≤ 10) (hMk28 : ps_Mo E Hk28 o F Ak28) (hFk28 : ps_Mf o H Hk28) (hAk28 : ∀ qk, qk ≠ 4 → Ak28 qk = (va_up A 9 (Ak2 9)) qk) (hvk28 : ps_Vw Ak28 4 57 (sp_go σ h d)) (hSk28 : va_S (ps_A E) s.heap Hk28 lk28) (hmu : 10 - d < n) (ls : Array Slot) (hl : lv_has ls 5 [(3, .int (nI d)), (0, .ref (o)), (1, .int (nI g)), (2, .int (nI h))]), W p l e ({ frames := 4, cells := 0, slots := 0, locals := 80 } : Room) s m args below meth c Hk28 lk28 0 0 (MQ below (ps_ge (fun v H1 => v = some (.int (nI (sp_go σ h 10 (5 + g)))) ∧ ∃ g9 g4, ps_Mo E H1 o (va_up F 19 (nI (sp_kept (sp_go σ h 10) g (σ 3)))) (va_up (va_up A 9 g9) 4 g4) ∧ ps_Mf o H H1 ∧ ∀ i, i < 57 → g4 i = nI (σ i)) (ps_A E)) args s 0 0 (ps_A E)) (F0 m 28 ls []) := by
          intro n
          induction n with
          | zero => intro d Ak28 Hk28 lk28 hd hMk28 hFk28 hAk28 hvk28 hSk28 hmu; exact absurd hmu (Nat.not_lt_zero _)
          | succ n ih28 =>
            intro d Ak28 Hk28 lk28 hd hMk28 hFk28 hAk28 hvk28 hSk28 hmu ls hl
            refine lv_iload_n hx hb dX4_settleAll_28 rfl (lv_at hl 0 rfl) ?_
            refine lv_bipush (v := nI 9) hx hb dX4_settleAll_29 rfl ?_
            refine ps_cgt (tgt := 104) hx hb dX4_settleAll_31 (by decide) (by omega) (fun c_31 => ?_) (fun c_31 => ?_)
            · skip
              have ed : d = 10 := by omega
              subst ed
              have eA28 := va_eta hAk28
              have hMx28 := hMk28
              rw [eA28] at hMx28
              have hgo := hgo 10
              have e3 := hgo.2 3 (by omega)
              have hk5 := hgo.1.k hg
              refine lv_aload_n hx hb dX4_settleAll_104 rfl (lv_at hl 1 rfl) ?_
              refine ps_mget (v := .ref (o + 4)) X hMx28 5 (by decide) q1294 rfl rfl dX4_settleAll_105 ?_
              refine lv_iconst (v := nI 5) hx hb dX4_settleAll_108 rfl ?_
              refine lv_iload_n hx hb dX4_settleAll_109 rfl (lv_at hl 2 rfl) ?_
              refine ps_iadd hx hb dX4_settleAll_110 ?_
              refine ps_mld (j := 5 + g) (v := nI ((sp_go σ h 10) (5 + g))) X hMx28 4 (by decide) rfl (by show 5 + g < 57; omega) (hvk28 _ (by show 5 + g < 57; omega)) dX4_settleAll_111 ?_
              refine lv_istore_n (lv' := [(3, .int (nI ((sp_go σ h 10) (5 + g)))), (0, .ref (o)), (1, .int (nI g)), (2, .int (nI h))]) hx hb dX4_settleAll_112 rfl hl (by decide) rfl (fun ls hl => ?_)
              refine lv_aload_n hx hb dX4_settleAll_113 rfl (lv_at hl 1 rfl) ?_
              refine lv_iconst (v := nI 0) hx hb dX4_settleAll_114 rfl ?_
              refine ps_mput X hMx28 19 (by decide) q1308 rfl rfl rfl rfl hSk28 dX4_settleAll_115 (fun H1 locs2 hM3 hf4 hS5 => ?_)
              refine lv_iconst (v := nI 0) hx hb dX4_settleAll_118 rfl ?_
              refine lv_istore (lv' := [(4, .int (nI 0)), (3, .int (nI ((sp_go σ h 10) (5 + g)))), (0, .ref (o)), (1, .int (nI g)), (2, .int (nI h))]) hx hb dX4_settleAll_119 hl (by decide) rfl (fun ls hl => ?_)
              have L121 : ∀ (n : Nat) (i : Nat) (Hk121 : Heap) (lk121 : List Loc) (hi121 : i ≤ σ 3) (hMk121 : ps_Mo E Hk121 o (va_up F 19 (nI (sp_kept (sp_go σ h 10) g i))) (va_up (va_up A 9 (Ak2 9)) 4 (Ak28 4))) (hFk121 : ps_Mf o H Hk121) (hSk121 : va_S (ps_A E) s.heap Hk121 lk121) (hmu : σ 3 - i < n) (ls : Array Slot) (hl : lv_has ls 5 [(4, .int (nI i)), (3, .int (nI ((sp_go σ h 10) (5 + g)))), (0, .ref (o)), (1, .int (nI g)), (2, .int (nI h))]), W p l e ({ frames := 4, cells := 0, slots := 0, locals := 80 } : Room) s m args below meth c Hk121 lk121 0 0 (MQ below (ps_ge (fun v H1 => v = some (.int (nI (sp_go σ h 10 (5 + g)))) ∧ ∃ g9 g4, ps_Mo E H1 o (va_up F 19 (nI (sp_kept (sp_go σ h 10) g (σ 3)))) (va_up (va_up A 9 g9) 4 g4) ∧ ps_Mf o H H1 ∧ ∀ i, i < 57 → g4 i = nI (σ i)) (ps_A E)) args s 0 0 (ps_A E)) (F0 m 121 ls []) := by
                intro n
                induction n with
                | zero => intro i Hk121 lk121 hi121 hMk121 hFk121 hSk121 hmu; exact absurd hmu (Nat.not_lt_zero _)
                | succ n ih121 =>
                  intro i Hk121 lk121 hi121 hMk121 hFk121 hSk121 hmu ls hl
                  refine lv_iload hx hb dX4_settleAll_121 (lv_at hl 0 rfl) ?_
                  refine lv_aload_n hx hb dX4_settleAll_123 rfl (lv_at hl 2 rfl) ?_
                  refine ps_mget (v := .ref (o + 4)) X hMk121 5 (by decide) q1294 rfl rfl dX4_settleAll_124 ?_
                  refine lv_iconst (v := nI 3) hx hb dX4_settleAll_127 rfl ?_
                  refine ps_mld (j := 3) (v := nI (σ 3)) X hMk121 4 (by decide) rfl (by show 3 < 57; omega) ((hvk28 3 (by decide)).trans (congrArg nI e3)) dX4_settleAll_128 ?_
                  refine ps_cge (tgt := 180) hx hb dX4_settleAll_129 (by decide) (by omega) (fun c_129 => ?_) (fun c_129 => ?_)
                  · skip
                    have ei121 : i = σ 3 := by omega
                    refine lv_iconst (v := nI 0) hx hb dX4_settleAll_180 rfl ?_
                    refine lv_istore (lv' := [(4, .int (nI 0)), (3, .int (nI ((sp_go σ h 10) (5 + g)))), (0, .ref (o)), (1, .int (nI g)), (2, .int (nI h))]) hx hb dX4_settleAll_181 hl (by decide) rfl (fun ls hl => ?_)
                    have L183 : ∀ (n : Nat) (j : Nat) (Ak183 : Nat → Nat → Int32) (Hk183 : Heap) (lk183 : List Loc) (hi183 : j ≤ 57) (hMk183 : ps_Mo E Hk183 o (va_up F 19 (nI (sp_kept (sp_go σ h 10) g i))) Ak183) (hFk183 : ps_Mf o H Hk183) (hAk183 : ∀ qk, qk ≠ 4 → Ak183 qk = (va_up (va_up A 9 (Ak2 9)) 4 (Ak28 4)) qk) (hgk183 : ∀ q, Ak183 4 q = if q < j then (fun q => nI (σ q)) q else (va_up (va_up A 9 (Ak2 9)) 4 (Ak28 4)) 4 q) (hSk183 : va_S (ps_A E) s.heap Hk183 lk183) (hmu : 57 - j < n) (ls : Array Slot) (hl : lv_has ls 5 [(4, .int (nI j)), (3, .int (nI ((sp_go σ h 10) (5 + g)))), (0, .ref (o)), (1, .int (nI g)), (2, .int (nI h))]), W p l e ({ frames := 4, cells := 0, slots := 0, locals := 80 } : Room) s m args below meth c Hk183 lk183 0 0 (MQ below (ps_ge (fun v H1 => v = some (.int (nI (sp_go σ h 10 (5 + g)))) ∧ ∃ g9 g4, ps_Mo E H1 o (va_up F 19 (nI (sp_kept (sp_go σ h 10) g (σ 3)))) (va_up (va_up A 9 g9) 4 g4) ∧ ps_Mf o H H1 ∧ ∀ i, i < 57 → g4 i = nI (σ i)) (ps_A E)) args s 0 0 (ps_A E)) (F0 m 183 ls []) := by
                      intro n
                      induction n with
                      | zero => intro j Ak183 Hk183 lk183 hi183 hMk183 hFk183 hAk183 hgk183 hSk183 hmu; exact absurd hmu (Nat.not_lt_zero _)
                      | succ n ih183 =>
                        intro j Ak183 Hk183 lk183 hi183 hMk183 hFk183 hAk183 hgk183 hSk183 hmu ls hl
                        refine lv_iload hx hb dX4_settleAll_183 (lv_at hl 0 rfl) ?_
                        refine lv_bipush (v := nI 57) hx hb dX4_settleAll_185 rfl ?_
                        refine ps_cge (tgt := 210) hx hb dX4_settleAll_187 (by decide) (by omega) (fun c_187 => ?_) (fun c_187 => ?_)
                        · skip
                          have ej : j = 57 := by omega
                          have eA183 := va_eta hAk183
                          have hMx183 := hMk183
                          rw [eA183] at hMx183
                          refine lv_iload_n hx hb dX4_settleAll_210 rfl (lv_at hl 1 rfl) ?_
                          exact ps_iretG X hSk183 (Nat.le_of_ble_eq_true rfl) (Nat.le_of_ble_eq_true rfl) dX4_settleAll_211 (⟨rfl, _, _, by have h9 := hMx183; rw [bx_uu, ei121] at h9; exact h9, hFk183, fun i hi => (hgk183 i).trans (by rw [ej, if_pos hi])⟩)
                        · skip
                          refine lv_aload_n hx hb dX4_settleAll_190 rfl (lv_at hl 2 rfl) ?_
                          refine ps_mget (v := .ref (o + 4)) X hMk183 5 (by decide) q1294 rfl rfl dX4_settleAll_191 ?_
                          refine lv_iload hx hb dX4_settleAll_194 (lv_at hl 0 rfl) ?_
                          refine lv_aload_n hx hb dX4_settleAll_196 rfl (lv_at hl 2 rfl) ?_
                          refine ps_mget (v := .ref (o + 9)) X hMk183 18 (by decide) q1307 rfl rfl dX4_settleAll_197 ?_
                          refine lv_iload hx hb dX4_settleAll_200 (lv_at hl 0 rfl) ?_
                          refine ps_mld (j := j) (v := nI (σ j)) X hMk183 9 (by decide) rfl (by show j < 57; omega) (((hv9.ne (by decide)).eq (hAk183 9 (by decide))) _ (by show j < 57; omega)) dX4_settleAll_202 ?_
                          refine ps_mst (j := j) X hMk183 4 (by decide) rfl (by show j < 57; omega) hSk183 dX4_settleAll_203 (fun H6 locs7 hM8 hf9 hS10 => ?_)
                          refine lv_iinc (v := nI (j + 1)) (lv' := [(4, .int (nI (j + 1))), (3, .int (nI ((sp_go σ h 10) (5 + g)))), (0, .ref (o)), (1, .int (nI g)), (2, .int (nI h))]) hx hb dX4_settleAll_204 hl (k := 0) rfl (ps_inc _) (by decide) rfl (fun ls hl => ?_)
                          refine lv_goto (tgt := 183) hx hb dX4_settleAll_207 (by decide) ?_
                          exact ih183  (j + 1) ((va_up Ak183 4 (upd (Ak183 4) j (nI (σ j))))) H6 _ (by omega) hM8 ((hFk183.tr hf9)) (fun qk hqk => by rw [va_up_ne _ _ hqk]; exact hAk183 qk hqk) (ps_lpZ (f := Ak183 4) (src := fun q => nI (σ q)) hgk183 (rfl)) hS10 (by omega) ls (lv_sub hl [0, 1, 2, 3, 4] rfl)
                    exact L183 ((57 - 0) + 1) 0 ((va_up (va_up A 9 (Ak2 9)) 4 (Ak28 4))) Hk121 _ (by omega) hMk121 hFk121 (fun _ _ => rfl) (ps_lp00 (src := fun q => nI (σ q))) hSk121 (Nat.lt_succ_self _) ls (lv_sub hl [0, 1, 2, 3, 4] rfl)
                  · skip
                    have hm10 := hgo.1.m
                    have hp := hgo.1.p (p := i) (by omega)
                    have hh9 := hgo.1.h (p := i) (by omega)
                    refine lv_aload_n hx hb dX4_settleAll_132 rfl (lv_at hl 2 rfl) ?_
                    refine lv_dup hx hb dX4_settleAll_133 rfl ?_
                    refine ps_mget (v := .int (nI ((sp_kept (sp_go σ h 10) g i)))) X hMk121 19 (by decide) q1308 rfl rfl dX4_settleAll_134 ?_
                    have J170 : W p l e ({ frames := 4, cells := 0, slots := 0, locals := 80 } : Room) s m args below meth c Hk121 lk121 0 0 (MQ below (ps_ge (fun v H1 => v = some (.int (nI (sp_go σ h 10 (5 + g)))) ∧ ∃ g9 g4, ps_Mo E H1 o (va_up F 19 (nI (sp_kept (sp_go σ h 10) g (σ 3)))) (va_up (va_up A 9 g9) 4 g4) ∧ ps_Mf o H H1 ∧ ∀ i, i < 57 → g4 i = nI (σ i)) (ps_A E)) args s 0 0 (ps_A E)) (F0 m 170 ls [.int (nI (if (sp_go σ h 10) (17 + i) = g ∧ (sp_go σ h 10) (49 + i) = 1 then 1 else 0)), .int (nI ((sp_kept (sp_go σ h 10) g i))), .ref (o)]) := by
                      refine ps_iadd hx hb dX4_settleAll_170 ?_
                      refine ps_mput X hMk121 19 (by decide) q1308 rfl rfl rfl rfl hSk121 dX4_settleAll_171 (fun H11 locs12 hM13 hf14 hS15 => ?_)
                      have hMu := hM13
                      rw [bx_uu, show ((sp_kept (sp_go σ h 10) g i)) + (if (sp_go σ h 10) (17 + i) = g ∧ (sp_go σ h 10) (49 + i) = 1 then 1 else 0) = (sp_kept (sp_go σ h 10) g (i + 1)) by simp [sp_kept, sumR]] at hMu
                      refine lv_iinc (v := nI (i + 1)) (lv' := [(4, .int (nI (i + 1))), (3, .int (nI ((sp_go σ h 10) (5 + g)))), (0, .ref (o)), (1, .int (nI g)), (2, .int (nI h))]) hx hb dX4_settleAll_174 hl (k := 0) rfl (ps_inc _) (by decide) rfl (fun ls hl => ?_)
                      refine lv_goto (tgt := 121) hx hb dX4_settleAll_177 (by decide) ?_
                      exact ih121  (i + 1) H11 _ (by omega) hMu ((hFk121.tr hf14)) hS15 (by omega) ls (lv_sub hl [0, 1, 2, 3, 4] rfl)
                    refine lv_aload_n hx hb dX4_settleAll_137 rfl (lv_at hl 2 rfl) ?_
                    refine ps_mget (v := .ref (o + 4)) X hMk121 5 (by decide) q1294 rfl rfl dX4_settleAll_138 ?_
                    refine lv_bipush (v := nI 17) hx hb dX4_settleAll_141 rfl ?_
                    refine lv_iload hx hb dX4_settleAll_143 (lv_at hl 0 rfl) ?_
                    refine ps_iadd hx hb dX4_settleAll_145 ?_
                    refine ps_mld (j := 17 + i) (v := nI ((sp_go σ h 10) (17 + i))) X hMk121 4 (by decide) rfl (by show 17 + i < 57; omega) (hvk28 _ (by show 17 + i < 57; omega)) dX4_settleAll_146 ?_
                    refine lv_iload_n hx hb dX4_settleAll_147 rfl (lv_at hl 3 rfl) ?_
                    refine ps_cne (tgt := 169) hx hb dX4_settleAll_148 (by decide) (by omega) (fun c_148 => ?_) (fun c_148 => ?_)
                    · skip
                      refine lv_iconst (v := nI 0) hx hb dX4_settleAll_169 rfl ?_
                      exact ps_top (congrArg nI (by first | rfl | (simp [c_5, c_31, c_129, c_148]; done) | (simp [c_5, c_31, c_129, c_148]; omega) | omega)) J170
                    · skip
                      refine lv_aload_n hx hb dX4_settleAll_151 rfl (lv_at hl 2 rfl) ?_
                      refine ps_mget (v := .ref (o + 4)) X hMk121 5 (by decide) q1294 rfl rfl dX4_settleAll_152 ?_
                      refine lv_bipush (v := nI 49) hx hb dX4_settleAll_155 rfl ?_
                      refine lv_iload hx hb dX4_settleAll_157 (lv_at hl 0 rfl) ?_
                      refine ps_iadd hx hb dX4_settleAll_159 ?_
                      refine ps_mld (j := 49 + i) (v := nI ((sp_go σ h 10) (49 + i))) X hMk121 4 (by decide) rfl (by show 49 + i < 57; omega) (hvk28 _ (by show 49 + i < 57; omega)) dX4_settleAll_160 ?_
                      refine lv_iconst (v := nI 1) hx hb dX4_settleAll_161 rfl ?_
                      refine ps_cne (tgt := 169) hx hb dX4_settleAll_162 (by decide) (by omega) (fun c_162 => ?_) (fun c_162 => ?_)
                      · skip
                        refine lv_iconst (v := nI 0) hx hb dX4_settleAll_169 rfl ?_
                        exact ps_top (congrArg nI (by first | rfl | (simp [c_5, c_31, c_129, c_148, c_162]; done) | (simp [c_5, c_31, c_129, c_148, c_162]; omega) | omega)) J170
                      · skip
                        refine lv_iconst (v := nI 1) hx hb dX4_settleAll_165 rfl ?_
                        refine lv_goto (tgt := 170) hx hb dX4_settleAll_166 (by decide) ?_
                        exact ps_top (congrArg nI (by first | rfl | (simp [c_5, c_31, c_129, c_148, c_162]; done) | (simp [c_5, c_31, c_129, c_148, c_162]; omega) | omega)) J170
              exact L121 ((σ 3 - 0) + 1) 0 H1 _ (by omega) hM3 ((hFk28.tr hf4)) hS5 (Nat.lt_succ_self _) ls (lv_sub hl [0, 1, 2, 3, 4] rfl)
            · skip
              have hgo := hgo d
              have e3 := hgo.2 3 (by omega)
              refine lv_iconst (v := nI 0) hx hb dX4_settleAll_34 rfl ?_
              refine lv_istore (lv' := [(4, .int (nI 0)), (3, .int (nI d)), (0, .ref (o)), (1, .int (nI g)), (2, .int (nI h))]) hx hb dX4_settleAll_35 hl (by decide) rfl (fun ls hl => ?_)
              have L37 : ∀ (n : Nat) (n1 : Nat) (Ak37 : Nat → Nat → Int32) (Hk37 : Heap) (lk37 : List Loc) (hn1 : n1 ≤ σ 3) (hMk37 : ps_Mo E Hk37 o F Ak37) (hFk37 : ps_Mf o H Hk37) (hAk37 : ∀ qk, qk ≠ 4 → Ak37 qk = (va_up A 9 (Ak2 9)) qk) (hvk37 : ps_Vw Ak37 4 57 (sp_goD (sp_go σ h d) h d n1)) (hSk37 : va_S (ps_A E) s.heap Hk37 lk37) (hmu : σ 3 - n1 < n) (ls : Array Slot) (hl : lv_has ls 5 [(4, .int (nI n1)), (3, .int (nI d)), (0, .ref (o)), (1, .int (nI g)), (2, .int (nI h))]), W p l e ({ frames := 4, cells := 0, slots := 0, locals := 80 } : Room) s m args below meth c Hk37 lk37 0 0 (MQ below (ps_ge (fun v H1 => v = some (.int (nI (sp_go σ h 10 (5 + g)))) ∧ ∃ g9 g4, ps_Mo E H1 o (va_up F 19 (nI (sp_kept (sp_go σ h 10) g (σ 3)))) (va_up (va_up A 9 g9) 4 g4) ∧ ps_Mf o H H1 ∧ ∀ i, i < 57 → g4 i = nI (σ i)) (ps_A E)) args s 0 0 (ps_A E)) (F0 m 37 ls []) := by
                intro n
                induction n with
                | zero => intro n1 Ak37 Hk37 lk37 hn1 hMk37 hFk37 hAk37 hvk37 hSk37 hmu; exact absurd hmu (Nat.not_lt_zero _)
                | succ n ih37 =>
                  intro n1 Ak37 Hk37 lk37 hn1 hMk37 hFk37 hAk37 hvk37 hSk37 hmu ls hl
                  refine lv_iload hx hb dX4_settleAll_37 (lv_at hl 0 rfl) ?_
                  have hgd := sp_goD_ok hgo.1 (hv := h) (d := d) (n := n1) (by omega)
                  have e3d := hgd.2 3 (by omega)
                  refine lv_aload_n hx hb dX4_settleAll_39 rfl (lv_at hl 2 rfl) ?_
                  refine ps_mget (v := .ref (o + 4)) X hMk37 5 (by decide) q1294 rfl rfl dX4_settleAll_40 ?_
                  refine lv_iconst (v := nI 3) hx hb dX4_settleAll_43 rfl ?_
                  refine ps_mld (j := 3) (v := nI (σ 3)) X hMk37 4 (by decide) rfl (by show 3 < 57; omega) ((hvk37 3 (by decide)).trans (congrArg nI (e3d.trans e3))) dX4_settleAll_44 ?_
                  refine ps_cge (tgt := 98) hx hb dX4_settleAll_45 (by decide) (by omega) (fun c_45 => ?_) (fun c_45 => ?_)
                  · skip
                    have en : n1 = σ 3 := by omega
                    refine lv_iinc (v := nI (d + 1)) (lv' := [(3, .int (nI (d + 1))), (4, .int (nI n1)), (0, .ref (o)), (1, .int (nI g)), (2, .int (nI h))]) hx hb dX4_settleAll_98 hl (k := 1) rfl (ps_inc _) (by decide) rfl (fun ls hl => ?_)
                    refine lv_goto (tgt := 28) hx hb dX4_settleAll_101 (by decide) ?_
                    exact ih28  (d + 1) Ak37 Hk37 _ (by omega) hMk37 hFk37 hAk37 (by rw [sp_go, ← en]; exact hvk37) hSk37 (by omega) ls (lv_sub hl [0, 2, 3, 4] rfl)
                  · skip
                    have hp := hgd.1.p (p := n1) (by omega)
                    have hm1 := hgd.1.m
                    have hw1 := sp_w_le hgd.1 (k := n1 + 1) (by omega)
                    refine lv_aload_n hx hb dX4_settleAll_48 rfl (lv_at hl 2 rfl) ?_
                    refine lv_iload hx hb dX4_settleAll_49 (lv_at hl 0 rfl) ?_
                    refine ps_roV X hE (m_X4_isOpen l hE hMk37 hvk37 hgd.1 (k := n1) (by omega)) (lw_V q1459 q1461 qs43 q75 q1462) (by decide +kernel) ⟨⟨Nat.le_of_ble_eq_true rfl, Nat.le_of_ble_eq_true rfl⟩, Nat.le_of_ble_eq_true rfl, Nat.le_of_ble_eq_true rfl⟩ (ps_mrc X hMk37) hSk37 hl.1 (As := [.int (nI n1)]) (rest := []) (n := 1) rfl rfl (Nat.le_of_ble_eq_true rfl) dX4_settleAll_51 ?_
                    refine ps_st (st' := [.int (bI (sp_open (sp_goD (sp_go σ h d) h d n1) n1))]) rfl ?_
                    refine ps_ifeqB (tgt := 92) hx hb dX4_settleAll_54 (by decide) (fun c_54 => ?_) (fun c_54 => ?_)
                    · skip
                      have hH : ¬ (sp_open (sp_goD (sp_go σ h d) h d n1) n1 = true ∧ (sp_goD (sp_go σ h d) h d n1) (33 + n1) = d) := fun z => by rw [c_54] at z; exact absurd z.1 (by decide)
                      refine lv_iinc (v := nI (n1 + 1)) (lv' := [(4, .int (nI (n1 + 1))), (3, .int (nI d)), (0, .ref (o)), (1, .int (nI g)), (2, .int (nI h))]) hx hb dX4_settleAll_92 hl (k := 0) rfl (ps_inc _) (by decide) rfl (fun ls hl => ?_)
                      refine lv_goto (tgt := 37) hx hb dX4_settleAll_95 (by decide) ?_
                      exact ih37  (n1 + 1) Ak37 Hk37 _ (by omega) hMk37 hFk37 hAk37 (by rw [sp_goD, if_neg hH]; exact hvk37) hSk37 (by omega) ls (lv_sub hl [0, 1, 2, 3, 4] rfl)
                    · skip
                      refine lv_aload_n hx hb dX4_settleAll_57 rfl (lv_at hl 2 rfl) ?_
                      refine ps_mget (v := .ref (o + 4)) X hMk37 5 (by decide) q1294 rfl rfl dX4_settleAll_58 ?_
                      refine lv_bipush (v := nI 33) hx hb dX4_settleAll_61 rfl ?_
                      refine lv_iload hx hb dX4_settleAll_63 (lv_at hl 0 rfl) ?_
                      refine ps_iadd hx hb dX4_settleAll_65 ?_
                      refine ps_mld (j := 33 + n1) (v := nI ((sp_goD (sp_go σ h d) h d n1) (33 + n1))) X hMk37 4 (by decide) rfl (by show 33 + n1 < 57; omega) (hvk37 _ (by show 33 + n1 < 57; omega)) dX4_settleAll_66 ?_
                      refine lv_iload_n hx hb dX4_settleAll_67 rfl (lv_at hl 1 rfl) ?_
                      refine ps_cne (tgt := 92) hx hb dX4_settleAll_68 (by decide) (by omega) (fun c_68 => ?_) (fun c_68 => ?_)
                      · skip
                        have hH : ¬ (sp_open (sp_goD (sp_go σ h d) h d n1) n1 = true ∧ (sp_goD (sp_go σ h d) h d n1) (33 + n1) = d) := fun z => c_68 z.2
                        refine lv_iinc (v := nI (n1 + 1)) (lv' := [(4, .int (nI (n1 + 1))), (3, .int (nI d)), (0, .ref (o)), (1, .int (nI g)), (2, .int (nI h))]) hx hb dX4_settleAll_92 hl (k := 0) rfl (ps_inc _) (by decide) rfl (fun ls hl => ?_)
                        refine lv_goto (tgt := 37) hx hb dX4_settleAll_95 (by decide) ?_
                        exact ih37  (n1 + 1) Ak37 Hk37 _ (by omega) hMk37 hFk37 hAk37 (by rw [sp_goD, if_neg hH]; exact hvk37) hSk37 (by omega) ls (lv_sub hl [0, 1, 2, 3, 4] rfl)
                      · skip
                        have hH : (sp_open (sp_goD (sp_go σ h d) h d n1) n1 = true ∧ (sp_goD (sp_go σ h d) h d n1) (33 + n1) = d) := ⟨c_54, c_68⟩
                        refine lv_aload_n hx hb dX4_settleAll_71 rfl (lv_at hl 2 rfl) ?_
                        refine lv_iload hx hb dX4_settleAll_72 (lv_at hl 0 rfl) ?_
                        have J89 : W p l e ({ frames := 4, cells := 0, slots := 0, locals := 80 } : Room) s m args below meth c Hk37 lk37 0 0 (MQ below (ps_ge (fun v H1 => v = some (.int (nI (sp_go σ h 10 (5 + g)))) ∧ ∃ g9 g4, ps_Mo E H1 o (va_up F 19 (nI (sp_kept (sp_go σ h 10) g (σ 3)))) (va_up (va_up A 9 g9) 4 g4) ∧ ps_Mf o H H1 ∧ ∀ i, i < 57 → g4 i = nI (σ i)) (ps_A E)) args s 0 0 (ps_A E)) (F0 m 89 ls [.int (bI (decide (h ≤ sp_w (sp_goD (sp_go σ h d) h d n1) (n1 + 1)))), .int (nI n1), .ref (o)]) := by
                          refine ps_geV X hE (m_X4_settleNow l hE hMk37 hvk37 hgd.1 (k := n1) (b := decide (h ≤ sp_w (sp_goD (sp_go σ h d) h d n1) (n1 + 1))) (by omega)) (lw_V q1498 q1500 qs50 q75 q1501) (by decide +kernel) ⟨⟨Nat.le_of_ble_eq_true rfl, Nat.le_of_ble_eq_true rfl⟩, Nat.le_of_ble_eq_true rfl, Nat.le_of_ble_eq_true rfl⟩ (ps_mrc X hMk37) hSk37 hl.1 (As := [.int (nI n1), .int (bI (decide (h ≤ sp_w (sp_goD (sp_go σ h d) h d n1) (n1 + 1))))]) (rest := []) (n := 2) rfl rfl (Nat.le_of_ble_eq_true rfl) dX4_settleAll_89 (fun v20 H16 locs17 hp18 hS19 => ?_)
                          obtain ⟨hv24, g21, hM22, hf23, hg25⟩ := hp18
                          subst hv24
                          refine ps_st (st' := []) rfl ?_
                          refine lv_iinc (v := nI (n1 + 1)) (lv' := [(4, .int (nI (n1 + 1))), (3, .int (nI d)), (0, .ref (o)), (1, .int (nI g)), (2, .int (nI h))]) hx hb dX4_settleAll_92 hl (k := 0) rfl (ps_inc _) (by decide) rfl (fun ls hl => ?_)
                          refine lv_goto (tgt := 37) hx hb dX4_settleAll_95 (by decide) ?_
                          exact ih37  (n1 + 1) ((va_up Ak37 4 g21)) H16 _ (by omega) hM22 ((hFk37.tr hf23)) (fun qk hqk => by rw [va_up_ne _ _ hqk]; exact hAk37 qk hqk) (by rw [sp_goD, if_pos hH]; exact hg25) hS19 (by omega) ls (lv_sub hl [0, 1, 2, 3, 4] rfl)
                        refine lv_aload_n hx hb dX4_settleAll_74 rfl (lv_at hl 2 rfl) ?_
                        refine lv_iload hx hb dX4_settleAll_75 (lv_at hl 0 rfl) ?_
                        refine ps_roV X hE (m_X4_weightOf l hE hMk37 hvk37 hgd.1 (k := n1) (by omega)) (lw_V q1479 q1481 qs47 q75 q1482) (by decide +kernel) ⟨⟨Nat.le_of_ble_eq_true rfl, Nat.le_of_ble_eq_true rfl⟩, Nat.le_of_ble_eq_true rfl, Nat.le_of_ble_eq_true rfl⟩ (ps_mrc X hMk37) hSk37 hl.1 (As := [.int (nI n1)]) (rest := [.int (nI n1), .ref (o)]) (n := 1) rfl rfl (Nat.le_of_ble_eq_true rfl) dX4_settleAll_77 ?_
                        refine ps_st (st' := [.int (nI (sp_w (sp_goD (sp_go σ h d) h d n1) (n1 + 1))), .int (nI n1), .ref (o)]) rfl ?_
                        refine lv_iload_n hx hb dX4_settleAll_80 rfl (lv_at hl 4 rfl) ?_
                        refine ps_clt (tgt := 88) hx hb dX4_settleAll_81 (by decide) (by omega) (fun c_81 => ?_) (fun c_81 => ?_)
                        · skip
                          refine lv_iconst (v := nI 0) hx hb dX4_settleAll_88 rfl ?_
                          exact ps_top ((bI_is0 (by simp [c_5, c_31, c_45, c_54, c_68, c_81]))) J89
                        · skip
                          refine lv_iconst (v := nI 1) hx hb dX4_settleAll_84 rfl ?_
                          refine lv_goto (tgt := 89) hx hb dX4_settleAll_85 (by decide) ?_
                          exact ps_top ((bI_is1 (by simp [c_5, c_31, c_45, c_54, c_68, c_81]))) J89
              exact L37 ((σ 3 - 0) + 1) 0 Ak28 Hk28 _ (by omega) hMk28 hFk28 hAk28 hvk28 hSk28 (Nat.lt_succ_self _) ls (lv_sub hl [0, 1, 2, 3, 4] rfl)
        exact L28 ((10 - 0) + 1) 0 ((va_up A 9 (Ak2 9))) Hk2 _ (by omega) hMx2 hFk2 (fun _ _ => rfl) ((hσ.ne (by decide))) hSk2 (Nat.lt_succ_self _) ls (lv_sub hl [0, 1, 2, 3] rfl)
      · skip
        refine lv_aload_n hx hb dX4_settleAll_8 rfl (lv_at hl 1 rfl) ?_
        refine ps_mget (v := .ref (o + 9)) X hMk2 18 (by decide) q1307 rfl rfl dX4_settleAll_9 ?_
        refine lv_iload_n hx hb dX4_settleAll_12 rfl (lv_at hl 0 rfl) ?_
        refine lv_aload_n hx hb dX4_settleAll_13 rfl (lv_at hl 1 rfl) ?_
        refine ps_mget (v := .ref (o + 4)) X hMk2 5 (by decide) q1294 rfl rfl dX4_settleAll_14 ?_
        refine lv_iload_n hx hb dX4_settleAll_17 rfl (lv_at hl 0 rfl) ?_
        refine ps_mld (j := i) (v := nI (σ i)) X hMk2 4 (by decide) rfl (by show i < 57; omega) ((hσ.eq (hAk2 4 (by decide))) _ (by show i < 57; omega)) dX4_settleAll_18 ?_
        refine ps_mst (j := i) X hMk2 9 (by decide) rfl (by show i < 57; omega) hSk2 dX4_settleAll_19 (fun H26 locs27 hM28 hf29 hS30 => ?_)
        refine lv_iinc (v := nI (i + 1)) (lv' := [(3, .int (nI (i + 1))), (0, .ref (o)), (1, .int (nI g)), (2, .int (nI h))]) hx hb dX4_settleAll_20 hl (k := 0) rfl (ps_inc _) (by decide) rfl (fun ls hl => ?_)
        refine lv_goto (tgt := 2) hx hb dX4_settleAll_23 (by decide) ?_
        exact ih2  (i + 1) ((va_up Ak2 9 (upd (Ak2 9) i (nI (σ i))))) H26 _ (by omega) hM28 ((hFk2.tr hf29)) (fun qk hqk => by rw [va_up_ne _ _ hqk]; exact hAk2 qk hqk) (ps_lpZ (f := Ak2 9) (src := fun q => nI (σ q)) hgk2 (rfl)) hS30 (by omega) ls (lv_sub hl [0, 1, 2, 3] rfl)
  exact L2 ((57 - 0) + 1) 0 A H _ (by omega) hM ps_Mf.rf (fun _ _ => rfl) (ps_lp00 (src := fun q => nI (σ q))) hS (Nat.lt_succ_self _) ls (lv_sub hl [0, 1, 2, 3] rfl)
