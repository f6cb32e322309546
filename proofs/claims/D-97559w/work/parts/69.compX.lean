/-! found and keepsFound (printed by gen/comp24.py) -/
set_option maxRecDepth 100000
theorem bI_and (a b : Bool) : bI a &&& bI b = bI (a && b) := by cases a <;> cases b <;> decide
theorem ps_kfw {kd lk u : Nat} (h : kd = 1) : pr_w kd lk u true 0 = lk * u / 10 := by subst h; rfl

set_option maxHeartbeats 4000000 in
theorem m_X0_keepsBy (l : Launch) {E : ps_E} (hE : ps_ZT E) {z : Nat} (hZ : ps_Zk E z) {Γ : ps_Gh} {H : Heap} (hW : ps_W E Γ H) {x tr : Nat} {N : Nat → Nat} (hX : Γ x = some (ps_xo x tr N)) {σ : Nat → Nat} {smc : Int32} {sr : Nat} {pf : Nat → Nat} {kf tf : Nat → Int32} {df : Nat → Option Nat} (hD : ps_Sd E z Γ (x + 11) σ smc sr pf kf tf df) (hO : sp_ok σ) {a g1 q1 n1 : Nat} {ga it : Nat → Int32} (hB : Γ a = some (.inl (E.2.1 0, n1, .inl ga))) (hg : ∀ i, i < n1 → ga i = it (q1 + i)) (hn1 : n1 = sp_npl σ g1 (σ 3)) (hg4 : g1 < 4) : ps_Ro l E yX0_keepsBy cX0_keepsBy 8 (some .int) 6 119 [.ref (x), .int (nI g1), .ref (a)] H (some (.int (nI (orR (fun c2 => sp_kf σ it g1 q1 c2 (σ 3)) 11)))) := by
  refine ps_Ro.of (by decide) (Nat.le_of_ble_eq_true rfl) ?_
  intro p e s m args below meth c X ls hl
  have hx := X.1
  have hb := X.2.1
  have ho := X.2.2.2.1
  have hts := X.2.2.2.2.1
  have hS : va_S (ps_A E) s.heap H [] := by rw [X.2.2.2.2.2.2.2.2.1]; exact va_S.rf
  have hl : lv_has ls 8 [(0, .ref (x)), (1, .int (nI g1)), (2, .ref (a))] := hl
  have hm := hO.m
  have hnp : sp_npl σ g1 (σ 3) ≤ 8 := Nat.le_trans (sumR_le _ _ 1 (fun i => by split <;> omega) _) (by omega)
  refine lv_iconst (v := nI 0) hx hb dX0_keepsBy_0 rfl ?_
  refine lv_istore_n (lv' := [(3, .int (nI 0)), (0, .ref (x)), (1, .int (nI g1)), (2, .ref (a))]) hx hb dX0_keepsBy_1 rfl hl (by decide) rfl (fun ls hl => ?_)
  refine lv_iconst (v := nI 0) hx hb dX0_keepsBy_2 rfl ?_
  refine lv_istore (lv' := [(4, .int (nI 0)), (3, .int (nI 0)), (0, .ref (x)), (1, .int (nI g1)), (2, .ref (a))]) hx hb dX0_keepsBy_3 hl (by decide) rfl (fun ls hl => ?_)
  have L5 : ∀ (n : Nat) (c1 : Nat) (hc : c1 ≤ 11) (hmu : 11 - c1 < n) (ls : Array Slot) (hl : lv_has ls 8 [(4, .int (nI c1)), (3, .int (nI (orR (fun c2 => sp_kf σ it g1 q1 c2 (σ 3)) c1))), (0, .ref (x)), (1, .int (nI g1)), (2, .ref (a))]), W p l e ({ frames := 6, cells := 0, slots := 0, locals := 119 } : Room) s m args below meth c H [] 0 0 (MQ below (ps_ro (some (.int (nI (orR (fun c2 => sp_kf σ it g1 q1 c2 (σ 3)) 11))))) args s 0 0 (fun _ => False)) (F0 m 5 ls []) := by
    intro n
    induction n with
    | zero => intro c1 hc hmu; exact absurd hmu (Nat.not_lt_zero _)
    | succ n ih5 =>
      intro c1 hc hmu ls hl
      refine lv_iload hx hb dX0_keepsBy_5 (lv_at hl 0 rfl) ?_
      refine lv_bipush (v := nI 10) hx hb dX0_keepsBy_7 rfl ?_
      refine ps_cgt (tgt := 110) hx hb dX0_keepsBy_9 (by decide) (by omega) (fun c_9 => ?_) (fun c_9 => ?_)
      · skip
        refine lv_iload_n hx hb dX0_keepsBy_110 rfl (lv_at hl 1 rfl) ?_
        exact ps_iretR X dX0_keepsBy_111 (congrArg (fun z => some (Value.int z)) (congrArg nI (by rw [show c1 = 11 by omega])))
      · skip
        refine lv_iconst (v := nI 1) hx hb dX0_keepsBy_12 rfl ?_
        refine lv_istore (lv' := [(5, .int (nI 1)), (4, .int (nI c1)), (3, .int (nI (orR (fun c2 => sp_kf σ it g1 q1 c2 (σ 3)) c1))), (0, .ref (x)), (1, .int (nI g1)), (2, .ref (a))]) hx hb dX0_keepsBy_13 hl (by decide) rfl (fun ls hl => ?_)
        refine lv_iconst (v := nI 0) hx hb dX0_keepsBy_15 rfl ?_
        refine lv_istore (lv' := [(6, .int (nI 0)), (5, .int (nI 1)), (4, .int (nI c1)), (3, .int (nI (orR (fun c2 => sp_kf σ it g1 q1 c2 (σ 3)) c1))), (0, .ref (x)), (1, .int (nI g1)), (2, .ref (a))]) hx hb dX0_keepsBy_16 hl (by decide) rfl (fun ls hl => ?_)
        refine lv_iconst (v := nI 0) hx hb dX0_keepsBy_18 rfl ?_
        refine lv_istore (lv' := [(7, .int (nI 0)), (6, .int (nI 0)), (5, .int (nI 1)), (4, .int (nI c1)), (3, .int (nI (orR (fun c2 => sp_kf σ it g1 q1 c2 (σ 3)) c1))), (0, .ref (x)), (1, .int (nI g1)), (2, .ref (a))]) hx hb dX0_keepsBy_19 hl (by decide) rfl (fun ls hl => ?_)
        have L21 : ∀ (n : Nat) (p1 : Nat) (hp1 : p1 ≤ σ 3) (hmu : σ 3 - p1 < n) (ls : Array Slot) (hl : lv_has ls 8 [(7, .int (nI p1)), (6, .int (nI (sp_npl σ g1 p1))), (5, .int (bI (sp_kf σ it g1 q1 c1 p1))), (4, .int (nI c1)), (3, .int (nI (orR (fun c2 => sp_kf σ it g1 q1 c2 (σ 3)) c1))), (0, .ref (x)), (1, .int (nI g1)), (2, .ref (a))]), W p l e ({ frames := 6, cells := 0, slots := 0, locals := 119 } : Room) s m args below meth c H [] 0 0 (MQ below (ps_ro (some (.int (nI (orR (fun c2 => sp_kf σ it g1 q1 c2 (σ 3)) 11))))) args s 0 0 (fun _ => False)) (F0 m 21 ls []) := by
          intro n
          induction n with
          | zero => intro p1 hp1 hmu; exact absurd hmu (Nat.not_lt_zero _)
          | succ n ih21 =>
            intro p1 hp1 hmu ls hl
            refine lv_iload hx hb dX0_keepsBy_21 (lv_at hl 0 rfl) ?_
            refine lv_aload_n hx hb dX0_keepsBy_23 rfl (lv_at hl 5 rfl) ?_
            refine ps_get (v := .ref (x + 11)) X in_X0 (ci := 0) rfl 4 (by decide) q216 rfl (hW.at hX) rfl dX0_keepsBy_24 ?_
            refine ps_roV X hE (m_X2_many l hE hZ hW hD hO ) (lw_V q844 q647 q648 q70 q649) (by decide +kernel) ⟨⟨Nat.le_of_ble_eq_true rfl, Nat.le_of_ble_eq_true rfl⟩, Nat.le_of_ble_eq_true rfl, Nat.le_of_ble_eq_true rfl⟩ (ps_rc X (ci := 2) rfl (hW.at hD.1)) hS hl.1 (As := []) (rest := [.int (nI p1)]) (n := 0) rfl rfl (Nat.le_of_ble_eq_true rfl) dX0_keepsBy_27 ?_
            refine ps_st (st' := [.int (nI (σ 3)), .int (nI p1)]) rfl ?_
            refine ps_cge (tgt := 88) hx hb dX0_keepsBy_30 (by decide) (by omega) (fun c_30 => ?_) (fun c_30 => ?_)
            · skip
              have ep : p1 = σ 3 := by omega
              refine lv_iload_n hx hb dX0_keepsBy_88 rfl (lv_at hl 4 rfl) ?_
              refine lv_iload hx hb dX0_keepsBy_89 (lv_at hl 2 rfl) ?_
              have J102 : W p l e ({ frames := 6, cells := 0, slots := 0, locals := 119 } : Room) s m args below meth c H [] 0 0 (MQ below (ps_ro (some (.int (nI (orR (fun c2 => sp_kf σ it g1 q1 c2 (σ 3)) 11))))) args s 0 0 (fun _ => False)) (F0 m 102 ls [.int (nI (if (fun c2 => sp_kf σ it g1 q1 c2 (σ 3)) c1 = true then 2 ^ c1 else 0)), .int (nI (orR (fun c2 => sp_kf σ it g1 q1 c2 (σ 3)) c1))]) := by
                refine lv_ior hx hb dX0_keepsBy_102 ?_
                refine ps_top (y := nI ((orR (fun c2 => sp_kf σ it g1 q1 c2 (σ 3)) c1) ||| (if (fun c2 => sp_kf σ it g1 q1 c2 (σ 3)) c1 = true then 2 ^ c1 else 0))) (nI_or _ _) ?_
                refine lv_istore_n (lv' := [(3, .int (nI ((orR (fun c2 => sp_kf σ it g1 q1 c2 (σ 3)) c1) ||| (if (fun c2 => sp_kf σ it g1 q1 c2 (σ 3)) c1 = true then 2 ^ c1 else 0)))), (7, .int (nI p1)), (6, .int (nI (sp_npl σ g1 p1))), (5, .int (bI (sp_kf σ it g1 q1 c1 p1))), (4, .int (nI c1)), (0, .ref (x)), (1, .int (nI g1)), (2, .ref (a))]) hx hb dX0_keepsBy_103 rfl hl (by decide) rfl (fun ls hl => ?_)
                refine lv_iinc (v := nI (c1 + 1)) (lv' := [(4, .int (nI (c1 + 1))), (3, .int (nI ((orR (fun c2 => sp_kf σ it g1 q1 c2 (σ 3)) c1) ||| (if (fun c2 => sp_kf σ it g1 q1 c2 (σ 3)) c1 = true then 2 ^ c1 else 0)))), (7, .int (nI p1)), (6, .int (nI (sp_npl σ g1 p1))), (5, .int (bI (sp_kf σ it g1 q1 c1 p1))), (0, .ref (x)), (1, .int (nI g1)), (2, .ref (a))]) hx hb dX0_keepsBy_104 hl (k := 4) rfl (ps_inc _) (by decide) rfl (fun ls hl => ?_)
                refine lv_goto (tgt := 5) hx hb dX0_keepsBy_107 (by decide) ?_
                have hl : lv_has ls 8 [(4, .int (nI (c1 + 1))), (3, .int (nI (orR (fun c2 => sp_kf σ it g1 q1 c2 (σ 3)) (c1 + 1)))), (0, .ref (x)), (1, .int (nI g1)), (2, .ref (a))] := lv_sub hl [0, 1, 5, 6, 7] rfl
                exact ih5  (c1 + 1) (by omega) (by omega) ls (hl)
              refine ps_ifeqB (tgt := 101) hx hb dX0_keepsBy_91 (by decide) (fun c_91 => ?_) (fun c_91 => ?_)
              · skip
                refine lv_iconst (v := nI 0) hx hb dX0_keepsBy_101 rfl ?_
                exact ps_top (congrArg nI (by dsimp only; rw [← ep]; simp [c_91])) J102
              · skip
                refine lv_iconst (v := nI 1) hx hb dX0_keepsBy_94 rfl ?_
                refine lv_iload hx hb dX0_keepsBy_95 (lv_at hl 3 rfl) ?_
                refine lv_ishl hx hb dX0_keepsBy_97 ?_
                refine ps_top (y := nI (2 ^ c1)) (ps_shl1 (by omega)) ?_
                refine lv_goto (tgt := 102) hx hb dX0_keepsBy_98 (by decide) ?_
                exact ps_top (congrArg nI (by dsimp only; rw [← ep]; simp [c_91])) J102
            · skip
              have hp := hO.p (p := p1) (by omega)
              have hh := hO.h (p := p1) (by omega)
              have hmm := sp_mul (show σ (41 + p1) ≤ 20 by omega) (show c1 ≤ 10 by omega)
              refine lv_aload_n hx hb dX0_keepsBy_33 rfl (lv_at hl 5 rfl) ?_
              refine lv_iload_n hx hb dX0_keepsBy_34 rfl (lv_at hl 6 rfl) ?_
              refine lv_iload hx hb dX0_keepsBy_35 (lv_at hl 0 rfl) ?_
              refine ps_roV X hE (m_X0_isPlainOf l hE hZ hW hX hD hO (k := p1) (g := g1) (by omega) (by omega)) (lw_V q1079 q1081 qs30 q68 q1082) (by decide +kernel) ⟨⟨Nat.le_of_ble_eq_true rfl, Nat.le_of_ble_eq_true rfl⟩, Nat.le_of_ble_eq_true rfl, Nat.le_of_ble_eq_true rfl⟩ (ps_rc X (ci := 0) rfl (hW.at hX)) hS hl.1 (As := [.int (nI g1), .int (nI p1)]) (rest := []) (n := 2) rfl rfl (Nat.le_of_ble_eq_true rfl) dX0_keepsBy_37 ?_
              refine ps_st (st' := [.int (bI (sp_plk σ g1 p1))]) rfl ?_
              refine ps_ifneB (tgt := 46) hx hb dX0_keepsBy_40 (by decide) (fun c_40 => ?_) (fun c_40 => ?_)
              · skip
                refine lv_iload hx hb dX0_keepsBy_46 (lv_at hl 2 rfl) ?_
                refine lv_aload_n hx hb dX0_keepsBy_48 rfl (lv_at hl 5 rfl) ?_
                refine ps_get (v := .ref (x + 11)) X in_X0 (ci := 0) rfl 4 (by decide) q216 rfl (hW.at hX) rfl dX0_keepsBy_49 ?_
                refine lv_iload hx hb dX0_keepsBy_52 (lv_at hl 0 rfl) ?_
                refine ps_roV X hE (m_X2_promise l hE hZ hW hD hO (k := p1) (by omega)) (lw_V q930 q888 q889 q70 q890) (by decide +kernel) ⟨⟨Nat.le_of_ble_eq_true rfl, Nat.le_of_ble_eq_true rfl⟩, Nat.le_of_ble_eq_true rfl, Nat.le_of_ble_eq_true rfl⟩ (ps_rc X (ci := 2) rfl (hW.at hD.1)) hS hl.1 (As := [.int (nI p1)]) (rest := [.int (bI (sp_kf σ it g1 q1 c1 p1))]) (n := 1) rfl rfl (Nat.le_of_ble_eq_true rfl) dX0_keepsBy_54 ?_
                refine ps_st (st' := [.ref (pf p1), .int (bI (sp_kf σ it g1 q1 c1 p1))]) rfl ?_
                refine lv_iload hx hb dX0_keepsBy_57 (lv_at hl 3 rfl) ?_
                refine lv_ldc (v := -1000000) hx hb ho (hts _ q982) dX0_keepsBy_59 ?_
                refine ps_top (y := pr_b true 0) rfl ?_
                refine ps_weighs (u := c1) (b := 0) (f := true) (by omega) (by omega) (by omega) X hE hZ hW (hD.2.2.2.2.2.2.2.2 p1 (by omega)) (hO.p (p := p1) (by omega)).1 q1021 ⟨⟨Nat.le_of_ble_eq_true rfl, Nat.le_of_ble_eq_true rfl⟩, Nat.le_of_ble_eq_true rfl, Nat.le_of_ble_eq_true rfl⟩ hS hl.1 (Nat.le_of_ble_eq_true rfl) dX0_keepsBy_61 ?_
                have hk1 : σ (9 + p1) = 1 := by simp [sp_plk] at c_40; exact c_40.1.2
                have hmo := sumR_mono (f := fun p => if sp_plk σ g1 p = true then 1 else 0) (lo := 0) (show p1 + 1 ≤ σ 3 by omega)
                have hn9 : sp_npl σ g1 (p1 + 1) = sp_npl σ g1 p1 + 1 := by simp [sp_npl, sumR, c_40]
                have hmo2 : sp_npl σ g1 (p1 + 1) ≤ sp_npl σ g1 (σ 3) := hmo
                refine ps_top (y := nI (σ (41 + p1) * c1 / 10)) (congrArg nI (ps_kfw hk1)) ?_
                refine lv_aload_n hx hb dX0_keepsBy_64 rfl (lv_at hl 7 rfl) ?_
                refine lv_iload hx hb dX0_keepsBy_65 (lv_at hl 1 rfl) ?_
                refine ps_iald (j := sp_npl σ g1 p1) X (hW.at hB) rfl (by show sp_npl σ g1 p1 < n1; omega) (by first | decide | omega) dX0_keepsBy_67 ?_
                refine ps_top (y := it (q1 + sp_npl σ g1 p1)) (hg _ (by omega)) ?_
                have J76 : W p l e ({ frames := 6, cells := 0, slots := 0, locals := 119 } : Room) s m args below meth c H [] 0 0 (MQ below (ps_ro (some (.int (nI (orR (fun c2 => sp_kf σ it g1 q1 c2 (σ 3)) 11))))) args s 0 0 (fun _ => False)) (F0 m 76 ls [.int (bI (decide (nI (σ (41 + p1) * c1 / 10) = it (q1 + sp_npl σ g1 p1)))), .int (bI (sp_kf σ it g1 q1 c1 p1))]) := by
                  refine lv_iand hx hb dX0_keepsBy_76 ?_
                  refine ps_top (y := bI (sp_kf σ it g1 q1 c1 p1 && decide (nI (σ (41 + p1) * c1 / 10) = it (q1 + sp_npl σ g1 p1)))) (bI_and _ _) ?_
                  refine lv_istore (lv' := [(5, .int (bI (sp_kf σ it g1 q1 c1 p1 && decide (nI (σ (41 + p1) * c1 / 10) = it (q1 + sp_npl σ g1 p1))))), (7, .int (nI p1)), (6, .int (nI (sp_npl σ g1 p1))), (4, .int (nI c1)), (3, .int (nI (orR (fun c2 => sp_kf σ it g1 q1 c2 (σ 3)) c1))), (0, .ref (x)), (1, .int (nI g1)), (2, .ref (a))]) hx hb dX0_keepsBy_77 hl (by decide) rfl (fun ls hl => ?_)
                  refine lv_iinc (v := nI (sp_npl σ g1 p1 + 1)) (lv' := [(6, .int (nI (sp_npl σ g1 p1 + 1))), (5, .int (bI (sp_kf σ it g1 q1 c1 p1 && decide (nI (σ (41 + p1) * c1 / 10) = it (q1 + sp_npl σ g1 p1))))), (7, .int (nI p1)), (4, .int (nI c1)), (3, .int (nI (orR (fun c2 => sp_kf σ it g1 q1 c2 (σ 3)) c1))), (0, .ref (x)), (1, .int (nI g1)), (2, .ref (a))]) hx hb dX0_keepsBy_79 hl (k := 2) rfl (ps_inc _) (by decide) rfl (fun ls hl => ?_)
                  refine lv_iinc (v := nI (p1 + 1)) (lv' := [(7, .int (nI (p1 + 1))), (6, .int (nI (sp_npl σ g1 p1 + 1))), (5, .int (bI (sp_kf σ it g1 q1 c1 p1 && decide (nI (σ (41 + p1) * c1 / 10) = it (q1 + sp_npl σ g1 p1))))), (4, .int (nI c1)), (3, .int (nI (orR (fun c2 => sp_kf σ it g1 q1 c2 (σ 3)) c1))), (0, .ref (x)), (1, .int (nI g1)), (2, .ref (a))]) hx hb dX0_keepsBy_82 hl (k := 2) rfl (ps_inc _) (by decide) rfl (fun ls hl => ?_)
                  refine lv_goto (tgt := 21) hx hb dX0_keepsBy_85 (by decide) ?_
                  have e1 : (nI (sp_npl σ g1 p1 + 1) : Int32) = nI (sp_npl σ g1 (p1 + 1)) := congrArg nI (by simp [sp_npl, sumR, c_40])
                  have e2 : (bI (sp_kf σ it g1 q1 c1 p1 && decide (nI (σ (41 + p1) * c1 / 10) = it (q1 + sp_npl σ g1 p1))) : Int32) = bI (sp_kf σ it g1 q1 c1 (p1 + 1)) := congrArg bI (by simp [sp_kf, allR, c_40])
                  have hl : lv_has ls 8 [(7, .int (nI (p1 + 1))), (6, .int (nI (sp_npl σ g1 (p1 + 1)))), (5, .int (bI (sp_kf σ it g1 q1 c1 (p1 + 1)))), (4, .int (nI c1)), (3, .int (nI (orR (fun c2 => sp_kf σ it g1 q1 c2 (σ 3)) c1))), (0, .ref (x)), (1, .int (nI g1)), (2, .ref (a))] := ps_lv (l1 := [(7, .int (nI (p1 + 1))), (6, .int (nI (sp_npl σ g1 p1 + 1))), (5, .int (bI (sp_kf σ it g1 q1 c1 p1 && decide (nI (σ (41 + p1) * c1 / 10) = it (q1 + sp_npl σ g1 p1))))), (4, .int (nI c1)), (3, .int (nI (orR (fun c2 => sp_kf σ it g1 q1 c2 (σ 3)) c1))), (0, .ref (x)), (1, .int (nI g1)), (2, .ref (a))]) (lv_sub hl [0, 1, 2, 3, 4, 5, 6, 7] rfl) (by rw [e1, e2])
                  exact ih21  (p1 + 1) (by omega) (by omega) ls (hl)
                refine lv_icmp_ne (tgt := 75) hx hb dX0_keepsBy_68 (by decide) (fun c_68 => ?_) (fun c_68 => ?_)
                · skip
                  refine lv_iconst (v := nI 0) hx hb dX0_keepsBy_75 rfl ?_
                  exact ps_top ((bI_is0 (decide_eq_false c_68))) J76
                · skip
                  refine lv_iconst (v := nI 1) hx hb dX0_keepsBy_71 rfl ?_
                  refine lv_goto (tgt := 76) hx hb dX0_keepsBy_72 (by decide) ?_
                  exact ps_top ((bI_is1 (decide_eq_true c_68))) J76
              · skip
                refine lv_goto (tgt := 82) hx hb dX0_keepsBy_43 (by decide) ?_
                refine lv_iinc (v := nI (p1 + 1)) (lv' := [(7, .int (nI (p1 + 1))), (6, .int (nI (sp_npl σ g1 p1))), (5, .int (bI (sp_kf σ it g1 q1 c1 p1))), (4, .int (nI c1)), (3, .int (nI (orR (fun c2 => sp_kf σ it g1 q1 c2 (σ 3)) c1))), (0, .ref (x)), (1, .int (nI g1)), (2, .ref (a))]) hx hb dX0_keepsBy_82 hl (k := 0) rfl (ps_inc _) (by decide) rfl (fun ls hl => ?_)
                refine lv_goto (tgt := 21) hx hb dX0_keepsBy_85 (by decide) ?_
                have e3 : (nI (sp_npl σ g1 p1) : Int32) = nI (sp_npl σ g1 (p1 + 1)) := congrArg nI (by simp [sp_npl, sumR, c_40])
                have e4 : (bI (sp_kf σ it g1 q1 c1 p1) : Int32) = bI (sp_kf σ it g1 q1 c1 (p1 + 1)) := congrArg bI (by simp [sp_kf, allR, c_40])
                have hl : lv_has ls 8 [(7, .int (nI (p1 + 1))), (6, .int (nI (sp_npl σ g1 (p1 + 1)))), (5, .int (bI (sp_kf σ it g1 q1 c1 (p1 + 1)))), (4, .int (nI c1)), (3, .int (nI (orR (fun c2 => sp_kf σ it g1 q1 c2 (σ 3)) c1))), (0, .ref (x)), (1, .int (nI g1)), (2, .ref (a))] := ps_lv (l1 := [(7, .int (nI (p1 + 1))), (6, .int (nI (sp_npl σ g1 p1))), (5, .int (bI (sp_kf σ it g1 q1 c1 p1))), (4, .int (nI c1)), (3, .int (nI (orR (fun c2 => sp_kf σ it g1 q1 c2 (σ 3)) c1))), (0, .ref (x)), (1, .int (nI g1)), (2, .ref (a))]) (lv_sub hl [0, 1, 2, 3, 4, 5, 6, 7] rfl) (by rw [e3, e4])
                exact ih21  (p1 + 1) (by omega) (by omega) ls (hl)
        have hl : lv_has ls 8 [(7, .int (nI 0)), (6, .int (nI (sp_npl σ g1 0))), (5, .int (bI (sp_kf σ it g1 q1 c1 0))), (4, .int (nI c1)), (3, .int (nI (orR (fun c2 => sp_kf σ it g1 q1 c2 (σ 3)) c1))), (0, .ref (x)), (1, .int (nI g1)), (2, .ref (a))] := lv_sub hl [0, 1, 2, 3, 4, 5, 6, 7] rfl
        exact L21 ((σ 3 - 0) + 1) 0 (by omega) (Nat.lt_succ_self _) ls (hl)
  have hl : lv_has ls 8 [(4, .int (nI 0)), (3, .int (nI (orR (fun c2 => sp_kf σ it g1 q1 c2 (σ 3)) 0))), (0, .ref (x)), (1, .int (nI g1)), (2, .ref (a))] := lv_sub hl [0, 1, 2, 3, 4] rfl
  exact L5 ((11 - 0) + 1) 0 (by omega) (Nat.lt_succ_self _) ls (hl)

set_option maxHeartbeats 4000000 in
theorem m_X0_found (l : Launch) {E : ps_E} (hE : ps_ZT E) {z : Nat} (hZ : ps_Zk E z) {Γ : ps_Gh} {H : Heap} (hW : ps_W E Γ H) {x : Nat} {S : SS} {ow : ps_Ow} (hC : ps_Cx E z Γ ow x S) (hwf : wf S) (hX : ps_Zx E) (hLT : l.stackTraces = false) {v y w1 t : Int32} : ps_GW l E yX0_found cX0_found 7 (some .int) [(40, 76, 96, 106), (77, 95, 96, 106), (40, 76, 104, 108), (77, 95, 104, 108)] 24 10307 122 8928 [.ref (x), .int (v), .int (y), .int (w1), .int (t)] H (ps_cpost E z Γ H x (op_found S v y w1 t)) := by
  refine ps_GW.of (by decide) (Nat.le_of_ble_eq_true rfl) ?_
  intro p e s m args below meth c X ht ls hl
  have hx := X.1
  have hb := X.2.1
  have ho := X.2.2.2.1
  have hts := X.2.2.2.2.1
  have hS : va_S (ps_A E) s.heap H [] := by rw [X.2.2.2.2.2.2.2.2.1]; exact va_S.rf
  have hl : lv_has ls 7 [(0, .ref (x)), (1, .int (v)), (2, .int (y)), (3, .int (w1)), (4, .int (t))] := hl
  have hO := hwf.1
  have hm := hO.m
  have hn := hwf.n
  have hl3 := hwf.2.2.2.2.1
  obtain ⟨tr, sa, τ, hOb, hRw, hTp, hTr, hSx, hSl⟩ := id hC
  have hSo := (hSx.2.2.2.2 0 _ hSx.1.1).2
  rw [hSl.1] at hSo
  obtain ⟨smc, sr, pf, kf, tf, df, hD, hOw, hrr, hpo⟩ := id hSo
  refine lv_aload_n hx hb dX0_found_0 rfl (lv_at hl 0 rfl) ?_
  refine ps_roV X hE (m_X0_isThere l hE hZ hW hOb.1 hD hO ) (lw_V q935 q937 qs20 q68 q938) (by decide +kernel) ⟨⟨Nat.le_of_ble_eq_true rfl, Nat.le_of_ble_eq_true rfl⟩, Nat.le_of_ble_eq_true rfl, Nat.le_of_ble_eq_true rfl⟩ (ps_rc X (ci := 0) rfl (hW.at hOb.1)) hS hl.1 (As := []) (rest := []) (n := 0) rfl rfl (Nat.le_of_ble_eq_true rfl) dX0_found_1 ?_
  refine ps_st (st' := [.int (bI (decide (1 ≤ (S.2.1 0) 1)))]) rfl ?_
  refine ps_ifneB (tgt := 10) hx hb dX0_found_4 (by decide) (fun c_4 => ?_) (fun c_4 => ?_)
  · skip
    have h1 : 1 ≤ S.2.1 0 1 := of_decide_eq_true c_4
    have h1' : ¬ S.2.1 0 1 = 0 := by omega
    refine lv_iload_n hx hb dX0_found_10 rfl (lv_at hl 1 rfl) ?_
    refine ps_roS X hE (m_X0_isRow l hE (H := H) (x := v)) (lw_S q336 q337 q68 q338) (by decide +kernel) ⟨⟨Nat.le_of_ble_eq_true rfl, Nat.le_of_ble_eq_true rfl⟩, Nat.le_of_ble_eq_true rfl, Nat.le_of_ble_eq_true rfl⟩ hS hl.1 (As := [.int (v)]) (rest := []) (n := 1) rfl rfl (Nat.le_of_ble_eq_true rfl) dX0_found_11 ?_
    refine ps_st (st' := [.int (bI (rng v 0 8))]) rfl ?_
    refine ps_ifeqB (tgt := 37) hx hb dX0_found_14 (by decide) (fun c_14 => ?_) (fun c_14 => ?_)
    · skip
      refine lv_ldc (v := -1000001) hx hb ho (hts _ q344) dX0_found_37 ?_
      exact ps_iretG X hS (Nat.le_of_ble_eq_true rfl) (Nat.le_of_ble_eq_true rfl) dX0_found_39 (ps_cend (S1 := S) (by simp [op_found, h1, h1', c_14]) hW ps_gf.rf hC)
    · skip
      obtain ⟨k, rfl, k_lo, k_hi, k_b⟩ := rng_t c_14
      have cl_k : (nI k).toNatClampNeg = k := nI_clamp (by omega)
      refine lv_iload_n hx hb dX0_found_17 rfl (lv_at hl 3 rfl) ?_
      refine lv_i2l (v := (w1).toInt64) hx hb dX0_found_18 rfl ?_
      refine lv_lconst (v := lN 1) hx hb dX0_found_19 rfl ?_
      refine lv_ldc2 (v := 8) hx hb ho (hts _ q1010) dX0_found_20 ?_
      refine ps_roS X hE (m_X0_isIn l hE (H := H) (x := w1) (lo := 1) (hi := 9) (lN_toInt (by decide)) (ps_hcL (k := 8) (by decide +kernel))) (lw_S q340 q341 q68 q342) (by decide +kernel) ⟨⟨Nat.le_of_ble_eq_true rfl, Nat.le_of_ble_eq_true rfl⟩, Nat.le_of_ble_eq_true rfl, Nat.le_of_ble_eq_true rfl⟩ hS hl.1 (As := [.long ((w1).toInt64), .long (lN 1), .long (8)]) (rest := []) (n := 3) rfl rfl (Nat.le_of_ble_eq_true rfl) dX0_found_23 ?_
      refine ps_st (st' := [.int (bI (rng w1 1 9))]) rfl ?_
      refine ps_ifeqB (tgt := 37) hx hb dX0_found_26 (by decide) (fun c_26 => ?_) (fun c_26 => ?_)
      · skip
        refine lv_ldc (v := -1000001) hx hb ho (hts _ q344) dX0_found_37 ?_
        exact ps_iretG X hS (Nat.le_of_ble_eq_true rfl) (Nat.le_of_ble_eq_true rfl) dX0_found_39 (ps_cend (S1 := S) (by simp [op_found, h1, h1', c_14, cl_k, c_26]) hW ps_gf.rf hC)
      · skip
        obtain ⟨j2, rfl, j2_lo, j2_hi, j2_b⟩ := rng_t c_26
        have cl_j2 : (nI j2).toNatClampNeg = j2 := nI_clamp (by omega)
        refine lv_iload hx hb dX0_found_29 (lv_at hl 4 rfl) ?_
        refine ps_roS X hE (m_X0_isHalf l hE (H := H) (x := t)) (lw_S q857 q858 q68 q859) (by decide +kernel) ⟨⟨Nat.le_of_ble_eq_true rfl, Nat.le_of_ble_eq_true rfl⟩, Nat.le_of_ble_eq_true rfl, Nat.le_of_ble_eq_true rfl⟩ hS hl.1 (As := [.int (t)]) (rest := []) (n := 1) rfl rfl (Nat.le_of_ble_eq_true rfl) dX0_found_31 ?_
        refine ps_st (st' := [.int (bI (rng t 0 2))]) rfl ?_
        refine ps_ifneB (tgt := 40) hx hb dX0_found_34 (by decide) (fun c_34 => ?_) (fun c_34 => ?_)
        · skip
          obtain ⟨j3, rfl, j3_lo, j3_hi, j3_b⟩ := rng_t c_34
          have cl_j3 : (nI j3).toNatClampNeg = j3 := nI_clamp (by omega)
          obtain ⟨hr, hRx⟩ := id hRw
          obtain ⟨dr, hrows, hrowo, hdf⟩ := hRx.1
          refine lv_aload_n hx hb dX0_found_40 rfl (lv_at hl 0 rfl) ?_
          refine lv_iload_n hx hb dX0_found_41 rfl (lv_at hl 1 rfl) ?_
          refine lv_iload_n hx hb dX0_found_42 rfl (lv_at hl 2 rfl) ?_
          refine lv_iconst (v := nI 2) hx hb dX0_found_43 rfl ?_
          refine lv_iload_n hx hb dX0_found_44 rfl (lv_at hl 3 rfl) ?_
          refine ps_imul hx hb dX0_found_45 ?_
          refine ps_gxV X hE (m_X0_items l hE hZ hW hX hLT hOb.1 hRx hl3 (k := k) (by omega) (i := y) (n1 := 2 * j2) (by omega)) (lw_V q1053 q1055 qs27 q68 q1056) (by decide +kernel) ⟨⟨Nat.le_of_ble_eq_true rfl, Nat.le_of_ble_eq_true rfl⟩, Nat.le_of_ble_eq_true rfl, Nat.le_of_ble_eq_true rfl⟩ (ps_rc X (ci := 0) rfl (hW.at hOb.1)) hS hl.1 (As := [.int (nI k), .int (y), .int (nI (2 * j2))]) (rest := []) (n := 3) rfl rfl (Nat.le_of_ble_eq_true rfl) dX0_found_46 ?_ (fun N1 H2 locs3 q4 ce5 hp6 hS7 hce8 hcv9 hcl10 => ?_)
          rotate_left
          · skip
            obtain ⟨hc11, hW12, hgf13⟩ := hp6
            rcases hc11 with ⟨hz, rfl⟩ | ⟨hz, hr0, rfl⟩
            · skip
              refine ps_catch (name := "java/lang/NullPointerException") (pre := []) (r := (40, 76, 96, 106)) X hZ hX ht rfl (fun y hy => nomatch hy) (by decide) (by decide) q362 q384 hce8 hcv9 hcl10 ?_
              refine lv_astore (lv' := [(5, .ref (q4)), (0, .ref (x)), (1, .int (nI k)), (2, .int (y)), (3, .int (nI j2)), (4, .int (nI j3))]) hx hb dX0_found_96 hl (by decide) rfl (fun ls hl => ?_)
              refine lv_aload_n hx hb dX0_found_98 rfl (lv_at hl 1 rfl) ?_
              refine lv_iconst (v := nI 1) hx hb dX0_found_99 rfl ?_
              refine ps_geV X hE (m_X0_finds l hE hZ hW12 (N := S.1) hOb.1 (f := 1) (by omega)) (lw_V q352 q354 qs3 q68 q355) (by decide +kernel) ⟨⟨Nat.le_of_ble_eq_true rfl, Nat.le_of_ble_eq_true rfl⟩, Nat.le_of_ble_eq_true rfl, Nat.le_of_ble_eq_true rfl⟩ (ps_rc X (ci := 0) rfl (hW12.at hOb.1)) hS7 hl.1 (As := [.int (nI 1)]) (rest := []) (n := 1) rfl rfl (Nat.le_of_ble_eq_true rfl) dX0_found_100 (fun v18 H14 locs15 hp16 hS17 => ?_)
              obtain ⟨hv24, hz25, Γ19, hW20, hgf21, hg22, ho23⟩ := hp16
              subst hv24
              refine ps_st (st' := [.int (fnd 1)]) rfl ?_
              exact ps_iretG X hS17 (Nat.le_of_ble_eq_true rfl) (Nat.le_of_ble_eq_true rfl) dX0_found_103 (ps_cend (S1 := (sStat S 1)) (by simp [op_found, h1, h1', c_14, cl_k, c_26, cl_j2, c_34, cl_j3, hz]) hW20 ((ps_gf.rf.tr hgf13).tr hgf21) (ps_Cx.stat hOb hRw hTp hTr hSx hSl hg22 ho23))
            · skip
              refine ps_catch (name := "java/lang/ArrayIndexOutOfBoundsException") (pre := [(40, 76, 96, 106), (77, 95, 96, 106)]) (r := (40, 76, 104, 108)) X hZ hX ht rfl (fun y hy => by
                  simp only [List.mem_cons, List.not_mem_nil, or_false] at hy
                  rcases hy with rfl | rfl
                  · exact Or.inr ⟨by decide, "java/lang/NullPointerException", q362, by decide⟩
                  · exact Or.inl (by decide)) (by decide) (by decide) q387 q402 hce8 hcv9 hcl10 ?_
              refine lv_astore (lv' := [(5, .ref (q4)), (0, .ref (x)), (1, .int (nI k)), (2, .int (y)), (3, .int (nI j2)), (4, .int (nI j3))]) hx hb dX0_found_104 hl (by decide) rfl (fun ls hl => ?_)
              refine lv_aload_n hx hb dX0_found_106 rfl (lv_at hl 1 rfl) ?_
              refine lv_iconst (v := nI 2) hx hb dX0_found_107 rfl ?_
              refine ps_geV X hE (m_X0_finds l hE hZ hW12 (N := S.1) hOb.1 (f := 2) (by omega)) (lw_V q352 q354 qs3 q68 q355) (by decide +kernel) ⟨⟨Nat.le_of_ble_eq_true rfl, Nat.le_of_ble_eq_true rfl⟩, Nat.le_of_ble_eq_true rfl, Nat.le_of_ble_eq_true rfl⟩ (ps_rc X (ci := 0) rfl (hW12.at hOb.1)) hS7 hl.1 (As := [.int (nI 2)]) (rest := []) (n := 1) rfl rfl (Nat.le_of_ble_eq_true rfl) dX0_found_108 (fun v30 H26 locs27 hp28 hS29 => ?_)
              obtain ⟨hv36, hz37, Γ31, hW32, hgf33, hg34, ho35⟩ := hp28
              subst hv36
              refine ps_st (st' := [.int (fnd 2)]) rfl ?_
              exact ps_iretG X hS29 (Nat.le_of_ble_eq_true rfl) (Nat.le_of_ble_eq_true rfl) dX0_found_111 (ps_cend (S1 := (sStat S 2)) (by simp [op_found, h1, h1', c_14, cl_k, c_26, cl_j2, c_34, cl_j3, hz, hr0]) hW32 ((ps_gf.rf.tr hgf13).tr hgf33) (ps_Cx.stat hOb hRw hTp hTr hSx hSl hg34 ho35))
          intro v42 H38 locs39 hp40 hS41
          obtain ⟨hv46, ⟨hz, hin⟩, hz1, gi, Γ43, hW44, hgf45, hga, hgv, hgo⟩ := hp40
          subst hv46
          have hka : ∀ a e, Γ a = some e → Γ43 a = some e := fun a e h => (hgo a (Nat.ne_of_lt (hW.lt h))).trans h
          have hC1 := hC.all hka
          obtain ⟨j1, rfl, j1_lo, j1_hi, j1_b⟩ := rng_t hin
          have cl_j1 : (nI j1).toNatClampNeg = j1 := nI_clamp (by omega)
          have hgw : ∀ j, j < 2 * j2 → gi j = S.2.2 (40 * k + j1 + j) := fun j h => by have := hgv j h; rwa [cl_j1] at this
          obtain ⟨tr1, sa1, τ1, hOb1, hRw1, hTp1, hTr1, hSx1, hSl1⟩ := id hC1
          have hSo1 := (hSx1.2.2.2.2 0 _ hSx1.1.1).2
          rw [hSl1.1] at hSo1
          obtain ⟨smc1, sr1, pf1, kf1, tf1, df1, hD1, hOw1, hrr1, hpo1⟩ := id hSo1
          refine ps_st (st' := [.ref (H.size)]) rfl ?_
          refine lv_astore (lv' := [(5, .ref (H.size)), (0, .ref (x)), (1, .int (nI k)), (2, .int (nI j1)), (3, .int (nI j2)), (4, .int (nI j3))]) hx hb dX0_found_49 hl (by decide) rfl (fun ls hl => ?_)
          refine lv_iconst (v := nI 0) hx hb dX0_found_51 rfl ?_
          refine lv_istore (lv' := [(6, .int (nI 0)), (5, .ref (H.size)), (0, .ref (x)), (1, .int (nI k)), (2, .int (nI j1)), (3, .int (nI j2)), (4, .int (nI j3))]) hx hb dX0_found_52 hl (by decide) rfl (fun ls hl => ?_)
          have L54 : ∀ (n : Nat) (i : Nat) (hi : i ≤ j2) (hal : allR (fun k3 => rng (S.2.2 (40 * k + j1 + 2 * k3)) 0 (2 ^ S.2.1 0 3)) 0 i = true) (hmu : j2 - i < n) (ls : Array Slot) (hl : lv_has ls 7 [(6, .int (nI i)), (5, .ref (H.size)), (0, .ref (x)), (1, .int (nI k)), (2, .int (nI j1)), (3, .int (nI j2)), (4, .int (nI j3))]), W p l e ({ frames := 24, cells := 122, slots := 8928, locals := 10307 } : Room) s m args below meth c H38 locs39 (0 + 122) (0 + 8928) (MQ below (ps_ge (ps_cpost E z Γ H x (op_found S (nI k) (nI j1) (nI j2) (nI j3))) (ps_A E)) args s 122 8928 (ps_A E)) (F0 m 54 ls []) := by
            intro n
            induction n with
            | zero => intro i hi hal hmu; exact absurd hmu (Nat.not_lt_zero _)
            | succ n ih54 =>
              intro i hi hal hmu ls hl
              refine lv_iload hx hb dX0_found_54 (lv_at hl 0 rfl) ?_
              refine lv_iload_n hx hb dX0_found_56 rfl (lv_at hl 5 rfl) ?_
              refine ps_cge (tgt := 83) hx hb dX0_found_57 (by decide) (by omega) (fun c_57 => ?_) (fun c_57 => ?_)
              · skip
                have hall : allR (fun k3 => rng (S.2.2 (40 * k + j1 + 2 * k3)) 0 (2 ^ S.2.1 0 3)) 0 j2 = true := by rw [← (show i = j2 by omega)]; exact hal
                have hR9 : ∀ k3, k3 < j2 → rng (S.2.2 (40 * k + j1 + 2 * k3)) 0 (2 ^ S.2.1 0 3) = true := fun k3 h3 => by have := (allR_iff _ _ _).mp hall k3 h3; rwa [Nat.zero_add] at this
                refine lv_aload_n hx hb dX0_found_83 rfl (lv_at hl 2 rfl) ?_
                refine lv_aload_n hx hb dX0_found_84 rfl (lv_at hl 2 rfl) ?_
                refine lv_aload hx hb dX0_found_85 (lv_at hl 1 rfl) ?_
                refine lv_iload hx hb dX0_found_87 (lv_at hl 6 rfl) ?_
                refine ps_roV X hE (m_X0_foundBy l hE hZ hW44 hOb1.1 hD1 hO hga hgw (by omega) hR9 (t1 := j3) (by omega) (by omega)) (lw_V q1065 q1067 qs28 q68 q1068) (by decide +kernel) ⟨⟨Nat.le_of_ble_eq_true rfl, Nat.le_of_ble_eq_true rfl⟩, Nat.le_of_ble_eq_true rfl, Nat.le_of_ble_eq_true rfl⟩ (ps_rc X (ci := 0) rfl (hW44.at hOb1.1)) hS41 hl.1 (As := [.ref (H.size), .int (nI j3)]) (rest := [.ref (x)]) (n := 2) rfl rfl (Nat.le_of_ble_eq_true rfl) dX0_found_89 ?_
                refine ps_st (st' := [.int (nI (if j3 = 0 then orR (fun k2 => sp_so (S.2.1 0) S.2.2 (40 * k + j1) k2 (S.2.1 0 1) j2) 10 else orR (fun k2 => sp_so (S.2.1 0) S.2.2 (40 * k + j1) (S.2.1 0 0) (k2 + 1) j2) 5)), .ref (x)]) rfl ?_
                refine ps_geV X hE (m_X0_well l hE hZ hW44 (N := S.1) hOb1.1 (u := nI (if j3 = 0 then orR (fun k2 => sp_so (S.2.1 0) S.2.2 (40 * k + j1) k2 (S.2.1 0 1) j2) 10 else orR (fun k2 => sp_so (S.2.1 0) S.2.2 (40 * k + j1) (S.2.1 0 0) (k2 + 1) j2) 5))) (lw_V q348 q350 qs2 q68 q351) (by decide +kernel) ⟨⟨Nat.le_of_ble_eq_true rfl, Nat.le_of_ble_eq_true rfl⟩, Nat.le_of_ble_eq_true rfl, Nat.le_of_ble_eq_true rfl⟩ (ps_rc X (ci := 0) rfl (hW44.at hOb1.1)) hS41 hl.1 (As := [.int (nI (if j3 = 0 then orR (fun k2 => sp_so (S.2.1 0) S.2.2 (40 * k + j1) k2 (S.2.1 0 1) j2) 10 else orR (fun k2 => sp_so (S.2.1 0) S.2.2 (40 * k + j1) (S.2.1 0 0) (k2 + 1) j2) 5))]) (rest := []) (n := 1) rfl rfl (Nat.le_of_ble_eq_true rfl) dX0_found_92 (fun v51 H47 locs48 hp49 hS50 => ?_)
                obtain ⟨hv57, hz58, Γ52, hW53, hgf54, hg55, ho56⟩ := hp49
                subst hv57
                refine ps_st (st' := [.int (nI (if j3 = 0 then orR (fun k2 => sp_so (S.2.1 0) S.2.2 (40 * k + j1) k2 (S.2.1 0 1) j2) 10 else orR (fun k2 => sp_so (S.2.1 0) S.2.2 (40 * k + j1) (S.2.1 0 0) (k2 + 1) j2) 5))]) rfl ?_
                exact ps_iretG X hS50 (Nat.le_of_ble_eq_true rfl) (Nat.le_of_ble_eq_true rfl) dX0_found_95 (ps_cend (S1 := (sStat S 0)) (by simp [op_found, h1, h1', c_14, cl_k, c_26, cl_j2, c_34, cl_j3, cl_j1, c_57, hz, hin, hall]) hW53 ((ps_gf.rf.tr hgf45).tr hgf54) (ps_Cx.stat hOb1 hRw1 hTp1 hTr1 hSx1 hSl1 hg55 ho56))
              · skip
                refine lv_aload_n hx hb dX0_found_60 rfl (lv_at hl 2 rfl) ?_
                refine lv_aload hx hb dX0_found_61 (lv_at hl 1 rfl) ?_
                refine lv_iconst (v := nI 2) hx hb dX0_found_63 rfl ?_
                refine lv_iload hx hb dX0_found_64 (lv_at hl 0 rfl) ?_
                refine ps_imul hx hb dX0_found_66 ?_
                refine ps_iald (j := 2 * i) X (hW44.at hga) rfl (by show 2 * i < 2 * j2; omega) (by first | decide | omega) dX0_found_67 ?_
                refine ps_top (y := S.2.2 (40 * k + j1 + 2 * i)) (hgw _ (by omega)) ?_
                refine ps_roV X hE (m_X0_isSet l hE hZ hW44 hOb1.1 hD1 hO (v := S.2.2 (40 * k + j1 + 2 * i))) (lw_V q970 q972 qs22 q68 q973) (by decide +kernel) ⟨⟨Nat.le_of_ble_eq_true rfl, Nat.le_of_ble_eq_true rfl⟩, Nat.le_of_ble_eq_true rfl, Nat.le_of_ble_eq_true rfl⟩ (ps_rc X (ci := 0) rfl (hW44.at hOb1.1)) hS41 hl.1 (As := [.int (S.2.2 (40 * k + j1 + 2 * i))]) (rest := []) (n := 1) rfl rfl (Nat.le_of_ble_eq_true rfl) dX0_found_68 ?_
                refine ps_st (st' := [.int (bI (rng (S.2.2 (40 * k + j1 + 2 * i)) 0 (2 ^ (S.2.1 0) 3)))]) rfl ?_
                refine ps_ifneB (tgt := 77) hx hb dX0_found_71 (by decide) (fun c_71 => ?_) (fun c_71 => ?_)
                · skip
                  refine lv_iinc (v := nI (i + 1)) (lv' := [(6, .int (nI (i + 1))), (5, .ref (H.size)), (0, .ref (x)), (1, .int (nI k)), (2, .int (nI j1)), (3, .int (nI j2)), (4, .int (nI j3))]) hx hb dX0_found_77 hl (k := 0) rfl (ps_inc _) (by decide) rfl (fun ls hl => ?_)
                  refine lv_goto (tgt := 54) hx hb dX0_found_80 (by decide) ?_
                  exact ih54  (i + 1) (by omega) (by rw [allR, hal, Nat.zero_add, c_71]; rfl) (by omega) ls (lv_sub hl [0, 1, 2, 3, 4, 5, 6] rfl)
                · skip
                  refine lv_ldc (v := -1000001) hx hb ho (hts _ q344) dX0_found_74 ?_
                  exact ps_iretG X hS41 (Nat.le_of_ble_eq_true rfl) (Nat.le_of_ble_eq_true rfl) dX0_found_76 (ps_cend (S1 := S) (by
                      have hno : allR (fun k3 => rng (S.2.2 (40 * k + j1 + 2 * k3)) 0 (2 ^ S.2.1 0 3)) 0 j2 = false := Bool.eq_false_iff.mpr (fun z9 => by have := (allR_iff _ _ _).mp z9 i (by omega); rw [Nat.zero_add, c_71] at this; exact absurd this (by decide))
                      simp [op_found, h1, h1', c_14, cl_k, c_26, cl_j2, c_34, cl_j3, cl_j1, c_57, c_71, hz, hin, hno]) hW44 (ps_gf.rf.tr hgf45) (hC1))
          exact L54 ((j2 - 0) + 1) 0 (by omega) rfl (Nat.lt_succ_self _) ls (lv_sub hl [0, 1, 2, 3, 4, 5, 6] rfl)
        · skip
          refine lv_ldc (v := -1000001) hx hb ho (hts _ q344) dX0_found_37 ?_
          exact ps_iretG X hS (Nat.le_of_ble_eq_true rfl) (Nat.le_of_ble_eq_true rfl) dX0_found_39 (ps_cend (S1 := S) (by simp [op_found, h1, h1', c_14, cl_k, c_26, cl_j2, c_34]) hW ps_gf.rf hC)
  · skip
    have h1 : ¬ 1 ≤ S.2.1 0 1 := of_decide_eq_false c_4
    have h1' : S.2.1 0 1 = 0 := by omega
    refine lv_ldc (v := -1000002) hx hb ho (hts _ q867) dX0_found_7 ?_
    exact ps_iretG X hS (Nat.le_of_ble_eq_true rfl) (Nat.le_of_ble_eq_true rfl) dX0_found_9 (ps_cend (S1 := S) (by simp [op_found, h1']) hW ps_gf.rf hC)

set_option maxHeartbeats 4000000 in
theorem m_X0_keepsFound (l : Launch) {E : ps_E} (hE : ps_ZT E) {z : Nat} (hZ : ps_Zk E z) {Γ : ps_Gh} {H : Heap} (hW : ps_W E Γ H) {x : Nat} {S : SS} {ow : ps_Ow} (hC : ps_Cx E z Γ ow x S) (hwf : wf S) (hX : ps_Zx E) (hLT : l.stackTraces = false) {v y w1 : Int32} : ps_GW l E yX0_keepsFound cX0_keepsFound 6 (some .int) [(62, 79, 80, 106), (62, 79, 88, 108)] 10 10307 122 8928 [.ref (x), .int (v), .int (y), .int (w1)] H (ps_cpost E z Γ H x (op_keepsFound S v y w1)) := by
  refine ps_GW.of (by decide) (Nat.le_of_ble_eq_true rfl) ?_
  intro p e s m args below meth c X ht ls hl
  have hx := X.1
  have hb := X.2.1
  have ho := X.2.2.2.1
  have hts := X.2.2.2.2.1
  have hS : va_S (ps_A E) s.heap H [] := by rw [X.2.2.2.2.2.2.2.2.1]; exact va_S.rf
  have hl : lv_has ls 6 [(0, .ref (x)), (1, .int (v)), (2, .int (y)), (3, .int (w1))] := hl
  have hO := hwf.1
  have hm := hO.m
  have hn := hwf.n
  have hl3 := hwf.2.2.2.2.1
  obtain ⟨tr, sa, τ, hOb, hRw, hTp, hTr, hSx, hSl⟩ := id hC
  have hSo := (hSx.2.2.2.2 0 _ hSx.1.1).2
  rw [hSl.1] at hSo
  obtain ⟨smc, sr, pf, kf, tf, df, hD, hOw, hrr, hpo⟩ := id hSo
  refine lv_aload_n hx hb dX0_keepsFound_0 rfl (lv_at hl 0 rfl) ?_
  refine lv_iload_n hx hb dX0_keepsFound_1 rfl (lv_at hl 1 rfl) ?_
  refine ps_roV X hE (m_X0_isGiver l hE hZ hW hOb.1 hD hO (v := v)) (lw_V q962 q964 qs21 q68 q965) (by decide +kernel) ⟨⟨Nat.le_of_ble_eq_true rfl, Nat.le_of_ble_eq_true rfl⟩, Nat.le_of_ble_eq_true rfl, Nat.le_of_ble_eq_true rfl⟩ (ps_rc X (ci := 0) rfl (hW.at hOb.1)) hS hl.1 (As := [.int (v)]) (rest := []) (n := 1) rfl rfl (Nat.le_of_ble_eq_true rfl) dX0_keepsFound_2 ?_
  refine ps_st (st' := [.int (bI (rng v 0 ((S.2.1 0) 2)))]) rfl ?_
  refine ps_ifeqB (tgt := 15) hx hb dX0_keepsFound_5 (by decide) (fun c_5 => ?_) (fun c_5 => ?_)
  · skip
    refine lv_ldc (v := -1000001) hx hb ho (hts _ q344) dX0_keepsFound_15 ?_
    exact ps_iretG X hS (Nat.le_of_ble_eq_true rfl) (Nat.le_of_ble_eq_true rfl) dX0_keepsFound_17 (ps_cend (S1 := S) (by simp [op_keepsFound, c_5]) hW ps_gf.rf hC)
  · skip
    obtain ⟨k, rfl, k_lo, k_hi, k_b⟩ := rng_t c_5
    have cl_k : (nI k).toNatClampNeg = k := nI_clamp (by omega)
    refine lv_iload_n hx hb dX0_keepsFound_8 rfl (lv_at hl 2 rfl) ?_
    refine ps_roS X hE (m_X0_isRow l hE (H := H) (x := y)) (lw_S q336 q337 q68 q338) (by decide +kernel) ⟨⟨Nat.le_of_ble_eq_true rfl, Nat.le_of_ble_eq_true rfl⟩, Nat.le_of_ble_eq_true rfl, Nat.le_of_ble_eq_true rfl⟩ hS hl.1 (As := [.int (y)]) (rest := []) (n := 1) rfl rfl (Nat.le_of_ble_eq_true rfl) dX0_keepsFound_9 ?_
    refine ps_st (st' := [.int (bI (rng y 0 8))]) rfl ?_
    refine ps_ifneB (tgt := 18) hx hb dX0_keepsFound_12 (by decide) (fun c_12 => ?_) (fun c_12 => ?_)
    · skip
      obtain ⟨k2, rfl, k2_lo, k2_hi, k2_b⟩ := rng_t c_12
      have cl_k2 : (nI k2).toNatClampNeg = k2 := nI_clamp (by omega)
      refine lv_iconst (v := nI 0) hx hb dX0_keepsFound_18 rfl ?_
      refine lv_istore (lv' := [(4, .int (nI 0)), (0, .ref (x)), (1, .int (nI k)), (2, .int (nI k2)), (3, .int (w1))]) hx hb dX0_keepsFound_19 hl (by decide) rfl (fun ls hl => ?_)
      refine lv_iconst (v := nI 0) hx hb dX0_keepsFound_21 rfl ?_
      refine lv_istore (lv' := [(5, .int (nI 0)), (4, .int (nI 0)), (0, .ref (x)), (1, .int (nI k)), (2, .int (nI k2)), (3, .int (w1))]) hx hb dX0_keepsFound_22 hl (by decide) rfl (fun ls hl => ?_)
      have L24 : ∀ (n : Nat) (i : Nat) (hi : i ≤ S.2.1 0 3) (hmu : S.2.1 0 3 - i < n) (ls : Array Slot) (hl : lv_has ls 6 [(5, .int (nI i)), (4, .int (nI (sp_npl (S.2.1 0) k i))), (0, .ref (x)), (1, .int (nI k)), (2, .int (nI k2)), (3, .int (w1))]), W p l e ({ frames := 10, cells := 122, slots := 8928, locals := 10307 } : Room) s m args below meth c H [] 0 0 (MQ below (ps_ge (ps_cpost E z Γ H x (op_keepsFound S (nI k) (nI k2) w1)) (ps_A E)) args s 122 8928 (ps_A E)) (F0 m 24 ls []) := by
        intro n
        induction n with
        | zero => intro i hi hmu; exact absurd hmu (Nat.not_lt_zero _)
        | succ n ih24 =>
          intro i hi hmu ls hl
          refine lv_iload hx hb dX0_keepsFound_24 (lv_at hl 0 rfl) ?_
          refine lv_aload_n hx hb dX0_keepsFound_26 rfl (lv_at hl 2 rfl) ?_
          refine ps_get (v := .ref (x + 11)) X in_X0 (ci := 0) rfl 4 (by decide) q216 rfl (hW.at hOb.1) rfl dX0_keepsFound_27 ?_
          refine ps_roV X hE (m_X2_many l hE hZ hW hD hO ) (lw_V q844 q647 q648 q70 q649) (by decide +kernel) ⟨⟨Nat.le_of_ble_eq_true rfl, Nat.le_of_ble_eq_true rfl⟩, Nat.le_of_ble_eq_true rfl, Nat.le_of_ble_eq_true rfl⟩ (ps_rc X (ci := 2) rfl (hW.at hD.1)) hS hl.1 (As := []) (rest := [.int (nI i)]) (n := 0) rfl rfl (Nat.le_of_ble_eq_true rfl) dX0_keepsFound_30 ?_
          refine ps_st (st' := [.int (nI ((S.2.1 0) 3)), .int (nI i)]) rfl ?_
          refine ps_cge (tgt := 62) hx hb dX0_keepsFound_33 (by decide) (by omega) (fun c_33 => ?_) (fun c_33 => ?_)
          · skip
            have ei : i = S.2.1 0 3 := by omega
            subst ei
            have hnp : sp_npl (S.2.1 0) k (S.2.1 0 3) ≤ 8 := Nat.le_trans (sumR_le _ _ 1 (fun i => by split <;> omega) _) (by omega)
            obtain ⟨hr, hRx⟩ := id hRw
            obtain ⟨dr, hrows, hrowo, hdf⟩ := hRx.1
            refine lv_aload_n hx hb dX0_keepsFound_62 rfl (lv_at hl 2 rfl) ?_
            refine lv_aload_n hx hb dX0_keepsFound_63 rfl (lv_at hl 2 rfl) ?_
            refine lv_iload_n hx hb dX0_keepsFound_64 rfl (lv_at hl 3 rfl) ?_
            refine lv_aload_n hx hb dX0_keepsFound_65 rfl (lv_at hl 2 rfl) ?_
            refine lv_iload_n hx hb dX0_keepsFound_66 rfl (lv_at hl 4 rfl) ?_
            refine lv_iload_n hx hb dX0_keepsFound_67 rfl (lv_at hl 5 rfl) ?_
            refine lv_iload hx hb dX0_keepsFound_68 (lv_at hl 1 rfl) ?_
            refine ps_gxV X hE (m_X0_items l hE hZ hW hX hLT hOb.1 hRx hl3 (k := k2) (by omega) (i := w1) (n1 := sp_npl (S.2.1 0) k (S.2.1 0 3)) (by omega)) (lw_V q1053 q1055 qs27 q68 q1056) (by decide +kernel) ⟨⟨Nat.le_of_ble_eq_true rfl, Nat.le_of_ble_eq_true rfl⟩, Nat.le_of_ble_eq_true rfl, Nat.le_of_ble_eq_true rfl⟩ (ps_rc X (ci := 0) rfl (hW.at hOb.1)) hS hl.1 (As := [.int (nI k2), .int (w1), .int (nI (sp_npl (S.2.1 0) k (S.2.1 0 3)))]) (rest := [.int (nI k), .ref (x), .ref (x)]) (n := 3) rfl rfl (Nat.le_of_ble_eq_true rfl) dX0_keepsFound_70 ?_ (fun N1 H2 locs3 q4 ce5 hp6 hS7 hce8 hcv9 hcl10 => ?_)
            rotate_left
            · skip
              obtain ⟨hc11, hW12, hgf13⟩ := hp6
              rcases hc11 with ⟨hz, rfl⟩ | ⟨hz, hr0, rfl⟩
              · skip
                refine ps_catch (name := "java/lang/NullPointerException") (pre := []) (r := (62, 79, 80, 106)) X hZ hX ht rfl (fun y hy => nomatch hy) (by decide) (by decide) q362 q384 hce8 hcv9 hcl10 ?_
                refine lv_astore (lv' := [(5, .ref (q4)), (4, .int (nI (sp_npl (S.2.1 0) k (S.2.1 0 3)))), (0, .ref (x)), (1, .int (nI k)), (2, .int (nI k2)), (3, .int (w1))]) hx hb dX0_keepsFound_80 hl (by decide) rfl (fun ls hl => ?_)
                refine lv_aload_n hx hb dX0_keepsFound_82 rfl (lv_at hl 2 rfl) ?_
                refine lv_iconst (v := nI 1) hx hb dX0_keepsFound_83 rfl ?_
                refine ps_geV X hE (m_X0_finds l hE hZ hW12 (N := S.1) hOb.1 (f := 1) (by omega)) (lw_V q352 q354 qs3 q68 q355) (by decide +kernel) ⟨⟨Nat.le_of_ble_eq_true rfl, Nat.le_of_ble_eq_true rfl⟩, Nat.le_of_ble_eq_true rfl, Nat.le_of_ble_eq_true rfl⟩ (ps_rc X (ci := 0) rfl (hW12.at hOb.1)) hS7 hl.1 (As := [.int (nI 1)]) (rest := []) (n := 1) rfl rfl (Nat.le_of_ble_eq_true rfl) dX0_keepsFound_84 (fun v18 H14 locs15 hp16 hS17 => ?_)
                obtain ⟨hv24, hz25, Γ19, hW20, hgf21, hg22, ho23⟩ := hp16
                subst hv24
                refine ps_st (st' := [.int (fnd 1)]) rfl ?_
                exact ps_iretG X hS17 (Nat.le_of_ble_eq_true rfl) (Nat.le_of_ble_eq_true rfl) dX0_keepsFound_87 (ps_cend (S1 := (sStat S 1)) (by simp [op_keepsFound, c_5, cl_k, c_12, cl_k2, c_33, hz]) hW20 ((ps_gf.rf.tr hgf13).tr hgf21) (ps_Cx.stat hOb hRw hTp hTr hSx hSl hg22 ho23))
              · skip
                refine ps_catch (name := "java/lang/ArrayIndexOutOfBoundsException") (pre := [(62, 79, 80, 106)]) (r := (62, 79, 88, 108)) X hZ hX ht rfl (fun y hy => by
                    obtain rfl := List.mem_singleton.mp hy
                    exact Or.inr ⟨by decide, "java/lang/NullPointerException", q362, by decide⟩) (by decide) (by decide) q387 q402 hce8 hcv9 hcl10 ?_
                refine lv_astore (lv' := [(5, .ref (q4)), (4, .int (nI (sp_npl (S.2.1 0) k (S.2.1 0 3)))), (0, .ref (x)), (1, .int (nI k)), (2, .int (nI k2)), (3, .int (w1))]) hx hb dX0_keepsFound_88 hl (by decide) rfl (fun ls hl => ?_)
                refine lv_aload_n hx hb dX0_keepsFound_90 rfl (lv_at hl 2 rfl) ?_
                refine lv_iconst (v := nI 2) hx hb dX0_keepsFound_91 rfl ?_
                refine ps_geV X hE (m_X0_finds l hE hZ hW12 (N := S.1) hOb.1 (f := 2) (by omega)) (lw_V q352 q354 qs3 q68 q355) (by decide +kernel) ⟨⟨Nat.le_of_ble_eq_true rfl, Nat.le_of_ble_eq_true rfl⟩, Nat.le_of_ble_eq_true rfl, Nat.le_of_ble_eq_true rfl⟩ (ps_rc X (ci := 0) rfl (hW12.at hOb.1)) hS7 hl.1 (As := [.int (nI 2)]) (rest := []) (n := 1) rfl rfl (Nat.le_of_ble_eq_true rfl) dX0_keepsFound_92 (fun v30 H26 locs27 hp28 hS29 => ?_)
                obtain ⟨hv36, hz37, Γ31, hW32, hgf33, hg34, ho35⟩ := hp28
                subst hv36
                refine ps_st (st' := [.int (fnd 2)]) rfl ?_
                exact ps_iretG X hS29 (Nat.le_of_ble_eq_true rfl) (Nat.le_of_ble_eq_true rfl) dX0_keepsFound_95 (ps_cend (S1 := (sStat S 2)) (by simp [op_keepsFound, c_5, cl_k, c_12, cl_k2, c_33, hz, hr0]) hW32 ((ps_gf.rf.tr hgf13).tr hgf33) (ps_Cx.stat hOb hRw hTp hTr hSx hSl hg34 ho35))
            intro v42 H38 locs39 hp40 hS41
            obtain ⟨hv46, ⟨hz, hin⟩, hz1, gi, Γ43, hW44, hgf45, hga, hgv, hgo⟩ := hp40
            subst hv46
            have hka : ∀ a e, Γ a = some e → Γ43 a = some e := fun a e h => (hgo a (Nat.ne_of_lt (hW.lt h))).trans h
            have hC1 := hC.all hka
            obtain ⟨j1, rfl, j1_lo, j1_hi, j1_b⟩ := rng_t hin
            have cl_j1 : (nI j1).toNatClampNeg = j1 := nI_clamp (by omega)
            have hgw : ∀ j, j < sp_npl (S.2.1 0) k (S.2.1 0 3) → gi j = S.2.2 (40 * k2 + j1 + j) := fun j h => by have := hgv j h; rwa [cl_j1] at this
            obtain ⟨tr1, sa1, τ1, hOb1, hRw1, hTp1, hTr1, hSx1, hSl1⟩ := id hC1
            have hSo1 := (hSx1.2.2.2.2 0 _ hSx1.1.1).2
            rw [hSl1.1] at hSo1
            obtain ⟨smc1, sr1, pf1, kf1, tf1, df1, hD1, hOw1, hrr1, hpo1⟩ := id hSo1
            refine ps_st (st' := [.ref (H.size), .int (nI k), .ref (x), .ref (x)]) rfl ?_
            refine ps_roV X hE (m_X0_keepsBy l hE hZ hW44 hOb1.1 hD1 hO hga hgw rfl (by omega) (g1 := k)) (lw_V q1101 q1103 qs31 q68 q1104) (by decide +kernel) ⟨⟨Nat.le_of_ble_eq_true rfl, Nat.le_of_ble_eq_true rfl⟩, Nat.le_of_ble_eq_true rfl, Nat.le_of_ble_eq_true rfl⟩ (ps_rc X (ci := 0) rfl (hW44.at hOb1.1)) hS41 hl.1 (As := [.int (nI k), .ref (H.size)]) (rest := [.ref (x)]) (n := 2) rfl rfl (Nat.le_of_ble_eq_true rfl) dX0_keepsFound_73 ?_
            refine ps_st (st' := [.int (nI (orR (fun c2 => sp_kf (S.2.1 0) S.2.2 k (40 * k2 + j1) c2 (S.2.1 0 3)) 11)), .ref (x)]) rfl ?_
            refine ps_geV X hE (m_X0_well l hE hZ hW44 (N := S.1) hOb1.1 (u := nI (orR (fun c2 => sp_kf (S.2.1 0) S.2.2 k (40 * k2 + j1) c2 (S.2.1 0 3)) 11))) (lw_V q348 q350 qs2 q68 q351) (by decide +kernel) ⟨⟨Nat.le_of_ble_eq_true rfl, Nat.le_of_ble_eq_true rfl⟩, Nat.le_of_ble_eq_true rfl, Nat.le_of_ble_eq_true rfl⟩ (ps_rc X (ci := 0) rfl (hW44.at hOb1.1)) hS41 hl.1 (As := [.int (nI (orR (fun c2 => sp_kf (S.2.1 0) S.2.2 k (40 * k2 + j1) c2 (S.2.1 0 3)) 11))]) (rest := []) (n := 1) rfl rfl (Nat.le_of_ble_eq_true rfl) dX0_keepsFound_76 (fun v51 H47 locs48 hp49 hS50 => ?_)
            obtain ⟨hv57, hz58, Γ52, hW53, hgf54, hg55, ho56⟩ := hp49
            subst hv57
            refine ps_st (st' := [.int (nI (orR (fun c2 => sp_kf (S.2.1 0) S.2.2 k (40 * k2 + j1) c2 (S.2.1 0 3)) 11))]) rfl ?_
            exact ps_iretG X hS50 (Nat.le_of_ble_eq_true rfl) (Nat.le_of_ble_eq_true rfl) dX0_keepsFound_79 (ps_cend (S1 := (sStat S 0)) (by simp [op_keepsFound, c_5, cl_k, c_12, cl_k2, c_33, cl_j1, hz, hin]) hW53 ((ps_gf.rf.tr hgf45).tr hgf54) (ps_Cx.stat hOb1 hRw1 hTp1 hTr1 hSx1 hSl1 hg55 ho56))
          · skip
            refine lv_iload hx hb dX0_keepsFound_36 (lv_at hl 1 rfl) ?_
            refine lv_aload_n hx hb dX0_keepsFound_38 rfl (lv_at hl 2 rfl) ?_
            refine lv_iload_n hx hb dX0_keepsFound_39 rfl (lv_at hl 3 rfl) ?_
            refine lv_iload hx hb dX0_keepsFound_40 (lv_at hl 0 rfl) ?_
            refine ps_roV X hE (m_X0_isPlainOf l hE hZ hW hOb.1 hD hO (k := i) (g := k) (by omega) (by omega)) (lw_V q1079 q1081 qs30 q68 q1082) (by decide +kernel) ⟨⟨Nat.le_of_ble_eq_true rfl, Nat.le_of_ble_eq_true rfl⟩, Nat.le_of_ble_eq_true rfl, Nat.le_of_ble_eq_true rfl⟩ (ps_rc X (ci := 0) rfl (hW.at hOb.1)) hS hl.1 (As := [.int (nI k), .int (nI i)]) (rest := [.int (nI (sp_npl (S.2.1 0) k i))]) (n := 2) rfl rfl (Nat.le_of_ble_eq_true rfl) dX0_keepsFound_42 ?_
            refine ps_st (st' := [.int (bI (sp_plk (S.2.1 0) k i)), .int (nI (sp_npl (S.2.1 0) k i))]) rfl ?_
            have J53 : W p l e ({ frames := 10, cells := 122, slots := 8928, locals := 10307 } : Room) s m args below meth c H [] 0 0 (MQ below (ps_ge (ps_cpost E z Γ H x (op_keepsFound S (nI k) (nI k2) w1)) (ps_A E)) args s 122 8928 (ps_A E)) (F0 m 53 ls [.int (nI (if sp_plk (S.2.1 0) k i = true then 1 else 0)), .int (nI (sp_npl (S.2.1 0) k i))]) := by
              refine ps_iadd hx hb dX0_keepsFound_53 ?_
              refine lv_istore (lv' := [(4, .int (nI ((sp_npl (S.2.1 0) k i) + (if sp_plk (S.2.1 0) k i = true then 1 else 0)))), (5, .int (nI i)), (0, .ref (x)), (1, .int (nI k)), (2, .int (nI k2)), (3, .int (w1))]) hx hb dX0_keepsFound_54 hl (by decide) rfl (fun ls hl => ?_)
              refine lv_iinc (v := nI (i + 1)) (lv' := [(5, .int (nI (i + 1))), (4, .int (nI ((sp_npl (S.2.1 0) k i) + (if sp_plk (S.2.1 0) k i = true then 1 else 0)))), (0, .ref (x)), (1, .int (nI k)), (2, .int (nI k2)), (3, .int (w1))]) hx hb dX0_keepsFound_56 hl (k := 1) rfl (ps_inc _) (by decide) rfl (fun ls hl => ?_)
              refine lv_goto (tgt := 24) hx hb dX0_keepsFound_59 (by decide) ?_
              have e59 : (nI ((sp_npl (S.2.1 0) k i) + (if sp_plk (S.2.1 0) k i = true then 1 else 0)) : Int32) = nI (sp_npl (S.2.1 0) k (i + 1)) := congrArg nI (by simp [sp_npl, sumR])
              have hl : lv_has ls 6 [(5, .int (nI (i + 1))), (4, .int (nI (sp_npl (S.2.1 0) k (i + 1)))), (0, .ref (x)), (1, .int (nI k)), (2, .int (nI k2)), (3, .int (w1))] := ps_lv (l1 := [(5, .int (nI (i + 1))), (4, .int (nI ((sp_npl (S.2.1 0) k i) + (if sp_plk (S.2.1 0) k i = true then 1 else 0)))), (0, .ref (x)), (1, .int (nI k)), (2, .int (nI k2)), (3, .int (w1))]) (lv_sub hl [0, 1, 2, 3, 4, 5] rfl) (by rw [e59])
              exact ih24  (i + 1) (by omega) (by omega) ls (hl)
            refine ps_ifeqB (tgt := 52) hx hb dX0_keepsFound_45 (by decide) (fun c_45 => ?_) (fun c_45 => ?_)
            · skip
              refine lv_iconst (v := nI 0) hx hb dX0_keepsFound_52 rfl ?_
              exact ps_top (congrArg nI (by first | rfl | (simp [c_5, cl_k, c_12, cl_k2, c_33, c_45]; done) | (simp [c_5, cl_k, c_12, cl_k2, c_33, c_45]; omega) | omega)) J53
            · skip
              refine lv_iconst (v := nI 1) hx hb dX0_keepsFound_48 rfl ?_
              refine lv_goto (tgt := 53) hx hb dX0_keepsFound_49 (by decide) ?_
              exact ps_top (congrArg nI (by first | rfl | (simp [c_5, cl_k, c_12, cl_k2, c_33, c_45]; done) | (simp [c_5, cl_k, c_12, cl_k2, c_33, c_45]; omega) | omega)) J53
      have hl : lv_has ls 6 [(5, .int (nI 0)), (4, .int (nI (sp_npl (S.2.1 0) k 0))), (0, .ref (x)), (1, .int (nI k)), (2, .int (nI k2)), (3, .int (w1))] := lv_sub hl [0, 1, 2, 3, 4, 5] rfl
      exact L24 ((S.2.1 0 3 - 0) + 1) 0 (by omega) (Nat.lt_succ_self _) ls (hl)
    · skip
      refine lv_ldc (v := -1000001) hx hb ho (hts _ q344) dX0_keepsFound_15 ?_
      exact ps_iretG X hS (Nat.le_of_ble_eq_true rfl) (Nat.le_of_ble_eq_true rfl) dX0_keepsFound_17 (ps_cend (S1 := S) (by simp [op_keepsFound, c_5, cl_k, c_12]) hW ps_gf.rf hC)
