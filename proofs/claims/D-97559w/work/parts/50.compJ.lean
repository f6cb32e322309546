/-! the component: readers of its object, with loops (printed by gen/comp10.py) -/
set_option maxRecDepth 100000
set_option maxHeartbeats 4000000 in
theorem m_X0_clash (l : Launch) {E : ps_E} (hE : ps_ZT E) {z : Nat} (hZ : ps_Zk E z) {Γ : ps_Gh} {H : Heap} (hW : ps_W E Γ H) {x tr : Nat} {N : Nat → Nat} (hX : Γ x = some (ps_xo x tr N)) {σ : Nat → Nat} {smc : Int32} {sr : Nat} {pf : Nat → Nat} {kf tf : Nat → Int32} {df : Nat → Option Nat} (hD : ps_Sd E z Γ (x + 11) σ smc sr pf kf tf df) (hO : sp_ok σ) {v : Int32} : ps_Ro l E yX0_clash cX0_clash 6 (some .int) 6 121 [.ref (x), .int (v)] H (some (.int (op_clash σ v))) := by
  refine ps_Ro.of (by decide) (Nat.le_of_ble_eq_true rfl) ?_
  intro p e s m args below meth c X ls hl
  have hx := X.1
  have hb := X.2.1
  have ho := X.2.2.2.1
  have hts := X.2.2.2.2.1
  have hS : va_S (ps_A E) s.heap H [] := by rw [X.2.2.2.2.2.2.2.2.1]; exact va_S.rf
  have hl : lv_has ls 6 [(0, .ref (x)), (1, .int (v))] := hl
  have hm := hO.m
  refine lv_aload_n hx hb dX0_clash_0 rfl (lv_at hl 0 rfl) ?_
  refine ps_roV X hE (m_X0_isThere l hE hZ hW hX hD hO ) (lw_V q935 q937 qs20 q68 q938) (by decide +kernel) ⟨⟨Nat.le_of_ble_eq_true rfl, Nat.le_of_ble_eq_true rfl⟩, Nat.le_of_ble_eq_true rfl, Nat.le_of_ble_eq_true rfl⟩ (ps_rc X (ci := 0) rfl (hW.at hX)) hS hl.1 (As := []) (rest := []) (n := 0) rfl rfl (Nat.le_of_ble_eq_true rfl) dX0_clash_1 ?_
  refine ps_st (st' := [.int (bI (decide (1 ≤ σ 1)))]) rfl ?_
  refine ps_ifneB (tgt := 10) hx hb dX0_clash_4 (by decide) (fun c_4 => ?_) (fun c_4 => ?_)
  · skip
    have h1 : 1 ≤ σ 1 := of_decide_eq_true c_4
    have h1' : ¬ σ 1 = 0 := by omega
    refine lv_iload_n hx hb dX0_clash_10 rfl (lv_at hl 1 rfl) ?_
    refine ps_roS X hE (m_X0_isHalf l hE (H := H) (x := v)) (lw_S q857 q858 q68 q859) (by decide +kernel) ⟨⟨Nat.le_of_ble_eq_true rfl, Nat.le_of_ble_eq_true rfl⟩, Nat.le_of_ble_eq_true rfl, Nat.le_of_ble_eq_true rfl⟩ hS hl.1 (As := [.int (v)]) (rest := []) (n := 1) rfl rfl (Nat.le_of_ble_eq_true rfl) dX0_clash_11 ?_
    refine ps_st (st' := [.int (bI (rng v 0 2))]) rfl ?_
    refine ps_ifneB (tgt := 20) hx hb dX0_clash_14 (by decide) (fun c_14 => ?_) (fun c_14 => ?_)
    · skip
      obtain ⟨k, rfl, k_lo, k_hi, k_b⟩ := rng_t c_14
      have cl_k : (nI k).toNatClampNeg = k := nI_clamp (by omega)
      refine lv_iconst (v := nI 0) hx hb dX0_clash_20 rfl ?_
      refine lv_istore_n (lv' := [(2, .int (nI 0)), (0, .ref (x)), (1, .int (nI k))]) hx hb dX0_clash_21 rfl hl (by decide) rfl (fun ls hl => ?_)
      refine lv_ldc (v := -1000000) hx hb ho (hts _ q982) dX0_clash_22 ?_
      refine lv_istore_n (lv' := [(3, .int ((-1000000))), (2, .int (nI 0)), (0, .ref (x)), (1, .int (nI k))]) hx hb dX0_clash_24 rfl hl (by decide) rfl (fun ls hl => ?_)
      refine lv_iconst (v := nI 0) hx hb dX0_clash_25 rfl ?_
      refine lv_istore (lv' := [(4, .int (nI 0)), (3, .int ((-1000000))), (2, .int (nI 0)), (0, .ref (x)), (1, .int (nI k))]) hx hb dX0_clash_26 hl (by decide) rfl (fun ls hl => ?_)
      have L28 : ∀ (n : Nat) (i : Nat) (hi : i ≤ σ 3) (hmu : σ 3 - i < n) (ls : Array Slot) (hl : lv_has ls 6 [(4, .int (nI i)), (3, .int (optI (cl_f σ i (i + 1)))), (2, .int (nI (cl_n σ i (i + 1)))), (0, .ref (x)), (1, .int (nI k))]), W p l e ({ frames := 6, cells := 0, slots := 0, locals := 121 } : Room) s m args below meth c H [] 0 0 (MQ below (ps_ro (some (.int (op_clash σ (nI k))))) args s 0 0 (fun _ => False)) (F0 m 28 ls []) := by
        intro n
        induction n with
        | zero => intro i hi hmu; exact absurd hmu (Nat.not_lt_zero _)
        | succ n ih28 =>
          intro i hi hmu ls hl
          refine lv_iload hx hb dX0_clash_28 (lv_at hl 0 rfl) ?_
          refine lv_aload_n hx hb dX0_clash_30 rfl (lv_at hl 3 rfl) ?_
          refine ps_get (v := .ref (x + 11)) X in_X0 (ci := 0) rfl 4 (by decide) q216 rfl (hW.at hX) rfl dX0_clash_31 ?_
          refine ps_roV X hE (m_X2_many l hE hZ hW hD hO ) (lw_V q844 q647 q648 q70 q649) (by decide +kernel) ⟨⟨Nat.le_of_ble_eq_true rfl, Nat.le_of_ble_eq_true rfl⟩, Nat.le_of_ble_eq_true rfl, Nat.le_of_ble_eq_true rfl⟩ (ps_rc X (ci := 2) rfl (hW.at hD.1)) hS hl.1 (As := []) (rest := [.int (nI i)]) (n := 0) rfl rfl (Nat.le_of_ble_eq_true rfl) dX0_clash_34 ?_
          refine ps_st (st' := [.int (nI (σ 3)), .int (nI i)]) rfl ?_
          refine ps_cge (tgt := 107) hx hb dX0_clash_37 (by decide) (by omega) (fun c_37 => ?_) (fun c_37 => ?_)
          · skip
            have ei : i = σ 3 := by omega
            refine lv_iload_n hx hb dX0_clash_107 rfl (lv_at hl 4 rfl) ?_
            refine ps_ifne (tgt := 115) hx hb dX0_clash_108 (by decide) (by omega) (fun c_108 => ?_) (fun c_108 => ?_)
            · skip
              refine lv_iload_n hx hb dX0_clash_115 rfl (lv_at hl 1 rfl) ?_
              exact ps_iretR X dX0_clash_116 (congrArg (fun z => some (Value.int z)) (by rw [ei]; simp [op_clash, cl_nf, cl_ff, h1, h1', c_14, cl_k, c_108]))
            · skip
              refine lv_iload_n hx hb dX0_clash_111 rfl (lv_at hl 2 rfl) ?_
              refine lv_goto (tgt := 116) hx hb dX0_clash_112 (by decide) ?_
              exact ps_iretR X dX0_clash_116 (congrArg (fun z => some (Value.int z)) (by subst c_108; rw [ei]; simp [op_clash, cl_nf, cl_ff, h1, h1', c_14, cl_k]))
          · skip
            have hcl := cl_nle (σ := σ) (i := i) (j := i + 1) (by omega) (by omega) (by omega)
            refine lv_iload hx hb dX0_clash_40 (lv_at hl 0 rfl) ?_
            refine lv_iconst (v := nI 1) hx hb dX0_clash_42 rfl ?_
            refine ps_iadd hx hb dX0_clash_43 ?_
            refine lv_istore (lv' := [(5, .int (nI (i + 1))), (4, .int (nI i)), (3, .int (optI (cl_f σ i (i + 1)))), (2, .int (nI (cl_n σ i (i + 1)))), (0, .ref (x)), (1, .int (nI k))]) hx hb dX0_clash_44 hl (by decide) rfl (fun ls hl => ?_)
            have L46 : ∀ (n : Nat) (j : Nat) (hj : i < j ∧ j ≤ σ 3) (hmu : σ 3 - j < n) (ls : Array Slot) (hl : lv_has ls 6 [(5, .int (nI j)), (4, .int (nI i)), (3, .int (optI (cl_f σ i j))), (2, .int (nI (cl_n σ i j))), (0, .ref (x)), (1, .int (nI k))]), W p l e ({ frames := 6, cells := 0, slots := 0, locals := 121 } : Room) s m args below meth c H [] 0 0 (MQ below (ps_ro (some (.int (op_clash σ (nI k))))) args s 0 0 (fun _ => False)) (F0 m 46 ls []) := by
              intro n
              induction n with
              | zero => intro j hj hmu; exact absurd hmu (Nat.not_lt_zero _)
              | succ n ih46 =>
                intro j hj hmu ls hl
                refine lv_iload hx hb dX0_clash_46 (lv_at hl 0 rfl) ?_
                refine lv_aload_n hx hb dX0_clash_48 rfl (lv_at hl 4 rfl) ?_
                refine ps_get (v := .ref (x + 11)) X in_X0 (ci := 0) rfl 4 (by decide) q216 rfl (hW.at hX) rfl dX0_clash_49 ?_
                refine ps_roV X hE (m_X2_many l hE hZ hW hD hO ) (lw_V q844 q647 q648 q70 q649) (by decide +kernel) ⟨⟨Nat.le_of_ble_eq_true rfl, Nat.le_of_ble_eq_true rfl⟩, Nat.le_of_ble_eq_true rfl, Nat.le_of_ble_eq_true rfl⟩ (ps_rc X (ci := 2) rfl (hW.at hD.1)) hS hl.1 (As := []) (rest := [.int (nI j)]) (n := 0) rfl rfl (Nat.le_of_ble_eq_true rfl) dX0_clash_52 ?_
                refine ps_st (st' := [.int (nI (σ 3)), .int (nI j)]) rfl ?_
                refine ps_cge (tgt := 101) hx hb dX0_clash_55 (by decide) (by omega) (fun c_55 => ?_) (fun c_55 => ?_)
                · skip
                  have ej : j = σ 3 := by omega
                  refine lv_iinc (v := nI (i + 1)) (lv' := [(4, .int (nI (i + 1))), (5, .int (nI j)), (3, .int (optI (cl_f σ i j))), (2, .int (nI (cl_n σ i j))), (0, .ref (x)), (1, .int (nI k))]) hx hb dX0_clash_101 hl (k := 1) rfl (ps_inc _) (by decide) rfl (fun ls hl => ?_)
                  refine lv_goto (tgt := 28) hx hb dX0_clash_104 (by decide) ?_
                  have e1 : (optI (cl_f σ i j) : Int32) = optI (cl_f σ (i + 1) (i + 1 + 1)) := by rw [ej, cl_fe]
                  have e2 : (nI (cl_n σ i j) : Int32) = nI (cl_n σ (i + 1) (i + 1 + 1)) := congrArg nI (by rw [ej]; exact cl_ne)
                  have hl : lv_has ls 6 [(4, .int (nI (i + 1))), (3, .int (optI (cl_f σ (i + 1) (i + 1 + 1)))), (2, .int (nI (cl_n σ (i + 1) (i + 1 + 1)))), (0, .ref (x)), (1, .int (nI k))] := ps_lv (l1 := [(4, .int (nI (i + 1))), (3, .int (optI (cl_f σ i j))), (2, .int (nI (cl_n σ i j))), (0, .ref (x)), (1, .int (nI k))]) (lv_sub hl [0, 2, 3, 4, 5] rfl) (by rw [e1, e2])
                  exact ih28  (i + 1) (by omega) (by omega) ls (hl)
                · skip
                  have hcl2 := cl_nle (σ := σ) (i := i) (j := j) (by omega) (by omega) (by omega)
                  refine lv_aload_n hx hb dX0_clash_58 rfl (lv_at hl 4 rfl) ?_
                  refine ps_get (v := .ref (x + 11)) X in_X0 (ci := 0) rfl 4 (by decide) q216 rfl (hW.at hX) rfl dX0_clash_59 ?_
                  refine lv_iload hx hb dX0_clash_62 (lv_at hl 1 rfl) ?_
                  refine lv_iload hx hb dX0_clash_64 (lv_at hl 0 rfl) ?_
                  refine ps_roV X hE (m_X2_isClash l hE hZ hW hD hO (k := i) (j := j) (by omega) (by omega)) (lw_V q983 q984 q985 q70 q986) (by decide +kernel) ⟨⟨Nat.le_of_ble_eq_true rfl, Nat.le_of_ble_eq_true rfl⟩, Nat.le_of_ble_eq_true rfl, Nat.le_of_ble_eq_true rfl⟩ (ps_rc X (ci := 2) rfl (hW.at hD.1)) hS hl.1 (As := [.int (nI i), .int (nI j)]) (rest := []) (n := 2) rfl rfl (Nat.le_of_ble_eq_true rfl) dX0_clash_66 ?_
                  refine ps_st (st' := [.int (bI (sp_clash σ i j))]) rfl ?_
                  refine ps_ifneB (tgt := 75) hx hb dX0_clash_69 (by decide) (fun c_69 => ?_) (fun c_69 => ?_)
                  · skip
                    have J91 : W p l e ({ frames := 6, cells := 0, slots := 0, locals := 121 } : Room) s m args below meth c H [] 0 0 (MQ below (ps_ro (some (.int (op_clash σ (nI k))))) args s 0 0 (fun _ => False)) (F0 m 91 ls [.int (optI (cl_f σ i (j + 1)))]) := by
                      refine lv_istore_n (lv' := [(3, .int (optI (cl_f σ i (j + 1)))), (5, .int (nI j)), (4, .int (nI i)), (2, .int (nI (cl_n σ i j))), (0, .ref (x)), (1, .int (nI k))]) hx hb dX0_clash_91 rfl hl (by decide) rfl (fun ls hl => ?_)
                      refine lv_iinc (v := nI (cl_n σ i j + 1)) (lv' := [(2, .int (nI (cl_n σ i j + 1))), (3, .int (optI (cl_f σ i (j + 1)))), (5, .int (nI j)), (4, .int (nI i)), (0, .ref (x)), (1, .int (nI k))]) hx hb dX0_clash_92 hl (k := 3) rfl (ps_inc _) (by decide) rfl (fun ls hl => ?_)
                      refine lv_iinc (v := nI (j + 1)) (lv' := [(5, .int (nI (j + 1))), (2, .int (nI (cl_n σ i j + 1))), (3, .int (optI (cl_f σ i (j + 1)))), (4, .int (nI i)), (0, .ref (x)), (1, .int (nI k))]) hx hb dX0_clash_95 hl (k := 2) rfl (ps_inc _) (by decide) rfl (fun ls hl => ?_)
                      refine lv_goto (tgt := 46) hx hb dX0_clash_98 (by decide) ?_
                      have e3 : (nI (cl_n σ i j + 1) : Int32) = nI (cl_n σ i (j + 1)) := congrArg nI (cl_n1 (by omega) c_69)
                      have hl : lv_has ls 6 [(5, .int (nI (j + 1))), (4, .int (nI i)), (3, .int (optI (cl_f σ i (j + 1)))), (2, .int (nI (cl_n σ i (j + 1)))), (0, .ref (x)), (1, .int (nI k))] := ps_lv (l1 := [(5, .int (nI (j + 1))), (4, .int (nI i)), (3, .int (optI (cl_f σ i (j + 1)))), (2, .int (nI (cl_n σ i j + 1))), (0, .ref (x)), (1, .int (nI k))]) (lv_sub hl [0, 3, 2, 1, 4, 5] rfl) (by rw [e3])
                      exact ih46  (j + 1) (by omega) (by omega) ls (hl)
                    refine lv_iload_n hx hb dX0_clash_75 rfl (lv_at hl 3 rfl) ?_
                    refine ps_ifne (tgt := 90) hx hb dX0_clash_76 (by decide) (by omega) (fun c_76 => ?_) (fun c_76 => ?_)
                    · skip
                      refine lv_iload_n hx hb dX0_clash_90 rfl (lv_at hl 2 rfl) ?_
                      exact ps_top (by rw [cl_f2 (by omega) c_76]) J91
                    · skip
                      refine lv_bipush (v := nI 8) hx hb dX0_clash_79 rfl ?_
                      refine lv_iload hx hb dX0_clash_81 (lv_at hl 1 rfl) ?_
                      refine ps_imul hx hb dX0_clash_83 ?_
                      refine lv_iload hx hb dX0_clash_84 (lv_at hl 0 rfl) ?_
                      refine ps_iadd hx hb dX0_clash_86 ?_
                      refine lv_goto (tgt := 91) hx hb dX0_clash_87 (by decide) ?_
                      exact ps_top (by rw [cl_f1 (by omega) c_69 c_76]; rfl) J91
                  · skip
                    refine lv_goto (tgt := 95) hx hb dX0_clash_72 (by decide) ?_
                    refine lv_iinc (v := nI (j + 1)) (lv' := [(5, .int (nI (j + 1))), (4, .int (nI i)), (3, .int (optI (cl_f σ i j))), (2, .int (nI (cl_n σ i j))), (0, .ref (x)), (1, .int (nI k))]) hx hb dX0_clash_95 hl (k := 0) rfl (ps_inc _) (by decide) rfl (fun ls hl => ?_)
                    refine lv_goto (tgt := 46) hx hb dX0_clash_98 (by decide) ?_
                    have e4 : (optI (cl_f σ i j) : Int32) = optI (cl_f σ i (j + 1)) := by rw [cl_f3 (by omega) c_69]
                    have e5 : (nI (cl_n σ i j) : Int32) = nI (cl_n σ i (j + 1)) := congrArg nI (cl_n3 (by omega) c_69)
                    have hl : lv_has ls 6 [(5, .int (nI (j + 1))), (4, .int (nI i)), (3, .int (optI (cl_f σ i (j + 1)))), (2, .int (nI (cl_n σ i (j + 1)))), (0, .ref (x)), (1, .int (nI k))] := ps_lv (l1 := [(5, .int (nI (j + 1))), (4, .int (nI i)), (3, .int (optI (cl_f σ i j))), (2, .int (nI (cl_n σ i j))), (0, .ref (x)), (1, .int (nI k))]) (lv_sub hl [0, 1, 2, 3, 4, 5] rfl) (by rw [e4, e5])
                    exact ih46  (j + 1) (by omega) (by omega) ls (hl)
            exact L46 ((σ 3 - (i + 1)) + 1) (i + 1) (by omega) (Nat.lt_succ_self _) ls (lv_sub hl [0, 1, 2, 3, 4, 5] rfl)
      have hl : lv_has ls 6 [(4, .int (nI 0)), (3, .int (optI (cl_f σ 0 (0 + 1)))), (2, .int (nI (cl_n σ 0 (0 + 1)))), (0, .ref (x)), (1, .int (nI k))] := lv_sub hl [0, 1, 2, 3, 4] rfl
      exact L28 ((σ 3 - 0) + 1) 0 (by omega) (Nat.lt_succ_self _) ls (hl)
    · skip
      refine lv_ldc (v := -1000001) hx hb ho (hts _ q344) dX0_clash_17 ?_
      exact ps_iretR X dX0_clash_19 (congrArg (fun z => some (Value.int z)) (by simp [op_clash, h1, h1', c_14]))
  · skip
    have h1 : ¬ 1 ≤ σ 1 := of_decide_eq_false c_4
    have h1' : σ 1 = 0 := by omega
    refine lv_ldc (v := -1000002) hx hb ho (hts _ q867) dX0_clash_7 ?_
    exact ps_iretR X dX0_clash_9 (congrArg (fun z => some (Value.int z)) (by simp [op_clash, h1']))

set_option maxHeartbeats 4000000 in
theorem m_X0_isBag (l : Launch) {E : ps_E} (hE : ps_ZT E) {z : Nat} (hZ : ps_Zk E z) {Γ : ps_Gh} {H : Heap} (hW : ps_W E Γ H) {x tr : Nat} {N : Nat → Nat} (hX : Γ x = some (ps_xo x tr N)) {σ : Nat → Nat} {smc : Int32} {sr : Nat} {pf : Nat → Nat} {kf tf : Nat → Int32} {df : Nat → Option Nat} (hD : ps_Sd E z Γ (x + 11) σ smc sr pf kf tf df) (hO : sp_ok σ) {u : Nat} (hu : u < 2 ^ σ 3) : ps_Ro l E yX0_isBag cX0_isBag 4 (some .boolean) 6 121 [.ref (x), .int (nI u)] H (some (.int (bI (sp_bag σ u)))) := by
  refine ps_Ro.of (by decide) (Nat.le_of_ble_eq_true rfl) ?_
  intro p e s m args below meth c X ls hl
  have hx := X.1
  have hb := X.2.1
  have ho := X.2.2.2.1
  have hts := X.2.2.2.2.1
  have hS : va_S (ps_A E) s.heap H [] := by rw [X.2.2.2.2.2.2.2.2.1]; exact va_S.rf
  have hl : lv_has ls 4 [(0, .ref (x)), (1, .int (nI u))] := hl
  have hm := hO.m
  have hp8 := ps_p2 (k := σ 3) (by omega)
  refine lv_iload_n hx hb dX0_isBag_0 rfl (lv_at hl 1 rfl) ?_
  refine lv_aload_n hx hb dX0_isBag_1 rfl (lv_at hl 0 rfl) ?_
  refine ps_get (v := .ref (x + 11)) X in_X0 (ci := 0) rfl 4 (by decide) q216 rfl (hW.at hX) rfl dX0_isBag_2 ?_
  refine ps_roV X hE (m_X2_open l hE hZ hW hD hO ) (lw_V q996 q997 q998 q70 q999) (by decide +kernel) ⟨⟨Nat.le_of_ble_eq_true rfl, Nat.le_of_ble_eq_true rfl⟩, Nat.le_of_ble_eq_true rfl, Nat.le_of_ble_eq_true rfl⟩ (ps_rc X (ci := 2) rfl (hW.at hD.1)) hS hl.1 (As := []) (rest := [.int (nI u)]) (n := 0) rfl rfl (Nat.le_of_ble_eq_true rfl) dX0_isBag_5 ?_
  refine ps_st (st' := [.int (nI (orR (fun p => sp_open σ p) (σ 3))), .int (nI u)]) rfl ?_
  refine lv_iconst (v := (-1)) hx hb dX0_isBag_8 rfl ?_
  refine lv_ixor hx hb dX0_isBag_9 ?_
  refine ps_top (y := nI ((orR (fun p => sp_open σ p) (σ 3)) ^^^ 4294967295)) (nI_xm1 _) ?_
  refine lv_iand hx hb dX0_isBag_10 ?_
  refine ps_top (y := nI (u &&& ((orR (fun p => sp_open σ p) (σ 3)) ^^^ 4294967295))) (nI_and _ _) ?_
  have hux : u &&& (orR (fun p => sp_open σ p) (σ 3) ^^^ 4294967295) ≤ u := Nat.and_le_left
  refine ps_ifeq (tgt := 16) hx hb dX0_isBag_11 (by decide) (by omega) (fun c_11 => ?_) (fun c_11 => ?_)
  · skip
    have hop := bg_open (u := u) (by omega) c_11
    refine lv_iconst (v := nI 0) hx hb dX0_isBag_16 rfl ?_
    refine lv_istore_n (lv' := [(2, .int (nI 0)), (0, .ref (x)), (1, .int (nI u))]) hx hb dX0_isBag_17 rfl hl (by decide) rfl (fun ls hl => ?_)
    have L18 : ∀ (n : Nat) (i : Nat) (hi : i ≤ σ 3) (hbc : bg_c σ u i (i + 1) = true) (hmu : σ 3 - i < n) (ls : Array Slot) (hl : lv_has ls 4 [(2, .int (nI i)), (0, .ref (x)), (1, .int (nI u))]), W p l e ({ frames := 6, cells := 0, slots := 0, locals := 121 } : Room) s m args below meth c H [] 0 0 (MQ below (ps_ro (some (.int (bI (sp_bag σ u))))) args s 0 0 (fun _ => False)) (F0 m 18 ls []) := by
      intro n
      induction n with
      | zero => intro i hi hbc hmu; exact absurd hmu (Nat.not_lt_zero _)
      | succ n ih18 =>
        intro i hi hbc hmu ls hl
        refine lv_iload_n hx hb dX0_isBag_18 rfl (lv_at hl 0 rfl) ?_
        refine lv_aload_n hx hb dX0_isBag_19 rfl (lv_at hl 1 rfl) ?_
        refine ps_get (v := .ref (x + 11)) X in_X0 (ci := 0) rfl 4 (by decide) q216 rfl (hW.at hX) rfl dX0_isBag_20 ?_
        refine ps_roV X hE (m_X2_many l hE hZ hW hD hO ) (lw_V q844 q647 q648 q70 q649) (by decide +kernel) ⟨⟨Nat.le_of_ble_eq_true rfl, Nat.le_of_ble_eq_true rfl⟩, Nat.le_of_ble_eq_true rfl, Nat.le_of_ble_eq_true rfl⟩ (ps_rc X (ci := 2) rfl (hW.at hD.1)) hS hl.1 (As := []) (rest := [.int (nI i)]) (n := 0) rfl rfl (Nat.le_of_ble_eq_true rfl) dX0_isBag_23 ?_
        refine ps_st (st' := [.int (nI (σ 3)), .int (nI i)]) rfl ?_
        refine ps_cge (tgt := 86) hx hb dX0_isBag_26 (by decide) (by omega) (fun c_26 => ?_) (fun c_26 => ?_)
        · skip
          have ei : i = σ 3 := by omega
          subst ei
          refine lv_iconst (v := nI 1) hx hb dX0_isBag_86 rfl ?_
          exact ps_zretR (b := sp_bag σ u) X dX0_isBag_87 ((bI_is1 (by exact bg_t hop hbc))) rfl
        · skip
          refine lv_iload_n hx hb dX0_isBag_29 rfl (lv_at hl 0 rfl) ?_
          refine lv_iconst (v := nI 1) hx hb dX0_isBag_30 rfl ?_
          refine ps_iadd hx hb dX0_isBag_31 ?_
          refine lv_istore_n (lv' := [(3, .int (nI (i + 1))), (2, .int (nI i)), (0, .ref (x)), (1, .int (nI u))]) hx hb dX0_isBag_32 rfl hl (by decide) rfl (fun ls hl => ?_)
          have L33 : ∀ (n : Nat) (j : Nat) (hj : i < j ∧ j ≤ σ 3) (hbj : bg_c σ u i j = true) (hmu : σ 3 - j < n) (ls : Array Slot) (hl : lv_has ls 4 [(3, .int (nI j)), (2, .int (nI i)), (0, .ref (x)), (1, .int (nI u))]), W p l e ({ frames := 6, cells := 0, slots := 0, locals := 121 } : Room) s m args below meth c H [] 0 0 (MQ below (ps_ro (some (.int (bI (sp_bag σ u))))) args s 0 0 (fun _ => False)) (F0 m 33 ls []) := by
            intro n
            induction n with
            | zero => intro j hj hbj hmu; exact absurd hmu (Nat.not_lt_zero _)
            | succ n ih33 =>
              intro j hj hbj hmu ls hl
              refine lv_iload_n hx hb dX0_isBag_33 rfl (lv_at hl 0 rfl) ?_
              refine lv_aload_n hx hb dX0_isBag_34 rfl (lv_at hl 2 rfl) ?_
              refine ps_get (v := .ref (x + 11)) X in_X0 (ci := 0) rfl 4 (by decide) q216 rfl (hW.at hX) rfl dX0_isBag_35 ?_
              refine ps_roV X hE (m_X2_many l hE hZ hW hD hO ) (lw_V q844 q647 q648 q70 q649) (by decide +kernel) ⟨⟨Nat.le_of_ble_eq_true rfl, Nat.le_of_ble_eq_true rfl⟩, Nat.le_of_ble_eq_true rfl, Nat.le_of_ble_eq_true rfl⟩ (ps_rc X (ci := 2) rfl (hW.at hD.1)) hS hl.1 (As := []) (rest := [.int (nI j)]) (n := 0) rfl rfl (Nat.le_of_ble_eq_true rfl) dX0_isBag_38 ?_
              refine ps_st (st' := [.int (nI (σ 3)), .int (nI j)]) rfl ?_
              refine ps_cge (tgt := 80) hx hb dX0_isBag_41 (by decide) (by omega) (fun c_41 => ?_) (fun c_41 => ?_)
              · skip
                have ej : j = σ 3 := by omega
                refine lv_iinc (v := nI (i + 1)) (lv' := [(2, .int (nI (i + 1))), (3, .int (nI j)), (0, .ref (x)), (1, .int (nI u))]) hx hb dX0_isBag_80 hl (k := 1) rfl (ps_inc _) (by decide) rfl (fun ls hl => ?_)
                refine lv_goto (tgt := 18) hx hb dX0_isBag_83 (by decide) ?_
                exact ih18  (i + 1) (by omega) (bg_e (by rw [← ej]; exact hbj)) (by omega) ls (lv_sub hl [0, 2, 3] rfl)
              · skip
                refine lv_iload_n hx hb dX0_isBag_44 rfl (lv_at hl 3 rfl) ?_
                refine lv_iload_n hx hb dX0_isBag_45 rfl (lv_at hl 1 rfl) ?_
                refine ps_roS X hE (m_X0_has l hE (H := H) (u := u) (k := i) (by omega) (by omega)) (lw_S q864 q865 q68 q866) (by decide +kernel) ⟨⟨Nat.le_of_ble_eq_true rfl, Nat.le_of_ble_eq_true rfl⟩, Nat.le_of_ble_eq_true rfl, Nat.le_of_ble_eq_true rfl⟩ hS hl.1 (As := [.int (nI u), .int (nI i)]) (rest := []) (n := 2) rfl rfl (Nat.le_of_ble_eq_true rfl) dX0_isBag_46 ?_
                refine ps_st (st' := [.int (bI (Nat.testBit u i))]) rfl ?_
                refine ps_ifeqB (tgt := 74) hx hb dX0_isBag_49 (by decide) (fun c_49 => ?_) (fun c_49 => ?_)
                · skip
                  refine lv_iinc (v := nI (j + 1)) (lv' := [(3, .int (nI (j + 1))), (2, .int (nI i)), (0, .ref (x)), (1, .int (nI u))]) hx hb dX0_isBag_74 hl (k := 0) rfl (ps_inc _) (by decide) rfl (fun ls hl => ?_)
                  refine lv_goto (tgt := 33) hx hb dX0_isBag_77 (by decide) ?_
                  exact ih33  (j + 1) (by omega) (bg_s (by omega) hbj (fun h => by rw [c_49] at h; exact absurd h.1 (by decide))) (by omega) ls (lv_sub hl [0, 1, 2, 3] rfl)
                · skip
                  refine lv_iload_n hx hb dX0_isBag_52 rfl (lv_at hl 3 rfl) ?_
                  refine lv_iload_n hx hb dX0_isBag_53 rfl (lv_at hl 0 rfl) ?_
                  refine ps_roS X hE (m_X0_has l hE (H := H) (u := u) (k := j) (by omega) (by omega)) (lw_S q864 q865 q68 q866) (by decide +kernel) ⟨⟨Nat.le_of_ble_eq_true rfl, Nat.le_of_ble_eq_true rfl⟩, Nat.le_of_ble_eq_true rfl, Nat.le_of_ble_eq_true rfl⟩ hS hl.1 (As := [.int (nI u), .int (nI j)]) (rest := []) (n := 2) rfl rfl (Nat.le_of_ble_eq_true rfl) dX0_isBag_54 ?_
                  refine ps_st (st' := [.int (bI (Nat.testBit u j))]) rfl ?_
                  refine ps_ifeqB (tgt := 74) hx hb dX0_isBag_57 (by decide) (fun c_57 => ?_) (fun c_57 => ?_)
                  · skip
                    refine lv_iinc (v := nI (j + 1)) (lv' := [(3, .int (nI (j + 1))), (2, .int (nI i)), (0, .ref (x)), (1, .int (nI u))]) hx hb dX0_isBag_74 hl (k := 0) rfl (ps_inc _) (by decide) rfl (fun ls hl => ?_)
                    refine lv_goto (tgt := 33) hx hb dX0_isBag_77 (by decide) ?_
                    exact ih33  (j + 1) (by omega) (bg_s (by omega) hbj (fun h => by rw [c_57] at h; exact absurd h.2.1 (by decide))) (by omega) ls (lv_sub hl [0, 1, 2, 3] rfl)
                  · skip
                    refine lv_aload_n hx hb dX0_isBag_60 rfl (lv_at hl 2 rfl) ?_
                    refine ps_get (v := .ref (x + 11)) X in_X0 (ci := 0) rfl 4 (by decide) q216 rfl (hW.at hX) rfl dX0_isBag_61 ?_
                    refine lv_iload_n hx hb dX0_isBag_64 rfl (lv_at hl 1 rfl) ?_
                    refine lv_iload_n hx hb dX0_isBag_65 rfl (lv_at hl 0 rfl) ?_
                    refine ps_roV X hE (m_X2_isClash l hE hZ hW hD hO (k := i) (j := j) (by omega) (by omega)) (lw_V q983 q984 q985 q70 q986) (by decide +kernel) ⟨⟨Nat.le_of_ble_eq_true rfl, Nat.le_of_ble_eq_true rfl⟩, Nat.le_of_ble_eq_true rfl, Nat.le_of_ble_eq_true rfl⟩ (ps_rc X (ci := 2) rfl (hW.at hD.1)) hS hl.1 (As := [.int (nI i), .int (nI j)]) (rest := []) (n := 2) rfl rfl (Nat.le_of_ble_eq_true rfl) dX0_isBag_66 ?_
                    refine ps_st (st' := [.int (bI (sp_clash σ i j))]) rfl ?_
                    refine ps_ifeqB (tgt := 74) hx hb dX0_isBag_69 (by decide) (fun c_69 => ?_) (fun c_69 => ?_)
                    · skip
                      refine lv_iinc (v := nI (j + 1)) (lv' := [(3, .int (nI (j + 1))), (2, .int (nI i)), (0, .ref (x)), (1, .int (nI u))]) hx hb dX0_isBag_74 hl (k := 0) rfl (ps_inc _) (by decide) rfl (fun ls hl => ?_)
                      refine lv_goto (tgt := 33) hx hb dX0_isBag_77 (by decide) ?_
                      exact ih33  (j + 1) (by omega) (bg_s (by omega) hbj (fun h => by rw [c_69] at h; exact absurd h.2.2 (by decide))) (by omega) ls (lv_sub hl [0, 1, 2, 3] rfl)
                    · skip
                      refine lv_iconst (v := nI 0) hx hb dX0_isBag_72 rfl ?_
                      exact ps_zretR (b := sp_bag σ u) X dX0_isBag_73 ((bI_is0 (by exact bg_f (by omega) (by omega) c_49 c_57 c_69))) rfl
          exact L33 ((σ 3 - (i + 1)) + 1) (i + 1) (by omega) hbc (Nat.lt_succ_self _) ls (lv_sub hl [0, 1, 2, 3] rfl)
    exact L18 ((σ 3 - 0) + 1) 0 (by omega) bg_0 (Nat.lt_succ_self _) ls (lv_sub hl [0, 1, 2] rfl)
  · skip
    refine lv_iconst (v := nI 0) hx hb dX0_isBag_14 rfl ?_
    exact ps_zretR (b := sp_bag σ u) X dX0_isBag_15 ((bI_is0 (by exact bg_f0 (by omega) hu c_11))) rfl

set_option maxHeartbeats 4000000 in
theorem m_X0_bags (l : Launch) {E : ps_E} (hE : ps_ZT E) {z : Nat} (hZ : ps_Zk E z) {Γ : ps_Gh} {H : Heap} (hW : ps_W E Γ H) {x tr : Nat} {N : Nat → Nat} (hX : Γ x = some (ps_xo x tr N)) {σ : Nat → Nat} {smc : Int32} {sr : Nat} {pf : Nat → Nat} {kf tf : Nat → Int32} {df : Nat → Option Nat} (hD : ps_Sd E z Γ (x + 11) σ smc sr pf kf tf df) (hO : sp_ok σ) {v y : Int32} : ps_Ro l E yX0_bags cX0_bags 6 (some .int) 23 685 [.ref (x), .int (v), .int (y)] H (some (.int (op_bags σ v y))) := by
  refine ps_Ro.of (by decide) (Nat.le_of_ble_eq_true rfl) ?_
  intro p e s m args below meth c X ls hl
  have hx := X.1
  have hb := X.2.1
  have ho := X.2.2.2.1
  have hts := X.2.2.2.2.1
  have hS : va_S (ps_A E) s.heap H [] := by rw [X.2.2.2.2.2.2.2.2.1]; exact va_S.rf
  have hl : lv_has ls 6 [(0, .ref (x)), (1, .int (v)), (2, .int (y))] := hl
  have hm := hO.m
  refine lv_aload_n hx hb dX0_bags_0 rfl (lv_at hl 0 rfl) ?_
  refine ps_roV X hE (m_X0_isThere l hE hZ hW hX hD hO ) (lw_V q935 q937 qs20 q68 q938) (by decide +kernel) ⟨⟨Nat.le_of_ble_eq_true rfl, Nat.le_of_ble_eq_true rfl⟩, Nat.le_of_ble_eq_true rfl, Nat.le_of_ble_eq_true rfl⟩ (ps_rc X (ci := 0) rfl (hW.at hX)) hS hl.1 (As := []) (rest := []) (n := 0) rfl rfl (Nat.le_of_ble_eq_true rfl) dX0_bags_1 ?_
  refine ps_st (st' := [.int (bI (decide (1 ≤ σ 1)))]) rfl ?_
  refine ps_ifneB (tgt := 10) hx hb dX0_bags_4 (by decide) (fun c_4 => ?_) (fun c_4 => ?_)
  · skip
    have h1 : 1 ≤ σ 1 := of_decide_eq_true c_4
    have h1' : ¬ σ 1 = 0 := by omega
    refine lv_iload_n hx hb dX0_bags_10 rfl (lv_at hl 1 rfl) ?_
    refine lv_i2l (v := (v).toInt64) hx hb dX0_bags_11 rfl ?_
    refine lv_lconst (v := lN 0) hx hb dX0_bags_12 rfl ?_
    refine lv_ldc2 (v := 200) hx hb ho (hts _ q991) dX0_bags_13 ?_
    refine ps_roS X hE (m_X0_isIn l hE (H := H) (x := v) (lo := 0) (hi := 201) (lN_toInt (by decide)) (ps_hcL (k := 200) (by decide +kernel))) (lw_S q340 q341 q68 q342) (by decide +kernel) ⟨⟨Nat.le_of_ble_eq_true rfl, Nat.le_of_ble_eq_true rfl⟩, Nat.le_of_ble_eq_true rfl, Nat.le_of_ble_eq_true rfl⟩ hS hl.1 (As := [.long ((v).toInt64), .long (lN 0), .long (200)]) (rest := []) (n := 3) rfl rfl (Nat.le_of_ble_eq_true rfl) dX0_bags_16 ?_
    refine ps_st (st' := [.int (bI (rng v 0 201))]) rfl ?_
    refine ps_ifeqB (tgt := 29) hx hb dX0_bags_19 (by decide) (fun c_19 => ?_) (fun c_19 => ?_)
    · skip
      refine lv_ldc (v := -1000001) hx hb ho (hts _ q344) dX0_bags_29 ?_
      exact ps_iretR X dX0_bags_31 (congrArg (fun z => some (Value.int z)) (by simp [op_bags, h1, h1', c_19]))
    · skip
      obtain ⟨k, rfl, k_lo, k_hi, k_b⟩ := rng_t c_19
      have cl_k : (nI k).toNatClampNeg = k := nI_clamp (by omega)
      refine lv_iload_n hx hb dX0_bags_22 rfl (lv_at hl 2 rfl) ?_
      refine ps_roS X hE (m_X0_isHalf l hE (H := H) (x := y)) (lw_S q857 q858 q68 q859) (by decide +kernel) ⟨⟨Nat.le_of_ble_eq_true rfl, Nat.le_of_ble_eq_true rfl⟩, Nat.le_of_ble_eq_true rfl, Nat.le_of_ble_eq_true rfl⟩ hS hl.1 (As := [.int (y)]) (rest := []) (n := 1) rfl rfl (Nat.le_of_ble_eq_true rfl) dX0_bags_23 ?_
      refine ps_st (st' := [.int (bI (rng y 0 2))]) rfl ?_
      refine ps_ifneB (tgt := 32) hx hb dX0_bags_26 (by decide) (fun c_26 => ?_) (fun c_26 => ?_)
      · skip
        obtain ⟨j, rfl, j_lo, j_hi, j_b⟩ := rng_t c_26
        have cl_j : (nI j).toNatClampNeg = j := nI_clamp (by omega)
        have h2 := ps_p2 (k := σ 3) (by omega)
        refine lv_iconst (v := nI 0) hx hb dX0_bags_32 rfl ?_
        refine lv_istore_n (lv' := [(3, .int (nI 0)), (0, .ref (x)), (1, .int (nI k)), (2, .int (nI j))]) hx hb dX0_bags_33 rfl hl (by decide) rfl (fun ls hl => ?_)
        refine lv_ldc (v := -1000000) hx hb ho (hts _ q982) dX0_bags_34 ?_
        refine lv_istore (lv' := [(4, .int ((-1000000))), (3, .int (nI 0)), (0, .ref (x)), (1, .int (nI k)), (2, .int (nI j))]) hx hb dX0_bags_36 hl (by decide) rfl (fun ls hl => ?_)
        refine lv_iconst (v := nI 0) hx hb dX0_bags_38 rfl ?_
        refine lv_istore (lv' := [(5, .int (nI 0)), (4, .int ((-1000000))), (3, .int (nI 0)), (0, .ref (x)), (1, .int (nI k)), (2, .int (nI j))]) hx hb dX0_bags_39 hl (by decide) rfl (fun ls hl => ?_)
        have L41 : ∀ (n : Nat) (u : Nat) (hu : u ≤ 2 ^ σ 3) (hmu : 2 ^ σ 3 - u < n) (ls : Array Slot) (hl : lv_has ls 6 [(5, .int (nI u)), (4, .int (optI (sp_bagB σ k u))), (3, .int (nI (sp_bagN σ k u))), (0, .ref (x)), (1, .int (nI k)), (2, .int (nI j))]), W p l e ({ frames := 23, cells := 0, slots := 0, locals := 685 } : Room) s m args below meth c H [] 0 0 (MQ below (ps_ro (some (.int (op_bags σ (nI k) (nI j))))) args s 0 0 (fun _ => False)) (F0 m 41 ls []) := by
          intro n
          induction n with
          | zero => intro u hu hmu; exact absurd hmu (Nat.not_lt_zero _)
          | succ n ih41 =>
            intro u hu hmu ls hl
            refine lv_iload hx hb dX0_bags_41 (lv_at hl 0 rfl) ?_
            refine lv_aload_n hx hb dX0_bags_43 rfl (lv_at hl 3 rfl) ?_
            refine ps_get (v := .ref (x + 11)) X in_X0 (ci := 0) rfl 4 (by decide) q216 rfl (hW.at hX) rfl dX0_bags_44 ?_
            refine ps_roV X hE (m_X2_all l hE hZ hW hD hO ) (lw_V q974 q975 q976 q70 q977) (by decide +kernel) ⟨⟨Nat.le_of_ble_eq_true rfl, Nat.le_of_ble_eq_true rfl⟩, Nat.le_of_ble_eq_true rfl, Nat.le_of_ble_eq_true rfl⟩ (ps_rc X (ci := 2) rfl (hW.at hD.1)) hS hl.1 (As := []) (rest := [.int (nI u)]) (n := 0) rfl rfl (Nat.le_of_ble_eq_true rfl) dX0_bags_47 ?_
            refine ps_st (st' := [.int (nI (2 ^ σ 3 - 1)), .int (nI u)]) rfl ?_
            refine ps_cgt (tgt := 116) hx hb dX0_bags_50 (by decide) (by omega) (fun c_50 => ?_) (fun c_50 => ?_)
            · skip
              have eu : u = 2 ^ σ 3 := by omega
              refine lv_iload_n hx hb dX0_bags_116 rfl (lv_at hl 5 rfl) ?_
              refine ps_ifne (tgt := 124) hx hb dX0_bags_117 (by decide) (by omega) (fun c_117 => ?_) (fun c_117 => ?_)
              · skip
                refine lv_iload hx hb dX0_bags_124 (lv_at hl 1 rfl) ?_
                exact ps_iretR X dX0_bags_126 (congrArg (fun z => some (Value.int z)) (by rw [eu]; simp [op_bags, h1, h1', c_19, cl_k, c_26, cl_j, c_50, c_117]))
              · skip
                refine lv_iload_n hx hb dX0_bags_120 rfl (lv_at hl 2 rfl) ?_
                refine lv_goto (tgt := 126) hx hb dX0_bags_121 (by decide) ?_
                exact ps_iretR X dX0_bags_126 (congrArg (fun z => some (Value.int z)) (by subst c_117; rw [eu]; simp [op_bags, h1, h1', c_19, cl_k, c_26, cl_j, c_50]))
            · skip
              have hr := sp_read_le hO (set := u)
              have ho1 := sp_ones_le u (by omega)
              refine lv_aload_n hx hb dX0_bags_53 rfl (lv_at hl 3 rfl) ?_
              refine ps_get (v := .ref (x + 11)) X in_X0 (ci := 0) rfl 4 (by decide) q216 rfl (hW.at hX) rfl dX0_bags_54 ?_
              refine lv_iload hx hb dX0_bags_57 (lv_at hl 0 rfl) ?_
              refine ps_roV X hE (m_X2_reads l hE hZ hW hD hO (u := u) (by omega) h1) (lw_V q872 q873 q874 q70 q875) (by decide +kernel) ⟨⟨Nat.le_of_ble_eq_true rfl, Nat.le_of_ble_eq_true rfl⟩, Nat.le_of_ble_eq_true rfl, Nat.le_of_ble_eq_true rfl⟩ (ps_rc X (ci := 2) rfl (hW.at hD.1)) hS hl.1 (As := [.int (nI u)]) (rest := []) (n := 1) rfl rfl (Nat.le_of_ble_eq_true rfl) dX0_bags_59 ?_
              refine ps_st (st' := [.int (nI (sp_read σ u))]) rfl ?_
              refine lv_iload_n hx hb dX0_bags_62 rfl (lv_at hl 4 rfl) ?_
              refine ps_cne (tgt := 110) hx hb dX0_bags_63 (by decide) (by omega) (fun c_63 => ?_) (fun c_63 => ?_)
              · skip
                have hH : sp_hit σ k u = false := by simp [sp_hit, c_63]
                refine lv_iinc (v := nI (u + 1)) (lv' := [(5, .int (nI (u + 1))), (4, .int (optI (sp_bagB σ k u))), (3, .int (nI (sp_bagN σ k u))), (0, .ref (x)), (1, .int (nI k)), (2, .int (nI j))]) hx hb dX0_bags_110 hl (k := 0) rfl (ps_inc _) (by decide) rfl (fun ls hl => ?_)
                refine lv_goto (tgt := 41) hx hb dX0_bags_113 (by decide) ?_
                have e1 : (optI (sp_bagB σ k u) : Int32) = optI (sp_bagB σ k (u + 1)) := by rw [sp_bagB, if_neg (by rw [hH]; decide)]
                have e2 : (nI (sp_bagN σ k u) : Int32) = nI (sp_bagN σ k (u + 1)) := congrArg nI (by simp [sp_bagN, sumR, hH])
                have hl : lv_has ls 6 [(5, .int (nI (u + 1))), (4, .int (optI (sp_bagB σ k (u + 1)))), (3, .int (nI (sp_bagN σ k (u + 1)))), (0, .ref (x)), (1, .int (nI k)), (2, .int (nI j))] := ps_lv (l1 := [(5, .int (nI (u + 1))), (4, .int (optI (sp_bagB σ k u))), (3, .int (nI (sp_bagN σ k u))), (0, .ref (x)), (1, .int (nI k)), (2, .int (nI j))]) (lv_sub hl [0, 1, 2, 3, 4, 5] rfl) (by rw [e1, e2])
                exact ih41  (u + 1) (by omega) (by omega) ls (hl)
              · skip
                refine lv_aload_n hx hb dX0_bags_66 rfl (lv_at hl 3 rfl) ?_
                refine lv_iload hx hb dX0_bags_67 (lv_at hl 0 rfl) ?_
                refine ps_roV X hE (m_X0_isBag l hE hZ hW hX hD hO (u := u) (by omega)) (lw_V q992 q994 qs23 q68 q995) (by decide +kernel) ⟨⟨Nat.le_of_ble_eq_true rfl, Nat.le_of_ble_eq_true rfl⟩, Nat.le_of_ble_eq_true rfl, Nat.le_of_ble_eq_true rfl⟩ (ps_rc X (ci := 0) rfl (hW.at hX)) hS hl.1 (As := [.int (nI u)]) (rest := []) (n := 1) rfl rfl (Nat.le_of_ble_eq_true rfl) dX0_bags_69 ?_
                refine ps_st (st' := [.int (bI (sp_bag σ u))]) rfl ?_
                refine ps_ifneB (tgt := 78) hx hb dX0_bags_72 (by decide) (fun c_72 => ?_) (fun c_72 => ?_)
                · skip
                  have hH : sp_hit σ k u = true := by simp [sp_hit, c_63, c_72]
                  have J105 : W p l e ({ frames := 23, cells := 0, slots := 0, locals := 685 } : Room) s m args below meth c H [] 0 0 (MQ below (ps_ro (some (.int (op_bags σ (nI k) (nI j))))) args s 0 0 (fun _ => False)) (F0 m 105 ls [.int (optI (sp_bagB σ k (u + 1)))]) := by
                    refine lv_istore (lv' := [(4, .int (optI (sp_bagB σ k (u + 1)))), (5, .int (nI u)), (3, .int (nI (sp_bagN σ k u))), (0, .ref (x)), (1, .int (nI k)), (2, .int (nI j))]) hx hb dX0_bags_105 hl (by decide) rfl (fun ls hl => ?_)
                    refine lv_iinc (v := nI (sp_bagN σ k u + 1)) (lv' := [(3, .int (nI (sp_bagN σ k u + 1))), (4, .int (optI (sp_bagB σ k (u + 1)))), (5, .int (nI u)), (0, .ref (x)), (1, .int (nI k)), (2, .int (nI j))]) hx hb dX0_bags_107 hl (k := 2) rfl (ps_inc _) (by decide) rfl (fun ls hl => ?_)
                    refine lv_iinc (v := nI (u + 1)) (lv' := [(5, .int (nI (u + 1))), (3, .int (nI (sp_bagN σ k u + 1))), (4, .int (optI (sp_bagB σ k (u + 1)))), (0, .ref (x)), (1, .int (nI k)), (2, .int (nI j))]) hx hb dX0_bags_110 hl (k := 2) rfl (ps_inc _) (by decide) rfl (fun ls hl => ?_)
                    refine lv_goto (tgt := 41) hx hb dX0_bags_113 (by decide) ?_
                    have e3 : (nI (sp_bagN σ k u + 1) : Int32) = nI (sp_bagN σ k (u + 1)) := congrArg nI (by simp [sp_bagN, sumR, hH])
                    have hl : lv_has ls 6 [(5, .int (nI (u + 1))), (4, .int (optI (sp_bagB σ k (u + 1)))), (3, .int (nI (sp_bagN σ k (u + 1)))), (0, .ref (x)), (1, .int (nI k)), (2, .int (nI j))] := ps_lv (l1 := [(5, .int (nI (u + 1))), (4, .int (optI (sp_bagB σ k (u + 1)))), (3, .int (nI (sp_bagN σ k u + 1))), (0, .ref (x)), (1, .int (nI k)), (2, .int (nI j))]) (lv_sub hl [0, 2, 1, 3, 4, 5] rfl) (by rw [e3])
                    exact ih41  (u + 1) (by omega) (by omega) ls (hl)
                  rcases hB : sp_bagB σ k u with _ | b
                  · skip
                    have hl : lv_has ls 6 [(5, .int (nI u)), (4, .int ((-1000000))), (3, .int (nI (sp_bagN σ k u))), (0, .ref (x)), (1, .int (nI k)), (2, .int (nI j))] := by rw [hB] at hl; exact hl
                    refine lv_iload hx hb dX0_bags_78 (lv_at hl 1 rfl) ?_
                    refine lv_ldc (v := -1000000) hx hb ho (hts _ q982) dX0_bags_80 ?_
                    refine lv_icmp_eq (tgt := 98) hx hb dX0_bags_82 (by decide) (fun c_82 => ?_) (fun c_82 => ?_)
                    · skip
                      refine lv_iload hx hb dX0_bags_98 (lv_at hl 0 rfl) ?_
                      refine lv_goto (tgt := 105) hx hb dX0_bags_100 (by decide) ?_
                      exact ps_top (by rw [sp_bagB, if_pos hH, hB]; rfl) J105
                    · skip
                      exact absurd rfl c_82
                  · skip
                    have hl : lv_has ls 6 [(5, .int (nI u)), (4, .int (nI b)), (3, .int (nI (sp_bagN σ k u))), (0, .ref (x)), (1, .int (nI k)), (2, .int (nI j))] := by rw [hB] at hl; exact hl
                    have hb0 := sp_bagB_lt hB
                    have hb1 := sp_ones_le b (by omega)
                    refine lv_iload hx hb dX0_bags_78 (lv_at hl 1 rfl) ?_
                    refine lv_ldc (v := -1000000) hx hb ho (hts _ q982) dX0_bags_80 ?_
                    refine lv_icmp_eq (tgt := 98) hx hb dX0_bags_82 (by decide) (fun c_82 => ?_) (fun c_82 => ?_)
                    · skip
                      exact absurd c_82 (fun q => by have h9 := (optI_eq (o := some b) (fun n hn => by cases hn; omega)).mp q; cases h9)
                    · skip
                      refine lv_iload hx hb dX0_bags_85 (lv_at hl 0 rfl) ?_
                      refine ps_roS X hE (m_J20_bitCount l hE (H := H) (u := u) (by omega)) (lw_S q1000 q1001 q102 q1002) (by decide +kernel) ⟨⟨Nat.le_of_ble_eq_true rfl, Nat.le_of_ble_eq_true rfl⟩, Nat.le_of_ble_eq_true rfl, Nat.le_of_ble_eq_true rfl⟩ hS hl.1 (As := [.int (nI u)]) (rest := []) (n := 1) rfl rfl (Nat.le_of_ble_eq_true rfl) dX0_bags_87 ?_
                      refine ps_st (st' := [.int (nI (sp_ones u))]) rfl ?_
                      refine lv_iload hx hb dX0_bags_90 (lv_at hl 1 rfl) ?_
                      refine ps_roS X hE (m_J20_bitCount l hE (H := H) (u := b) (by omega)) (lw_S q1000 q1001 q102 q1002) (by decide +kernel) ⟨⟨Nat.le_of_ble_eq_true rfl, Nat.le_of_ble_eq_true rfl⟩, Nat.le_of_ble_eq_true rfl, Nat.le_of_ble_eq_true rfl⟩ hS hl.1 (As := [.int (nI b)]) (rest := [.int (nI (sp_ones u))]) (n := 1) rfl rfl (Nat.le_of_ble_eq_true rfl) dX0_bags_92 ?_
                      refine ps_st (st' := [.int (nI (sp_ones b)), .int (nI (sp_ones u))]) rfl ?_
                      refine ps_cge (tgt := 103) hx hb dX0_bags_95 (by decide) (by omega) (fun c_95 => ?_) (fun c_95 => ?_)
                      · skip
                        refine lv_iload hx hb dX0_bags_103 (lv_at hl 1 rfl) ?_
                        exact ps_top (by rw [sp_bagB, if_pos hH, hB]; dsimp only; rw [if_neg (by omega)]; rfl) J105
                      · skip
                        refine lv_iload hx hb dX0_bags_98 (lv_at hl 0 rfl) ?_
                        refine lv_goto (tgt := 105) hx hb dX0_bags_100 (by decide) ?_
                        exact ps_top (by rw [sp_bagB, if_pos hH, hB]; dsimp only; rw [if_pos (by omega)]; rfl) J105
                · skip
                  have hH : sp_hit σ k u = false := by simp [sp_hit, c_72]
                  refine lv_goto (tgt := 110) hx hb dX0_bags_75 (by decide) ?_
                  refine lv_iinc (v := nI (u + 1)) (lv' := [(5, .int (nI (u + 1))), (4, .int (optI (sp_bagB σ k u))), (3, .int (nI (sp_bagN σ k u))), (0, .ref (x)), (1, .int (nI k)), (2, .int (nI j))]) hx hb dX0_bags_110 hl (k := 0) rfl (ps_inc _) (by decide) rfl (fun ls hl => ?_)
                  refine lv_goto (tgt := 41) hx hb dX0_bags_113 (by decide) ?_
                  have e4 : (optI (sp_bagB σ k u) : Int32) = optI (sp_bagB σ k (u + 1)) := by rw [sp_bagB, if_neg (by rw [hH]; decide)]
                  have e5 : (nI (sp_bagN σ k u) : Int32) = nI (sp_bagN σ k (u + 1)) := congrArg nI (by simp [sp_bagN, sumR, hH])
                  have hl : lv_has ls 6 [(5, .int (nI (u + 1))), (4, .int (optI (sp_bagB σ k (u + 1)))), (3, .int (nI (sp_bagN σ k (u + 1)))), (0, .ref (x)), (1, .int (nI k)), (2, .int (nI j))] := ps_lv (l1 := [(5, .int (nI (u + 1))), (4, .int (optI (sp_bagB σ k u))), (3, .int (nI (sp_bagN σ k u))), (0, .ref (x)), (1, .int (nI k)), (2, .int (nI j))]) (lv_sub hl [0, 1, 2, 3, 4, 5] rfl) (by rw [e4, e5])
                  exact ih41  (u + 1) (by omega) (by omega) ls (hl)
        have hl : lv_has ls 6 [(5, .int (nI 0)), (4, .int (optI (sp_bagB σ k 0))), (3, .int (nI (sp_bagN σ k 0))), (0, .ref (x)), (1, .int (nI k)), (2, .int (nI j))] := lv_sub hl [0, 1, 2, 3, 4, 5] rfl
        exact L41 ((2 ^ σ 3 - 0) + 1) 0 (Nat.zero_le _) (Nat.lt_succ_self _) ls (hl)
      · skip
        refine lv_ldc (v := -1000001) hx hb ho (hts _ q344) dX0_bags_29 ?_
        exact ps_iretR X dX0_bags_31 (congrArg (fun z => some (Value.int z)) (by simp [op_bags, h1, h1', c_19, cl_k, c_26]))
  · skip
    have h1 : ¬ 1 ≤ σ 1 := of_decide_eq_false c_4
    have h1' : σ 1 = 0 := by omega
    refine lv_ldc (v := -1000002) hx hb ho (hts _ q867) dX0_bags_7 ?_
    exact ps_iretR X dX0_bags_9 (congrArg (fun z => some (Value.int z)) (by simp [op_bags, h1']))

set_option maxHeartbeats 4000000 in
theorem m_X0_heaviest (l : Launch) {E : ps_E} (hE : ps_ZT E) {z : Nat} (hZ : ps_Zk E z) {Γ : ps_Gh} {H : Heap} (hW : ps_W E Γ H) {x tr : Nat} {N : Nat → Nat} (hX : Γ x = some (ps_xo x tr N)) {σ : Nat → Nat} {smc : Int32} {sr : Nat} {pf : Nat → Nat} {kf tf : Nat → Int32} {df : Nat → Option Nat} (hD : ps_Sd E z Γ (x + 11) σ smc sr pf kf tf df) (hO : sp_ok σ) {v y : Int32} : ps_Ro l E yX0_heaviest cX0_heaviest 6 (some .int) 23 685 [.ref (x), .int (v), .int (y)] H (some (.int (op_heaviest σ v y))) := by
  refine ps_Ro.of (by decide) (Nat.le_of_ble_eq_true rfl) ?_
  intro p e s m args below meth c X ls hl
  have hx := X.1
  have hb := X.2.1
  have ho := X.2.2.2.1
  have hts := X.2.2.2.2.1
  have hS : va_S (ps_A E) s.heap H [] := by rw [X.2.2.2.2.2.2.2.2.1]; exact va_S.rf
  have hl : lv_has ls 6 [(0, .ref (x)), (1, .int (v)), (2, .int (y))] := hl
  have hm := hO.m
  refine lv_aload_n hx hb dX0_heaviest_0 rfl (lv_at hl 0 rfl) ?_
  refine ps_roV X hE (m_X0_isThere l hE hZ hW hX hD hO ) (lw_V q935 q937 qs20 q68 q938) (by decide +kernel) ⟨⟨Nat.le_of_ble_eq_true rfl, Nat.le_of_ble_eq_true rfl⟩, Nat.le_of_ble_eq_true rfl, Nat.le_of_ble_eq_true rfl⟩ (ps_rc X (ci := 0) rfl (hW.at hX)) hS hl.1 (As := []) (rest := []) (n := 0) rfl rfl (Nat.le_of_ble_eq_true rfl) dX0_heaviest_1 ?_
  refine ps_st (st' := [.int (bI (decide (1 ≤ σ 1)))]) rfl ?_
  refine ps_ifneB (tgt := 10) hx hb dX0_heaviest_4 (by decide) (fun c_4 => ?_) (fun c_4 => ?_)
  · skip
    have h1 : 1 ≤ σ 1 := of_decide_eq_true c_4
    have h1' : ¬ σ 1 = 0 := by omega
    refine lv_iload_n hx hb dX0_heaviest_10 rfl (lv_at hl 1 rfl) ?_
    refine lv_i2l (v := (v).toInt64) hx hb dX0_heaviest_11 rfl ?_
    refine lv_lconst (v := lN 0) hx hb dX0_heaviest_12 rfl ?_
    refine lv_ldc2 (v := 8) hx hb ho (hts _ q1010) dX0_heaviest_13 ?_
    refine ps_roS X hE (m_X0_isIn l hE (H := H) (x := v) (lo := 0) (hi := 9) (lN_toInt (by decide)) (ps_hcL (k := 8) (by decide +kernel))) (lw_S q340 q341 q68 q342) (by decide +kernel) ⟨⟨Nat.le_of_ble_eq_true rfl, Nat.le_of_ble_eq_true rfl⟩, Nat.le_of_ble_eq_true rfl, Nat.le_of_ble_eq_true rfl⟩ hS hl.1 (As := [.long ((v).toInt64), .long (lN 0), .long (8)]) (rest := []) (n := 3) rfl rfl (Nat.le_of_ble_eq_true rfl) dX0_heaviest_16 ?_
    refine ps_st (st' := [.int (bI (rng v 0 9))]) rfl ?_
    refine ps_ifeqB (tgt := 29) hx hb dX0_heaviest_19 (by decide) (fun c_19 => ?_) (fun c_19 => ?_)
    · skip
      refine lv_ldc (v := -1000001) hx hb ho (hts _ q344) dX0_heaviest_29 ?_
      exact ps_iretR X dX0_heaviest_31 (congrArg (fun z => some (Value.int z)) (by simp [op_heaviest, h1, h1', c_19]))
    · skip
      obtain ⟨k, rfl, k_lo, k_hi, k_b⟩ := rng_t c_19
      have cl_k : (nI k).toNatClampNeg = k := nI_clamp (by omega)
      refine lv_iload_n hx hb dX0_heaviest_22 rfl (lv_at hl 2 rfl) ?_
      refine ps_roS X hE (m_X0_isHalf l hE (H := H) (x := y)) (lw_S q857 q858 q68 q859) (by decide +kernel) ⟨⟨Nat.le_of_ble_eq_true rfl, Nat.le_of_ble_eq_true rfl⟩, Nat.le_of_ble_eq_true rfl, Nat.le_of_ble_eq_true rfl⟩ hS hl.1 (As := [.int (y)]) (rest := []) (n := 1) rfl rfl (Nat.le_of_ble_eq_true rfl) dX0_heaviest_23 ?_
      refine ps_st (st' := [.int (bI (rng y 0 2))]) rfl ?_
      refine ps_ifneB (tgt := 32) hx hb dX0_heaviest_26 (by decide) (fun c_26 => ?_) (fun c_26 => ?_)
      · skip
        obtain ⟨j, rfl, j_lo, j_hi, j_b⟩ := rng_t c_26
        have cl_j : (nI j).toNatClampNeg = j := nI_clamp (by omega)
        have h2 := ps_p2 (k := σ 3) (by omega)
        refine lv_iconst (v := nI 0) hx hb dX0_heaviest_32 rfl ?_
        refine lv_istore_n (lv' := [(3, .int (nI 0)), (0, .ref (x)), (1, .int (nI k)), (2, .int (nI j))]) hx hb dX0_heaviest_33 rfl hl (by decide) rfl (fun ls hl => ?_)
        refine lv_iconst (v := nI 0) hx hb dX0_heaviest_34 rfl ?_
        refine lv_istore (lv' := [(4, .int (nI 0)), (3, .int (nI 0)), (0, .ref (x)), (1, .int (nI k)), (2, .int (nI j))]) hx hb dX0_heaviest_35 hl (by decide) rfl (fun ls hl => ?_)
        have L37 : ∀ (n : Nat) (u : Nat) (hu : u ≤ 2 ^ σ 3) (hvb : sp_hv σ k u ≤ u) (hmu : 2 ^ σ 3 - u < n) (ls : Array Slot) (hl : lv_has ls 6 [(4, .int (nI u)), (3, .int (nI (sp_hv σ k u))), (0, .ref (x)), (1, .int (nI k)), (2, .int (nI j))]), W p l e ({ frames := 23, cells := 0, slots := 0, locals := 685 } : Room) s m args below meth c H [] 0 0 (MQ below (ps_ro (some (.int (op_heaviest σ (nI k) (nI j))))) args s 0 0 (fun _ => False)) (F0 m 37 ls []) := by
          intro n
          induction n with
          | zero => intro u hu hvb hmu; exact absurd hmu (Nat.not_lt_zero _)
          | succ n ih37 =>
            intro u hu hvb hmu ls hl
            refine lv_iload hx hb dX0_heaviest_37 (lv_at hl 0 rfl) ?_
            refine lv_aload_n hx hb dX0_heaviest_39 rfl (lv_at hl 2 rfl) ?_
            refine ps_get (v := .ref (x + 11)) X in_X0 (ci := 0) rfl 4 (by decide) q216 rfl (hW.at hX) rfl dX0_heaviest_40 ?_
            refine ps_roV X hE (m_X2_all l hE hZ hW hD hO ) (lw_V q974 q975 q976 q70 q977) (by decide +kernel) ⟨⟨Nat.le_of_ble_eq_true rfl, Nat.le_of_ble_eq_true rfl⟩, Nat.le_of_ble_eq_true rfl, Nat.le_of_ble_eq_true rfl⟩ (ps_rc X (ci := 2) rfl (hW.at hD.1)) hS hl.1 (As := []) (rest := [.int (nI u)]) (n := 0) rfl rfl (Nat.le_of_ble_eq_true rfl) dX0_heaviest_43 ?_
            refine ps_st (st' := [.int (nI (2 ^ σ 3 - 1)), .int (nI u)]) rfl ?_
            refine ps_cgt (tgt := 112) hx hb dX0_heaviest_46 (by decide) (by omega) (fun c_46 => ?_) (fun c_46 => ?_)
            · skip
              have eu : u = 2 ^ σ 3 := by omega
              refine lv_iload_n hx hb dX0_heaviest_112 rfl (lv_at hl 4 rfl) ?_
              refine ps_ifne (tgt := 127) hx hb dX0_heaviest_113 (by decide) (by omega) (fun c_113 => ?_) (fun c_113 => ?_)
              · skip
                refine lv_iload_n hx hb dX0_heaviest_127 rfl (lv_at hl 1 rfl) ?_
                exact ps_iretR X dX0_heaviest_128 (congrArg (fun z => some (Value.int z)) (by rw [eu]; simp [op_heaviest, h1, h1', c_19, cl_k, c_26, cl_j, c_46, c_113]))
              · skip
                refine lv_aload_n hx hb dX0_heaviest_116 rfl (lv_at hl 2 rfl) ?_
                refine ps_get (v := .ref (x + 11)) X in_X0 (ci := 0) rfl 4 (by decide) q216 rfl (hW.at hX) rfl dX0_heaviest_117 ?_
                refine lv_iload_n hx hb dX0_heaviest_120 rfl (lv_at hl 1 rfl) ?_
                refine ps_roV X hE (m_X2_reads l hE hZ hW hD hO (u := sp_hv σ k u) (by omega) h1) (lw_V q872 q873 q874 q70 q875) (by decide +kernel) ⟨⟨Nat.le_of_ble_eq_true rfl, Nat.le_of_ble_eq_true rfl⟩, Nat.le_of_ble_eq_true rfl, Nat.le_of_ble_eq_true rfl⟩ (ps_rc X (ci := 2) rfl (hW.at hD.1)) hS hl.1 (As := [.int (nI (sp_hv σ k u))]) (rest := []) (n := 1) rfl rfl (Nat.le_of_ble_eq_true rfl) dX0_heaviest_121 ?_
                refine ps_st (st' := [.int (nI (sp_read σ (sp_hv σ k u)))]) rfl ?_
                refine lv_goto (tgt := 128) hx hb dX0_heaviest_124 (by decide) ?_
                exact ps_iretR X dX0_heaviest_128 (congrArg (fun z => some (Value.int z)) (by subst c_113; rw [eu]; simp [op_heaviest, h1, h1', c_19, cl_k, c_26, cl_j, c_46]))
            · skip
              have hr := sp_read_le hO (set := u)
              have hr2 := sp_read_le hO (set := sp_hv σ k u)
              have ho1 := sp_ones_le u (by omega)
              have J72 : W p l e ({ frames := 23, cells := 0, slots := 0, locals := 685 } : Room) s m args below meth c H [] 0 0 (MQ below (ps_ro (some (.int (op_heaviest σ (nI k) (nI j))))) args s 0 0 (fun _ => False)) (F0 m 72 ls [.int (bI (decide (sp_ones u ≤ k ∧ sp_bag σ u = true)))]) := by
                refine lv_istore (lv' := [(5, .int (bI (decide (sp_ones u ≤ k ∧ sp_bag σ u = true)))), (4, .int (nI u)), (3, .int (nI (sp_hv σ k u))), (0, .ref (x)), (1, .int (nI k)), (2, .int (nI j))]) hx hb dX0_heaviest_72 hl (by decide) rfl (fun ls hl => ?_)
                have J105 : W p l e ({ frames := 23, cells := 0, slots := 0, locals := 685 } : Room) s m args below meth c H [] 0 0 (MQ below (ps_ro (some (.int (op_heaviest σ (nI k) (nI j))))) args s 0 0 (fun _ => False)) (F0 m 105 ls [.int (nI (sp_hv σ k (u + 1)))]) := by
                  refine lv_istore_n (lv' := [(3, .int (nI (sp_hv σ k (u + 1)))), (5, .int (bI (decide (sp_ones u ≤ k ∧ sp_bag σ u = true)))), (4, .int (nI u)), (0, .ref (x)), (1, .int (nI k)), (2, .int (nI j))]) hx hb dX0_heaviest_105 rfl hl (by decide) rfl (fun ls hl => ?_)
                  refine lv_iinc (v := nI (u + 1)) (lv' := [(4, .int (nI (u + 1))), (3, .int (nI (sp_hv σ k (u + 1)))), (5, .int (bI (decide (sp_ones u ≤ k ∧ sp_bag σ u = true)))), (0, .ref (x)), (1, .int (nI k)), (2, .int (nI j))]) hx hb dX0_heaviest_106 hl (k := 2) rfl (ps_inc _) (by decide) rfl (fun ls hl => ?_)
                  refine lv_goto (tgt := 37) hx hb dX0_heaviest_109 (by decide) ?_
                  exact ih37  (u + 1) (by omega) (by rw [sp_hv]; split <;> omega) (by omega) ls (lv_sub hl [0, 1, 3, 4, 5] rfl)
                refine lv_iload hx hb dX0_heaviest_74 (lv_at hl 0 rfl) ?_
                refine ps_ifeqB (tgt := 104) hx hb dX0_heaviest_76 (by decide) (fun c_76 => ?_) (fun c_76 => ?_)
                · skip
                  have hmay := of_decide_eq_false c_76
                  refine lv_iload_n hx hb dX0_heaviest_104 rfl (lv_at hl 2 rfl) ?_
                  exact ps_top (congrArg nI (by rw [sp_hv, if_neg (fun h => hmay ⟨h.1, h.2.1⟩)])) J105
                · skip
                  have hmay := of_decide_eq_true c_76
                  refine lv_aload_n hx hb dX0_heaviest_79 rfl (lv_at hl 3 rfl) ?_
                  refine ps_get (v := .ref (x + 11)) X in_X0 (ci := 0) rfl 4 (by decide) q216 rfl (hW.at hX) rfl dX0_heaviest_80 ?_
                  refine lv_iload hx hb dX0_heaviest_83 (lv_at hl 1 rfl) ?_
                  refine ps_roV X hE (m_X2_reads l hE hZ hW hD hO (u := u) (by omega) h1) (lw_V q872 q873 q874 q70 q875) (by decide +kernel) ⟨⟨Nat.le_of_ble_eq_true rfl, Nat.le_of_ble_eq_true rfl⟩, Nat.le_of_ble_eq_true rfl, Nat.le_of_ble_eq_true rfl⟩ (ps_rc X (ci := 2) rfl (hW.at hD.1)) hS hl.1 (As := [.int (nI u)]) (rest := []) (n := 1) rfl rfl (Nat.le_of_ble_eq_true rfl) dX0_heaviest_85 ?_
                  refine ps_st (st' := [.int (nI (sp_read σ u))]) rfl ?_
                  refine lv_aload_n hx hb dX0_heaviest_88 rfl (lv_at hl 3 rfl) ?_
                  refine ps_get (v := .ref (x + 11)) X in_X0 (ci := 0) rfl 4 (by decide) q216 rfl (hW.at hX) rfl dX0_heaviest_89 ?_
                  refine lv_iload_n hx hb dX0_heaviest_92 rfl (lv_at hl 2 rfl) ?_
                  refine ps_roV X hE (m_X2_reads l hE hZ hW hD hO (u := sp_hv σ k u) (by omega) h1) (lw_V q872 q873 q874 q70 q875) (by decide +kernel) ⟨⟨Nat.le_of_ble_eq_true rfl, Nat.le_of_ble_eq_true rfl⟩, Nat.le_of_ble_eq_true rfl, Nat.le_of_ble_eq_true rfl⟩ (ps_rc X (ci := 2) rfl (hW.at hD.1)) hS hl.1 (As := [.int (nI (sp_hv σ k u))]) (rest := [.int (nI (sp_read σ u))]) (n := 1) rfl rfl (Nat.le_of_ble_eq_true rfl) dX0_heaviest_93 ?_
                  refine ps_st (st' := [.int (nI (sp_read σ (sp_hv σ k u))), .int (nI (sp_read σ u))]) rfl ?_
                  refine ps_cle (tgt := 104) hx hb dX0_heaviest_96 (by decide) (by omega) (fun c_96 => ?_) (fun c_96 => ?_)
                  · skip
                    refine lv_iload_n hx hb dX0_heaviest_104 rfl (lv_at hl 2 rfl) ?_
                    exact ps_top (congrArg nI (by rw [sp_hv, if_neg (fun h => by omega)])) J105
                  · skip
                    refine lv_iload hx hb dX0_heaviest_99 (lv_at hl 1 rfl) ?_
                    refine lv_goto (tgt := 105) hx hb dX0_heaviest_101 (by decide) ?_
                    exact ps_top (congrArg nI (by rw [sp_hv, if_pos ⟨hmay.1, hmay.2, by omega⟩])) J105
              refine lv_iload hx hb dX0_heaviest_49 (lv_at hl 0 rfl) ?_
              refine ps_roS X hE (m_J20_bitCount l hE (H := H) (u := u) (by omega)) (lw_S q1000 q1001 q102 q1002) (by decide +kernel) ⟨⟨Nat.le_of_ble_eq_true rfl, Nat.le_of_ble_eq_true rfl⟩, Nat.le_of_ble_eq_true rfl, Nat.le_of_ble_eq_true rfl⟩ hS hl.1 (As := [.int (nI u)]) (rest := []) (n := 1) rfl rfl (Nat.le_of_ble_eq_true rfl) dX0_heaviest_51 ?_
              refine ps_st (st' := [.int (nI (sp_ones u))]) rfl ?_
              refine lv_iload_n hx hb dX0_heaviest_54 rfl (lv_at hl 3 rfl) ?_
              refine ps_cgt (tgt := 71) hx hb dX0_heaviest_55 (by decide) (by omega) (fun c_55 => ?_) (fun c_55 => ?_)
              · skip
                refine lv_iconst (v := nI 0) hx hb dX0_heaviest_71 rfl ?_
                exact ps_top ((bI_is0 (decide_eq_false (fun h => by omega)))) J72
              · skip
                refine lv_aload_n hx hb dX0_heaviest_58 rfl (lv_at hl 2 rfl) ?_
                refine lv_iload hx hb dX0_heaviest_59 (lv_at hl 0 rfl) ?_
                refine ps_roV X hE (m_X0_isBag l hE hZ hW hX hD hO (u := u) (by omega)) (lw_V q992 q994 qs23 q68 q995) (by decide +kernel) ⟨⟨Nat.le_of_ble_eq_true rfl, Nat.le_of_ble_eq_true rfl⟩, Nat.le_of_ble_eq_true rfl, Nat.le_of_ble_eq_true rfl⟩ (ps_rc X (ci := 0) rfl (hW.at hX)) hS hl.1 (As := [.int (nI u)]) (rest := []) (n := 1) rfl rfl (Nat.le_of_ble_eq_true rfl) dX0_heaviest_61 ?_
                refine ps_st (st' := [.int (bI (sp_bag σ u))]) rfl ?_
                refine ps_ifeqB (tgt := 71) hx hb dX0_heaviest_64 (by decide) (fun c_64 => ?_) (fun c_64 => ?_)
                · skip
                  refine lv_iconst (v := nI 0) hx hb dX0_heaviest_71 rfl ?_
                  exact ps_top ((bI_is0 (decide_eq_false (fun h => by rw [c_64] at h; exact absurd h.2 (by decide))))) J72
                · skip
                  refine lv_iconst (v := nI 1) hx hb dX0_heaviest_67 rfl ?_
                  refine lv_goto (tgt := 72) hx hb dX0_heaviest_68 (by decide) ?_
                  exact ps_top ((bI_is1 (decide_eq_true ⟨by omega, c_64⟩))) J72
        have hl : lv_has ls 6 [(4, .int (nI 0)), (3, .int (nI (sp_hv σ k 0))), (0, .ref (x)), (1, .int (nI k)), (2, .int (nI j))] := lv_sub hl [0, 1, 2, 3, 4] rfl
        exact L37 ((2 ^ σ 3 - 0) + 1) 0 (Nat.zero_le _) (Nat.le_refl _) (Nat.lt_succ_self _) ls (hl)
      · skip
        refine lv_ldc (v := -1000001) hx hb ho (hts _ q344) dX0_heaviest_29 ?_
        exact ps_iretR X dX0_heaviest_31 (congrArg (fun z => some (Value.int z)) (by simp [op_heaviest, h1, h1', c_19, cl_k, c_26]))
  · skip
    have h1 : ¬ 1 ≤ σ 1 := of_decide_eq_false c_4
    have h1' : σ 1 = 0 := by omega
    refine lv_ldc (v := -1000002) hx hb ho (hts _ q867) dX0_heaviest_7 ?_
    exact ps_iretR X dX0_heaviest_9 (congrArg (fun z => some (Value.int z)) (by simp [op_heaviest, h1']))

set_option maxHeartbeats 4000000 in
theorem m_X0_common (l : Launch) {E : ps_E} (hE : ps_ZT E) {H : Heap} {u k : Nat} (hu : u < 1000000000) (hk : k < 1000000000) : ps_Ro l E yX0_common cX0_common 5 (some .int) 1 12 [.int (nI u), .int (nI k)] H (some (.int (nI (Nat.gcd u k)))) := by
  refine ps_Ro.of (by decide) (Nat.le_of_ble_eq_true rfl) ?_
  intro p e s m args below meth c X ls hl
  have hx := X.1
  have hb := X.2.1
  have ho := X.2.2.2.1
  have hts := X.2.2.2.2.1
  have hS : va_S (ps_A E) s.heap H [] := by rw [X.2.2.2.2.2.2.2.2.1]; exact va_S.rf
  have hl : lv_has ls 5 [(0, .int (nI u)), (1, .int (nI k))] := hl
  refine lv_iload_n hx hb dX0_common_0 rfl (lv_at hl 0 rfl) ?_
  refine lv_istore_n (lv' := [(2, .int (nI u)), (0, .int (nI u)), (1, .int (nI k))]) hx hb dX0_common_1 rfl hl (by decide) rfl (fun ls hl => ?_)
  refine lv_iload_n hx hb dX0_common_2 rfl (lv_at hl 2 rfl) ?_
  refine lv_istore_n (lv' := [(3, .int (nI k)), (2, .int (nI u)), (0, .int (nI u)), (1, .int (nI k))]) hx hb dX0_common_3 rfl hl (by decide) rfl (fun ls hl => ?_)
  have L4 : ∀ (n : Nat) (x1 y1 : Nat) (hb2 : x1 < 1000000000 ∧ y1 < 1000000000) (hg : Nat.gcd x1 y1 = Nat.gcd u k) (hmu : y1 < n) (ls : Array Slot) (hl : lv_has ls 5 [(3, .int (nI y1)), (2, .int (nI x1)), (0, .int (nI u)), (1, .int (nI k))]), W p l e ({ frames := 1, cells := 0, slots := 0, locals := 12 } : Room) s m args below meth c H [] 0 0 (MQ below (ps_ro (some (.int (nI (Nat.gcd u k))))) args s 0 0 (fun _ => False)) (F0 m 4 ls []) := by
    intro n
    induction n with
    | zero => intro x1 y1 hb2 hg hmu; exact absurd hmu (Nat.not_lt_zero _)
    | succ n ih4 =>
      intro x1 y1 hb2 hg hmu ls hl
      refine lv_iload_n hx hb dX0_common_4 rfl (lv_at hl 0 rfl) ?_
      refine ps_ifeq (tgt := 21) hx hb dX0_common_5 (by decide) (by omega) (fun c_5 => ?_) (fun c_5 => ?_)
      · skip
        refine lv_iload_n hx hb dX0_common_21 rfl (lv_at hl 1 rfl) ?_
        exact ps_iretR X dX0_common_22 (congrArg (fun z => some (Value.int z)) (congrArg nI (by rw [← hg, c_5, Nat.gcd_zero_right])))
      · skip
        have hmod := Nat.mod_lt x1 (show 0 < y1 by omega)
        refine lv_iload_n hx hb dX0_common_8 rfl (lv_at hl 1 rfl) ?_
        refine lv_iload_n hx hb dX0_common_9 rfl (lv_at hl 0 rfl) ?_
        refine ps_irem hx hb dX0_common_10 (by omega) ?_
        refine lv_istore (lv' := [(4, .int (nI (x1 % y1))), (3, .int (nI y1)), (2, .int (nI x1)), (0, .int (nI u)), (1, .int (nI k))]) hx hb dX0_common_11 hl (by decide) rfl (fun ls hl => ?_)
        refine lv_iload_n hx hb dX0_common_13 rfl (lv_at hl 1 rfl) ?_
        refine lv_istore_n (lv' := [(2, .int (nI y1)), (4, .int (nI (x1 % y1))), (3, .int (nI y1)), (0, .int (nI u)), (1, .int (nI k))]) hx hb dX0_common_14 rfl hl (by decide) rfl (fun ls hl => ?_)
        refine lv_iload hx hb dX0_common_15 (lv_at hl 1 rfl) ?_
        refine lv_istore_n (lv' := [(3, .int (nI (x1 % y1))), (2, .int (nI y1)), (4, .int (nI (x1 % y1))), (0, .int (nI u)), (1, .int (nI k))]) hx hb dX0_common_17 rfl hl (by decide) rfl (fun ls hl => ?_)
        refine lv_goto (tgt := 4) hx hb dX0_common_18 (by decide) ?_
        exact ih4  y1 (x1 % y1) (by omega) (by rw [← hg, Nat.gcd_comm x1 y1, Nat.gcd_rec y1 x1, Nat.gcd_comm]) (by omega) ls (lv_sub hl [0, 1, 3, 4] rfl)
  exact L4 ((k) + 1) u k (by omega) rfl (Nat.lt_succ_self _) ls (lv_sub hl [0, 1, 2, 3] rfl)

set_option maxHeartbeats 4000000 in
theorem m_X0_free (l : Launch) {E : ps_E} (hE : ps_ZT E) {H : Heap} {x : Nat} {v y w1 : Int32} : ps_Ro l E yX0_free cX0_free 7 (some .int) 3 57 [.ref (x), .int (v), .int (y), .int (w1)] H (some (.int (op_free v y w1))) := by
  refine ps_Ro.of (by decide) (Nat.le_of_ble_eq_true rfl) ?_
  intro p e s m args below meth c X ls hl
  have hx := X.1
  have hb := X.2.1
  have ho := X.2.2.2.1
  have hts := X.2.2.2.2.1
  have hS : va_S (ps_A E) s.heap H [] := by rw [X.2.2.2.2.2.2.2.2.1]; exact va_S.rf
  have hl : lv_has ls 7 [(0, .ref (x)), (1, .int (v)), (2, .int (y)), (3, .int (w1))] := hl
  refine lv_iload_n hx hb dX0_free_0 rfl (lv_at hl 1 rfl) ?_
  refine lv_i2l (v := (v).toInt64) hx hb dX0_free_1 rfl ?_
  refine lv_lconst (v := lN 0) hx hb dX0_free_2 rfl ?_
  refine lv_ldc2 (v := 10) hx hb ho (hts _ q1109) dX0_free_3 ?_
  refine ps_roS X hE (m_X0_isIn l hE (H := H) (x := v) (lo := 0) (hi := 11) (lN_toInt (by decide)) (ps_hcL (k := 10) (by decide +kernel))) (lw_S q340 q341 q68 q342) (by decide +kernel) ⟨⟨Nat.le_of_ble_eq_true rfl, Nat.le_of_ble_eq_true rfl⟩, Nat.le_of_ble_eq_true rfl, Nat.le_of_ble_eq_true rfl⟩ hS hl.1 (As := [.long ((v).toInt64), .long (lN 0), .long (10)]) (rest := []) (n := 3) rfl rfl (Nat.le_of_ble_eq_true rfl) dX0_free_6 ?_
  refine ps_st (st' := [.int (bI (rng v 0 11))]) rfl ?_
  refine ps_ifeqB (tgt := 31) hx hb dX0_free_9 (by decide) (fun c_9 => ?_) (fun c_9 => ?_)
  · skip
    refine lv_ldc (v := -1000001) hx hb ho (hts _ q344) dX0_free_31 ?_
    exact ps_iretR X dX0_free_33 (congrArg (fun z => some (Value.int z)) (by simp [op_free, c_9]))
  · skip
    obtain ⟨k, rfl, k_lo, k_hi, k_b⟩ := rng_t c_9
    have cl_k : (nI k).toNatClampNeg = k := nI_clamp (by omega)
    refine lv_iload_n hx hb dX0_free_12 rfl (lv_at hl 2 rfl) ?_
    refine lv_i2l (v := (y).toInt64) hx hb dX0_free_13 rfl ?_
    refine lv_lconst (v := lN 0) hx hb dX0_free_14 rfl ?_
    refine lv_ldc2 (v := 8) hx hb ho (hts _ q1010) dX0_free_15 ?_
    refine ps_roS X hE (m_X0_isIn l hE (H := H) (x := y) (lo := 0) (hi := 9) (lN_toInt (by decide)) (ps_hcL (k := 8) (by decide +kernel))) (lw_S q340 q341 q68 q342) (by decide +kernel) ⟨⟨Nat.le_of_ble_eq_true rfl, Nat.le_of_ble_eq_true rfl⟩, Nat.le_of_ble_eq_true rfl, Nat.le_of_ble_eq_true rfl⟩ hS hl.1 (As := [.long ((y).toInt64), .long (lN 0), .long (8)]) (rest := []) (n := 3) rfl rfl (Nat.le_of_ble_eq_true rfl) dX0_free_18 ?_
    refine ps_st (st' := [.int (bI (rng y 0 9))]) rfl ?_
    refine ps_ifeqB (tgt := 31) hx hb dX0_free_21 (by decide) (fun c_21 => ?_) (fun c_21 => ?_)
    · skip
      refine lv_ldc (v := -1000001) hx hb ho (hts _ q344) dX0_free_31 ?_
      exact ps_iretR X dX0_free_33 (congrArg (fun z => some (Value.int z)) (by simp [op_free, c_9, cl_k, c_21]))
    · skip
      obtain ⟨j, rfl, j_lo, j_hi, j_b⟩ := rng_t c_21
      have cl_j : (nI j).toNatClampNeg = j := nI_clamp (by omega)
      refine lv_iload_n hx hb dX0_free_24 rfl (lv_at hl 3 rfl) ?_
      refine ps_roS X hE (m_X0_isHalf l hE (H := H) (x := w1)) (lw_S q857 q858 q68 q859) (by decide +kernel) ⟨⟨Nat.le_of_ble_eq_true rfl, Nat.le_of_ble_eq_true rfl⟩, Nat.le_of_ble_eq_true rfl, Nat.le_of_ble_eq_true rfl⟩ hS hl.1 (As := [.int (w1)]) (rest := []) (n := 1) rfl rfl (Nat.le_of_ble_eq_true rfl) dX0_free_25 ?_
      refine ps_st (st' := [.int (bI (rng w1 0 2))]) rfl ?_
      refine ps_ifneB (tgt := 34) hx hb dX0_free_28 (by decide) (fun c_28 => ?_) (fun c_28 => ?_)
      · skip
        obtain ⟨t, rfl, t_lo, t_hi, t_b⟩ := rng_t c_28
        have cl_t : (nI t).toNatClampNeg = t := nI_clamp (by omega)
        refine lv_iconst (v := nI 1) hx hb dX0_free_34 rfl ?_
        refine lv_istore (lv' := [(4, .int (nI 1)), (0, .ref (x)), (1, .int (nI k)), (2, .int (nI j)), (3, .int (nI t))]) hx hb dX0_free_35 hl (by decide) rfl (fun ls hl => ?_)
        refine lv_iconst (v := nI 1) hx hb dX0_free_37 rfl ?_
        refine lv_istore (lv' := [(5, .int (nI 1)), (4, .int (nI 1)), (0, .ref (x)), (1, .int (nI k)), (2, .int (nI j)), (3, .int (nI t))]) hx hb dX0_free_38 hl (by decide) rfl (fun ls hl => ?_)
        refine lv_iconst (v := nI 0) hx hb dX0_free_40 rfl ?_
        refine lv_istore (lv' := [(6, .int (nI 0)), (5, .int (nI 1)), (4, .int (nI 1)), (0, .ref (x)), (1, .int (nI k)), (2, .int (nI j)), (3, .int (nI t))]) hx hb dX0_free_41 hl (by decide) rfl (fun ls hl => ?_)
        have L43 : ∀ (n : Nat) (i : Nat) (hi : i ≤ j) (hmu : j - i < n) (ls : Array Slot) (hl : lv_has ls 7 [(6, .int (nI i)), (5, .int (nI (k ^ i))), (4, .int (nI (10 ^ i))), (0, .ref (x)), (1, .int (nI k)), (2, .int (nI j)), (3, .int (nI t))]), W p l e ({ frames := 3, cells := 0, slots := 0, locals := 57 } : Room) s m args below meth c H [] 0 0 (MQ below (ps_ro (some (.int (op_free (nI k) (nI j) (nI t))))) args s 0 0 (fun _ => False)) (F0 m 43 ls []) := by
          intro n
          induction n with
          | zero => intro i hi hmu; exact absurd hmu (Nat.not_lt_zero _)
          | succ n ih43 =>
            intro i hi hmu ls hl
            refine lv_iload hx hb dX0_free_43 (lv_at hl 0 rfl) ?_
            refine lv_iload_n hx hb dX0_free_45 rfl (lv_at hl 5 rfl) ?_
            refine ps_cge (tgt := 68) hx hb dX0_free_46 (by decide) (by omega) (fun c_46 => ?_) (fun c_46 => ?_)
            · skip
              have ei : i = j := by omega
              have hpos : 0 < 10 ^ i := Nat.pow_pos (by decide)
              have hp1 := ps_p10 (show i ≤ 8 by omega) (show k ≤ 10 by omega)
              have hgp : 0 < Nat.gcd (10 ^ i - k ^ i) (10 ^ i) := Nat.gcd_pos_of_pos_right _ hpos
              have hgl : Nat.gcd (10 ^ i - k ^ i) (10 ^ i) ≤ 10 ^ i := Nat.gcd_le_right _ hpos
              refine lv_iload hx hb dX0_free_68 (lv_at hl 2 rfl) ?_
              refine lv_iload hx hb dX0_free_70 (lv_at hl 1 rfl) ?_
              refine ps_isub hx hb dX0_free_72 (by omega) ?_
              refine lv_iload hx hb dX0_free_73 (lv_at hl 2 rfl) ?_
              refine ps_roS X hE (m_X0_common l hE (H := H) (u := (10 ^ i) - (k ^ i)) (k := 10 ^ i) (by omega) (by omega)) (lw_S q1110 q1111 q68 q1112) (by decide +kernel) ⟨⟨Nat.le_of_ble_eq_true rfl, Nat.le_of_ble_eq_true rfl⟩, Nat.le_of_ble_eq_true rfl, Nat.le_of_ble_eq_true rfl⟩ hS hl.1 (As := [.int (nI ((10 ^ i) - (k ^ i))), .int (nI (10 ^ i))]) (rest := []) (n := 2) rfl rfl (Nat.le_of_ble_eq_true rfl) dX0_free_75 ?_
              refine ps_st (st' := [.int (nI (Nat.gcd ((10 ^ i) - (k ^ i)) (10 ^ i)))]) rfl ?_
              refine lv_istore (lv' := [(6, .int (nI (Nat.gcd ((10 ^ i) - (k ^ i)) (10 ^ i)))), (5, .int (nI (k ^ i))), (4, .int (nI (10 ^ i))), (0, .ref (x)), (1, .int (nI k)), (2, .int (nI j)), (3, .int (nI t))]) hx hb dX0_free_78 hl (by decide) rfl (fun ls hl => ?_)
              refine lv_iload_n hx hb dX0_free_80 rfl (lv_at hl 6 rfl) ?_
              refine ps_ifne (tgt := 92) hx hb dX0_free_81 (by decide) (by omega) (fun c_81 => ?_) (fun c_81 => ?_)
              · skip
                refine lv_iload hx hb dX0_free_92 (lv_at hl 2 rfl) ?_
                refine lv_iload hx hb dX0_free_94 (lv_at hl 0 rfl) ?_
                refine ps_idiv hx hb dX0_free_96 (by omega) ?_
                exact ps_iretR X dX0_free_97 (congrArg (fun z => some (Value.int z)) (by rw [ei]; simp [op_free, c_9, cl_k, c_21, cl_j, c_28, cl_t, c_46, c_81]))
              · skip
                refine lv_iload hx hb dX0_free_84 (lv_at hl 2 rfl) ?_
                refine lv_iload hx hb dX0_free_86 (lv_at hl 1 rfl) ?_
                refine ps_isub hx hb dX0_free_88 (by omega) ?_
                refine lv_goto (tgt := 94) hx hb dX0_free_89 (by decide) ?_
                refine lv_iload hx hb dX0_free_94 (lv_at hl 0 rfl) ?_
                refine ps_idiv hx hb dX0_free_96 (by omega) ?_
                exact ps_iretR X dX0_free_97 (congrArg (fun z => some (Value.int z)) (by subst c_81; rw [ei]; simp [op_free, c_9, cl_k, c_21, cl_j, c_28, cl_t, c_46]))
            · skip
              have hp1 := ps_p10 (show i + 1 ≤ 8 by omega) (show k ≤ 10 by omega)
              refine lv_iload hx hb dX0_free_49 (lv_at hl 2 rfl) ?_
              refine lv_bipush (v := nI 10) hx hb dX0_free_51 rfl ?_
              refine ps_imul hx hb dX0_free_53 ?_
              refine lv_istore (lv' := [(4, .int (nI ((10 ^ i) * 10))), (6, .int (nI i)), (5, .int (nI (k ^ i))), (0, .ref (x)), (1, .int (nI k)), (2, .int (nI j)), (3, .int (nI t))]) hx hb dX0_free_54 hl (by decide) rfl (fun ls hl => ?_)
              refine lv_iload hx hb dX0_free_56 (lv_at hl 2 rfl) ?_
              refine lv_iload_n hx hb dX0_free_58 rfl (lv_at hl 4 rfl) ?_
              refine ps_imul hx hb dX0_free_59 ?_
              refine lv_istore (lv' := [(5, .int (nI ((k ^ i) * k))), (4, .int (nI ((10 ^ i) * 10))), (6, .int (nI i)), (0, .ref (x)), (1, .int (nI k)), (2, .int (nI j)), (3, .int (nI t))]) hx hb dX0_free_60 hl (by decide) rfl (fun ls hl => ?_)
              refine lv_iinc (v := nI (i + 1)) (lv' := [(6, .int (nI (i + 1))), (5, .int (nI ((k ^ i) * k))), (4, .int (nI ((10 ^ i) * 10))), (0, .ref (x)), (1, .int (nI k)), (2, .int (nI j)), (3, .int (nI t))]) hx hb dX0_free_62 hl (k := 2) rfl (ps_inc _) (by decide) rfl (fun ls hl => ?_)
              refine lv_goto (tgt := 43) hx hb dX0_free_65 (by decide) ?_
              have hl : lv_has ls 7 [(6, .int (nI (i + 1))), (5, .int (nI (k ^ (i + 1)))), (4, .int (nI (10 ^ (i + 1)))), (0, .ref (x)), (1, .int (nI k)), (2, .int (nI j)), (3, .int (nI t))] := lv_sub hl [0, 1, 2, 3, 4, 5, 6] rfl
              exact ih43  (i + 1) (by omega) (by omega) ls (hl)
        have hl : lv_has ls 7 [(6, .int (nI 0)), (5, .int (nI (k ^ 0))), (4, .int (nI (10 ^ 0))), (0, .ref (x)), (1, .int (nI k)), (2, .int (nI j)), (3, .int (nI t))] := lv_sub hl [0, 1, 2, 3, 4, 5, 6] rfl
        exact L43 ((j - 0) + 1) 0 (by omega) (Nat.lt_succ_self _) ls (hl)
      · skip
        refine lv_ldc (v := -1000001) hx hb ho (hts _ q344) dX0_free_31 ?_
        exact ps_iretR X dX0_free_33 (congrArg (fun z => some (Value.int z)) (by simp [op_free, c_9, cl_k, c_21, cl_j, c_28]))

set_option maxHeartbeats 4000000 in
theorem m_X0_fault (l : Launch) {E : ps_E} (hE : ps_ZT E) {z : Nat} (hZ : ps_Zk E z) {Γ : ps_Gh} {H : Heap} (hW : ps_W E Γ H) {x tr : Nat} {N : Nat → Nat} (hX : Γ x = some (ps_xo x tr N)) : ps_Ro l E yX0_fault cX0_fault 1 (some .int) 1 12 [.ref (x)] H (some (.int (nI (N 1)))) := by
  refine ps_Ro.of (by decide) (Nat.le_of_ble_eq_true rfl) ?_
  intro p e s m args below meth c X ls hl
  have hx := X.1
  have hb := X.2.1
  have ho := X.2.2.2.1
  have hts := X.2.2.2.2.1
  have hS : va_S (ps_A E) s.heap H [] := by rw [X.2.2.2.2.2.2.2.2.1]; exact va_S.rf
  have hl : lv_has ls 1 [(0, .ref (x))] := hl
  refine lv_aload_n hx hb dX0_fault_0 rfl (lv_at hl 0 rfl) ?_
  refine ps_get (v := .int (nI (N 1))) X in_X0 (ci := 0) rfl 3 (by decide) q214 rfl (hW.at hX) rfl dX0_fault_1 ?_
  exact ps_iretR X dX0_fault_4 (congrArg (fun z => some (Value.int z)) (rfl))

set_option maxHeartbeats 4000000 in
theorem m_X0_status (l : Launch) {E : ps_E} (hE : ps_ZT E) {z : Nat} (hZ : ps_Zk E z) {Γ : ps_Gh} {H : Heap} (hW : ps_W E Γ H) {x tr : Nat} {N : Nat → Nat} (hX : Γ x = some (ps_xo x tr N)) : ps_Ro l E yX0_status cX0_status 1 (some .int) 1 12 [.ref (x)] H (some (.int (nI (N 0)))) := by
  refine ps_Ro.of (by decide) (Nat.le_of_ble_eq_true rfl) ?_
  intro p e s m args below meth c X ls hl
  have hx := X.1
  have hb := X.2.1
  have ho := X.2.2.2.1
  have hts := X.2.2.2.2.1
  have hS : va_S (ps_A E) s.heap H [] := by rw [X.2.2.2.2.2.2.2.2.1]; exact va_S.rf
  have hl : lv_has ls 1 [(0, .ref (x))] := hl
  refine lv_aload_n hx hb dX0_status_0 rfl (lv_at hl 0 rfl) ?_
  refine ps_get (v := .int (nI (N 0))) X in_X0 (ci := 0) rfl 10 (by decide) q222 rfl (hW.at hX) rfl dX0_status_1 ?_
  exact ps_iretR X dX0_status_4 (congrArg (fun z => some (Value.int z)) (rfl))

set_option maxHeartbeats 4000000 in
theorem m_X0_trace (l : Launch) {E : ps_E} (hE : ps_ZT E) {z : Nat} (hZ : ps_Zk E z) {Γ : ps_Gh} {H : Heap} (hW : ps_W E Γ H) {x tr : Nat} {N : Nat → Nat} (hX : Γ x = some (ps_xo x tr N)) {n : Nat} {L : Nat → Nat} {ow : ps_Ow} (hTr : ps_Tr E Γ ow tr n L) (hn : n ≤ 16) {v : Int32} : ps_Ro l E yX0_trace cX0_trace 2 (some .int) 2 37 [.ref (x), .int (v)] H (some (.int (if rng v 0 n = true then nI (L v.toNatClampNeg) else (-1000000)))) := by
  refine ps_Ro.of (by decide) (Nat.le_of_ble_eq_true rfl) ?_
  intro p e s m args below meth c X ls hl
  have hx := X.1
  have hb := X.2.1
  have ho := X.2.2.2.1
  have hts := X.2.2.2.2.1
  have hS : va_S (ps_A E) s.heap H [] := by rw [X.2.2.2.2.2.2.2.2.1]; exact va_S.rf
  have hl : lv_has ls 2 [(0, .ref (x)), (1, .int (v))] := hl
  obtain ⟨bf, hbf, hbv⟩ := hTr.2.2
  refine lv_iload_n hx hb dX0_trace_0 rfl (lv_at hl 1 rfl) ?_
  refine lv_i2l (v := (v).toInt64) hx hb dX0_trace_1 rfl ?_
  refine lv_lconst (v := lN 0) hx hb dX0_trace_2 rfl ?_
  refine lv_aload_n hx hb dX0_trace_3 rfl (lv_at hl 0 rfl) ?_
  refine ps_get (v := .ref (tr)) X in_X0 (ci := 0) rfl 9 (by decide) q221 rfl (hW.at hX) rfl dX0_trace_4 ?_
  refine ps_getN (v := .int (nI n)) X hZ in_X3 (ci := 3) rfl 1 (by decide) q205 rfl (hW.at hTr.1.1) rfl dX0_trace_7 ?_
  refine lv_iconst (v := nI 1) hx hb dX0_trace_10 rfl ?_
  refine lv_isub hx hb dX0_trace_11 ?_
  refine ps_top (y := nI n - nI 1) (rfl) ?_
  refine lv_i2l (v := (nI n - nI 1).toInt64) hx hb dX0_trace_12 rfl ?_
  refine ps_roS X hE (m_X0_isIn l hE (H := H) (x := v) (lo := 0) (hi := n) (lN_toInt (by decide)) (ps_hcP (by omega))) (lw_S q340 q341 q68 q342) (by decide +kernel) ⟨⟨Nat.le_of_ble_eq_true rfl, Nat.le_of_ble_eq_true rfl⟩, Nat.le_of_ble_eq_true rfl, Nat.le_of_ble_eq_true rfl⟩ hS hl.1 (As := [.long ((v).toInt64), .long (lN 0), .long ((nI n - nI 1).toInt64)]) (rest := []) (n := 3) rfl rfl (Nat.le_of_ble_eq_true rfl) dX0_trace_13 ?_
  refine ps_st (st' := [.int (bI (rng v 0 n))]) rfl ?_
  refine ps_ifeqB (tgt := 31) hx hb dX0_trace_16 (by decide) (fun c_16 => ?_) (fun c_16 => ?_)
  · skip
    refine lv_ldc (v := -1000000) hx hb ho (hts _ q982) dX0_trace_31 ?_
    exact ps_iretR X dX0_trace_33 (congrArg (fun z => some (Value.int z)) (by simp [c_16]))
  · skip
    obtain ⟨k, rfl, k_lo, k_hi, k_b⟩ := rng_t c_16
    have cl_k : (nI k).toNatClampNeg = k := nI_clamp (by omega)
    refine lv_aload_n hx hb dX0_trace_19 rfl (lv_at hl 0 rfl) ?_
    refine ps_get (v := .ref (tr)) X in_X0 (ci := 0) rfl 9 (by decide) q221 rfl (hW.at hX) rfl dX0_trace_20 ?_
    refine ps_getN (v := .ref (tr + 1)) X hZ in_X3 (ci := 3) rfl 0 (by decide) q203 rfl (hW.at hTr.1.1) rfl dX0_trace_23 ?_
    refine lv_iload_n hx hb dX0_trace_26 rfl (lv_at hl 1 rfl) ?_
    refine ps_iald (j := k) X (hW.at hbf) rfl (by omega) (by first | decide | omega) dX0_trace_27 ?_
    refine ps_top (y := nI (L k)) (hbv _ (by omega)) ?_
    refine lv_goto (tgt := 33) hx hb dX0_trace_28 (by decide) ?_
    exact ps_iretR X dX0_trace_33 (congrArg (fun z => some (Value.int z)) (by simp [c_16, cl_k]))

set_option maxHeartbeats 4000000 in
theorem m_X0_count (l : Launch) {E : ps_E} (hE : ps_ZT E) {z : Nat} (hZ : ps_Zk E z) {Γ : ps_Gh} {H : Heap} (hW : ps_W E Γ H) {x tr : Nat} {S : SS} (hX : Γ x = some (ps_xo x tr S.1)) {smc : Int32} {sr : Nat} {pf : Nat → Nat} {kf tf : Nat → Int32} {df : Nat → Option Nat} (hD : ps_Sd E z Γ (x + 11) (S.2.1 0) smc sr pf kf tf df) (hO : sp_ok (S.2.1 0)) {ow : ps_Ow} {hr : Nat → Nat} (hRx : ps_Rx E Γ ow x hr (S.2.1 3) (S.2.1 4) S.2.2) {v : Int32} : ps_Ro l E yX0_count cX0_count 4 (some .int) 23 685 [.ref (x), .int (v)] H (some (.int (op_count S v))) := by
  refine ps_Ro.of (by decide) (Nat.le_of_ble_eq_true rfl) ?_
  intro p e s m args below meth c X ls hl
  have hx := X.1
  have hb := X.2.1
  have ho := X.2.2.2.1
  have hts := X.2.2.2.2.1
  have hS : va_S (ps_A E) s.heap H [] := by rw [X.2.2.2.2.2.2.2.2.1]; exact va_S.rf
  have hl : lv_has ls 4 [(0, .ref (x)), (1, .int (v))] := hl
  have hm := hO.m
  obtain ⟨dr, hrows, -, hdf⟩ := hRx.1
  refine lv_iconst (v := nI 0) hx hb dX0_count_0 rfl ?_
  refine lv_istore_n (lv' := [(2, .int (nI 0)), (0, .ref (x)), (1, .int (v))]) hx hb dX0_count_1 rfl hl (by decide) rfl (fun ls hl => ?_)
  refine lv_iload_n hx hb dX0_count_2 rfl (lv_at hl 2 rfl) ?_
  rcases Bool.eq_false_or_eq_true (rng v 0 9) with c_3 | c_3
  · skip
    obtain ⟨j1, rfl, j1_lo, j1_hi, j1_b⟩ := rng_t c_3
    have cl_j1 : (nI j1).toNatClampNeg = j1 := nI_clamp (by omega)
    by_cases e_0 : j1 = 0
    · subst e_0
      refine lv_tableIn (off := 49) (tgt := 52) hx hb dX0_count_3 (by decide) (by decide) (by decide) (by decide) ?_
      refine lv_iconst (v := nI 0) hx hb dX0_count_52 rfl ?_
      refine lv_istore_n (lv' := [(3, .int (nI 0)), (2, .int (nI 0)), (0, .ref (x)), (1, .int (nI 0))]) hx hb dX0_count_53 rfl hl (by decide) rfl (fun ls hl => ?_)
      have L54 : ∀ (n : Nat) (i : Nat) (hi : i ≤ 8) (hmu : 8 - i < n) (ls : Array Slot) (hl : lv_has ls 4 [(3, .int (nI i)), (2, .int (nI (sumR (fun r => if S.2.1 4 r = 0 then 0 else 1) 0 i))), (0, .ref (x)), (1, .int (nI 0))]), W p l e ({ frames := 23, cells := 0, slots := 0, locals := 685 } : Room) s m args below meth c H [] 0 0 (MQ below (ps_ro (some (.int (op_count S (nI 0))))) args s 0 0 (fun _ => False)) (F0 m 54 ls []) := by
        intro n
        induction n with
        | zero => intro i hi hmu; exact absurd hmu (Nat.not_lt_zero _)
        | succ n ih54 =>
          intro i hi hmu ls hl
          refine lv_iload_n hx hb dX0_count_54 rfl (lv_at hl 0 rfl) ?_
          refine lv_bipush (v := nI 8) hx hb dX0_count_55 rfl ?_
          refine ps_cge (tgt := 86) hx hb dX0_count_57 (by decide) (by omega) (fun c_57 => ?_) (fun c_57 => ?_)
          · skip
            have ei : i = 8 := by omega
            subst ei
            refine lv_iload_n hx hb dX0_count_86 rfl (lv_at hl 1 rfl) ?_
            exact ps_iretR X dX0_count_87 (congrArg (fun z => some (Value.int z)) (by simp [op_count, sp_rows, c_3, cl_j1, c_57]))
          · skip
            by_cases hz0 : S.2.1 4 i = 0
            · skip
              have hSh := (hRx.2.1 i (by omega)).1
              rw [if_pos hz0] at hSh
              refine lv_iload_n hx hb dX0_count_60 rfl (lv_at hl 1 rfl) ?_
              have J78 : W p l e ({ frames := 23, cells := 0, slots := 0, locals := 685 } : Room) s m args below meth c H [] 0 0 (MQ below (ps_ro (some (.int (op_count S (nI 0))))) args s 0 0 (fun _ => False)) (F0 m 78 ls [.int (nI (if S.2.1 4 i = 0 then 0 else 1)), .int (nI (sumR (fun r => if S.2.1 4 r = 0 then 0 else 1) 0 i))]) := by
                refine ps_iadd hx hb dX0_count_78 ?_
                refine lv_istore_n (lv' := [(2, .int (nI ((sumR (fun r => if S.2.1 4 r = 0 then 0 else 1) 0 i) + (if S.2.1 4 i = 0 then 0 else 1)))), (3, .int (nI i)), (0, .ref (x)), (1, .int (nI 0))]) hx hb dX0_count_79 rfl hl (by decide) rfl (fun ls hl => ?_)
                refine lv_iinc (v := nI (i + 1)) (lv' := [(3, .int (nI (i + 1))), (2, .int (nI ((sumR (fun r => if S.2.1 4 r = 0 then 0 else 1) 0 i) + (if S.2.1 4 i = 0 then 0 else 1)))), (0, .ref (x)), (1, .int (nI 0))]) hx hb dX0_count_80 hl (k := 1) rfl (ps_inc _) (by decide) rfl (fun ls hl => ?_)
                refine lv_goto (tgt := 54) hx hb dX0_count_83 (by decide) ?_
                have e2 : (nI ((sumR (fun r => if S.2.1 4 r = 0 then 0 else 1) 0 i) + (if S.2.1 4 i = 0 then 0 else 1)) : Int32) = nI (sumR (fun r => if S.2.1 4 r = 0 then 0 else 1) 0 (i + 1)) := congrArg nI (by simp [sumR])
                have hl : lv_has ls 4 [(3, .int (nI (i + 1))), (2, .int (nI (sumR (fun r => if S.2.1 4 r = 0 then 0 else 1) 0 (i + 1)))), (0, .ref (x)), (1, .int (nI 0))] := ps_lv (l1 := [(3, .int (nI (i + 1))), (2, .int (nI ((sumR (fun r => if S.2.1 4 r = 0 then 0 else 1) 0 i) + (if S.2.1 4 i = 0 then 0 else 1)))), (0, .ref (x)), (1, .int (nI 0))]) (lv_sub hl [0, 1, 2, 3] rfl) (by rw [e2])
                exact ih54  (i + 1) (by omega) (by omega) ls (hl)
              refine lv_aload_n hx hb dX0_count_61 rfl (lv_at hl 2 rfl) ?_
              refine ps_get (v := .ref (x + 1)) X in_X0 (ci := 0) rfl 0 (by decide) q211 rfl (hW.at hX) rfl dX0_count_62 ?_
              refine lv_iload_n hx hb dX0_count_65 rfl (lv_at hl 0 rfl) ?_
              refine ps_aald (j := i) (o := some (x + 2 + i)) X (t := 4) rfl (hW.at hrows) rfl (by show i < 8; omega) (by first | decide | omega) (hdf _ (by omega)) dX0_count_66 ?_
              refine ps_getN (v := .null) X hZ in_X1 (ci := 1) rfl 0 (by decide) q124 rfl (hW.at hSh) rfl dX0_count_67 ?_
              refine lv_ifnonnullN hx hb dX0_count_70 ?_
              refine lv_iconst (v := nI 0) hx hb dX0_count_73 rfl ?_
              refine lv_goto (tgt := 78) hx hb dX0_count_74 (by decide) ?_
              exact ps_top (congrArg nI (by rw [if_pos hz0])) J78
            · skip
              have hSh := (hRx.2.1 i (by omega)).1
              rw [if_neg hz0] at hSh
              refine lv_iload_n hx hb dX0_count_60 rfl (lv_at hl 1 rfl) ?_
              have J78 : W p l e ({ frames := 23, cells := 0, slots := 0, locals := 685 } : Room) s m args below meth c H [] 0 0 (MQ below (ps_ro (some (.int (op_count S (nI 0))))) args s 0 0 (fun _ => False)) (F0 m 78 ls [.int (nI (if S.2.1 4 i = 0 then 0 else 1)), .int (nI (sumR (fun r => if S.2.1 4 r = 0 then 0 else 1) 0 i))]) := by
                refine ps_iadd hx hb dX0_count_78 ?_
                refine lv_istore_n (lv' := [(2, .int (nI ((sumR (fun r => if S.2.1 4 r = 0 then 0 else 1) 0 i) + (if S.2.1 4 i = 0 then 0 else 1)))), (3, .int (nI i)), (0, .ref (x)), (1, .int (nI 0))]) hx hb dX0_count_79 rfl hl (by decide) rfl (fun ls hl => ?_)
                refine lv_iinc (v := nI (i + 1)) (lv' := [(3, .int (nI (i + 1))), (2, .int (nI ((sumR (fun r => if S.2.1 4 r = 0 then 0 else 1) 0 i) + (if S.2.1 4 i = 0 then 0 else 1)))), (0, .ref (x)), (1, .int (nI 0))]) hx hb dX0_count_80 hl (k := 1) rfl (ps_inc _) (by decide) rfl (fun ls hl => ?_)
                refine lv_goto (tgt := 54) hx hb dX0_count_83 (by decide) ?_
                have e3 : (nI ((sumR (fun r => if S.2.1 4 r = 0 then 0 else 1) 0 i) + (if S.2.1 4 i = 0 then 0 else 1)) : Int32) = nI (sumR (fun r => if S.2.1 4 r = 0 then 0 else 1) 0 (i + 1)) := congrArg nI (by simp [sumR])
                have hl : lv_has ls 4 [(3, .int (nI (i + 1))), (2, .int (nI (sumR (fun r => if S.2.1 4 r = 0 then 0 else 1) 0 (i + 1)))), (0, .ref (x)), (1, .int (nI 0))] := ps_lv (l1 := [(3, .int (nI (i + 1))), (2, .int (nI ((sumR (fun r => if S.2.1 4 r = 0 then 0 else 1) 0 i) + (if S.2.1 4 i = 0 then 0 else 1)))), (0, .ref (x)), (1, .int (nI 0))]) (lv_sub hl [0, 1, 2, 3] rfl) (by rw [e3])
                exact ih54  (i + 1) (by omega) (by omega) ls (hl)
              refine lv_aload_n hx hb dX0_count_61 rfl (lv_at hl 2 rfl) ?_
              refine ps_get (v := .ref (x + 1)) X in_X0 (ci := 0) rfl 0 (by decide) q211 rfl (hW.at hX) rfl dX0_count_62 ?_
              refine lv_iload_n hx hb dX0_count_65 rfl (lv_at hl 0 rfl) ?_
              refine ps_aald (j := i) (o := some (x + 2 + i)) X (t := 4) rfl (hW.at hrows) rfl (by show i < 8; omega) (by first | decide | omega) (hdf _ (by omega)) dX0_count_66 ?_
              refine ps_getN (v := .ref (hr i)) X hZ in_X1 (ci := 1) rfl 0 (by decide) q124 rfl (hW.at hSh) rfl dX0_count_67 ?_
              refine lv_ifnonnull (tgt := 77) hx hb dX0_count_70 (by decide) ?_
              refine lv_iconst (v := nI 1) hx hb dX0_count_77 rfl ?_
              exact ps_top (congrArg nI (by rw [if_neg hz0])) J78
      have hl : lv_has ls 4 [(3, .int (nI 0)), (2, .int (nI (sumR (fun r => if S.2.1 4 r = 0 then 0 else 1) 0 0))), (0, .ref (x)), (1, .int (nI 0))] := lv_sub hl [0, 1, 2, 3] rfl
      exact L54 ((8 - 0) + 1) 0 (by omega) (Nat.lt_succ_self _) ls (hl)
    by_cases e_1 : j1 = 1
    · subst e_1
      refine lv_tableIn (off := 85) (tgt := 88) hx hb dX0_count_3 (by decide) (by decide) (by decide) (by decide) ?_
      refine lv_aload_n hx hb dX0_count_88 rfl (lv_at hl 1 rfl) ?_
      refine ps_get (v := .ref (x + 11)) X in_X0 (ci := 0) rfl 4 (by decide) q216 rfl (hW.at hX) rfl dX0_count_89 ?_
      refine ps_roV X hE (m_X2_many l hE hZ hW hD hO ) (lw_V q844 q647 q648 q70 q649) (by decide +kernel) ⟨⟨Nat.le_of_ble_eq_true rfl, Nat.le_of_ble_eq_true rfl⟩, Nat.le_of_ble_eq_true rfl, Nat.le_of_ble_eq_true rfl⟩ (ps_rc X (ci := 2) rfl (hW.at hD.1)) hS hl.1 (As := []) (rest := []) (n := 0) rfl rfl (Nat.le_of_ble_eq_true rfl) dX0_count_92 ?_
      refine ps_st (st' := [.int (nI ((S.2.1 0) 3))]) rfl ?_
      exact ps_iretR X dX0_count_95 (congrArg (fun z => some (Value.int z)) (by simp [op_count, sp_rows, c_3, cl_j1]))
    by_cases e_2 : j1 = 2
    · subst e_2
      refine lv_tableIn (off := 93) (tgt := 96) hx hb dX0_count_3 (by decide) (by decide) (by decide) (by decide) ?_
      refine lv_aload_n hx hb dX0_count_96 rfl (lv_at hl 1 rfl) ?_
      refine ps_get (v := .ref (x + 11)) X in_X0 (ci := 0) rfl 4 (by decide) q216 rfl (hW.at hX) rfl dX0_count_97 ?_
      refine ps_get (v := .int (nI ((S.2.1 0) 2))) X in_X2 (ci := 2) rfl 2 (by decide) q170 rfl (hW.at hD.1) rfl dX0_count_100 ?_
      exact ps_iretR X dX0_count_103 (congrArg (fun z => some (Value.int z)) (by simp [op_count, sp_rows, c_3, cl_j1]))
    by_cases e_3 : j1 = 3
    · subst e_3
      refine lv_tableIn (off := 101) (tgt := 104) hx hb dX0_count_3 (by decide) (by decide) (by decide) (by decide) ?_
      refine lv_aload_n hx hb dX0_count_104 rfl (lv_at hl 1 rfl) ?_
      refine ps_get (v := .ref (x + 11)) X in_X0 (ci := 0) rfl 4 (by decide) q216 rfl (hW.at hX) rfl dX0_count_105 ?_
      refine ps_get (v := .int (nI ((S.2.1 0) 4))) X in_X2 (ci := 2) rfl 6 (by decide) q179 rfl (hW.at hD.1) rfl dX0_count_108 ?_
      exact ps_iretR X dX0_count_111 (congrArg (fun z => some (Value.int z)) (by simp [op_count, sp_rows, c_3, cl_j1]))
    by_cases e_4 : j1 = 4
    · subst e_4
      refine lv_tableIn (off := 109) (tgt := 112) hx hb dX0_count_3 (by decide) (by decide) (by decide) (by decide) ?_
      refine lv_aload_n hx hb dX0_count_112 rfl (lv_at hl 1 rfl) ?_
      refine ps_roV X hE (m_X0_isThere l hE hZ hW hX hD hO ) (lw_V q935 q937 qs20 q68 q938) (by decide +kernel) ⟨⟨Nat.le_of_ble_eq_true rfl, Nat.le_of_ble_eq_true rfl⟩, Nat.le_of_ble_eq_true rfl, Nat.le_of_ble_eq_true rfl⟩ (ps_rc X (ci := 0) rfl (hW.at hX)) hS hl.1 (As := []) (rest := []) (n := 0) rfl rfl (Nat.le_of_ble_eq_true rfl) dX0_count_113 ?_
      refine ps_st (st' := [.int (bI (decide (1 ≤ (S.2.1 0) 1)))]) rfl ?_
      refine ps_ifeqB (tgt := 136) hx hb dX0_count_116 (by decide) (fun c_116 => ?_) (fun c_116 => ?_)
      · skip
        have h1 : ¬ 1 ≤ (S.2.1 0) 1 := of_decide_eq_false c_116
        have h1' : (S.2.1 0) 1 = 0 := by omega
        refine lv_iconst (v := nI 0) hx hb dX0_count_136 rfl ?_
        exact ps_iretR X dX0_count_137 (congrArg (fun z => some (Value.int z)) (by simp [op_count, sp_rows, c_3, cl_j1, h1']))
      · skip
        have h1 : 1 ≤ (S.2.1 0) 1 := of_decide_eq_true c_116
        have h1' : ¬ (S.2.1 0) 1 = 0 := by omega
        refine lv_aload_n hx hb dX0_count_119 rfl (lv_at hl 1 rfl) ?_
        refine ps_get (v := .ref (x + 11)) X in_X0 (ci := 0) rfl 4 (by decide) q216 rfl (hW.at hX) rfl dX0_count_120 ?_
        refine lv_aload_n hx hb dX0_count_123 rfl (lv_at hl 1 rfl) ?_
        refine ps_get (v := .ref (x + 11)) X in_X0 (ci := 0) rfl 4 (by decide) q216 rfl (hW.at hX) rfl dX0_count_124 ?_
        refine ps_get (v := .int (nI ((S.2.1 0) 4))) X in_X2 (ci := 2) rfl 6 (by decide) q179 rfl (hW.at hD.1) rfl dX0_count_127 ?_
        refine ps_roV X hE (m_X2_reads l hE hZ hW hD hO (u := (S.2.1 0) 4) (by omega) h1) (lw_V q872 q873 q874 q70 q875) (by decide +kernel) ⟨⟨Nat.le_of_ble_eq_true rfl, Nat.le_of_ble_eq_true rfl⟩, Nat.le_of_ble_eq_true rfl, Nat.le_of_ble_eq_true rfl⟩ (ps_rc X (ci := 2) rfl (hW.at hD.1)) hS hl.1 (As := [.int (nI ((S.2.1 0) 4))]) (rest := []) (n := 1) rfl rfl (Nat.le_of_ble_eq_true rfl) dX0_count_130 ?_
        refine ps_st (st' := [.int (nI (sp_read (S.2.1 0) ((S.2.1 0) 4)))]) rfl ?_
        refine lv_goto (tgt := 137) hx hb dX0_count_133 (by decide) ?_
        exact ps_iretR X dX0_count_137 (congrArg (fun z => some (Value.int z)) (by simp [op_count, sp_rows, c_3, cl_j1, h1, h1']))
    by_cases e_5 : j1 = 5
    · subst e_5
      refine lv_tableIn (off := 135) (tgt := 138) hx hb dX0_count_3 (by decide) (by decide) (by decide) (by decide) ?_
      refine lv_aload_n hx hb dX0_count_138 rfl (lv_at hl 1 rfl) ?_
      refine ps_get (v := .ref (x + 11)) X in_X0 (ci := 0) rfl 4 (by decide) q216 rfl (hW.at hX) rfl dX0_count_139 ?_
      refine ps_get (v := .int (nI ((S.2.1 0) 0))) X in_X2 (ci := 2) rfl 0 (by decide) q164 rfl (hW.at hD.1) rfl dX0_count_142 ?_
      exact ps_iretR X dX0_count_145 (congrArg (fun z => some (Value.int z)) (by simp [op_count, sp_rows, c_3, cl_j1]))
    by_cases e_6 : j1 = 6
    · subst e_6
      refine lv_tableIn (off := 143) (tgt := 146) hx hb dX0_count_3 (by decide) (by decide) (by decide) (by decide) ?_
      refine lv_aload_n hx hb dX0_count_146 rfl (lv_at hl 1 rfl) ?_
      refine ps_get (v := .ref (x + 11)) X in_X0 (ci := 0) rfl 4 (by decide) q216 rfl (hW.at hX) rfl dX0_count_147 ?_
      refine ps_get (v := .int (nI ((S.2.1 0) 1))) X in_X2 (ci := 2) rfl 1 (by decide) q167 rfl (hW.at hD.1) rfl dX0_count_150 ?_
      exact ps_iretR X dX0_count_153 (congrArg (fun z => some (Value.int z)) (by simp [op_count, sp_rows, c_3, cl_j1]))
    by_cases e_7 : j1 = 7
    · subst e_7
      refine lv_tableIn (off := 151) (tgt := 154) hx hb dX0_count_3 (by decide) (by decide) (by decide) (by decide) ?_
      refine lv_aload_n hx hb dX0_count_154 rfl (lv_at hl 1 rfl) ?_
      refine ps_get (v := .int (nI (S.1 3))) X in_X0 (ci := 0) rfl 7 (by decide) q219 rfl (hW.at hX) rfl dX0_count_155 ?_
      exact ps_iretR X dX0_count_158 (congrArg (fun z => some (Value.int z)) (by simp [op_count, sp_rows, c_3, cl_j1]))
    obtain rfl : j1 = 8 := by omega
    refine lv_tableIn (off := 156) (tgt := 159) hx hb dX0_count_3 (by decide) (by decide) (by decide) (by decide) ?_
    refine lv_aload_n hx hb dX0_count_159 rfl (lv_at hl 1 rfl) ?_
    refine ps_get (v := .int (nI (S.1 2))) X in_X0 (ci := 0) rfl 2 (by decide) q213 rfl (hW.at hX) rfl dX0_count_160 ?_
    exact ps_iretR X dX0_count_163 (congrArg (fun z => some (Value.int z)) (by simp [op_count, sp_rows, c_3, cl_j1]))
  · skip
    refine lv_tableOut (tgt := 164) hx hb dX0_count_3 (ps_rng_out c_3) (by decide) ?_
    refine lv_ldc (v := -1000001) hx hb ho (hts _ q344) dX0_count_164 ?_
    exact ps_iretR X dX0_count_166 (congrArg (fun z => some (Value.int z)) (by simp [op_count, sp_rows, c_3]))
