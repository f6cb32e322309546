/-! the model: what it answers by the scales, with loops (printed by gen/model3.py) -/
set_option maxRecDepth 100000
set_option maxHeartbeats 4000000 in
theorem m_X4_clash (l : Launch) {E : ps_E} (hE : ps_ZT E) {H : Heap} {o : Nat} {F : Nat → Int32} {A : Nat → Nat → Int32} (hM : ps_Mo E H o F A) {σ : Nat → Nat} (hσ : ps_Vw A 4 57 σ) (hO : sp_ok σ) (hT : F 4 = bI (decide (1 ≤ σ 1))) {x : Int32} : ps_Ro l E yX4_clash cX4_clash 6 (some .int) 3 55 [.ref (o), .int (x)] H (some (.int (op_clash σ x))) := by
  refine ps_Ro.of (by decide) (Nat.le_of_ble_eq_true rfl) ?_
  intro p e s m args below meth c X ls hl
  have hx := X.1
  have hb := X.2.1
  have ho := X.2.2.2.1
  have hts := X.2.2.2.2.1
  have hS : va_S (ps_A E) s.heap H [] := by rw [X.2.2.2.2.2.2.2.2.1]; exact va_S.rf
  have hl : lv_has ls 6 [(0, .ref (o)), (1, .int (x))] := hl
  have hm := hO.m
  refine lv_aload_n hx hb dX4_clash_0 rfl (lv_at hl 0 rfl) ?_
  refine ps_mget (v := .int (F 4)) X hM 4 (by decide) q1293 rfl rfl dX4_clash_1 ?_
  refine ps_top (y := bI (decide (1 ≤ σ 1))) (hT) ?_
  refine ps_ifneB (tgt := 10) hx hb dX4_clash_4 (by decide) (fun c_4 => ?_) (fun c_4 => ?_)
  · skip
    have h1 : 1 ≤ σ 1 := of_decide_eq_true c_4
    have h1' : ¬ σ 1 = 0 := by omega
    refine lv_iload_n hx hb dX4_clash_10 rfl (lv_at hl 1 rfl) ?_
    refine lv_i2l (v := (x).toInt64) hx hb dX4_clash_11 rfl ?_
    refine lv_lconst (v := lN 0) hx hb dX4_clash_12 rfl ?_
    refine lv_lconst (v := lN 1) hx hb dX4_clash_13 rfl ?_
    refine ps_roS X hE (m_X4_in l hE (H := H) (x := x) (lo := 0) (hi := 2) (lN_toInt (by decide)) (ps_hcN 1 (by decide))) (lw_S q1371 q1372 q75 q1373) (by decide +kernel) ⟨⟨Nat.le_of_ble_eq_true rfl, Nat.le_of_ble_eq_true rfl⟩, Nat.le_of_ble_eq_true rfl, Nat.le_of_ble_eq_true rfl⟩ hS hl.1 (As := [.long ((x).toInt64), .long (lN 0), .long (lN 1)]) (rest := []) (n := 3) rfl rfl (Nat.le_of_ble_eq_true rfl) dX4_clash_14 ?_
    refine ps_st (st' := [.int (bI (rng x 0 2))]) rfl ?_
    refine ps_ifneB (tgt := 23) hx hb dX4_clash_17 (by decide) (fun c_17 => ?_) (fun c_17 => ?_)
    · skip
      obtain ⟨k, rfl, k_lo, k_hi, k_b⟩ := rng_t c_17
      have cl_k : (nI k).toNatClampNeg = k := nI_clamp (by omega)
      refine lv_iconst (v := nI 0) hx hb dX4_clash_23 rfl ?_
      refine lv_istore_n (lv' := [(2, .int (nI 0)), (0, .ref (o)), (1, .int (nI k))]) hx hb dX4_clash_24 rfl hl (by decide) rfl (fun ls hl => ?_)
      refine lv_ldc (v := -1000000) hx hb ho (hts _ q1535) dX4_clash_25 ?_
      refine lv_istore_n (lv' := [(3, .int ((-1000000))), (2, .int (nI 0)), (0, .ref (o)), (1, .int (nI k))]) hx hb dX4_clash_27 rfl hl (by decide) rfl (fun ls hl => ?_)
      refine lv_aload_n hx hb dX4_clash_28 rfl (lv_at hl 2 rfl) ?_
      refine ps_mget (v := .ref (o + 4)) X hM 5 (by decide) q1294 rfl rfl dX4_clash_29 ?_
      refine lv_iconst (v := nI 3) hx hb dX4_clash_32 rfl ?_
      refine ps_mld (j := 3) (v := nI (σ 3)) X hM 4 (by decide) rfl (by show 3 < 57; omega) (hσ _ (by show 3 < 57; omega)) dX4_clash_33 ?_
      refine lv_iconst (v := nI 1) hx hb dX4_clash_34 rfl ?_
      refine lv_isub hx hb dX4_clash_35 ?_
      refine ps_top (y := nI (σ 3) - nI 1) (rfl) ?_
      refine lv_istore (lv' := [(4, .int (nI (σ 3) - nI 1)), (3, .int ((-1000000))), (2, .int (nI 0)), (0, .ref (o)), (1, .int (nI k))]) hx hb dX4_clash_36 hl (by decide) rfl (fun ls hl => ?_)
      have L38 : ∀ (n : Nat) (i : Nat) (hi : i ≤ σ 3) (hmu : i < n) (ls : Array Slot) (hl : lv_has ls 6 [(4, .int (nI i - nI 1)), (3, .int (optI (fstR (fun a => sp_cfst σ a (σ 3 - a - 1)) i (σ 3 - i)))), (2, .int (nI (sumR (fun a => sp_ccnt σ a (σ 3 - a - 1)) i (σ 3 - i)))), (0, .ref (o)), (1, .int (nI k))]), W p l e ({ frames := 3, cells := 0, slots := 0, locals := 55 } : Room) s m args below meth c H [] 0 0 (MQ below (ps_ro (some (.int (op_clash σ (nI k))))) args s 0 0 (fun _ => False)) (F0 m 38 ls []) := by
        intro n
        induction n with
        | zero => intro i hi hmu; exact absurd hmu (Nat.not_lt_zero _)
        | succ n ih38 =>
          intro i hi hmu ls hl
          refine lv_iload hx hb dX4_clash_38 (lv_at hl 0 rfl) ?_
          refine ps_ifpl (tgt := 115) hx hb dX4_clash_40 (by decide) (by omega) (fun c_40 => ?_) (fun c_40 => ?_)
          · skip
            refine lv_iload_n hx hb dX4_clash_115 rfl (lv_at hl 4 rfl) ?_
            refine ps_ifne (tgt := 123) hx hb dX4_clash_116 (by decide) (by omega) (fun c_116 => ?_) (fun c_116 => ?_)
            · skip
              refine lv_iload_n hx hb dX4_clash_123 rfl (lv_at hl 1 rfl) ?_
              exact ps_iretR X dX4_clash_124 (congrArg (fun z => some (Value.int z)) (by rw [c_40, Nat.sub_zero]; simp [op_clash, sp_cnt, sp_fst, h1, h1', c_17, cl_k, c_116]))
            · skip
              refine lv_iload_n hx hb dX4_clash_119 rfl (lv_at hl 2 rfl) ?_
              refine lv_goto (tgt := 124) hx hb dX4_clash_120 (by decide) ?_
              exact ps_iretR X dX4_clash_124 (congrArg (fun z => some (Value.int z)) (by rw [c_40, Nat.sub_zero]; subst c_116; simp [op_clash, sp_cnt, sp_fst, h1, h1', c_17, cl_k]))
          · skip
            have hl : lv_has ls 6 [(4, .int (nI (i - 1))), (3, .int (optI (fstR (fun a => sp_cfst σ a (σ 3 - a - 1)) i (σ 3 - i)))), (2, .int (nI (sumR (fun a => sp_ccnt σ a (σ 3 - a - 1)) i (σ 3 - i)))), (0, .ref (o)), (1, .int (nI k))] := by rw [pk_sub (show 1 ≤ i by omega)] at hl; exact hl
            refine lv_aload_n hx hb dX4_clash_43 rfl (lv_at hl 3 rfl) ?_
            refine ps_mget (v := .ref (o + 4)) X hM 5 (by decide) q1294 rfl rfl dX4_clash_44 ?_
            refine lv_iconst (v := nI 3) hx hb dX4_clash_47 rfl ?_
            refine ps_mld (j := 3) (v := nI (σ 3)) X hM 4 (by decide) rfl (by show 3 < 57; omega) (hσ _ (by show 3 < 57; omega)) dX4_clash_48 ?_
            refine lv_iconst (v := nI 1) hx hb dX4_clash_49 rfl ?_
            refine ps_isub hx hb dX4_clash_50 (by omega) ?_
            refine lv_istore (lv' := [(5, .int (nI ((σ 3) - 1))), (4, .int (nI (i - 1))), (3, .int (optI (fstR (fun a => sp_cfst σ a (σ 3 - a - 1)) i (σ 3 - i)))), (2, .int (nI (sumR (fun a => sp_ccnt σ a (σ 3 - a - 1)) i (σ 3 - i)))), (0, .ref (o)), (1, .int (nI k))]) hx hb dX4_clash_51 hl (by decide) rfl (fun ls hl => ?_)
            have L53 : ∀ (n : Nat) (j : Nat) (hj : i - 1 ≤ j ∧ j < σ 3) (hmu : j < n) (ls : Array Slot) (hl : lv_has ls 6 [(5, .int (nI j)), (4, .int (nI (i - 1))), (3, .int (optI ((fstR (fun b => if sp_clash σ (i - 1) b = true then some (8 * (i - 1) + b) else none) (j + 1) (σ 3 - j - 1)).or (fstR (fun a => sp_cfst σ a (σ 3 - a - 1)) i (σ 3 - i))))), (2, .int (nI (sumR (fun a => sp_ccnt σ a (σ 3 - a - 1)) i (σ 3 - i) + sumR (fun b => if sp_clash σ (i - 1) b = true then 1 else 0) (j + 1) (σ 3 - j - 1)))), (0, .ref (o)), (1, .int (nI k))]), W p l e ({ frames := 3, cells := 0, slots := 0, locals := 55 } : Room) s m args below meth c H [] 0 0 (MQ below (ps_ro (some (.int (op_clash σ (nI k))))) args s 0 0 (fun _ => False)) (F0 m 53 ls []) := by
              intro n
              induction n with
              | zero => intro j hj hmu; exact absurd hmu (Nat.not_lt_zero _)
              | succ n ih53 =>
                intro j hj hmu ls hl
                refine lv_iload hx hb dX4_clash_53 (lv_at hl 0 rfl) ?_
                refine lv_iload hx hb dX4_clash_55 (lv_at hl 1 rfl) ?_
                refine ps_cle (tgt := 109) hx hb dX4_clash_57 (by decide) (by omega) (fun c_57 => ?_) (fun c_57 => ?_)
                · skip
                  have ej : j = i - 1 := by omega
                  refine lv_iinc (v := nI (i - 1) - nI 1) (lv' := [(4, .int (nI (i - 1) - nI 1)), (5, .int (nI j)), (3, .int (optI ((fstR (fun b => if sp_clash σ (i - 1) b = true then some (8 * (i - 1) + b) else none) (j + 1) (σ 3 - j - 1)).or (fstR (fun a => sp_cfst σ a (σ 3 - a - 1)) i (σ 3 - i))))), (2, .int (nI (sumR (fun a => sp_ccnt σ a (σ 3 - a - 1)) i (σ 3 - i) + sumR (fun b => if sp_clash σ (i - 1) b = true then 1 else 0) (j + 1) (σ 3 - j - 1)))), (0, .ref (o)), (1, .int (nI k))]) hx hb dX4_clash_109 hl (k := 1) rfl (ps_decp _) (by decide) rfl (fun ls hl => ?_)
                  refine lv_goto (tgt := 38) hx hb dX4_clash_112 (by decide) ?_
                  have e1 : (optI ((fstR (fun b => if sp_clash σ (i - 1) b = true then some (8 * (i - 1) + b) else none) (j + 1) (σ 3 - j - 1)).or (fstR (fun a => sp_cfst σ a (σ 3 - a - 1)) i (σ 3 - i))) : Int32) = optI (fstR (fun a => sp_cfst σ a (σ 3 - a - 1)) (i - 1) (σ 3 - (i - 1))) := by rw [ej, show σ 3 - (i - 1) = (σ 3 - i) + 1 by omega, fstR_lo, show i - 1 + 1 = i by omega]; simp [sp_cfst, show i - 1 + 1 = i by omega, show σ 3 - (i - 1) - 1 = σ 3 - i by omega]
                  have e2 : (nI (sumR (fun a => sp_ccnt σ a (σ 3 - a - 1)) i (σ 3 - i) + sumR (fun b => if sp_clash σ (i - 1) b = true then 1 else 0) (j + 1) (σ 3 - j - 1)) : Int32) = nI (sumR (fun a => sp_ccnt σ a (σ 3 - a - 1)) (i - 1) (σ 3 - (i - 1))) := congrArg nI (by rw [ej, show σ 3 - (i - 1) = (σ 3 - i) + 1 by omega, sumR_lo, show i - 1 + 1 = i by omega]; simp [sp_ccnt, show i - 1 + 1 = i by omega, show σ 3 - (i - 1) - 1 = σ 3 - i by omega]; omega)
                  have hl : lv_has ls 6 [(4, .int (nI (i - 1) - nI 1)), (3, .int (optI (fstR (fun a => sp_cfst σ a (σ 3 - a - 1)) (i - 1) (σ 3 - (i - 1))))), (2, .int (nI (sumR (fun a => sp_ccnt σ a (σ 3 - a - 1)) (i - 1) (σ 3 - (i - 1))))), (0, .ref (o)), (1, .int (nI k))] := ps_lv (l1 := [(4, .int (nI (i - 1) - nI 1)), (3, .int (optI ((fstR (fun b => if sp_clash σ (i - 1) b = true then some (8 * (i - 1) + b) else none) (j + 1) (σ 3 - j - 1)).or (fstR (fun a => sp_cfst σ a (σ 3 - a - 1)) i (σ 3 - i))))), (2, .int (nI (sumR (fun a => sp_ccnt σ a (σ 3 - a - 1)) i (σ 3 - i) + sumR (fun b => if sp_clash σ (i - 1) b = true then 1 else 0) (j + 1) (σ 3 - j - 1)))), (0, .ref (o)), (1, .int (nI k))]) (lv_sub hl [0, 2, 3, 4, 5] rfl) (by rw [e1, e2])
                  exact ih38  (i - 1) (by omega) (by omega) ls (hl)
                · skip
                  refine lv_iload_n hx hb dX4_clash_60 rfl (lv_at hl 3 rfl) ?_
                  have J77 : W p l e ({ frames := 3, cells := 0, slots := 0, locals := 55 } : Room) s m args below meth c H [] 0 0 (MQ below (ps_ro (some (.int (op_clash σ (nI k))))) args s 0 0 (fun _ => False)) (F0 m 77 ls [.int (nI (if sp_clash σ (i - 1) j = true then 1 else 0)), .int (nI (sumR (fun a => sp_ccnt σ a (σ 3 - a - 1)) i (σ 3 - i) + sumR (fun b => if sp_clash σ (i - 1) b = true then 1 else 0) (j + 1) (σ 3 - j - 1)))]) := by
                    refine ps_iadd hx hb dX4_clash_77 ?_
                    refine lv_istore_n (lv' := [(2, .int (nI ((sumR (fun a => sp_ccnt σ a (σ 3 - a - 1)) i (σ 3 - i) + sumR (fun b => if sp_clash σ (i - 1) b = true then 1 else 0) (j + 1) (σ 3 - j - 1)) + (if sp_clash σ (i - 1) j = true then 1 else 0)))), (5, .int (nI j)), (4, .int (nI (i - 1))), (3, .int (optI ((fstR (fun b => if sp_clash σ (i - 1) b = true then some (8 * (i - 1) + b) else none) (j + 1) (σ 3 - j - 1)).or (fstR (fun a => sp_cfst σ a (σ 3 - a - 1)) i (σ 3 - i))))), (0, .ref (o)), (1, .int (nI k))]) hx hb dX4_clash_78 rfl hl (by decide) rfl (fun ls hl => ?_)
                    have J102 : W p l e ({ frames := 3, cells := 0, slots := 0, locals := 55 } : Room) s m args below meth c H [] 0 0 (MQ below (ps_ro (some (.int (op_clash σ (nI k))))) args s 0 0 (fun _ => False)) (F0 m 102 ls [.int (optI ((if sp_clash σ (i - 1) j = true then some (8 * (i - 1) + j) else none).or ((fstR (fun b => if sp_clash σ (i - 1) b = true then some (8 * (i - 1) + b) else none) (j + 1) (σ 3 - j - 1)).or (fstR (fun a => sp_cfst σ a (σ 3 - a - 1)) i (σ 3 - i)))))]) := by
                      refine lv_istore_n (lv' := [(3, .int (optI ((if sp_clash σ (i - 1) j = true then some (8 * (i - 1) + j) else none).or ((fstR (fun b => if sp_clash σ (i - 1) b = true then some (8 * (i - 1) + b) else none) (j + 1) (σ 3 - j - 1)).or (fstR (fun a => sp_cfst σ a (σ 3 - a - 1)) i (σ 3 - i)))))), (2, .int (nI ((sumR (fun a => sp_ccnt σ a (σ 3 - a - 1)) i (σ 3 - i) + sumR (fun b => if sp_clash σ (i - 1) b = true then 1 else 0) (j + 1) (σ 3 - j - 1)) + (if sp_clash σ (i - 1) j = true then 1 else 0)))), (5, .int (nI j)), (4, .int (nI (i - 1))), (0, .ref (o)), (1, .int (nI k))]) hx hb dX4_clash_102 rfl hl (by decide) rfl (fun ls hl => ?_)
                      refine lv_iinc (v := nI (j - 1)) (lv' := [(5, .int (nI (j - 1))), (3, .int (optI ((if sp_clash σ (i - 1) j = true then some (8 * (i - 1) + j) else none).or ((fstR (fun b => if sp_clash σ (i - 1) b = true then some (8 * (i - 1) + b) else none) (j + 1) (σ 3 - j - 1)).or (fstR (fun a => sp_cfst σ a (σ 3 - a - 1)) i (σ 3 - i)))))), (2, .int (nI ((sumR (fun a => sp_ccnt σ a (σ 3 - a - 1)) i (σ 3 - i) + sumR (fun b => if sp_clash σ (i - 1) b = true then 1 else 0) (j + 1) (σ 3 - j - 1)) + (if sp_clash σ (i - 1) j = true then 1 else 0)))), (4, .int (nI (i - 1))), (0, .ref (o)), (1, .int (nI k))]) hx hb dX4_clash_103 hl (k := 2) rfl (ps_dec (by omega)) (by decide) rfl (fun ls hl => ?_)
                      refine lv_goto (tgt := 53) hx hb dX4_clash_106 (by decide) ?_
                      have e3 : (optI ((if sp_clash σ (i - 1) j = true then some (8 * (i - 1) + j) else none).or ((fstR (fun b => if sp_clash σ (i - 1) b = true then some (8 * (i - 1) + b) else none) (j + 1) (σ 3 - j - 1)).or (fstR (fun a => sp_cfst σ a (σ 3 - a - 1)) i (σ 3 - i)))) : Int32) = optI ((fstR (fun b => if sp_clash σ (i - 1) b = true then some (8 * (i - 1) + b) else none) ((j - 1) + 1) (σ 3 - (j - 1) - 1)).or (fstR (fun a => sp_cfst σ a (σ 3 - a - 1)) i (σ 3 - i))) := by rw [show σ 3 - (j - 1) - 1 = (σ 3 - j - 1) + 1 by omega, show j - 1 + 1 = j by omega, fstR_lo, Option.or_assoc]
                      have e4 : (nI ((sumR (fun a => sp_ccnt σ a (σ 3 - a - 1)) i (σ 3 - i) + sumR (fun b => if sp_clash σ (i - 1) b = true then 1 else 0) (j + 1) (σ 3 - j - 1)) + (if sp_clash σ (i - 1) j = true then 1 else 0)) : Int32) = nI (sumR (fun a => sp_ccnt σ a (σ 3 - a - 1)) i (σ 3 - i) + sumR (fun b => if sp_clash σ (i - 1) b = true then 1 else 0) ((j - 1) + 1) (σ 3 - (j - 1) - 1)) := congrArg nI (by rw [show σ 3 - (j - 1) - 1 = (σ 3 - j - 1) + 1 by omega, show j - 1 + 1 = j by omega, sumR_lo]; (try dsimp only); omega)
                      have hl : lv_has ls 6 [(5, .int (nI (j - 1))), (4, .int (nI (i - 1))), (3, .int (optI ((fstR (fun b => if sp_clash σ (i - 1) b = true then some (8 * (i - 1) + b) else none) ((j - 1) + 1) (σ 3 - (j - 1) - 1)).or (fstR (fun a => sp_cfst σ a (σ 3 - a - 1)) i (σ 3 - i))))), (2, .int (nI (sumR (fun a => sp_ccnt σ a (σ 3 - a - 1)) i (σ 3 - i) + sumR (fun b => if sp_clash σ (i - 1) b = true then 1 else 0) ((j - 1) + 1) (σ 3 - (j - 1) - 1)))), (0, .ref (o)), (1, .int (nI k))] := ps_lv (l1 := [(5, .int (nI (j - 1))), (4, .int (nI (i - 1))), (3, .int (optI ((if sp_clash σ (i - 1) j = true then some (8 * (i - 1) + j) else none).or ((fstR (fun b => if sp_clash σ (i - 1) b = true then some (8 * (i - 1) + b) else none) (j + 1) (σ 3 - j - 1)).or (fstR (fun a => sp_cfst σ a (σ 3 - a - 1)) i (σ 3 - i)))))), (2, .int (nI ((sumR (fun a => sp_ccnt σ a (σ 3 - a - 1)) i (σ 3 - i) + sumR (fun b => if sp_clash σ (i - 1) b = true then 1 else 0) (j + 1) (σ 3 - j - 1)) + (if sp_clash σ (i - 1) j = true then 1 else 0)))), (0, .ref (o)), (1, .int (nI k))]) (lv_sub hl [0, 3, 1, 2, 4, 5] rfl) (by rw [e3, e4])
                      exact ih53  (j - 1) (by omega) (by omega) ls (hl)
                    refine lv_aload_n hx hb dX4_clash_79 rfl (lv_at hl 4 rfl) ?_
                    refine lv_iload hx hb dX4_clash_80 (lv_at hl 2 rfl) ?_
                    refine lv_iload hx hb dX4_clash_82 (lv_at hl 1 rfl) ?_
                    refine ps_roV X hE (m_X4_clashes l hE hM hσ hO (k := i - 1) (j := j) (by omega) (by omega)) (lw_V q1536 q1538 qs53 q75 q1539) (by decide +kernel) ⟨⟨Nat.le_of_ble_eq_true rfl, Nat.le_of_ble_eq_true rfl⟩, Nat.le_of_ble_eq_true rfl, Nat.le_of_ble_eq_true rfl⟩ (ps_mrc X hM) hS hl.1 (As := [.int (nI (i - 1)), .int (nI j)]) (rest := []) (n := 2) rfl rfl (Nat.le_of_ble_eq_true rfl) dX4_clash_84 ?_
                    refine ps_st (st' := [.int (bI (sp_clash σ (i - 1) j))]) rfl ?_
                    refine ps_ifeqB (tgt := 101) hx hb dX4_clash_87 (by decide) (fun c_87 => ?_) (fun c_87 => ?_)
                    · skip
                      refine lv_iload_n hx hb dX4_clash_101 rfl (lv_at hl 3 rfl) ?_
                      exact ps_top (by simp [op_clash, optI, h1, h1', c_17, cl_k, c_40, c_57, c_87]) J102
                    · skip
                      refine lv_bipush (v := nI 8) hx hb dX4_clash_90 rfl ?_
                      refine lv_iload hx hb dX4_clash_92 (lv_at hl 2 rfl) ?_
                      refine ps_imul hx hb dX4_clash_94 ?_
                      refine lv_iload hx hb dX4_clash_95 (lv_at hl 1 rfl) ?_
                      refine ps_iadd hx hb dX4_clash_97 ?_
                      refine lv_goto (tgt := 102) hx hb dX4_clash_98 (by decide) ?_
                      exact ps_top (by simp [op_clash, optI, h1, h1', c_17, cl_k, c_40, c_57, c_87]) J102
                  refine lv_aload_n hx hb dX4_clash_61 rfl (lv_at hl 4 rfl) ?_
                  refine lv_iload hx hb dX4_clash_62 (lv_at hl 1 rfl) ?_
                  refine lv_iload hx hb dX4_clash_64 (lv_at hl 0 rfl) ?_
                  refine ps_roV X hE (m_X4_clashes l hE hM hσ hO (k := i - 1) (j := j) (by omega) (by omega)) (lw_V q1536 q1538 qs53 q75 q1539) (by decide +kernel) ⟨⟨Nat.le_of_ble_eq_true rfl, Nat.le_of_ble_eq_true rfl⟩, Nat.le_of_ble_eq_true rfl, Nat.le_of_ble_eq_true rfl⟩ (ps_mrc X hM) hS hl.1 (As := [.int (nI (i - 1)), .int (nI j)]) (rest := [.int (nI (sumR (fun a => sp_ccnt σ a (σ 3 - a - 1)) i (σ 3 - i) + sumR (fun b => if sp_clash σ (i - 1) b = true then 1 else 0) (j + 1) (σ 3 - j - 1)))]) (n := 2) rfl rfl (Nat.le_of_ble_eq_true rfl) dX4_clash_66 ?_
                  refine ps_st (st' := [.int (bI (sp_clash σ (i - 1) j)), .int (nI (sumR (fun a => sp_ccnt σ a (σ 3 - a - 1)) i (σ 3 - i) + sumR (fun b => if sp_clash σ (i - 1) b = true then 1 else 0) (j + 1) (σ 3 - j - 1)))]) rfl ?_
                  refine ps_ifeqB (tgt := 76) hx hb dX4_clash_69 (by decide) (fun c_69 => ?_) (fun c_69 => ?_)
                  · skip
                    refine lv_iconst (v := nI 0) hx hb dX4_clash_76 rfl ?_
                    exact ps_top (congrArg nI (by first | rfl | (simp [op_clash, optI, h1, h1', c_17, cl_k, c_40, c_57, c_69]; done) | (simp [op_clash, optI, h1, h1', c_17, cl_k, c_40, c_57, c_69]; omega) | omega)) J77
                  · skip
                    refine lv_iconst (v := nI 1) hx hb dX4_clash_72 rfl ?_
                    refine lv_goto (tgt := 77) hx hb dX4_clash_73 (by decide) ?_
                    exact ps_top (congrArg nI (by first | rfl | (simp [op_clash, optI, h1, h1', c_17, cl_k, c_40, c_57, c_69]; done) | (simp [op_clash, optI, h1, h1', c_17, cl_k, c_40, c_57, c_69]; omega) | omega)) J77
            have e5 : (optI (fstR (fun a => sp_cfst σ a (σ 3 - a - 1)) i (σ 3 - i)) : Int32) = optI ((fstR (fun b => if sp_clash σ (i - 1) b = true then some (8 * (i - 1) + b) else none) ((σ 3 - 1) + 1) (σ 3 - (σ 3 - 1) - 1)).or (fstR (fun a => sp_cfst σ a (σ 3 - a - 1)) i (σ 3 - i))) := by rw [show σ 3 - (σ 3 - 1) - 1 = 0 by omega]; simp [fstR]
            have e6 : (nI (sumR (fun a => sp_ccnt σ a (σ 3 - a - 1)) i (σ 3 - i)) : Int32) = nI (sumR (fun a => sp_ccnt σ a (σ 3 - a - 1)) i (σ 3 - i) + sumR (fun b => if sp_clash σ (i - 1) b = true then 1 else 0) ((σ 3 - 1) + 1) (σ 3 - (σ 3 - 1) - 1)) := congrArg nI (by rw [show σ 3 - (σ 3 - 1) - 1 = 0 by omega]; simp [sumR])
            have hl : lv_has ls 6 [(5, .int (nI ((σ 3) - 1))), (4, .int (nI (i - 1))), (3, .int (optI ((fstR (fun b => if sp_clash σ (i - 1) b = true then some (8 * (i - 1) + b) else none) ((σ 3 - 1) + 1) (σ 3 - (σ 3 - 1) - 1)).or (fstR (fun a => sp_cfst σ a (σ 3 - a - 1)) i (σ 3 - i))))), (2, .int (nI (sumR (fun a => sp_ccnt σ a (σ 3 - a - 1)) i (σ 3 - i) + sumR (fun b => if sp_clash σ (i - 1) b = true then 1 else 0) ((σ 3 - 1) + 1) (σ 3 - (σ 3 - 1) - 1)))), (0, .ref (o)), (1, .int (nI k))] := ps_lv (l1 := [(5, .int (nI ((σ 3) - 1))), (4, .int (nI (i - 1))), (3, .int (optI (fstR (fun a => sp_cfst σ a (σ 3 - a - 1)) i (σ 3 - i)))), (2, .int (nI (sumR (fun a => sp_ccnt σ a (σ 3 - a - 1)) i (σ 3 - i)))), (0, .ref (o)), (1, .int (nI k))]) (lv_sub hl [0, 1, 2, 3, 4, 5] rfl) (by rw [e5, e6])
            exact L53 ((σ 3 - 1) + 1) (σ 3 - 1) (by omega) (Nat.lt_succ_self _) ls (hl)
      have e7 : ((-1000000) : Int32) = optI (fstR (fun a => sp_cfst σ a (σ 3 - a - 1)) (σ 3) (σ 3 - (σ 3))) := by rw [Nat.sub_self]; rfl
      have e8 : (nI 0 : Int32) = nI (sumR (fun a => sp_ccnt σ a (σ 3 - a - 1)) (σ 3) (σ 3 - (σ 3))) := by rw [Nat.sub_self]; rfl
      have hl : lv_has ls 6 [(4, .int (nI (σ 3) - nI 1)), (3, .int (optI (fstR (fun a => sp_cfst σ a (σ 3 - a - 1)) (σ 3) (σ 3 - (σ 3))))), (2, .int (nI (sumR (fun a => sp_ccnt σ a (σ 3 - a - 1)) (σ 3) (σ 3 - (σ 3))))), (0, .ref (o)), (1, .int (nI k))] := ps_lv (l1 := [(4, .int (nI (σ 3) - nI 1)), (3, .int ((-1000000))), (2, .int (nI 0)), (0, .ref (o)), (1, .int (nI k))]) (lv_sub hl [0, 1, 2, 3, 4] rfl) (by rw [e7, e8])
      exact L38 ((σ 3) + 1) (σ 3) (Nat.le_refl _) (Nat.lt_succ_self _) ls (hl)
    · skip
      refine lv_ldc (v := -1000001) hx hb ho (hts _ q1375) dX4_clash_20 ?_
      exact ps_iretR X dX4_clash_22 (congrArg (fun z => some (Value.int z)) (by simp [op_clash, optI, h1, h1', c_17]))
  · skip
    have h1 : ¬ 1 ≤ σ 1 := of_decide_eq_false c_4
    have h1' : σ 1 = 0 := by omega
    refine lv_ldc (v := -1000002) hx hb ho (hts _ q1463) dX4_clash_7 ?_
    exact ps_iretR X dX4_clash_9 (congrArg (fun z => some (Value.int z)) (by simp [op_clash, optI, h1']))

set_option maxHeartbeats 4000000 in
theorem m_X4_bags (l : Launch) {E : ps_E} (hE : ps_ZT E) {H : Heap} {o : Nat} {F : Nat → Int32} {A : Nat → Nat → Int32} (hM : ps_Mo E H o F A) {σ : Nat → Nat} (hσ : ps_Vw A 4 57 σ) (hO : sp_ok σ) (hT : F 4 = bI (decide (1 ≤ σ 1))) {x y : Int32} : ps_Ro l E yX4_bags cX4_bags 6 (some .int) 6 124 [.ref (o), .int (x), .int (y)] H (some (.int (op_bags σ x y))) := by
  refine ps_Ro.of (by decide) (Nat.le_of_ble_eq_true rfl) ?_
  intro p e s m args below meth c X ls hl
  have hx := X.1
  have hb := X.2.1
  have ho := X.2.2.2.1
  have hts := X.2.2.2.2.1
  have hS : va_S (ps_A E) s.heap H [] := by rw [X.2.2.2.2.2.2.2.2.1]; exact va_S.rf
  have hl : lv_has ls 6 [(0, .ref (o)), (1, .int (x)), (2, .int (y))] := hl
  have hm := hO.m
  refine lv_aload_n hx hb dX4_bags_0 rfl (lv_at hl 0 rfl) ?_
  refine ps_mget (v := .int (F 4)) X hM 4 (by decide) q1293 rfl rfl dX4_bags_1 ?_
  refine ps_top (y := bI (decide (1 ≤ σ 1))) (hT) ?_
  refine ps_ifneB (tgt := 10) hx hb dX4_bags_4 (by decide) (fun c_4 => ?_) (fun c_4 => ?_)
  · skip
    have h1 : 1 ≤ σ 1 := of_decide_eq_true c_4
    have h1' : ¬ σ 1 = 0 := by omega
    refine lv_iload_n hx hb dX4_bags_10 rfl (lv_at hl 1 rfl) ?_
    refine lv_i2l (v := (x).toInt64) hx hb dX4_bags_11 rfl ?_
    refine lv_lconst (v := lN 0) hx hb dX4_bags_12 rfl ?_
    refine lv_ldc2 (v := 200) hx hb ho (hts _ q1544) dX4_bags_13 ?_
    refine ps_roS X hE (m_X4_in l hE (H := H) (x := x) (lo := 0) (hi := 201) (lN_toInt (by decide)) (ps_hcL (k := 200) (by decide +kernel))) (lw_S q1371 q1372 q75 q1373) (by decide +kernel) ⟨⟨Nat.le_of_ble_eq_true rfl, Nat.le_of_ble_eq_true rfl⟩, Nat.le_of_ble_eq_true rfl, Nat.le_of_ble_eq_true rfl⟩ hS hl.1 (As := [.long ((x).toInt64), .long (lN 0), .long (200)]) (rest := []) (n := 3) rfl rfl (Nat.le_of_ble_eq_true rfl) dX4_bags_16 ?_
    refine ps_st (st' := [.int (bI (rng x 0 201))]) rfl ?_
    refine ps_ifeqB (tgt := 32) hx hb dX4_bags_19 (by decide) (fun c_19 => ?_) (fun c_19 => ?_)
    · skip
      refine lv_ldc (v := -1000001) hx hb ho (hts _ q1375) dX4_bags_32 ?_
      exact ps_iretR X dX4_bags_34 (congrArg (fun z => some (Value.int z)) (by simp [op_bags, h1, h1', c_19]))
    · skip
      obtain ⟨k, rfl, k_lo, k_hi, k_b⟩ := rng_t c_19
      have cl_k : (nI k).toNatClampNeg = k := nI_clamp (by omega)
      refine lv_iload_n hx hb dX4_bags_22 rfl (lv_at hl 2 rfl) ?_
      refine lv_i2l (v := (y).toInt64) hx hb dX4_bags_23 rfl ?_
      refine lv_lconst (v := lN 0) hx hb dX4_bags_24 rfl ?_
      refine lv_lconst (v := lN 1) hx hb dX4_bags_25 rfl ?_
      refine ps_roS X hE (m_X4_in l hE (H := H) (x := y) (lo := 0) (hi := 2) (lN_toInt (by decide)) (ps_hcN 1 (by decide))) (lw_S q1371 q1372 q75 q1373) (by decide +kernel) ⟨⟨Nat.le_of_ble_eq_true rfl, Nat.le_of_ble_eq_true rfl⟩, Nat.le_of_ble_eq_true rfl, Nat.le_of_ble_eq_true rfl⟩ hS hl.1 (As := [.long ((y).toInt64), .long (lN 0), .long (lN 1)]) (rest := []) (n := 3) rfl rfl (Nat.le_of_ble_eq_true rfl) dX4_bags_26 ?_
      refine ps_st (st' := [.int (bI (rng y 0 2))]) rfl ?_
      refine ps_ifneB (tgt := 35) hx hb dX4_bags_29 (by decide) (fun c_29 => ?_) (fun c_29 => ?_)
      · skip
        obtain ⟨j, rfl, j_lo, j_hi, j_b⟩ := rng_t c_29
        have cl_j : (nI j).toNatClampNeg = j := nI_clamp (by omega)
        have h2 := ps_p2 (k := σ 3) (by omega)
        refine lv_iconst (v := nI 0) hx hb dX4_bags_35 rfl ?_
        refine lv_istore_n (lv' := [(3, .int (nI 0)), (0, .ref (o)), (1, .int (nI k)), (2, .int (nI j))]) hx hb dX4_bags_36 rfl hl (by decide) rfl (fun ls hl => ?_)
        refine lv_ldc (v := -1000000) hx hb ho (hts _ q1535) dX4_bags_37 ?_
        refine lv_istore (lv' := [(4, .int ((-1000000))), (3, .int (nI 0)), (0, .ref (o)), (1, .int (nI k)), (2, .int (nI j))]) hx hb dX4_bags_39 hl (by decide) rfl (fun ls hl => ?_)
        refine lv_iconst (v := nI 0) hx hb dX4_bags_41 rfl ?_
        refine lv_istore (lv' := [(5, .int (nI 0)), (4, .int ((-1000000))), (3, .int (nI 0)), (0, .ref (o)), (1, .int (nI k)), (2, .int (nI j))]) hx hb dX4_bags_42 hl (by decide) rfl (fun ls hl => ?_)
        have L44 : ∀ (n : Nat) (u : Nat) (hu : u ≤ 2 ^ σ 3) (hmu : 2 ^ σ 3 - u < n) (ls : Array Slot) (hl : lv_has ls 6 [(5, .int (nI u)), (4, .int (optI (sp_bagB σ k u))), (3, .int (nI (sp_bagN σ k u))), (0, .ref (o)), (1, .int (nI k)), (2, .int (nI j))]), W p l e ({ frames := 6, cells := 0, slots := 0, locals := 124 } : Room) s m args below meth c H [] 0 0 (MQ below (ps_ro (some (.int (op_bags σ (nI k) (nI j))))) args s 0 0 (fun _ => False)) (F0 m 44 ls []) := by
          intro n
          induction n with
          | zero => intro u hu hmu; exact absurd hmu (Nat.not_lt_zero _)
          | succ n ih44 =>
            intro u hu hmu ls hl
            refine lv_iload hx hb dX4_bags_44 (lv_at hl 0 rfl) ?_
            refine lv_iconst (v := nI 1) hx hb dX4_bags_46 rfl ?_
            refine lv_aload_n hx hb dX4_bags_47 rfl (lv_at hl 3 rfl) ?_
            refine ps_mget (v := .ref (o + 4)) X hM 5 (by decide) q1294 rfl rfl dX4_bags_48 ?_
            refine lv_iconst (v := nI 3) hx hb dX4_bags_51 rfl ?_
            refine ps_mld (j := 3) (v := nI (σ 3)) X hM 4 (by decide) rfl (by show 3 < 57; omega) (hσ _ (by show 3 < 57; omega)) dX4_bags_52 ?_
            refine lv_ishl hx hb dX4_bags_53 ?_
            refine ps_top (y := nI (2 ^ σ 3)) (ps_shl1 (by omega)) ?_
            refine ps_cge (tgt := 112) hx hb dX4_bags_54 (by decide) (by omega) (fun c_54 => ?_) (fun c_54 => ?_)
            · skip
              have eu : u = 2 ^ σ 3 := by omega
              refine lv_iload_n hx hb dX4_bags_112 rfl (lv_at hl 5 rfl) ?_
              refine ps_ifne (tgt := 120) hx hb dX4_bags_113 (by decide) (by omega) (fun c_113 => ?_) (fun c_113 => ?_)
              · skip
                refine lv_iload hx hb dX4_bags_120 (lv_at hl 1 rfl) ?_
                exact ps_iretR X dX4_bags_122 (congrArg (fun z => some (Value.int z)) (by rw [eu]; simp [op_bags, h1, h1', c_19, cl_k, c_29, cl_j, c_54, c_113]))
              · skip
                refine lv_iload_n hx hb dX4_bags_116 rfl (lv_at hl 2 rfl) ?_
                refine lv_goto (tgt := 122) hx hb dX4_bags_117 (by decide) ?_
                exact ps_iretR X dX4_bags_122 (congrArg (fun z => some (Value.int z)) (by subst c_113; rw [eu]; simp [op_bags, h1, h1', c_19, cl_k, c_29, cl_j, c_54]))
            · skip
              have hr := sp_read_le hO (set := u)
              have ho1 := sp_ones_le u (by omega)
              refine lv_aload_n hx hb dX4_bags_57 rfl (lv_at hl 3 rfl) ?_
              refine lv_iload hx hb dX4_bags_58 (lv_at hl 0 rfl) ?_
              refine ps_roV X hE (m_X4_readOf l hE hM hσ hO (u := u) (by omega) (by omega)) (lw_V q1468 q1470 qs45 q75 q1471) (by decide +kernel) ⟨⟨Nat.le_of_ble_eq_true rfl, Nat.le_of_ble_eq_true rfl⟩, Nat.le_of_ble_eq_true rfl, Nat.le_of_ble_eq_true rfl⟩ (ps_mrc X hM) hS hl.1 (As := [.int (nI u)]) (rest := []) (n := 1) rfl rfl (Nat.le_of_ble_eq_true rfl) dX4_bags_60 ?_
              refine ps_st (st' := [.int (nI (sp_read σ u))]) rfl ?_
              refine lv_iload_n hx hb dX4_bags_63 rfl (lv_at hl 4 rfl) ?_
              refine ps_cne (tgt := 106) hx hb dX4_bags_64 (by decide) (by omega) (fun c_64 => ?_) (fun c_64 => ?_)
              · skip
                have hH : sp_hit σ k u = false := by simp [sp_hit, c_64]
                refine lv_iinc (v := nI (u + 1)) (lv' := [(5, .int (nI (u + 1))), (4, .int (optI (sp_bagB σ k u))), (3, .int (nI (sp_bagN σ k u))), (0, .ref (o)), (1, .int (nI k)), (2, .int (nI j))]) hx hb dX4_bags_106 hl (k := 0) rfl (ps_inc _) (by decide) rfl (fun ls hl => ?_)
                refine lv_goto (tgt := 44) hx hb dX4_bags_109 (by decide) ?_
                have e1 : (optI (sp_bagB σ k u) : Int32) = optI (sp_bagB σ k (u + 1)) := by rw [sp_bagB, if_neg (by rw [hH]; decide)]
                have e2 : (nI (sp_bagN σ k u) : Int32) = nI (sp_bagN σ k (u + 1)) := congrArg nI (by simp [sp_bagN, sumR, hH])
                have hl : lv_has ls 6 [(5, .int (nI (u + 1))), (4, .int (optI (sp_bagB σ k (u + 1)))), (3, .int (nI (sp_bagN σ k (u + 1)))), (0, .ref (o)), (1, .int (nI k)), (2, .int (nI j))] := ps_lv (l1 := [(5, .int (nI (u + 1))), (4, .int (optI (sp_bagB σ k u))), (3, .int (nI (sp_bagN σ k u))), (0, .ref (o)), (1, .int (nI k)), (2, .int (nI j))]) (lv_sub hl [0, 1, 2, 3, 4, 5] rfl) (by rw [e1, e2])
                exact ih44  (u + 1) (by omega) (by omega) ls (hl)
              · skip
                refine lv_aload_n hx hb dX4_bags_67 rfl (lv_at hl 3 rfl) ?_
                refine lv_iload hx hb dX4_bags_68 (lv_at hl 0 rfl) ?_
                refine ps_roV X hE (m_X4_isBag l hE hM hσ hO (u := u) (by omega)) (lw_V q1545 q1547 qs54 q75 q1548) (by decide +kernel) ⟨⟨Nat.le_of_ble_eq_true rfl, Nat.le_of_ble_eq_true rfl⟩, Nat.le_of_ble_eq_true rfl, Nat.le_of_ble_eq_true rfl⟩ (ps_mrc X hM) hS hl.1 (As := [.int (nI u)]) (rest := []) (n := 1) rfl rfl (Nat.le_of_ble_eq_true rfl) dX4_bags_70 ?_
                refine ps_st (st' := [.int (bI (sp_bag σ u))]) rfl ?_
                refine ps_ifeqB (tgt := 106) hx hb dX4_bags_73 (by decide) (fun c_73 => ?_) (fun c_73 => ?_)
                · skip
                  have hH : sp_hit σ k u = false := by simp [sp_hit, c_73]
                  refine lv_iinc (v := nI (u + 1)) (lv' := [(5, .int (nI (u + 1))), (4, .int (optI (sp_bagB σ k u))), (3, .int (nI (sp_bagN σ k u))), (0, .ref (o)), (1, .int (nI k)), (2, .int (nI j))]) hx hb dX4_bags_106 hl (k := 0) rfl (ps_inc _) (by decide) rfl (fun ls hl => ?_)
                  refine lv_goto (tgt := 44) hx hb dX4_bags_109 (by decide) ?_
                  have e3 : (optI (sp_bagB σ k u) : Int32) = optI (sp_bagB σ k (u + 1)) := by rw [sp_bagB, if_neg (by rw [hH]; decide)]
                  have e4 : (nI (sp_bagN σ k u) : Int32) = nI (sp_bagN σ k (u + 1)) := congrArg nI (by simp [sp_bagN, sumR, hH])
                  have hl : lv_has ls 6 [(5, .int (nI (u + 1))), (4, .int (optI (sp_bagB σ k (u + 1)))), (3, .int (nI (sp_bagN σ k (u + 1)))), (0, .ref (o)), (1, .int (nI k)), (2, .int (nI j))] := ps_lv (l1 := [(5, .int (nI (u + 1))), (4, .int (optI (sp_bagB σ k u))), (3, .int (nI (sp_bagN σ k u))), (0, .ref (o)), (1, .int (nI k)), (2, .int (nI j))]) (lv_sub hl [0, 1, 2, 3, 4, 5] rfl) (by rw [e3, e4])
                  exact ih44  (u + 1) (by omega) (by omega) ls (hl)
                · skip
                  have hH : sp_hit σ k u = true := by simp [sp_hit, c_64, c_73]
                  refine lv_iinc (v := nI (sp_bagN σ k u + 1)) (lv' := [(3, .int (nI (sp_bagN σ k u + 1))), (5, .int (nI u)), (4, .int (optI (sp_bagB σ k u))), (0, .ref (o)), (1, .int (nI k)), (2, .int (nI j))]) hx hb dX4_bags_76 hl (k := 2) rfl (ps_inc _) (by decide) rfl (fun ls hl => ?_)
                  have J104 : W p l e ({ frames := 6, cells := 0, slots := 0, locals := 124 } : Room) s m args below meth c H [] 0 0 (MQ below (ps_ro (some (.int (op_bags σ (nI k) (nI j))))) args s 0 0 (fun _ => False)) (F0 m 104 ls [.int (optI (sp_bagB σ k (u + 1)))]) := by
                    refine lv_istore (lv' := [(4, .int (optI (sp_bagB σ k (u + 1)))), (3, .int (nI (sp_bagN σ k u + 1))), (5, .int (nI u)), (0, .ref (o)), (1, .int (nI k)), (2, .int (nI j))]) hx hb dX4_bags_104 hl (by decide) rfl (fun ls hl => ?_)
                    refine lv_iinc (v := nI (u + 1)) (lv' := [(5, .int (nI (u + 1))), (4, .int (optI (sp_bagB σ k (u + 1)))), (3, .int (nI (sp_bagN σ k u + 1))), (0, .ref (o)), (1, .int (nI k)), (2, .int (nI j))]) hx hb dX4_bags_106 hl (k := 2) rfl (ps_inc _) (by decide) rfl (fun ls hl => ?_)
                    refine lv_goto (tgt := 44) hx hb dX4_bags_109 (by decide) ?_
                    have e5 : (nI (sp_bagN σ k u + 1) : Int32) = nI (sp_bagN σ k (u + 1)) := congrArg nI (by simp [sp_bagN, sumR, hH])
                    have hl : lv_has ls 6 [(5, .int (nI (u + 1))), (4, .int (optI (sp_bagB σ k (u + 1)))), (3, .int (nI (sp_bagN σ k (u + 1)))), (0, .ref (o)), (1, .int (nI k)), (2, .int (nI j))] := ps_lv (l1 := [(5, .int (nI (u + 1))), (4, .int (optI (sp_bagB σ k (u + 1)))), (3, .int (nI (sp_bagN σ k u + 1))), (0, .ref (o)), (1, .int (nI k)), (2, .int (nI j))]) (lv_sub hl [0, 1, 2, 3, 4, 5] rfl) (by rw [e5])
                    exact ih44  (u + 1) (by omega) (by omega) ls (hl)
                  rcases hB : sp_bagB σ k u with _ | b
                  · skip
                    have hl : lv_has ls 6 [(3, .int (nI (sp_bagN σ k u + 1))), (5, .int (nI u)), (4, .int ((-1000000))), (0, .ref (o)), (1, .int (nI k)), (2, .int (nI j))] := by rw [hB] at hl; exact hl
                    refine lv_iload hx hb dX4_bags_79 (lv_at hl 2 rfl) ?_
                    refine lv_if_lt (tgt := 97) hx hb dX4_bags_81 (by decide) (fun _ => ?_) (fun c_ => absurd c_ (by decide))
                    refine lv_iload hx hb dX4_bags_97 (lv_at hl 1 rfl) ?_
                    refine lv_goto (tgt := 104) hx hb dX4_bags_99 (by decide) ?_
                    exact ps_top (by rw [sp_bagB, if_pos hH, hB]; rfl) J104
                  · skip
                    have hl : lv_has ls 6 [(3, .int (nI (sp_bagN σ k u + 1))), (5, .int (nI u)), (4, .int (nI b)), (0, .ref (o)), (1, .int (nI k)), (2, .int (nI j))] := by rw [hB] at hl; exact hl
                    have hb0 := sp_bagB_lt hB
                    have hb1 := sp_ones_le b (by omega)
                    refine lv_iload hx hb dX4_bags_79 (lv_at hl 2 rfl) ?_
                    refine ps_iflt (tgt := 97) hx hb dX4_bags_81 (by decide) (by omega) ?_
                    refine lv_iload hx hb dX4_bags_84 (lv_at hl 1 rfl) ?_
                    refine ps_roS X hE (m_X4_ones l hE (H := H) (u := u) (by omega)) (lw_S q1549 q1550 q75 q1551) (by decide +kernel) ⟨⟨Nat.le_of_ble_eq_true rfl, Nat.le_of_ble_eq_true rfl⟩, Nat.le_of_ble_eq_true rfl, Nat.le_of_ble_eq_true rfl⟩ hS hl.1 (As := [.int (nI u)]) (rest := []) (n := 1) rfl rfl (Nat.le_of_ble_eq_true rfl) dX4_bags_86 ?_
                    refine ps_st (st' := [.int (nI (sp_ones u))]) rfl ?_
                    refine lv_iload hx hb dX4_bags_89 (lv_at hl 2 rfl) ?_
                    refine ps_roS X hE (m_X4_ones l hE (H := H) (u := b) (by omega)) (lw_S q1549 q1550 q75 q1551) (by decide +kernel) ⟨⟨Nat.le_of_ble_eq_true rfl, Nat.le_of_ble_eq_true rfl⟩, Nat.le_of_ble_eq_true rfl, Nat.le_of_ble_eq_true rfl⟩ hS hl.1 (As := [.int (nI b)]) (rest := [.int (nI (sp_ones u))]) (n := 1) rfl rfl (Nat.le_of_ble_eq_true rfl) dX4_bags_91 ?_
                    refine ps_st (st' := [.int (nI (sp_ones b)), .int (nI (sp_ones u))]) rfl ?_
                    refine ps_cge (tgt := 102) hx hb dX4_bags_94 (by decide) (by omega) (fun c_94 => ?_) (fun c_94 => ?_)
                    · skip
                      refine lv_iload hx hb dX4_bags_102 (lv_at hl 2 rfl) ?_
                      exact ps_top (by rw [sp_bagB, if_pos hH, hB]; dsimp only; rw [if_neg (by omega)]; rfl) J104
                    · skip
                      refine lv_iload hx hb dX4_bags_97 (lv_at hl 1 rfl) ?_
                      refine lv_goto (tgt := 104) hx hb dX4_bags_99 (by decide) ?_
                      exact ps_top (by rw [sp_bagB, if_pos hH, hB]; dsimp only; rw [if_pos c_94]; rfl) J104
        have e6 : ((-1000000) : Int32) = optI (sp_bagB σ k 0) := rfl
        have e7 : (nI 0 : Int32) = nI (sp_bagN σ k 0) := rfl
        have hl : lv_has ls 6 [(5, .int (nI 0)), (4, .int (optI (sp_bagB σ k 0))), (3, .int (nI (sp_bagN σ k 0))), (0, .ref (o)), (1, .int (nI k)), (2, .int (nI j))] := ps_lv (l1 := [(5, .int (nI 0)), (4, .int ((-1000000))), (3, .int (nI 0)), (0, .ref (o)), (1, .int (nI k)), (2, .int (nI j))]) (lv_sub hl [0, 1, 2, 3, 4, 5] rfl) (by rw [e6, e7])
        exact L44 ((2 ^ σ 3 - 0) + 1) 0 (Nat.zero_le _) (Nat.lt_succ_self _) ls (hl)
      · skip
        refine lv_ldc (v := -1000001) hx hb ho (hts _ q1375) dX4_bags_32 ?_
        exact ps_iretR X dX4_bags_34 (congrArg (fun z => some (Value.int z)) (by simp [op_bags, h1, h1', c_19, cl_k, c_29]))
  · skip
    have h1 : ¬ 1 ≤ σ 1 := of_decide_eq_false c_4
    have h1' : σ 1 = 0 := by omega
    refine lv_ldc (v := -1000002) hx hb ho (hts _ q1463) dX4_bags_7 ?_
    exact ps_iretR X dX4_bags_9 (congrArg (fun z => some (Value.int z)) (by simp [op_bags, h1']))

set_option maxHeartbeats 4000000 in
theorem m_X4_heaviest (l : Launch) {E : ps_E} (hE : ps_ZT E) {H : Heap} {o : Nat} {F : Nat → Int32} {A : Nat → Nat → Int32} (hM : ps_Mo E H o F A) {σ : Nat → Nat} (hσ : ps_Vw A 4 57 σ) (hO : sp_ok σ) (hT : F 4 = bI (decide (1 ≤ σ 1))) {x y : Int32} : ps_Ro l E yX4_heaviest cX4_heaviest 6 (some .int) 6 124 [.ref (o), .int (x), .int (y)] H (some (.int (op_heaviest σ x y))) := by
  refine ps_Ro.of (by decide) (Nat.le_of_ble_eq_true rfl) ?_
  intro p e s m args below meth c X ls hl
  have hx := X.1
  have hb := X.2.1
  have ho := X.2.2.2.1
  have hts := X.2.2.2.2.1
  have hS : va_S (ps_A E) s.heap H [] := by rw [X.2.2.2.2.2.2.2.2.1]; exact va_S.rf
  have hl : lv_has ls 6 [(0, .ref (o)), (1, .int (x)), (2, .int (y))] := hl
  have hm := hO.m
  refine lv_aload_n hx hb dX4_heaviest_0 rfl (lv_at hl 0 rfl) ?_
  refine ps_mget (v := .int (F 4)) X hM 4 (by decide) q1293 rfl rfl dX4_heaviest_1 ?_
  refine ps_top (y := bI (decide (1 ≤ σ 1))) (hT) ?_
  refine ps_ifneB (tgt := 10) hx hb dX4_heaviest_4 (by decide) (fun c_4 => ?_) (fun c_4 => ?_)
  · skip
    have h1 : 1 ≤ σ 1 := of_decide_eq_true c_4
    have h1' : ¬ σ 1 = 0 := by omega
    refine lv_iload_n hx hb dX4_heaviest_10 rfl (lv_at hl 1 rfl) ?_
    refine lv_i2l (v := (x).toInt64) hx hb dX4_heaviest_11 rfl ?_
    refine lv_lconst (v := lN 0) hx hb dX4_heaviest_12 rfl ?_
    refine lv_ldc2 (v := 8) hx hb ho (hts _ q1556) dX4_heaviest_13 ?_
    refine ps_roS X hE (m_X4_in l hE (H := H) (x := x) (lo := 0) (hi := 9) (lN_toInt (by decide)) (ps_hcL (k := 8) (by decide +kernel))) (lw_S q1371 q1372 q75 q1373) (by decide +kernel) ⟨⟨Nat.le_of_ble_eq_true rfl, Nat.le_of_ble_eq_true rfl⟩, Nat.le_of_ble_eq_true rfl, Nat.le_of_ble_eq_true rfl⟩ hS hl.1 (As := [.long ((x).toInt64), .long (lN 0), .long (8)]) (rest := []) (n := 3) rfl rfl (Nat.le_of_ble_eq_true rfl) dX4_heaviest_16 ?_
    refine ps_st (st' := [.int (bI (rng x 0 9))]) rfl ?_
    refine ps_ifeqB (tgt := 32) hx hb dX4_heaviest_19 (by decide) (fun c_19 => ?_) (fun c_19 => ?_)
    · skip
      refine lv_ldc (v := -1000001) hx hb ho (hts _ q1375) dX4_heaviest_32 ?_
      exact ps_iretR X dX4_heaviest_34 (congrArg (fun z => some (Value.int z)) (by simp [op_heaviest, h1, h1', c_19]))
    · skip
      obtain ⟨k, rfl, k_lo, k_hi, k_b⟩ := rng_t c_19
      have cl_k : (nI k).toNatClampNeg = k := nI_clamp (by omega)
      refine lv_iload_n hx hb dX4_heaviest_22 rfl (lv_at hl 2 rfl) ?_
      refine lv_i2l (v := (y).toInt64) hx hb dX4_heaviest_23 rfl ?_
      refine lv_lconst (v := lN 0) hx hb dX4_heaviest_24 rfl ?_
      refine lv_lconst (v := lN 1) hx hb dX4_heaviest_25 rfl ?_
      refine ps_roS X hE (m_X4_in l hE (H := H) (x := y) (lo := 0) (hi := 2) (lN_toInt (by decide)) (ps_hcN 1 (by decide))) (lw_S q1371 q1372 q75 q1373) (by decide +kernel) ⟨⟨Nat.le_of_ble_eq_true rfl, Nat.le_of_ble_eq_true rfl⟩, Nat.le_of_ble_eq_true rfl, Nat.le_of_ble_eq_true rfl⟩ hS hl.1 (As := [.long ((y).toInt64), .long (lN 0), .long (lN 1)]) (rest := []) (n := 3) rfl rfl (Nat.le_of_ble_eq_true rfl) dX4_heaviest_26 ?_
      refine ps_st (st' := [.int (bI (rng y 0 2))]) rfl ?_
      refine ps_ifneB (tgt := 35) hx hb dX4_heaviest_29 (by decide) (fun c_29 => ?_) (fun c_29 => ?_)
      · skip
        obtain ⟨j, rfl, j_lo, j_hi, j_b⟩ := rng_t c_29
        have cl_j : (nI j).toNatClampNeg = j := nI_clamp (by omega)
        have h2 := ps_p2 (k := σ 3) (by omega)
        have e1 : sp_hv σ k 1 = 0 := by simp [sp_hv]
        refine lv_iconst (v := nI 0) hx hb dX4_heaviest_35 rfl ?_
        refine lv_istore_n (lv' := [(3, .int (nI 0)), (0, .ref (o)), (1, .int (nI k)), (2, .int (nI j))]) hx hb dX4_heaviest_36 rfl hl (by decide) rfl (fun ls hl => ?_)
        refine lv_aload_n hx hb dX4_heaviest_37 rfl (lv_at hl 1 rfl) ?_
        refine lv_iconst (v := nI 0) hx hb dX4_heaviest_38 rfl ?_
        refine ps_roV X hE (m_X4_readOf l hE hM hσ hO (u := 0) (by omega) (by omega)) (lw_V q1468 q1470 qs45 q75 q1471) (by decide +kernel) ⟨⟨Nat.le_of_ble_eq_true rfl, Nat.le_of_ble_eq_true rfl⟩, Nat.le_of_ble_eq_true rfl, Nat.le_of_ble_eq_true rfl⟩ (ps_mrc X hM) hS hl.1 (As := [.int (nI 0)]) (rest := []) (n := 1) rfl rfl (Nat.le_of_ble_eq_true rfl) dX4_heaviest_39 ?_
        refine ps_st (st' := [.int (nI (sp_read σ 0))]) rfl ?_
        refine lv_istore (lv' := [(4, .int (nI (sp_read σ 0))), (3, .int (nI 0)), (0, .ref (o)), (1, .int (nI k)), (2, .int (nI j))]) hx hb dX4_heaviest_42 hl (by decide) rfl (fun ls hl => ?_)
        refine lv_iconst (v := nI 1) hx hb dX4_heaviest_44 rfl ?_
        refine lv_istore (lv' := [(5, .int (nI 1)), (4, .int (nI (sp_read σ 0))), (3, .int (nI 0)), (0, .ref (o)), (1, .int (nI k)), (2, .int (nI j))]) hx hb dX4_heaviest_45 hl (by decide) rfl (fun ls hl => ?_)
        have L47 : ∀ (n : Nat) (u : Nat) (hu : u ≤ 2 ^ σ 3) (hu1 : 1 ≤ u) (hmu : 2 ^ σ 3 - u < n) (ls : Array Slot) (hl : lv_has ls 6 [(5, .int (nI u)), (4, .int (nI (sp_read σ (sp_hv σ k u)))), (3, .int (nI (sp_hv σ k u))), (0, .ref (o)), (1, .int (nI k)), (2, .int (nI j))]), W p l e ({ frames := 6, cells := 0, slots := 0, locals := 124 } : Room) s m args below meth c H [] 0 0 (MQ below (ps_ro (some (.int (op_heaviest σ (nI k) (nI j))))) args s 0 0 (fun _ => False)) (F0 m 47 ls []) := by
          intro n
          induction n with
          | zero => intro u hu hu1 hmu; exact absurd hmu (Nat.not_lt_zero _)
          | succ n ih47 =>
            intro u hu hu1 hmu ls hl
            refine lv_iload hx hb dX4_heaviest_47 (lv_at hl 0 rfl) ?_
            refine lv_iconst (v := nI 1) hx hb dX4_heaviest_49 rfl ?_
            refine lv_aload_n hx hb dX4_heaviest_50 rfl (lv_at hl 3 rfl) ?_
            refine ps_mget (v := .ref (o + 4)) X hM 5 (by decide) q1294 rfl rfl dX4_heaviest_51 ?_
            refine lv_iconst (v := nI 3) hx hb dX4_heaviest_54 rfl ?_
            refine ps_mld (j := 3) (v := nI (σ 3)) X hM 4 (by decide) rfl (by show 3 < 57; omega) (hσ _ (by show 3 < 57; omega)) dX4_heaviest_55 ?_
            refine lv_ishl hx hb dX4_heaviest_56 ?_
            refine ps_top (y := nI (2 ^ σ 3)) (ps_shl1 (by omega)) ?_
            refine ps_cge (tgt := 106) hx hb dX4_heaviest_57 (by decide) (by omega) (fun c_57 => ?_) (fun c_57 => ?_)
            · skip
              have eu : u = 2 ^ σ 3 := by omega
              refine lv_iload_n hx hb dX4_heaviest_106 rfl (lv_at hl 5 rfl) ?_
              refine ps_ifne (tgt := 115) hx hb dX4_heaviest_107 (by decide) (by omega) (fun c_107 => ?_) (fun c_107 => ?_)
              · skip
                refine lv_iload_n hx hb dX4_heaviest_115 rfl (lv_at hl 2 rfl) ?_
                exact ps_iretR X dX4_heaviest_116 (congrArg (fun z => some (Value.int z)) (by rw [eu]; simp [op_heaviest, h1, h1', c_19, cl_k, c_29, cl_j, c_57, c_107]))
              · skip
                refine lv_iload hx hb dX4_heaviest_110 (lv_at hl 1 rfl) ?_
                refine lv_goto (tgt := 116) hx hb dX4_heaviest_112 (by decide) ?_
                exact ps_iretR X dX4_heaviest_116 (congrArg (fun z => some (Value.int z)) (by subst c_107; rw [eu]; simp [op_heaviest, h1, h1', c_19, cl_k, c_29, cl_j, c_57]))
            · skip
              have hr := sp_read_le hO (set := u)
              have hr2 := sp_read_le hO (set := sp_hv σ k u)
              have ho1 := sp_ones_le u (by omega)
              refine lv_iload hx hb dX4_heaviest_60 (lv_at hl 0 rfl) ?_
              refine ps_roS X hE (m_X4_ones l hE (H := H) (u := u) (by omega)) (lw_S q1549 q1550 q75 q1551) (by decide +kernel) ⟨⟨Nat.le_of_ble_eq_true rfl, Nat.le_of_ble_eq_true rfl⟩, Nat.le_of_ble_eq_true rfl, Nat.le_of_ble_eq_true rfl⟩ hS hl.1 (As := [.int (nI u)]) (rest := []) (n := 1) rfl rfl (Nat.le_of_ble_eq_true rfl) dX4_heaviest_62 ?_
              refine ps_st (st' := [.int (nI (sp_ones u))]) rfl ?_
              refine lv_iload_n hx hb dX4_heaviest_65 rfl (lv_at hl 4 rfl) ?_
              refine ps_cgt (tgt := 100) hx hb dX4_heaviest_66 (by decide) (by omega) (fun c_66 => ?_) (fun c_66 => ?_)
              · skip
                have hH : ¬ (sp_ones u ≤ k ∧ sp_bag σ u = true ∧ sp_read σ (sp_hv σ k u) < sp_read σ u) := fun h => by omega
                refine lv_iinc (v := nI (u + 1)) (lv' := [(5, .int (nI (u + 1))), (4, .int (nI (sp_read σ (sp_hv σ k u)))), (3, .int (nI (sp_hv σ k u))), (0, .ref (o)), (1, .int (nI k)), (2, .int (nI j))]) hx hb dX4_heaviest_100 hl (k := 0) rfl (ps_inc _) (by decide) rfl (fun ls hl => ?_)
                refine lv_goto (tgt := 47) hx hb dX4_heaviest_103 (by decide) ?_
                have e1 : (nI (sp_read σ (sp_hv σ k u)) : Int32) = nI (sp_read σ (sp_hv σ k (u + 1))) := congrArg nI (by rw [sp_hv, if_neg hH])
                have e2 : (nI (sp_hv σ k u) : Int32) = nI (sp_hv σ k (u + 1)) := congrArg nI (by rw [sp_hv, if_neg hH])
                have hl : lv_has ls 6 [(5, .int (nI (u + 1))), (4, .int (nI (sp_read σ (sp_hv σ k (u + 1))))), (3, .int (nI (sp_hv σ k (u + 1)))), (0, .ref (o)), (1, .int (nI k)), (2, .int (nI j))] := ps_lv (l1 := [(5, .int (nI (u + 1))), (4, .int (nI (sp_read σ (sp_hv σ k u)))), (3, .int (nI (sp_hv σ k u))), (0, .ref (o)), (1, .int (nI k)), (2, .int (nI j))]) (lv_sub hl [0, 1, 2, 3, 4, 5] rfl) (by rw [e1, e2])
                exact ih47  (u + 1) (by omega) (by omega) (by omega) ls (hl)
              · skip
                refine lv_aload_n hx hb dX4_heaviest_69 rfl (lv_at hl 3 rfl) ?_
                refine lv_iload hx hb dX4_heaviest_70 (lv_at hl 0 rfl) ?_
                refine ps_roV X hE (m_X4_readOf l hE hM hσ hO (u := u) (by omega) (by omega)) (lw_V q1468 q1470 qs45 q75 q1471) (by decide +kernel) ⟨⟨Nat.le_of_ble_eq_true rfl, Nat.le_of_ble_eq_true rfl⟩, Nat.le_of_ble_eq_true rfl, Nat.le_of_ble_eq_true rfl⟩ (ps_mrc X hM) hS hl.1 (As := [.int (nI u)]) (rest := []) (n := 1) rfl rfl (Nat.le_of_ble_eq_true rfl) dX4_heaviest_72 ?_
                refine ps_st (st' := [.int (nI (sp_read σ u))]) rfl ?_
                refine lv_iload hx hb dX4_heaviest_75 (lv_at hl 1 rfl) ?_
                refine ps_cle (tgt := 100) hx hb dX4_heaviest_77 (by decide) (by omega) (fun c_77 => ?_) (fun c_77 => ?_)
                · skip
                  have hH : ¬ (sp_ones u ≤ k ∧ sp_bag σ u = true ∧ sp_read σ (sp_hv σ k u) < sp_read σ u) := fun h => by omega
                  refine lv_iinc (v := nI (u + 1)) (lv' := [(5, .int (nI (u + 1))), (4, .int (nI (sp_read σ (sp_hv σ k u)))), (3, .int (nI (sp_hv σ k u))), (0, .ref (o)), (1, .int (nI k)), (2, .int (nI j))]) hx hb dX4_heaviest_100 hl (k := 0) rfl (ps_inc _) (by decide) rfl (fun ls hl => ?_)
                  refine lv_goto (tgt := 47) hx hb dX4_heaviest_103 (by decide) ?_
                  have e3 : (nI (sp_read σ (sp_hv σ k u)) : Int32) = nI (sp_read σ (sp_hv σ k (u + 1))) := congrArg nI (by rw [sp_hv, if_neg hH])
                  have e4 : (nI (sp_hv σ k u) : Int32) = nI (sp_hv σ k (u + 1)) := congrArg nI (by rw [sp_hv, if_neg hH])
                  have hl : lv_has ls 6 [(5, .int (nI (u + 1))), (4, .int (nI (sp_read σ (sp_hv σ k (u + 1))))), (3, .int (nI (sp_hv σ k (u + 1)))), (0, .ref (o)), (1, .int (nI k)), (2, .int (nI j))] := ps_lv (l1 := [(5, .int (nI (u + 1))), (4, .int (nI (sp_read σ (sp_hv σ k u)))), (3, .int (nI (sp_hv σ k u))), (0, .ref (o)), (1, .int (nI k)), (2, .int (nI j))]) (lv_sub hl [0, 1, 2, 3, 4, 5] rfl) (by rw [e3, e4])
                  exact ih47  (u + 1) (by omega) (by omega) (by omega) ls (hl)
                · skip
                  refine lv_aload_n hx hb dX4_heaviest_80 rfl (lv_at hl 3 rfl) ?_
                  refine lv_iload hx hb dX4_heaviest_81 (lv_at hl 0 rfl) ?_
                  refine ps_roV X hE (m_X4_isBag l hE hM hσ hO (u := u) (by omega)) (lw_V q1545 q1547 qs54 q75 q1548) (by decide +kernel) ⟨⟨Nat.le_of_ble_eq_true rfl, Nat.le_of_ble_eq_true rfl⟩, Nat.le_of_ble_eq_true rfl, Nat.le_of_ble_eq_true rfl⟩ (ps_mrc X hM) hS hl.1 (As := [.int (nI u)]) (rest := []) (n := 1) rfl rfl (Nat.le_of_ble_eq_true rfl) dX4_heaviest_83 ?_
                  refine ps_st (st' := [.int (bI (sp_bag σ u))]) rfl ?_
                  refine ps_ifeqB (tgt := 100) hx hb dX4_heaviest_86 (by decide) (fun c_86 => ?_) (fun c_86 => ?_)
                  · skip
                    have hH : ¬ (sp_ones u ≤ k ∧ sp_bag σ u = true ∧ sp_read σ (sp_hv σ k u) < sp_read σ u) := fun h => by rw [c_86] at h; exact absurd h.2.1 (by decide)
                    refine lv_iinc (v := nI (u + 1)) (lv' := [(5, .int (nI (u + 1))), (4, .int (nI (sp_read σ (sp_hv σ k u)))), (3, .int (nI (sp_hv σ k u))), (0, .ref (o)), (1, .int (nI k)), (2, .int (nI j))]) hx hb dX4_heaviest_100 hl (k := 0) rfl (ps_inc _) (by decide) rfl (fun ls hl => ?_)
                    refine lv_goto (tgt := 47) hx hb dX4_heaviest_103 (by decide) ?_
                    have e5 : (nI (sp_read σ (sp_hv σ k u)) : Int32) = nI (sp_read σ (sp_hv σ k (u + 1))) := congrArg nI (by rw [sp_hv, if_neg hH])
                    have e6 : (nI (sp_hv σ k u) : Int32) = nI (sp_hv σ k (u + 1)) := congrArg nI (by rw [sp_hv, if_neg hH])
                    have hl : lv_has ls 6 [(5, .int (nI (u + 1))), (4, .int (nI (sp_read σ (sp_hv σ k (u + 1))))), (3, .int (nI (sp_hv σ k (u + 1)))), (0, .ref (o)), (1, .int (nI k)), (2, .int (nI j))] := ps_lv (l1 := [(5, .int (nI (u + 1))), (4, .int (nI (sp_read σ (sp_hv σ k u)))), (3, .int (nI (sp_hv σ k u))), (0, .ref (o)), (1, .int (nI k)), (2, .int (nI j))]) (lv_sub hl [0, 1, 2, 3, 4, 5] rfl) (by rw [e5, e6])
                    exact ih47  (u + 1) (by omega) (by omega) (by omega) ls (hl)
                  · skip
                    have hH : (sp_ones u ≤ k ∧ sp_bag σ u = true ∧ sp_read σ (sp_hv σ k u) < sp_read σ u) := ⟨c_66, c_86, c_77⟩
                    refine lv_iload hx hb dX4_heaviest_89 (lv_at hl 0 rfl) ?_
                    refine lv_istore_n (lv' := [(3, .int (nI u)), (5, .int (nI u)), (4, .int (nI (sp_read σ (sp_hv σ k u)))), (0, .ref (o)), (1, .int (nI k)), (2, .int (nI j))]) hx hb dX4_heaviest_91 rfl hl (by decide) rfl (fun ls hl => ?_)
                    refine lv_aload_n hx hb dX4_heaviest_92 rfl (lv_at hl 3 rfl) ?_
                    refine lv_iload hx hb dX4_heaviest_93 (lv_at hl 1 rfl) ?_
                    refine ps_roV X hE (m_X4_readOf l hE hM hσ hO (u := u) (by omega) (by omega)) (lw_V q1468 q1470 qs45 q75 q1471) (by decide +kernel) ⟨⟨Nat.le_of_ble_eq_true rfl, Nat.le_of_ble_eq_true rfl⟩, Nat.le_of_ble_eq_true rfl, Nat.le_of_ble_eq_true rfl⟩ (ps_mrc X hM) hS hl.1 (As := [.int (nI u)]) (rest := []) (n := 1) rfl rfl (Nat.le_of_ble_eq_true rfl) dX4_heaviest_95 ?_
                    refine ps_st (st' := [.int (nI (sp_read σ u))]) rfl ?_
                    refine lv_istore (lv' := [(4, .int (nI (sp_read σ u))), (3, .int (nI u)), (5, .int (nI u)), (0, .ref (o)), (1, .int (nI k)), (2, .int (nI j))]) hx hb dX4_heaviest_98 hl (by decide) rfl (fun ls hl => ?_)
                    refine lv_iinc (v := nI (u + 1)) (lv' := [(5, .int (nI (u + 1))), (4, .int (nI (sp_read σ u))), (3, .int (nI u)), (0, .ref (o)), (1, .int (nI k)), (2, .int (nI j))]) hx hb dX4_heaviest_100 hl (k := 2) rfl (ps_inc _) (by decide) rfl (fun ls hl => ?_)
                    refine lv_goto (tgt := 47) hx hb dX4_heaviest_103 (by decide) ?_
                    have e7 : (nI (sp_read σ u) : Int32) = nI (sp_read σ (sp_hv σ k (u + 1))) := congrArg nI (by rw [sp_hv, if_pos hH])
                    have e8 : (nI u : Int32) = nI (sp_hv σ k (u + 1)) := congrArg nI (by rw [sp_hv, if_pos hH])
                    have hl : lv_has ls 6 [(5, .int (nI (u + 1))), (4, .int (nI (sp_read σ (sp_hv σ k (u + 1))))), (3, .int (nI (sp_hv σ k (u + 1)))), (0, .ref (o)), (1, .int (nI k)), (2, .int (nI j))] := ps_lv (l1 := [(5, .int (nI (u + 1))), (4, .int (nI (sp_read σ u))), (3, .int (nI u)), (0, .ref (o)), (1, .int (nI k)), (2, .int (nI j))]) (lv_sub hl [0, 1, 2, 3, 4, 5] rfl) (by rw [e7, e8])
                    exact ih47  (u + 1) (by omega) (by omega) (by omega) ls (hl)
        have e9 : (nI (sp_read σ 0) : Int32) = nI (sp_read σ (sp_hv σ k 1)) := by rw [e1]
        have e10 : (nI 0 : Int32) = nI (sp_hv σ k 1) := by rw [e1]
        have hl : lv_has ls 6 [(5, .int (nI 1)), (4, .int (nI (sp_read σ (sp_hv σ k 1)))), (3, .int (nI (sp_hv σ k 1))), (0, .ref (o)), (1, .int (nI k)), (2, .int (nI j))] := ps_lv (l1 := [(5, .int (nI 1)), (4, .int (nI (sp_read σ 0))), (3, .int (nI 0)), (0, .ref (o)), (1, .int (nI k)), (2, .int (nI j))]) (lv_sub hl [0, 1, 2, 3, 4, 5] rfl) (by rw [e9, e10])
        exact L47 ((2 ^ σ 3 - 1) + 1) 1 h2.1 (Nat.le_refl _) (Nat.lt_succ_self _) ls (hl)
      · skip
        refine lv_ldc (v := -1000001) hx hb ho (hts _ q1375) dX4_heaviest_32 ?_
        exact ps_iretR X dX4_heaviest_34 (congrArg (fun z => some (Value.int z)) (by simp [op_heaviest, h1, h1', c_19, cl_k, c_29]))
  · skip
    have h1 : ¬ 1 ≤ σ 1 := of_decide_eq_false c_4
    have h1' : σ 1 = 0 := by omega
    refine lv_ldc (v := -1000002) hx hb ho (hts _ q1463) dX4_heaviest_7 ?_
    exact ps_iretR X dX4_heaviest_9 (congrArg (fun z => some (Value.int z)) (by simp [op_heaviest, h1']))

set_option maxHeartbeats 4000000 in
theorem m_X4_worded (l : Launch) {E : ps_E} (hE : ps_ZT E) {H : Heap} {o : Nat} {F : Nat → Int32} {A : Nat → Nat → Int32} (hM : ps_Mo E H o F A) {σ : Nat → Nat} (hσ : ps_Vw A 4 57 σ) (hO : sp_ok σ) {x y : Int32} : ps_Ro l E yX4_worded cX4_worded 6 (some .int) 4 80 [.ref (o), .int (x), .int (y)] H (some (.int (op_worded σ x y))) := by
  refine ps_Ro.of (by decide) (Nat.le_of_ble_eq_true rfl) ?_
  intro p e s m args below meth c X ls hl
  have hx := X.1
  have hb := X.2.1
  have ho := X.2.2.2.1
  have hts := X.2.2.2.2.1
  have hS : va_S (ps_A E) s.heap H [] := by rw [X.2.2.2.2.2.2.2.2.1]; exact va_S.rf
  have hl : lv_has ls 6 [(0, .ref (o)), (1, .int (x)), (2, .int (y))] := hl
  have hm := hO.m
  refine lv_aload_n hx hb dX4_worded_0 rfl (lv_at hl 0 rfl) ?_
  refine lv_iload_n hx hb dX4_worded_1 rfl (lv_at hl 1 rfl) ?_
  refine ps_roV X hE (m_X4_isPromise l hE hM hσ hO (x := x)) (lw_V q1455 q1457 qs42 q75 q1458) (by decide +kernel) ⟨⟨Nat.le_of_ble_eq_true rfl, Nat.le_of_ble_eq_true rfl⟩, Nat.le_of_ble_eq_true rfl, Nat.le_of_ble_eq_true rfl⟩ (ps_mrc X hM) hS hl.1 (As := [.int (x)]) (rest := []) (n := 1) rfl rfl (Nat.le_of_ble_eq_true rfl) dX4_worded_2 ?_
  refine ps_st (st' := [.int (bI (rng x 0 (σ 3)))]) rfl ?_
  refine ps_ifeqB (tgt := 20) hx hb dX4_worded_5 (by decide) (fun c_5 => ?_) (fun c_5 => ?_)
  · skip
    refine lv_ldc (v := -1000001) hx hb ho (hts _ q1375) dX4_worded_20 ?_
    exact ps_iretR X dX4_worded_22 (congrArg (fun z => some (Value.int z)) (by simp [op_worded, c_5]; try omega))
  · skip
    obtain ⟨k, rfl, k_lo, k_hi, k_b⟩ := rng_t c_5
    have cl_k : (nI k).toNatClampNeg = k := nI_clamp (by omega)
    refine lv_iload_n hx hb dX4_worded_8 rfl (lv_at hl 2 rfl) ?_
    refine lv_i2l (v := (y).toInt64) hx hb dX4_worded_9 rfl ?_
    refine lv_lconst (v := lN 0) hx hb dX4_worded_10 rfl ?_
    refine lv_ldc2 (v := 5) hx hb ho (hts _ q1561) dX4_worded_11 ?_
    refine ps_roS X hE (m_X4_in l hE (H := H) (x := y) (lo := 0) (hi := 6) (lN_toInt (by decide)) (ps_hcL (k := 5) (by decide +kernel))) (lw_S q1371 q1372 q75 q1373) (by decide +kernel) ⟨⟨Nat.le_of_ble_eq_true rfl, Nat.le_of_ble_eq_true rfl⟩, Nat.le_of_ble_eq_true rfl, Nat.le_of_ble_eq_true rfl⟩ hS hl.1 (As := [.long ((y).toInt64), .long (lN 0), .long (5)]) (rest := []) (n := 3) rfl rfl (Nat.le_of_ble_eq_true rfl) dX4_worded_14 ?_
    refine ps_st (st' := [.int (bI (rng y 0 6))]) rfl ?_
    refine ps_ifneB (tgt := 23) hx hb dX4_worded_17 (by decide) (fun c_17 => ?_) (fun c_17 => ?_)
    · skip
      obtain ⟨j, rfl, j_lo, j_hi, j_b⟩ := rng_t c_17
      have cl_j : (nI j).toNatClampNeg = j := nI_clamp (by omega)
      refine lv_aload_n hx hb dX4_worded_23 rfl (lv_at hl 0 rfl) ?_
      refine lv_iload_n hx hb dX4_worded_24 rfl (lv_at hl 1 rfl) ?_
      refine ps_roV X hE (m_X4_isOpen l hE hM hσ hO (k := k) (by omega)) (lw_V q1459 q1461 qs43 q75 q1462) (by decide +kernel) ⟨⟨Nat.le_of_ble_eq_true rfl, Nat.le_of_ble_eq_true rfl⟩, Nat.le_of_ble_eq_true rfl, Nat.le_of_ble_eq_true rfl⟩ (ps_mrc X hM) hS hl.1 (As := [.int (nI k)]) (rest := []) (n := 1) rfl rfl (Nat.le_of_ble_eq_true rfl) dX4_worded_25 ?_
      refine ps_st (st' := [.int (bI (sp_open σ k))]) rfl ?_
      refine ps_ifneB (tgt := 34) hx hb dX4_worded_28 (by decide) (fun c_28 => ?_) (fun c_28 => ?_)
      · skip
        have hw := sp_w_le hO (k := k) (by omega)
        have J49 : W p l e ({ frames := 4, cells := 0, slots := 0, locals := 80 } : Room) s m args below meth c H [] 0 0 (MQ below (ps_ro (some (.int (op_worded σ (nI k) (nI j))))) args s 0 0 (fun _ => False)) (F0 m 49 ls [.int (nI (sp_w σ k))]) := by
          refine lv_istore_n (lv' := [(3, .int (nI (sp_w σ k))), (0, .ref (o)), (1, .int (nI k)), (2, .int (nI j))]) hx hb dX4_worded_49 rfl hl (by decide) rfl (fun ls hl => ?_)
          refine lv_iload_n hx hb dX4_worded_50 rfl (lv_at hl 3 rfl) ?_
          refine ps_ifle (tgt := 62) hx hb dX4_worded_51 (by decide) (by omega) (fun c_51 => ?_) (fun c_51 => ?_)
          · skip
            refine lv_iconst (v := nI 1) hx hb dX4_worded_62 rfl ?_
            refine lv_istore (lv' := [(4, .int (nI 1)), (3, .int (nI (sp_w σ k))), (0, .ref (o)), (1, .int (nI k)), (2, .int (nI j))]) hx hb dX4_worded_63 hl (by decide) rfl (fun ls hl => ?_)
            refine lv_iconst (v := nI 2) hx hb dX4_worded_65 rfl ?_
            refine lv_istore (lv' := [(5, .int (nI 2)), (4, .int (nI 1)), (3, .int (nI (sp_w σ k))), (0, .ref (o)), (1, .int (nI k)), (2, .int (nI j))]) hx hb dX4_worded_66 hl (by decide) rfl (fun ls hl => ?_)
            have L68 : ∀ (n : Nat) (i : Nat) (hi : i ≤ 4) (hmu : 4 - i < n) (ls : Array Slot) (hl : lv_has ls 6 [(5, .int (nI (i + 2))), (4, .int (nI (sp_wd σ k i))), (3, .int (nI (sp_w σ k))), (0, .ref (o)), (1, .int (nI k)), (2, .int (nI j))]), W p l e ({ frames := 4, cells := 0, slots := 0, locals := 80 } : Room) s m args below meth c H [] 0 0 (MQ below (ps_ro (some (.int (op_worded σ (nI k) (nI j))))) args s 0 0 (fun _ => False)) (F0 m 68 ls []) := by
              intro n
              induction n with
              | zero => intro i hi hmu; exact absurd hmu (Nat.not_lt_zero _)
              | succ n ih68 =>
                intro i hi hmu ls hl
                refine lv_iload hx hb dX4_worded_68 (lv_at hl 0 rfl) ?_
                refine lv_iconst (v := nI 5) hx hb dX4_worded_70 rfl ?_
                refine ps_cgt (tgt := 108) hx hb dX4_worded_71 (by decide) (by omega) (fun c_71 => ?_) (fun c_71 => ?_)
                · skip
                  have ei : i = 4 := by omega
                  refine lv_iload hx hb dX4_worded_108 (lv_at hl 1 rfl) ?_
                  exact ps_iretR X dX4_worded_110 (congrArg (fun z => some (Value.int z)) (by subst c_51; rw [ei]; simp [op_worded, c_5, cl_k, c_17, cl_j, c_28, c_71]))
                · skip
                  have hd := sp_wd_lt (σ := σ) (p := k) (k := i)
                  have ha1 := sp_as_le hO (p := k) (kind := i + 2) (by omega) hw
                  have ha2 := sp_as_le hO (p := k) (kind := sp_wd σ k i) (by omega) hw
                  have J100 : W p l e ({ frames := 4, cells := 0, slots := 0, locals := 80 } : Room) s m args below meth c H [] 0 0 (MQ below (ps_ro (some (.int (op_worded σ (nI k) (nI j))))) args s 0 0 (fun _ => False)) (F0 m 100 ls [.int (nI (sp_wd σ k (i + 1)))]) := by
                    refine lv_istore (lv' := [(4, .int (nI (sp_wd σ k (i + 1)))), (5, .int (nI (i + 2))), (3, .int (nI (sp_w σ k))), (0, .ref (o)), (1, .int (nI k)), (2, .int (nI j))]) hx hb dX4_worded_100 hl (by decide) rfl (fun ls hl => ?_)
                    refine lv_iinc (v := nI (i + 2 + 1)) (lv' := [(5, .int (nI (i + 2 + 1))), (4, .int (nI (sp_wd σ k (i + 1)))), (3, .int (nI (sp_w σ k))), (0, .ref (o)), (1, .int (nI k)), (2, .int (nI j))]) hx hb dX4_worded_102 hl (k := 1) rfl (ps_inc _) (by decide) rfl (fun ls hl => ?_)
                    refine lv_goto (tgt := 68) hx hb dX4_worded_105 (by decide) ?_
                    have e1 : (nI (i + 2 + 1) : Int32) = nI (i + 1 + 2) := congrArg nI (by omega)
                    have hl : lv_has ls 6 [(5, .int (nI (i + 1 + 2))), (4, .int (nI (sp_wd σ k (i + 1)))), (3, .int (nI (sp_w σ k))), (0, .ref (o)), (1, .int (nI k)), (2, .int (nI j))] := ps_lv (l1 := [(5, .int (nI (i + 2 + 1))), (4, .int (nI (sp_wd σ k (i + 1)))), (3, .int (nI (sp_w σ k))), (0, .ref (o)), (1, .int (nI k)), (2, .int (nI j))]) (lv_sub hl [0, 1, 2, 3, 4, 5] rfl) (by rw [e1])
                    exact ih68  (i + 1) (by omega) (by omega) ls (hl)
                  refine lv_aload_n hx hb dX4_worded_74 rfl (lv_at hl 3 rfl) ?_
                  refine lv_iload_n hx hb dX4_worded_75 rfl (lv_at hl 4 rfl) ?_
                  refine lv_iload hx hb dX4_worded_76 (lv_at hl 0 rfl) ?_
                  refine lv_iload_n hx hb dX4_worded_78 rfl (lv_at hl 2 rfl) ?_
                  refine ps_roV X hE (m_X4_weightAs l hE hM hσ hO (k := k) (d := i + 2) (b1 := sp_w σ k) (by omega) (by omega) (by omega)) (lw_V q1483 q1485 qs48 q75 q1486) (by decide +kernel) ⟨⟨Nat.le_of_ble_eq_true rfl, Nat.le_of_ble_eq_true rfl⟩, Nat.le_of_ble_eq_true rfl, Nat.le_of_ble_eq_true rfl⟩ (ps_mrc X hM) hS hl.1 (As := [.int (nI k), .int (nI (i + 2)), .int (nI (sp_w σ k))]) (rest := []) (n := 3) rfl rfl (Nat.le_of_ble_eq_true rfl) dX4_worded_79 ?_
                  refine ps_st (st' := [.int (nI (sp_as σ k (i + 2) (sp_w σ k)))]) rfl ?_
                  refine lv_aload_n hx hb dX4_worded_82 rfl (lv_at hl 3 rfl) ?_
                  refine lv_iload_n hx hb dX4_worded_83 rfl (lv_at hl 4 rfl) ?_
                  refine lv_iload hx hb dX4_worded_84 (lv_at hl 1 rfl) ?_
                  refine lv_iload_n hx hb dX4_worded_86 rfl (lv_at hl 2 rfl) ?_
                  refine ps_roV X hE (m_X4_weightAs l hE hM hσ hO (k := k) (d := sp_wd σ k i) (b1 := sp_w σ k) (by omega) (by omega) (by omega)) (lw_V q1483 q1485 qs48 q75 q1486) (by decide +kernel) ⟨⟨Nat.le_of_ble_eq_true rfl, Nat.le_of_ble_eq_true rfl⟩, Nat.le_of_ble_eq_true rfl, Nat.le_of_ble_eq_true rfl⟩ (ps_mrc X hM) hS hl.1 (As := [.int (nI k), .int (nI (sp_wd σ k i)), .int (nI (sp_w σ k))]) (rest := [.int (nI (sp_as σ k (i + 2) (sp_w σ k)))]) (n := 3) rfl rfl (Nat.le_of_ble_eq_true rfl) dX4_worded_87 ?_
                  refine ps_st (st' := [.int (nI (sp_as σ k (sp_wd σ k i) (sp_w σ k))), .int (nI (sp_as σ k (i + 2) (sp_w σ k)))]) rfl ?_
                  refine ps_cle (tgt := 98) hx hb dX4_worded_90 (by decide) (by omega) (fun c_90 => ?_) (fun c_90 => ?_)
                  · skip
                    refine lv_iload hx hb dX4_worded_98 (lv_at hl 1 rfl) ?_
                    exact ps_top (congrArg nI (by rw [sp_wd, if_neg (by omega)])) J100
                  · skip
                    refine lv_iload hx hb dX4_worded_93 (lv_at hl 0 rfl) ?_
                    refine lv_goto (tgt := 100) hx hb dX4_worded_95 (by decide) ?_
                    exact ps_top (congrArg nI (by rw [sp_wd, if_pos c_90])) J100
            have e2 : (nI 2 : Int32) = nI (0 + 2) := rfl
            have e3 : (nI 1 : Int32) = nI (sp_wd σ k 0) := rfl
            have hl : lv_has ls 6 [(5, .int (nI (0 + 2))), (4, .int (nI (sp_wd σ k 0))), (3, .int (nI (sp_w σ k))), (0, .ref (o)), (1, .int (nI k)), (2, .int (nI j))] := ps_lv (l1 := [(5, .int (nI 2)), (4, .int (nI 1)), (3, .int (nI (sp_w σ k))), (0, .ref (o)), (1, .int (nI k)), (2, .int (nI j))]) (lv_sub hl [0, 1, 2, 3, 4, 5] rfl) (by rw [e2, e3])
            exact L68 ((4 - 0) + 1) 0 (by omega) (Nat.lt_succ_self _) ls (hl)
          · skip
            refine lv_aload_n hx hb dX4_worded_54 rfl (lv_at hl 1 rfl) ?_
            refine lv_iload_n hx hb dX4_worded_55 rfl (lv_at hl 2 rfl) ?_
            refine lv_iload_n hx hb dX4_worded_56 rfl (lv_at hl 3 rfl) ?_
            refine lv_iload_n hx hb dX4_worded_57 rfl (lv_at hl 0 rfl) ?_
            refine ps_roV X hE (m_X4_weightAs l hE hM hσ hO (k := k) (d := j) (b1 := sp_w σ k) (by omega) (by omega) (by omega)) (lw_V q1483 q1485 qs48 q75 q1486) (by decide +kernel) ⟨⟨Nat.le_of_ble_eq_true rfl, Nat.le_of_ble_eq_true rfl⟩, Nat.le_of_ble_eq_true rfl, Nat.le_of_ble_eq_true rfl⟩ (ps_mrc X hM) hS hl.1 (As := [.int (nI k), .int (nI j), .int (nI (sp_w σ k))]) (rest := []) (n := 3) rfl rfl (Nat.le_of_ble_eq_true rfl) dX4_worded_58 ?_
            refine ps_st (st' := [.int (nI (sp_as σ k j (sp_w σ k)))]) rfl ?_
            exact ps_iretR X dX4_worded_61 (congrArg (fun z => some (Value.int z)) (by simp [op_worded, c_5, cl_k, c_17, cl_j, c_28, c_51]; try omega))
        refine lv_iload_n hx hb dX4_worded_34 rfl (lv_at hl 1 rfl) ?_
        refine ps_ifne (tgt := 42) hx hb dX4_worded_35 (by decide) (by omega) (fun c_35 => ?_) (fun c_35 => ?_)
        · skip
          refine lv_aload_n hx hb dX4_worded_42 rfl (lv_at hl 0 rfl) ?_
          refine lv_iload_n hx hb dX4_worded_43 rfl (lv_at hl 1 rfl) ?_
          refine lv_iconst (v := nI 1) hx hb dX4_worded_44 rfl ?_
          refine ps_isub hx hb dX4_worded_45 (by omega) ?_
          refine ps_roV X hE (m_X4_weightOf l hE hM hσ hO (k := k - 1) (by omega)) (lw_V q1479 q1481 qs47 q75 q1482) (by decide +kernel) ⟨⟨Nat.le_of_ble_eq_true rfl, Nat.le_of_ble_eq_true rfl⟩, Nat.le_of_ble_eq_true rfl, Nat.le_of_ble_eq_true rfl⟩ (ps_mrc X hM) hS hl.1 (As := [.int (nI (k - 1))]) (rest := []) (n := 1) rfl rfl (Nat.le_of_ble_eq_true rfl) dX4_worded_46 ?_
          refine ps_st (st' := [.int (nI (sp_w σ ((k - 1) + 1)))]) rfl ?_
          exact ps_top (congrArg nI (by rw [show k - 1 + 1 = k by omega])) J49
        · skip
          refine lv_iconst (v := nI 0) hx hb dX4_worded_38 rfl ?_
          refine lv_goto (tgt := 49) hx hb dX4_worded_39 (by decide) ?_
          exact ps_top (congrArg nI (by rw [c_35]; rfl)) J49
      · skip
        refine lv_ldc (v := -1000002) hx hb ho (hts _ q1463) dX4_worded_31 ?_
        exact ps_iretR X dX4_worded_33 (congrArg (fun z => some (Value.int z)) (by simp [op_worded, c_5, cl_k, c_17, cl_j, c_28]; try omega))
    · skip
      refine lv_ldc (v := -1000001) hx hb ho (hts _ q1375) dX4_worded_20 ?_
      exact ps_iretR X dX4_worded_22 (congrArg (fun z => some (Value.int z)) (by simp [op_worded, c_5, cl_k, c_17]; try omega))

set_option maxHeartbeats 4000000 in
theorem m_X4_prices (l : Launch) {E : ps_E} (hE : ps_ZT E) {H : Heap} {o : Nat} {F : Nat → Int32} {A : Nat → Nat → Int32} (hM : ps_Mo E H o F A) {σ : Nat → Nat} (hσ : ps_Vw A 4 57 σ) (hO : sp_ok σ) {x y : Int32} : ps_Ro l E yX4_prices cX4_prices 5 (some .int) 4 80 [.ref (o), .int (x), .int (y)] H (some (.int (op_prices σ x y))) := by
  refine ps_Ro.of (by decide) (Nat.le_of_ble_eq_true rfl) ?_
  intro p e s m args below meth c X ls hl
  have hx := X.1
  have hb := X.2.1
  have ho := X.2.2.2.1
  have hts := X.2.2.2.2.1
  have hS : va_S (ps_A E) s.heap H [] := by rw [X.2.2.2.2.2.2.2.2.1]; exact va_S.rf
  have hl : lv_has ls 5 [(0, .ref (o)), (1, .int (x)), (2, .int (y))] := hl
  have hm := hO.m
  refine lv_aload_n hx hb dX4_prices_0 rfl (lv_at hl 0 rfl) ?_
  refine lv_iload_n hx hb dX4_prices_1 rfl (lv_at hl 1 rfl) ?_
  refine ps_roV X hE (m_X4_isGiver l hE hM hσ hO (x := x)) (lw_V q1519 q1521 qs51 q75 q1522) (by decide +kernel) ⟨⟨Nat.le_of_ble_eq_true rfl, Nat.le_of_ble_eq_true rfl⟩, Nat.le_of_ble_eq_true rfl, Nat.le_of_ble_eq_true rfl⟩ (ps_mrc X hM) hS hl.1 (As := [.int (x)]) (rest := []) (n := 1) rfl rfl (Nat.le_of_ble_eq_true rfl) dX4_prices_2 ?_
  refine ps_st (st' := [.int (bI (rng x 0 (σ 2)))]) rfl ?_
  refine ps_ifeqB (tgt := 20) hx hb dX4_prices_5 (by decide) (fun c_5 => ?_) (fun c_5 => ?_)
  · skip
    refine lv_ldc (v := -1000001) hx hb ho (hts _ q1375) dX4_prices_20 ?_
    exact ps_iretR X dX4_prices_22 (congrArg (fun z => some (Value.int z)) (by simp [op_prices, c_5]))
  · skip
    obtain ⟨k, rfl, k_lo, k_hi, k_b⟩ := rng_t c_5
    have cl_k : (nI k).toNatClampNeg = k := nI_clamp (by omega)
    refine lv_iload_n hx hb dX4_prices_8 rfl (lv_at hl 2 rfl) ?_
    refine lv_i2l (v := (y).toInt64) hx hb dX4_prices_9 rfl ?_
    refine lv_lconst (v := lN 0) hx hb dX4_prices_10 rfl ?_
    refine lv_ldc2 (v := 999) hx hb ho (hts _ q1566) dX4_prices_11 ?_
    refine ps_roS X hE (m_X4_in l hE (H := H) (x := y) (lo := 0) (hi := 1000) (lN_toInt (by decide)) (ps_hcL (k := 999) (by decide +kernel))) (lw_S q1371 q1372 q75 q1373) (by decide +kernel) ⟨⟨Nat.le_of_ble_eq_true rfl, Nat.le_of_ble_eq_true rfl⟩, Nat.le_of_ble_eq_true rfl, Nat.le_of_ble_eq_true rfl⟩ hS hl.1 (As := [.long ((y).toInt64), .long (lN 0), .long (999)]) (rest := []) (n := 3) rfl rfl (Nat.le_of_ble_eq_true rfl) dX4_prices_14 ?_
    refine ps_st (st' := [.int (bI (rng y 0 1000))]) rfl ?_
    refine ps_ifneB (tgt := 23) hx hb dX4_prices_17 (by decide) (fun c_17 => ?_) (fun c_17 => ?_)
    · skip
      obtain ⟨j, rfl, j_lo, j_hi, j_b⟩ := rng_t c_17
      have cl_j : (nI j).toNatClampNeg = j := nI_clamp (by omega)
      refine lv_iconst (v := nI 0) hx hb dX4_prices_23 rfl ?_
      refine lv_istore_n (lv' := [(3, .int (nI 0)), (0, .ref (o)), (1, .int (nI k)), (2, .int (nI j))]) hx hb dX4_prices_24 rfl hl (by decide) rfl (fun ls hl => ?_)
      refine lv_iconst (v := nI 0) hx hb dX4_prices_25 rfl ?_
      refine lv_istore (lv' := [(4, .int (nI 0)), (3, .int (nI 0)), (0, .ref (o)), (1, .int (nI k)), (2, .int (nI j))]) hx hb dX4_prices_26 hl (by decide) rfl (fun ls hl => ?_)
      have L28 : ∀ (n : Nat) (i : Nat) (hi : i ≤ σ 3) (hmu : σ 3 - i < n) (ls : Array Slot) (hl : lv_has ls 5 [(4, .int (nI i)), (3, .int (nI (sp_pr σ k j i))), (0, .ref (o)), (1, .int (nI k)), (2, .int (nI j))]), W p l e ({ frames := 4, cells := 0, slots := 0, locals := 80 } : Room) s m args below meth c H [] 0 0 (MQ below (ps_ro (some (.int (op_prices σ (nI k) (nI j))))) args s 0 0 (fun _ => False)) (F0 m 28 ls []) := by
        intro n
        induction n with
        | zero => intro i hi hmu; exact absurd hmu (Nat.not_lt_zero _)
        | succ n ih28 =>
          intro i hi hmu ls hl
          refine lv_iload hx hb dX4_prices_28 (lv_at hl 0 rfl) ?_
          refine lv_aload_n hx hb dX4_prices_30 rfl (lv_at hl 2 rfl) ?_
          refine ps_mget (v := .ref (o + 4)) X hM 5 (by decide) q1294 rfl rfl dX4_prices_31 ?_
          refine lv_iconst (v := nI 3) hx hb dX4_prices_34 rfl ?_
          refine ps_mld (j := 3) (v := nI (σ 3)) X hM 4 (by decide) rfl (by show 3 < 57; omega) (hσ _ (by show 3 < 57; omega)) dX4_prices_35 ?_
          refine ps_cge (tgt := 86) hx hb dX4_prices_36 (by decide) (by omega) (fun c_36 => ?_) (fun c_36 => ?_)
          · skip
            have ei : i = σ 3 := by omega
            refine lv_iload_n hx hb dX4_prices_86 rfl (lv_at hl 1 rfl) ?_
            exact ps_iretR X dX4_prices_87 (congrArg (fun z => some (Value.int z)) (by rw [ei]; simp [op_prices, c_5, cl_k, c_17, cl_j, c_36]))
          · skip
            have hw := sp_w_le hO (k := i + 1) (by omega)
            have h5 := sp_mul (show j ≤ 999 by omega) hw
            have hp := hO.p (p := i) (by omega)
            refine lv_iload_n hx hb dX4_prices_39 rfl (lv_at hl 1 rfl) ?_
            have J78 : W p l e ({ frames := 4, cells := 0, slots := 0, locals := 80 } : Room) s m args below meth c H [] 0 0 (MQ below (ps_ro (some (.int (op_prices σ (nI k) (nI j))))) args s 0 0 (fun _ => False)) (F0 m 78 ls [.int (nI (if sp_open σ i = true ∧ σ (17 + i) = k then j * sp_w σ (i + 1) / 20 else 0)), .int (nI (sp_pr σ k j i))]) := by
              refine ps_iadd hx hb dX4_prices_78 ?_
              refine lv_istore_n (lv' := [(3, .int (nI ((sp_pr σ k j i) + (if sp_open σ i = true ∧ σ (17 + i) = k then j * sp_w σ (i + 1) / 20 else 0)))), (4, .int (nI i)), (0, .ref (o)), (1, .int (nI k)), (2, .int (nI j))]) hx hb dX4_prices_79 rfl hl (by decide) rfl (fun ls hl => ?_)
              refine lv_iinc (v := nI (i + 1)) (lv' := [(4, .int (nI (i + 1))), (3, .int (nI ((sp_pr σ k j i) + (if sp_open σ i = true ∧ σ (17 + i) = k then j * sp_w σ (i + 1) / 20 else 0)))), (0, .ref (o)), (1, .int (nI k)), (2, .int (nI j))]) hx hb dX4_prices_80 hl (k := 1) rfl (ps_inc _) (by decide) rfl (fun ls hl => ?_)
              refine lv_goto (tgt := 28) hx hb dX4_prices_83 (by decide) ?_
              have e1 : (nI ((sp_pr σ k j i) + (if sp_open σ i = true ∧ σ (17 + i) = k then j * sp_w σ (i + 1) / 20 else 0)) : Int32) = nI (sp_pr σ k j (i + 1)) := congrArg nI (by simp [sp_pr, sumR])
              have hl : lv_has ls 5 [(4, .int (nI (i + 1))), (3, .int (nI (sp_pr σ k j (i + 1)))), (0, .ref (o)), (1, .int (nI k)), (2, .int (nI j))] := ps_lv (l1 := [(4, .int (nI (i + 1))), (3, .int (nI ((sp_pr σ k j i) + (if sp_open σ i = true ∧ σ (17 + i) = k then j * sp_w σ (i + 1) / 20 else 0)))), (0, .ref (o)), (1, .int (nI k)), (2, .int (nI j))]) (lv_sub hl [0, 1, 2, 3, 4] rfl) (by rw [e1])
              exact ih28  (i + 1) (by omega) (by omega) ls (hl)
            refine lv_aload_n hx hb dX4_prices_40 rfl (lv_at hl 2 rfl) ?_
            refine lv_iload hx hb dX4_prices_41 (lv_at hl 0 rfl) ?_
            refine ps_roV X hE (m_X4_isOpen l hE hM hσ hO (k := i) (by omega)) (lw_V q1459 q1461 qs43 q75 q1462) (by decide +kernel) ⟨⟨Nat.le_of_ble_eq_true rfl, Nat.le_of_ble_eq_true rfl⟩, Nat.le_of_ble_eq_true rfl, Nat.le_of_ble_eq_true rfl⟩ (ps_mrc X hM) hS hl.1 (As := [.int (nI i)]) (rest := [.int (nI (sp_pr σ k j i))]) (n := 1) rfl rfl (Nat.le_of_ble_eq_true rfl) dX4_prices_43 ?_
            refine ps_st (st' := [.int (bI (sp_open σ i)), .int (nI (sp_pr σ k j i))]) rfl ?_
            refine ps_ifeqB (tgt := 77) hx hb dX4_prices_46 (by decide) (fun c_46 => ?_) (fun c_46 => ?_)
            · skip
              refine lv_iconst (v := nI 0) hx hb dX4_prices_77 rfl ?_
              exact ps_top (congrArg nI (by first | rfl | (simp [op_prices, c_5, cl_k, c_17, cl_j, c_36, c_46]; done) | (simp [op_prices, c_5, cl_k, c_17, cl_j, c_36, c_46]; omega) | omega)) J78
            · skip
              refine lv_aload_n hx hb dX4_prices_49 rfl (lv_at hl 2 rfl) ?_
              refine ps_mget (v := .ref (o + 4)) X hM 5 (by decide) q1294 rfl rfl dX4_prices_50 ?_
              refine lv_bipush (v := nI 17) hx hb dX4_prices_53 rfl ?_
              refine lv_iload hx hb dX4_prices_55 (lv_at hl 0 rfl) ?_
              refine ps_iadd hx hb dX4_prices_57 ?_
              refine ps_mld (j := 17 + i) (v := nI (σ (17 + i))) X hM 4 (by decide) rfl (by show 17 + i < 57; omega) (hσ _ (by show 17 + i < 57; omega)) dX4_prices_58 ?_
              refine lv_iload_n hx hb dX4_prices_59 rfl (lv_at hl 3 rfl) ?_
              refine ps_cne (tgt := 77) hx hb dX4_prices_60 (by decide) (by omega) (fun c_60 => ?_) (fun c_60 => ?_)
              · skip
                refine lv_iconst (v := nI 0) hx hb dX4_prices_77 rfl ?_
                exact ps_top (congrArg nI (by first | rfl | (simp [op_prices, c_5, cl_k, c_17, cl_j, c_36, c_46, c_60]; done) | (simp [op_prices, c_5, cl_k, c_17, cl_j, c_36, c_46, c_60]; omega) | omega)) J78
              · skip
                refine lv_iload_n hx hb dX4_prices_63 rfl (lv_at hl 4 rfl) ?_
                refine lv_aload_n hx hb dX4_prices_64 rfl (lv_at hl 2 rfl) ?_
                refine lv_iload hx hb dX4_prices_65 (lv_at hl 0 rfl) ?_
                refine ps_roV X hE (m_X4_weightOf l hE hM hσ hO (k := i) (by omega)) (lw_V q1479 q1481 qs47 q75 q1482) (by decide +kernel) ⟨⟨Nat.le_of_ble_eq_true rfl, Nat.le_of_ble_eq_true rfl⟩, Nat.le_of_ble_eq_true rfl, Nat.le_of_ble_eq_true rfl⟩ (ps_mrc X hM) hS hl.1 (As := [.int (nI i)]) (rest := [.int (nI j), .int (nI (sp_pr σ k j i))]) (n := 1) rfl rfl (Nat.le_of_ble_eq_true rfl) dX4_prices_67 ?_
                refine ps_st (st' := [.int (nI (sp_w σ (i + 1))), .int (nI j), .int (nI (sp_pr σ k j i))]) rfl ?_
                refine ps_imul hx hb dX4_prices_70 ?_
                refine lv_bipush (v := nI 20) hx hb dX4_prices_71 rfl ?_
                refine ps_idiv hx hb dX4_prices_73 (by omega) ?_
                refine lv_goto (tgt := 78) hx hb dX4_prices_74 (by decide) ?_
                exact ps_top (congrArg nI (by first | rfl | (simp [op_prices, c_5, cl_k, c_17, cl_j, c_36, c_46, c_60]; done) | (simp [op_prices, c_5, cl_k, c_17, cl_j, c_36, c_46, c_60]; omega) | omega)) J78
      have e2 : (nI 0 : Int32) = nI (sp_pr σ k j 0) := rfl
      have hl : lv_has ls 5 [(4, .int (nI 0)), (3, .int (nI (sp_pr σ k j 0))), (0, .ref (o)), (1, .int (nI k)), (2, .int (nI j))] := ps_lv (l1 := [(4, .int (nI 0)), (3, .int (nI 0)), (0, .ref (o)), (1, .int (nI k)), (2, .int (nI j))]) (lv_sub hl [0, 1, 2, 3, 4] rfl) (by rw [e2])
      exact L28 ((σ 3 - 0) + 1) 0 (Nat.zero_le _) (Nat.lt_succ_self _) ls (hl)
    · skip
      refine lv_ldc (v := -1000001) hx hb ho (hts _ q1375) dX4_prices_20 ?_
      exact ps_iretR X dX4_prices_22 (congrArg (fun z => some (Value.int z)) (by simp [op_prices, c_5, cl_k, c_17]))
