/-! what is found (printed by gen/comp22.py) -/
set_option maxRecDepth 100000
set_option maxHeartbeats 4000000 in
theorem m_X0_isSo (l : Launch) {E : ps_E} (hE : ps_ZT E) {z : Nat} (hZ : ps_Zk E z) {Γ : ps_Gh} {H : Heap} (hW : ps_W E Γ H) {x tr : Nat} {N : Nat → Nat} (hX : Γ x = some (ps_xo x tr N)) {σ : Nat → Nat} {smc : Int32} {sr : Nat} {pf : Nat → Nat} {kf tf : Nat → Int32} {df : Nat → Option Nat} (hD : ps_Sd E z Γ (x + 11) σ smc sr pf kf tf df) (hO : sp_ok σ) {a u1 q1 : Nat} {ga it : Nat → Int32} (hB : Γ a = some (.inl (E.2.1 0, 2 * u1, .inl ga))) (hg : ∀ i, i < 2 * u1 → ga i = it (q1 + i)) (hu1 : u1 ≤ 20) (hR : ∀ k, k < u1 → rng (it (q1 + 2 * k)) 0 (2 ^ σ 3) = true) {x1 y1 : Nat} (hx1 : x1 < 500) (hy1 : 0 < y1 ∧ y1 < 1000) : ps_Ro l E yX0_isSo cX0_isSo 5 (some .boolean) 22 664 [.ref (x), .ref (a), .int (nI x1), .int (nI y1)] H (some (.int (bI (sp_so σ it q1 x1 y1 u1)))) := by
  refine ps_Ro.of (by decide) (Nat.le_of_ble_eq_true rfl) ?_
  intro p e s m args below meth c X ls hl
  have hx := X.1
  have hb := X.2.1
  have ho := X.2.2.2.1
  have hts := X.2.2.2.2.1
  have hS : va_S (ps_A E) s.heap H [] := by rw [X.2.2.2.2.2.2.2.2.1]; exact va_S.rf
  have hl : lv_has ls 5 [(0, .ref (x)), (1, .ref (a)), (2, .int (nI x1)), (3, .int (nI y1))] := hl
  have hm := hO.m
  refine lv_iconst (v := nI 0) hx hb dX0_isSo_0 rfl ?_
  refine lv_istore (lv' := [(4, .int (nI 0)), (0, .ref (x)), (1, .ref (a)), (2, .int (nI x1)), (3, .int (nI y1))]) hx hb dX0_isSo_1 hl (by decide) rfl (fun ls hl => ?_)
  have L3 : ∀ (n : Nat) (j : Nat) (hj : j ≤ u1) (hal : sp_so σ it q1 x1 y1 j = true) (hmu : u1 - j < n) (ls : Array Slot) (hl : lv_has ls 5 [(4, .int (nI (2 * j))), (0, .ref (x)), (1, .ref (a)), (2, .int (nI x1)), (3, .int (nI y1))]), W p l e ({ frames := 22, cells := 0, slots := 0, locals := 664 } : Room) s m args below meth c H [] 0 0 (MQ below (ps_ro (some (.int (bI (sp_so σ it q1 x1 y1 u1))))) args s 0 0 (fun _ => False)) (F0 m 3 ls []) := by
    intro n
    induction n with
    | zero => intro j hj hal hmu; exact absurd hmu (Nat.not_lt_zero _)
    | succ n ih3 =>
      intro j hj hal hmu ls hl
      refine lv_iload hx hb dX0_isSo_3 (lv_at hl 0 rfl) ?_
      refine lv_aload_n hx hb dX0_isSo_5 rfl (lv_at hl 2 rfl) ?_
      refine ps_alen (t := 0) (n := 2 * u1) X rfl (hW.at hB) rfl dX0_isSo_6 ?_
      refine ps_cge (tgt := 43) hx hb dX0_isSo_7 (by decide) (by omega) (fun c_7 => ?_) (fun c_7 => ?_)
      · skip
        refine lv_iconst (v := nI 1) hx hb dX0_isSo_43 rfl ?_
        exact ps_zretR (b := sp_so σ it q1 x1 y1 u1) X dX0_isSo_44 ((bI_is1 (by rw [show u1 = j by omega]; exact hal))) rfl
      · skip
        obtain ⟨sx, hsx, sx0, sx1, sx2⟩ := rng_t (hR j (by omega))
        have hp2 := ps_p2 (k := σ 3) (by omega)
        have hsm := sp_sum_le hO (set := sx) (k := σ 3) (Nat.le_refl _)
        have cl_sx : (nI sx).toNatClampNeg = sx := nI_clamp (by omega)
        refine lv_aload_n hx hb dX0_isSo_10 rfl (lv_at hl 1 rfl) ?_
        refine ps_get (v := .ref (x + 11)) X in_X0 (ci := 0) rfl 4 (by decide) q216 rfl (hW.at hX) rfl dX0_isSo_11 ?_
        refine lv_aload_n hx hb dX0_isSo_14 rfl (lv_at hl 2 rfl) ?_
        refine lv_iload hx hb dX0_isSo_15 (lv_at hl 0 rfl) ?_
        refine ps_iald (j := 2 * j) X (hW.at hB) rfl (by show 2 * j < 2 * u1; omega) (by first | decide | omega) dX0_isSo_17 ?_
        refine ps_top (y := nI sx) ((hg _ (by omega)).trans hsx) ?_
        refine ps_roV X hE (m_X2_weightOf l hE hZ hW hD hO (u := sx) (by omega)) (lw_V q1073 q877 q878 q70 q879) (by decide +kernel) ⟨⟨Nat.le_of_ble_eq_true rfl, Nat.le_of_ble_eq_true rfl⟩, Nat.le_of_ble_eq_true rfl, Nat.le_of_ble_eq_true rfl⟩ (ps_rc X (ci := 2) rfl (hW.at hD.1)) hS hl.1 (As := [.int (nI sx)]) (rest := []) (n := 1) rfl rfl (Nat.le_of_ble_eq_true rfl) dX0_isSo_18 ?_
        refine ps_st (st' := [.int (nI (sp_sum σ sx (σ 3)))]) rfl ?_
        refine lv_iload_n hx hb dX0_isSo_21 rfl (lv_at hl 3 rfl) ?_
        refine lv_iload_n hx hb dX0_isSo_22 rfl (lv_at hl 4 rfl) ?_
        refine ps_roS X hE (m_X0_readsBy l hE (H := H) (u := sp_sum σ sx (σ 3)) (x := x1) (y := y1) (by omega) (by omega) (by omega)) (lw_S q1074 q918 q68 q919) (by decide +kernel) ⟨⟨Nat.le_of_ble_eq_true rfl, Nat.le_of_ble_eq_true rfl⟩, Nat.le_of_ble_eq_true rfl, Nat.le_of_ble_eq_true rfl⟩ hS hl.1 (As := [.int (nI (sp_sum σ sx (σ 3))), .int (nI x1), .int (nI y1)]) (rest := []) (n := 3) rfl rfl (Nat.le_of_ble_eq_true rfl) dX0_isSo_23 ?_
        refine ps_st (st' := [.int (nI (sp_by (sp_sum σ sx (σ 3)) x1 y1))]) rfl ?_
        refine lv_aload_n hx hb dX0_isSo_26 rfl (lv_at hl 2 rfl) ?_
        refine lv_iload hx hb dX0_isSo_27 (lv_at hl 0 rfl) ?_
        refine lv_iconst (v := nI 1) hx hb dX0_isSo_29 rfl ?_
        refine ps_iadd hx hb dX0_isSo_30 ?_
        refine ps_iald (j := (2 * j) + 1) X (hW.at hB) rfl (by show (2 * j) + 1 < 2 * u1; omega) (by first | decide | omega) dX0_isSo_31 ?_
        refine ps_top (y := it (q1 + 2 * j + 1)) (hg _ (by omega)) ?_
        refine lv_icmp_eq (tgt := 37) hx hb dX0_isSo_32 (by decide) (fun c_32 => ?_) (fun c_32 => ?_)
        · skip
          refine lv_iinc (v := nI (2 * j + 2)) (lv' := [(4, .int (nI (2 * j + 2))), (0, .ref (x)), (1, .ref (a)), (2, .int (nI x1)), (3, .int (nI y1))]) hx hb dX0_isSo_37 hl (k := 0) rfl (nI_add _ 2) (by decide) rfl (fun ls hl => ?_)
          refine lv_goto (tgt := 3) hx hb dX0_isSo_40 (by decide) ?_
          have hl : lv_has ls 5 [(4, .int (nI (2 * (j + 1)))), (0, .ref (x)), (1, .ref (a)), (2, .int (nI x1)), (3, .int (nI y1))] := lv_sub hl [0, 1, 2, 3, 4] rfl
          exact ih3  (j + 1) (by omega) (by rw [sp_so, allR, show allR _ 0 j = true from hal]; simp [hsx, cl_sx, c_32]) (by omega) ls (hl)
        · skip
          refine lv_iconst (v := nI 0) hx hb dX0_isSo_35 rfl ?_
          exact ps_zretR (b := sp_so σ it q1 x1 y1 u1) X dX0_isSo_36 ((bI_is0 (by exact Bool.eq_false_iff.mpr (fun z9 => by have h9 := (allR_iff _ _ _).mp z9 j (by omega); simp [hsx, cl_sx, c_32] at h9)))) rfl
  have hl : lv_has ls 5 [(4, .int (nI (2 * 0))), (0, .ref (x)), (1, .ref (a)), (2, .int (nI x1)), (3, .int (nI y1))] := lv_sub hl [0, 1, 2, 3, 4] rfl
  exact L3 ((u1 - 0) + 1) 0 (by omega) rfl (Nat.lt_succ_self _) ls (hl)

set_option maxHeartbeats 4000000 in
theorem m_X0_foundBy (l : Launch) {E : ps_E} (hE : ps_ZT E) {z : Nat} (hZ : ps_Zk E z) {Γ : ps_Gh} {H : Heap} (hW : ps_W E Γ H) {x tr : Nat} {N : Nat → Nat} (hX : Γ x = some (ps_xo x tr N)) {σ : Nat → Nat} {smc : Int32} {sr : Nat} {pf : Nat → Nat} {kf tf : Nat → Int32} {df : Nat → Option Nat} (hD : ps_Sd E z Γ (x + 11) σ smc sr pf kf tf df) (hO : sp_ok σ) {a u1 q1 : Nat} {ga it : Nat → Int32} (hB : Γ a = some (.inl (E.2.1 0, 2 * u1, .inl ga))) (hg : ∀ i, i < 2 * u1 → ga i = it (q1 + i)) (hu1 : u1 ≤ 20) (hR : ∀ k, k < u1 → rng (it (q1 + 2 * k)) 0 (2 ^ σ 3) = true) {t1 : Nat} (h1 : 1 ≤ σ 1) (ht1 : t1 < 2) : ps_Ro l E yX0_foundBy cX0_foundBy 5 (some .int) 23 688 [.ref (x), .ref (a), .int (nI t1)] H (some (.int (nI (if t1 = 0 then orR (fun k => sp_so σ it q1 k (σ 1) u1) 10 else orR (fun k => sp_so σ it q1 (σ 0) (k + 1) u1) 5)))) := by
  refine ps_Ro.of (by decide) (Nat.le_of_ble_eq_true rfl) ?_
  intro p e s m args below meth c X ls hl
  have hx := X.1
  have hb := X.2.1
  have ho := X.2.2.2.1
  have hts := X.2.2.2.2.1
  have hS : va_S (ps_A E) s.heap H [] := by rw [X.2.2.2.2.2.2.2.2.1]; exact va_S.rf
  have hl : lv_has ls 5 [(0, .ref (x)), (1, .ref (a)), (2, .int (nI t1))] := hl
  have hm := hO.m
  refine lv_iconst (v := nI 0) hx hb dX0_foundBy_0 rfl ?_
  refine lv_istore_n (lv' := [(3, .int (nI 0)), (0, .ref (x)), (1, .ref (a)), (2, .int (nI t1))]) hx hb dX0_foundBy_1 rfl hl (by decide) rfl (fun ls hl => ?_)
  refine lv_iload_n hx hb dX0_foundBy_2 rfl (lv_at hl 3 rfl) ?_
  refine ps_ifne (tgt := 52) hx hb dX0_foundBy_3 (by decide) (by omega) (fun c_3 => ?_) (fun c_3 => ?_)
  · skip
    refine lv_iconst (v := nI 1) hx hb dX0_foundBy_52 rfl ?_
    refine lv_istore (lv' := [(4, .int (nI 1)), (3, .int (nI 0)), (0, .ref (x)), (1, .ref (a)), (2, .int (nI t1))]) hx hb dX0_foundBy_53 hl (by decide) rfl (fun ls hl => ?_)
    have L55 : ∀ (n : Nat) (i : Nat) (hi : i ≤ 5) (hmu : 5 - i < n) (ls : Array Slot) (hl : lv_has ls 5 [(4, .int (nI (i + 1))), (3, .int (nI (orR (fun k => sp_so σ it q1 (σ 0) (k + 1) u1) i))), (0, .ref (x)), (1, .ref (a)), (2, .int (nI t1))]), W p l e ({ frames := 23, cells := 0, slots := 0, locals := 688 } : Room) s m args below meth c H [] 0 0 (MQ below (ps_ro (some (.int (nI (if t1 = 0 then orR (fun k => sp_so σ it q1 k (σ 1) u1) 10 else orR (fun k => sp_so σ it q1 (σ 0) (k + 1) u1) 5))))) args s 0 0 (fun _ => False)) (F0 m 55 ls []) := by
      intro n
      induction n with
      | zero => intro i hi hmu; exact absurd hmu (Nat.not_lt_zero _)
      | succ n ih55 =>
        intro i hi hmu ls hl
        refine lv_iload hx hb dX0_foundBy_55 (lv_at hl 0 rfl) ?_
        refine lv_iconst (v := nI 5) hx hb dX0_foundBy_57 rfl ?_
        refine ps_cgt (tgt := 97) hx hb dX0_foundBy_58 (by decide) (by omega) (fun c_58 => ?_) (fun c_58 => ?_)
        · skip
          refine lv_iload_n hx hb dX0_foundBy_97 rfl (lv_at hl 1 rfl) ?_
          exact ps_iretR X dX0_foundBy_98 (congrArg (fun z => some (Value.int z)) (congrArg nI (by rw [if_neg c_3, show i = 5 by omega])))
        · skip
          refine lv_iload_n hx hb dX0_foundBy_61 rfl (lv_at hl 1 rfl) ?_
          refine lv_aload_n hx hb dX0_foundBy_62 rfl (lv_at hl 2 rfl) ?_
          refine lv_aload_n hx hb dX0_foundBy_63 rfl (lv_at hl 3 rfl) ?_
          refine lv_aload_n hx hb dX0_foundBy_64 rfl (lv_at hl 2 rfl) ?_
          refine ps_get (v := .ref (x + 11)) X in_X0 (ci := 0) rfl 4 (by decide) q216 rfl (hW.at hX) rfl dX0_foundBy_65 ?_
          refine ps_get (v := .int (nI (σ 0))) X in_X2 (ci := 2) rfl 0 (by decide) q164 rfl (hW.at hD.1) rfl dX0_foundBy_68 ?_
          refine lv_iload hx hb dX0_foundBy_71 (lv_at hl 0 rfl) ?_
          refine ps_roV X hE (m_X0_isSo l hE hZ hW hX hD hO hB hg (by omega) hR (x1 := σ 0) (y1 := i + 1) (by omega) (by omega)) (lw_V q1069 q1071 qs29 q68 q1072) (by decide +kernel) ⟨⟨Nat.le_of_ble_eq_true rfl, Nat.le_of_ble_eq_true rfl⟩, Nat.le_of_ble_eq_true rfl, Nat.le_of_ble_eq_true rfl⟩ (ps_rc X (ci := 0) rfl (hW.at hX)) hS hl.1 (As := [.ref (a), .int (nI (σ 0)), .int (nI (i + 1))]) (rest := [.int (nI (orR (fun k => sp_so σ it q1 (σ 0) (k + 1) u1) i))]) (n := 3) rfl rfl (Nat.le_of_ble_eq_true rfl) dX0_foundBy_73 ?_
          refine ps_st (st' := [.int (bI (sp_so σ it q1 (σ 0) (i + 1) u1)), .int (nI (orR (fun k => sp_so σ it q1 (σ 0) (k + 1) u1) i))]) rfl ?_
          have J89 : W p l e ({ frames := 23, cells := 0, slots := 0, locals := 688 } : Room) s m args below meth c H [] 0 0 (MQ below (ps_ro (some (.int (nI (if t1 = 0 then orR (fun k => sp_so σ it q1 k (σ 1) u1) 10 else orR (fun k => sp_so σ it q1 (σ 0) (k + 1) u1) 5))))) args s 0 0 (fun _ => False)) (F0 m 89 ls [.int (nI (if sp_so σ it q1 (σ 0) (i + 1) u1 = true then 2 ^ i else 0)), .int (nI (orR (fun k => sp_so σ it q1 (σ 0) (k + 1) u1) i))]) := by
            refine lv_ior hx hb dX0_foundBy_89 ?_
            refine ps_top (y := nI ((orR (fun k => sp_so σ it q1 (σ 0) (k + 1) u1) i) ||| (if sp_so σ it q1 (σ 0) (i + 1) u1 = true then 2 ^ i else 0))) (nI_or _ _) ?_
            refine lv_istore_n (lv' := [(3, .int (nI ((orR (fun k => sp_so σ it q1 (σ 0) (k + 1) u1) i) ||| (if sp_so σ it q1 (σ 0) (i + 1) u1 = true then 2 ^ i else 0)))), (4, .int (nI (i + 1))), (0, .ref (x)), (1, .ref (a)), (2, .int (nI t1))]) hx hb dX0_foundBy_90 rfl hl (by decide) rfl (fun ls hl => ?_)
            refine lv_iinc (v := nI (i + 1 + 1)) (lv' := [(4, .int (nI (i + 1 + 1))), (3, .int (nI ((orR (fun k => sp_so σ it q1 (σ 0) (k + 1) u1) i) ||| (if sp_so σ it q1 (σ 0) (i + 1) u1 = true then 2 ^ i else 0)))), (0, .ref (x)), (1, .ref (a)), (2, .int (nI t1))]) hx hb dX0_foundBy_91 hl (k := 1) rfl (ps_inc _) (by decide) rfl (fun ls hl => ?_)
            refine lv_goto (tgt := 55) hx hb dX0_foundBy_94 (by decide) ?_
            have hl : lv_has ls 5 [(4, .int (nI (i + 1 + 1))), (3, .int (nI (orR (fun k => sp_so σ it q1 (σ 0) (k + 1) u1) (i + 1)))), (0, .ref (x)), (1, .ref (a)), (2, .int (nI t1))] := lv_sub hl [0, 1, 2, 3, 4] rfl
            exact ih55  (i + 1) (by omega) (by omega) ls (hl)
          refine ps_ifeqB (tgt := 88) hx hb dX0_foundBy_76 (by decide) (fun c_76 => ?_) (fun c_76 => ?_)
          · skip
            refine lv_iconst (v := nI 0) hx hb dX0_foundBy_88 rfl ?_
            exact ps_top (congrArg nI (by first | rfl | (simp [c_3, c_58, c_76]; done) | (simp [c_3, c_58, c_76]; omega) | omega)) J89
          · skip
            refine lv_iconst (v := nI 1) hx hb dX0_foundBy_79 rfl ?_
            refine lv_iload hx hb dX0_foundBy_80 (lv_at hl 0 rfl) ?_
            refine lv_iconst (v := nI 1) hx hb dX0_foundBy_82 rfl ?_
            refine lv_isub hx hb dX0_foundBy_83 ?_
            refine ps_top (y := nI i) ((ps_succ1 i)) ?_
            refine lv_ishl hx hb dX0_foundBy_84 ?_
            refine ps_top (y := nI (2 ^ i)) (ps_shl1 (by omega)) ?_
            refine lv_goto (tgt := 89) hx hb dX0_foundBy_85 (by decide) ?_
            exact ps_top (congrArg nI (by first | rfl | (simp [c_3, c_58, c_76]; done) | (simp [c_3, c_58, c_76]; omega) | omega)) J89
    have hl : lv_has ls 5 [(4, .int (nI (0 + 1))), (3, .int (nI (orR (fun k => sp_so σ it q1 (σ 0) (k + 1) u1) 0))), (0, .ref (x)), (1, .ref (a)), (2, .int (nI t1))] := lv_sub hl [0, 1, 2, 3, 4] rfl
    exact L55 ((5 - 0) + 1) 0 (by omega) (Nat.lt_succ_self _) ls (hl)
  · skip
    refine lv_iconst (v := nI 0) hx hb dX0_foundBy_6 rfl ?_
    refine lv_istore (lv' := [(4, .int (nI 0)), (3, .int (nI 0)), (0, .ref (x)), (1, .ref (a)), (2, .int (nI t1))]) hx hb dX0_foundBy_7 hl (by decide) rfl (fun ls hl => ?_)
    have L9 : ∀ (n : Nat) (i : Nat) (hi : i ≤ 10) (hmu : 10 - i < n) (ls : Array Slot) (hl : lv_has ls 5 [(4, .int (nI i)), (3, .int (nI (orR (fun k => sp_so σ it q1 k (σ 1) u1) i))), (0, .ref (x)), (1, .ref (a)), (2, .int (nI t1))]), W p l e ({ frames := 23, cells := 0, slots := 0, locals := 688 } : Room) s m args below meth c H [] 0 0 (MQ below (ps_ro (some (.int (nI (if t1 = 0 then orR (fun k => sp_so σ it q1 k (σ 1) u1) 10 else orR (fun k => sp_so σ it q1 (σ 0) (k + 1) u1) 5))))) args s 0 0 (fun _ => False)) (F0 m 9 ls []) := by
      intro n
      induction n with
      | zero => intro i hi hmu; exact absurd hmu (Nat.not_lt_zero _)
      | succ n ih9 =>
        intro i hi hmu ls hl
        refine lv_iload hx hb dX0_foundBy_9 (lv_at hl 0 rfl) ?_
        refine lv_bipush (v := nI 9) hx hb dX0_foundBy_11 rfl ?_
        refine ps_cgt (tgt := 50) hx hb dX0_foundBy_13 (by decide) (by omega) (fun c_13 => ?_) (fun c_13 => ?_)
        · skip
          refine lv_iload_n hx hb dX0_foundBy_50 rfl (lv_at hl 1 rfl) ?_
          exact ps_iretR X dX0_foundBy_51 (congrArg (fun z => some (Value.int z)) (congrArg nI (by rw [if_pos c_3, show i = 10 by omega])))
        · skip
          refine lv_iload_n hx hb dX0_foundBy_16 rfl (lv_at hl 1 rfl) ?_
          refine lv_aload_n hx hb dX0_foundBy_17 rfl (lv_at hl 2 rfl) ?_
          refine lv_aload_n hx hb dX0_foundBy_18 rfl (lv_at hl 3 rfl) ?_
          refine lv_iload hx hb dX0_foundBy_19 (lv_at hl 0 rfl) ?_
          refine lv_aload_n hx hb dX0_foundBy_21 rfl (lv_at hl 2 rfl) ?_
          refine ps_get (v := .ref (x + 11)) X in_X0 (ci := 0) rfl 4 (by decide) q216 rfl (hW.at hX) rfl dX0_foundBy_22 ?_
          refine ps_get (v := .int (nI (σ 1))) X in_X2 (ci := 2) rfl 1 (by decide) q167 rfl (hW.at hD.1) rfl dX0_foundBy_25 ?_
          refine ps_roV X hE (m_X0_isSo l hE hZ hW hX hD hO hB hg (by omega) hR (x1 := i) (y1 := σ 1) (by omega) (by omega)) (lw_V q1069 q1071 qs29 q68 q1072) (by decide +kernel) ⟨⟨Nat.le_of_ble_eq_true rfl, Nat.le_of_ble_eq_true rfl⟩, Nat.le_of_ble_eq_true rfl, Nat.le_of_ble_eq_true rfl⟩ (ps_rc X (ci := 0) rfl (hW.at hX)) hS hl.1 (As := [.ref (a), .int (nI i), .int (nI (σ 1))]) (rest := [.int (nI (orR (fun k => sp_so σ it q1 k (σ 1) u1) i))]) (n := 3) rfl rfl (Nat.le_of_ble_eq_true rfl) dX0_foundBy_28 ?_
          refine ps_st (st' := [.int (bI (sp_so σ it q1 i (σ 1) u1)), .int (nI (orR (fun k => sp_so σ it q1 k (σ 1) u1) i))]) rfl ?_
          have J42 : W p l e ({ frames := 23, cells := 0, slots := 0, locals := 688 } : Room) s m args below meth c H [] 0 0 (MQ below (ps_ro (some (.int (nI (if t1 = 0 then orR (fun k => sp_so σ it q1 k (σ 1) u1) 10 else orR (fun k => sp_so σ it q1 (σ 0) (k + 1) u1) 5))))) args s 0 0 (fun _ => False)) (F0 m 42 ls [.int (nI (if sp_so σ it q1 i (σ 1) u1 = true then 2 ^ i else 0)), .int (nI (orR (fun k => sp_so σ it q1 k (σ 1) u1) i))]) := by
            refine lv_ior hx hb dX0_foundBy_42 ?_
            refine ps_top (y := nI ((orR (fun k => sp_so σ it q1 k (σ 1) u1) i) ||| (if sp_so σ it q1 i (σ 1) u1 = true then 2 ^ i else 0))) (nI_or _ _) ?_
            refine lv_istore_n (lv' := [(3, .int (nI ((orR (fun k => sp_so σ it q1 k (σ 1) u1) i) ||| (if sp_so σ it q1 i (σ 1) u1 = true then 2 ^ i else 0)))), (4, .int (nI i)), (0, .ref (x)), (1, .ref (a)), (2, .int (nI t1))]) hx hb dX0_foundBy_43 rfl hl (by decide) rfl (fun ls hl => ?_)
            refine lv_iinc (v := nI (i + 1)) (lv' := [(4, .int (nI (i + 1))), (3, .int (nI ((orR (fun k => sp_so σ it q1 k (σ 1) u1) i) ||| (if sp_so σ it q1 i (σ 1) u1 = true then 2 ^ i else 0)))), (0, .ref (x)), (1, .ref (a)), (2, .int (nI t1))]) hx hb dX0_foundBy_44 hl (k := 1) rfl (ps_inc _) (by decide) rfl (fun ls hl => ?_)
            refine lv_goto (tgt := 9) hx hb dX0_foundBy_47 (by decide) ?_
            have hl : lv_has ls 5 [(4, .int (nI (i + 1))), (3, .int (nI (orR (fun k => sp_so σ it q1 k (σ 1) u1) (i + 1)))), (0, .ref (x)), (1, .ref (a)), (2, .int (nI t1))] := lv_sub hl [0, 1, 2, 3, 4] rfl
            exact ih9  (i + 1) (by omega) (by omega) ls (hl)
          refine ps_ifeqB (tgt := 41) hx hb dX0_foundBy_31 (by decide) (fun c_31 => ?_) (fun c_31 => ?_)
          · skip
            refine lv_iconst (v := nI 0) hx hb dX0_foundBy_41 rfl ?_
            exact ps_top (congrArg nI (by subst c_3; first | rfl | (simp [c_13, c_31]; done) | (simp [c_13, c_31]; omega) | omega)) J42
          · skip
            refine lv_iconst (v := nI 1) hx hb dX0_foundBy_34 rfl ?_
            refine lv_iload hx hb dX0_foundBy_35 (lv_at hl 0 rfl) ?_
            refine lv_ishl hx hb dX0_foundBy_37 ?_
            refine ps_top (y := nI (2 ^ i)) (ps_shl1 (by omega)) ?_
            refine lv_goto (tgt := 42) hx hb dX0_foundBy_38 (by decide) ?_
            exact ps_top (congrArg nI (by subst c_3; first | rfl | (simp [c_13, c_31]; done) | (simp [c_13, c_31]; omega) | omega)) J42
    have hl : lv_has ls 5 [(4, .int (nI 0)), (3, .int (nI (orR (fun k => sp_so σ it q1 k (σ 1) u1) 0))), (0, .ref (x)), (1, .ref (a)), (2, .int (nI t1))] := lv_sub hl [0, 1, 2, 3, 4] rfl
    exact L9 ((10 - 0) + 1) 0 (by omega) (Nat.lt_succ_self _) ls (hl)
