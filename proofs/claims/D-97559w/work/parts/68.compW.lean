/-! items of a row (printed by gen/comp23.py) -/
set_option maxRecDepth 100000
set_option maxHeartbeats 4000000 in
theorem m_X0_items (l : Launch) {E : ps_E} (hE : ps_ZT E) {z : Nat} (hZ : ps_Zk E z) {Γ : ps_Gh} {H : Heap} (hW : ps_W E Γ H) (hX : ps_Zx E) (hLT : l.stackTraces = false) {x tr : Nat} {N : Nat → Nat} {ow : ps_Ow} {hr L Z : Nat → Nat} {it : Nat → Int32} (hXc : Γ x = some (ps_xo x tr N)) (hRx : ps_Rx E Γ ow x hr L Z it) (hl3 : ∀ r, r < 8 → L r ≤ 2 ∧ Z r ≤ 41) {k : Nat} (hk : k < 8) {i : Int32} {n1 : Nat} (hn : n1 ≤ 40) : ps_Gx l E yX0_items cX0_items 7 (some (.array .int)) 9 10281 122 8928 [.ref (x), .int (nI k), .int (i), .int (nI n1)] H (fun v H1 => v = some (.ref H.size) ∧ (Z k ≠ 0 ∧ rng i 0 (Z k - n1) = true) ∧ H1.size = H.size + 1 ∧ ∃ g Γ1, ps_W E Γ1 H1 ∧ ps_gf Γ H Γ1 H1 ∧ Γ1 H.size = some (.inl (E.2.1 0, n1, .inl g)) ∧ (∀ j, j < n1 → g j = it (40 * k + i.toNatClampNeg + j)) ∧ ∀ q, q ≠ H.size → Γ1 q = Γ q) (fun N H1 => ((Z k = 0 ∧ N = ps_nN) ∨ (Z k ≠ 0 ∧ rng i 0 (Z k - n1) = false ∧ N = ps_nI)) ∧ ps_W E Γ H1 ∧ ps_gf Γ H Γ H1) := by
  refine ps_Gx.of (by decide) (Nat.le_of_ble_eq_true rfl) ?_
  intro p e s m args below meth c X ht ls hl
  have hx := X.1
  have hb := X.2.1
  have ho := X.2.2.2.1
  have hts := X.2.2.2.2.1
  have hS : va_S (ps_A E) s.heap H [] := by rw [X.2.2.2.2.2.2.2.2.1]; exact va_S.rf
  have hl : lv_has ls 7 [(0, .ref (x)), (1, .int (nI k)), (2, .int (i)), (3, .int (nI n1))] := hl
  obtain ⟨dr, hrows, hrowo, hdf⟩ := hRx.1
  obtain ⟨rf1, hq1, hqf⟩ := hRx.q (r := k) hk (hl3 k hk).1 (hl3 k hk).2
  refine lv_aload_n hx hb dX0_items_0 rfl (lv_at hl 0 rfl) ?_
  refine ps_get (v := .ref (x + 1)) X in_X0 (ci := 0) rfl 0 (by decide) q211 rfl (hW.at hXc) rfl dX0_items_1 ?_
  refine lv_iload_n hx hb dX0_items_4 rfl (lv_at hl 1 rfl) ?_
  refine ps_aald (j := k) (o := some (x + 2 + k)) X (t := 4) rfl (hW.at hrows) rfl (by show k < 8; omega) (by first | decide | omega) (hdf _ (by omega)) dX0_items_5 ?_
  refine ps_gxVN (host := "PromiseScales") X hE (m_X1_many l hE hZ hW hX hLT hq1) (lw_meth q446) hZ q443 q69 q445 qs6 (by decide +kernel) ⟨⟨(by (try dsimp only) <;> omega), (by (try dsimp only) <;> omega)⟩, (by (try dsimp only) <;> omega), (by (try dsimp only) <;> omega)⟩ (ps_rc X (ci := 1) rfl (hW.at (hRx.2.1 k (by omega)).1)) hS hl.1 (As := []) (rest := []) (n := 0) rfl rfl (Nat.le_of_ble_eq_true rfl) dX0_items_6 ?_ (fun N1 H2 locs3 q4 ce5 hp6 hS7 hce8 hcv9 hcl10 => ?_)
  rotate_left
  · skip
    obtain ⟨hc11, hW12, hgf13⟩ := hp6
    obtain ⟨hz, rfl⟩ := hc11
    exact ps_out X ht hS7 hce8 hcv9 hcl10 (⟨Or.inl ⟨hz, rfl⟩, hW12, (ps_gf.rf.tr hgf13)⟩) (by (try dsimp only) <;> omega) (by (try dsimp only) <;> omega)
  intro v18 H14 locs15 hp16 hS17
  obtain ⟨hv19, hz, hH20⟩ := hp16
  subst hv19; have hH20s := hH20.symm; subst hH20s
  refine ps_st (st' := [.int (nI (Z k - 1))]) rfl ?_
  have hZ41 := (hl3 k hk).2
  refine lv_istore (lv' := [(4, .int (nI (Z k - 1))), (0, .ref (x)), (1, .int (nI k)), (2, .int (i)), (3, .int (nI n1))]) hx hb dX0_items_9 hl (by decide) rfl (fun ls hl => ?_)
  refine lv_iload_n hx hb dX0_items_11 rfl (lv_at hl 3 rfl) ?_
  refine lv_if_lt (tgt := 27) hx hb dX0_items_12 (by decide) (fun c_12 => ?_) (fun c_12 => ?_)
  · skip
    exact ps_aioobe X hZ hX hLT ht q387 q83 hS17 hl.1 dX0_items_27 dX0_items_30 dX0_items_31 dX0_items_34 ⟨⟨(by (try dsimp only) <;> omega), (by (try dsimp only) <;> omega)⟩, (by (try dsimp only) <;> omega), (by (try dsimp only) <;> omega)⟩ (Nat.le_of_ble_eq_true rfl) (fun H9 g1 g2 => by
        obtain ⟨w9, f9⟩ := hW.thrown g1 g2
        exact ⟨Or.inr ⟨hz, ps_it0 (d := Z k - 1) rfl (Or.inl c_12), rfl⟩, w9, (ps_gf.rf).tr f9⟩) (Nat.le_of_ble_eq_true rfl) (Nat.le_of_ble_eq_true rfl)
  · skip
    refine lv_iload_n hx hb dX0_items_15 rfl (lv_at hl 3 rfl) ?_
    refine lv_i2l (v := (i).toInt64) hx hb dX0_items_16 rfl ?_
    refine lv_iload_n hx hb dX0_items_17 rfl (lv_at hl 4 rfl) ?_
    refine lv_i2l (v := (nI n1).toInt64) hx hb dX0_items_18 rfl ?_
    refine lv_ladd hx hb dX0_items_19 ?_
    refine lv_iload hx hb dX0_items_20 (lv_at hl 0 rfl) ?_
    refine lv_i2l (v := (nI (Z k - 1)).toInt64) hx hb dX0_items_22 rfl ?_
    refine W.lcmp hx hb dX0_items_23 ?_
    refine lv_if_le (tgt := 35) hx hb dX0_items_24 (by decide) (fun c_24 => ?_) (fun c_24 => ?_)
    · skip
      obtain ⟨i1, rfl, hi1, hin⟩ := ps_it1 hz rfl (by omega) c_12 ((ps_itm (by omega) (by omega)).mp c_24)
      refine lv_iload_n hx hb dX0_items_35 rfl (lv_at hl 4 rfl) ?_
      refine ps_newP (atype := .int) (t := 0) (ty := .int) (n := n1) X q161 rfl rfl rfl (fun U cA h => h) rfl (by show n1 * 4 ≤ 536870912; omega) (by omega) ⟨(by (try dsimp only) <;> omega), (by (try dsimp only) <;> omega)⟩ hS17 dX0_items_36 (fun H21 ha22 hz23 hq24 hS25 => ?_)
      obtain ⟨Γ26, hW27, hg28, ho29⟩ := hW.new1 (Nat.le_trans (hW.A hXc) (Nat.le_of_lt (hW.lt hXc))) ha22 hq24
      refine lv_astore (lv' := [(5, .ref (H.size)), (4, .int (nI (Z k - 1))), (0, .ref (x)), (1, .int (nI k)), (2, .int (nI i1)), (3, .int (nI n1))]) hx hb dX0_items_38 hl (by decide) rfl (fun ls hl => ?_)
      refine lv_iconst (v := nI 0) hx hb dX0_items_40 rfl ?_
      refine lv_istore (lv' := [(6, .int (nI 0)), (5, .ref (H.size)), (4, .int (nI (Z k - 1))), (0, .ref (x)), (1, .int (nI k)), (2, .int (nI i1)), (3, .int (nI n1))]) hx hb dX0_items_41 hl (by decide) rfl (fun ls hl => ?_)
      have L43 : ∀ (n : Nat) (j : Nat) (g : Nat → Int32) (Γi : ps_Gh) (Hi : Heap) (locsi : List Loc) (hj : j ≤ n1) (hWi : ps_W E Γi Hi) (hgi : ps_gf Γ H Γi Hi) (hai : Γi H.size = some (.inl (E.2.1 0, n1, .inl g))) (hfi : ∀ q, q ≠ H.size → Γi q = Γ q) (hzi : Hi.size = H.size + 1) (hvi : ∀ t, t < j → g t = it (40 * k + i1 + t)) (hSi : va_S (ps_A E) s.heap Hi locsi) (hmu : n1 - j < n) (ls : Array Slot) (hl : lv_has ls 7 [(6, .int (nI j)), (5, .ref (H.size)), (0, .ref (x)), (1, .int (nI k)), (2, .int (nI i1)), (3, .int (nI n1)), (4, .int (nI (Z k - 1)))]), W p l e ({ frames := 9, cells := 122, slots := 8928, locals := 10281 } : Room) s m args below meth c Hi locsi (2 + 3 * j) (48 + 222 * j) (vx_MQ below (ps_ge (fun v H1 => v = some (.ref H.size) ∧ (Z k ≠ 0 ∧ rng (nI i1) 0 (Z k - n1) = true) ∧ H1.size = H.size + 1 ∧ ∃ g Γ1, ps_W E Γ1 H1 ∧ ps_gf Γ H Γ1 H1 ∧ Γ1 H.size = some (.inl (E.2.1 0, n1, .inl g)) ∧ (∀ j, j < n1 → g j = it (40 * k + (nI i1).toNatClampNeg + j)) ∧ ∀ q, q ≠ H.size → Γ1 q = Γ q) (ps_A E)) (ps_XC (fun N H1 => ((Z k = 0 ∧ N = ps_nN) ∨ (Z k ≠ 0 ∧ rng (nI i1) 0 (Z k - n1) = false ∧ N = ps_nI)) ∧ ps_W E Γ H1 ∧ ps_gf Γ H Γ H1) (ps_A E)) args s 122 8928 (ps_A E)) (F0 m 43 ls []) := by
        intro n
        induction n with
        | zero => intro j g Γi Hi locsi hj hWi hgi hai hfi hzi hvi hSi hmu; exact absurd hmu (Nat.not_lt_zero _)
        | succ n ih43 =>
          intro j g Γi Hi locsi hj hWi hgi hai hfi hzi hvi hSi hmu ls hl
          refine lv_iload hx hb dX0_items_43 (lv_at hl 0 rfl) ?_
          refine lv_iload_n hx hb dX0_items_45 rfl (lv_at hl 5 rfl) ?_
          refine ps_cge (tgt := 73) hx hb dX0_items_46 (by decide) (by omega) (fun c_46 => ?_) (fun c_46 => ?_)
          · skip
            refine lv_aload hx hb dX0_items_73 (lv_at hl 1 rfl) ?_
            refine vx_ret ?_
            exact ps_aretG X (Or.inr ⟨_, rfl⟩) (Or.inr ⟨_, rfl⟩) hSi (by (try dsimp only) <;> omega) (by (try dsimp only) <;> omega) dX0_items_75 (⟨rfl, ⟨hz, hin⟩, hzi, g, Γi, hWi, hgi, hai, fun t h9 => by rw [nI_clamp (by omega)]; exact hvi t (by omega), hfi⟩)
          · skip
            have hqi := hq1.mono (fun a e h9 => (hfi a (Nat.ne_of_lt (hW.lt h9))).trans h9)
            refine lv_aload hx hb dX0_items_49 (lv_at hl 1 rfl) ?_
            refine lv_iload hx hb dX0_items_51 (lv_at hl 0 rfl) ?_
            refine lv_aload_n hx hb dX0_items_53 rfl (lv_at hl 2 rfl) ?_
            refine ps_get (v := .ref (x + 1)) X in_X0 (ci := 0) rfl 0 (by decide) q211 rfl (hWi.at ((hfi _ (Nat.ne_of_lt (hW.lt hXc))).trans hXc)) rfl dX0_items_54 ?_
            refine lv_iload_n hx hb dX0_items_57 rfl (lv_at hl 3 rfl) ?_
            refine ps_aald (j := k) (o := some (x + 2 + k)) X (t := 4) rfl (hWi.at ((hfi _ (Nat.ne_of_lt (hW.lt hrows))).trans hrows)) rfl (by show k < 8; omega) (by first | decide | omega) (hdf _ (by omega)) dX0_items_58 ?_
            refine lv_iload_n hx hb dX0_items_59 rfl (lv_at hl 4 rfl) ?_
            refine lv_iload hx hb dX0_items_60 (lv_at hl 0 rfl) ?_
            refine ps_iadd hx hb dX0_items_62 ?_
            refine ps_gxVN (host := "PromiseScales") X hE (m_X1_at l hE hZ hWi hX hLT (i := nI (i1 + j)) hqi) (lw_meth q416) hZ q1064 q69 q415 qs5 (by decide +kernel) ⟨⟨(by (try dsimp only) <;> omega), (by (try dsimp only) <;> omega)⟩, (by (try dsimp only) <;> omega), (by (try dsimp only) <;> omega)⟩ (ps_rc X (ci := 1) rfl (hWi.at ((hfi _ (Nat.ne_of_lt (hW.lt (hRx.2.1 k (by omega)).1))).trans (hRx.2.1 k (by omega)).1))) hSi hl.1 (As := [.int (nI (i1 + j))]) (rest := [.int (nI j), .ref (H.size)]) (n := 1) rfl rfl (Nat.le_of_ble_eq_true rfl) dX0_items_63 ?_ (fun N30 H31 locs32 q33 ce34 hp35 hS36 hce37 hcv38 hcl39 => ?_)
            rotate_left
            · skip
              obtain ⟨⟨h9, -⟩ | ⟨-, h9, -⟩, -⟩ := hp35
              · exact absurd h9 hz
              · rw [rng_N (by omega)] at h9; simp at h9; omega
            intro v44 H40 locs41 hp42 hS43
            obtain ⟨hv45, -, hH46⟩ := hp42
            subst hv45; have hH46s := hH46.symm; subst hH46s
            refine ps_st (st' := [.int (rf1 (nI (i1 + j)).toNatClampNeg), .int (nI j), .ref (H.size)]) rfl ?_
            refine ps_iast (j := j) X (hWi.at hai) rfl (by show j < n1; omega) (by first | decide | omega) (hWi.A hai) hS43 dX0_items_66 (fun H47 locs48 ha49 hz50 hq51 hS52 => ?_)
            obtain ⟨Γ53, hW54, hg55, ho56⟩ := hWi.put1 hai ha49 hq51
            refine lv_iinc (v := nI (j + 1)) (lv' := [(6, .int (nI (j + 1))), (5, .ref (H.size)), (0, .ref (x)), (1, .int (nI k)), (2, .int (nI i1)), (3, .int (nI n1)), (4, .int (nI (Z k - 1)))]) hx hb dX0_items_67 hl (k := 0) rfl (ps_inc _) (by decide) rfl (fun ls hl => ?_)
            refine lv_goto (tgt := 43) hx hb dX0_items_70 (by decide) ?_
            refine ps_wd (c2 := 2 + 3 * (j + 1)) (s2 := 48 + 222 * (j + 1)) (by omega) (by omega) ?_
            have hv9 : ∀ t, t < j + 1 → upd g j (rf1 (nI (i1 + j)).toNatClampNeg) t = it (40 * k + i1 + t) := fun t h9 => by
              dsimp only [upd]
              by_cases e9 : t = j
              · subst e9; rw [if_pos rfl, nI_clamp (by omega), hqf _ (by omega), Nat.add_assoc]
              · rw [if_neg e9]; exact hvi t (by omega)
            exact ih43  (j + 1) ((upd g j (rf1 (nI (i1 + j)).toNatClampNeg))) Γ53 H47 _ (by omega) hW54 ((hgi.put hai hz50 hq51 ho56)) hg55 (fun q a1 => (ho56 q a1).trans (hfi q a1)) (hz50.trans hzi) hv9 hS52 (by omega) ls (lv_sub hl [0, 1, 2, 3, 4, 5, 6] rfl)
      refine ps_wd (c2 := 2) (s2 := 48) (by omega) (by omega) ?_
      exact L43 ((n1 - 0) + 1) 0 ((fun _ => 0)) Γ26 H21 _ (by omega) hW27 ((ps_gf.rf.new hz23 hq24 ho29)) hg28 ho29 hz23 (fun t h9 => absurd h9 (Nat.not_lt_zero _)) hS25 (Nat.lt_succ_self _) ls (lv_sub hl [0, 1, 3, 4, 5, 6, 2] rfl)
    · skip
      exact ps_aioobe X hZ hX hLT ht q387 q83 hS17 hl.1 dX0_items_27 dX0_items_30 dX0_items_31 dX0_items_34 ⟨⟨(by (try dsimp only) <;> omega), (by (try dsimp only) <;> omega)⟩, (by (try dsimp only) <;> omega), (by (try dsimp only) <;> omega)⟩ (Nat.le_of_ble_eq_true rfl) (fun H9 g1 g2 => by
          obtain ⟨w9, f9⟩ := hW.thrown g1 g2
          exact ⟨Or.inr ⟨hz, ps_it0 (d := Z k - 1) rfl ((Or.inr (fun h9 => c_24 ((ps_itm (by omega) (by omega)).mpr h9)))), rfl⟩, w9, (ps_gf.rf).tr f9⟩) (Nat.le_of_ble_eq_true rfl) (Nat.le_of_ble_eq_true rfl)
