/-! the component: an act is kept (printed by gen/comp12.py) -/
set_option maxRecDepth 100000
theorem ps_kst {pa pai : Nat → Option Nat} {i q : Nat} (h : ∀ j, pai j = if j + 1 < i then pa (j + 1) else pa j) (hi : 1 ≤ i) (hq : pa i = some q) : ∀ j, va_up pai (i - 1) (some q) j = if j + 1 < i + 1 then pa (j + 1) else pa j := by
  intro j
  by_cases e : j = i - 1
  · subst e
    rw [va_up_self, if_pos (by omega), show i - 1 + 1 = i by omega, hq]
  · rw [va_up_ne _ _ e, h]
    by_cases e2 : j + 1 < i
    · rw [if_pos e2, if_pos (by omega)]
    · rw [if_neg e2, if_neg (by omega)]

set_option maxHeartbeats 4000000 in
theorem m_X0_keep (l : Launch) {E : ps_E} (hE : ps_ZT E) {z : Nat} (hZ : ps_Zk E z) {Γ : ps_Gh} {H : Heap} (hW : ps_W E Γ H) {x : Nat} {S : SS} {ow : ps_Ow} (hC : ps_Cx E z Γ ow x S) (hwf : wf S) : ps_Ge l E yX0_keep cX0_keep 3 none 6 133 12 102 [.ref (x)] H (fun v H1 => v = none ∧ ∃ Γ1 ow1, ps_W E Γ1 H1 ∧ ps_gf Γ H Γ1 H1 ∧ ps_Cx E z Γ1 ow1 x (sNote S)) := by
  refine ps_Ge.of (by decide) (Nat.le_of_ble_eq_true rfl) ?_
  intro p e s m args below meth c X ls hl
  have hx := X.1
  have hb := X.2.1
  have ho := X.2.2.2.1
  have hts := X.2.2.2.2.1
  have hS : va_S (ps_A E) s.heap H [] := by rw [X.2.2.2.2.2.2.2.2.1]; exact va_S.rf
  have hl : lv_has ls 3 [(0, .ref (x))] := hl
  have hO := hwf.1
  have hm := hO.m
  have hn := hwf.n
  obtain ⟨tr, sa, τ, hOb, hRw, hTp, hTr, hSx, hSl⟩ := id hC
  have hSo := (hSx.2.2.2.2 0 _ hSx.1.1).2
  rw [hSl.1] at hSo
  obtain ⟨smc, sr, pf, kf, tf, df, hD, hOw, hrr, hpo⟩ := id hSo
  refine lv_aload_n hx hb dX0_keep_0 rfl (lv_at hl 0 rfl) ?_
  refine ps_get (v := .int (nI (S.1 3))) X in_X0 (ci := 0) rfl 7 (by decide) q219 rfl (hW.at hOb.1) rfl dX0_keep_1 ?_
  refine lv_bipush (v := nI 24) hx hb dX0_keep_4 rfl ?_
  refine ps_cne (tgt := 62) hx hb dX0_keep_6 (by decide) (by omega) (fun c_6 => ?_) (fun c_6 => ?_)
  · skip
    have h24 : S.1 3 < 24 := by omega
    obtain ⟨trr, sar, τr, hObr, hRwr, hTpr, hTrr, hSxr, hSlr⟩ := id hC
    have hSor := (hSxr.2.2.2.2 0 _ hSxr.1.1).2
    rw [hSlr.1] at hSor
    obtain ⟨smcr, srr, pfr, kfr, tfr, dfr, hDr, hOwr, hrrr, hpor⟩ := id hSor
    obtain ⟨pa1, hpa2, hpo3, hpk4⟩ := hSxr.2.1
    refine lv_aload_n hx hb dX0_keep_62 rfl (lv_at hl 0 rfl) ?_
    refine ps_get (v := .ref (x + 19)) X in_X0 (ci := 0) rfl 6 (by decide) q218 rfl (hW.at hObr.1) rfl dX0_keep_63 ?_
    rcases hsn : sar (10 + S.1 3) with _ | qk
    · skip
      refine lv_aload_n hx hb dX0_keep_66 rfl (lv_at hl 0 rfl) ?_
      refine ps_get (v := .int (nI (S.1 3))) X in_X0 (ci := 0) rfl 7 (by decide) q219 rfl (hW.at hObr.1) rfl dX0_keep_67 ?_
      refine ps_aald (j := S.1 3) (o := none) X (t := 5) rfl (hW.at hpa2) rfl (by show S.1 3 < 24; omega) (by first | decide | omega) ((hpk4 _ (by omega)).trans hsn) dX0_keep_70 ?_
      refine lv_ifnonnullN hx hb dX0_keep_71 ?_
      refine lv_aload_n hx hb dX0_keep_74 rfl (lv_at hl 0 rfl) ?_
      refine ps_get (v := .ref (x + 19)) X in_X0 (ci := 0) rfl 6 (by decide) q218 rfl (hW.at hObr.1) rfl dX0_keep_75 ?_
      refine lv_aload_n hx hb dX0_keep_78 rfl (lv_at hl 0 rfl) ?_
      refine ps_get (v := .int (nI (S.1 3))) X in_X0 (ci := 0) rfl 7 (by decide) q219 rfl (hW.at hObr.1) rfl dX0_keep_79 ?_
      refine ps_new (fs := [.int (nI 0), .int (nI 0), .int (nI 0), .null, .null, .null, .int (nI 0)]) X in_X2 tyX2_ok q128 q129 q70 (ci := 2) rfl (fun j hj => by
          obtain rfl | rfl | rfl | rfl | rfl | rfl | rfl : j = 0 ∨ j = 1 ∨ j = 2 ∨ j = 3 ∨ j = 4 ∨ j = 5 ∨ j = 6 := by omega
          all_goals rfl) ⟨(Nat.le_of_ble_eq_true rfl), (Nat.le_of_ble_eq_true rfl)⟩ hS dX0_keep_82 (fun H5 ha6 hz7 hq8 hS9 => ?_)
      obtain ⟨Γ10, hW11, hg12, ho13⟩ := hW.new1 (Nat.le_trans (hW.A hObr.1) (Nat.le_of_lt (hW.lt hObr.1))) ha6 hq8
      refine lv_dup hx hb dX0_keep_85 rfl ?_
      refine ps_geIN (host := "PromiseScales") X hE (m_X2_init l hE hZ hW11 hg12) (lw_meth q132) hZ q130 q70 q131 rfl (by decide +kernel) ⟨⟨Nat.le_of_ble_eq_true rfl, Nat.le_of_ble_eq_true rfl⟩, Nat.le_of_ble_eq_true rfl, Nat.le_of_ble_eq_true rfl⟩ hS9 hl.1 (As := []) (rest := [.ref (H.size), .int (nI (S.1 3)), .ref (x + 19)]) (n := 0) rfl rfl (Nat.le_of_ble_eq_true rfl) dX0_keep_86 (fun v18 H14 locs15 hp16 hS17 => ?_)
      obtain ⟨hv27, hz28, Γ19, hW20, hgf21, hg22, hg23, hg24, hg25, ho26⟩ := hp16
      subst hv27
      have hborn29 : ps_So E z Γ19 (ps_own ow H.size) H.size (fun _ => 0) := ps_So.born hz7 hg22 hg23 hg24 hg25
      have hkeep30 : ∀ a, a < H.size → Γ19 a = Γ a := fun a ha => (ho26 a (by omega) (by omega)).trans (ho13 a (by omega))
      refine ps_st (st' := [.ref (H.size), .int (nI (S.1 3)), .ref (x + 19)]) rfl ?_
      refine ps_aast (j := S.1 3) X (t := 5) (C := "PromiseScales$Scales") rfl (hW20.at ((hkeep30 _ (hW.lt hpa2)).trans hpa2)) (hW20.at hg22) (ci := 2) rfl (Or.inl rfl) rfl (by show S.1 3 < 24; omega) (by decide) (hW20.A ((hkeep30 _ (hW.lt hpa2)).trans hpa2)) hS17 dX0_keep_89 (fun H31 locs32 ha33 hz34 hq35 hS36 => ?_)
      obtain ⟨Γ37, hW38, hg39, ho40⟩ := hW20.put1 ((hkeep30 _ (hW.lt hpa2)).trans hpa2) ha33 hq35
      have hlt : ∀ a e, Γ a = some e → a < H.size := fun a e h => hW.lt h
      have hspF : ps_sp (fun _ => False) Γ ow Γ19 (ps_own ow H.size) := ps_sp.rf.born hlt hkeep30
      have hsp4 : ps_sp (fun w => w = 4) Γ19 (ps_own ow H.size) Γ37 (ps_own ow H.size) := ps_sp.rf.put (hspF.o hpa2 hpo3) rfl hg39 ho40
      have hSx9 := ps_Sx.newA (P := fun _ => False) hSxr h24 hsn (fun r i h e => by
        obtain ⟨_, _, _, _, _, _, h9, _⟩ := (hSxr.2.2.2.2 i r h).2
        have := hlt _ _ h9.1
        omega) hspF (by first | exact fun h => h | ((try dsimp only) <;> omega)) (by first | exact fun h => h | ((try dsimp only) <;> omega)) (fun w => (by first | exact fun h => h | ((try dsimp only) <;> omega))) hborn29 (hspF.k hpa2 hpo3 (by first | exact fun h => h | ((try dsimp only) <;> omega))) hpk4 (hspF.o hpa2 hpo3) hg39 ho40 (fun r i _ => by omega)
      have hSl9 := hSlr.newA (σ := fun _ => 0) (q := H.size) (n := S.1 3) ⟨Nat.le_refl _, h24⟩
      have hOb9 := (hObr.kept hspF (by first | exact fun h => h | ((try dsimp only) <;> omega))).kept hsp4 (by first | exact fun h => h | ((try dsimp only) <;> omega))
      have hRw9 := (hRwr.kept hspF (by first | exact fun h => h | ((try dsimp only) <;> omega))).kept hsp4 (by first | exact fun h => h | ((try dsimp only) <;> omega))
      have hTp9 := (hTpr.kept hspF (by first | exact fun h => h | ((try dsimp only) <;> omega))).kept hsp4 (by first | exact fun h => h | ((try dsimp only) <;> omega))
      have hTr9 := (hTrr.kept hspF (by first | exact fun h => h | ((try dsimp only) <;> omega))).kept hsp4 (by first | exact fun h => h | ((try dsimp only) <;> omega))
      have hsq9 : va_up sar (10 + S.1 3) (some (H.size)) (10 + S.1 3) = some (H.size) := va_up_self ..
      have hSoA := (hSx9.2.2.2.2 0 _ hSx9.1.1).2
      rw [hSl9.1] at hSoA
      have hqne : H.size ≠ x + 11 := fun e => by
        have h9 := hSx9.2.2.2.1 _ _ _ hsq9 (hSx9.1.1.trans (congrArg some e.symm))
        omega
      obtain ⟨_, _, _, _, _, _, hQd, _⟩ := (hSx9.2.2.2.2 _ _ hsq9).2
      have hQ := hQd.1
      obtain ⟨_, _, _, _, _, _, hAd, _⟩ := id hSoA
      refine lv_aload_n hx hb dX0_keep_90 rfl (lv_at hl 0 rfl) ?_
      refine ps_get (v := .ref (x + 19)) X in_X0 (ci := 0) rfl 6 (by decide) q218 rfl (hW38.at hOb9.1) rfl dX0_keep_91 ?_
      refine lv_aload_n hx hb dX0_keep_94 rfl (lv_at hl 0 rfl) ?_
      refine ps_get (v := .int (nI (S.1 3))) X in_X0 (ci := 0) rfl 7 (by decide) q219 rfl (hW38.at hOb9.1) rfl dX0_keep_95 ?_
      refine ps_aald (j := S.1 3) (o := some (H.size)) X (t := 5) rfl (hW38.at hg39) rfl (by show S.1 3 < 24; omega) (by first | decide | omega) (va_up_self ..) dX0_keep_98 ?_
      refine lv_aload_n hx hb dX0_keep_99 rfl (lv_at hl 0 rfl) ?_
      refine ps_get (v := .ref (x + 11)) X in_X0 (ci := 0) rfl 4 (by decide) q216 rfl (hW38.at hOb9.1) rfl dX0_keep_100 ?_
      refine ps_geV X hE (m_X2_become l hE hZ hW38 (hSx9.2.2.2.2 _ _ hsq9).2 hSoA (hSx9.2.2.2.2 _ _ hsq9).1 hO hqne) (lw_V q808 q809 q810 q70 q811) (by decide +kernel) ⟨⟨Nat.le_of_ble_eq_true rfl, Nat.le_of_ble_eq_true rfl⟩, Nat.le_of_ble_eq_true rfl, Nat.le_of_ble_eq_true rfl⟩ (ps_rc X (ci := 2) rfl (hW38.at hQ)) hS36 hl.1 (As := [.ref (x + 11)]) (rest := []) (n := 1) rfl rfl (Nat.le_of_ble_eq_true rfl) dX0_keep_103 (fun v45 H41 locs42 hp43 hS44 => ?_)
      obtain ⟨hv49, Γ46, ow50, hW47, hgf48, hsp51, hSo52⟩ := hp43
      subst hv49
      refine ps_st (st' := []) rfl ?_
      refine lv_aload_n hx hb dX0_keep_106 rfl (lv_at hl 0 rfl) ?_
      refine lv_dup hx hb dX0_keep_107 rfl ?_
      refine ps_get (v := .int (nI (S.1 3))) X in_X0 (ci := 0) rfl 7 (by decide) q219 rfl (hW47.at (hsp51.k hOb9.1 hOb9.2 (by first | exact fun h => h | ((try dsimp only) <;> omega)))) rfl dX0_keep_108 ?_
      refine lv_iconst (v := nI 1) hx hb dX0_keep_111 rfl ?_
      refine ps_iadd hx hb dX0_keep_112 ?_
      refine ps_put X in_X0 tyX0_ok nmX0 (ci := 0) rfl 7 (by decide) q219 rfl rfl rfl rfl (Nat.le_of_ble_eq_true rfl) (hW47.at (hsp51.k hOb9.1 hOb9.2 (by first | exact fun h => h | ((try dsimp only) <;> omega)))) (hW47.A (hsp51.k hOb9.1 hOb9.2 (by first | exact fun h => h | ((try dsimp only) <;> omega)))) hS44 dX0_keep_113 (fun H53 locs54 ha55 hz56 hq57 hS58 => ?_)
      obtain ⟨Γ59, hW60, hg61, ho62⟩ := hW47.put1 (hsp51.k hOb9.1 hOb9.2 (by first | exact fun h => h | ((try dsimp only) <;> omega))) ha55 hq57
      exact ps_vretG X hS58 (Nat.le_of_ble_eq_true rfl) (Nat.le_of_ble_eq_true rfl) dX0_keep_116 (⟨rfl, _, _, hW60, (((((ps_gf.rf.new hz7 hq8 ho13).tr hgf21).put ((hkeep30 _ (hW.lt hpa2)).trans hpa2) hz34 hq35 ho40).tr hgf48).put (hsp51.k hOb9.1 hOb9.2 (by first | exact fun h => h | ((try dsimp only) <;> omega))) hz56 hq57 ho62), ps_Cx.note hOb9 hRw9 hTp9 hTr9 hSx9 hSl9 hO h24 hsq9 hsp51 hSo52 hg61 ho62⟩)
    · skip
      refine lv_aload_n hx hb dX0_keep_66 rfl (lv_at hl 0 rfl) ?_
      refine ps_get (v := .int (nI (S.1 3))) X in_X0 (ci := 0) rfl 7 (by decide) q219 rfl (hW.at hObr.1) rfl dX0_keep_67 ?_
      refine ps_aald (j := S.1 3) (o := some qk) X (t := 5) rfl (hW.at hpa2) rfl (by show S.1 3 < 24; omega) (by first | decide | omega) ((hpk4 _ (by omega)).trans hsn) dX0_keep_70 ?_
      refine lv_ifnonnull (tgt := 90) hx hb dX0_keep_71 (by decide) ?_
      have hSoA := (hSxr.2.2.2.2 0 _ hSxr.1.1).2
      rw [hSlr.1] at hSoA
      have hqne : qk ≠ x + 11 := fun e => by
        have h9 := hSxr.2.2.2.1 _ _ _ hsn (hSxr.1.1.trans (congrArg some e.symm))
        omega
      obtain ⟨_, _, _, _, _, _, hQd, _⟩ := (hSxr.2.2.2.2 _ _ hsn).2
      have hQ := hQd.1
      obtain ⟨_, _, _, _, _, _, hAd, _⟩ := id hSoA
      refine lv_aload_n hx hb dX0_keep_90 rfl (lv_at hl 0 rfl) ?_
      refine ps_get (v := .ref (x + 19)) X in_X0 (ci := 0) rfl 6 (by decide) q218 rfl (hW.at hObr.1) rfl dX0_keep_91 ?_
      refine lv_aload_n hx hb dX0_keep_94 rfl (lv_at hl 0 rfl) ?_
      refine ps_get (v := .int (nI (S.1 3))) X in_X0 (ci := 0) rfl 7 (by decide) q219 rfl (hW.at hObr.1) rfl dX0_keep_95 ?_
      refine ps_aald (j := S.1 3) (o := some qk) X (t := 5) rfl (hW.at hpa2) rfl (by show S.1 3 < 24; omega) (by first | decide | omega) ((hpk4 _ (by omega)).trans hsn) dX0_keep_98 ?_
      refine lv_aload_n hx hb dX0_keep_99 rfl (lv_at hl 0 rfl) ?_
      refine ps_get (v := .ref (x + 11)) X in_X0 (ci := 0) rfl 4 (by decide) q216 rfl (hW.at hObr.1) rfl dX0_keep_100 ?_
      refine ps_geV X hE (m_X2_become l hE hZ hW (hSxr.2.2.2.2 _ _ hsn).2 hSoA (hSxr.2.2.2.2 _ _ hsn).1 hO hqne) (lw_V q808 q809 q810 q70 q811) (by decide +kernel) ⟨⟨Nat.le_of_ble_eq_true rfl, Nat.le_of_ble_eq_true rfl⟩, Nat.le_of_ble_eq_true rfl, Nat.le_of_ble_eq_true rfl⟩ (ps_rc X (ci := 2) rfl (hW.at hQ)) hS hl.1 (As := [.ref (x + 11)]) (rest := []) (n := 1) rfl rfl (Nat.le_of_ble_eq_true rfl) dX0_keep_103 (fun v67 H63 locs64 hp65 hS66 => ?_)
      obtain ⟨hv71, Γ68, ow72, hW69, hgf70, hsp73, hSo74⟩ := hp65
      subst hv71
      refine ps_st (st' := []) rfl ?_
      refine lv_aload_n hx hb dX0_keep_106 rfl (lv_at hl 0 rfl) ?_
      refine lv_dup hx hb dX0_keep_107 rfl ?_
      refine ps_get (v := .int (nI (S.1 3))) X in_X0 (ci := 0) rfl 7 (by decide) q219 rfl (hW69.at (hsp73.k hObr.1 hObr.2 (by first | exact fun h => h | ((try dsimp only) <;> omega)))) rfl dX0_keep_108 ?_
      refine lv_iconst (v := nI 1) hx hb dX0_keep_111 rfl ?_
      refine ps_iadd hx hb dX0_keep_112 ?_
      refine ps_put X in_X0 tyX0_ok nmX0 (ci := 0) rfl 7 (by decide) q219 rfl rfl rfl rfl (Nat.le_of_ble_eq_true rfl) (hW69.at (hsp73.k hObr.1 hObr.2 (by first | exact fun h => h | ((try dsimp only) <;> omega)))) (hW69.A (hsp73.k hObr.1 hObr.2 (by first | exact fun h => h | ((try dsimp only) <;> omega)))) hS66 dX0_keep_113 (fun H75 locs76 ha77 hz78 hq79 hS80 => ?_)
      obtain ⟨Γ81, hW82, hg83, ho84⟩ := hW69.put1 (hsp73.k hObr.1 hObr.2 (by first | exact fun h => h | ((try dsimp only) <;> omega))) ha77 hq79
      exact ps_vretG X hS80 (Nat.le_of_ble_eq_true rfl) (Nat.le_of_ble_eq_true rfl) dX0_keep_116 (⟨rfl, _, _, hW82, ((ps_gf.rf.tr hgf70).put (hsp73.k hObr.1 hObr.2 (by first | exact fun h => h | ((try dsimp only) <;> omega))) hz78 hq79 ho84), ps_Cx.note hObr hRwr hTpr hTrr hSxr hSlr hO h24 hsn hsp73 hSo74 hg83 ho84⟩)
  · skip
    obtain ⟨pa, hpa, hpo, hpk⟩ := hSx.2.1
    obtain ⟨qa, hqa⟩ : ∃ qa : Nat → Nat, ∀ k, k < 24 → pa k = some (qa k) := ⟨fun k => (pa k).getD 0, fun k hk => by
      have h1 := (hSl.2.1 k (by omega)).1
      rw [← hpk k hk] at h1
      cases e : pa k with
      | none => exact absurd e h1
      | some v => show some v = some ((pa k).getD 0); rw [e]; rfl⟩
    have hqc : ∀ k, k < 24 → ∃ vs, Γ (qa k) = some (.inr (2, vs)) := fun k hk => by
      obtain ⟨_, _, _, _, _, _, h9, _⟩ := (hSx.2.2.2.2 (10 + k) (qa k) ((hpk k hk).symm.trans (hqa k hk))).2
      exact ⟨_, h9.1⟩
    have hqn : ∀ k, k < 24 → qa k ≠ x + 19 := fun k hk => by
      obtain ⟨vs, h9⟩ := hqc k hk
      exact ps_gne h9 hpa (by intro q; cases q)
    refine lv_aload_n hx hb dX0_keep_9 rfl (lv_at hl 0 rfl) ?_
    refine ps_get (v := .ref (x + 19)) X in_X0 (ci := 0) rfl 6 (by decide) q218 rfl (hW.at hOb.1) rfl dX0_keep_10 ?_
    refine lv_iconst (v := nI 0) hx hb dX0_keep_13 rfl ?_
    refine ps_aald (j := 0) (o := some (qa 0)) X (t := 5) rfl (hW.at hpa) rfl (by show 0 < 24; omega) (by first | decide | omega) (hqa _ (by omega)) dX0_keep_14 ?_
    refine lv_astore_n (lv' := [(1, .ref (qa 0)), (0, .ref (x))]) hx hb dX0_keep_15 rfl hl (by decide) rfl (fun ls hl => ?_)
    refine lv_iconst (v := nI 1) hx hb dX0_keep_16 rfl ?_
    refine lv_istore_n (lv' := [(2, .int (nI 1)), (1, .ref (qa 0)), (0, .ref (x))]) hx hb dX0_keep_17 rfl hl (by decide) rfl (fun ls hl => ?_)
    have L18 : ∀ (n : Nat) (i : Nat) (Γi : ps_Gh) (pai : Nat → Option Nat) (Hi : Heap) (locsi : List Loc) (hi : 1 ≤ i ∧ i ≤ 24) (hWi : ps_W E Γi Hi) (hgi : ps_gf Γ H Γi Hi) (hpi : Γi (x + 19) = some (ps_q (E.2.1 5) 24 pai)) (hpv : ∀ j, pai j = if j + 1 < i then pa (j + 1) else pa j) (hfi : ∀ q, q ≠ x + 19 → Γi q = Γ q) (hSi : va_S (ps_A E) s.heap Hi locsi) (hmu : 24 - i < n) (ls : Array Slot) (hl : lv_has ls 3 [(2, .int (nI i)), (1, .ref (qa 0)), (0, .ref (x))]), W p l e ({ frames := 6, cells := 12, slots := 102, locals := 133 } : Room) s m args below meth c Hi locsi 0 0 (MQ below (ps_ge (fun v H1 => v = none ∧ ∃ Γ1 ow1, ps_W E Γ1 H1 ∧ ps_gf Γ H Γ1 H1 ∧ ps_Cx E z Γ1 ow1 x (sNote S)) (ps_A E)) args s 12 102 (ps_A E)) (F0 m 18 ls []) := by
      intro n
      induction n with
      | zero => intro i Γi pai Hi locsi hi hWi hgi hpi hpv hfi hSi hmu; exact absurd hmu (Nat.not_lt_zero _)
      | succ n ih18 =>
        intro i Γi pai Hi locsi hi hWi hgi hpi hpv hfi hSi hmu ls hl
        refine lv_iload_n hx hb dX0_keep_18 rfl (lv_at hl 0 rfl) ?_
        refine lv_bipush (v := nI 24) hx hb dX0_keep_19 rfl ?_
        refine ps_cge (tgt := 44) hx hb dX0_keep_21 (by decide) (by omega) (fun c_21 => ?_) (fun c_21 => ?_)
        · skip
          have ei : i = 24 := by omega
          subst ei
          refine lv_aload_n hx hb dX0_keep_44 rfl (lv_at hl 2 rfl) ?_
          refine ps_get (v := .ref (x + 19)) X in_X0 (ci := 0) rfl 6 (by decide) q218 rfl (hWi.at ((hfi _ (by omega)).trans hOb.1)) rfl dX0_keep_45 ?_
          refine lv_bipush (v := nI 23) hx hb dX0_keep_48 rfl ?_
          refine lv_aload_n hx hb dX0_keep_50 rfl (lv_at hl 1 rfl) ?_
          obtain ⟨vs0, hvs0⟩ := hqc 0 (by omega)
          refine ps_aast (j := 23) X (t := 5) (C := "PromiseScales$Scales") rfl (hWi.at hpi) (hWi.at ((hfi _ (hqn _ (by omega))).trans hvs0)) (ci := 2) rfl (Or.inl rfl) rfl (by show 23 < 24; omega) (by decide) (hWi.A hpi) hSi dX0_keep_51 (fun H85 locs86 ha87 hz88 hq89 hS90 => ?_)
          obtain ⟨Γ91, hW92, hg93, ho94⟩ := hWi.put1 hpi ha87 hq89
          have hfr : ∀ q, q ≠ x + 19 → Γ91 q = Γ q := fun q a1 => (ho94 _ a1).trans (hfi q a1)
          have hSxr := hSx.rot hpo hg93 (fun k hk => by
            rw [← hpk 0 (by omega)]
            unfold va_up
            by_cases e : k = 23
            · subst e; rw [if_pos rfl, if_neg (by omega)]; exact (hqa 0 (by omega)).symm
            · rw [if_neg e, hpv, if_pos (by omega), if_pos (by omega)]; exact hpk _ (by omega)) hfr
          have hspr : ps_sp (fun w => w = 4) Γ ow Γ91 ow := ps_sp.rf.put hpo rfl hg93 hfr
          refine lv_aload_n hx hb dX0_keep_52 rfl (lv_at hl 2 rfl) ?_
          refine lv_dup hx hb dX0_keep_53 rfl ?_
          refine ps_get (v := .int (nI (S.1 3))) X in_X0 (ci := 0) rfl 7 (by decide) q219 rfl (hW92.at ((ho94 _ (by omega)).trans ((hfi _ (by omega)).trans hOb.1))) rfl dX0_keep_54 ?_
          refine lv_iconst (v := nI 1) hx hb dX0_keep_57 rfl ?_
          refine ps_isub hx hb dX0_keep_58 (by omega) ?_
          refine ps_put X in_X0 tyX0_ok nmX0 (ci := 0) rfl 7 (by decide) q219 rfl rfl rfl rfl (Nat.le_of_ble_eq_true rfl) (hW92.at ((ho94 _ (by omega)).trans ((hfi _ (by omega)).trans hOb.1))) (hW92.A ((ho94 _ (by omega)).trans ((hfi _ (by omega)).trans hOb.1))) hS90 dX0_keep_59 (fun H95 locs96 ha97 hz98 hq99 hS100 => ?_)
          obtain ⟨Γ101, hW102, hg103, ho104⟩ := hW92.put1 ((ho94 _ (by omega)).trans ((hfi _ (by omega)).trans hOb.1)) ha97 hq99
          have hspx : ps_sp (fun w => w = 1) Γ91 ow Γ101 ow := ps_sp.rf.put (hspr.o hOb.1 hOb.2) rfl hg103 ho104
          have hCr : ps_Cx E z Γ101 ow x (sRot S) := ⟨tr, ps_rt sa, ps_rt τ, ⟨(by have h9 := hg103; rw [c_6] at h9; exact h9), (hspr.o hOb.1 hOb.2)⟩, (hRw.kept hspr (by first | exact fun h => h | ((try dsimp only) <;> omega))).kept hspx (by first | exact fun h => h | ((try dsimp only) <;> omega)), (hTp.kept hspr (by first | exact fun h => h | ((try dsimp only) <;> omega))).kept hspx (by first | exact fun h => h | ((try dsimp only) <;> omega)), (hTr.kept hspr (by first | exact fun h => h | ((try dsimp only) <;> omega))).kept hspx (by first | exact fun h => h | ((try dsimp only) <;> omega)), hSxr.kept hspx (by first | exact fun h => h | ((try dsimp only) <;> omega)) (by first | exact fun h => h | ((try dsimp only) <;> omega)) (fun w => (by first | exact fun h => h | ((try dsimp only) <;> omega))), hSl.rot c_6⟩
          have hOr : sp_ok ((sRot S).2.1 0) := hO
          have h24 : (sRot S).1 3 < 24 := by show 23 < 24; omega
          obtain ⟨trr, sar, τr, hObr, hRwr, hTpr, hTrr, hSxr, hSlr⟩ := hCr
          have hSor := (hSxr.2.2.2.2 0 _ hSxr.1.1).2
          rw [hSlr.1] at hSor
          obtain ⟨smcr, srr, pfr, kfr, tfr, dfr, hDr, hOwr, hrrr, hpor⟩ := id hSor
          obtain ⟨pa105, hpa106, hpo107, hpk108⟩ := hSxr.2.1
          refine lv_aload_n hx hb dX0_keep_62 rfl (lv_at hl 2 rfl) ?_
          refine ps_get (v := .ref (x + 19)) X in_X0 (ci := 0) rfl 6 (by decide) q218 rfl (hW102.at hObr.1) rfl dX0_keep_63 ?_
          rcases hsn : sar (10 + (sRot S).1 3) with _ | qk
          · skip
            refine lv_aload_n hx hb dX0_keep_66 rfl (lv_at hl 2 rfl) ?_
            refine ps_get (v := .int (nI ((sRot S).1 3))) X in_X0 (ci := 0) rfl 7 (by decide) q219 rfl (hW102.at hObr.1) rfl dX0_keep_67 ?_
            refine ps_aald (j := (sRot S).1 3) (o := none) X (t := 5) rfl (hW102.at hpa106) rfl (by show (sRot S).1 3 < 24; omega) (by first | decide | omega) ((hpk108 _ (by omega)).trans hsn) dX0_keep_70 ?_
            refine lv_ifnonnullN hx hb dX0_keep_71 ?_
            refine lv_aload_n hx hb dX0_keep_74 rfl (lv_at hl 2 rfl) ?_
            refine ps_get (v := .ref (x + 19)) X in_X0 (ci := 0) rfl 6 (by decide) q218 rfl (hW102.at hObr.1) rfl dX0_keep_75 ?_
            refine lv_aload_n hx hb dX0_keep_78 rfl (lv_at hl 2 rfl) ?_
            refine ps_get (v := .int (nI ((sRot S).1 3))) X in_X0 (ci := 0) rfl 7 (by decide) q219 rfl (hW102.at hObr.1) rfl dX0_keep_79 ?_
            refine ps_new (fs := [.int (nI 0), .int (nI 0), .int (nI 0), .null, .null, .null, .int (nI 0)]) X in_X2 tyX2_ok q128 q129 q70 (ci := 2) rfl (fun j hj => by
                obtain rfl | rfl | rfl | rfl | rfl | rfl | rfl : j = 0 ∨ j = 1 ∨ j = 2 ∨ j = 3 ∨ j = 4 ∨ j = 5 ∨ j = 6 := by omega
                all_goals rfl) ⟨(Nat.le_of_ble_eq_true rfl), (Nat.le_of_ble_eq_true rfl)⟩ hS100 dX0_keep_82 (fun H109 ha110 hz111 hq112 hS113 => ?_)
            obtain ⟨Γ114, hW115, hg116, ho117⟩ := hW102.new1 (Nat.le_trans (hW102.A hObr.1) (Nat.le_of_lt (hW102.lt hObr.1))) ha110 hq112
            refine lv_dup hx hb dX0_keep_85 rfl ?_
            refine ps_geIN (host := "PromiseScales") X hE (m_X2_init l hE hZ hW115 hg116) (lw_meth q132) hZ q130 q70 q131 rfl (by decide +kernel) ⟨⟨Nat.le_of_ble_eq_true rfl, Nat.le_of_ble_eq_true rfl⟩, Nat.le_of_ble_eq_true rfl, Nat.le_of_ble_eq_true rfl⟩ hS113 hl.1 (As := []) (rest := [.ref (H95.size), .int (nI ((sRot S).1 3)), .ref (x + 19)]) (n := 0) rfl rfl (Nat.le_of_ble_eq_true rfl) dX0_keep_86 (fun v122 H118 locs119 hp120 hS121 => ?_)
            obtain ⟨hv131, hz132, Γ123, hW124, hgf125, hg126, hg127, hg128, hg129, ho130⟩ := hp120
            subst hv131
            have hborn133 : ps_So E z Γ123 (ps_own ow H95.size) H95.size (fun _ => 0) := ps_So.born hz111 hg126 hg127 hg128 hg129
            have hkeep134 : ∀ a, a < H95.size → Γ123 a = Γ101 a := fun a ha => (ho130 a (by omega) (by omega)).trans (ho117 a (by omega))
            refine ps_st (st' := [.ref (H95.size), .int (nI ((sRot S).1 3)), .ref (x + 19)]) rfl ?_
            refine ps_aast (j := (sRot S).1 3) X (t := 5) (C := "PromiseScales$Scales") rfl (hW124.at ((hkeep134 _ (hW102.lt hpa106)).trans hpa106)) (hW124.at hg126) (ci := 2) rfl (Or.inl rfl) rfl (by show (sRot S).1 3 < 24; omega) (by decide) (hW124.A ((hkeep134 _ (hW102.lt hpa106)).trans hpa106)) hS121 dX0_keep_89 (fun H135 locs136 ha137 hz138 hq139 hS140 => ?_)
            obtain ⟨Γ141, hW142, hg143, ho144⟩ := hW124.put1 ((hkeep134 _ (hW102.lt hpa106)).trans hpa106) ha137 hq139
            have hlt : ∀ a e, Γ101 a = some e → a < H95.size := fun a e h => hW102.lt h
            have hspF : ps_sp (fun _ => False) Γ101 ow Γ123 (ps_own ow H95.size) := ps_sp.rf.born hlt hkeep134
            have hsp4 : ps_sp (fun w => w = 4) Γ123 (ps_own ow H95.size) Γ141 (ps_own ow H95.size) := ps_sp.rf.put (hspF.o hpa106 hpo107) rfl hg143 ho144
            have hSx9 := ps_Sx.newA (P := fun _ => False) hSxr h24 hsn (fun r i h e => by
              obtain ⟨_, _, _, _, _, _, h9, _⟩ := (hSxr.2.2.2.2 i r h).2
              have := hlt _ _ h9.1
              omega) hspF (by first | exact fun h => h | ((try dsimp only) <;> omega)) (by first | exact fun h => h | ((try dsimp only) <;> omega)) (fun w => (by first | exact fun h => h | ((try dsimp only) <;> omega))) hborn133 (hspF.k hpa106 hpo107 (by first | exact fun h => h | ((try dsimp only) <;> omega))) hpk108 (hspF.o hpa106 hpo107) hg143 ho144 (fun r i _ => by omega)
            have hSl9 := hSlr.newA (σ := fun _ => 0) (q := H95.size) (n := (sRot S).1 3) ⟨Nat.le_refl _, h24⟩
            have hOb9 := (hObr.kept hspF (by first | exact fun h => h | ((try dsimp only) <;> omega))).kept hsp4 (by first | exact fun h => h | ((try dsimp only) <;> omega))
            have hRw9 := (hRwr.kept hspF (by first | exact fun h => h | ((try dsimp only) <;> omega))).kept hsp4 (by first | exact fun h => h | ((try dsimp only) <;> omega))
            have hTp9 := (hTpr.kept hspF (by first | exact fun h => h | ((try dsimp only) <;> omega))).kept hsp4 (by first | exact fun h => h | ((try dsimp only) <;> omega))
            have hTr9 := (hTrr.kept hspF (by first | exact fun h => h | ((try dsimp only) <;> omega))).kept hsp4 (by first | exact fun h => h | ((try dsimp only) <;> omega))
            have hsq9 : va_up sar (10 + (sRot S).1 3) (some (H95.size)) (10 + (sRot S).1 3) = some (H95.size) := va_up_self ..
            have hSoA := (hSx9.2.2.2.2 0 _ hSx9.1.1).2
            rw [hSl9.1] at hSoA
            have hqne : H95.size ≠ x + 11 := fun e => by
              have h9 := hSx9.2.2.2.1 _ _ _ hsq9 (hSx9.1.1.trans (congrArg some e.symm))
              omega
            obtain ⟨_, _, _, _, _, _, hQd, _⟩ := (hSx9.2.2.2.2 _ _ hsq9).2
            have hQ := hQd.1
            obtain ⟨_, _, _, _, _, _, hAd, _⟩ := id hSoA
            refine lv_aload_n hx hb dX0_keep_90 rfl (lv_at hl 2 rfl) ?_
            refine ps_get (v := .ref (x + 19)) X in_X0 (ci := 0) rfl 6 (by decide) q218 rfl (hW142.at hOb9.1) rfl dX0_keep_91 ?_
            refine lv_aload_n hx hb dX0_keep_94 rfl (lv_at hl 2 rfl) ?_
            refine ps_get (v := .int (nI ((sRot S).1 3))) X in_X0 (ci := 0) rfl 7 (by decide) q219 rfl (hW142.at hOb9.1) rfl dX0_keep_95 ?_
            refine ps_aald (j := (sRot S).1 3) (o := some (H95.size)) X (t := 5) rfl (hW142.at hg143) rfl (by show (sRot S).1 3 < 24; omega) (by first | decide | omega) (va_up_self ..) dX0_keep_98 ?_
            refine lv_aload_n hx hb dX0_keep_99 rfl (lv_at hl 2 rfl) ?_
            refine ps_get (v := .ref (x + 11)) X in_X0 (ci := 0) rfl 4 (by decide) q216 rfl (hW142.at hOb9.1) rfl dX0_keep_100 ?_
            refine ps_geV X hE (m_X2_become l hE hZ hW142 (hSx9.2.2.2.2 _ _ hsq9).2 hSoA (hSx9.2.2.2.2 _ _ hsq9).1 hOr hqne) (lw_V q808 q809 q810 q70 q811) (by decide +kernel) ⟨⟨Nat.le_of_ble_eq_true rfl, Nat.le_of_ble_eq_true rfl⟩, Nat.le_of_ble_eq_true rfl, Nat.le_of_ble_eq_true rfl⟩ (ps_rc X (ci := 2) rfl (hW142.at hQ)) hS140 hl.1 (As := [.ref (x + 11)]) (rest := []) (n := 1) rfl rfl (Nat.le_of_ble_eq_true rfl) dX0_keep_103 (fun v149 H145 locs146 hp147 hS148 => ?_)
            obtain ⟨hv153, Γ150, ow154, hW151, hgf152, hsp155, hSo156⟩ := hp147
            subst hv153
            refine ps_st (st' := []) rfl ?_
            refine lv_aload_n hx hb dX0_keep_106 rfl (lv_at hl 2 rfl) ?_
            refine lv_dup hx hb dX0_keep_107 rfl ?_
            refine ps_get (v := .int (nI ((sRot S).1 3))) X in_X0 (ci := 0) rfl 7 (by decide) q219 rfl (hW151.at (hsp155.k hOb9.1 hOb9.2 (by first | exact fun h => h | ((try dsimp only) <;> omega)))) rfl dX0_keep_108 ?_
            refine lv_iconst (v := nI 1) hx hb dX0_keep_111 rfl ?_
            refine ps_iadd hx hb dX0_keep_112 ?_
            refine ps_put X in_X0 tyX0_ok nmX0 (ci := 0) rfl 7 (by decide) q219 rfl rfl rfl rfl (Nat.le_of_ble_eq_true rfl) (hW151.at (hsp155.k hOb9.1 hOb9.2 (by first | exact fun h => h | ((try dsimp only) <;> omega)))) (hW151.A (hsp155.k hOb9.1 hOb9.2 (by first | exact fun h => h | ((try dsimp only) <;> omega)))) hS148 dX0_keep_113 (fun H157 locs158 ha159 hz160 hq161 hS162 => ?_)
            obtain ⟨Γ163, hW164, hg165, ho166⟩ := hW151.put1 (hsp155.k hOb9.1 hOb9.2 (by first | exact fun h => h | ((try dsimp only) <;> omega))) ha159 hq161
            exact ps_vretG X hS162 (Nat.le_of_ble_eq_true rfl) (Nat.le_of_ble_eq_true rfl) dX0_keep_116 (⟨rfl, _, _, hW164, (((((((hgi.put hpi hz88 hq89 ho94).put ((ho94 _ (by omega)).trans ((hfi _ (by omega)).trans hOb.1)) hz98 hq99 ho104).new hz111 hq112 ho117).tr hgf125).put ((hkeep134 _ (hW102.lt hpa106)).trans hpa106) hz138 hq139 ho144).tr hgf152).put (hsp155.k hOb9.1 hOb9.2 (by first | exact fun h => h | ((try dsimp only) <;> omega))) hz160 hq161 ho166), (sNote_rot c_6) ▸ (ps_Cx.note hOb9 hRw9 hTp9 hTr9 hSx9 hSl9 hOr h24 hsq9 hsp155 hSo156 hg165 ho166)⟩)
          · skip
            refine lv_aload_n hx hb dX0_keep_66 rfl (lv_at hl 2 rfl) ?_
            refine ps_get (v := .int (nI ((sRot S).1 3))) X in_X0 (ci := 0) rfl 7 (by decide) q219 rfl (hW102.at hObr.1) rfl dX0_keep_67 ?_
            refine ps_aald (j := (sRot S).1 3) (o := some qk) X (t := 5) rfl (hW102.at hpa106) rfl (by show (sRot S).1 3 < 24; omega) (by first | decide | omega) ((hpk108 _ (by omega)).trans hsn) dX0_keep_70 ?_
            refine lv_ifnonnull (tgt := 90) hx hb dX0_keep_71 (by decide) ?_
            have hSoA := (hSxr.2.2.2.2 0 _ hSxr.1.1).2
            rw [hSlr.1] at hSoA
            have hqne : qk ≠ x + 11 := fun e => by
              have h9 := hSxr.2.2.2.1 _ _ _ hsn (hSxr.1.1.trans (congrArg some e.symm))
              omega
            obtain ⟨_, _, _, _, _, _, hQd, _⟩ := (hSxr.2.2.2.2 _ _ hsn).2
            have hQ := hQd.1
            obtain ⟨_, _, _, _, _, _, hAd, _⟩ := id hSoA
            refine lv_aload_n hx hb dX0_keep_90 rfl (lv_at hl 2 rfl) ?_
            refine ps_get (v := .ref (x + 19)) X in_X0 (ci := 0) rfl 6 (by decide) q218 rfl (hW102.at hObr.1) rfl dX0_keep_91 ?_
            refine lv_aload_n hx hb dX0_keep_94 rfl (lv_at hl 2 rfl) ?_
            refine ps_get (v := .int (nI ((sRot S).1 3))) X in_X0 (ci := 0) rfl 7 (by decide) q219 rfl (hW102.at hObr.1) rfl dX0_keep_95 ?_
            refine ps_aald (j := (sRot S).1 3) (o := some qk) X (t := 5) rfl (hW102.at hpa106) rfl (by show (sRot S).1 3 < 24; omega) (by first | decide | omega) ((hpk108 _ (by omega)).trans hsn) dX0_keep_98 ?_
            refine lv_aload_n hx hb dX0_keep_99 rfl (lv_at hl 2 rfl) ?_
            refine ps_get (v := .ref (x + 11)) X in_X0 (ci := 0) rfl 4 (by decide) q216 rfl (hW102.at hObr.1) rfl dX0_keep_100 ?_
            refine ps_geV X hE (m_X2_become l hE hZ hW102 (hSxr.2.2.2.2 _ _ hsn).2 hSoA (hSxr.2.2.2.2 _ _ hsn).1 hOr hqne) (lw_V q808 q809 q810 q70 q811) (by decide +kernel) ⟨⟨Nat.le_of_ble_eq_true rfl, Nat.le_of_ble_eq_true rfl⟩, Nat.le_of_ble_eq_true rfl, Nat.le_of_ble_eq_true rfl⟩ (ps_rc X (ci := 2) rfl (hW102.at hQ)) hS100 hl.1 (As := [.ref (x + 11)]) (rest := []) (n := 1) rfl rfl (Nat.le_of_ble_eq_true rfl) dX0_keep_103 (fun v171 H167 locs168 hp169 hS170 => ?_)
            obtain ⟨hv175, Γ172, ow176, hW173, hgf174, hsp177, hSo178⟩ := hp169
            subst hv175
            refine ps_st (st' := []) rfl ?_
            refine lv_aload_n hx hb dX0_keep_106 rfl (lv_at hl 2 rfl) ?_
            refine lv_dup hx hb dX0_keep_107 rfl ?_
            refine ps_get (v := .int (nI ((sRot S).1 3))) X in_X0 (ci := 0) rfl 7 (by decide) q219 rfl (hW173.at (hsp177.k hObr.1 hObr.2 (by first | exact fun h => h | ((try dsimp only) <;> omega)))) rfl dX0_keep_108 ?_
            refine lv_iconst (v := nI 1) hx hb dX0_keep_111 rfl ?_
            refine ps_iadd hx hb dX0_keep_112 ?_
            refine ps_put X in_X0 tyX0_ok nmX0 (ci := 0) rfl 7 (by decide) q219 rfl rfl rfl rfl (Nat.le_of_ble_eq_true rfl) (hW173.at (hsp177.k hObr.1 hObr.2 (by first | exact fun h => h | ((try dsimp only) <;> omega)))) (hW173.A (hsp177.k hObr.1 hObr.2 (by first | exact fun h => h | ((try dsimp only) <;> omega)))) hS170 dX0_keep_113 (fun H179 locs180 ha181 hz182 hq183 hS184 => ?_)
            obtain ⟨Γ185, hW186, hg187, ho188⟩ := hW173.put1 (hsp177.k hObr.1 hObr.2 (by first | exact fun h => h | ((try dsimp only) <;> omega))) ha181 hq183
            exact ps_vretG X hS184 (Nat.le_of_ble_eq_true rfl) (Nat.le_of_ble_eq_true rfl) dX0_keep_116 (⟨rfl, _, _, hW186, ((((hgi.put hpi hz88 hq89 ho94).put ((ho94 _ (by omega)).trans ((hfi _ (by omega)).trans hOb.1)) hz98 hq99 ho104).tr hgf174).put (hsp177.k hObr.1 hObr.2 (by first | exact fun h => h | ((try dsimp only) <;> omega))) hz182 hq183 ho188), (sNote_rot c_6) ▸ (ps_Cx.note hObr hRwr hTpr hTrr hSxr hSlr hOr h24 hsn hsp177 hSo178 hg187 ho188)⟩)
        · skip
          refine lv_aload_n hx hb dX0_keep_24 rfl (lv_at hl 2 rfl) ?_
          refine ps_get (v := .ref (x + 19)) X in_X0 (ci := 0) rfl 6 (by decide) q218 rfl (hWi.at ((hfi _ (by omega)).trans hOb.1)) rfl dX0_keep_25 ?_
          refine lv_iload_n hx hb dX0_keep_28 rfl (lv_at hl 0 rfl) ?_
          refine lv_iconst (v := nI 1) hx hb dX0_keep_29 rfl ?_
          refine ps_isub hx hb dX0_keep_30 (by omega) ?_
          refine lv_aload_n hx hb dX0_keep_31 rfl (lv_at hl 2 rfl) ?_
          refine ps_get (v := .ref (x + 19)) X in_X0 (ci := 0) rfl 6 (by decide) q218 rfl (hWi.at ((hfi _ (by omega)).trans hOb.1)) rfl dX0_keep_32 ?_
          refine lv_iload_n hx hb dX0_keep_35 rfl (lv_at hl 0 rfl) ?_
          refine ps_aald (j := i) (o := some (qa i)) X (t := 5) rfl (hWi.at hpi) rfl (by show i < 24; omega) (by first | decide | omega) ((hpv _).trans ((if_neg (by omega)).trans (hqa _ (by omega)))) dX0_keep_36 ?_
          obtain ⟨vs, hvs⟩ := hqc (i) (by omega)
          refine ps_aast (j := i - 1) X (t := 5) (C := "PromiseScales$Scales") rfl (hWi.at hpi) (hWi.at ((hfi _ (hqn _ (by omega))).trans hvs)) (ci := 2) rfl (Or.inl rfl) rfl (by show i - 1 < 24; omega) (by decide) (hWi.A hpi) hSi dX0_keep_37 (fun H189 locs190 ha191 hz192 hq193 hS194 => ?_)
          obtain ⟨Γ195, hW196, hg197, ho198⟩ := hWi.put1 hpi ha191 hq193
          refine lv_iinc (v := nI (i + 1)) (lv' := [(2, .int (nI (i + 1))), (1, .ref (qa 0)), (0, .ref (x))]) hx hb dX0_keep_38 hl (k := 0) rfl (ps_inc _) (by decide) rfl (fun ls hl => ?_)
          refine lv_goto (tgt := 18) hx hb dX0_keep_41 (by decide) ?_
          exact ih18  (i + 1) Γ195 ((va_up pai (i - 1) (some (qa i)))) H189 _ (by omega) hW196 ((hgi.put hpi hz192 hq193 ho198)) hg197 (ps_kst hpv (by omega) (hqa _ (by omega))) (fun q a1 => (ho198 _ a1).trans (hfi q a1)) hS194 (by omega) ls (lv_sub hl [0, 1, 2] rfl)
    exact L18 ((24 - 1) + 1) 1 Γ pa H _ (by omega) hW ps_gf.rf hpa (fun j => (if_neg (by omega)).symm) (fun q _ => rfl) hS (Nat.lt_succ_self _) ls (lv_sub hl [0, 1, 2] rfl)
