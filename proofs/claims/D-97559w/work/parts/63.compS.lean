/-! shelves (printed by gen/comp19.py) -/
set_option maxRecDepth 100000
set_option maxHeartbeats 4000000 in
theorem m_X1_many (l : Launch) {E : ps_E} (hE : ps_ZT E) {z : Nat} (hZ : ps_Zk E z) {Γ : ps_Gh} {H : Heap} (hW : ps_W E Γ H) (hX : ps_Zx E) (hLT : l.stackTraces = false) {a L Zr h : Nat} {f : Nat → Int32} (hq : ps_Rq E Γ a L Zr h f) : ps_Gx l E yX1_many cX1_many 1 (some .int) 8 10260 1 8 [.ref (a)] H (fun v H1 => v = some (.int (nI (Zr - 1))) ∧ Zr ≠ 0 ∧ H1 = H) (fun N H1 => (Zr = 0 ∧ N = ps_nN) ∧ ps_W E Γ H1 ∧ ps_gf Γ H Γ H1) := by
  refine ps_Gx.of (by decide) (Nat.le_of_ble_eq_true rfl) ?_
  intro p e s m args below meth c X ht ls hl
  have hx := X.1
  have hb := X.2.1
  have ho := X.2.2.2.1
  have hts := X.2.2.2.2.1
  have hS : va_S (ps_A E) s.heap H [] := by rw [X.2.2.2.2.2.2.2.2.1]; exact va_S.rf
  have hl : lv_has ls 1 [(0, .ref (a))] := hl
  have hq1 := hq.1
  rcases hq.four with ⟨rfl, hA⟩ | ⟨rfl, hz, hA, hB⟩ | ⟨rfl, hz, hA, hB⟩ | ⟨rfl, hz, hA, hB⟩
  · skip
    refine lv_aload_n hx hb dX1_many_0 rfl (lv_at hl 0 rfl) ?_
    refine ps_get (v := .null) X in_X1 (ci := 1) rfl 0 (by decide) q123 rfl (hW.at hA) rfl dX1_many_1 ?_
    refine lv_instN hx hb dX1_many_4 ?_
    refine ps_st (st' := [.int (nI 0)]) rfl ?_
    refine lv_if_eq (tgt := 19) hx hb dX1_many_7 (by decide) (fun _ => ?_) (fun c_ => absurd c_ (by decide))
    refine lv_aload_n hx hb dX1_many_19 rfl (lv_at hl 0 rfl) ?_
    refine ps_get (v := .null) X in_X1 (ci := 1) rfl 0 (by decide) q123 rfl (hW.at hA) rfl dX1_many_20 ?_
    refine lv_instN hx hb dX1_many_23 ?_
    refine ps_st (st' := [.int (nI 0)]) rfl ?_
    refine lv_if_eq (tgt := 38) hx hb dX1_many_26 (by decide) (fun _ => ?_) (fun c_ => absurd c_ (by decide))
    refine lv_aload_n hx hb dX1_many_38 rfl (lv_at hl 0 rfl) ?_
    refine ps_get (v := .null) X in_X1 (ci := 1) rfl 0 (by decide) q123 rfl (hW.at hA) rfl dX1_many_39 ?_
    refine lv_castN hx hb dX1_many_42 ?_
    refine vx_arraylengthN hx hb dX1_many_45 ?_
    refine ps_npe X hZ hX hLT hS hl.1 ⟨⟨Nat.le_of_ble_eq_true rfl, Nat.le_of_ble_eq_true rfl⟩, Nat.le_of_ble_eq_true rfl, Nat.le_of_ble_eq_true rfl⟩ (Nat.le_of_ble_eq_true rfl) (fun H1 q2 ce3 hz4 hk5 hS6 hce7 hcv8 hcl9 => ?_)
    obtain ⟨hW10, hgf11⟩ := hW.thrown hz4 hk5
    exact ps_out X ht hS6 hce7 hcv8 hcl9 (⟨⟨rfl, rfl⟩, hW10, (ps_gf.rf.tr hgf11)⟩) (Nat.le_of_ble_eq_true rfl) (Nat.le_of_ble_eq_true rfl)
  · skip
    refine lv_aload_n hx hb dX1_many_0 rfl (lv_at hl 0 rfl) ?_
    refine ps_get (v := .ref (h)) X in_X1 (ci := 1) rfl 0 (by decide) q123 rfl (hW.at hA) rfl dX1_many_1 ?_
    refine ps_instA X q410 (ps_arc (ty := .int) X (hW.at hB) (ps_nmB X)) dX1_many_4 ?_
    refine lv_if_eq (tgt := 19) hx hb dX1_many_7 (by decide) (fun c_ => absurd c_ (by decide)) (fun _ => ?_)
    refine lv_aload_n hx hb dX1_many_10 rfl (lv_at hl 0 rfl) ?_
    refine ps_get (v := .ref (h)) X in_X1 (ci := 1) rfl 0 (by decide) q123 rfl (hW.at hA) rfl dX1_many_11 ?_
    refine ps_castA X q410 (ps_arc (ty := .int) X (hW.at hB) (ps_nmB X)) dX1_many_14 ?_
    refine ps_alen (t := 1) (n := Zr - 1) X rfl (hW.at hB) rfl dX1_many_17 ?_
    refine vx_ret ?_
    exact ps_iretG X hS (Nat.le_of_ble_eq_true rfl) (Nat.le_of_ble_eq_true rfl) dX1_many_18 (⟨rfl, hz, rfl⟩)
  · skip
    refine lv_aload_n hx hb dX1_many_0 rfl (lv_at hl 0 rfl) ?_
    refine ps_get (v := .ref (h)) X in_X1 (ci := 1) rfl 0 (by decide) q123 rfl (hW.at hA) rfl dX1_many_1 ?_
    refine ps_instX X q410 (ps_arc (ty := .int) X (hW.at hB) (ps_nmS X)) ((hX s X.2.2.2.2.2.2.2.1.2).1 ("[S", "[B") (by decide)) dX1_many_4 ?_
    refine lv_if_eq (tgt := 19) hx hb dX1_many_7 (by decide) (fun _ => ?_) (fun c_ => absurd c_ (by decide))
    refine lv_aload_n hx hb dX1_many_19 rfl (lv_at hl 0 rfl) ?_
    refine ps_get (v := .ref (h)) X in_X1 (ci := 1) rfl 0 (by decide) q123 rfl (hW.at hA) rfl dX1_many_20 ?_
    refine ps_instA X q411 (ps_arc (ty := .int) X (hW.at hB) (ps_nmS X)) dX1_many_23 ?_
    refine lv_if_eq (tgt := 38) hx hb dX1_many_26 (by decide) (fun c_ => absurd c_ (by decide)) (fun _ => ?_)
    refine lv_aload_n hx hb dX1_many_29 rfl (lv_at hl 0 rfl) ?_
    refine ps_get (v := .ref (h)) X in_X1 (ci := 1) rfl 0 (by decide) q123 rfl (hW.at hA) rfl dX1_many_30 ?_
    refine ps_castA X q411 (ps_arc (ty := .int) X (hW.at hB) (ps_nmS X)) dX1_many_33 ?_
    refine ps_alen (t := 2) (n := Zr - 1) X rfl (hW.at hB) rfl dX1_many_36 ?_
    refine vx_ret ?_
    exact ps_iretG X hS (Nat.le_of_ble_eq_true rfl) (Nat.le_of_ble_eq_true rfl) dX1_many_37 (⟨rfl, hz, rfl⟩)
  · skip
    refine lv_aload_n hx hb dX1_many_0 rfl (lv_at hl 0 rfl) ?_
    refine ps_get (v := .ref (h)) X in_X1 (ci := 1) rfl 0 (by decide) q123 rfl (hW.at hA) rfl dX1_many_1 ?_
    refine ps_instX X q410 (ps_arc (ty := .int) X (hW.at hB) (ps_nmI X)) ((hX s X.2.2.2.2.2.2.2.1.2).1 ("[I", "[B") (by decide)) dX1_many_4 ?_
    refine lv_if_eq (tgt := 19) hx hb dX1_many_7 (by decide) (fun _ => ?_) (fun c_ => absurd c_ (by decide))
    refine lv_aload_n hx hb dX1_many_19 rfl (lv_at hl 0 rfl) ?_
    refine ps_get (v := .ref (h)) X in_X1 (ci := 1) rfl 0 (by decide) q123 rfl (hW.at hA) rfl dX1_many_20 ?_
    refine ps_instX X q411 (ps_arc (ty := .int) X (hW.at hB) (ps_nmI X)) ((hX s X.2.2.2.2.2.2.2.1.2).1 ("[I", "[S") (by decide)) dX1_many_23 ?_
    refine lv_if_eq (tgt := 38) hx hb dX1_many_26 (by decide) (fun _ => ?_) (fun c_ => absurd c_ (by decide))
    refine lv_aload_n hx hb dX1_many_38 rfl (lv_at hl 0 rfl) ?_
    refine ps_get (v := .ref (h)) X in_X1 (ci := 1) rfl 0 (by decide) q123 rfl (hW.at hA) rfl dX1_many_39 ?_
    refine ps_castA X q412 (ps_arc (ty := .int) X (hW.at hB) (ps_nmI X)) dX1_many_42 ?_
    refine ps_alen (t := 0) (n := Zr - 1) X rfl (hW.at hB) rfl dX1_many_45 ?_
    refine vx_ret ?_
    exact ps_iretG X hS (Nat.le_of_ble_eq_true rfl) (Nat.le_of_ble_eq_true rfl) dX1_many_46 (⟨rfl, hz, rfl⟩)

set_option maxHeartbeats 4000000 in
theorem m_X1_at (l : Launch) {E : ps_E} (hE : ps_ZT E) {z : Nat} (hZ : ps_Zk E z) {Γ : ps_Gh} {H : Heap} (hW : ps_W E Γ H) (hX : ps_Zx E) (hLT : l.stackTraces = false) {a L Zr h : Nat} {f : Nat → Int32} (hq : ps_Rq E Γ a L Zr h f) {i : Int32} : ps_Gx l E yX1_at cX1_at 2 (some .int) 8 10260 3 222 [.ref (a), .int (i)] H (fun v H1 => v = some (.int (f i.toNatClampNeg)) ∧ (Zr ≠ 0 ∧ rng i 0 (Zr - 1) = true) ∧ H1 = H) (ps_shX E Γ H Zr i) := by
  refine ps_Gx.of (by decide) (Nat.le_of_ble_eq_true rfl) ?_
  intro p e s m args below meth c X ht ls hl
  have hx := X.1
  have hb := X.2.1
  have ho := X.2.2.2.1
  have hts := X.2.2.2.2.1
  have hS : va_S (ps_A E) s.heap H [] := by rw [X.2.2.2.2.2.2.2.2.1]; exact va_S.rf
  have hl : lv_has ls 2 [(0, .ref (a)), (1, .int (i))] := hl
  have hq1 := hq.1
  rcases hq.four with ⟨rfl, hA⟩ | ⟨rfl, hz, hA, hB⟩ | ⟨rfl, hz, hA, hB⟩ | ⟨rfl, hz, hA, hB⟩
  · skip
    refine lv_aload_n hx hb dX1_at_0 rfl (lv_at hl 0 rfl) ?_
    refine ps_get (v := .null) X in_X1 (ci := 1) rfl 0 (by decide) q123 rfl (hW.at hA) rfl dX1_at_1 ?_
    refine lv_instN hx hb dX1_at_4 ?_
    refine ps_st (st' := [.int (nI 0)]) rfl ?_
    refine lv_if_eq (tgt := 20) hx hb dX1_at_7 (by decide) (fun _ => ?_) (fun c_ => absurd c_ (by decide))
    refine lv_aload_n hx hb dX1_at_20 rfl (lv_at hl 0 rfl) ?_
    refine ps_get (v := .null) X in_X1 (ci := 1) rfl 0 (by decide) q123 rfl (hW.at hA) rfl dX1_at_21 ?_
    refine lv_instN hx hb dX1_at_24 ?_
    refine ps_st (st' := [.int (nI 0)]) rfl ?_
    refine lv_if_eq (tgt := 40) hx hb dX1_at_27 (by decide) (fun _ => ?_) (fun c_ => absurd c_ (by decide))
    refine lv_aload_n hx hb dX1_at_40 rfl (lv_at hl 0 rfl) ?_
    refine ps_get (v := .null) X in_X1 (ci := 1) rfl 0 (by decide) q123 rfl (hW.at hA) rfl dX1_at_41 ?_
    refine lv_castN hx hb dX1_at_44 ?_
    refine lv_iload_n hx hb dX1_at_47 rfl (lv_at hl 1 rfl) ?_
    refine vx_ialoadN hx hb dX1_at_48 ?_
    refine ps_npe X hZ hX hLT hS hl.1 ⟨⟨Nat.le_of_ble_eq_true rfl, Nat.le_of_ble_eq_true rfl⟩, Nat.le_of_ble_eq_true rfl, Nat.le_of_ble_eq_true rfl⟩ (Nat.le_of_ble_eq_true rfl) (fun H1 q2 ce3 hz4 hk5 hS6 hce7 hcv8 hcl9 => ?_)
    obtain ⟨hW10, hgf11⟩ := hW.thrown hz4 hk5
    exact ps_out X ht hS6 hce7 hcv8 hcl9 (⟨Or.inl ⟨rfl, rfl⟩, hW10, (ps_gf.rf.tr hgf11)⟩) (Nat.le_of_ble_eq_true rfl) (Nat.le_of_ble_eq_true rfl)
  · skip
    refine lv_aload_n hx hb dX1_at_0 rfl (lv_at hl 0 rfl) ?_
    refine ps_get (v := .ref (h)) X in_X1 (ci := 1) rfl 0 (by decide) q123 rfl (hW.at hA) rfl dX1_at_1 ?_
    refine ps_instA X q410 (ps_arc (ty := .int) X (hW.at hB) (ps_nmB X)) dX1_at_4 ?_
    refine lv_if_eq (tgt := 20) hx hb dX1_at_7 (by decide) (fun c_ => absurd c_ (by decide)) (fun _ => ?_)
    refine lv_aload_n hx hb dX1_at_10 rfl (lv_at hl 0 rfl) ?_
    refine ps_get (v := .ref (h)) X in_X1 (ci := 1) rfl 0 (by decide) q123 rfl (hW.at hA) rfl dX1_at_11 ?_
    refine ps_castA X q410 (ps_arc (ty := .int) X (hW.at hB) (ps_nmB X)) dX1_at_14 ?_
    refine lv_iload_n hx hb dX1_at_17 rfl (lv_at hl 1 rfl) ?_
    rcases ps_rin i (n := Zr - 1) (by omega) with ⟨k, rfl, hk12, hr13⟩ | ⟨ho14, hr15⟩
    · skip
      refine ps_bald (j := k) X (hW.at hB) rfl (by show k < Zr - 1; omega) (by first | decide | omega) dX1_at_18 ?_
      refine vx_ret ?_
      exact ps_iretG X hS (Nat.le_of_ble_eq_true rfl) (Nat.le_of_ble_eq_true rfl) dX1_at_19 (⟨by rw [nI_clamp (by omega)], ⟨hz, hr13⟩, rfl⟩)
    · skip
      refine ps_baldZ X hZ hX hLT (hW.at hB) (by omega) ho14 hS hl.1 ⟨⟨Nat.le_of_ble_eq_true rfl, Nat.le_of_ble_eq_true rfl⟩, Nat.le_of_ble_eq_true rfl, Nat.le_of_ble_eq_true rfl⟩ (Nat.le_of_ble_eq_true rfl) dX1_at_18 (fun H16 q17 ce18 hz19 hk20 hS21 hce22 hcv23 hcl24 => ?_)
      obtain ⟨hW25, hgf26⟩ := hW.thrown hz19 hk20
      exact ps_out X ht hS21 hce22 hcv23 hcl24 (⟨Or.inr ⟨hz, hr15, rfl⟩, hW25, (ps_gf.rf.tr hgf26)⟩) (Nat.le_of_ble_eq_true rfl) (Nat.le_of_ble_eq_true rfl)
  · skip
    refine lv_aload_n hx hb dX1_at_0 rfl (lv_at hl 0 rfl) ?_
    refine ps_get (v := .ref (h)) X in_X1 (ci := 1) rfl 0 (by decide) q123 rfl (hW.at hA) rfl dX1_at_1 ?_
    refine ps_instX X q410 (ps_arc (ty := .int) X (hW.at hB) (ps_nmS X)) ((hX s X.2.2.2.2.2.2.2.1.2).1 ("[S", "[B") (by decide)) dX1_at_4 ?_
    refine lv_if_eq (tgt := 20) hx hb dX1_at_7 (by decide) (fun _ => ?_) (fun c_ => absurd c_ (by decide))
    refine lv_aload_n hx hb dX1_at_20 rfl (lv_at hl 0 rfl) ?_
    refine ps_get (v := .ref (h)) X in_X1 (ci := 1) rfl 0 (by decide) q123 rfl (hW.at hA) rfl dX1_at_21 ?_
    refine ps_instA X q411 (ps_arc (ty := .int) X (hW.at hB) (ps_nmS X)) dX1_at_24 ?_
    refine lv_if_eq (tgt := 40) hx hb dX1_at_27 (by decide) (fun c_ => absurd c_ (by decide)) (fun _ => ?_)
    refine lv_aload_n hx hb dX1_at_30 rfl (lv_at hl 0 rfl) ?_
    refine ps_get (v := .ref (h)) X in_X1 (ci := 1) rfl 0 (by decide) q123 rfl (hW.at hA) rfl dX1_at_31 ?_
    refine ps_castA X q411 (ps_arc (ty := .int) X (hW.at hB) (ps_nmS X)) dX1_at_34 ?_
    refine lv_iload_n hx hb dX1_at_37 rfl (lv_at hl 1 rfl) ?_
    rcases ps_rin i (n := Zr - 1) (by omega) with ⟨k, rfl, hk27, hr28⟩ | ⟨ho29, hr30⟩
    · skip
      refine ps_sald (j := k) X (hW.at hB) rfl (by show k < Zr - 1; omega) (by first | decide | omega) dX1_at_38 ?_
      refine vx_ret ?_
      exact ps_iretG X hS (Nat.le_of_ble_eq_true rfl) (Nat.le_of_ble_eq_true rfl) dX1_at_39 (⟨by rw [nI_clamp (by omega)], ⟨hz, hr28⟩, rfl⟩)
    · skip
      refine ps_saldZ X hZ hX hLT (hW.at hB) (by omega) ho29 hS hl.1 ⟨⟨Nat.le_of_ble_eq_true rfl, Nat.le_of_ble_eq_true rfl⟩, Nat.le_of_ble_eq_true rfl, Nat.le_of_ble_eq_true rfl⟩ (Nat.le_of_ble_eq_true rfl) dX1_at_38 (fun H31 q32 ce33 hz34 hk35 hS36 hce37 hcv38 hcl39 => ?_)
      obtain ⟨hW40, hgf41⟩ := hW.thrown hz34 hk35
      exact ps_out X ht hS36 hce37 hcv38 hcl39 (⟨Or.inr ⟨hz, hr30, rfl⟩, hW40, (ps_gf.rf.tr hgf41)⟩) (Nat.le_of_ble_eq_true rfl) (Nat.le_of_ble_eq_true rfl)
  · skip
    refine lv_aload_n hx hb dX1_at_0 rfl (lv_at hl 0 rfl) ?_
    refine ps_get (v := .ref (h)) X in_X1 (ci := 1) rfl 0 (by decide) q123 rfl (hW.at hA) rfl dX1_at_1 ?_
    refine ps_instX X q410 (ps_arc (ty := .int) X (hW.at hB) (ps_nmI X)) ((hX s X.2.2.2.2.2.2.2.1.2).1 ("[I", "[B") (by decide)) dX1_at_4 ?_
    refine lv_if_eq (tgt := 20) hx hb dX1_at_7 (by decide) (fun _ => ?_) (fun c_ => absurd c_ (by decide))
    refine lv_aload_n hx hb dX1_at_20 rfl (lv_at hl 0 rfl) ?_
    refine ps_get (v := .ref (h)) X in_X1 (ci := 1) rfl 0 (by decide) q123 rfl (hW.at hA) rfl dX1_at_21 ?_
    refine ps_instX X q411 (ps_arc (ty := .int) X (hW.at hB) (ps_nmI X)) ((hX s X.2.2.2.2.2.2.2.1.2).1 ("[I", "[S") (by decide)) dX1_at_24 ?_
    refine lv_if_eq (tgt := 40) hx hb dX1_at_27 (by decide) (fun _ => ?_) (fun c_ => absurd c_ (by decide))
    refine lv_aload_n hx hb dX1_at_40 rfl (lv_at hl 0 rfl) ?_
    refine ps_get (v := .ref (h)) X in_X1 (ci := 1) rfl 0 (by decide) q123 rfl (hW.at hA) rfl dX1_at_41 ?_
    refine ps_castA X q412 (ps_arc (ty := .int) X (hW.at hB) (ps_nmI X)) dX1_at_44 ?_
    refine lv_iload_n hx hb dX1_at_47 rfl (lv_at hl 1 rfl) ?_
    rcases ps_rin i (n := Zr - 1) (by omega) with ⟨k, rfl, hk42, hr43⟩ | ⟨ho44, hr45⟩
    · skip
      refine ps_iald (j := k) X (hW.at hB) rfl (by show k < Zr - 1; omega) (by first | decide | omega) dX1_at_48 ?_
      refine vx_ret ?_
      exact ps_iretG X hS (Nat.le_of_ble_eq_true rfl) (Nat.le_of_ble_eq_true rfl) dX1_at_49 (⟨by rw [nI_clamp (by omega)], ⟨hz, hr43⟩, rfl⟩)
    · skip
      refine ps_ialdZ X hZ hX hLT (hW.at hB) (by omega) ho44 hS hl.1 ⟨⟨Nat.le_of_ble_eq_true rfl, Nat.le_of_ble_eq_true rfl⟩, Nat.le_of_ble_eq_true rfl, Nat.le_of_ble_eq_true rfl⟩ (Nat.le_of_ble_eq_true rfl) dX1_at_48 (fun H46 q47 ce48 hz49 hk50 hS51 hce52 hcv53 hcl54 => ?_)
      obtain ⟨hW55, hgf56⟩ := hW.thrown hz49 hk50
      exact ps_out X ht hS51 hce52 hcv53 hcl54 (⟨Or.inr ⟨hz, hr45, rfl⟩, hW55, (ps_gf.rf.tr hgf56)⟩) (Nat.le_of_ble_eq_true rfl) (Nat.le_of_ble_eq_true rfl)

set_option maxHeartbeats 4000000 in
theorem m_X1_put (l : Launch) {E : ps_E} (hE : ps_ZT E) {z : Nat} (hZ : ps_Zk E z) {Γ : ps_Gh} {H : Heap} (hW : ps_W E Γ H) (hX : ps_Zx E) (hLT : l.stackTraces = false) {a L Zr h : Nat} {f : Nat → Int32} (hq : ps_Rq E Γ a L Zr h f) {i x : Int32} : ps_Gx l E yX1_put cX1_put 3 (some .int) 9 10281 3 222 [.ref (a), .int (i), .int (x)] H (fun v H1 => v = some (.int (asl L x)) ∧ (Zr ≠ 0 ∧ rng i 0 (Zr - 1) = true) ∧ ∃ Γ1, ps_W E Γ1 H1 ∧ ps_gf Γ H Γ1 H1 ∧ Γ1 h = some (.inl (E.2.1 (ps_la L), Zr - 1, .inl (upd f i.toNatClampNeg (asl L x)))) ∧ ∀ q, q ≠ h → Γ1 q = Γ q) (ps_shX E Γ H Zr i) := by
  refine ps_Gx.of (by decide) (Nat.le_of_ble_eq_true rfl) ?_
  intro p e s m args below meth c X ht ls hl
  have hx := X.1
  have hb := X.2.1
  have ho := X.2.2.2.1
  have hts := X.2.2.2.2.1
  have hS : va_S (ps_A E) s.heap H [] := by rw [X.2.2.2.2.2.2.2.2.1]; exact va_S.rf
  have hl : lv_has ls 3 [(0, .ref (a)), (1, .int (i)), (2, .int (x))] := hl
  have hq1 := hq.1
  rcases hq.four with ⟨rfl, hA⟩ | ⟨rfl, hz, hA, hB⟩ | ⟨rfl, hz, hA, hB⟩ | ⟨rfl, hz, hA, hB⟩
  · skip
    refine lv_aload_n hx hb dX1_put_0 rfl (lv_at hl 0 rfl) ?_
    refine ps_get (v := .null) X in_X1 (ci := 1) rfl 0 (by decide) q123 rfl (hW.at hA) rfl dX1_put_1 ?_
    refine lv_instN hx hb dX1_put_4 ?_
    refine ps_st (st' := [.int (nI 0)]) rfl ?_
    refine lv_if_eq (tgt := 24) hx hb dX1_put_7 (by decide) (fun _ => ?_) (fun c_ => absurd c_ (by decide))
    refine lv_aload_n hx hb dX1_put_24 rfl (lv_at hl 0 rfl) ?_
    refine ps_get (v := .null) X in_X1 (ci := 1) rfl 0 (by decide) q123 rfl (hW.at hA) rfl dX1_put_25 ?_
    refine lv_instN hx hb dX1_put_28 ?_
    refine ps_st (st' := [.int (nI 0)]) rfl ?_
    refine lv_if_eq (tgt := 48) hx hb dX1_put_31 (by decide) (fun _ => ?_) (fun c_ => absurd c_ (by decide))
    refine lv_aload_n hx hb dX1_put_48 rfl (lv_at hl 0 rfl) ?_
    refine ps_get (v := .null) X in_X1 (ci := 1) rfl 0 (by decide) q123 rfl (hW.at hA) rfl dX1_put_49 ?_
    refine lv_castN hx hb dX1_put_52 ?_
    refine lv_iload_n hx hb dX1_put_55 rfl (lv_at hl 1 rfl) ?_
    refine lv_iload_n hx hb dX1_put_56 rfl (lv_at hl 2 rfl) ?_
    refine vx_iastoreN hx hb dX1_put_57 ?_
    refine ps_npe X hZ hX hLT hS hl.1 ⟨⟨Nat.le_of_ble_eq_true rfl, Nat.le_of_ble_eq_true rfl⟩, Nat.le_of_ble_eq_true rfl, Nat.le_of_ble_eq_true rfl⟩ (Nat.le_of_ble_eq_true rfl) (fun H1 q2 ce3 hz4 hk5 hS6 hce7 hcv8 hcl9 => ?_)
    obtain ⟨hW10, hgf11⟩ := hW.thrown hz4 hk5
    exact ps_out X ht hS6 hce7 hcv8 hcl9 (⟨Or.inl ⟨rfl, rfl⟩, hW10, (ps_gf.rf.tr hgf11)⟩) (Nat.le_of_ble_eq_true rfl) (Nat.le_of_ble_eq_true rfl)
  · skip
    refine lv_aload_n hx hb dX1_put_0 rfl (lv_at hl 0 rfl) ?_
    refine ps_get (v := .ref (h)) X in_X1 (ci := 1) rfl 0 (by decide) q123 rfl (hW.at hA) rfl dX1_put_1 ?_
    refine ps_instA X q410 (ps_arc (ty := .int) X (hW.at hB) (ps_nmB X)) dX1_put_4 ?_
    refine lv_if_eq (tgt := 24) hx hb dX1_put_7 (by decide) (fun c_ => absurd c_ (by decide)) (fun _ => ?_)
    refine lv_aload_n hx hb dX1_put_10 rfl (lv_at hl 0 rfl) ?_
    refine ps_get (v := .ref (h)) X in_X1 (ci := 1) rfl 0 (by decide) q123 rfl (hW.at hA) rfl dX1_put_11 ?_
    refine ps_castA X q410 (ps_arc (ty := .int) X (hW.at hB) (ps_nmB X)) dX1_put_14 ?_
    refine lv_iload_n hx hb dX1_put_17 rfl (lv_at hl 1 rfl) ?_
    refine lv_iload_n hx hb dX1_put_18 rfl (lv_at hl 2 rfl) ?_
    refine lv_i2b (v := (x).toInt8.toInt32) hx hb dX1_put_19 rfl ?_
    rcases ps_rin i (n := Zr - 1) (by omega) with ⟨k, rfl, hk12, hr13⟩ | ⟨ho14, hr15⟩
    · skip
      refine ps_bast (j := k) X (hW.at hB) rfl (by show k < Zr - 1; omega) (by first | decide | omega) (hW.A hB) hS dX1_put_20 (fun H16 locs17 ha18 hz19 hq20 hS21 => ?_)
      obtain ⟨Γ22, hW23, hg24, ho25⟩ := hW.put1 hB ha18 hq20
      refine lv_goto (tgt := 58) hx hb dX1_put_21 (by decide) ?_
      have hB9 := hg24
      rw [pk_vb] at hB9
      have hne : a ≠ h := ps_gne hA hB (by intro q; cases q)
      have hA9 := (ho25 _ hne).trans hA
      have hq9 : ps_Rq E Γ22 a 0 Zr h (upd f k (x.toInt8.toInt32)) := ⟨hq1, Or.inr ⟨hz, hA9, hB9⟩⟩
      refine lv_aload_n hx hb dX1_put_58 rfl (lv_at hl 0 rfl) ?_
      refine lv_iload_n hx hb dX1_put_59 rfl (lv_at hl 1 rfl) ?_
      refine ps_gxV X hE (m_X1_at l hE hZ hW23 hX hLT (i := nI k) hq9) (lw_V q413 q415 qs5 q69 q416) (by decide +kernel) ⟨⟨Nat.le_of_ble_eq_true rfl, Nat.le_of_ble_eq_true rfl⟩, Nat.le_of_ble_eq_true rfl, Nat.le_of_ble_eq_true rfl⟩ (ps_rc X (ci := 1) rfl (hW23.at hA9)) hS21 hl.1 (As := [.int (nI k)]) (rest := []) (n := 1) rfl rfl (Nat.le_of_ble_eq_true rfl) dX1_put_60 ?_ (fun N26 H27 locs28 q29 ce30 hp31 hS32 hce33 hcv34 hcl35 => ?_)
      rotate_left
      · skip
        obtain ⟨⟨h9, -⟩ | ⟨-, h9, -⟩, -⟩ := hp31
        · exact absurd h9 hz
        · rw [hr13] at h9; cases h9
      intro v40 H36 locs37 hp38 hS39
      obtain ⟨hv41, hz42, hH43⟩ := hp38
      subst hv41; have hH43s := hH43.symm; subst hH43s
      refine ps_st (st' := [.int (upd f k (x.toInt8.toInt32) (nI k).toNatClampNeg)]) rfl ?_
      refine vx_ret ?_
      exact ps_iretG X hS39 (Nat.le_of_ble_eq_true rfl) (Nat.le_of_ble_eq_true rfl) dX1_put_63 (⟨by rw [nI_clamp (by omega)]; simp [upd, asl], ⟨hz, hr13⟩, Γ22, hW23, (ps_gf.rf.put hB hz19 hq20 ho25), by rw [nI_clamp (by omega)]; simpa [asl, ps_la] using hB9, ho25⟩)
    · skip
      refine ps_bastZ X hZ hX hLT (hW.at hB) (by omega) ho14 hS hl.1 ⟨⟨Nat.le_of_ble_eq_true rfl, Nat.le_of_ble_eq_true rfl⟩, Nat.le_of_ble_eq_true rfl, Nat.le_of_ble_eq_true rfl⟩ (Nat.le_of_ble_eq_true rfl) dX1_put_20 (fun H44 q45 ce46 hz47 hk48 hS49 hce50 hcv51 hcl52 => ?_)
      obtain ⟨hW53, hgf54⟩ := hW.thrown hz47 hk48
      exact ps_out X ht hS49 hce50 hcv51 hcl52 (⟨Or.inr ⟨hz, hr15, rfl⟩, hW53, (ps_gf.rf.tr hgf54)⟩) (Nat.le_of_ble_eq_true rfl) (Nat.le_of_ble_eq_true rfl)
  · skip
    refine lv_aload_n hx hb dX1_put_0 rfl (lv_at hl 0 rfl) ?_
    refine ps_get (v := .ref (h)) X in_X1 (ci := 1) rfl 0 (by decide) q123 rfl (hW.at hA) rfl dX1_put_1 ?_
    refine ps_instX X q410 (ps_arc (ty := .int) X (hW.at hB) (ps_nmS X)) ((hX s X.2.2.2.2.2.2.2.1.2).1 ("[S", "[B") (by decide)) dX1_put_4 ?_
    refine lv_if_eq (tgt := 24) hx hb dX1_put_7 (by decide) (fun _ => ?_) (fun c_ => absurd c_ (by decide))
    refine lv_aload_n hx hb dX1_put_24 rfl (lv_at hl 0 rfl) ?_
    refine ps_get (v := .ref (h)) X in_X1 (ci := 1) rfl 0 (by decide) q123 rfl (hW.at hA) rfl dX1_put_25 ?_
    refine ps_instA X q411 (ps_arc (ty := .int) X (hW.at hB) (ps_nmS X)) dX1_put_28 ?_
    refine lv_if_eq (tgt := 48) hx hb dX1_put_31 (by decide) (fun c_ => absurd c_ (by decide)) (fun _ => ?_)
    refine lv_aload_n hx hb dX1_put_34 rfl (lv_at hl 0 rfl) ?_
    refine ps_get (v := .ref (h)) X in_X1 (ci := 1) rfl 0 (by decide) q123 rfl (hW.at hA) rfl dX1_put_35 ?_
    refine ps_castA X q411 (ps_arc (ty := .int) X (hW.at hB) (ps_nmS X)) dX1_put_38 ?_
    refine lv_iload_n hx hb dX1_put_41 rfl (lv_at hl 1 rfl) ?_
    refine lv_iload_n hx hb dX1_put_42 rfl (lv_at hl 2 rfl) ?_
    refine lv_i2s (v := (x).toInt16.toInt32) hx hb dX1_put_43 rfl ?_
    rcases ps_rin i (n := Zr - 1) (by omega) with ⟨k, rfl, hk55, hr56⟩ | ⟨ho57, hr58⟩
    · skip
      refine ps_sast (j := k) X (hW.at hB) rfl (by show k < Zr - 1; omega) (by first | decide | omega) (hW.A hB) hS dX1_put_44 (fun H59 locs60 ha61 hz62 hq63 hS64 => ?_)
      obtain ⟨Γ65, hW66, hg67, ho68⟩ := hW.put1 hB ha61 hq63
      refine lv_goto (tgt := 58) hx hb dX1_put_45 (by decide) ?_
      have hB9 := hg67
      rw [pk_vs] at hB9
      have hne : a ≠ h := ps_gne hA hB (by intro q; cases q)
      have hA9 := (ho68 _ hne).trans hA
      have hq9 : ps_Rq E Γ65 a 1 Zr h (upd f k (x.toInt16.toInt32)) := ⟨hq1, Or.inr ⟨hz, hA9, hB9⟩⟩
      refine lv_aload_n hx hb dX1_put_58 rfl (lv_at hl 0 rfl) ?_
      refine lv_iload_n hx hb dX1_put_59 rfl (lv_at hl 1 rfl) ?_
      refine ps_gxV X hE (m_X1_at l hE hZ hW66 hX hLT (i := nI k) hq9) (lw_V q413 q415 qs5 q69 q416) (by decide +kernel) ⟨⟨Nat.le_of_ble_eq_true rfl, Nat.le_of_ble_eq_true rfl⟩, Nat.le_of_ble_eq_true rfl, Nat.le_of_ble_eq_true rfl⟩ (ps_rc X (ci := 1) rfl (hW66.at hA9)) hS64 hl.1 (As := [.int (nI k)]) (rest := []) (n := 1) rfl rfl (Nat.le_of_ble_eq_true rfl) dX1_put_60 ?_ (fun N69 H70 locs71 q72 ce73 hp74 hS75 hce76 hcv77 hcl78 => ?_)
      rotate_left
      · skip
        obtain ⟨⟨h9, -⟩ | ⟨-, h9, -⟩, -⟩ := hp74
        · exact absurd h9 hz
        · rw [hr56] at h9; cases h9
      intro v83 H79 locs80 hp81 hS82
      obtain ⟨hv84, hz85, hH86⟩ := hp81
      subst hv84; have hH86s := hH86.symm; subst hH86s
      refine ps_st (st' := [.int (upd f k (x.toInt16.toInt32) (nI k).toNatClampNeg)]) rfl ?_
      refine vx_ret ?_
      exact ps_iretG X hS82 (Nat.le_of_ble_eq_true rfl) (Nat.le_of_ble_eq_true rfl) dX1_put_63 (⟨by rw [nI_clamp (by omega)]; simp [upd, asl], ⟨hz, hr56⟩, Γ65, hW66, (ps_gf.rf.put hB hz62 hq63 ho68), by rw [nI_clamp (by omega)]; simpa [asl, ps_la] using hB9, ho68⟩)
    · skip
      refine ps_sastZ X hZ hX hLT (hW.at hB) (by omega) ho57 hS hl.1 ⟨⟨Nat.le_of_ble_eq_true rfl, Nat.le_of_ble_eq_true rfl⟩, Nat.le_of_ble_eq_true rfl, Nat.le_of_ble_eq_true rfl⟩ (Nat.le_of_ble_eq_true rfl) dX1_put_44 (fun H87 q88 ce89 hz90 hk91 hS92 hce93 hcv94 hcl95 => ?_)
      obtain ⟨hW96, hgf97⟩ := hW.thrown hz90 hk91
      exact ps_out X ht hS92 hce93 hcv94 hcl95 (⟨Or.inr ⟨hz, hr58, rfl⟩, hW96, (ps_gf.rf.tr hgf97)⟩) (Nat.le_of_ble_eq_true rfl) (Nat.le_of_ble_eq_true rfl)
  · skip
    refine lv_aload_n hx hb dX1_put_0 rfl (lv_at hl 0 rfl) ?_
    refine ps_get (v := .ref (h)) X in_X1 (ci := 1) rfl 0 (by decide) q123 rfl (hW.at hA) rfl dX1_put_1 ?_
    refine ps_instX X q410 (ps_arc (ty := .int) X (hW.at hB) (ps_nmI X)) ((hX s X.2.2.2.2.2.2.2.1.2).1 ("[I", "[B") (by decide)) dX1_put_4 ?_
    refine lv_if_eq (tgt := 24) hx hb dX1_put_7 (by decide) (fun _ => ?_) (fun c_ => absurd c_ (by decide))
    refine lv_aload_n hx hb dX1_put_24 rfl (lv_at hl 0 rfl) ?_
    refine ps_get (v := .ref (h)) X in_X1 (ci := 1) rfl 0 (by decide) q123 rfl (hW.at hA) rfl dX1_put_25 ?_
    refine ps_instX X q411 (ps_arc (ty := .int) X (hW.at hB) (ps_nmI X)) ((hX s X.2.2.2.2.2.2.2.1.2).1 ("[I", "[S") (by decide)) dX1_put_28 ?_
    refine lv_if_eq (tgt := 48) hx hb dX1_put_31 (by decide) (fun _ => ?_) (fun c_ => absurd c_ (by decide))
    refine lv_aload_n hx hb dX1_put_48 rfl (lv_at hl 0 rfl) ?_
    refine ps_get (v := .ref (h)) X in_X1 (ci := 1) rfl 0 (by decide) q123 rfl (hW.at hA) rfl dX1_put_49 ?_
    refine ps_castA X q412 (ps_arc (ty := .int) X (hW.at hB) (ps_nmI X)) dX1_put_52 ?_
    refine lv_iload_n hx hb dX1_put_55 rfl (lv_at hl 1 rfl) ?_
    refine lv_iload_n hx hb dX1_put_56 rfl (lv_at hl 2 rfl) ?_
    rcases ps_rin i (n := Zr - 1) (by omega) with ⟨k, rfl, hk98, hr99⟩ | ⟨ho100, hr101⟩
    · skip
      refine ps_iast (j := k) X (hW.at hB) rfl (by show k < Zr - 1; omega) (by first | decide | omega) (hW.A hB) hS dX1_put_57 (fun H102 locs103 ha104 hz105 hq106 hS107 => ?_)
      obtain ⟨Γ108, hW109, hg110, ho111⟩ := hW.put1 hB ha104 hq106
      have hB9 := hg110
      have hne : a ≠ h := ps_gne hA hB (by intro q; cases q)
      have hA9 := (ho111 _ hne).trans hA
      have hq9 : ps_Rq E Γ108 a 2 Zr h (upd f k (x)) := ⟨hq1, Or.inr ⟨hz, hA9, hB9⟩⟩
      refine lv_aload_n hx hb dX1_put_58 rfl (lv_at hl 0 rfl) ?_
      refine lv_iload_n hx hb dX1_put_59 rfl (lv_at hl 1 rfl) ?_
      refine ps_gxV X hE (m_X1_at l hE hZ hW109 hX hLT (i := nI k) hq9) (lw_V q413 q415 qs5 q69 q416) (by decide +kernel) ⟨⟨Nat.le_of_ble_eq_true rfl, Nat.le_of_ble_eq_true rfl⟩, Nat.le_of_ble_eq_true rfl, Nat.le_of_ble_eq_true rfl⟩ (ps_rc X (ci := 1) rfl (hW109.at hA9)) hS107 hl.1 (As := [.int (nI k)]) (rest := []) (n := 1) rfl rfl (Nat.le_of_ble_eq_true rfl) dX1_put_60 ?_ (fun N112 H113 locs114 q115 ce116 hp117 hS118 hce119 hcv120 hcl121 => ?_)
      rotate_left
      · skip
        obtain ⟨⟨h9, -⟩ | ⟨-, h9, -⟩, -⟩ := hp117
        · exact absurd h9 hz
        · rw [hr99] at h9; cases h9
      intro v126 H122 locs123 hp124 hS125
      obtain ⟨hv127, hz128, hH129⟩ := hp124
      subst hv127; have hH129s := hH129.symm; subst hH129s
      refine ps_st (st' := [.int (upd f k (x) (nI k).toNatClampNeg)]) rfl ?_
      refine vx_ret ?_
      exact ps_iretG X hS125 (Nat.le_of_ble_eq_true rfl) (Nat.le_of_ble_eq_true rfl) dX1_put_63 (⟨by rw [nI_clamp (by omega)]; simp [upd, asl], ⟨hz, hr99⟩, Γ108, hW109, (ps_gf.rf.put hB hz105 hq106 ho111), by rw [nI_clamp (by omega)]; simpa [asl, ps_la] using hB9, ho111⟩)
    · skip
      refine ps_iastZ X hZ hX hLT (hW.at hB) (by omega) ho100 hS hl.1 ⟨⟨Nat.le_of_ble_eq_true rfl, Nat.le_of_ble_eq_true rfl⟩, Nat.le_of_ble_eq_true rfl, Nat.le_of_ble_eq_true rfl⟩ (Nat.le_of_ble_eq_true rfl) dX1_put_57 (fun H130 q131 ce132 hz133 hk134 hS135 hce136 hcv137 hcl138 => ?_)
      obtain ⟨hW139, hgf140⟩ := hW.thrown hz133 hk134
      exact ps_out X ht hS135 hce136 hcv137 hcl138 (⟨Or.inr ⟨hz, hr101, rfl⟩, hW139, (ps_gf.rf.tr hgf140)⟩) (Nat.le_of_ble_eq_true rfl) (Nat.le_of_ble_eq_true rfl)
