/-! the component: promises (printed by gen/comp2.py) -/
set_option maxRecDepth 100000
set_option maxHeartbeats 4000000 in
theorem m_X7_likely (l : Launch) {E : ps_E} (hE : ps_ZT E) {z : Nat} (hZ : ps_Zk E z) {Γ : ps_Gh} {H : Heap} (hW : ps_W E Γ H) {a n lk gv dd dy kd : Nat} (hP : Γ a = some (ps_pr kd n lk gv dd dy)) (hk : 1 ≤ kd ∧ kd ≤ 5) : ps_Ro l E yX7_likely cX7_likely 1 (some .int) 1 12 [.ref (a)] H (some (.int (nI lk))) := by
  refine ps_Ro.of (by decide) (Nat.le_of_ble_eq_true rfl) ?_
  intro p e s m args below meth c X ls hl
  have hx := X.1
  have hb := X.2.1
  have ho := X.2.2.2.1
  have hts := X.2.2.2.2.1
  have hS : va_S (ps_A E) s.heap H [] := by rw [X.2.2.2.2.2.2.2.2.1]; exact va_S.rf
  have hl : lv_has ls 1 [(0, .ref (a))] := hl
  refine lv_aload_n hx hb dX7_likely_0 rfl (lv_at hl 0 rfl) ?_
  refine ps_pget (v := .int (nI lk)) X hk 1 (by decide) q673 (hW.at hP) rfl dX7_likely_1 ?_
  exact ps_iretR X dX7_likely_4 (congrArg (fun z => some (Value.int z)) (rfl))

set_option maxHeartbeats 4000000 in
theorem m_X7_number (l : Launch) {E : ps_E} (hE : ps_ZT E) {z : Nat} (hZ : ps_Zk E z) {Γ : ps_Gh} {H : Heap} (hW : ps_W E Γ H) {a n lk gv dd dy kd : Nat} (hP : Γ a = some (ps_pr kd n lk gv dd dy)) (hk : 1 ≤ kd ∧ kd ≤ 5) : ps_Ro l E yX7_number cX7_number 1 (some .int) 1 12 [.ref (a)] H (some (.int (nI n))) := by
  refine ps_Ro.of (by decide) (Nat.le_of_ble_eq_true rfl) ?_
  intro p e s m args below meth c X ls hl
  have hx := X.1
  have hb := X.2.1
  have ho := X.2.2.2.1
  have hts := X.2.2.2.2.1
  have hS : va_S (ps_A E) s.heap H [] := by rw [X.2.2.2.2.2.2.2.2.1]; exact va_S.rf
  have hl : lv_has ls 1 [(0, .ref (a))] := hl
  refine lv_aload_n hx hb dX7_number_0 rfl (lv_at hl 0 rfl) ?_
  refine ps_pget (v := .int (nI n)) X hk 0 (by decide) q672 (hW.at hP) rfl dX7_number_1 ?_
  exact ps_iretR X dX7_number_4 (congrArg (fun z => some (Value.int z)) (rfl))

set_option maxHeartbeats 4000000 in
theorem m_X8_kind (l : Launch) {E : ps_E} (hE : ps_ZT E) {z : Nat} (hZ : ps_Zk E z) {Γ : ps_Gh} {H : Heap} (hW : ps_W E Γ H) {a n lk gv dd dy : Nat} (hP : Γ a = some (ps_pr 1 n lk gv dd dy)) : ps_Ro l E yX8_kind cX8_kind 1 (some .int) 1 12 [.ref (a)] H (some (.int (nI 1))) := by
  refine ps_Ro.of (by decide) (Nat.le_of_ble_eq_true rfl) ?_
  intro p e s m args below meth c X ls hl
  have hx := X.1
  have hb := X.2.1
  have ho := X.2.2.2.1
  have hts := X.2.2.2.2.1
  have hS : va_S (ps_A E) s.heap H [] := by rw [X.2.2.2.2.2.2.2.2.1]; exact va_S.rf
  have hl : lv_has ls 1 [(0, .ref (a))] := hl
  refine lv_iconst (v := nI 1) hx hb dX8_kind_0 rfl ?_
  exact ps_iretR X dX8_kind_1 (congrArg (fun z => some (Value.int z)) (rfl))

set_option maxHeartbeats 4000000 in
theorem m_X9_kind (l : Launch) {E : ps_E} (hE : ps_ZT E) {z : Nat} (hZ : ps_Zk E z) {Γ : ps_Gh} {H : Heap} (hW : ps_W E Γ H) {a n lk gv dd dy : Nat} (hP : Γ a = some (ps_pr 2 n lk gv dd dy)) : ps_Ro l E yX9_kind cX9_kind 1 (some .int) 1 12 [.ref (a)] H (some (.int (nI 2))) := by
  refine ps_Ro.of (by decide) (Nat.le_of_ble_eq_true rfl) ?_
  intro p e s m args below meth c X ls hl
  have hx := X.1
  have hb := X.2.1
  have ho := X.2.2.2.1
  have hts := X.2.2.2.2.1
  have hS : va_S (ps_A E) s.heap H [] := by rw [X.2.2.2.2.2.2.2.2.1]; exact va_S.rf
  have hl : lv_has ls 1 [(0, .ref (a))] := hl
  refine lv_iconst (v := nI 2) hx hb dX9_kind_0 rfl ?_
  exact ps_iretR X dX9_kind_1 (congrArg (fun z => some (Value.int z)) (rfl))

set_option maxHeartbeats 4000000 in
theorem m_X10_kind (l : Launch) {E : ps_E} (hE : ps_ZT E) {z : Nat} (hZ : ps_Zk E z) {Γ : ps_Gh} {H : Heap} (hW : ps_W E Γ H) {a n lk gv dd dy : Nat} (hP : Γ a = some (ps_pr 3 n lk gv dd dy)) : ps_Ro l E yX10_kind cX10_kind 1 (some .int) 1 12 [.ref (a)] H (some (.int (nI 3))) := by
  refine ps_Ro.of (by decide) (Nat.le_of_ble_eq_true rfl) ?_
  intro p e s m args below meth c X ls hl
  have hx := X.1
  have hb := X.2.1
  have ho := X.2.2.2.1
  have hts := X.2.2.2.2.1
  have hS : va_S (ps_A E) s.heap H [] := by rw [X.2.2.2.2.2.2.2.2.1]; exact va_S.rf
  have hl : lv_has ls 1 [(0, .ref (a))] := hl
  refine lv_iconst (v := nI 3) hx hb dX10_kind_0 rfl ?_
  exact ps_iretR X dX10_kind_1 (congrArg (fun z => some (Value.int z)) (rfl))

set_option maxHeartbeats 4000000 in
theorem m_X11_kind (l : Launch) {E : ps_E} (hE : ps_ZT E) {z : Nat} (hZ : ps_Zk E z) {Γ : ps_Gh} {H : Heap} (hW : ps_W E Γ H) {a n lk gv dd dy : Nat} (hP : Γ a = some (ps_pr 4 n lk gv dd dy)) : ps_Ro l E yX11_kind cX11_kind 1 (some .int) 1 12 [.ref (a)] H (some (.int (nI 4))) := by
  refine ps_Ro.of (by decide) (Nat.le_of_ble_eq_true rfl) ?_
  intro p e s m args below meth c X ls hl
  have hx := X.1
  have hb := X.2.1
  have ho := X.2.2.2.1
  have hts := X.2.2.2.2.1
  have hS : va_S (ps_A E) s.heap H [] := by rw [X.2.2.2.2.2.2.2.2.1]; exact va_S.rf
  have hl : lv_has ls 1 [(0, .ref (a))] := hl
  refine lv_iconst (v := nI 4) hx hb dX11_kind_0 rfl ?_
  exact ps_iretR X dX11_kind_1 (congrArg (fun z => some (Value.int z)) (rfl))

set_option maxHeartbeats 4000000 in
theorem m_X12_kind (l : Launch) {E : ps_E} (hE : ps_ZT E) {z : Nat} (hZ : ps_Zk E z) {Γ : ps_Gh} {H : Heap} (hW : ps_W E Γ H) {a n lk gv dd dy : Nat} (hP : Γ a = some (ps_pr 5 n lk gv dd dy)) : ps_Ro l E yX12_kind cX12_kind 1 (some .int) 1 12 [.ref (a)] H (some (.int (nI 5))) := by
  refine ps_Ro.of (by decide) (Nat.le_of_ble_eq_true rfl) ?_
  intro p e s m args below meth c X ls hl
  have hx := X.1
  have hb := X.2.1
  have ho := X.2.2.2.1
  have hts := X.2.2.2.2.1
  have hS : va_S (ps_A E) s.heap H [] := by rw [X.2.2.2.2.2.2.2.2.1]; exact va_S.rf
  have hl : lv_has ls 1 [(0, .ref (a))] := hl
  refine lv_iconst (v := nI 5) hx hb dX12_kind_0 rfl ?_
  exact ps_iretR X dX12_kind_1 (congrArg (fun z => some (Value.int z)) (rfl))

set_option maxHeartbeats 4000000 in
theorem m_X7_weighs (l : Launch) {E : ps_E} (hE : ps_ZT E) {z : Nat} (hZ : ps_Zk E z) {Γ : ps_Gh} {H : Heap} (hW : ps_W E Γ H) {a n lk gv dd dy kd : Nat} (hP : Γ a = some (ps_pr kd n lk gv dd dy)) (hk : 1 ≤ kd ∧ kd ≤ 5) {u b : Nat} {f : Bool} (hl2 : lk ≤ 20) (hu : u ≤ 10) (hb2 : b ≤ 20) : ps_Ro l E yX7_weighs cX7_weighs 3 (some .int) 1 12 [.ref (a), .int (nI u), .int (pr_b f b)] H (some (.int (nI (lk * u / 10)))) := by
  refine ps_Ro.of (by decide) (Nat.le_of_ble_eq_true rfl) ?_
  intro p e s m args below meth c X ls hl
  have hx := X.1
  have hb := X.2.1
  have ho := X.2.2.2.1
  have hts := X.2.2.2.2.1
  have hS : va_S (ps_A E) s.heap H [] := by rw [X.2.2.2.2.2.2.2.2.1]; exact va_S.rf
  have hl : lv_has ls 3 [(0, .ref (a)), (1, .int (nI u)), (2, .int (pr_b f b))] := hl
  have hmul := sp_mul hl2 hu
  refine lv_aload_n hx hb dX7_weighs_0 rfl (lv_at hl 0 rfl) ?_
  refine ps_pget (v := .int (nI lk)) X hk 1 (by decide) q673 (hW.at hP) rfl dX7_weighs_1 ?_
  refine lv_iload_n hx hb dX7_weighs_4 rfl (lv_at hl 1 rfl) ?_
  refine ps_imul hx hb dX7_weighs_5 ?_
  refine lv_bipush (v := nI 10) hx hb dX7_weighs_6 rfl ?_
  refine ps_idiv hx hb dX7_weighs_8 (by omega) ?_
  exact ps_iretR X dX7_weighs_9 (congrArg (fun z => some (Value.int z)) (congrArg nI (by first | rfl | (simp []; done) | (simp []; omega) | omega)))

set_option maxHeartbeats 4000000 in
theorem m_X9_weighs (l : Launch) {E : ps_E} (hE : ps_ZT E) {z : Nat} (hZ : ps_Zk E z) {Γ : ps_Gh} {H : Heap} (hW : ps_W E Γ H) {a n lk gv dd dy : Nat} (hP : Γ a = some (ps_pr 2 n lk gv dd dy)) {u b : Nat} {f : Bool} (hl2 : lk ≤ 20) (hu : u ≤ 10) (hb2 : b ≤ 20) : ps_Ro l E yX9_weighs cX9_weighs 3 (some .int) 2 34 [.ref (a), .int (nI u), .int (pr_b f b)] H (some (.int (nI (pr_w 2 lk u f b)))) := by
  refine ps_Ro.of (by decide) (Nat.le_of_ble_eq_true rfl) ?_
  intro p e s m args below meth c X ls hl
  have hx := X.1
  have hb := X.2.1
  have ho := X.2.2.2.1
  have hts := X.2.2.2.2.1
  have hS : va_S (ps_A E) s.heap H [] := by rw [X.2.2.2.2.2.2.2.2.1]; exact va_S.rf
  have hl : lv_has ls 3 [(0, .ref (a)), (1, .int (nI u)), (2, .int (pr_b f b))] := hl
  have hmul := sp_mul hl2 hu
  rcases f.eq_false_or_eq_true with rfl | rfl
  · skip
    have hl : lv_has ls 3 [(0, .ref (a)), (1, .int (nI u)), (2, .int ((-1000000)))] := hl
    refine lv_iload_n hx hb dX9_weighs_0 rfl (lv_at hl 2 rfl) ?_
    refine lv_ldc (v := -1000000) hx hb ho (hts _ q902) dX9_weighs_1 ?_
    refine lv_icmp_ne (tgt := 15) hx hb dX9_weighs_3 (by decide) (fun c_3 => ?_) (fun c_3 => ?_)
    · skip
      exact absurd rfl c_3
    · skip
      refine lv_aload_n hx hb dX9_weighs_6 rfl (lv_at hl 0 rfl) ?_
      refine lv_iload_n hx hb dX9_weighs_7 rfl (lv_at hl 1 rfl) ?_
      refine lv_iload_n hx hb dX9_weighs_8 rfl (lv_at hl 2 rfl) ?_
      refine ps_roSI X hE (m_X7_weighs l hE hZ hW hP (by decide) (u := u) (b := b) (f := true) hl2 hu hb2) q903 q904 q705 q693 q893 q93 q906 (by decide +kernel) (ps_clA X (ci := 8) rfl) ⟨⟨Nat.le_of_ble_eq_true rfl, Nat.le_of_ble_eq_true rfl⟩, Nat.le_of_ble_eq_true rfl, Nat.le_of_ble_eq_true rfl⟩ (ps_rc X (ci := 8) rfl (hW.at hP)) hS hl.1 (As := [.int (nI u), .int ((-1000000))]) (rest := []) (n := 2) rfl rfl (Nat.le_of_ble_eq_true rfl) dX9_weighs_9 ?_
      refine ps_st (st' := [.int (nI (lk * u / 10))]) rfl ?_
      refine lv_goto (tgt := 26) hx hb dX9_weighs_12 (by decide) ?_
      exact ps_iretR X dX9_weighs_26 (congrArg (fun z => some (Value.int z)) (congrArg nI (by simp [pr_w])))
  · skip
    have hl : lv_has ls 3 [(0, .ref (a)), (1, .int (nI u)), (2, .int (nI b))] := hl
    refine lv_iload_n hx hb dX9_weighs_0 rfl (lv_at hl 2 rfl) ?_
    refine lv_ldc (v := -1000000) hx hb ho (hts _ q902) dX9_weighs_1 ?_
    refine lv_icmp_ne (tgt := 15) hx hb dX9_weighs_3 (by decide) (fun c_3 => ?_) (fun c_3 => ?_)
    · skip
      refine lv_aload_n hx hb dX9_weighs_15 rfl (lv_at hl 0 rfl) ?_
      refine lv_iload_n hx hb dX9_weighs_16 rfl (lv_at hl 1 rfl) ?_
      refine lv_iload_n hx hb dX9_weighs_17 rfl (lv_at hl 2 rfl) ?_
      refine ps_roSI X hE (m_X7_weighs l hE hZ hW hP (by decide) (u := u) (b := b) (f := false) hl2 hu hb2) q903 q904 q705 q693 q893 q93 q906 (by decide +kernel) (ps_clA X (ci := 8) rfl) ⟨⟨Nat.le_of_ble_eq_true rfl, Nat.le_of_ble_eq_true rfl⟩, Nat.le_of_ble_eq_true rfl, Nat.le_of_ble_eq_true rfl⟩ (ps_rc X (ci := 8) rfl (hW.at hP)) hS hl.1 (As := [.int (nI u), .int (nI b)]) (rest := []) (n := 2) rfl rfl (Nat.le_of_ble_eq_true rfl) dX9_weighs_18 ?_
      refine ps_st (st' := [.int (nI (lk * u / 10))]) rfl ?_
      refine lv_iload_n hx hb dX9_weighs_21 rfl (lv_at hl 2 rfl) ?_
      have hmul2 := sp_mul (show lk * u / 10 ≤ 20 by omega) hb2
      refine ps_imul hx hb dX9_weighs_22 ?_
      refine lv_bipush (v := nI 20) hx hb dX9_weighs_23 rfl ?_
      refine ps_idiv hx hb dX9_weighs_25 (by omega) ?_
      exact ps_iretR X dX9_weighs_26 (congrArg (fun z => some (Value.int z)) (congrArg nI (by simp [pr_w])))
    · skip
      exact absurd c_3 (pr_ne hb2)

set_option maxHeartbeats 4000000 in
theorem m_X10_weighs (l : Launch) {E : ps_E} (hE : ps_ZT E) {z : Nat} (hZ : ps_Zk E z) {Γ : ps_Gh} {H : Heap} (hW : ps_W E Γ H) {a n lk gv dd dy : Nat} (hP : Γ a = some (ps_pr 3 n lk gv dd dy)) {u b : Nat} {f : Bool} (hl2 : lk ≤ 20) (hu : u ≤ 10) (hb2 : b ≤ 20) : ps_Ro l E yX10_weighs cX10_weighs 3 (some .int) 2 34 [.ref (a), .int (nI u), .int (pr_b f b)] H (some (.int (nI (pr_w 3 lk u f b)))) := by
  refine ps_Ro.of (by decide) (Nat.le_of_ble_eq_true rfl) ?_
  intro p e s m args below meth c X ls hl
  have hx := X.1
  have hb := X.2.1
  have ho := X.2.2.2.1
  have hts := X.2.2.2.2.1
  have hS : va_S (ps_A E) s.heap H [] := by rw [X.2.2.2.2.2.2.2.2.1]; exact va_S.rf
  have hl : lv_has ls 3 [(0, .ref (a)), (1, .int (nI u)), (2, .int (pr_b f b))] := hl
  have hmul := sp_mul hl2 hu
  refine lv_aload_n hx hb dX10_weighs_0 rfl (lv_at hl 0 rfl) ?_
  refine lv_iload_n hx hb dX10_weighs_1 rfl (lv_at hl 1 rfl) ?_
  refine lv_iload_n hx hb dX10_weighs_2 rfl (lv_at hl 2 rfl) ?_
  refine ps_roSI X hE (m_X7_weighs l hE hZ hW hP (by decide) (u := u) (b := b) (f := f) hl2 hu hb2) q916 q904 q717 q693 q893 q93 q906 (by decide +kernel) (ps_clA X (ci := 9) rfl) ⟨⟨Nat.le_of_ble_eq_true rfl, Nat.le_of_ble_eq_true rfl⟩, Nat.le_of_ble_eq_true rfl, Nat.le_of_ble_eq_true rfl⟩ (ps_rc X (ci := 9) rfl (hW.at hP)) hS hl.1 (As := [.int (nI u), .int (pr_b f b)]) (rest := []) (n := 2) rfl rfl (Nat.le_of_ble_eq_true rfl) dX10_weighs_3 ?_
  refine ps_st (st' := [.int (nI (lk * u / 10))]) rfl ?_
  refine lv_iconst (v := nI 1) hx hb dX10_weighs_6 rfl ?_
  refine ps_iadd hx hb dX10_weighs_7 ?_
  refine lv_iconst (v := nI 2) hx hb dX10_weighs_8 rfl ?_
  refine ps_idiv hx hb dX10_weighs_9 (by omega) ?_
  exact ps_iretR X dX10_weighs_10 (congrArg (fun z => some (Value.int z)) (congrArg nI (by simp [pr_w])))

set_option maxHeartbeats 4000000 in
theorem m_X11_weighs (l : Launch) {E : ps_E} (hE : ps_ZT E) {z : Nat} (hZ : ps_Zk E z) {Γ : ps_Gh} {H : Heap} (hW : ps_W E Γ H) {a n lk gv dd dy : Nat} (hP : Γ a = some (ps_pr 4 n lk gv dd dy)) {u b : Nat} {f : Bool} (hl2 : lk ≤ 20) (hu : u ≤ 10) (hb2 : b ≤ 20) : ps_Ro l E yX11_weighs cX11_weighs 3 (some .int) 2 34 [.ref (a), .int (nI u), .int (pr_b f b)] H (some (.int (nI (pr_w 4 lk u f b)))) := by
  refine ps_Ro.of (by decide) (Nat.le_of_ble_eq_true rfl) ?_
  intro p e s m args below meth c X ls hl
  have hx := X.1
  have hb := X.2.1
  have ho := X.2.2.2.1
  have hts := X.2.2.2.2.1
  have hS : va_S (ps_A E) s.heap H [] := by rw [X.2.2.2.2.2.2.2.2.1]; exact va_S.rf
  have hl : lv_has ls 3 [(0, .ref (a)), (1, .int (nI u)), (2, .int (pr_b f b))] := hl
  have hmul := sp_mul hl2 hu
  refine lv_bipush (v := nI 20) hx hb dX11_weighs_0 rfl ?_
  refine lv_iconst (v := nI 2) hx hb dX11_weighs_2 rfl ?_
  refine lv_aload_n hx hb dX11_weighs_3 rfl (lv_at hl 0 rfl) ?_
  refine lv_iload_n hx hb dX11_weighs_4 rfl (lv_at hl 1 rfl) ?_
  refine lv_iload_n hx hb dX11_weighs_5 rfl (lv_at hl 2 rfl) ?_
  refine ps_roSU X hE (m_X7_weighs l hE hZ hW hP (by decide) (u := u) (b := b) (f := f) hl2 hu hb2) (lw_SU q910 q894 q729 q893 q93 q906) (by decide) (ps_clA X (ci := 10) rfl) ⟨⟨Nat.le_of_ble_eq_true rfl, Nat.le_of_ble_eq_true rfl⟩, Nat.le_of_ble_eq_true rfl, Nat.le_of_ble_eq_true rfl⟩ (ps_rc X (ci := 10) rfl (hW.at hP)) hS hl.1 (As := [.int (nI u), .int (pr_b f b)]) (rest := [.int (nI 2), .int (nI 20)]) (n := 2) rfl rfl (Nat.le_of_ble_eq_true rfl) dX11_weighs_6 ?_
  refine ps_st (st' := [.int (nI (lk * u / 10)), .int (nI 2), .int (nI 20)]) rfl ?_
  refine ps_imul hx hb dX11_weighs_9 ?_
  refine ps_mmin X q911 (by omega) hl.1 ⟨⟨Nat.le_of_ble_eq_true rfl, Nat.le_of_ble_eq_true rfl⟩, Nat.le_of_ble_eq_true rfl, Nat.le_of_ble_eq_true rfl⟩ dX11_weighs_10 ?_
  exact ps_iretR X dX11_weighs_13 (congrArg (fun z => some (Value.int z)) (congrArg nI (by show (if 2 * (lk * u / 10) < 20 then 2 * (lk * u / 10) else 20) = (if 10 < lk * u / 10 then 20 else 2 * (lk * u / 10)); split <;> split <;> omega)))

set_option maxHeartbeats 4000000 in
theorem m_X12_weighs (l : Launch) {E : ps_E} (hE : ps_ZT E) {z : Nat} (hZ : ps_Zk E z) {Γ : ps_Gh} {H : Heap} (hW : ps_W E Γ H) {a n lk gv dd dy : Nat} (hP : Γ a = some (ps_pr 5 n lk gv dd dy)) {u b : Nat} {f : Bool} (hl2 : lk ≤ 20) (hu : u ≤ 10) (hb2 : b ≤ 20) : ps_Ro l E yX12_weighs cX12_weighs 3 (some .int) 1 12 [.ref (a), .int (nI u), .int (pr_b f b)] H (some (.int (nI (pr_w 5 lk u f b)))) := by
  refine ps_Ro.of (by decide) (Nat.le_of_ble_eq_true rfl) ?_
  intro p e s m args below meth c X ls hl
  have hx := X.1
  have hb := X.2.1
  have ho := X.2.2.2.1
  have hts := X.2.2.2.2.1
  have hS : va_S (ps_A E) s.heap H [] := by rw [X.2.2.2.2.2.2.2.2.1]; exact va_S.rf
  have hl : lv_has ls 3 [(0, .ref (a)), (1, .int (nI u)), (2, .int (pr_b f b))] := hl
  have hmul := sp_mul hl2 hu
  rcases f.eq_false_or_eq_true with rfl | rfl
  · skip
    have hl : lv_has ls 3 [(0, .ref (a)), (1, .int (nI u)), (2, .int ((-1000000)))] := hl
    refine lv_iload_n hx hb dX12_weighs_0 rfl (lv_at hl 2 rfl) ?_
    refine lv_ldc (v := -1000000) hx hb ho (hts _ q898) dX12_weighs_1 ?_
    refine lv_icmp_ne (tgt := 11) hx hb dX12_weighs_3 (by decide) (fun c_3 => ?_) (fun c_3 => ?_)
    · skip
      exact absurd rfl c_3
    · skip
      refine lv_bipush (v := nI 20) hx hb dX12_weighs_6 rfl ?_
      refine lv_goto (tgt := 15) hx hb dX12_weighs_8 (by decide) ?_
      exact ps_iretR X dX12_weighs_15 (congrArg (fun z => some (Value.int z)) (congrArg nI (by simp [pr_w])))
  · skip
    have hl : lv_has ls 3 [(0, .ref (a)), (1, .int (nI u)), (2, .int (nI b))] := hl
    refine lv_iload_n hx hb dX12_weighs_0 rfl (lv_at hl 2 rfl) ?_
    refine lv_ldc (v := -1000000) hx hb ho (hts _ q898) dX12_weighs_1 ?_
    refine lv_icmp_ne (tgt := 11) hx hb dX12_weighs_3 (by decide) (fun c_3 => ?_) (fun c_3 => ?_)
    · skip
      refine lv_bipush (v := nI 20) hx hb dX12_weighs_11 rfl ?_
      refine lv_iload_n hx hb dX12_weighs_13 rfl (lv_at hl 2 rfl) ?_
      refine ps_isub hx hb dX12_weighs_14 (by omega) ?_
      exact ps_iretR X dX12_weighs_15 (congrArg (fun z => some (Value.int z)) (congrArg nI (by simp [pr_w])))
    · skip
      exact absurd c_3 (pr_ne hb2)

section PVC
variable {p : Program} {l : Launch} {e : Env} {R : Room} {s : State} {m : MethodId} {args : Array Value} {below : List Frame} {meth : Method} {c : Code} {H : Heap} {locs : List Loc} {cells slots : Nat} {Q : State → Prop}
variable {E : ps_E} {cc : ByteArray} {nL : Nat} {ret : Option FieldType} {own nm : String} {H0 : Heap} {pc idx : Nat} {ls : Array Slot} {rest : List Value} {z : Nat} {Γ : ps_Gh}

theorem ps_weighs {a n lk gv dd dy kd : Nat} {u b : Nat} {f : Bool} (hl2 : lk ≤ 20) (hu : u ≤ 10) (hb2 : b ≤ 20) (X : ps_X p E s m args meth c cc nL ret own H0 nm) (hE : ps_ZT E) (hZ : ps_Zk E z) (hW : ps_W E Γ H) (hP : Γ a = some (ps_pr kd n lk gv dd dy)) (hk : 1 ≤ kd ∧ kd ≤ 5) (hlink : Cond.methodLink own idx ⟨"PromiseScales$Promise", "weighs", "(II)I"⟩ ∈ lw_all) (hR : (3 ≤ R.frames ∧ 56 ≤ R.locals) ∧ cells ≤ R.cells ∧ slots ≤ R.slots) (hS : va_S (ps_A E) s.heap H locs) (hl : ls.size = nL) (hcat : (rest.map fun v => v.category).sum ≤ 8) (hdg : decode cc pc = .ok (.invokevirtual idx, 3))
    (kk : W p l e R s m args below meth c H locs cells slots Q (F0 m (pc + 3) ls (.int (nI (pr_w kd lk u f b)) :: rest))) : W p l e R s m args below meth c H locs cells slots Q (F0 m pc ls (.int (pr_b f b) :: .int (nI u) :: .ref a :: rest)) := by
  obtain ⟨⟨f1, f2⟩, f3, f4⟩ := hR
  obtain ⟨h1, h2⟩ := hk
  obtain rfl | rfl | rfl | rfl | rfl : kd = 1 ∨ kd = 2 ∨ kd = 3 ∨ kd = 4 ∨ kd = 5 := by omega
  · exact ps_roU (owner := "PromiseScales$Promise") (x := ⟨"PromiseScales$Promise", "weighs", "(II)I"⟩) X hE (m_X7_weighs l hE hZ hW hP (by decide) (u := u) (b := b) (f := f) hl2 hu hb2) (lw_U hlink q894 q912 q893 q93 q906) rfl (by decide) ⟨⟨by show 1 + 1 ≤ R.frames; omega, by show 8 + (3 + 11) + 12 ≤ R.locals; omega⟩, f3, f4⟩ (ps_rc X (ci := 7) rfl (hW.at hP)) hS hl (As := [.int (nI u), .int (pr_b f b)]) (rest := rest) (n := 2) rfl rfl hcat hdg kk
  · exact ps_roO (owner := "PromiseScales$Promise") (x := ⟨"PromiseScales$Promise", "weighs", "(II)I"⟩) X hE (m_X9_weighs l hE hZ hW hP (u := u) (b := b) (f := f) hl2 hu hb2) (lw_O hlink q894 q893 q899 q900 q95 q901) q906 (by decide) ⟨⟨by show 2 + 1 ≤ R.frames; omega, by show 8 + (3 + 11) + 34 ≤ R.locals; omega⟩, f3, f4⟩ (ps_rc X (ci := 8) rfl (hW.at hP)) hS hl (As := [.int (nI u), .int (pr_b f b)]) (rest := rest) (n := 2) rfl rfl hcat hdg kk
  · exact ps_roO (owner := "PromiseScales$Promise") (x := ⟨"PromiseScales$Promise", "weighs", "(II)I"⟩) X hE (m_X10_weighs l hE hZ hW hP (u := u) (b := b) (f := f) hl2 hu hb2) (lw_O hlink q894 q893 q913 q914 q96 q915) q906 (by decide) ⟨⟨by show 2 + 1 ≤ R.frames; omega, by show 8 + (3 + 11) + 34 ≤ R.locals; omega⟩, f3, f4⟩ (ps_rc X (ci := 9) rfl (hW.at hP)) hS hl (As := [.int (nI u), .int (pr_b f b)]) (rest := rest) (n := 2) rfl rfl hcat hdg kk
  · exact ps_roO (owner := "PromiseScales$Promise") (x := ⟨"PromiseScales$Promise", "weighs", "(II)I"⟩) X hE (m_X11_weighs l hE hZ hW hP (u := u) (b := b) (f := f) hl2 hu hb2) (lw_O hlink q894 q893 q907 q908 q97 q909) q906 (by decide) ⟨⟨by show 2 + 1 ≤ R.frames; omega, by show 8 + (3 + 11) + 34 ≤ R.locals; omega⟩, f3, f4⟩ (ps_rc X (ci := 10) rfl (hW.at hP)) hS hl (As := [.int (nI u), .int (pr_b f b)]) (rest := rest) (n := 2) rfl rfl hcat hdg kk
  · exact ps_roO (owner := "PromiseScales$Promise") (x := ⟨"PromiseScales$Promise", "weighs", "(II)I"⟩) X hE (m_X12_weighs l hE hZ hW hP (u := u) (b := b) (f := f) hl2 hu hb2) (lw_O hlink q894 q893 q895 q896 q98 q897) q906 (by decide) ⟨⟨by show 1 + 1 ≤ R.frames; omega, by show 8 + (3 + 11) + 12 ≤ R.locals; omega⟩, f3, f4⟩ (ps_rc X (ci := 11) rfl (hW.at hP)) hS hl (As := [.int (nI u), .int (pr_b f b)]) (rest := rest) (n := 2) rfl rfl hcat hdg kk

theorem ps_kind {a n lk gv dd dy kd : Nat}  (X : ps_X p E s m args meth c cc nL ret own H0 nm) (hE : ps_ZT E) (hZ : ps_Zk E z) (hW : ps_W E Γ H) (hP : Γ a = some (ps_pr kd n lk gv dd dy)) (hk : 1 ≤ kd ∧ kd ≤ 5) (hlink : Cond.methodLink own idx ⟨"PromiseScales$Promise", "kind", "()I"⟩ ∈ lw_all) (hR : (2 ≤ R.frames ∧ 32 ≤ R.locals) ∧ cells ≤ R.cells ∧ slots ≤ R.slots) (hS : va_S (ps_A E) s.heap H locs) (hl : ls.size = nL) (hcat : (rest.map fun v => v.category).sum ≤ 8) (hdg : decode cc pc = .ok (.invokevirtual idx, 3))
    (kk : W p l e R s m args below meth c H locs cells slots Q (F0 m (pc + 3) ls (.int (nI kd) :: rest))) : W p l e R s m args below meth c H locs cells slots Q (F0 m pc ls (.ref a :: rest)) := by
  obtain ⟨⟨f1, f2⟩, f3, f4⟩ := hR
  obtain ⟨h1, h2⟩ := hk
  obtain rfl | rfl | rfl | rfl | rfl : kd = 1 ∨ kd = 2 ∨ kd = 3 ∨ kd = 4 ∨ kd = 5 := by omega
  · exact ps_roA (owner := "PromiseScales$Promise") (x := ⟨"PromiseScales$Promise", "kind", "()I"⟩) X hE (m_X8_kind l hE hZ hW hP) (lw_U hlink q1085 q1095 q1096 q94 q1097) hZ q1084 (by decide) ⟨⟨by show 1 + 1 ≤ R.frames; omega, by show 8 + (1 + 11) + 12 ≤ R.locals; omega⟩, f3, f4⟩ (ps_rc X (ci := 7) rfl (hW.at hP)) hS hl (As := []) (rest := rest) (n := 0) rfl rfl hcat hdg kk
  · exact ps_roA (owner := "PromiseScales$Promise") (x := ⟨"PromiseScales$Promise", "kind", "()I"⟩) X hE (m_X9_kind l hE hZ hW hP) (lw_U hlink q1085 q1089 q1090 q95 q1091) hZ q1084 (by decide) ⟨⟨by show 1 + 1 ≤ R.frames; omega, by show 8 + (1 + 11) + 12 ≤ R.locals; omega⟩, f3, f4⟩ (ps_rc X (ci := 8) rfl (hW.at hP)) hS hl (As := []) (rest := rest) (n := 0) rfl rfl hcat hdg kk
  · exact ps_roA (owner := "PromiseScales$Promise") (x := ⟨"PromiseScales$Promise", "kind", "()I"⟩) X hE (m_X10_kind l hE hZ hW hP) (lw_U hlink q1085 q1098 q1099 q96 q1100) hZ q1084 (by decide) ⟨⟨by show 1 + 1 ≤ R.frames; omega, by show 8 + (1 + 11) + 12 ≤ R.locals; omega⟩, f3, f4⟩ (ps_rc X (ci := 9) rfl (hW.at hP)) hS hl (As := []) (rest := rest) (n := 0) rfl rfl hcat hdg kk
  · exact ps_roA (owner := "PromiseScales$Promise") (x := ⟨"PromiseScales$Promise", "kind", "()I"⟩) X hE (m_X11_kind l hE hZ hW hP) (lw_U hlink q1085 q1092 q1093 q97 q1094) hZ q1084 (by decide) ⟨⟨by show 1 + 1 ≤ R.frames; omega, by show 8 + (1 + 11) + 12 ≤ R.locals; omega⟩, f3, f4⟩ (ps_rc X (ci := 10) rfl (hW.at hP)) hS hl (As := []) (rest := rest) (n := 0) rfl rfl hcat hdg kk
  · exact ps_roA (owner := "PromiseScales$Promise") (x := ⟨"PromiseScales$Promise", "kind", "()I"⟩) X hE (m_X12_kind l hE hZ hW hP) (lw_U hlink q1085 q1086 q1087 q98 q1088) hZ q1084 (by decide) ⟨⟨by show 1 + 1 ≤ R.frames; omega, by show 8 + (1 + 11) + 12 ≤ R.locals; omega⟩, f3, f4⟩ (ps_rc X (ci := 11) rfl (hW.at hP)) hS hl (As := []) (rest := rest) (n := 0) rfl rfl hcat hdg kk

theorem ps_likely {a n lk gv dd dy kd : Nat}  (X : ps_X p E s m args meth c cc nL ret own H0 nm) (hE : ps_ZT E) (hZ : ps_Zk E z) (hW : ps_W E Γ H) (hP : Γ a = some (ps_pr kd n lk gv dd dy)) (hk : 1 ≤ kd ∧ kd ≤ 5) (hlink : Cond.methodLink own idx ⟨"PromiseScales$Promise", "likely", "()I"⟩ ∈ lw_all) (hR : (2 ≤ R.frames ∧ 32 ≤ R.locals) ∧ cells ≤ R.cells ∧ slots ≤ R.slots) (hS : va_S (ps_A E) s.heap H locs) (hl : ls.size = nL) (hcat : (rest.map fun v => v.category).sum ≤ 8) (hdg : decode cc pc = .ok (.invokevirtual idx, 3))
    (kk : W p l e R s m args below meth c H locs cells slots Q (F0 m (pc + 3) ls (.int (nI lk) :: rest))) : W p l e R s m args below meth c H locs cells slots Q (F0 m pc ls (.ref a :: rest)) := by
  obtain ⟨⟨f1, f2⟩, f3, f4⟩ := hR
  obtain ⟨h1, h2⟩ := hk
  obtain rfl | rfl | rfl | rfl | rfl : kd = 1 ∨ kd = 2 ∨ kd = 3 ∨ kd = 4 ∨ kd = 5 := by omega
  · exact ps_roU (owner := "PromiseScales$Promise") (x := ⟨"PromiseScales$Promise", "likely", "()I"⟩) X hE (m_X7_likely l hE hZ hW hP (by decide)) (lw_U hlink q950 q954 q949 q93 q956) rfl (by decide) ⟨⟨by show 1 + 1 ≤ R.frames; omega, by show 8 + (1 + 11) + 12 ≤ R.locals; omega⟩, f3, f4⟩ (ps_rc X (ci := 7) rfl (hW.at hP)) hS hl (As := []) (rest := rest) (n := 0) rfl rfl hcat hdg kk
  · exact ps_roU (owner := "PromiseScales$Promise") (x := ⟨"PromiseScales$Promise", "likely", "()I"⟩) X hE (m_X7_likely l hE hZ hW hP (by decide)) (lw_U hlink q950 q952 q949 q93 q956) rfl (by decide) ⟨⟨by show 1 + 1 ≤ R.frames; omega, by show 8 + (1 + 11) + 12 ≤ R.locals; omega⟩, f3, f4⟩ (ps_rc X (ci := 8) rfl (hW.at hP)) hS hl (As := []) (rest := rest) (n := 0) rfl rfl hcat hdg kk
  · exact ps_roU (owner := "PromiseScales$Promise") (x := ⟨"PromiseScales$Promise", "likely", "()I"⟩) X hE (m_X7_likely l hE hZ hW hP (by decide)) (lw_U hlink q950 q955 q949 q93 q956) rfl (by decide) ⟨⟨by show 1 + 1 ≤ R.frames; omega, by show 8 + (1 + 11) + 12 ≤ R.locals; omega⟩, f3, f4⟩ (ps_rc X (ci := 9) rfl (hW.at hP)) hS hl (As := []) (rest := rest) (n := 0) rfl rfl hcat hdg kk
  · exact ps_roU (owner := "PromiseScales$Promise") (x := ⟨"PromiseScales$Promise", "likely", "()I"⟩) X hE (m_X7_likely l hE hZ hW hP (by decide)) (lw_U hlink q950 q953 q949 q93 q956) rfl (by decide) ⟨⟨by show 1 + 1 ≤ R.frames; omega, by show 8 + (1 + 11) + 12 ≤ R.locals; omega⟩, f3, f4⟩ (ps_rc X (ci := 10) rfl (hW.at hP)) hS hl (As := []) (rest := rest) (n := 0) rfl rfl hcat hdg kk
  · exact ps_roU (owner := "PromiseScales$Promise") (x := ⟨"PromiseScales$Promise", "likely", "()I"⟩) X hE (m_X7_likely l hE hZ hW hP (by decide)) (lw_U hlink q950 q951 q949 q93 q956) rfl (by decide) ⟨⟨by show 1 + 1 ≤ R.frames; omega, by show 8 + (1 + 11) + 12 ≤ R.locals; omega⟩, f3, f4⟩ (ps_rc X (ci := 11) rfl (hW.at hP)) hS hl (As := []) (rest := rest) (n := 0) rfl rfl hcat hdg kk

theorem ps_number {a n lk gv dd dy kd : Nat}  (X : ps_X p E s m args meth c cc nL ret own H0 nm) (hE : ps_ZT E) (hZ : ps_Zk E z) (hW : ps_W E Γ H) (hP : Γ a = some (ps_pr kd n lk gv dd dy)) (hk : 1 ≤ kd ∧ kd ≤ 5) (hlink : Cond.methodLink own idx ⟨"PromiseScales$Promise", "number", "()I"⟩ ∈ lw_all) (hR : (2 ≤ R.frames ∧ 32 ≤ R.locals) ∧ cells ≤ R.cells ∧ slots ≤ R.slots) (hS : va_S (ps_A E) s.heap H locs) (hl : ls.size = nL) (hcat : (rest.map fun v => v.category).sum ≤ 8) (hdg : decode cc pc = .ok (.invokevirtual idx, 3))
    (kk : W p l e R s m args below meth c H locs cells slots Q (F0 m (pc + 3) ls (.int (nI n) :: rest))) : W p l e R s m args below meth c H locs cells slots Q (F0 m pc ls (.ref a :: rest)) := by
  obtain ⟨⟨f1, f2⟩, f3, f4⟩ := hR
  obtain ⟨h1, h2⟩ := hk
  obtain rfl | rfl | rfl | rfl | rfl : kd = 1 ∨ kd = 2 ∨ kd = 3 ∨ kd = 4 ∨ kd = 5 := by omega
  · exact ps_roU (owner := "PromiseScales$Promise") (x := ⟨"PromiseScales$Promise", "number", "()I"⟩) X hE (m_X7_number l hE hZ hW hP (by decide)) (lw_U hlink q1149 q1153 q1148 q93 q1155) rfl (by decide) ⟨⟨by show 1 + 1 ≤ R.frames; omega, by show 8 + (1 + 11) + 12 ≤ R.locals; omega⟩, f3, f4⟩ (ps_rc X (ci := 7) rfl (hW.at hP)) hS hl (As := []) (rest := rest) (n := 0) rfl rfl hcat hdg kk
  · exact ps_roU (owner := "PromiseScales$Promise") (x := ⟨"PromiseScales$Promise", "number", "()I"⟩) X hE (m_X7_number l hE hZ hW hP (by decide)) (lw_U hlink q1149 q1151 q1148 q93 q1155) rfl (by decide) ⟨⟨by show 1 + 1 ≤ R.frames; omega, by show 8 + (1 + 11) + 12 ≤ R.locals; omega⟩, f3, f4⟩ (ps_rc X (ci := 8) rfl (hW.at hP)) hS hl (As := []) (rest := rest) (n := 0) rfl rfl hcat hdg kk
  · exact ps_roU (owner := "PromiseScales$Promise") (x := ⟨"PromiseScales$Promise", "number", "()I"⟩) X hE (m_X7_number l hE hZ hW hP (by decide)) (lw_U hlink q1149 q1154 q1148 q93 q1155) rfl (by decide) ⟨⟨by show 1 + 1 ≤ R.frames; omega, by show 8 + (1 + 11) + 12 ≤ R.locals; omega⟩, f3, f4⟩ (ps_rc X (ci := 9) rfl (hW.at hP)) hS hl (As := []) (rest := rest) (n := 0) rfl rfl hcat hdg kk
  · exact ps_roU (owner := "PromiseScales$Promise") (x := ⟨"PromiseScales$Promise", "number", "()I"⟩) X hE (m_X7_number l hE hZ hW hP (by decide)) (lw_U hlink q1149 q1152 q1148 q93 q1155) rfl (by decide) ⟨⟨by show 1 + 1 ≤ R.frames; omega, by show 8 + (1 + 11) + 12 ≤ R.locals; omega⟩, f3, f4⟩ (ps_rc X (ci := 10) rfl (hW.at hP)) hS hl (As := []) (rest := rest) (n := 0) rfl rfl hcat hdg kk
  · exact ps_roU (owner := "PromiseScales$Promise") (x := ⟨"PromiseScales$Promise", "number", "()I"⟩) X hE (m_X7_number l hE hZ hW hP (by decide)) (lw_U hlink q1149 q1150 q1148 q93 q1155) rfl (by decide) ⟨⟨by show 1 + 1 ≤ R.frames; omega, by show 8 + (1 + 11) + 12 ≤ R.locals; omega⟩, f3, f4⟩ (ps_rc X (ci := 11) rfl (hW.at hP)) hS hl (As := []) (rest := rest) (n := 0) rfl rfl hcat hdg kk

end PVC