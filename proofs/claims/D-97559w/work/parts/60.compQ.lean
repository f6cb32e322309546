/-! the component: sizes, marks and the trail (printed by gen/comp17.py) -/
set_option maxRecDepth 100000
set_option maxHeartbeats 4000000 in
theorem m_X3_begins (l : Launch) {E : ps_E} (hE : ps_ZT E) {z : Nat} (hZ : ps_Zk E z) {Γ : ps_Gh} {H : Heap} (hW : ps_W E Γ H) {ow : ps_Ow} {tr k : Nat} {L : List Nat} (hT : ps_Tl E Γ ow tr L) (hL : L.length < 16) : ps_Ge l E yX3_begins cX3_begins 2 none 1 12 0 0 [.ref (tr), .int (nI k)] H (ps_bp E Γ H ow tr L [k] none) := by
  refine ps_Ge.of (by decide) (Nat.le_of_ble_eq_true rfl) ?_
  intro p e s m args below meth c X ls hl
  have hx := X.1
  have hb := X.2.1
  have ho := X.2.2.2.1
  have hts := X.2.2.2.2.1
  have hS : va_S (ps_A E) s.heap H [] := by rw [X.2.2.2.2.2.2.2.2.1]; exact va_S.rf
  have hl : lv_has ls 2 [(0, .ref (tr)), (1, .int (nI k))] := hl
  obtain ⟨⟨hT1, hT2⟩, hT3, f, hf, hfv⟩ := id hT
  refine lv_aload_n hx hb dX3_begins_0 rfl (lv_at hl 0 rfl) ?_
  refine ps_get (v := .int (nI L.length)) X in_X3 (ci := 3) rfl 1 (by decide) q204 rfl (hW.at hT1) rfl dX3_begins_1 ?_
  refine lv_bipush (v := nI 16) hx hb dX3_begins_4 rfl ?_
  refine ps_cge (tgt := 26) hx hb dX3_begins_6 (by decide) (by omega) (fun c_6 => ?_) (fun c_6 => ?_)
  · skip
    exact False.elim (by omega)
  · skip
    refine lv_aload_n hx hb dX3_begins_9 rfl (lv_at hl 0 rfl) ?_
    refine ps_get (v := .ref (tr + 1)) X in_X3 (ci := 3) rfl 0 (by decide) q202 rfl (hW.at hT1) rfl dX3_begins_10 ?_
    refine lv_aload_n hx hb dX3_begins_13 rfl (lv_at hl 0 rfl) ?_
    refine lv_dup hx hb dX3_begins_14 rfl ?_
    refine ps_get (v := .int (nI L.length)) X in_X3 (ci := 3) rfl 1 (by decide) q204 rfl (hW.at hT1) rfl dX3_begins_15 ?_
    refine lv_dup_x1 hx hb dX3_begins_18 rfl rfl ?_
    refine lv_iconst (v := nI 1) hx hb dX3_begins_19 rfl ?_
    refine ps_iadd hx hb dX3_begins_20 ?_
    refine ps_put X in_X3 tyX3_ok nmX3 (ci := 3) rfl 1 (by decide) q204 rfl rfl rfl rfl (Nat.le_of_ble_eq_true rfl) (hW.at hT1) (hW.A hT1) hS dX3_begins_21 (fun H1 locs2 ha3 hz4 hq5 hS6 => ?_)
    obtain ⟨Γ7, hW8, hg9, ho10⟩ := hW.put1 hT1 ha3 hq5
    have hsp11 := ps_sp.rf.put (P := (fun w => w = 5)) (Γ := Γ) (ow := ow) ((ps_sp.rf : ps_sp (fun w => w = 5) Γ ow _ ow).o hT1 hT2) (by simp) hg9 ho10
    refine lv_iload_n hx hb dX3_begins_24 rfl (lv_at hl 1 rfl) ?_
    refine ps_iast (j := L.length) X (hW8.at ((ho10 _ (by omega)).trans hf)) rfl (by show L.length < 16; omega) (by first | decide | omega) (hW8.A ((ho10 _ (by omega)).trans hf)) hS6 dX3_begins_25 (fun H12 locs13 ha14 hz15 hq16 hS17 => ?_)
    obtain ⟨Γ18, hW19, hg20, ho21⟩ := hW8.put1 ((ho10 _ (by omega)).trans hf) ha14 hq16
    have hsp22 := hsp11.put (P := (fun w => w = 5)) (Γ := Γ) (ow := ow) ((hsp11 : ps_sp (fun w => w = 5) Γ ow _ ow).o hf hT3) (by simp) hg20 ho21
    exact ps_vretG X hS17 (Nat.le_of_ble_eq_true rfl) (Nat.le_of_ble_eq_true rfl) dX3_begins_26 (ps_bp.end rfl hW19 ((ps_gf.rf.put hT1 hz4 hq5 ho10).put ((ho10 _ (by omega)).trans hf) hz15 hq16 ho21) hsp22 (ps_Tl.push ((ho21 _ (by omega)).trans hg9) hT2 hT3 hg20 hfv) rfl)

set_option maxHeartbeats 4000000 in
theorem m_X13_init (l : Launch) {E : ps_E} (hE : ps_ZT E) {z : Nat} (hZ : ps_Zk E z) {Γ : ps_Gh} {H : Heap} (hW : ps_W E Γ H) {a x pn : Nat} (hP : Γ a = some (.inr (12, [.int (nI 0), .null]))) : ps_Ge l E yX13_init cX13_init 3 none 2 40 0 0 [.ref (a), .ref (x), .int (nI pn)] H (fun v H1 => v = none ∧ H1.size = H.size ∧ ∃ Γ1, ps_W E Γ1 H1 ∧ ps_gf Γ H Γ1 H1 ∧ Γ1 a = some (.inr (12, [.int (nI pn), .ref x])) ∧ ∀ q, q ≠ a → Γ1 q = Γ q) := by
  refine ps_Ge.of (by decide) (Nat.le_of_ble_eq_true rfl) ?_
  intro p e s m args below meth c X ls hl
  have hx := X.1
  have hb := X.2.1
  have ho := X.2.2.2.1
  have hts := X.2.2.2.2.1
  have hS : va_S (ps_A E) s.heap H [] := by rw [X.2.2.2.2.2.2.2.2.1]; exact va_S.rf
  have hl : lv_has ls 3 [(0, .ref (a)), (1, .ref (x)), (2, .int (nI pn))] := hl
  refine lv_aload_n hx hb dX13_init_0 rfl (lv_at hl 0 rfl) ?_
  refine lv_aload_n hx hb dX13_init_1 rfl (lv_at hl 1 rfl) ?_
  refine ps_putF X in_X13 tyX13_ok nmX13 (ci := 12) rfl 1 (by decide) q1167 rfl rfl rfl rfl rfl rfl (Nat.le_of_ble_eq_true rfl) (hW.at hP) (hW.A hP) hS dX13_init_2 (fun H1 locs2 ha3 hz4 hq5 hS6 => ?_)
  obtain ⟨Γ7, hW8, hg9, ho10⟩ := hW.put1 hP ha3 hq5
  refine lv_aload_n hx hb dX13_init_5 rfl (lv_at hl 0 rfl) ?_
  refine W.objInit hx hb ho (hts _ q1165) (hts _ q111) (hts _ q112) rfl (by rw [X.2.2.1]; exact hl.1) rfl dX13_init_6 (Nat.le_of_ble_eq_true rfl) (Nat.le_of_ble_eq_true rfl) ?_
  refine lv_aload_n hx hb dX13_init_9 rfl (lv_at hl 0 rfl) ?_
  refine lv_iload_n hx hb dX13_init_10 rfl (lv_at hl 2 rfl) ?_
  refine ps_putF X in_X13 tyX13_ok nmX13 (ci := 12) rfl 0 (by decide) q1166 rfl rfl rfl rfl rfl rfl (Nat.le_of_ble_eq_true rfl) (hW8.at hg9) (hW8.A hg9) hS6 dX13_init_11 (fun H11 locs12 ha13 hz14 hq15 hS16 => ?_)
  obtain ⟨Γ17, hW18, hg19, ho20⟩ := hW8.put1 hg9 ha13 hq15
  exact ps_vretG X hS16 (Nat.le_of_ble_eq_true rfl) (Nat.le_of_ble_eq_true rfl) dX13_init_14 (⟨rfl, by omega, Γ17, hW18, ((ps_gf.rf.put hP hz4 hq5 ho10).put hg9 hz14 hq15 ho20), hg19, fun q a1 => (ho20 _ a1).trans (ho10 _ a1)⟩)

set_option maxHeartbeats 4000000 in
theorem m_X13_weight (l : Launch) {E : ps_E} (hE : ps_ZT E) {z : Nat} (hZ : ps_Zk E z) {Γ : ps_Gh} {H : Heap} (hW : ps_W E Γ H) {ow : ps_Ow} {x hd a pn : Nat} {σ : Nat → Nat} (hH : ps_Hs E z Γ ow x hd a σ pn) : ps_Ro l E yX13_weight cX13_weight 1 (some .int) 21 641 [.ref (hd)] H (some (.int (nI (sp_w σ (pn + 1))))) := by
  refine ps_Ro.of (by decide) (Nat.le_of_ble_eq_true rfl) ?_
  intro p e s m args below meth c X ls hl
  have hx := X.1
  have hb := X.2.1
  have ho := X.2.2.2.1
  have hts := X.2.2.2.2.1
  have hS : va_S (ps_A E) s.heap H [] := by rw [X.2.2.2.2.2.2.2.2.1]; exact va_S.rf
  have hl : lv_has ls 1 [(0, .ref (hd))] := hl
  obtain ⟨_, ⟨t, N, hOb⟩, ⟨smc, sr, pf, kf, tf, df, hD, _⟩, ⟨hO, hpn⟩, _⟩ := id hH
  refine lv_aload_n hx hb dX13_weight_0 rfl (lv_at hl 0 rfl) ?_
  refine ps_get (v := .ref (x)) X in_X13 (ci := 12) rfl 1 (by decide) q1167 rfl (hW.at hH.1.1) rfl dX13_weight_1 ?_
  refine ps_getN (v := .ref (x + 11)) X hZ in_X0 (ci := 0) rfl 4 (by decide) q215 rfl (hW.at hOb.1) rfl dX13_weight_4 ?_
  refine lv_aload_n hx hb dX13_weight_7 rfl (lv_at hl 0 rfl) ?_
  refine ps_get (v := .int (nI pn)) X in_X13 (ci := 12) rfl 0 (by decide) q1166 rfl (hW.at hH.1.1) rfl dX13_weight_8 ?_
  refine ps_roV X hE (m_X2_weight l hE hZ hW hD hO (k := pn) (by omega)) (lw_V q1254 q883 q884 q70 q885) (by decide +kernel) ⟨⟨Nat.le_of_ble_eq_true rfl, Nat.le_of_ble_eq_true rfl⟩, Nat.le_of_ble_eq_true rfl, Nat.le_of_ble_eq_true rfl⟩ (ps_rc X (ci := 2) rfl (hW.at hD.1)) hS hl.1 (As := [.int (nI pn)]) (rest := []) (n := 1) rfl rfl (Nat.le_of_ble_eq_true rfl) dX13_weight_11 ?_
  refine ps_st (st' := [.int (nI (sp_w σ (pn + 1)))]) rfl ?_
  exact ps_iretR X dX13_weight_14 (congrArg (fun z => some (Value.int z)) (rfl))

section PVF
variable {p : Program} {l : Launch} {e : Env} {R : Room} {s : State} {m : MethodId} {args : Array Value} {below : List Frame} {meth : Method} {c : Code} {H : Heap} {locs : List Loc} {cells slots : Nat} {Q : State → Prop}
variable {E : ps_E} {cc : ByteArray} {nL : Nat} {ret : Option FieldType} {own nm : String} {H0 : Heap} {pc idx : Nat} {ls : Array Slot} {rest : List Value} {z : Nat} {Γ : ps_Gh}

theorem ps_Flikely {a n lk gv dd dy kd count : Nat} (X : ps_X p E s m args meth c cc nL ret own H0 nm) (hE : ps_ZT E) (hZ : ps_Zk E z) (hW : ps_W E Γ H) (hP : Γ a = some (ps_pr kd n lk gv dd dy)) (hk : 1 ≤ kd ∧ kd ≤ 5) (hlink : Cond.methodLink own idx ⟨"PromiseScales$Marked", "likely", "()I"⟩ ∈ lw_all) (hR : (2 ≤ R.frames ∧ 32 ≤ R.locals) ∧ cells ≤ R.cells ∧ slots ≤ R.slots) (hS : va_S (ps_A E) s.heap H locs) (hl : ls.size = nL) (hcat : (rest.map fun v => v.category).sum ≤ 8) (hdg : decode cc pc = .ok (.invokeinterface idx count, 5))
    (kk : W p l e R s m args below meth c H locs cells slots Q (F0 m (pc + 5) ls (.int (nI lk) :: rest))) : W p l e R s m args below meth c H locs cells slots Q (F0 m pc ls (.ref a :: rest)) := by
  obtain ⟨⟨f1, f2⟩, f3, f4⟩ := hR
  obtain ⟨h1, h2⟩ := hk
  obtain rfl | rfl | rfl | rfl | rfl : kd = 1 ∨ kd = 2 ∨ kd = 3 ∨ kd = 4 ∨ kd = 5 := by omega
  · exact ps_roF (x := ⟨"PromiseScales$Marked", "likely", "()I"⟩) X hE (m_X7_likely l hE hZ hW hP (by decide)) (lw_F hlink q1204 q949 q93 q956) hZ (by decide) (by decide +kernel) (ps_clA X (ci := 7) rfl) ⟨⟨by show 1 + 1 ≤ R.frames; omega, by show 8 + (1 + 11) + 12 ≤ R.locals; omega⟩, f3, f4⟩ (ps_rc X (ci := 7) rfl (hW.at hP)) hS hl (As := []) (rest := rest) (n := 0) rfl rfl hcat hdg kk
  · exact ps_roF (x := ⟨"PromiseScales$Marked", "likely", "()I"⟩) X hE (m_X7_likely l hE hZ hW hP (by decide)) (lw_F hlink q1198 q949 q93 q956) hZ (by decide) (by decide +kernel) (ps_clA X (ci := 8) rfl) ⟨⟨by show 1 + 1 ≤ R.frames; omega, by show 8 + (1 + 11) + 12 ≤ R.locals; omega⟩, f3, f4⟩ (ps_rc X (ci := 8) rfl (hW.at hP)) hS hl (As := []) (rest := rest) (n := 0) rfl rfl hcat hdg kk
  · exact ps_roF (x := ⟨"PromiseScales$Marked", "likely", "()I"⟩) X hE (m_X7_likely l hE hZ hW hP (by decide)) (lw_F hlink q1207 q949 q93 q956) hZ (by decide) (by decide +kernel) (ps_clA X (ci := 9) rfl) ⟨⟨by show 1 + 1 ≤ R.frames; omega, by show 8 + (1 + 11) + 12 ≤ R.locals; omega⟩, f3, f4⟩ (ps_rc X (ci := 9) rfl (hW.at hP)) hS hl (As := []) (rest := rest) (n := 0) rfl rfl hcat hdg kk
  · exact ps_roF (x := ⟨"PromiseScales$Marked", "likely", "()I"⟩) X hE (m_X7_likely l hE hZ hW hP (by decide)) (lw_F hlink q1201 q949 q93 q956) hZ (by decide) (by decide +kernel) (ps_clA X (ci := 10) rfl) ⟨⟨by show 1 + 1 ≤ R.frames; omega, by show 8 + (1 + 11) + 12 ≤ R.locals; omega⟩, f3, f4⟩ (ps_rc X (ci := 10) rfl (hW.at hP)) hS hl (As := []) (rest := rest) (n := 0) rfl rfl hcat hdg kk
  · exact ps_roF (x := ⟨"PromiseScales$Marked", "likely", "()I"⟩) X hE (m_X7_likely l hE hZ hW hP (by decide)) (lw_F hlink q1194 q949 q93 q956) hZ (by decide) (by decide +kernel) (ps_clA X (ci := 11) rfl) ⟨⟨by show 1 + 1 ≤ R.frames; omega, by show 8 + (1 + 11) + 12 ≤ R.locals; omega⟩, f3, f4⟩ (ps_rc X (ci := 11) rfl (hW.at hP)) hS hl (As := []) (rest := rest) (n := 0) rfl rfl hcat hdg kk

theorem ps_Fnumber {a n lk gv dd dy kd count : Nat} (X : ps_X p E s m args meth c cc nL ret own H0 nm) (hE : ps_ZT E) (hZ : ps_Zk E z) (hW : ps_W E Γ H) (hP : Γ a = some (ps_pr kd n lk gv dd dy)) (hk : 1 ≤ kd ∧ kd ≤ 5) (hlink : Cond.methodLink own idx ⟨"PromiseScales$Marked", "number", "()I"⟩ ∈ lw_all) (hR : (2 ≤ R.frames ∧ 32 ≤ R.locals) ∧ cells ≤ R.cells ∧ slots ≤ R.slots) (hS : va_S (ps_A E) s.heap H locs) (hl : ls.size = nL) (hcat : (rest.map fun v => v.category).sum ≤ 8) (hdg : decode cc pc = .ok (.invokeinterface idx count, 5))
    (kk : W p l e R s m args below meth c H locs cells slots Q (F0 m (pc + 5) ls (.int (nI n) :: rest))) : W p l e R s m args below meth c H locs cells slots Q (F0 m pc ls (.ref a :: rest)) := by
  obtain ⟨⟨f1, f2⟩, f3, f4⟩ := hR
  obtain ⟨h1, h2⟩ := hk
  obtain rfl | rfl | rfl | rfl | rfl : kd = 1 ∨ kd = 2 ∨ kd = 3 ∨ kd = 4 ∨ kd = 5 := by omega
  · exact ps_roF (x := ⟨"PromiseScales$Marked", "number", "()I"⟩) X hE (m_X7_number l hE hZ hW hP (by decide)) (lw_F hlink q1240 q1148 q93 q1155) hZ (by decide) (by decide +kernel) (ps_clA X (ci := 7) rfl) ⟨⟨by show 1 + 1 ≤ R.frames; omega, by show 8 + (1 + 11) + 12 ≤ R.locals; omega⟩, f3, f4⟩ (ps_rc X (ci := 7) rfl (hW.at hP)) hS hl (As := []) (rest := rest) (n := 0) rfl rfl hcat hdg kk
  · exact ps_roF (x := ⟨"PromiseScales$Marked", "number", "()I"⟩) X hE (m_X7_number l hE hZ hW hP (by decide)) (lw_F hlink q1236 q1148 q93 q1155) hZ (by decide) (by decide +kernel) (ps_clA X (ci := 8) rfl) ⟨⟨by show 1 + 1 ≤ R.frames; omega, by show 8 + (1 + 11) + 12 ≤ R.locals; omega⟩, f3, f4⟩ (ps_rc X (ci := 8) rfl (hW.at hP)) hS hl (As := []) (rest := rest) (n := 0) rfl rfl hcat hdg kk
  · exact ps_roF (x := ⟨"PromiseScales$Marked", "number", "()I"⟩) X hE (m_X7_number l hE hZ hW hP (by decide)) (lw_F hlink q1242 q1148 q93 q1155) hZ (by decide) (by decide +kernel) (ps_clA X (ci := 9) rfl) ⟨⟨by show 1 + 1 ≤ R.frames; omega, by show 8 + (1 + 11) + 12 ≤ R.locals; omega⟩, f3, f4⟩ (ps_rc X (ci := 9) rfl (hW.at hP)) hS hl (As := []) (rest := rest) (n := 0) rfl rfl hcat hdg kk
  · exact ps_roF (x := ⟨"PromiseScales$Marked", "number", "()I"⟩) X hE (m_X7_number l hE hZ hW hP (by decide)) (lw_F hlink q1238 q1148 q93 q1155) hZ (by decide) (by decide +kernel) (ps_clA X (ci := 10) rfl) ⟨⟨by show 1 + 1 ≤ R.frames; omega, by show 8 + (1 + 11) + 12 ≤ R.locals; omega⟩, f3, f4⟩ (ps_rc X (ci := 10) rfl (hW.at hP)) hS hl (As := []) (rest := rest) (n := 0) rfl rfl hcat hdg kk
  · exact ps_roF (x := ⟨"PromiseScales$Marked", "number", "()I"⟩) X hE (m_X7_number l hE hZ hW hP (by decide)) (lw_F hlink q1233 q1148 q93 q1155) hZ (by decide) (by decide +kernel) (ps_clA X (ci := 11) rfl) ⟨⟨by show 1 + 1 ≤ R.frames; omega, by show 8 + (1 + 11) + 12 ≤ R.locals; omega⟩, f3, f4⟩ (ps_rc X (ci := 11) rfl (hW.at hP)) hS hl (As := []) (rest := rest) (n := 0) rfl rfl hcat hdg kk

end PVF
theorem ps_pclA {p : Program} {s : State} {m : MethodId} {args : Array Value} {meth : Method} {c : Code} {E : ps_E} {cc : ByteArray} {nL : Nat} {ret : Option FieldType} {own nm : String} {H0 : Heap} {kd : Nat} (X : ps_X p E s m args meth c cc nL ret own H0 nm) (hk : 1 ≤ kd ∧ kd ≤ 5) : ∃ cC, ClassAt s (ps_pc kd) cC := by
  obtain ⟨h1, h2⟩ := hk
  obtain rfl | rfl | rfl | rfl | rfl : kd = 1 ∨ kd = 2 ∨ kd = 3 ∨ kd = 4 ∨ kd = 5 := by omega
  · exact ⟨_, ps_clA X (ci := 7) rfl⟩
  · exact ⟨_, ps_clA X (ci := 8) rfl⟩
  · exact ⟨_, ps_clA X (ci := 9) rfl⟩
  · exact ⟨_, ps_clA X (ci := 10) rfl⟩
  · exact ⟨_, ps_clA X (ci := 11) rfl⟩

set_option maxHeartbeats 4000000 in
theorem m_X14_size (l : Launch) {E : ps_E} (hE : ps_ZT E) {z : Nat} (hZ : ps_Zk E z) {Γ : ps_Gh} {H : Heap} (hW : ps_W E Γ H) (hQ : ps_Zm E) {ow : ps_Ow} {x tr hd a pn : Nat} {σ : Nat → Nat} {L : List Nat} (hT : ps_Tl E Γ ow tr L) (hH : ps_Hs E z Γ ow x hd a σ pn) (hL : L.length ≤ 15) : ps_Ge l E yX14_size cX14_size 3 (some .int) 2 33 0 0 [.ref (a), .ref (tr), .ref (hd)] H (ps_bp E Γ H ow tr L [10] (some (.int (nI (σ (41 + pn)))))) := by
  refine ps_Ge.of (by decide) (Nat.le_of_ble_eq_true rfl) ?_
  intro p e s m args below meth c X ls hl
  have hx := X.1
  have hb := X.2.1
  have ho := X.2.2.2.1
  have hts := X.2.2.2.2.1
  have hS : va_S (ps_A E) s.heap H [] := by rw [X.2.2.2.2.2.2.2.2.1]; exact va_S.rf
  have hl : lv_has ls 3 [(0, .ref (a)), (1, .ref (tr)), (2, .ref (hd))] := hl
  refine lv_aload_n hx hb dX14_size_0 rfl (lv_at hl 1 rfl) ?_
  refine lv_bipush (v := nI 10) hx hb dX14_size_1 rfl ?_
  refine ps_geV X hE (m_X3_begins l hE hZ hW (k := 10) hT (by (try simp only [List.length_append, List.length_cons, List.length_nil]); omega)) (lw_V q1188 q1179 q1180 q74 q1181) (by decide +kernel) ⟨⟨Nat.le_of_ble_eq_true rfl, Nat.le_of_ble_eq_true rfl⟩, Nat.le_of_ble_eq_true rfl, Nat.le_of_ble_eq_true rfl⟩ (ps_rc X (ci := 3) rfl (hW.at hT.1.1)) hS hl.1 (As := [.int (nI 10)]) (rest := []) (n := 1) rfl rfl (Nat.le_of_ble_eq_true rfl) dX14_size_3 (fun v5 H1 locs2 hp3 hS4 => ?_)
  obtain ⟨hv9, Γ6, hW7, hgf8, hsp10, hT11⟩ := hp3
  subst hv9
  have hH12 := hH.kept hsp10
  have hsq13 := (ps_sp.rf : ps_sp (fun w => w = 5) Γ ow Γ ow).tr hsp10
  refine ps_st (st' := []) rfl ?_
  refine lv_aload_n hx hb dX14_size_6 rfl (lv_at hl 0 rfl) ?_
  refine ps_Flikely X hE hZ hW7 hH12.2.2.2.2.1 (hH12.2.2.2.1.1.p hH12.2.2.2.1.2).1 q1190 ⟨⟨Nat.le_of_ble_eq_true rfl, Nat.le_of_ble_eq_true rfl⟩, Nat.le_of_ble_eq_true rfl, Nat.le_of_ble_eq_true rfl⟩ hS4 hl.1 (Nat.le_of_ble_eq_true rfl) dX14_size_7 ?_
  exact ps_iretG X hS4 (Nat.le_of_ble_eq_true rfl) (Nat.le_of_ble_eq_true rfl) dX14_size_12 (ps_bp.end (by first | rfl | (simp []; done)) hW7 (ps_gf.rf.tr hgf8) hsq13 hT11 (by first | rfl | (simp []; done)))

set_option maxHeartbeats 4000000 in
theorem m_X14_mark (l : Launch) {E : ps_E} (hE : ps_ZT E) {z : Nat} (hZ : ps_Zk E z) {Γ : ps_Gh} {H : Heap} (hW : ps_W E Γ H) (hQ : ps_Zm E) {ow : ps_Ow} {x tr hd a pn : Nat} {σ : Nat → Nat} {L : List Nat} (hT : ps_Tl E Γ ow tr L) (hH : ps_Hs E z Γ ow x hd a σ pn) (hL : L.length ≤ 15) : ps_Ge l E yX14_mark cX14_mark 3 (some .int) 2 33 0 0 [.ref (a), .ref (tr), .ref (hd)] H (ps_bp E Γ H ow tr L [20] (some (.int (nI pn)))) := by
  refine ps_Ge.of (by decide) (Nat.le_of_ble_eq_true rfl) ?_
  intro p e s m args below meth c X ls hl
  have hx := X.1
  have hb := X.2.1
  have ho := X.2.2.2.1
  have hts := X.2.2.2.2.1
  have hS : va_S (ps_A E) s.heap H [] := by rw [X.2.2.2.2.2.2.2.2.1]; exact va_S.rf
  have hl : lv_has ls 3 [(0, .ref (a)), (1, .ref (tr)), (2, .ref (hd))] := hl
  refine lv_aload_n hx hb dX14_mark_0 rfl (lv_at hl 1 rfl) ?_
  refine lv_bipush (v := nI 20) hx hb dX14_mark_1 rfl ?_
  refine ps_geV X hE (m_X3_begins l hE hZ hW (k := 20) hT (by (try simp only [List.length_append, List.length_cons, List.length_nil]); omega)) (lw_V q1188 q1179 q1180 q74 q1181) (by decide +kernel) ⟨⟨Nat.le_of_ble_eq_true rfl, Nat.le_of_ble_eq_true rfl⟩, Nat.le_of_ble_eq_true rfl, Nat.le_of_ble_eq_true rfl⟩ (ps_rc X (ci := 3) rfl (hW.at hT.1.1)) hS hl.1 (As := [.int (nI 20)]) (rest := []) (n := 1) rfl rfl (Nat.le_of_ble_eq_true rfl) dX14_mark_3 (fun v5 H1 locs2 hp3 hS4 => ?_)
  obtain ⟨hv9, Γ6, hW7, hgf8, hsp10, hT11⟩ := hp3
  subst hv9
  have hH12 := hH.kept hsp10
  have hsq13 := (ps_sp.rf : ps_sp (fun w => w = 5) Γ ow Γ ow).tr hsp10
  refine ps_st (st' := []) rfl ?_
  refine lv_aload_n hx hb dX14_mark_6 rfl (lv_at hl 0 rfl) ?_
  refine ps_Fnumber X hE hZ hW7 hH12.2.2.2.2.1 (hH12.2.2.2.1.1.p hH12.2.2.2.1.2).1 q1230 ⟨⟨Nat.le_of_ble_eq_true rfl, Nat.le_of_ble_eq_true rfl⟩, Nat.le_of_ble_eq_true rfl, Nat.le_of_ble_eq_true rfl⟩ hS4 hl.1 (Nat.le_of_ble_eq_true rfl) dX14_mark_7 ?_
  exact ps_iretG X hS4 (Nat.le_of_ble_eq_true rfl) (Nat.le_of_ble_eq_true rfl) dX14_mark_12 (ps_bp.end (by first | rfl | (simp []; done)) hW7 (ps_gf.rf.tr hgf8) hsq13 hT11 (by first | rfl | (simp []; done)))

set_option maxHeartbeats 4000000 in
theorem m_X8_mark (l : Launch) {E : ps_E} (hE : ps_ZT E) {z : Nat} (hZ : ps_Zk E z) {Γ : ps_Gh} {H : Heap} (hW : ps_W E Γ H) (hQ : ps_Zm E) {ow : ps_Ow} {x tr hd a pn : Nat} {σ : Nat → Nat} {L : List Nat} (hT : ps_Tl E Γ ow tr L) (hH : ps_Hs E z Γ ow x hd a σ pn) (hL : L.length ≤ 14) : ps_Ge l E yX8_mark cX8_mark 3 (some .int) 22 661 0 0 [.ref (a), .ref (tr), .ref (hd)] H (ps_bp E Γ H ow tr L [21, 20] (some (.int (sp_pm σ pn)))) := by
  refine ps_Ge.of (by decide) (Nat.le_of_ble_eq_true rfl) ?_
  intro p e s m args below meth c X ls hl
  have hx := X.1
  have hb := X.2.1
  have ho := X.2.2.2.1
  have hts := X.2.2.2.2.1
  have hS : va_S (ps_A E) s.heap H [] := by rw [X.2.2.2.2.2.2.2.2.1]; exact va_S.rf
  have hl : lv_has ls 3 [(0, .ref (a)), (1, .ref (tr)), (2, .ref (hd))] := hl
  refine lv_aload_n hx hb dX8_mark_0 rfl (lv_at hl 1 rfl) ?_
  refine lv_bipush (v := nI 21) hx hb dX8_mark_1 rfl ?_
  refine ps_geV X hE (m_X3_begins l hE hZ hW (k := 21) hT (by (try simp only [List.length_append, List.length_cons, List.length_nil]); omega)) (lw_V q1216 q1179 q1180 q74 q1181) (by decide +kernel) ⟨⟨Nat.le_of_ble_eq_true rfl, Nat.le_of_ble_eq_true rfl⟩, Nat.le_of_ble_eq_true rfl, Nat.le_of_ble_eq_true rfl⟩ (ps_rc X (ci := 3) rfl (hW.at hT.1.1)) hS hl.1 (As := [.int (nI 21)]) (rest := []) (n := 1) rfl rfl (Nat.le_of_ble_eq_true rfl) dX8_mark_3 (fun v5 H1 locs2 hp3 hS4 => ?_)
  obtain ⟨hv9, Γ6, hW7, hgf8, hsp10, hT11⟩ := hp3
  subst hv9
  have hH12 := hH.kept hsp10
  have hsq13 := (ps_sp.rf : ps_sp (fun w => w = 5) Γ ow Γ ow).tr hsp10
  refine ps_st (st' := []) rfl ?_
  refine lv_aload_n hx hb dX8_mark_6 rfl (lv_at hl 0 rfl) ?_
  refine lv_aload_n hx hb dX8_mark_7 rfl (lv_at hl 1 rfl) ?_
  refine lv_aload_n hx hb dX8_mark_8 rfl (lv_at hl 2 rfl) ?_
  obtain ⟨cPC, hPC⟩ := ps_pclA X ((hH12.2.2.2.1.1.p hH12.2.2.2.1.2).1)
  refine ps_geSM (y := yX14_mark) X hE hQ (m_X14_mark l hE hZ hW7 hQ hT11 hH12 (by (try simp only [List.length_append, List.length_cons, List.length_nil]); omega)) dw_3 dw_7 rfl (by decide) q693 q1227 q1682 q1228 hPC ⟨⟨Nat.le_of_ble_eq_true rfl, Nat.le_of_ble_eq_true rfl⟩, Nat.le_of_ble_eq_true rfl, Nat.le_of_ble_eq_true rfl⟩ (ps_prc X ((hH12.2.2.2.1.1.p hH12.2.2.2.1.2).1) (hW7.at hH12.2.2.2.2.1)) hS4 hl.1 (As := [.ref (tr), .ref (hd)]) (rest := [])  rfl rfl (Nat.le_of_ble_eq_true rfl) dX8_mark_9 (fun v18 H14 locs15 hp16 hS17 => ?_)
  obtain ⟨hv22, Γ19, hW20, hgf21, hsp23, hT24⟩ := hp16
  subst hv22
  have hH25 := hH12.kept hsp23
  have hsq26 := (hsq13 : ps_sp (fun w => w = 5) Γ ow Γ6 ow).tr hsp23
  refine ps_st (st' := [.int (nI pn)]) rfl ?_
  refine lv_aload_n hx hb dX8_mark_12 rfl (lv_at hl 2 rfl) ?_
  refine ps_roF X hE (m_X13_weight l hE hZ hW20 hH25) (lw_F q1245 q1249 q1251 q104 q1253) hZ (by decide) (by decide +kernel) (ps_clA X (ci := 12) rfl) ⟨⟨Nat.le_of_ble_eq_true rfl, Nat.le_of_ble_eq_true rfl⟩, Nat.le_of_ble_eq_true rfl, Nat.le_of_ble_eq_true rfl⟩ (ps_rc X (ci := 12) rfl (hW20.at hH25.1.1)) hS17 hl.1 (As := []) (rest := [.int (nI pn)]) (n := 0) rfl rfl (Nat.le_of_ble_eq_true rfl) dX8_mark_13 ?_
  refine ps_st (st' := [.int (nI (sp_w σ (pn + 1))), .int (nI pn)]) rfl ?_
  refine lv_iadd hx hb dX8_mark_18 ?_
  exact ps_iretG X hS17 (Nat.le_of_ble_eq_true rfl) (Nat.le_of_ble_eq_true rfl) dX8_mark_19 (ps_bp.end (by first | rfl | (simp [sp_pm]; done)) hW20 ((ps_gf.rf.tr hgf8).tr hgf21) hsq26 hT24 (by first | rfl | (simp [sp_pm]; done)))

set_option maxHeartbeats 4000000 in
theorem m_X9_mark (l : Launch) {E : ps_E} (hE : ps_ZT E) {z : Nat} (hZ : ps_Zk E z) {Γ : ps_Gh} {H : Heap} (hW : ps_W E Γ H) (hQ : ps_Zm E) {ow : ps_Ow} {x tr hd a pn : Nat} {σ : Nat → Nat} {L : List Nat} (hT : ps_Tl E Γ ow tr L) (hH : ps_Hs E z Γ ow x hd a σ pn) (hL : L.length ≤ 13) (hk : σ (9 + pn) = 2) : ps_Ge l E yX9_mark cX9_mark 3 (some .int) 23 683 0 0 [.ref (a), .ref (tr), .ref (hd)] H (ps_bp E Γ H ow tr L (sp_mL σ pn) (some (.int (sp_mS σ pn)))) := by
  refine ps_Ge.of (by decide) (Nat.le_of_ble_eq_true rfl) ?_
  intro p e s m args below meth c X ls hl
  have hx := X.1
  have hb := X.2.1
  have ho := X.2.2.2.1
  have hts := X.2.2.2.2.1
  have hS : va_S (ps_A E) s.heap H [] := by rw [X.2.2.2.2.2.2.2.2.1]; exact va_S.rf
  have hl : lv_has ls 3 [(0, .ref (a)), (1, .ref (tr)), (2, .ref (hd))] := hl
  refine lv_aload_n hx hb dX9_mark_0 rfl (lv_at hl 1 rfl) ?_
  refine lv_bipush (v := nI 24) hx hb dX9_mark_1 rfl ?_
  refine ps_geV X hE (m_X3_begins l hE hZ hW (k := 24) hT (by (try simp only [List.length_append, List.length_cons, List.length_nil]); omega)) (lw_V q1212 q1179 q1180 q74 q1181) (by decide +kernel) ⟨⟨Nat.le_of_ble_eq_true rfl, Nat.le_of_ble_eq_true rfl⟩, Nat.le_of_ble_eq_true rfl, Nat.le_of_ble_eq_true rfl⟩ (ps_rc X (ci := 3) rfl (hW.at hT.1.1)) hS hl.1 (As := [.int (nI 24)]) (rest := []) (n := 1) rfl rfl (Nat.le_of_ble_eq_true rfl) dX9_mark_3 (fun v5 H1 locs2 hp3 hS4 => ?_)
  obtain ⟨hv9, Γ6, hW7, hgf8, hsp10, hT11⟩ := hp3
  subst hv9
  have hH12 := hH.kept hsp10
  have hsq13 := (ps_sp.rf : ps_sp (fun w => w = 5) Γ ow Γ ow).tr hsp10
  refine ps_st (st' := []) rfl ?_
  refine lv_iconst (v := nI 2) hx hb dX9_mark_6 rfl ?_
  refine lv_aload_n hx hb dX9_mark_7 rfl (lv_at hl 0 rfl) ?_
  refine lv_aload_n hx hb dX9_mark_8 rfl (lv_at hl 1 rfl) ?_
  refine lv_aload_n hx hb dX9_mark_9 rfl (lv_at hl 2 rfl) ?_
  obtain ⟨cPC, hPC⟩ := ps_pclA X ((hH12.2.2.2.1.1.p hH12.2.2.2.1.2).1)
  refine ps_geSU X hE (m_X8_mark l hE hZ hW7 hQ hT11 hH12 (by (try simp only [List.length_append, List.length_cons, List.length_nil]); omega)) (lw_SU q1224 q1220 q705 q1218 q94 q1225) (by decide +kernel) hPC ⟨⟨Nat.le_of_ble_eq_true rfl, Nat.le_of_ble_eq_true rfl⟩, Nat.le_of_ble_eq_true rfl, Nat.le_of_ble_eq_true rfl⟩ (ps_prc X ((hH12.2.2.2.1.1.p hH12.2.2.2.1.2).1) (hW7.at hH12.2.2.2.2.1)) hS4 hl.1 (As := [.ref (tr), .ref (hd)]) (rest := [.int (nI 2)])  (n := 2) rfl rfl (Nat.le_of_ble_eq_true rfl) dX9_mark_10 (fun v18 H14 locs15 hp16 hS17 => ?_)
  obtain ⟨hv22, Γ19, hW20, hgf21, hsp23, hT24⟩ := hp16
  subst hv22
  have hH25 := hH12.kept hsp23
  have hsq26 := (hsq13 : ps_sp (fun w => w = 5) Γ ow Γ6 ow).tr hsp23
  refine ps_st (st' := [.int (sp_pm σ pn), .int (nI 2)]) rfl ?_
  refine lv_imul hx hb dX9_mark_13 ?_
  exact ps_iretG X hS17 (Nat.le_of_ble_eq_true rfl) (Nat.le_of_ble_eq_true rfl) dX9_mark_14 (ps_bp.end (by first | rfl | (simp [sp_mL, sp_mS, hk]; done)) hW20 ((ps_gf.rf.tr hgf8).tr hgf21) hsq26 hT24 (by first | rfl | (simp [sp_mL, sp_mS, hk]; done)))

set_option maxHeartbeats 4000000 in
theorem m_X10_mark (l : Launch) {E : ps_E} (hE : ps_ZT E) {z : Nat} (hZ : ps_Zk E z) {Γ : ps_Gh} {H : Heap} (hW : ps_W E Γ H) (hQ : ps_Zm E) {ow : ps_Ow} {x tr hd a pn : Nat} {σ : Nat → Nat} {L : List Nat} (hT : ps_Tl E Γ ow tr L) (hH : ps_Hs E z Γ ow x hd a σ pn) (hL : L.length ≤ 13) (hk : σ (9 + pn) = 3) : ps_Ge l E yX10_mark cX10_mark 3 (some .int) 23 683 0 0 [.ref (a), .ref (tr), .ref (hd)] H (ps_bp E Γ H ow tr L (sp_mL σ pn) (some (.int (sp_mS σ pn)))) := by
  refine ps_Ge.of (by decide) (Nat.le_of_ble_eq_true rfl) ?_
  intro p e s m args below meth c X ls hl
  have hx := X.1
  have hb := X.2.1
  have ho := X.2.2.2.1
  have hts := X.2.2.2.2.1
  have hS : va_S (ps_A E) s.heap H [] := by rw [X.2.2.2.2.2.2.2.2.1]; exact va_S.rf
  have hl : lv_has ls 3 [(0, .ref (a)), (1, .ref (tr)), (2, .ref (hd))] := hl
  refine lv_aload_n hx hb dX10_mark_0 rfl (lv_at hl 1 rfl) ?_
  refine lv_bipush (v := nI 22) hx hb dX10_mark_1 rfl ?_
  refine ps_geV X hE (m_X3_begins l hE hZ hW (k := 22) hT (by (try simp only [List.length_append, List.length_cons, List.length_nil]); omega)) (lw_V q1258 q1179 q1180 q74 q1181) (by decide +kernel) ⟨⟨Nat.le_of_ble_eq_true rfl, Nat.le_of_ble_eq_true rfl⟩, Nat.le_of_ble_eq_true rfl, Nat.le_of_ble_eq_true rfl⟩ (ps_rc X (ci := 3) rfl (hW.at hT.1.1)) hS hl.1 (As := [.int (nI 22)]) (rest := []) (n := 1) rfl rfl (Nat.le_of_ble_eq_true rfl) dX10_mark_3 (fun v5 H1 locs2 hp3 hS4 => ?_)
  obtain ⟨hv9, Γ6, hW7, hgf8, hsp10, hT11⟩ := hp3
  subst hv9
  have hH12 := hH.kept hsp10
  have hsq13 := (ps_sp.rf : ps_sp (fun w => w = 5) Γ ow Γ ow).tr hsp10
  refine ps_st (st' := []) rfl ?_
  refine lv_aload_n hx hb dX10_mark_6 rfl (lv_at hl 0 rfl) ?_
  refine lv_aload_n hx hb dX10_mark_7 rfl (lv_at hl 1 rfl) ?_
  refine lv_aload_n hx hb dX10_mark_8 rfl (lv_at hl 2 rfl) ?_
  obtain ⟨cPC, hPC⟩ := ps_pclA X ((hH12.2.2.2.1.1.p hH12.2.2.2.1.2).1)
  refine ps_geSU X hE (m_X8_mark l hE hZ hW7 hQ hT11 hH12 (by (try simp only [List.length_append, List.length_cons, List.length_nil]); omega)) (lw_SU q1259 q1220 q717 q1218 q94 q1225) (by decide +kernel) hPC ⟨⟨Nat.le_of_ble_eq_true rfl, Nat.le_of_ble_eq_true rfl⟩, Nat.le_of_ble_eq_true rfl, Nat.le_of_ble_eq_true rfl⟩ (ps_prc X ((hH12.2.2.2.1.1.p hH12.2.2.2.1.2).1) (hW7.at hH12.2.2.2.2.1)) hS4 hl.1 (As := [.ref (tr), .ref (hd)]) (rest := [])  (n := 2) rfl rfl (Nat.le_of_ble_eq_true rfl) dX10_mark_9 (fun v18 H14 locs15 hp16 hS17 => ?_)
  obtain ⟨hv22, Γ19, hW20, hgf21, hsp23, hT24⟩ := hp16
  subst hv22
  have hH25 := hH12.kept hsp23
  have hsq26 := (hsq13 : ps_sp (fun w => w = 5) Γ ow Γ6 ow).tr hsp23
  refine ps_st (st' := [.int (sp_pm σ pn)]) rfl ?_
  refine lv_sipush (v := nI 1000) hx hb dX10_mark_12 rfl ?_
  refine lv_isub hx hb dX10_mark_15 ?_
  exact ps_iretG X hS17 (Nat.le_of_ble_eq_true rfl) (Nat.le_of_ble_eq_true rfl) dX10_mark_16 (ps_bp.end (by first | rfl | (simp [sp_mL, sp_mS, hk]; done)) hW20 ((ps_gf.rf.tr hgf8).tr hgf21) hsq26 hT24 (by first | rfl | (simp [sp_mL, sp_mS, hk]; done)))

section PVM
variable {p : Program} {l : Launch} {e : Env} {R : Room} {s : State} {m : MethodId} {args : Array Value} {below : List Frame} {meth : Method} {c : Code} {H : Heap} {locs : List Loc} {cells slots : Nat} {Q : State → Prop}
variable {E : ps_E} {cc : ByteArray} {nL : Nat} {ret : Option FieldType} {own nm : String} {H0 : Heap} {pc idx : Nat} {ls : Array Slot} {rest : List Value} {z : Nat} {Γ : ps_Gh}
variable {x tr hd a pn : Nat} {ow : ps_Ow} {σ : Nat → Nat} {L : List Nat}
theorem ps_vmark (X : ps_X p E s m args meth c cc nL ret own H0 nm) (hE : ps_ZT E) (hZ : ps_Zk E z) (hW : ps_W E Γ H) (hQ : ps_Zm E) (hT : ps_Tl E Γ ow tr L) (hH : ps_Hs E z Γ ow x hd a σ pn) (hL : L.length ≤ 13) (hk : σ (9 + pn) ≤ 3) (hlink : Cond.methodLink own idx ⟨"PromiseScales$Plain", "mark", ps_sD⟩ ∈ lw_all) (hR : (24 ≤ R.frames ∧ 705 ≤ R.locals) ∧ cells ≤ R.cells ∧ slots ≤ R.slots) (hS : va_S (ps_A E) s.heap H locs) (hl : ls.size = nL) (hcat : (rest.map fun v => v.category).sum ≤ 8) (hdg : decode cc pc = .ok (.invokevirtual idx, 3))
    (kk : ∀ (v : Option Value) (H1 : Heap) (locs1 : List Loc), ps_bp E Γ H ow tr L (sp_mL σ pn) (some (.int (sp_mS σ pn))) v H1 → va_S (ps_A E) s.heap H1 locs1 → W p l e R s m args below meth c H1 locs1 (cells + 0) (slots + 0) Q (F0 m (pc + 3) ls (v.toList ++ rest))) : W p l e R s m args below meth c H locs cells slots Q (F0 m pc ls (.ref hd :: .ref tr :: .ref a :: rest)) := by
  obtain ⟨⟨f1, f2⟩, f3, f4⟩ := hR
  have hP := hH.2.2.2.2.1
  have hpk := (hH.2.2.2.1.1.p hH.2.2.2.1.2).1
  have hcs : σ (9 + pn) = 1 ∨ σ (9 + pn) = 2 ∨ σ (9 + pn) = 3 := by omega
  rcases hcs with hk1 | hk2 | hk3
  · rw [hk1] at hP
    exact ps_geV X hE ((m_X8_mark l hE hZ hW hQ hT hH (by omega)).mono (fun v H1 h => by first | exact h | simpa [sp_mL, sp_mS, sp_sL, sp_sS, sp_oL, sp_oS, hk1] using h)) (lw_V hlink q1218 q1219 q94 q1225) (by decide +kernel) ⟨⟨by show 22 + 1 ≤ R.frames; omega, by show 8 + (3 + 11) + 661 ≤ R.locals; omega⟩, f3, f4⟩ (ps_rc X (ci := 7) rfl (hW.at hP)) hS hl (As := [.ref tr, .ref hd]) (rest := rest) (n := 2) rfl rfl hcat hdg kk
  · rw [hk2] at hP
    exact ps_geO (owner := "PromiseScales$Plain") (x := ⟨"PromiseScales$Plain", "mark", ps_sD⟩) X hE ((m_X9_mark l hE hZ hW hQ hT hH (by omega) hk2).mono (fun v H1 h => by first | exact h | simpa [sp_mL, sp_mS, sp_sL, sp_sS, sp_oL, sp_oS, hk2] using h)) (lw_O hlink q1220 q1218 q1221 q1222 q95 q1223) q1225 (by decide +kernel) ⟨⟨by show 23 + 1 ≤ R.frames; omega, by show 8 + (3 + 11) + 683 ≤ R.locals; omega⟩, f3, f4⟩ (ps_rc X (ci := 8) rfl (hW.at hP)) hS hl (As := [.ref tr, .ref hd]) (rest := rest) (n := 2) rfl rfl hcat hdg kk
  · rw [hk3] at hP
    exact ps_geO (owner := "PromiseScales$Plain") (x := ⟨"PromiseScales$Plain", "mark", ps_sD⟩) X hE ((m_X10_mark l hE hZ hW hQ hT hH (by omega) hk3).mono (fun v H1 h => by first | exact h | simpa [sp_mL, sp_mS, sp_sL, sp_sS, sp_oL, sp_oS, hk3] using h)) (lw_O hlink q1220 q1218 q1255 q1256 q96 q1257) q1225 (by decide +kernel) ⟨⟨by show 23 + 1 ≤ R.frames; omega, by show 8 + (3 + 11) + 683 ≤ R.locals; omega⟩, f3, f4⟩ (ps_rc X (ci := 9) rfl (hW.at hP)) hS hl (As := [.ref tr, .ref hd]) (rest := rest) (n := 2) rfl rfl hcat hdg kk
end PVM
set_option maxHeartbeats 4000000 in
theorem m_X8_size (l : Launch) {E : ps_E} (hE : ps_ZT E) {z : Nat} (hZ : ps_Zk E z) {Γ : ps_Gh} {H : Heap} (hW : ps_W E Γ H) (hQ : ps_Zm E) {ow : ps_Ow} {x tr hd a pn : Nat} {σ : Nat → Nat} {L : List Nat} (hT : ps_Tl E Γ ow tr L) (hH : ps_Hs E z Γ ow x hd a σ pn) (hL : L.length ≤ 11) (hk : σ (9 + pn) ≤ 3) : ps_Ge l E yX8_size cX8_size 3 (some .int) 24 705 0 0 [.ref (a), .ref (tr), .ref (hd)] H (ps_bp E Γ H ow tr L ([11, 10] ++ sp_mL σ pn) (some (.int (nI (σ (41 + pn)) + sp_mS σ pn)))) := by
  refine ps_Ge.of (by decide) (Nat.le_of_ble_eq_true rfl) ?_
  intro p e s m args below meth c X ls hl
  have hx := X.1
  have hb := X.2.1
  have ho := X.2.2.2.1
  have hts := X.2.2.2.2.1
  have hS : va_S (ps_A E) s.heap H [] := by rw [X.2.2.2.2.2.2.2.2.1]; exact va_S.rf
  have hl : lv_has ls 3 [(0, .ref (a)), (1, .ref (tr)), (2, .ref (hd))] := hl
  refine lv_aload_n hx hb dX8_size_0 rfl (lv_at hl 1 rfl) ?_
  refine lv_bipush (v := nI 11) hx hb dX8_size_1 rfl ?_
  refine ps_geV X hE (m_X3_begins l hE hZ hW (k := 11) hT (by (try simp only [List.length_append, List.length_cons, List.length_nil]); omega)) (lw_V q1216 q1179 q1180 q74 q1181) (by decide +kernel) ⟨⟨Nat.le_of_ble_eq_true rfl, Nat.le_of_ble_eq_true rfl⟩, Nat.le_of_ble_eq_true rfl, Nat.le_of_ble_eq_true rfl⟩ (ps_rc X (ci := 3) rfl (hW.at hT.1.1)) hS hl.1 (As := [.int (nI 11)]) (rest := []) (n := 1) rfl rfl (Nat.le_of_ble_eq_true rfl) dX8_size_3 (fun v5 H1 locs2 hp3 hS4 => ?_)
  obtain ⟨hv9, Γ6, hW7, hgf8, hsp10, hT11⟩ := hp3
  subst hv9
  have hH12 := hH.kept hsp10
  have hsq13 := (ps_sp.rf : ps_sp (fun w => w = 5) Γ ow Γ ow).tr hsp10
  refine ps_st (st' := []) rfl ?_
  refine lv_aload_n hx hb dX8_size_6 rfl (lv_at hl 0 rfl) ?_
  refine lv_aload_n hx hb dX8_size_7 rfl (lv_at hl 1 rfl) ?_
  refine lv_aload_n hx hb dX8_size_8 rfl (lv_at hl 2 rfl) ?_
  obtain ⟨cPC, hPC⟩ := ps_pclA X ((hH12.2.2.2.1.1.p hH12.2.2.2.1.2).1)
  refine ps_geSM (y := yX14_size) X hE hQ (m_X14_size l hE hZ hW7 hQ hT11 hH12 (by (try simp only [List.length_append, List.length_cons, List.length_nil]); omega)) dw_2 dw_6 rfl (by decide) q693 q1186 q1682 q1187 hPC ⟨⟨Nat.le_of_ble_eq_true rfl, Nat.le_of_ble_eq_true rfl⟩, Nat.le_of_ble_eq_true rfl, Nat.le_of_ble_eq_true rfl⟩ (ps_prc X ((hH12.2.2.2.1.1.p hH12.2.2.2.1.2).1) (hW7.at hH12.2.2.2.2.1)) hS4 hl.1 (As := [.ref (tr), .ref (hd)]) (rest := [])  rfl rfl (Nat.le_of_ble_eq_true rfl) dX8_size_9 (fun v18 H14 locs15 hp16 hS17 => ?_)
  obtain ⟨hv22, Γ19, hW20, hgf21, hsp23, hT24⟩ := hp16
  subst hv22
  have hH25 := hH12.kept hsp23
  have hsq26 := (hsq13 : ps_sp (fun w => w = 5) Γ ow Γ6 ow).tr hsp23
  refine ps_st (st' := [.int (nI (σ (41 + pn)))]) rfl ?_
  refine lv_aload_n hx hb dX8_size_12 rfl (lv_at hl 0 rfl) ?_
  refine lv_aload_n hx hb dX8_size_13 rfl (lv_at hl 1 rfl) ?_
  refine lv_aload_n hx hb dX8_size_14 rfl (lv_at hl 2 rfl) ?_
  refine ps_vmark X hE hZ hW20 hQ hT24 hH25 (by (try simp only [List.length_append, List.length_cons, List.length_nil]); omega) hk q1217 ⟨⟨Nat.le_of_ble_eq_true rfl, Nat.le_of_ble_eq_true rfl⟩, Nat.le_of_ble_eq_true rfl, Nat.le_of_ble_eq_true rfl⟩ hS17 hl.1 (rest := [.int (nI (σ (41 + pn)))]) (Nat.le_of_ble_eq_true rfl) dX8_size_15 (fun v31 H27 locs28 hp29 hS30 => ?_)
  obtain ⟨hv35, Γ32, hW33, hgf34, hsp36, hT37⟩ := hp29
  subst hv35
  have hH38 := hH25.kept hsp36
  have hsq39 := (hsq26 : ps_sp (fun w => w = 5) Γ ow Γ19 ow).tr hsp36
  refine ps_st (st' := [.int (sp_mS σ pn), .int (nI (σ (41 + pn)))]) rfl ?_
  refine lv_iadd hx hb dX8_size_18 ?_
  exact ps_iretG X hS30 (Nat.le_of_ble_eq_true rfl) (Nat.le_of_ble_eq_true rfl) dX8_size_19 (ps_bp.end (by first | rfl | (simp []; done)) hW33 (((ps_gf.rf.tr hgf8).tr hgf21).tr hgf34) hsq39 hT37 (by first | rfl | (simp []; done)))

set_option maxHeartbeats 4000000 in
theorem m_X9_size (l : Launch) {E : ps_E} (hE : ps_ZT E) {z : Nat} (hZ : ps_Zk E z) {Γ : ps_Gh} {H : Heap} (hW : ps_W E Γ H) (hQ : ps_Zm E) {ow : ps_Ow} {x tr hd a pn : Nat} {σ : Nat → Nat} {L : List Nat} (hT : ps_Tl E Γ ow tr L) (hH : ps_Hs E z Γ ow x hd a σ pn) (hL : L.length ≤ 10) (hk : σ (9 + pn) = 2) : ps_Ge l E yX9_size cX9_size 3 (some .int) 25 727 0 0 [.ref (a), .ref (tr), .ref (hd)] H (ps_bp E Γ H ow tr L (sp_sL σ pn) (some (.int (sp_sS σ pn)))) := by
  refine ps_Ge.of (by decide) (Nat.le_of_ble_eq_true rfl) ?_
  intro p e s m args below meth c X ls hl
  have hx := X.1
  have hb := X.2.1
  have ho := X.2.2.2.1
  have hts := X.2.2.2.2.1
  have hS : va_S (ps_A E) s.heap H [] := by rw [X.2.2.2.2.2.2.2.2.1]; exact va_S.rf
  have hl : lv_has ls 3 [(0, .ref (a)), (1, .ref (tr)), (2, .ref (hd))] := hl
  refine lv_aload_n hx hb dX9_size_0 rfl (lv_at hl 1 rfl) ?_
  refine lv_bipush (v := nI 12) hx hb dX9_size_1 rfl ?_
  refine ps_geV X hE (m_X3_begins l hE hZ hW (k := 12) hT (by (try simp only [List.length_append, List.length_cons, List.length_nil]); omega)) (lw_V q1212 q1179 q1180 q74 q1181) (by decide +kernel) ⟨⟨Nat.le_of_ble_eq_true rfl, Nat.le_of_ble_eq_true rfl⟩, Nat.le_of_ble_eq_true rfl, Nat.le_of_ble_eq_true rfl⟩ (ps_rc X (ci := 3) rfl (hW.at hT.1.1)) hS hl.1 (As := [.int (nI 12)]) (rest := []) (n := 1) rfl rfl (Nat.le_of_ble_eq_true rfl) dX9_size_3 (fun v5 H1 locs2 hp3 hS4 => ?_)
  obtain ⟨hv9, Γ6, hW7, hgf8, hsp10, hT11⟩ := hp3
  subst hv9
  have hH12 := hH.kept hsp10
  have hsq13 := (ps_sp.rf : ps_sp (fun w => w = 5) Γ ow Γ ow).tr hsp10
  refine ps_st (st' := []) rfl ?_
  refine lv_aload_n hx hb dX9_size_6 rfl (lv_at hl 0 rfl) ?_
  refine lv_aload_n hx hb dX9_size_7 rfl (lv_at hl 1 rfl) ?_
  refine lv_aload_n hx hb dX9_size_8 rfl (lv_at hl 2 rfl) ?_
  obtain ⟨cPC, hPC⟩ := ps_pclA X ((hH12.2.2.2.1.1.p hH12.2.2.2.1.2).1)
  refine ps_geSU X hE (m_X8_size l hE hZ hW7 hQ hT11 hH12 (by (try simp only [List.length_append, List.length_cons, List.length_nil]); omega) (by omega)) (lw_SU q1213 q1678 q705 q1214 q94 q1215) (by decide +kernel) hPC ⟨⟨Nat.le_of_ble_eq_true rfl, Nat.le_of_ble_eq_true rfl⟩, Nat.le_of_ble_eq_true rfl, Nat.le_of_ble_eq_true rfl⟩ (ps_prc X ((hH12.2.2.2.1.1.p hH12.2.2.2.1.2).1) (hW7.at hH12.2.2.2.2.1)) hS4 hl.1 (As := [.ref (tr), .ref (hd)]) (rest := [])  (n := 2) rfl rfl (Nat.le_of_ble_eq_true rfl) dX9_size_9 (fun v18 H14 locs15 hp16 hS17 => ?_)
  obtain ⟨hv22, Γ19, hW20, hgf21, hsp23, hT24⟩ := hp16
  subst hv22
  have hH25 := hH12.kept hsp23
  have hsq26 := (hsq13 : ps_sp (fun w => w = 5) Γ ow Γ6 ow).tr hsp23
  refine ps_st (st' := [.int (nI (σ (41 + pn)) + sp_mS σ pn)]) rfl ?_
  refine lv_ineg hx hb dX9_size_12 ?_
  exact ps_iretG X hS17 (Nat.le_of_ble_eq_true rfl) (Nat.le_of_ble_eq_true rfl) dX9_size_13 (ps_bp.end (by first | rfl | (simp [sp_sL, sp_sS, hk]; done)) hW20 ((ps_gf.rf.tr hgf8).tr hgf21) hsq26 hT24 (by first | rfl | (simp [sp_sL, sp_sS, hk]; done)))

set_option maxHeartbeats 4000000 in
theorem m_X11_size (l : Launch) {E : ps_E} (hE : ps_ZT E) {z : Nat} (hZ : ps_Zk E z) {Γ : ps_Gh} {H : Heap} (hW : ps_W E Γ H) (hQ : ps_Zm E) {ow : ps_Ow} {x tr hd a pn : Nat} {σ : Nat → Nat} {L : List Nat} (hT : ps_Tl E Γ ow tr L) (hH : ps_Hs E z Γ ow x hd a σ pn) (hL : L.length ≤ 14) : ps_Ge l E yX11_size cX11_size 3 (some .int) 3 55 0 0 [.ref (a), .ref (tr), .ref (hd)] H (ps_bp E Γ H ow tr L [13, 10] (some (.int (sp_os σ pn)))) := by
  refine ps_Ge.of (by decide) (Nat.le_of_ble_eq_true rfl) ?_
  intro p e s m args below meth c X ls hl
  have hx := X.1
  have hb := X.2.1
  have ho := X.2.2.2.1
  have hts := X.2.2.2.2.1
  have hS : va_S (ps_A E) s.heap H [] := by rw [X.2.2.2.2.2.2.2.2.1]; exact va_S.rf
  have hl : lv_has ls 3 [(0, .ref (a)), (1, .ref (tr)), (2, .ref (hd))] := hl
  refine lv_aload_n hx hb dX11_size_0 rfl (lv_at hl 1 rfl) ?_
  refine lv_bipush (v := nI 13) hx hb dX11_size_1 rfl ?_
  refine ps_geV X hE (m_X3_begins l hE hZ hW (k := 13) hT (by (try simp only [List.length_append, List.length_cons, List.length_nil]); omega)) (lw_V q1185 q1179 q1180 q74 q1181) (by decide +kernel) ⟨⟨Nat.le_of_ble_eq_true rfl, Nat.le_of_ble_eq_true rfl⟩, Nat.le_of_ble_eq_true rfl, Nat.le_of_ble_eq_true rfl⟩ (ps_rc X (ci := 3) rfl (hW.at hT.1.1)) hS hl.1 (As := [.int (nI 13)]) (rest := []) (n := 1) rfl rfl (Nat.le_of_ble_eq_true rfl) dX11_size_3 (fun v5 H1 locs2 hp3 hS4 => ?_)
  obtain ⟨hv9, Γ6, hW7, hgf8, hsp10, hT11⟩ := hp3
  subst hv9
  have hH12 := hH.kept hsp10
  have hsq13 := (ps_sp.rf : ps_sp (fun w => w = 5) Γ ow Γ ow).tr hsp10
  refine ps_st (st' := []) rfl ?_
  refine lv_aload_n hx hb dX11_size_6 rfl (lv_at hl 0 rfl) ?_
  refine lv_aload_n hx hb dX11_size_7 rfl (lv_at hl 1 rfl) ?_
  refine lv_aload_n hx hb dX11_size_8 rfl (lv_at hl 2 rfl) ?_
  obtain ⟨cPC, hPC⟩ := ps_pclA X ((hH12.2.2.2.1.1.p hH12.2.2.2.1.2).1)
  refine ps_geSM (y := yX14_size) X hE hQ (m_X14_size l hE hZ hW7 hQ hT11 hH12 (by (try simp only [List.length_append, List.length_cons, List.length_nil]); omega)) dw_1 dw_6 rfl (by decide) q729 q1186 q1682 q1187 hPC ⟨⟨Nat.le_of_ble_eq_true rfl, Nat.le_of_ble_eq_true rfl⟩, Nat.le_of_ble_eq_true rfl, Nat.le_of_ble_eq_true rfl⟩ (ps_prc X ((hH12.2.2.2.1.1.p hH12.2.2.2.1.2).1) (hW7.at hH12.2.2.2.2.1)) hS4 hl.1 (As := [.ref (tr), .ref (hd)]) (rest := [])  rfl rfl (Nat.le_of_ble_eq_true rfl) dX11_size_9 (fun v18 H14 locs15 hp16 hS17 => ?_)
  obtain ⟨hv22, Γ19, hW20, hgf21, hsp23, hT24⟩ := hp16
  subst hv22
  have hH25 := hH12.kept hsp23
  have hsq26 := (hsq13 : ps_sp (fun w => w = 5) Γ ow Γ6 ow).tr hsp23
  refine ps_st (st' := [.int (nI (σ (41 + pn)))]) rfl ?_
  refine lv_bipush (v := nI 100) hx hb dX11_size_12 rfl ?_
  refine lv_isub hx hb dX11_size_14 ?_
  exact ps_iretG X hS17 (Nat.le_of_ble_eq_true rfl) (Nat.le_of_ble_eq_true rfl) dX11_size_15 (ps_bp.end (by first | rfl | (simp [sp_os]; done)) hW20 ((ps_gf.rf.tr hgf8).tr hgf21) hsq26 hT24 (by first | rfl | (simp [sp_os]; done)))

set_option maxHeartbeats 4000000 in
theorem m_X12_size (l : Launch) {E : ps_E} (hE : ps_ZT E) {z : Nat} (hZ : ps_Zk E z) {Γ : ps_Gh} {H : Heap} (hW : ps_W E Γ H) (hQ : ps_Zm E) {ow : ps_Ow} {x tr hd a pn : Nat} {σ : Nat → Nat} {L : List Nat} (hT : ps_Tl E Γ ow tr L) (hH : ps_Hs E z Γ ow x hd a σ pn) (hL : L.length ≤ 13) (hk : σ (9 + pn) = 5) : ps_Ge l E yX12_size cX12_size 3 (some .int) 4 77 0 0 [.ref (a), .ref (tr), .ref (hd)] H (ps_bp E Γ H ow tr L (sp_oL σ pn) (some (.int (sp_oS σ pn)))) := by
  refine ps_Ge.of (by decide) (Nat.le_of_ble_eq_true rfl) ?_
  intro p e s m args below meth c X ls hl
  have hx := X.1
  have hb := X.2.1
  have ho := X.2.2.2.1
  have hts := X.2.2.2.2.1
  have hS : va_S (ps_A E) s.heap H [] := by rw [X.2.2.2.2.2.2.2.2.1]; exact va_S.rf
  have hl : lv_has ls 3 [(0, .ref (a)), (1, .ref (tr)), (2, .ref (hd))] := hl
  refine lv_aload_n hx hb dX12_size_0 rfl (lv_at hl 1 rfl) ?_
  refine lv_bipush (v := nI 14) hx hb dX12_size_1 rfl ?_
  refine ps_geV X hE (m_X3_begins l hE hZ hW (k := 14) hT (by (try simp only [List.length_append, List.length_cons, List.length_nil]); omega)) (lw_V q1178 q1179 q1180 q74 q1181) (by decide +kernel) ⟨⟨Nat.le_of_ble_eq_true rfl, Nat.le_of_ble_eq_true rfl⟩, Nat.le_of_ble_eq_true rfl, Nat.le_of_ble_eq_true rfl⟩ (ps_rc X (ci := 3) rfl (hW.at hT.1.1)) hS hl.1 (As := [.int (nI 14)]) (rest := []) (n := 1) rfl rfl (Nat.le_of_ble_eq_true rfl) dX12_size_3 (fun v5 H1 locs2 hp3 hS4 => ?_)
  obtain ⟨hv9, Γ6, hW7, hgf8, hsp10, hT11⟩ := hp3
  subst hv9
  have hH12 := hH.kept hsp10
  have hsq13 := (ps_sp.rf : ps_sp (fun w => w = 5) Γ ow Γ ow).tr hsp10
  refine ps_st (st' := []) rfl ?_
  refine lv_iconst (v := nI 2) hx hb dX12_size_6 rfl ?_
  refine lv_aload_n hx hb dX12_size_7 rfl (lv_at hl 0 rfl) ?_
  refine lv_aload_n hx hb dX12_size_8 rfl (lv_at hl 1 rfl) ?_
  refine lv_aload_n hx hb dX12_size_9 rfl (lv_at hl 2 rfl) ?_
  obtain ⟨cPC, hPC⟩ := ps_pclA X ((hH12.2.2.2.1.1.p hH12.2.2.2.1.2).1)
  refine ps_geSU X hE (m_X11_size l hE hZ hW7 hQ hT11 hH12 (by (try simp only [List.length_append, List.length_cons, List.length_nil]); omega)) (lw_SU q1182 q1677 q741 q1183 q97 q1184) (by decide +kernel) hPC ⟨⟨Nat.le_of_ble_eq_true rfl, Nat.le_of_ble_eq_true rfl⟩, Nat.le_of_ble_eq_true rfl, Nat.le_of_ble_eq_true rfl⟩ (ps_prc X ((hH12.2.2.2.1.1.p hH12.2.2.2.1.2).1) (hW7.at hH12.2.2.2.2.1)) hS4 hl.1 (As := [.ref (tr), .ref (hd)]) (rest := [.int (nI 2)])  (n := 2) rfl rfl (Nat.le_of_ble_eq_true rfl) dX12_size_10 (fun v18 H14 locs15 hp16 hS17 => ?_)
  obtain ⟨hv22, Γ19, hW20, hgf21, hsp23, hT24⟩ := hp16
  subst hv22
  have hH25 := hH12.kept hsp23
  have hsq26 := (hsq13 : ps_sp (fun w => w = 5) Γ ow Γ6 ow).tr hsp23
  refine ps_st (st' := [.int (sp_os σ pn), .int (nI 2)]) rfl ?_
  refine lv_imul hx hb dX12_size_13 ?_
  exact ps_iretG X hS17 (Nat.le_of_ble_eq_true rfl) (Nat.le_of_ble_eq_true rfl) dX12_size_14 (ps_bp.end (by first | rfl | (simp [sp_oL, sp_oS, hk]; done)) hW20 ((ps_gf.rf.tr hgf8).tr hgf21) hsq26 hT24 (by first | rfl | (simp [sp_oL, sp_oS, hk]; done)))

section PVM
variable {p : Program} {l : Launch} {e : Env} {R : Room} {s : State} {m : MethodId} {args : Array Value} {below : List Frame} {meth : Method} {c : Code} {H : Heap} {locs : List Loc} {cells slots : Nat} {Q : State → Prop}
variable {E : ps_E} {cc : ByteArray} {nL : Nat} {ret : Option FieldType} {own nm : String} {H0 : Heap} {pc idx : Nat} {ls : Array Slot} {rest : List Value} {z : Nat} {Γ : ps_Gh}
variable {x tr hd a pn : Nat} {ow : ps_Ow} {σ : Nat → Nat} {L : List Nat}
theorem ps_vosize (X : ps_X p E s m args meth c cc nL ret own H0 nm) (hE : ps_ZT E) (hZ : ps_Zk E z) (hW : ps_W E Γ H) (hQ : ps_Zm E) (hT : ps_Tl E Γ ow tr L) (hH : ps_Hs E z Γ ow x hd a σ pn) (hL : L.length ≤ 13) (hk : 4 ≤ σ (9 + pn)) (hlink : Cond.methodLink own idx ⟨"PromiseScales$Oath", "size", ps_sD⟩ ∈ lw_all) (hR : (5 ≤ R.frames ∧ 99 ≤ R.locals) ∧ cells ≤ R.cells ∧ slots ≤ R.slots) (hS : va_S (ps_A E) s.heap H locs) (hl : ls.size = nL) (hcat : (rest.map fun v => v.category).sum ≤ 8) (hdg : decode cc pc = .ok (.invokevirtual idx, 3))
    (kk : ∀ (v : Option Value) (H1 : Heap) (locs1 : List Loc), ps_bp E Γ H ow tr L (sp_oL σ pn) (some (.int (sp_oS σ pn))) v H1 → va_S (ps_A E) s.heap H1 locs1 → W p l e R s m args below meth c H1 locs1 (cells + 0) (slots + 0) Q (F0 m (pc + 3) ls (v.toList ++ rest))) : W p l e R s m args below meth c H locs cells slots Q (F0 m pc ls (.ref hd :: .ref tr :: .ref a :: rest)) := by
  obtain ⟨⟨f1, f2⟩, f3, f4⟩ := hR
  have hP := hH.2.2.2.2.1
  have hpk := (hH.2.2.2.1.1.p hH.2.2.2.1.2).1
  have hcs : σ (9 + pn) = 4 ∨ σ (9 + pn) = 5 := by omega
  rcases hcs with hk4 | hk5
  · rw [hk4] at hP
    exact ps_geV X hE ((m_X11_size l hE hZ hW hQ hT hH (by omega)).mono (fun v H1 h => by first | exact h | simpa [sp_mL, sp_mS, sp_sL, sp_sS, sp_oL, sp_oS, hk4] using h)) (lw_V hlink q1183 q1680 q97 q1184) (by decide +kernel) ⟨⟨by show 3 + 1 ≤ R.frames; omega, by show 8 + (3 + 11) + 55 ≤ R.locals; omega⟩, f3, f4⟩ (ps_rc X (ci := 10) rfl (hW.at hP)) hS hl (As := [.ref tr, .ref hd]) (rest := rest) (n := 2) rfl rfl hcat hdg kk
  · rw [hk5] at hP
    exact ps_geO (owner := "PromiseScales$Oath") (x := ⟨"PromiseScales$Oath", "size", ps_sD⟩) X hE ((m_X12_size l hE hZ hW hQ hT hH (by omega) hk5).mono (fun v H1 h => by first | exact h | simpa [sp_mL, sp_mS, sp_sL, sp_sS, sp_oL, sp_oS, hk5] using h)) (lw_O hlink q1677 q1183 q1679 q1176 q98 q1177) q1184 (by decide +kernel) ⟨⟨by show 4 + 1 ≤ R.frames; omega, by show 8 + (3 + 11) + 77 ≤ R.locals; omega⟩, f3, f4⟩ (ps_rc X (ci := 11) rfl (hW.at hP)) hS hl (As := [.ref tr, .ref hd]) (rest := rest) (n := 2) rfl rfl hcat hdg kk
end PVM
set_option maxHeartbeats 4000000 in
theorem m_X11_mark (l : Launch) {E : ps_E} (hE : ps_ZT E) {z : Nat} (hZ : ps_Zk E z) {Γ : ps_Gh} {H : Heap} (hW : ps_W E Γ H) (hQ : ps_Zm E) {ow : ps_Ow} {x tr hd a pn : Nat} {σ : Nat → Nat} {L : List Nat} (hT : ps_Tl E Γ ow tr L) (hH : ps_Hs E z Γ ow x hd a σ pn) (hL : L.length ≤ 11) (hk : 4 ≤ σ (9 + pn)) : ps_Ge l E yX11_mark cX11_mark 3 (some .int) 5 99 0 0 [.ref (a), .ref (tr), .ref (hd)] H (ps_bp E Γ H ow tr L (sp_mL σ pn) (some (.int (sp_mS σ pn)))) := by
  refine ps_Ge.of (by decide) (Nat.le_of_ble_eq_true rfl) ?_
  intro p e s m args below meth c X ls hl
  have hx := X.1
  have hb := X.2.1
  have ho := X.2.2.2.1
  have hts := X.2.2.2.2.1
  have hS : va_S (ps_A E) s.heap H [] := by rw [X.2.2.2.2.2.2.2.2.1]; exact va_S.rf
  have hl : lv_has ls 3 [(0, .ref (a)), (1, .ref (tr)), (2, .ref (hd))] := hl
  refine lv_aload_n hx hb dX11_mark_0 rfl (lv_at hl 1 rfl) ?_
  refine lv_bipush (v := nI 23) hx hb dX11_mark_1 rfl ?_
  refine ps_geV X hE (m_X3_begins l hE hZ hW (k := 23) hT (by (try simp only [List.length_append, List.length_cons, List.length_nil]); omega)) (lw_V q1185 q1179 q1180 q74 q1181) (by decide +kernel) ⟨⟨Nat.le_of_ble_eq_true rfl, Nat.le_of_ble_eq_true rfl⟩, Nat.le_of_ble_eq_true rfl, Nat.le_of_ble_eq_true rfl⟩ (ps_rc X (ci := 3) rfl (hW.at hT.1.1)) hS hl.1 (As := [.int (nI 23)]) (rest := []) (n := 1) rfl rfl (Nat.le_of_ble_eq_true rfl) dX11_mark_3 (fun v5 H1 locs2 hp3 hS4 => ?_)
  obtain ⟨hv9, Γ6, hW7, hgf8, hsp10, hT11⟩ := hp3
  subst hv9
  have hH12 := hH.kept hsp10
  have hsq13 := (ps_sp.rf : ps_sp (fun w => w = 5) Γ ow Γ ow).tr hsp10
  refine ps_st (st' := []) rfl ?_
  refine lv_aload_n hx hb dX11_mark_6 rfl (lv_at hl 0 rfl) ?_
  refine lv_aload_n hx hb dX11_mark_7 rfl (lv_at hl 1 rfl) ?_
  refine lv_aload_n hx hb dX11_mark_8 rfl (lv_at hl 2 rfl) ?_
  obtain ⟨cPC, hPC⟩ := ps_pclA X ((hH12.2.2.2.1.1.p hH12.2.2.2.1.2).1)
  refine ps_geSM (y := yX14_mark) X hE hQ (m_X14_mark l hE hZ hW7 hQ hT11 hH12 (by (try simp only [List.length_append, List.length_cons, List.length_nil]); omega)) dw_5 dw_7 rfl (by decide) q729 q1227 q1682 q1228 hPC ⟨⟨Nat.le_of_ble_eq_true rfl, Nat.le_of_ble_eq_true rfl⟩, Nat.le_of_ble_eq_true rfl, Nat.le_of_ble_eq_true rfl⟩ (ps_prc X ((hH12.2.2.2.1.1.p hH12.2.2.2.1.2).1) (hW7.at hH12.2.2.2.2.1)) hS4 hl.1 (As := [.ref (tr), .ref (hd)]) (rest := [])  rfl rfl (Nat.le_of_ble_eq_true rfl) dX11_mark_9 (fun v18 H14 locs15 hp16 hS17 => ?_)
  obtain ⟨hv22, Γ19, hW20, hgf21, hsp23, hT24⟩ := hp16
  subst hv22
  have hH25 := hH12.kept hsp23
  have hsq26 := (hsq13 : ps_sp (fun w => w = 5) Γ ow Γ6 ow).tr hsp23
  refine ps_st (st' := [.int (nI pn)]) rfl ?_
  refine lv_aload_n hx hb dX11_mark_12 rfl (lv_at hl 0 rfl) ?_
  refine lv_aload_n hx hb dX11_mark_13 rfl (lv_at hl 1 rfl) ?_
  refine lv_aload_n hx hb dX11_mark_14 rfl (lv_at hl 2 rfl) ?_
  refine ps_vosize X hE hZ hW20 hQ hT24 hH25 (by (try simp only [List.length_append, List.length_cons, List.length_nil]); omega) hk q1266 ⟨⟨Nat.le_of_ble_eq_true rfl, Nat.le_of_ble_eq_true rfl⟩, Nat.le_of_ble_eq_true rfl, Nat.le_of_ble_eq_true rfl⟩ hS17 hl.1 (rest := [.int (nI pn)]) (Nat.le_of_ble_eq_true rfl) dX11_mark_15 (fun v31 H27 locs28 hp29 hS30 => ?_)
  obtain ⟨hv35, Γ32, hW33, hgf34, hsp36, hT37⟩ := hp29
  subst hv35
  have hH38 := hH25.kept hsp36
  have hsq39 := (hsq26 : ps_sp (fun w => w = 5) Γ ow Γ19 ow).tr hsp36
  refine ps_st (st' := [.int (sp_oS σ pn), .int (nI pn)]) rfl ?_
  refine lv_isub hx hb dX11_mark_18 ?_
  exact ps_iretG X hS30 (Nat.le_of_ble_eq_true rfl) (Nat.le_of_ble_eq_true rfl) dX11_mark_19 (ps_bp.end (by first | rfl | (simp [sp_mL, sp_mS, show ¬ σ (9 + pn) = 1 by omega, show ¬ σ (9 + pn) = 2 by omega, show ¬ σ (9 + pn) = 3 by omega]; done)) hW33 (((ps_gf.rf.tr hgf8).tr hgf21).tr hgf34) hsq39 hT37 (by first | rfl | (simp [sp_mL, sp_mS, show ¬ σ (9 + pn) = 1 by omega, show ¬ σ (9 + pn) = 2 by omega, show ¬ σ (9 + pn) = 3 by omega]; done)))

section PVM
variable {p : Program} {l : Launch} {e : Env} {R : Room} {s : State} {m : MethodId} {args : Array Value} {below : List Frame} {meth : Method} {c : Code} {H : Heap} {locs : List Loc} {cells slots : Nat} {Q : State → Prop}
variable {E : ps_E} {cc : ByteArray} {nL : Nat} {ret : Option FieldType} {own nm : String} {H0 : Heap} {pc idx : Nat} {ls : Array Slot} {rest : List Value} {z : Nat} {Γ : ps_Gh}
variable {x tr hd a pn : Nat} {ow : ps_Ow} {σ : Nat → Nat} {L : List Nat}
theorem ps_dsize (X : ps_X p E s m args meth c cc nL ret own H0 nm) (hE : ps_ZT E) (hZ : ps_Zk E z) (hW : ps_W E Γ H) (hQ : ps_Zm E) (hT : ps_Tl E Γ ow tr L) (hH : ps_Hs E z Γ ow x hd a σ pn) (hL : L.length ≤ 10) (hlink : Cond.methodLink own idx ⟨"PromiseScales$Promise", "size", ps_sD⟩ ∈ defaultWords_1) (hR : (26 ≤ R.frames ∧ 749 ≤ R.locals) ∧ cells ≤ R.cells ∧ slots ≤ R.slots) (hS : va_S (ps_A E) s.heap H locs) (hl : ls.size = nL) (hcat : (rest.map fun v => v.category).sum ≤ 8) (hdg : decode cc pc = .ok (.invokevirtual idx, 3))
    (kk : ∀ (v : Option Value) (H1 : Heap) (locs1 : List Loc), ps_bp E Γ H ow tr L (sp_sL σ pn) (some (.int (sp_sS σ pn))) v H1 → va_S (ps_A E) s.heap H1 locs1 → W p l e R s m args below meth c H1 locs1 (cells + 0) (slots + 0) Q (F0 m (pc + 3) ls (v.toList ++ rest))) : W p l e R s m args below meth c H locs cells slots Q (F0 m pc ls (.ref hd :: .ref tr :: .ref a :: rest)) := by
  obtain ⟨⟨f1, f2⟩, f3, f4⟩ := hR
  have hP := hH.2.2.2.2.1
  have hpk := (hH.2.2.2.1.1.p hH.2.2.2.1.2).1
  have hcs : σ (9 + pn) = 1 ∨ σ (9 + pn) = 2 ∨ σ (9 + pn) = 3 ∨ σ (9 + pn) = 4 ∨ σ (9 + pn) = 5 := by omega
  rcases hcs with hk1 | hk2 | hk3 | hk4 | hk5
  · rw [hk1] at hP
    exact ps_geM (x := ⟨"PromiseScales$Promise", "size", ps_sD⟩) (mkN := ps_Mk) (C := "PromiseScales$Plain") X hE hQ ((m_X8_size l hE hZ hW hQ hT hH (by omega) (by omega)).mono (fun v H1 h => by first | exact h | simpa [sp_mL, sp_mS, sp_sL, sp_sS, sp_oL, sp_oS, hk1] using h)) hlink dw_6 q1261 q1186 q1187 q1214 q94 q1215 (n := 2) (by decide +kernel) ⟨⟨by show 24 + 1 ≤ R.frames; omega, by show 8 + (3 + 11) + 705 ≤ R.locals; omega⟩, f3, f4⟩ (ps_rc X (ci := 7) rfl (hW.at hP)) hS hl (As := [.ref tr, .ref hd]) (rest := rest) rfl rfl hcat hdg kk
  · rw [hk2] at hP
    exact ps_geM (x := ⟨"PromiseScales$Promise", "size", ps_sD⟩) (mkN := ps_Mk) (C := "PromiseScales$If") X hE hQ ((m_X9_size l hE hZ hW hQ hT hH (by omega) hk2).mono (fun v H1 h => by first | exact h | simpa [sp_mL, sp_mS, sp_sL, sp_sS, sp_oL, sp_oS, hk2] using h)) hlink dw_6 q1209 q1186 q1187 q1210 q95 q1211 (n := 2) (by decide +kernel) ⟨⟨by show 25 + 1 ≤ R.frames; omega, by show 8 + (3 + 11) + 727 ≤ R.locals; omega⟩, f3, f4⟩ (ps_rc X (ci := 8) rfl (hW.at hP)) hS hl (As := [.ref tr, .ref hd]) (rest := rest) rfl rfl hcat hdg kk
  · rw [hk3] at hP
    exact ps_geM (x := ⟨"PromiseScales$Promise", "size", ps_sD⟩) (mkN := ps_Mk) (C := "PromiseScales$Twice") X hE hQ ((m_X8_size l hE hZ hW hQ hT hH (by omega) (by omega)).mono (fun v H1 h => by first | exact h | simpa [sp_mL, sp_mS, sp_sL, sp_sS, sp_oL, sp_oS, hk3] using h)) hlink dw_6 q1262 q1186 q1187 q1214 q94 q1215 (n := 2) (by decide +kernel) ⟨⟨by show 24 + 1 ≤ R.frames; omega, by show 8 + (3 + 11) + 705 ≤ R.locals; omega⟩, f3, f4⟩ (ps_rc X (ci := 9) rfl (hW.at hP)) hS hl (As := [.ref tr, .ref hd]) (rest := rest) rfl rfl hcat hdg kk
  · rw [hk4] at hP
    exact ps_geM (x := ⟨"PromiseScales$Promise", "size", ps_sD⟩) (mkN := ps_Mk) (C := "PromiseScales$Oath") X hE hQ ((m_X11_size l hE hZ hW hQ hT hH (by omega)).mono (fun v H1 h => by first | exact h | simpa [sp_mL, sp_mS, sp_sL, sp_sS, sp_oL, sp_oS, hk4] using h)) hlink dw_6 q1260 q1186 q1187 q1183 q97 q1184 (n := 2) (by decide +kernel) ⟨⟨by show 3 + 1 ≤ R.frames; omega, by show 8 + (3 + 11) + 55 ≤ R.locals; omega⟩, f3, f4⟩ (ps_rc X (ci := 10) rfl (hW.at hP)) hS hl (As := [.ref tr, .ref hd]) (rest := rest) rfl rfl hcat hdg kk
  · rw [hk5] at hP
    exact ps_geM (x := ⟨"PromiseScales$Promise", "size", ps_sD⟩) (mkN := ps_Mk) (C := "PromiseScales$About") X hE hQ ((m_X12_size l hE hZ hW hQ hT hH (by omega) hk5).mono (fun v H1 h => by first | exact h | simpa [sp_mL, sp_mS, sp_sL, sp_sS, sp_oL, sp_oS, hk5] using h)) hlink dw_6 q1175 q1186 q1187 q1176 q98 q1177 (n := 2) (by decide +kernel) ⟨⟨by show 4 + 1 ≤ R.frames; omega, by show 8 + (3 + 11) + 77 ≤ R.locals; omega⟩, f3, f4⟩ (ps_rc X (ci := 11) rfl (hW.at hP)) hS hl (As := [.ref tr, .ref hd]) (rest := rest) rfl rfl hcat hdg kk
end PVM
section PVM
variable {p : Program} {l : Launch} {e : Env} {R : Room} {s : State} {m : MethodId} {args : Array Value} {below : List Frame} {meth : Method} {c : Code} {H : Heap} {locs : List Loc} {cells slots : Nat} {Q : State → Prop}
variable {E : ps_E} {cc : ByteArray} {nL : Nat} {ret : Option FieldType} {own nm : String} {H0 : Heap} {pc idx : Nat} {ls : Array Slot} {rest : List Value} {z : Nat} {Γ : ps_Gh}
variable {x tr hd a pn : Nat} {ow : ps_Ow} {σ : Nat → Nat} {L : List Nat}
theorem ps_dmark (X : ps_X p E s m args meth c cc nL ret own H0 nm) (hE : ps_ZT E) (hZ : ps_Zk E z) (hW : ps_W E Γ H) (hQ : ps_Zm E) (hT : ps_Tl E Γ ow tr L) (hH : ps_Hs E z Γ ow x hd a σ pn) (hL : L.length ≤ 10) (hlink : Cond.methodLink own idx ⟨"PromiseScales$Promise", "mark", ps_sD⟩ ∈ defaultWords_1) (hR : (24 ≤ R.frames ∧ 705 ≤ R.locals) ∧ cells ≤ R.cells ∧ slots ≤ R.slots) (hS : va_S (ps_A E) s.heap H locs) (hl : ls.size = nL) (hcat : (rest.map fun v => v.category).sum ≤ 8) (hdg : decode cc pc = .ok (.invokevirtual idx, 3))
    (kk : ∀ (v : Option Value) (H1 : Heap) (locs1 : List Loc), ps_bp E Γ H ow tr L (sp_mL σ pn) (some (.int (sp_mS σ pn))) v H1 → va_S (ps_A E) s.heap H1 locs1 → W p l e R s m args below meth c H1 locs1 (cells + 0) (slots + 0) Q (F0 m (pc + 3) ls (v.toList ++ rest))) : W p l e R s m args below meth c H locs cells slots Q (F0 m pc ls (.ref hd :: .ref tr :: .ref a :: rest)) := by
  obtain ⟨⟨f1, f2⟩, f3, f4⟩ := hR
  have hP := hH.2.2.2.2.1
  have hpk := (hH.2.2.2.1.1.p hH.2.2.2.1.2).1
  have hcs : σ (9 + pn) = 1 ∨ σ (9 + pn) = 2 ∨ σ (9 + pn) = 3 ∨ σ (9 + pn) = 4 ∨ σ (9 + pn) = 5 := by omega
  rcases hcs with hk1 | hk2 | hk3 | hk4 | hk5
  · rw [hk1] at hP
    exact ps_geM (x := ⟨"PromiseScales$Promise", "mark", ps_sD⟩) (mkN := ps_Mk) (C := "PromiseScales$Plain") X hE hQ ((m_X8_mark l hE hZ hW hQ hT hH (by omega)).mono (fun v H1 h => by first | exact h | simpa [sp_mL, sp_mS, sp_sL, sp_sS, sp_oL, sp_oS, hk1] using h)) hlink dw_7 q1269 q1227 q1228 q1218 q94 q1225 (n := 2) (by decide +kernel) ⟨⟨by show 22 + 1 ≤ R.frames; omega, by show 8 + (3 + 11) + 661 ≤ R.locals; omega⟩, f3, f4⟩ (ps_rc X (ci := 7) rfl (hW.at hP)) hS hl (As := [.ref tr, .ref hd]) (rest := rest) rfl rfl hcat hdg kk
  · rw [hk2] at hP
    exact ps_geM (x := ⟨"PromiseScales$Promise", "mark", ps_sD⟩) (mkN := ps_Mk) (C := "PromiseScales$If") X hE hQ ((m_X9_mark l hE hZ hW hQ hT hH (by omega) hk2).mono (fun v H1 h => by first | exact h | simpa [sp_mL, sp_mS, sp_sL, sp_sS, sp_oL, sp_oS, hk2] using h)) hlink dw_7 q1267 q1227 q1228 q1222 q95 q1223 (n := 2) (by decide +kernel) ⟨⟨by show 23 + 1 ≤ R.frames; omega, by show 8 + (3 + 11) + 683 ≤ R.locals; omega⟩, f3, f4⟩ (ps_rc X (ci := 8) rfl (hW.at hP)) hS hl (As := [.ref tr, .ref hd]) (rest := rest) rfl rfl hcat hdg kk
  · rw [hk3] at hP
    exact ps_geM (x := ⟨"PromiseScales$Promise", "mark", ps_sD⟩) (mkN := ps_Mk) (C := "PromiseScales$Twice") X hE hQ ((m_X10_mark l hE hZ hW hQ hT hH (by omega) hk3).mono (fun v H1 h => by first | exact h | simpa [sp_mL, sp_mS, sp_sL, sp_sS, sp_oL, sp_oS, hk3] using h)) hlink dw_7 q1270 q1227 q1228 q1256 q96 q1257 (n := 2) (by decide +kernel) ⟨⟨by show 23 + 1 ≤ R.frames; omega, by show 8 + (3 + 11) + 683 ≤ R.locals; omega⟩, f3, f4⟩ (ps_rc X (ci := 9) rfl (hW.at hP)) hS hl (As := [.ref tr, .ref hd]) (rest := rest) rfl rfl hcat hdg kk
  · rw [hk4] at hP
    exact ps_geM (x := ⟨"PromiseScales$Promise", "mark", ps_sD⟩) (mkN := ps_Mk) (C := "PromiseScales$Oath") X hE hQ ((m_X11_mark l hE hZ hW hQ hT hH (by omega) (by omega)).mono (fun v H1 h => by first | exact h | simpa [sp_mL, sp_mS, sp_sL, sp_sS, sp_oL, sp_oS, hk4] using h)) hlink dw_7 q1268 q1227 q1228 q1264 q97 q1265 (n := 2) (by decide +kernel) ⟨⟨by show 5 + 1 ≤ R.frames; omega, by show 8 + (3 + 11) + 99 ≤ R.locals; omega⟩, f3, f4⟩ (ps_rc X (ci := 10) rfl (hW.at hP)) hS hl (As := [.ref tr, .ref hd]) (rest := rest) rfl rfl hcat hdg kk
  · rw [hk5] at hP
    exact ps_geM (x := ⟨"PromiseScales$Promise", "mark", ps_sD⟩) (mkN := ps_Mk) (C := "PromiseScales$About") X hE hQ ((m_X11_mark l hE hZ hW hQ hT hH (by omega) (by omega)).mono (fun v H1 h => by first | exact h | simpa [sp_mL, sp_mS, sp_sL, sp_sS, sp_oL, sp_oS, hk5] using h)) hlink dw_7 q1263 q1227 q1228 q1264 q97 q1265 (n := 2) (by decide +kernel) ⟨⟨by show 5 + 1 ≤ R.frames; omega, by show 8 + (3 + 11) + 99 ≤ R.locals; omega⟩, f3, f4⟩ (ps_rc X (ci := 11) rfl (hW.at hP)) hS hl (As := [.ref tr, .ref hd]) (rest := rest) rfl rfl hcat hdg kk
end PVM