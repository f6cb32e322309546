/-! ps_: System.arraycopy, where it throws: null, other types, out of bounds -/
set_option maxRecDepth 100000
theorem ps_intp {x : Int} (h : -10000000000 < x ∧ x < 10000000000) : (toString x).toList.length ≤ 11 := by
  show (Int.repr x).toList.length ≤ 11
  cases x with
  | ofNat m =>
    have := nat_print (n := m) (by have h2 : (m : Int) < 10000000000 := h.2; omega)
    show (toString m).toList.length ≤ 11
    omega
  | negSucc m =>
    have h1 := h.1
    have := nat_print (n := m.succ) (by omega)
    show ("-" ++ toString m.succ).toList.length ≤ 11
    rw [String.toList_append, List.length_append]
    have h0 : "-".toList.length = 1 := by decide
    omega
theorem ps_kn (t : FieldType) : (Native.java_lang_System.arraycopy.kindName t).toList.length ≤ 12 := by
  cases t <;> first | decide | (show "object array".toList.length ≤ 12; decide)
theorem ps_sq {t : FieldType} {n : Nat} (hn : n ≤ 1000) : (toString (Native.java_lang_System.arraycopy.kindName t) ++ toString "[" ++ toString n ++ toString "]").toList.length ≤ 24 := by
  show (toString (Native.java_lang_System.arraycopy.kindName t) ++ toString "[" ++ toString n ++ toString "]").toList.length ≤ 24
  simp only [String.toList_append, List.length_append]
  have a1 : (toString "[").toList.length = 1 := by decide
  have a2 : (toString "]").toList.length = 1 := by decide
  have b1 : (toString (Native.java_lang_System.arraycopy.kindName t)).toList.length ≤ 12 := ps_kn t
  have b2 := nat_print (n := n) (by omega)
  omega
theorem ps_cfl {t1 t2 : FieldType} {n1 n2 : Nat} {i1 i2 i3 : Int32} {what : String} (h1 : n1 ≤ 1000) (h2 : n2 ≤ 1000) (h : copyFault t1 t2 n1 n2 i1 i2 i3 = some what) : what.toList.length ≤ 85 := by
  have q1 := ps_sq (t := t1) h1
  have q2 := ps_sq (t := t2) h2
  have p1 := int32_print i1
  have p2 := int32_print i2
  have p3 := int32_print i3
  have b1 := Int32.toInt_lt i1
  have b2 := Int32.le_toInt i1
  have b3 := Int32.toInt_lt i2
  have b4 := Int32.le_toInt i2
  have b5 := Int32.toInt_lt i3
  have b6 := Int32.le_toInt i3
  have r1 := ps_intp (x := i1.toInt + i3.toInt) (by omega)
  have r2 := ps_intp (x := i2.toInt + i3.toInt) (by omega)
  unfold copyFault at h
  have k1 : (toString "source index ").toList.length = 13 := by decide
  have k2 : (toString " out of bounds for ").toList.length = 19 := by decide
  have k3 : (toString "destination index ").toList.length = 18 := by decide
  have k4 : (toString "length ").toList.length = 7 := by decide
  have k5 : (toString " is negative").toList.length = 12 := by decide
  have k6 : (toString "last source index ").toList.length = 18 := by decide
  have k7 : (toString "last destination index ").toList.length = 23 := by decide
  split at h
  · cases h
    show (toString "source index " ++ toString i1 ++ toString " out of bounds for " ++ toString (toString (Native.java_lang_System.arraycopy.kindName t1) ++ toString "[" ++ toString n1 ++ toString "]")).toList.length ≤ 85
    simp only [String.toList_append, List.length_append]
    have e : (toString (toString (Native.java_lang_System.arraycopy.kindName t1) ++ toString "[" ++ toString n1 ++ toString "]")).toList.length ≤ 24 := q1
    omega
  · split at h
    · cases h
      show (toString "destination index " ++ toString i2 ++ toString " out of bounds for " ++ toString (toString (Native.java_lang_System.arraycopy.kindName t2) ++ toString "[" ++ toString n2 ++ toString "]")).toList.length ≤ 85
      simp only [String.toList_append, List.length_append]
      have e : (toString (toString (Native.java_lang_System.arraycopy.kindName t2) ++ toString "[" ++ toString n2 ++ toString "]")).toList.length ≤ 24 := q2
      omega
    · split at h
      · cases h
        show (toString "length " ++ toString i3 ++ toString " is negative").toList.length ≤ 85
        simp only [String.toList_append, List.length_append]
        omega
      · split at h
        · cases h
          show (toString "last source index " ++ toString (i1.toInt + i3.toInt) ++ toString " out of bounds for " ++ toString (toString (Native.java_lang_System.arraycopy.kindName t1) ++ toString "[" ++ toString n1 ++ toString "]")).toList.length ≤ 85
          simp only [String.toList_append, List.length_append]
          have e : (toString (toString (Native.java_lang_System.arraycopy.kindName t1) ++ toString "[" ++ toString n1 ++ toString "]")).toList.length ≤ 24 := q1
          omega
        · split at h
          · cases h
            show (toString "last destination index " ++ toString (i2.toInt + i3.toInt) ++ toString " out of bounds for " ++ toString (toString (Native.java_lang_System.arraycopy.kindName t2) ++ toString "[" ++ toString n2 ++ toString "]")).toList.length ≤ 85
            simp only [String.toList_append, List.length_append]
            have e : (toString (toString (Native.java_lang_System.arraycopy.kindName t2) ++ toString "[" ++ toString n2 ++ toString "]")).toList.length ≤ 24 := q2
            omega
          · cases h
theorem ps_cfs {t1 t2 : FieldType} {n1 n2 : Nat} {i1 i2 i3 : Int32} (h : ¬ (¬ i1 < 0 ∧ ¬ i2 < 0 ∧ ¬ i3 < 0 ∧ i1.toInt + i3.toInt ≤ n1 ∧ i2.toInt + i3.toInt ≤ n2)) : ∃ what, copyFault t1 t2 n1 n2 i1 i2 i3 = some what := by
  unfold copyFault
  by_cases a : i1 < 0
  · exact ⟨_, if_pos a⟩
  · rw [if_neg a]
    by_cases b : i2 < 0
    · exact ⟨_, if_pos b⟩
    · rw [if_neg b]
      by_cases d : i3 < 0
      · exact ⟨_, if_pos d⟩
      · rw [if_neg d]
        by_cases f : i1.toInt + i3.toInt > n1
        · exact ⟨_, if_pos f⟩
        · rw [if_neg f]
          by_cases g : i2.toInt + i3.toInt > n2
          · exact ⟨_, if_pos g⟩
          · exact absurd ⟨a, b, d, by omega, by omega⟩ h
theorem ps_txB {t : String} (h : t.toList.length ≤ 100) : (stringBytes (stringToUtf16 t)).size ≤ 400 := by
  have b1 := stringBytes_size_le (stringToUtf16 t)
  have b2 := utf16_size_le t
  omega
theorem ps_txA (w : String) : ("arraycopy: " ++ w == notModelled) = false := by
  rw [beq_eq_false_iff_ne]
  intro h
  have h2 := congrArg String.toList h
  rw [String.toList_append] at h2
  have h4 : notModelled.toList = '\u0000' :: " a message that is not modelled".toList := by decide
  have h5 : "arraycopy: ".toList = 'a' :: "rraycopy: ".toList := by decide
  rw [h4, h5] at h2
  simp at h2
section PSAN
variable {p : Program} {l : Launch} {e : Env} {R : Room} {s : State} {m : MethodId} {args : Array Value} {below : List Frame} {meth : Method} {c : Code} {H : Heap} {locs : List Loc} {cells slots : Nat} {Q : State → Prop}
variable {E : ps_E} {cc : ByteArray} {nL : Nat} {ret : Option FieldType} {own nm : String} {H0 : Heap} {pc idx a0 a n0 n t t0 : Nat} {ls : Array Slot} {rest : List Value} {z : Nat} {u w : Nat → Int32}
theorem ps_ntN (X : ps_X p E s m args meth c cc nL ret own H0 nm) (hZ : ps_Zk E z) (hX : ps_Zx E) (hLT : l.stackTraces = false) (hS : va_S (ps_A E) s.heap H locs) (hR : 10 ≤ R.frames ∧ 10260 ≤ R.locals) : ps_ntL p l e R s args below H ps_nN none 1 8 := by
  intro s' W m9 meth9 c9 g nf hvm hhp Z hsz hnf hW9
  have hw := ps_okAll X hZ ps_aN
  obtain ⟨-, hU, hN⟩ := hX s X.2.2.2.2.2.2.2.1.2
  have hW0 : s.WarmedH s'.vm := by rw [hvm]; exact State.WarmedH.refl s
  have htr : e.platform.stackTraces = false := (show e.platform.stackTraces = l.stackTraces by rw [Z.admits.platform]).trans hLT
  have hU' : vx_Zq Bundle.tN "UNASSIGNED_STACK" Bundle.steD (ps_A E) s' s'.heap := by rw [hhp]; exact vx_Zq.moved hW0.alike (hU.kept hS.2.1)
  have hN' : vx_Zq Bundle.tN "SUPPRESSED_SENTINEL" Bundle.listD (ps_A E) s' s'.heap := by rw [hhp]; exact vx_Zq.moved hW0.alike (hN.kept hS.2.1)
  have hat' : ∀ w ∈ vx_atN 8, w.before args s' = true := fun w h9 => vx_ot_at hW0 hvm.symm (ps_allot ps_oN w h9) (hw w h9)
  obtain ⟨S, q, ce, Z1, h1, h2, h3, st⟩ := ps_npeNat Z X.1 htr (n := 8) (vx_own hat' (vx_isRefq hU'.1) (vx_isRefq hN'.1) hU'.2.word hN'.2.word) (fun x hx => nomatch hx) hsz hnf (by show 8 < R.frames; omega) (by show _ + 10240 ≤ R.locals; omega) (by show 0 + 1 ≤ 1; omega) (by show 0 + 8 ≤ 8; omega)
  rw [Nat.zero_add, Nat.zero_add] at Z1
  exact ⟨S, q, ce, Z1, h1, h2, h3, st⟩
theorem ps_ntM {cls text : String} {names : List String} (X : ps_X p E s m args meth c cc nL ret own H0 nm) (hZ : ps_Zk E z) (hX : ps_Zx E) (hLT : l.stackTraces = false) (hok : (vx_atM cls names).all ps_okw = true) (hot : (vx_atM cls names).all vx_ot = true) (hcls : Bundle.fit cls = true) (hnames : ∀ n ∈ names, Bundle.fit n = true) (hso : (cls == "java/lang/StackOverflowError") = false ∧ (cls == "java/lang/OutOfMemoryError") = false) (htx : (text == notModelled) = false) (hnb : (stringBytes (stringToUtf16 text)).size ≤ 400) (hlen : names.length ≤ 3) (hS : va_S (ps_A E) s.heap H locs) (hR : 10 ≤ R.frames ∧ 10260 ≤ R.locals) : ps_ntL p l e R s args below H cls (some text) 3 410 := by
  intro s' W m9 meth9 c9 g nf hvm hhp Z hsz hnf hW9
  have hw := ps_okAll X hZ hok
  obtain ⟨-, hU, hN⟩ := hX s X.2.2.2.2.2.2.2.1.2
  have hW0 : s.WarmedH s'.vm := by rw [hvm]; exact State.WarmedH.refl s
  have htr : e.platform.stackTraces = false := (show e.platform.stackTraces = l.stackTraces by rw [Z.admits.platform]).trans hLT
  have hU' : vx_Zq Bundle.tN "UNASSIGNED_STACK" Bundle.steD (ps_A E) s' s'.heap := by rw [hhp]; exact vx_Zq.moved hW0.alike (hU.kept hS.2.1)
  have hN' : vx_Zq Bundle.tN "SUPPRESSED_SENTINEL" Bundle.listD (ps_A E) s' s'.heap := by rw [hhp]; exact vx_Zq.moved hW0.alike (hN.kept hS.2.1)
  have hat' : ∀ w ∈ vx_atM cls names, w.before args s' = true := fun w h9 => vx_ot_at hW0 hvm.symm (ps_allot hot w h9) (hw w h9)
  obtain ⟨S, q, ce, Z1, h1, h2, h3, st⟩ := ps_vmNat Z X.1 htr (cls := cls) (names := names) (text := text) hcls hnames hso.1 hso.2 (vx_own hat' (vx_isRefq hU'.1) (vx_isRefq hN'.1) hU'.2.word hN'.2.word) (fun x hx => nomatch hx) htx
    (by rw [Launch.admits_arrayLengthLimit Z.admits]; omega) (by rw [Launch.admits_maxHeapBytes Z.admits]; simp only [componentBytes]; omega) hsz hnf (by show _ + 5 < R.frames; omega) (by show _ + 10240 ≤ R.locals; omega) (by omega) (by show 0 + 3 ≤ 3; omega) (by show 0 + _ ≤ 410; omega)
  rw [Nat.zero_add, Nat.zero_add] at Z1
  exact ⟨S, q, ce, { Z1 with same := Z1.same.mono (Nat.le_refl _) (by omega) }, h1, h2, h3, st⟩
theorem ps_acN {v1 v2 : Value} {i1 i2 i3 : Int32} (X : ps_X p E s m args meth c cc nL ret own H0 nm) (hZ : ps_Zk E z) (hX : ps_Zx E) (hLT : l.stackTraces = false) (hlink : Cond.methodLink own idx arraycopyName ∈ lw_all) (hnat : Cond.native arraycopyName ∈ lw_all) (hstat : Cond.static arraycopyName ∈ lw_all) (hini : Cond.initialized "java/lang/System" ∈ lw_all)
    (hv : (v1 = .null ∧ v2.isRef = true) ∨ ((∃ b, v1 = .ref b) ∧ v2 = .null)) (hS : va_S (ps_A E) s.heap H locs) (hl : ls.size = nL) (hR : (10 ≤ R.frames ∧ 10260 ≤ R.locals) ∧ cells + 1 ≤ R.cells ∧ slots + 8 ≤ R.slots) (hcat : (rest.map fun v => v.category).sum ≤ 8) (hdg : decode cc pc = .ok (.invokestatic idx, 3))
    (k : ps_kM p l e R s m args below meth c H locs (cells + 1) (slots + 8) Q E pc ls rest ps_nN) : W p l e R s m args below meth c H locs cells slots Q (F0 m pc ls (.int i3 :: .int i2 :: v2 :: .int i1 :: v1 :: rest)) := by
  refine ps_acGo X hlink hnat hstat hini ?_ (fun U fs E9 _ _ hE => ?_) (ps_ntN X hZ hX hLT hS hR.1) hS hl hR hcat hdg k
  · rcases hv with ⟨rfl, h⟩ | ⟨⟨b, rfl⟩, rfl⟩
    · exact ⟨rfl, h⟩
    · exact ⟨rfl, rfl⟩
  · rcases hv with ⟨rfl, h⟩ | ⟨⟨b, rfl⟩, rfl⟩
    · exact W.arraycopy_null1 i1 i2 i3 v2 (hE _)
    · exact W.arraycopy_null2 b i1 i2 i3 (hE _)
theorem ps_acS {i1 i2 i3 : Int32} {ty0 ty : FieldType} (X : ps_X p E s m args meth c cc nL ret own H0 nm) (hZ : ps_Zk E z) (hX : ps_Zx E) (hLT : l.stackTraces = false) (hlink : Cond.methodLink own idx arraycopyName ∈ lw_all) (hnat : Cond.native arraycopyName ∈ lw_all) (hstat : Cond.static arraycopyName ∈ lw_all) (hini : Cond.initialized "java/lang/System" ∈ lw_all)
    (hty0 : (ps_TY E.2.1)[t0]? = some (E.2.1 t0, ty0)) (hty : (ps_TY E.2.1)[t]? = some (E.2.1 t, ty)) (hne : ((refKind ty0 != refKind ty) || (!refKind ty0 && ty0 != ty)) = true) (hc0 : va_at E.1 ps_CL (a0, .inl (E.2.1 t0, n0, .inl u)) H) (hc1 : va_at E.1 ps_CL (a, .inl (E.2.1 t, n, .inl w)) H)
    (hS : va_S (ps_A E) s.heap H locs) (hl : ls.size = nL) (hR : (10 ≤ R.frames ∧ 10260 ≤ R.locals) ∧ cells + 3 ≤ R.cells ∧ slots + 410 ≤ R.slots) (hcat : (rest.map fun v => v.category).sum ≤ 8) (hdg : decode cc pc = .ok (.invokestatic idx, 3))
    (k : ps_kM p l e R s m args below meth c H locs (cells + 3) (slots + 410) Q E pc ls rest ps_nS) : W p l e R s m args below meth c H locs cells slots Q (F0 m pc ls (.int i3 :: .int i2 :: .ref a :: .int i1 :: .ref a0 :: rest)) := by
  have hK := X.2.2.2.2.2.2.2.1
  obtain ⟨-, k0, hk0, cm0, hkk0⟩ := (hK.1.2 t0 _ hty0).1 n0 (fun j => .int (u j))
  obtain ⟨-, k1, hk1, cm1, hkk1⟩ := (hK.1.2 t _ hty).1 n (fun j => .int (w j))
  have hln : (toString "arraycopy: type mismatch: can not copy " ++ toString (Native.java_lang_System.arraycopy.kindName ty0) ++ toString "[] into " ++ toString (Native.java_lang_System.arraycopy.kindName ty) ++ toString "[]").toList.length ≤ 100 := by
    show (toString "arraycopy: type mismatch: can not copy " ++ toString (Native.java_lang_System.arraycopy.kindName ty0) ++ toString "[] into " ++ toString (Native.java_lang_System.arraycopy.kindName ty) ++ toString "[]").toList.length ≤ 100
    simp only [String.toList_append, List.length_append]
    have e1 : (toString "arraycopy: type mismatch: can not copy ").toList.length = 39 := by decide
    have e2 : (toString "[] into ").toList.length = 8 := by decide
    have e3 : (toString "[]").toList.length = 2 := by decide
    have b1 : (toString (Native.java_lang_System.arraycopy.kindName ty0)).toList.length ≤ 12 := ps_kn ty0
    have b2 : (toString (Native.java_lang_System.arraycopy.kindName ty)).toList.length ≤ 12 := ps_kn ty
    omega
  have hmd : ((toString "arraycopy: type mismatch: can not copy " ++ toString (Native.java_lang_System.arraycopy.kindName ty0) ++ toString "[] into " ++ toString (Native.java_lang_System.arraycopy.kindName ty) ++ toString "[]") == notModelled) = false := by
    have := ps_txA (toString "type mismatch: can not copy " ++ toString (Native.java_lang_System.arraycopy.kindName ty0) ++ toString "[] into " ++ toString (Native.java_lang_System.arraycopy.kindName ty) ++ toString "[]")
    rw [beq_eq_false_iff_ne] at this ⊢
    intro h9
    apply this
    rw [← h9]
    apply String.ext
    show _ = (toString "arraycopy: type mismatch: can not copy " ++ toString (Native.java_lang_System.arraycopy.kindName ty0) ++ toString "[] into " ++ toString (Native.java_lang_System.arraycopy.kindName ty) ++ toString "[]").toList
    simp only [String.toList_append]
    rfl
  refine ps_acGo X hlink hnat hstat hini ⟨rfl, rfl⟩ (fun U fs E9 hU hal hE => ?_) (ps_ntM (names := ps_uR) X hZ hX hLT ps_aS ps_oS (by decide) (by decide) (by decide) hmd (ps_txB hln) (by decide) hS hR.1) hS hl hR hcat hdg k
  obtain ⟨k0', hk0', e0⟩ := hal.2.2 _ _ hk0
  obtain ⟨k1', hk1', e1⟩ := hal.2.2 _ _ hk1
  have d0 : U.heap[a0]? = some (vp_cell (E.2.1 t0) (n0, .inl u)) := by rw [hU]; exact hc0
  have d1 : U.heap[a]? = some (vp_cell (E.2.1 t) (n, .inl w)) := by rw [hU]; exact hc1
  exact W.arraycopy_types (s := U.setFrames fs) d0 d1 (fun _ h => by cases h) (fun _ h => by cases h) hk0' hk1' (by rw [e0]; exact hkk0) (by rw [e1]; exact hkk1) hne (hE _)
theorem ps_acB {i1 i2 i3 : Int32} {ty : FieldType} (X : ps_X p E s m args meth c cc nL ret own H0 nm) (hZ : ps_Zk E z) (hX : ps_Zx E) (hLT : l.stackTraces = false) (hlink : Cond.methodLink own idx arraycopyName ∈ lw_all) (hnat : Cond.native arraycopyName ∈ lw_all) (hstat : Cond.static arraycopyName ∈ lw_all) (hini : Cond.initialized "java/lang/System" ∈ lw_all)
    (hty : (ps_TY E.2.1)[t]? = some (E.2.1 t, ty)) (hc0 : va_at E.1 ps_CL (a0, .inl (E.2.1 t, n0, .inl u)) H) (hc1 : va_at E.1 ps_CL (a, .inl (E.2.1 t, n, .inl w)) H) (hn : n0 ≤ 1000 ∧ n ≤ 1000) (hbad : ¬ (¬ i1 < 0 ∧ ¬ i2 < 0 ∧ ¬ i3 < 0 ∧ i1.toInt + i3.toInt ≤ n0 ∧ i2.toInt + i3.toInt ≤ n))
    (hS : va_S (ps_A E) s.heap H locs) (hl : ls.size = nL) (hR : (10 ≤ R.frames ∧ 10260 ≤ R.locals) ∧ cells + 3 ≤ R.cells ∧ slots + 410 ≤ R.slots) (hcat : (rest.map fun v => v.category).sum ≤ 8) (hdg : decode cc pc = .ok (.invokestatic idx, 3))
    (k : ps_kM p l e R s m args below meth c H locs (cells + 3) (slots + 410) Q E pc ls rest ps_nI) : W p l e R s m args below meth c H locs cells slots Q (F0 m pc ls (.int i3 :: .int i2 :: .ref a :: .int i1 :: .ref a0 :: rest)) := by
  have hK := X.2.2.2.2.2.2.2.1
  obtain ⟨-, k0, hk0, cm0, hkk0⟩ := (hK.1.2 t _ hty).1 n0 (fun j => .int (u j))
  obtain ⟨-, k1, hk1, cm1, hkk1⟩ := (hK.1.2 t _ hty).1 n (fun j => .int (w j))
  obtain ⟨what, hf⟩ := ps_cfs (t1 := ty) (t2 := ty) hbad
  have hlw := ps_cfl hn.1 hn.2 hf
  have hln : ("arraycopy: " ++ what).toList.length ≤ 100 := by
    rw [String.toList_append, List.length_append]
    have e1 : "arraycopy: ".toList.length = 11 := by decide
    omega
  refine ps_acGo X hlink hnat hstat hini ⟨rfl, rfl⟩ (fun U fs E9 hU hal hE => ?_) (ps_ntM (names := ps_uI) X hZ hX hLT ps_aI ps_oI (by decide) (by decide) (by decide) (ps_txA what) (ps_txB hln) (by decide) hS hR.1) hS hl hR hcat hdg k
  obtain ⟨k0', hk0', e0⟩ := hal.2.2 _ _ hk0
  obtain ⟨k1', hk1', e1⟩ := hal.2.2 _ _ hk1
  have d0 : U.heap[a0]? = some (vp_cell (E.2.1 t) (n0, .inl u)) := by rw [hU]; exact hc0
  have d1 : U.heap[a]? = some (vp_cell (E.2.1 t) (n, .inl w)) := by rw [hU]; exact hc1
  have z0 : (vp_cell (E.2.1 t) (n0, .inl u)).slots.size = n0 := by show (arrV (E.2.1 t) n0 (fun j => .int (u j))).slots.size = n0; exact arrV_size _ _ _
  have z1 : (vp_cell (E.2.1 t) (n, .inl w)).slots.size = n := by show (arrV (E.2.1 t) n (fun j => .int (w j))).slots.size = n; exact arrV_size _ _ _
  exact W.arraycopy_bounds (s := U.setFrames fs) d0 d1 (fun _ h => by cases h) (fun _ h => by cases h) hk0' hk1' (by rw [e0]; exact hkk0) (by rw [e1]; exact hkk1) (by simp) (by rw [z0, z1]; exact hf) (hE _)
end PSAN
