/-! ps_: more rows with throws -/
set_option maxRecDepth 100000
theorem ps_nlen {n : Int32} (h : n ≤ nI 40) : (∃ j, n = nI j ∧ j ≤ 40) ∨ n < 0 := by
  by_cases q : n < 0
  · exact Or.inr q
  · have h1 : n.toInt ≤ (nI 40).toInt := Int32.le_iff_toInt_le.mp h
    have h0 : (0 : Int32) ≤ n := Int32.not_lt.mp q
    have h2 : 0 ≤ n.toInt := by simpa using Int32.le_iff_toInt_le.mp h0
    rw [nI_toInt (by decide)] at h1
    have h3 : rng n 0 41 = true := by simp only [rng, Bool.and_eq_true, decide_eq_true_eq]; omega
    obtain ⟨k, e, -, hk, -⟩ := rng_t h3
    exact Or.inl ⟨k, e, by omega⟩
section PSXS
variable {p : Program} {l : Launch} {e : Env} {R : Room} {s : State} {m : MethodId} {args : Array Value} {below : List Frame} {meth : Method} {c : Code} {H : Heap} {locs : List Loc} {cells slots : Nat} {Q : State → Prop}
variable {E : ps_E} {cc : ByteArray} {nL : Nat} {ret : Option FieldType} {own nm : String} {H0 : Heap} {pc idx : Nat} {ls : Array Slot} {rest st : List Value} {z : Nat}
variable {y : MethodName} {b : ByteArray} {nL' fr lo mc' ms' : Nat} {ret' : Option FieldType} {As : List Value} {post' : Option Value → Heap → Prop} {postX' : String → Heap → Prop}
theorem ps_gxS (X : ps_X p E s m args meth c cc nL ret own H0 nm) (hE : ps_ZT E) (hM : ps_Gx l E y b nL' ret' fr lo mc' ms' As H post' postX') (hw : GoodIn lw_all (va_wsS own idx y (ws_ y b nL' ret')))
    {n : Nat} (hd : y.cls ≠ "java/lang/invoke/MethodHandle" ∧ y.cls ≠ "java/lang/invoke/VarHandle" ∧ (parseMethodDescriptor y.desc).map (fun d => d.parameters.length) = some n) (hR : (fr + 1 ≤ R.frames ∧ 8 + (nL' + 11) + lo ≤ R.locals) ∧ cells + mc' ≤ R.cells ∧ slots + ms' ≤ R.slots) (hS : va_S (ps_A E) s.heap H locs) (hl : ls.size = nL) (hnA : As.length = n) (hst : st = As.reverse ++ rest) (hcat : (rest.map fun v => v.category).sum ≤ 8) (hdg : decode cc pc = .ok (.invokestatic idx, 3))
    (k : ∀ (v : Option Value) (H1 : Heap) (locs1 : List Loc), post' v H1 → va_S (ps_A E) s.heap H1 locs1 → W p l e R s m args below meth c H1 locs1 (cells + mc') (slots + ms') Q (F0 m (pc + 3) ls (v.toList ++ rest)))
    (kx : ps_kX p l e R s m args below meth c (cells + mc') (slots + ms') Q E pc ls rest postX') : W p l e R s m args below meth c H locs cells slots Q (F0 m pc ls st) := by
  obtain ⟨hx, hb, hml, ho, hts, hlk, hr, hK, hh, hnm⟩ := X
  exact ps_runX (vx_runS ⟨hx, hb, hml, ho, hts⟩ hM (va_cwS n hts hw rfl rfl rfl hd hR.1) ⟨ps_blind hE, fun U hU hW => ⟨rfl, hU, hK.go hE (by rw [hU]; exact hS) hW⟩⟩ rfl hnA hl hst (lv_room (pc := pc) (ls := ls) (rest := st) (m := m) hcat) hdg hR.2) hS k kx
theorem ps_newZ {atype : ArrayType} {n : Int32} (X : ps_X p E s m args meth c cc nL ret own H0 nm) (hZ : ps_Zk E z) (hX : ps_Zx E) (hLT : l.stackTraces = false) (h0 : n < 0) (hS : va_S (ps_A E) s.heap H locs) (hl : ls.size = nL) (hR : (8 ≤ R.frames ∧ 10260 ≤ R.locals) ∧ cells + 3 ≤ R.cells ∧ slots + 54 ≤ R.slots) (hcat : (rest.map fun v => v.category).sum ≤ 8) (hdg : decode cc pc = .ok (.newarray atype, 2))
    (k : ps_kM p l e R s m args below meth c H locs (cells + 3) (slots + 54) Q E pc ls rest ps_nG) : W p l e R s m args below meth c H locs cells slots Q (F0 m pc ls (.int n :: rest)) :=
  vx_newarrayZ X.1 X.2.1 h0 hdg fun tx htx => by
    subst htx
    exact ps_vm (names := ps_uR) (nb := 44) X hZ hX hLT ps_aG ps_oG (by decide) (by decide) (by decide) (negative_text_modelled h0) (negative_text_bytes n) (by decide) hS hl (by decide) hR hcat k
end PSXS
theorem rng_lt {x : Int32} {hi : Nat} (h : rng x 0 hi = true) : x.toNatClampNeg < hi := by
  obtain ⟨n, rfl, -, h2, h3⟩ := rng_t h
  rw [nI_clamp (by omega)]; exact h2
theorem ps_up0 {f : Nat → Nat} {k : Nat} (h : f k = 0) : f = va_up f k 0 := by
  funext q
  by_cases e : q = k
  · subst e; rw [va_up_self]; exact h
  · rw [va_up_ne _ _ e]
