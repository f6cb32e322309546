/-! ps_: what items asks -/
set_option maxRecDepth 100000
theorem ps_itm {i : Int32} {n d : Nat} (hn : n ≤ 1000) (hd : d ≤ 1000) : lg_cmp (i.toInt64 + (nI n).toInt64) ((nI d).toInt64) ≤ 0 ↔ i.toInt + n ≤ d := by
  have h1 := lg_cmp_gt (x := i.toInt64 + (nI n).toInt64) (y := (nI d).toInt64)
  rw [← Int32.not_lt, h1, Int64.lt_iff_toInt_lt, Int64.toInt_add, Int32.toInt_toInt64, Int32.toInt_toInt64, Int32.toInt_toInt64, nI_toInt (by omega), nI_toInt (by omega)]
  have a := Int32.toInt_lt i
  have b := Int32.le_toInt i
  rw [Int.bmod_eq_of_le (by omega) (by omega)]
  omega
theorem ps_it1 {i : Int32} {n d Z : Nat} (hZ : Z ≠ 0) (hd : d = Z - 1) (hd1 : d ≤ 1000) (h0 : ¬ i < 0) (h1 : i.toInt + n ≤ d) : ∃ k, i = nI k ∧ k + n ≤ d ∧ rng i 0 (Z - n) = true := by
  have h2 : 0 ≤ i.toInt := by
    have := Int32.le_iff_toInt_le.mp (Int32.not_lt.mp h0)
    simpa using this
  have h3 : rng i 0 (Z - n) = true := by simp only [rng, Bool.and_eq_true, decide_eq_true_eq]; omega
  obtain ⟨k, e, -, hk, hk2⟩ := rng_t h3
  exact ⟨k, e, by omega, h3⟩
theorem ps_it0 {i : Int32} {n d Z : Nat} (hd : d = Z - 1) (h : i < 0 ∨ ¬ i.toInt + n ≤ d) : rng i 0 (Z - n) = false := by
  simp only [rng, Bool.and_eq_false_iff, decide_eq_false_iff_not]
  rcases h with h | h
  · have := Int32.lt_iff_toInt_lt.mp h
    have : i.toInt < 0 := by simpa using this
    omega
  · omega
theorem ps_Rq.mono {E : ps_E} {Γ Γ1 : ps_Gh} {a L Z h : Nat} {f : Nat → Int32} (hq : ps_Rq E Γ a L Z h f) (hk : ∀ q e, Γ q = some e → Γ1 q = some e) : ps_Rq E Γ1 a L Z h f := ⟨hq.1, hq.2.imp (fun y => ⟨y.1, hk _ _ y.2⟩) (fun y => ⟨y.1, hk _ _ y.2.1, hk _ _ y.2.2⟩)⟩
section PSI
variable {p : Program} {l : Launch} {e : Env} {R : Room} {s : State} {m : MethodId} {args : Array Value} {below : List Frame} {meth : Method} {c : Code} {H : Heap} {locs : List Loc} {cells slots : Nat}
variable {E : ps_E} {cc : ByteArray} {nL : Nat} {ret : Option FieldType} {nm : String} {H0 : Heap} {pc ik mc ms : Nat} {ls : Array Slot} {rest : List Value} {z : Nat} {postX : String → Heap → Prop}
theorem ps_aioobe (X : ps_X p E s m args meth c cc nL ret "PromiseScales" H0 nm) (hZ : ps_Zk E z) (hX : ps_Zx E) (hLT : l.stackTraces = false) (ht : ∀ x ∈ c.exceptionTable.toList, False) (hk : Cond.classLink "PromiseScales" ik ps_nI ∈ lw_all) (hini : Cond.initialized ps_nI ∈ lw_all) (hS : va_S (ps_A E) s.heap H locs) (hl : ls.size = nL)
    (d0 : decode cc pc = .ok (.new ik, 3)) (d3 : decode cc (pc + 3) = .ok (.dup, 1)) (d4 : decode cc (pc + 4) = .ok (.invokespecial 124, 3)) (d7 : decode cc (pc + 7) = .ok (.athrow, 1)) (hR : (8 ≤ R.frames ∧ 10260 ≤ R.locals) ∧ cells + 1 ≤ R.cells ∧ slots + 6 ≤ R.slots) (hcat : (rest.map fun v => v.category).sum ≤ 8)
    (hx : ∀ H1 : Heap, H.size ≤ H1.size → (∀ q : Nat, q < H.size → H1[q]? = H[q]?) → postX ps_nI H1) (hc : cells + 1 ≤ mc) (hs : slots + 6 ≤ ms) {Qc : Array Value → State → Outcome → State → Prop} :
    W p l e R s m args below meth c H locs cells slots (vx_MQ below Qc (ps_XC postX (ps_A E)) args s mc ms (ps_A E)) (F0 m pc ls rest) := by
  have hw := ps_okAll X hZ ps_a0
  obtain ⟨hxx, hb, hml, ho, hts, hlk, hr, hK, hh, hnm⟩ := X
  obtain ⟨-, hU, hN⟩ := hX s hK.2
  refine vx_throw0 (names := ps_uI) hxx hb hLT ho (by decide) (by decide) (hts _ hk) (hts _ hini) hw (fun w hw9 => ?_) hU hN hS (hl.trans hml.symm) d0 d3 d4 d7 (fun x h => (ht x h).elim) (by show 3 + 3 < R.frames; omega) (by show _ + (13 * (3 + 1) + 42) ≤ _; omega) hR.2.1 hR.2.2 hlk (fun t _ h1 h2 => ⟨hx _ h1 h2, Nat.le_trans hS.1 h1, fun q g1 g2 => (h2 q (Nat.lt_of_lt_of_le g1 hS.1)).trans (hS.2.1 q g1 g2)⟩) hS.2.2 hc hs
  rcases List.mem_cons.mp hw9 with rfl | h
  · rfl
  · rcases List.mem_cons.mp h with rfl | h
    · rfl
    · exact ps_allot ps_o0 w h
end PSI
