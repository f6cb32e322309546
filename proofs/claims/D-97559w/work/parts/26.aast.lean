/-! ps_: a promise of any kind into an array of objects -/
set_option maxRecDepth 100000
theorem ps_aastP {p : Program} {l : Launch} {e : Env} {R : Room} {s : State} {m : MethodId} {args : Array Value} {below : List Frame} {meth : Method} {c : Code} {H : Heap} {locs : List Loc} {cells slots : Nat} {Q : State → Prop} {E : ps_E} {cc : ByteArray} {nL : Nat} {ret : Option FieldType} {own nm : String} {H0 : Heap} {pc : Nat} {ls : Array Slot} {rest : List Value} {z a n j v kd : Nat} {vs : List Value} {f : Nat → Option Nat} {i : Int32}
    (X : ps_X p E s m args meth c cc nL ret own H0 nm) (hZ : ps_Zk E z) (hk : 1 ≤ kd ∧ kd ≤ 5) (hat : va_at E.1 ps_CL (a, ps_q (E.2.1 6) n f) H) (hv : va_at E.1 ps_CL (v, .inr (kd + 6, vs)) H) (hi : i = nI j) (hj : j < n) (hn : n ≤ 2147483647) (hA : ps_A E a) (hS : va_S (ps_A E) s.heap H locs) (hdg : decode cc pc = .ok (.aastore, 1))
    (kk : ∀ (H1 : Heap) (locs1 : List Loc), va_at E.1 ps_CL (a, ps_q (E.2.1 6) n (va_up f j (some v))) H1 → H1.size = H.size → (∀ q : Nat, q ≠ a → H1[q]? = H[q]?) → va_S (ps_A E) s.heap H1 locs1 → W p l e R s m args below meth c H1 locs1 cells slots Q (F0 m (pc + 1) ls rest)) : W p l e R s m args below meth c H locs cells slots Q (F0 m pc ls (.ref v :: .int i :: .ref a :: rest)) := by
  obtain ⟨h1, h2⟩ := hk
  obtain rfl | rfl | rfl | rfl | rfl : kd = 1 ∨ kd = 2 ∨ kd = 3 ∨ kd = 4 ∨ kd = 5 := by omega
  · exact ps_aast X (t := 6) (C := "java/lang/Object") rfl hat hv (ci := 7) rfl (Or.inr (X.nw hZ q1704 rfl)) hi hj hn hA hS hdg kk
  · exact ps_aast X (t := 6) (C := "java/lang/Object") rfl hat hv (ci := 8) rfl (Or.inr (X.nw hZ q1705 rfl)) hi hj hn hA hS hdg kk
  · exact ps_aast X (t := 6) (C := "java/lang/Object") rfl hat hv (ci := 9) rfl (Or.inr (X.nw hZ q1706 rfl)) hi hj hn hA hS hdg kk
  · exact ps_aast X (t := 6) (C := "java/lang/Object") rfl hat hv (ci := 10) rfl (Or.inr (X.nw hZ q1707 rfl)) hi hj hn hA hS hdg kk
  · exact ps_aast X (t := 6) (C := "java/lang/Object") rfl hat hv (ci := 11) rfl (Or.inr (X.nw hZ q1708 rfl)) hi hj hn hA hS hdg kk
