/-! ps_: rows over single cells, on: null into an array of references, arrays asked for their kind -/
set_option maxRecDepth 100000
section PSM3
variable {p : Program} {l : Launch} {e : Env} {R : Room} {s : State} {m : MethodId} {args : Array Value} {below : List Frame} {meth : Method} {c : Code} {H : Heap} {locs : List Loc} {cells slots : Nat} {Q : State → Prop}
variable {E : ps_E} {cc : ByteArray} {nL : Nat} {ret : Option FieldType} {own nm : String} {H0 : Heap} {pc : Nat} {ls : Array Slot} {rest st : List Value} {z : Nat}
variable {C ref host : String} {T : u_T} {N ci idx a n j t v : Nat} {fs : List Value} {f g : Nat → Option Nat} {i : Int32}
theorem ps_aastN (X : ps_X p E s m args meth c cc nL ret own H0 nm) (hty : (ps_TY E.2.1)[t]? = some (E.2.1 t, .object C)) (hat : va_at E.1 ps_CL (a, ps_q (E.2.1 t) n f) H) (hi : i = nI j) (hj : j < n) (hn : n ≤ 2147483647) (hA : ps_A E a) (hS : va_S (ps_A E) s.heap H locs) (hdg : decode cc pc = .ok (.aastore, 1))
    (kk : ∀ (H1 : Heap) (locs1 : List Loc), va_at E.1 ps_CL (a, ps_q (E.2.1 t) n (va_up f j none)) H1 → H1.size = H.size → (∀ q : Nat, q ≠ a → H1[q]? = H[q]?) → va_S (ps_A E) s.heap H1 locs1 → W p l e R s m args below meth c H1 locs1 cells slots Q (F0 m (pc + 1) ls rest)) : W p l e R s m args below meth c H locs cells slots Q (F0 m pc ls (.null :: .int i :: .ref a :: rest)) := by
  obtain ⟨hx, hb, hml, ho2, hts, hlk, hr, hK, hh, hnm⟩ := X
  obtain ⟨hin, hj2⟩ := ps_inI hi hj hn
  refine va_WaastN (C := C) hx hb hat ((hK.1.2 t _ hty).1 n (fun j => va_rf (f j))) (fun h => by cases h) (by show ¬ (i < 0 ∨ (arrV _ _ _).slots.size ≤ _); rw [arrV_size]; exact hin) rfl rfl hdg fun H1 e z1 oq => ?_
  refine kk H1 _ ?_ z1 oq (hS.put z1 oq hA)
  show H1[a]? = some (vp_cell _ _)
  rw [e, hj2]
  rw [vp_cell_q, vp_cell_q, arrV_store]
  congr 2
  funext q
  by_cases hq : q = j
  · subst hq
    simp [updV, va_up, va_rf]
  · simp [updV, va_up, hq]
/-- an array of ints, shorts or bytes: what is known of its cell -/
theorem ps_arc {k : Nat} {ty : FieldType} {F : Nat → Int32} (X : ps_X p E s m args meth c cc nL ret own H0 nm) (hat : va_at E.1 ps_CL (a, .inl (E.2.1 k, n, .inl F)) H) {nn : String} (hnn : s.vm.findClass nn = some (E.2.1 k)) : ps_recv s H a nn := ⟨_, hat, rfl, hnn⟩
theorem ps_nmI (X : ps_X p E s m args meth c cc nL ret own H0 nm) : s.vm.findClass "[I" = some (E.2.1 0) := va_nm_int (X.2.2.2.2.2.2.2.1.1.2 0 _ rfl).2
theorem ps_nmB (X : ps_X p E s m args meth c cc nL ret own H0 nm) : s.vm.findClass "[B" = some (E.2.1 1) := va_nm_byte (X.2.2.2.2.2.2.2.1.1.2 1 _ rfl).2
theorem ps_nmS (X : ps_X p E s m args meth c cc nL ret own H0 nm) : s.vm.findClass "[S" = some (E.2.1 2) := va_nm_short (X.2.2.2.2.2.2.2.1.1.2 2 _ rfl).2
theorem ps_castA {nn : String} (X : ps_X p E s m args meth c cc nL ret own H0 nm) (hcl : Cond.classLink own idx nn ∈ lw_all) (hr : ps_recv s H a nn) (hdg : decode cc pc = .ok (.checkcast idx, 3))
    (kk : W p l e R s m args below meth c H locs cells slots Q (F0 m (pc + 3) ls (.ref a :: rest))) : W p l e R s m args below meth c H locs cells slots Q (F0 m pc ls (.ref a :: rest)) := by
  obtain ⟨hx, hb, hml, ho2, hts, hlk, hr2, hK, hh, hnm⟩ := X
  exact va_castE hx hb ho2 (hts _ hcl) hr hdg kk
theorem ps_instA {nn : String} (X : ps_X p E s m args meth c cc nL ret own H0 nm) (hcl : Cond.classLink own idx nn ∈ lw_all) (hr : ps_recv s H a nn) (hdg : decode cc pc = .ok (.instanceof idx, 3))
    (kk : W p l e R s m args below meth c H locs cells slots Q (F0 m (pc + 3) ls (.int (nI 1) :: rest))) : W p l e R s m args below meth c H locs cells slots Q (F0 m pc ls (.ref a :: rest)) := by
  obtain ⟨hx, hb, hml, ho2, hts, hlk, hr2, hK, hh, hnm⟩ := X
  exact va_instE hx hb ho2 (hts _ hcl) hr hdg kk
theorem ps_instX {nn mm : String} (X : ps_X p E s m args meth c cc nL ret own H0 nm) (hcl : Cond.classLink own idx nn ∈ lw_all) (hr : ps_recv s H a mm) (hc : va_Nc mm nn s) (hdg : decode cc pc = .ok (.instanceof idx, 3))
    (kk : W p l e R s m args below meth c H locs cells slots Q (F0 m (pc + 3) ls (.int (nI 0) :: rest))) : W p l e R s m args below meth c H locs cells slots Q (F0 m pc ls (.ref a :: rest)) := by
  obtain ⟨hx, hb, hml, ho2, hts, hlk, hr2, hK, hh, hnm⟩ := X
  exact va_instNo hx hb ho2 (hts _ hcl) hc hr hdg kk
/-- a field that a class above declares -/
theorem ps_getS {v : Value} (X : ps_X p E s m args meth c cc nL ret own H0 nm) (hin : ∀ w ∈ u_ws C T N, w ∈ lw_all) (hc : ps_CL[ci]? = some (C, T, N)) (k : Nat) (hk : k < N) (hlink : Cond.fieldLink own idx ref (T k).2.1 (T k).2.2.1 ∈ lw_all) (hsame : Cond.sameField ref (T k).1 (T k).2.1 (T k).2.2.1 ∈ lw_all) (hat : va_at E.1 ps_CL (a, .inr (ci, fs)) H) (hv : fs[k]? = some v) (hdg : decode cc pc = .ok (.getfield idx, 3))
    (kk : W p l e R s m args below meth c H locs cells slots Q (F0 m (pc + 3) ls (v :: rest))) : W p l e R s m args below meth c H locs cells slots Q (F0 m pc ls (.ref a :: rest)) := by
  obtain ⟨hx, hb, hml, ho, hts, hlk, hr, hK, hh, hnm⟩ := X
  exact va_get hx hb hts hin ho hK.1 (ps_P1 hat) 0 rfl hc k hk (hts _ hlink) (fun x h => u_same (hts _ hsame) x h) hv hdg kk
theorem ps_putS {v : Value} (X : ps_X p E s m args meth c cc nL ret own H0 nm) (hin : ∀ w ∈ u_ws C T N, w ∈ lw_all) {ty0 : Nat → FieldType} (hty : ∀ k, k < N → parseFieldDescriptor (T k).2.2.1 = some (ty0 k)) (hnm2 : ∀ a, a < N → ∀ b, b < N → a ≠ b → (T a).2.1 ≠ (T b).2.1) (hc : ps_CL[ci]? = some (C, T, N)) (k : Nat) (hk : k < N) (hlink : Cond.fieldLink own idx ref (T k).2.1 (T k).2.2.1 ∈ lw_all) (hsame : Cond.sameField ref (T k).1 (T k).2.1 (T k).2.2.1 ∈ lw_all) (hfin : (T k).2.2.2 = false)
    (hn : narrow (ty0 k) v = v) (hfit : fits (ty0 k) v = true) (hl : k < fs.length) (hat : va_at E.1 ps_CL (a, .inr (ci, fs)) H) (hA : ps_A E a) (hS : va_S (ps_A E) s.heap H locs) (hdg : decode cc pc = .ok (.putfield idx, 3))
    (kk : ∀ (H1 : Heap) (locs1 : List Loc), va_at E.1 ps_CL (a, .inr (ci, fs.set k v)) H1 → H1.size = H.size → (∀ q : Nat, q ≠ a → H1[q]? = H[q]?) → va_S (ps_A E) s.heap H1 locs1 → W p l e R s m args below meth c H1 locs1 cells slots Q (F0 m (pc + 3) ls rest)) : W p l e R s m args below meth c H locs cells slots Q (F0 m pc ls (v :: .ref a :: rest)) := by
  obtain ⟨hx, hb, hml, ho, hts, hlk, hr, hK, hh, hnm⟩ := X
  have hap := va_apart (own := own) hts hin ty0 hty hnm2 hK.1 hc
  obtain ⟨r, h1, cell, q1, q2, q3, q4⟩ := hat
  have hr : r = (C, T, N) := Option.some.inj (h1.symm.trans hc)
  subst hr
  obtain ⟨hSl, hfc, kC, hkC, hkind⟩ := hK.1.1 ci _ hc
  obtain ⟨cf, kf, fi, f, hi, hsl⟩ := hSl k hk
  have hlay := hts _ (hin _ (u_in_lay hk))
  unfold u_lay at hlay
  rw [if_neg (by rw [hfin]; decide)] at hlay
  have hst := (u_facts hfc hkC (u_lays hts hin hk) hi).1
  have h6 := u_store hfc hkC hkind hlay hi (hty k hk) hn hfit
  refine W.putK hx hb (f := f) ⟨ho, hts _ hlink, ⟨_, _, _, u_same (hts _ hsame) _ hi⟩, hst⟩ (by rw [q2]; exact h6) q1 q3 (by rw [hsl]; exact k2_hasslot (q4 k hk)) rfl rfl hdg fun H' e1 e2 e3 => ?_
  rw [hsl] at e1 ⊢
  exact kk H' _ ⟨_, hc, t_OB.to (V := updV (vp_V fs) k v) ⟨_, e1, q2, q3, t_set q4 hap hk v⟩ (fun j _ => vp_updV_set hl v j)⟩ e2 e3 (hS.put e2 e3 hA)
/-- a promise's field, written where it is made -/
theorem ps_pputF {x : Int32} {kd : Nat} (X : ps_X p E s m args meth c cc nL ret own H0 nm) (hk : 1 ≤ kd ∧ kd ≤ 5) (k : Nat) (hk5 : k < 5) (hlink : Cond.fieldLink own idx (TX8 k).1 (TX8 k).2.1 (TX8 k).2.2.1 ∈ lw_all) (hat : va_at E.1 ps_CL (a, .inr (kd + 6, fs)) H) (hin2 : nm = "<init>") (hdecl : (TX8 k).1 = own) (hl : k < fs.length) (hA : ps_A E a) (hS : va_S (ps_A E) s.heap H locs) (hdg : decode cc pc = .ok (.putfield idx, 3))
    (kk : ∀ (H1 : Heap) (locs1 : List Loc), va_at E.1 ps_CL (a, .inr (kd + 6, fs.set k (.int x))) H1 → H1.size = H.size → (∀ q : Nat, q ≠ a → H1[q]? = H[q]?) → va_S (ps_A E) s.heap H1 locs1 → W p l e R s m args below meth c H1 locs1 cells slots Q (F0 m (pc + 3) ls rest)) : W p l e R s m args below meth c H locs cells slots Q (F0 m pc ls (.int x :: .ref a :: rest)) := by
  have hfin : (TX8 k).2.2.2 = true := by
    obtain rfl | rfl | rfl | rfl | rfl : k = 0 ∨ k = 1 ∨ k = 2 ∨ k = 3 ∨ k = 4 := by omega
    all_goals rfl
  have hn : narrow (tyX8 k) (.int x) = .int x := by
    obtain rfl | rfl | rfl | rfl | rfl : k = 0 ∨ k = 1 ∨ k = 2 ∨ k = 3 ∨ k = 4 := by omega
    all_goals rfl
  have hfit : fits (tyX8 k) (.int x) = true := by
    obtain rfl | rfl | rfl | rfl | rfl : k = 0 ∨ k = 1 ∨ k = 2 ∨ k = 3 ∨ k = 4 := by omega
    all_goals rfl
  have e9 : TX9 k = TX8 k ∧ tyX9 k = tyX8 k := by
    obtain rfl | rfl | rfl | rfl | rfl : k = 0 ∨ k = 1 ∨ k = 2 ∨ k = 3 ∨ k = 4 := by omega
    all_goals exact ⟨rfl, rfl⟩
  have e10 : TX10 k = TX8 k ∧ tyX10 k = tyX8 k := by
    obtain rfl | rfl | rfl | rfl | rfl : k = 0 ∨ k = 1 ∨ k = 2 ∨ k = 3 ∨ k = 4 := by omega
    all_goals exact ⟨rfl, rfl⟩
  have e11 : TX11 k = TX8 k ∧ tyX11 k = tyX8 k := by
    obtain rfl | rfl | rfl | rfl | rfl : k = 0 ∨ k = 1 ∨ k = 2 ∨ k = 3 ∨ k = 4 := by omega
    all_goals exact ⟨rfl, rfl⟩
  have e12 : TX12 k = TX8 k ∧ tyX12 k = tyX8 k := by
    obtain rfl | rfl | rfl | rfl | rfl : k = 0 ∨ k = 1 ∨ k = 2 ∨ k = 3 ∨ k = 4 := by omega
    all_goals exact ⟨rfl, rfl⟩
  obtain ⟨h1, h2⟩ := hk
  obtain rfl | rfl | rfl | rfl | rfl : kd = 1 ∨ kd = 2 ∨ kd = 3 ∨ kd = 4 ∨ kd = 5 := by omega
  · exact ps_putF X in_X8 tyX8_ok nmX8 (ci := 7) rfl k hk5 hlink rfl hfin hin2 hdecl hn hfit hl hat hA hS hdg kk
  · exact ps_putF X in_X9 tyX9_ok nmX9 (ci := 8) rfl k hk5 (by rw [e9.1]; exact hlink) (by rw [e9.1]) (by rw [e9.1]; exact hfin) hin2 (by rw [e9.1]; exact hdecl) (by rw [e9.2]; exact hn) (by rw [e9.2]; exact hfit) hl hat hA hS hdg kk
  · exact ps_putF X in_X10 tyX10_ok nmX10 (ci := 9) rfl k hk5 (by rw [e10.1]; exact hlink) (by rw [e10.1]) (by rw [e10.1]; exact hfin) hin2 (by rw [e10.1]; exact hdecl) (by rw [e10.2]; exact hn) (by rw [e10.2]; exact hfit) hl hat hA hS hdg kk
  · exact ps_putF X in_X11 tyX11_ok nmX11 (ci := 10) rfl k hk5 (by rw [e11.1]; exact hlink) (by rw [e11.1]) (by rw [e11.1]; exact hfin) hin2 (by rw [e11.1]; exact hdecl) (by rw [e11.2]; exact hn) (by rw [e11.2]; exact hfit) hl hat hA hS hdg kk
  · exact ps_putF X in_X12 tyX12_ok nmX12 (ci := 11) rfl k hk5 (by rw [e12.1]; exact hlink) (by rw [e12.1]) (by rw [e12.1]; exact hfin) hin2 (by rw [e12.1]; exact hdecl) (by rw [e12.2]; exact hn) (by rw [e12.2]; exact hfit) hl hat hA hS hdg kk
end PSM3
