/-! ps_: rows over single cells, on: arrays of references, casts, statics, copies, fields of a nest -/
set_option maxRecDepth 100000
abbrev ps_q (cA : ClassId) (n : Nat) (f : Nat → Option Nat) : va_E := .inl (cA, n, .inr (.inr (.inr (.inr f))))
section PSM2
variable {p : Program} {l : Launch} {e : Env} {R : Room} {s : State} {m : MethodId} {args : Array Value} {below : List Frame} {meth : Method} {c : Code} {H : Heap} {locs : List Loc} {cells slots : Nat} {Q : State → Prop}
variable {E : ps_E} {cc : ByteArray} {nL : Nat} {ret : Option FieldType} {own nm : String} {H0 : Heap} {pc : Nat} {ls : Array Slot} {rest st : List Value} {z : Nat}
variable {C ref host : String} {T : u_T} {N ci idx a n j t v : Nat} {fs : List Value} {f g : Nat → Option Nat} {i : Int32}
theorem ps_aald {o : Option Nat} (X : ps_X p E s m args meth c cc nL ret own H0 nm) (hty : (ps_TY E.2.1)[t]? = some (E.2.1 t, .object C)) (hat : va_at E.1 ps_CL (a, ps_q (E.2.1 t) n f) H) (hi : i = nI j) (hj : j < n) (hn : n ≤ 2147483647) (ho : f j = o) (hdg : decode cc pc = .ok (.aaload, 1))
    (kk : W p l e R s m args below meth c H locs cells slots Q (F0 m (pc + 1) ls (va_rf o :: rest))) : W p l e R s m args below meth c H locs cells slots Q (F0 m pc ls (.int i :: .ref a :: rest)) := by
  obtain ⟨hx, hb, hml, ho2, hts, hlk, hr, hK, hh, hnm⟩ := X
  obtain ⟨h1, h2⟩ := ps_inI hi hj hn
  subst ho
  rw [← h2] at kk
  exact va_aldq hx hb hK.1 (ps_P1 hat) 0 t rfl hty h1 hdg kk
theorem ps_aast {r : vw_C} {vs : List Value} (X : ps_X p E s m args meth c cc nL ret own H0 nm) (hty : (ps_TY E.2.1)[t]? = some (E.2.1 t, .object C)) (hat : va_at E.1 ps_CL (a, ps_q (E.2.1 t) n f) H) (hv : va_at E.1 ps_CL (v, .inr (ci, vs)) H) (hc : ps_CL[ci]? = some r) (hca : r.1 = C ∨ va_Nw (.castable r.1 C) s) (hi : i = nI j) (hj : j < n) (hn : n ≤ 2147483647) (hA : ps_A E a) (hS : va_S (ps_A E) s.heap H locs) (hdg : decode cc pc = .ok (.aastore, 1))
    (kk : ∀ (H1 : Heap) (locs1 : List Loc), va_at E.1 ps_CL (a, ps_q (E.2.1 t) n (va_up f j (some v))) H1 → H1.size = H.size → (∀ q : Nat, q ≠ a → H1[q]? = H[q]?) → va_S (ps_A E) s.heap H1 locs1 → W p l e R s m args below meth c H1 locs1 cells slots Q (F0 m (pc + 1) ls rest)) : W p l e R s m args below meth c H locs cells slots Q (F0 m pc ls (.ref v :: .int i :: .ref a :: rest)) := by
  obtain ⟨hx, hb, hml, ho2, hts, hlk, hr, hK, hh, hnm⟩ := X
  obtain ⟨hin, hj2⟩ := ps_inI hi hj hn
  have h0 : ¬ i < 0 := fun q => hin (Or.inl q)
  obtain ⟨r', hr', cellV, g1, g2, g3, -⟩ := hv
  have hr2 : r' = r := Option.some.inj (hr'.symm.trans hc)
  subst hr2
  have hcls := (hK.1.1 ci r' hc).2
  obtain ⟨kA, comp, k1, k2, k3, -⟩ := (hK.1.2 t _ hty).2
  obtain ⟨kE, hkE, -⟩ := Vm.findClass_spec k3
  obtain ⟨kC, hkC, -⟩ := hcls.2
  have f3 : s.vm.assignable (E.1.1 ci) comp = true := by
    rcases hca with e | e
    · have : E.1.1 ci = comp := Option.some.inj (hcls.1.symm.trans (by rw [e]; exact k3))
      rw [this]; exact va_asg _ _
    · obtain ⟨c0, t1, f1, f2, f3⟩ := Cond.castable_spec (va_Nw.use (A := args) rfl e)
      cases hcls.1.symm.trans f1
      cases k3.symm.trans f2
      exact f3
  refine W.aast hx hb hat (fun q h => by cases h) (fun h => by cases h) k1 k2 rfl hkE ⟨h0, by show _ < (arrV _ _ _).slots.size; rw [arrV_size, hj2]; exact hj⟩ g1 (fun q h => by rw [g3] at h; cases h) (by rw [g2]; exact hkC) (by rw [g2]; exact f3) rfl rfl hdg fun H1 e1 z1 oq => ?_
  refine kk H1 _ ?_ z1 oq (hS.put z1 oq hA)
  show H1[a]? = some (vp_cell _ _)
  rw [e1, hj2]
  rw [vp_cell_q, vp_cell_q, arrV_store]
  congr 2
  funext q
  by_cases hq : q = j
  · subst hq
    simp [updV, va_up, va_rf]
  · simp [updV, va_up, hq]
theorem ps_anew (X : ps_X p E s m args meth c cc nL ret own H0 nm) (hcl : Cond.classLink own idx C ∈ lw_all) (hty : (ps_TY E.2.1)[t]? = some (E.2.1 t, .object C)) (hov : va_Nw (.arrayOver (.object C)) s) (hi : i = nI n) (hn : n ≤ 1000) (hcs : cells + 1 ≤ R.cells ∧ slots + n ≤ R.slots) (hS : va_S (ps_A E) s.heap H locs) (hdg : decode cc pc = .ok (.anewarray idx, 3))
    (kk : ∀ H1 : Heap, va_at E.1 ps_CL (H.size, ps_q (E.2.1 t) n (fun _ => none)) H1 → H1.size = H.size + 1 → (∀ q : Nat, q < H.size → H1[q]? = H[q]?) → va_S (ps_A E) s.heap H1 locs → W p l e R s m args below meth c H1 locs (cells + 1) (slots + n) Q (F0 m (pc + 3) ls (.ref H.size :: rest))) : W p l e R s m args below meth c H locs cells slots Q (F0 m pc ls (.int i :: rest)) := by
  obtain ⟨hx, hb, hml, ho2, hts, hlk, hr, hK, hh, hnm⟩ := X
  subst hi
  have hc1 : (nI n).toNatClampNeg = n := nI_clamp (by omega)
  refine W.anew hx hb ho2 (hts _ hcl) (va_AO.use hov) rfl hdg rfl (nI_pos (by omega)) (by rw [hc1]; omega) hcs.1 (by rw [hc1]; exact hcs.2) fun cA kA comp f1 f2 f3 f4 => ?_
  rw [hc1]
  have hcA : cA = E.2.1 t := by
    obtain ⟨k2, comp2, -, -, -, h4⟩ := (hK.1.2 t _ hty).2
    exact Option.some.inj (f1.symm.trans h4)
  subst hcA
  generalize hH1 : H.push ({ cls := E.2.1 t, slots := Array.replicate n .null, vm := .none } : Cell) = H1
  have z1 : H1.size = H.size + 1 := by rw [← hH1, Array.size_push]
  have e1 : H1[H.size]? = some (arrV (E.2.1 t) n (fun _ => .null)) := by rw [← hH1, Array.getElem?_push_size, ← arrV_new]
  have o1 : ∀ q : Nat, q < H.size → H1[q]? = H[q]? := fun q hq => by rw [← hH1, Array.getElem?_push, if_neg (Nat.ne_of_lt hq)]
  exact kk H1 e1 z1 o1 ⟨Nat.le_trans hS.1 (by omega), fun x h1 h2 => (o1 x (Nat.lt_of_lt_of_le h1 hS.1)).trans (hS.2.1 x h1 h2), hS.2.2⟩
theorem ps_cast (X : ps_X p E s m args meth c cc nL ret own H0 nm) (hcl : Cond.classLink own idx ref ∈ lw_all) (hc : va_Nw (.castable C ref) s) (hr : ps_recv s H a C) (hdg : decode cc pc = .ok (.checkcast idx, 3))
    (kk : W p l e R s m args below meth c H locs cells slots Q (F0 m (pc + 3) ls (.ref a :: rest))) : W p l e R s m args below meth c H locs cells slots Q (F0 m pc ls (.ref a :: rest)) := by
  obtain ⟨hx, hb, hml, ho2, hts, hlk, hr2, hK, hh, hnm⟩ := X
  exact va_castY hx hb ho2 (hts _ hcl) hc hr hdg kk
theorem ps_gets0 (X : ps_X p E s m args meth c cc nL ret own H0 nm) (hZ : ps_Zk E z) (hlink : Cond.fieldLink own idx "java/util/ArrayList" ps_zN "[Ljava/lang/Object;" ∈ lw_all) (hS : va_S (ps_A E) s.heap H locs) (hdg : decode cc pc = .ok (.getstatic idx, 3))
    (kk : W p l e R s m args below meth c H locs cells slots Q (F0 m (pc + 3) ls (.ref z :: rest))) : W p l e R s m args below meth c H locs cells slots Q (F0 m pc ls rest) := by
  have hz := (X.zc hZ).2.2.1
  obtain ⟨hx, hb, hml, ho2, hts, hlk, hr2, hK, hh, hnm⟩ := X
  exact va_gets hx hb hz hS ho2 (hts _ hlink) (fun _ h => h) hdg kk
/-- the empty list's array, at any time -/
theorem ps_z0 (X : ps_X p E s m args meth c cc nL ret own H0 nm) (hZ : ps_Zk E z) (hS : va_S (ps_A E) s.heap H locs) : va_at E.1 ps_CL (z, ps_e0 E) H := by
  obtain ⟨-, -, -, d, e⟩ := X.zc hZ
  exact e.kept (hS.2.1 z e.lt d)
theorem ps_icpy {a0 n0 sp dp k : Nat} {u w : Nat → Int32} {i1 i2 i3 : Int32} (X : ps_X p E s m args meth c cc nL ret own H0 nm) (hlink : Cond.methodLink own idx arraycopyName ∈ lw_all) (hnat : Cond.native arraycopyName ∈ lw_all) (hstat : Cond.static arraycopyName ∈ lw_all) (hini : Cond.initialized "java/lang/System" ∈ lw_all) {ty : FieldType} (hprim : refKind ty = false)
    (hty : (ps_TY E.2.1)[t]? = some (E.2.1 t, ty)) (hc0 : va_at E.1 ps_CL (a0, .inl (E.2.1 t, n0, .inl u)) H) (hc1 : va_at E.1 ps_CL (a, .inl (E.2.1 t, n, .inl w)) H) (e1 : i1 = nI sp) (e2 : i2 = nI dp) (e3 : i3 = nI k) (hk : n0 ≤ 1000 ∧ n ≤ 1000 ∧ sp + k ≤ n0 ∧ dp + k ≤ n) (hfit : ∀ i, i < k → fits ty (.int (u (sp + i))) = true)
    (hl : ls.size = nL) (hf : 1 ≤ R.frames ∧ (rest.map fun v => v.category).sum + (nativeFrameWords "java/lang/System" "arraycopy" 5 + 11) ≤ R.locals) (hA : ps_A E a) (hS : va_S (ps_A E) s.heap H locs) (hdg : decode cc pc = .ok (.invokestatic idx, 3))
    (kk : ∀ (H1 : Heap) (locs1 : List Loc), va_at E.1 ps_CL (a, .inl (E.2.1 t, n, .inl (va_cpy u w sp dp k))) H1 → H1.size = H.size → (∀ q : Nat, q ≠ a → H1[q]? = H[q]?) → va_S (ps_A E) s.heap H1 locs1 → W p l e R s m args below meth c H1 locs1 cells slots Q (F0 m (pc + 3) ls rest)) : W p l e R s m args below meth c H locs cells slots Q (F0 m pc ls (.int i3 :: .int i2 :: .ref a :: .int i1 :: .ref a0 :: rest)) := by
  obtain ⟨hx, hb, hml, ho2, hts, hlk, hr2, hK, hh, hnm⟩ := X
  subst e1 e2 e3
  have cl : ∀ q : Nat, q ≤ 1000 → (nI q).toNatClampNeg = q := fun q hq => nI_clamp (by omega)
  have c1 := cl sp (by omega)
  have c2 := cl dp (by omega)
  have c3 := cl k (by omega)
  have ti : ∀ q : Nat, q ≤ 1000 → (nI q).toInt = (q : Int) := fun q hq => nI_toInt (by omega)
  intro T hT X
  have hd0 : H[a0]? = some (vp_cell (E.2.1 t) (n0, .inl u)) := hc0
  have hd1 : H[a]? = some (vp_cell (E.2.1 t) (n, .inl w)) := hc1
  obtain ⟨-, k0, hk0, cm0, hkk0⟩ := (hK.1.2 t _ hty).1 n0 (fun j => .int (u j))
  obtain ⟨-, k1, hk1, cm1, hkk1⟩ := (hK.1.2 t _ hty).1 n (fun j => .int (w j))
  obtain ⟨vm', X', step⟩ := X.arraycopy hx ho2 (hts _ hlink) (hts _ hnat) (hts _ hstat) (hts _ hini) (src := a0) (dst := a) (cs := vp_cell (E.2.1 t) (n0, .inl u)) (cd := vp_cell (E.2.1 t) (n, .inl w)) (srcPos := nI sp) (destPos := nI dp) (n := nI k) (by rw [hT]; exact hd0) (by rw [hT]; exact hd1)
    (fun _ h => by cases h) (fun _ h => by cases h) (fun h => by cases h) (fun h => by cases h) hk0 hk1 hkk0 hkk1 (by simp [hprim]) (nI_pos (by omega)) (nI_pos (by omega)) (nI_pos (by omega))
    (by rw [ti sp (by omega), ti k (by omega)]; show ¬ _ > ((arrV (E.2.1 t) n0 (fun j => .int (u j))).slots.size : Int); rw [arrV_size]; omega)
    (by rw [ti dp (by omega), ti k (by omega)]; show ¬ _ > ((arrV (E.2.1 t) n (fun j => .int (w j))).slots.size : Int); rw [arrV_size]; omega)
    (fun vm₁ _ i hi => by
      rw [c1]
      rw [c3] at hi
      have e : (vp_cell (E.2.1 t) (n0, .inl u)).slots.getD (sp + i) .null = .int (u (sp + i)) := by
        show (arrV (E.2.1 t) n0 (fun j => .int (u j))).slots.getD _ _ = _
        rw [Array.getD_eq_getD_getElem?, arrV_read _ _ (by omega)]
        rfl
      rw [e]
      exact ⟨hfit i hi, trivial⟩)
    (g := F0 m pc ls (.int (nI k) :: .int (nI dp) :: .ref a :: .int (nI sp) :: .ref a0 :: rest)) rfl (by rw [hml]; exact hl) (rest := rest) rfl (by rw [hb]; exact hdg) hf.1 (by have := hf.2; show 2 * 0 + _ + _ ≤ _; omega)
  have e1 : copied (vp_cell (E.2.1 t) (n0, .inl u)) (vp_cell (E.2.1 t) (n, .inl w)) (nI sp) (nI dp) (nI k) = vp_cell (E.2.1 t) (n, .inl (va_cpy u w (nI sp).toNatClampNeg (nI dp).toNatClampNeg (nI k).toNatClampNeg)) := va_copied (fun z => .int z) (E.2.1 t) (E.2.1 t) u w (by rw [c1, c3]; exact hk.2.2.1)
  rw [e1, c1, c2, c3] at X' step
  have hl2 : a < H.size := (Array.getElem?_eq_some_iff.mp hd1).1
  have hheap : ((T.setVm vm').setCell a (vp_cell (E.2.1 t) (n, .inl (va_cpy u w sp dp k)))).heap = H.setIfInBounds a (vp_cell (E.2.1 t) (n, .inl (va_cpy u w sp dp k))) := by rw [← hT]; rfl
  have oq : ∀ q : Nat, q ≠ a → (H.setIfInBounds a (vp_cell (E.2.1 t) (n, .inl (va_cpy u w sp dp k))))[q]? = H[q]? := fun q hq => by simp [Array.getElem?_setIfInBounds, Ne.symm hq]
  obtain ⟨t2, a1, b1⟩ := kk _ _ (show (H.setIfInBounds a _)[a]? = some _ by simp [Array.getElem?_setIfInBounds, hl2]) (by simp) oq ⟨by simp; exact hS.1, fun q g1 g2 => by
      rw [oq q (fun e => g2 (by rw [e]; exact hA))]
      exact hS.2.1 q g1 g2, fun q hq => by
      rcases List.mem_append.mp hq with h | h
      · exact hS.2.2 q h
      · obtain ⟨z, -, hz⟩ := List.mem_map.mp h
        rw [← hz]
        exact hA⟩ _ hheap X'
  exact ⟨t2, step t2 a1, b1⟩
theorem ps_getN {v : Value} (X : ps_X p E s m args meth c cc nL ret own H0 nm) (hZ : ps_Zk E z) (hin : ∀ w ∈ u_ws C T N, w ∈ lw_all) (hc : ps_CL[ci]? = some (C, T, N)) (k : Nat) (hk : k < N) (hlink : Cond.fieldLinkNest own idx ref (T k).2.1 (T k).2.2.1 host ∈ lw_tbl) (hsame : ref = (T k).1) (hat : va_at E.1 ps_CL (a, .inr (ci, fs)) H) (hv : fs[k]? = some v) (hdg : decode cc pc = .ok (.getfield idx, 3))
    (kk : W p l e R s m args below meth c H locs cells slots Q (F0 m (pc + 3) ls (v :: rest))) : W p l e R s m args below meth c H locs cells slots Q (F0 m pc ls (.ref a :: rest)) := by
  have hz := X.nw hZ hlink rfl
  obtain ⟨hx, hb, hml, ho, hts, hlk, hr, hK, hh, hnm⟩ := X
  exact va_getN hx hb hts hin ho hK.1 (ps_P1 hat) 0 rfl hc k hk (va_Nw.use rfl hz) (by subst hsame; exact fun _ h => h) hv hdg kk
theorem ps_putN {v : Value} (X : ps_X p E s m args meth c cc nL ret own H0 nm) (hZ : ps_Zk E z) (hin : ∀ w ∈ u_ws C T N, w ∈ lw_all) {ty0 : Nat → FieldType} (hty : ∀ k, k < N → parseFieldDescriptor (T k).2.2.1 = some (ty0 k)) (hnm2 : ∀ a, a < N → ∀ b, b < N → a ≠ b → (T a).2.1 ≠ (T b).2.1) (hc : ps_CL[ci]? = some (C, T, N)) (k : Nat) (hk : k < N) (hlink : Cond.fieldLinkNest own idx ref (T k).2.1 (T k).2.2.1 host ∈ lw_tbl) (hsame : ref = (T k).1) (hfin : (T k).2.2.2 = false)
    (hn : narrow (ty0 k) v = v) (hfit : fits (ty0 k) v = true) (hl : k < fs.length) (hat : va_at E.1 ps_CL (a, .inr (ci, fs)) H) (hA : ps_A E a) (hS : va_S (ps_A E) s.heap H locs) (hdg : decode cc pc = .ok (.putfield idx, 3))
    (kk : ∀ (H1 : Heap) (locs1 : List Loc), va_at E.1 ps_CL (a, .inr (ci, fs.set k v)) H1 → H1.size = H.size → (∀ q : Nat, q ≠ a → H1[q]? = H[q]?) → va_S (ps_A E) s.heap H1 locs1 → W p l e R s m args below meth c H1 locs1 cells slots Q (F0 m (pc + 3) ls rest)) : W p l e R s m args below meth c H locs cells slots Q (F0 m pc ls (v :: .ref a :: rest)) := by
  have hz := X.nw hZ hlink rfl
  obtain ⟨hx, hb, hml, ho, hts, hlk, hr, hK, hh, hnm⟩ := X
  have hap := va_apart (own := own) hts hin ty0 hty hnm2 hK.1 hc
  obtain ⟨r, h1, cell, q1, q2, q3, q4⟩ := hat
  have hr : r = (C, T, N) := Option.some.inj (h1.symm.trans hc)
  subst hr
  obtain ⟨hSl, hfc, kC, hkC, hkind⟩ := hK.1.1 ci _ hc
  obtain ⟨cf, kf, fi, f, hi, hsl⟩ := hSl k hk
  have hlay := hts _ (hin _ (u_in_lay hk))
  unfold u_lay at hlay
  rw [if_neg (by rw [hfin]; decide)] at hlay
  have hst := (u_facts hfc hkC (u_lays hts hin hk) hi).1
  have h6 := u_store hfc hkC hkind hlay hi (hty k hk) hn hfit
  subst hsame
  refine va_WputK hx hb (f := f) ho (va_Nw.use rfl hz) hi hst (by rw [q2]; exact h6) q1 q3 (by rw [hsl]; exact k2_hasslot (q4 k hk)) rfl rfl hdg fun H' e1 e2 e3 => ?_
  rw [hsl] at e1 ⊢
  exact kk H' _ ⟨_, hc, t_OB.to (V := updV (vp_V fs) k v) ⟨_, e1, q2, q3, t_set q4 hap hk v⟩ (fun j _ => vp_updV_set hl v j)⟩ e2 e3 (hS.put e2 e3 hA)
end PSM2
