/-! ps_: rows over single cells: fields, arrays, new -/
set_option maxRecDepth 100000
theorem ps_P1 {D : va_G} {cl : List vw_C} {q : Nat × va_E} {H : Heap} (h : va_at D cl q H) : va_P D cl [q] H := by
  intro k z hz
  match k, hz with
  | 0, hz => cases hz; exact h
  | k + 1, hz => simp at hz
theorem ps_at_lt {D : va_G} {cl : List vw_C} {a : Nat} {e : va_E} {H : Heap} (h : va_at D cl (a, e) H) : a < H.size := va_at.lt h
section PSM
variable {p : Program} {l : Launch} {e : Env} {R : Room} {s : State} {m : MethodId} {args : Array Value} {below : List Frame} {meth : Method} {c : Code} {H : Heap} {locs : List Loc} {cells slots : Nat} {Q : State → Prop}
variable {E : ps_E} {cc : ByteArray} {nL : Nat} {ret : Option FieldType} {own nm : String} {H0 : Heap} {pc : Nat} {ls : Array Slot} {rest st : List Value}
variable {C ref : String} {T : u_T} {N ci idx a : Nat} {fs : List Value} {v : Value}
theorem ps_rc (X : ps_X p E s m args meth c cc nL ret own H0 nm) (hc : ps_CL[ci]? = some (C, T, N)) (hat : va_at E.1 ps_CL (a, .inr (ci, fs)) H) : ps_recv s H a C := by
  obtain ⟨hx, hb, hml, ho, hts, hlk, hr, hK, hh, hnm⟩ := X
  exact va_recv (q0 := 0) hK.1 (ps_P1 hat) hc rfl
theorem ps_get (X : ps_X p E s m args meth c cc nL ret own H0 nm) (hin : ∀ w ∈ u_ws C T N, w ∈ lw_all) (hc : ps_CL[ci]? = some (C, T, N)) (k : Nat) (hk : k < N) (hlink : Cond.fieldLink own idx ref (T k).2.1 (T k).2.2.1 ∈ lw_all) (hsame : ref = (T k).1) (hat : va_at E.1 ps_CL (a, .inr (ci, fs)) H) (hv : fs[k]? = some v) (hdg : decode cc pc = .ok (.getfield idx, 3))
    (kk : W p l e R s m args below meth c H locs cells slots Q (F0 m (pc + 3) ls (v :: rest))) : W p l e R s m args below meth c H locs cells slots Q (F0 m pc ls (.ref a :: rest)) := by
  obtain ⟨hx, hb, hml, ho, hts, hlk, hr, hK, hh, hnm⟩ := X
  exact va_get hx hb hts hin ho hK.1 (ps_P1 hat) 0 rfl hc k hk (hts _ hlink) (by subst hsame; exact fun _ h => h) hv hdg kk
theorem ps_put (X : ps_X p E s m args meth c cc nL ret own H0 nm) (hin : ∀ w ∈ u_ws C T N, w ∈ lw_all) {ty0 : Nat → FieldType} (hty : ∀ k, k < N → parseFieldDescriptor (T k).2.2.1 = some (ty0 k)) (hnm2 : ∀ a, a < N → ∀ b, b < N → a ≠ b → (T a).2.1 ≠ (T b).2.1) (hc : ps_CL[ci]? = some (C, T, N)) (k : Nat) (hk : k < N) (hlink : Cond.fieldLink own idx ref (T k).2.1 (T k).2.2.1 ∈ lw_all) (hsame : ref = (T k).1) (hfin : (T k).2.2.2 = false)
    (hn : narrow (ty0 k) v = v) (hfit : fits (ty0 k) v = true) (hl : k < fs.length) (hat : va_at E.1 ps_CL (a, .inr (ci, fs)) H) (hA : ps_A E a) (hS : va_S (ps_A E) s.heap H locs) (hdg : decode cc pc = .ok (.putfield idx, 3))
    (kk : ∀ (H1 : Heap) (locs1 : List Loc), va_at E.1 ps_CL (a, .inr (ci, fs.set k v)) H1 → H1.size = H.size → (∀ q : Nat, q ≠ a → H1[q]? = H[q]?) → va_S (ps_A E) s.heap H1 locs1 → W p l e R s m args below meth c H1 locs1 cells slots Q (F0 m (pc + 3) ls rest)) : W p l e R s m args below meth c H locs cells slots Q (F0 m pc ls (v :: .ref a :: rest)) := by
  obtain ⟨hx, hb, hml, ho, hts, hlk, hr, hK, hh, hnm⟩ := X
  have hap := va_apart (own := own) hts hin ty0 hty hnm2 hK.1 hc
  obtain ⟨r, h1, cell, q1, q2, q3, q4⟩ := hat
  have hr : r = (C, T, N) := Option.some.inj (h1.symm.trans hc)
  subst hr
  obtain ⟨hSl, hfc, kC, hkC, hkind⟩ := hK.1.1 ci _ hc
  obtain ⟨cf, kf, fi, f, hi, hsl⟩ := hSl k hk
  have hlay := hts _ (hin _ (u_in_lay hk))
  unfold u_lay at hlay
  rw [if_neg (by rw [hfin]; decide)] at hlay
  have hst := (u_facts hfc hkC (u_lays hts hin hk) hi).1
  have h6 := u_store hfc hkC hkind hlay hi (hty k hk) hn hfit
  subst hsame
  refine W.putK hx hb (f := f) ⟨ho, hts _ hlink, ⟨_, _, _, hi⟩, hst⟩ (by rw [q2]; exact h6) q1 q3 (by rw [hsl]; exact k2_hasslot (q4 k hk)) rfl rfl hdg fun H' e1 e2 e3 => ?_
  rw [hsl] at e1 ⊢
  exact kk H' _ ⟨_, hc, t_OB.to (V := updV (vp_V fs) k v) ⟨_, e1, q2, q3, t_set q4 hap hk v⟩ (fun j _ => vp_updV_set hl v j)⟩ e2 e3 (hS.put e2 e3 hA)
theorem ps_putF (X : ps_X p E s m args meth c cc nL ret own H0 nm) (hin : ∀ w ∈ u_ws C T N, w ∈ lw_all) {ty0 : Nat → FieldType} (hty : ∀ k, k < N → parseFieldDescriptor (T k).2.2.1 = some (ty0 k)) (hnm2 : ∀ a, a < N → ∀ b, b < N → a ≠ b → (T a).2.1 ≠ (T b).2.1) (hc : ps_CL[ci]? = some (C, T, N)) (k : Nat) (hk : k < N) (hlink : Cond.fieldLink own idx ref (T k).2.1 (T k).2.2.1 ∈ lw_all) (hsame : ref = (T k).1) (hfin : (T k).2.2.2 = true) (hin2 : nm = "<init>") (hdecl : (T k).1 = own)
    (hn : narrow (ty0 k) v = v) (hfit : fits (ty0 k) v = true) (hl : k < fs.length) (hat : va_at E.1 ps_CL (a, .inr (ci, fs)) H) (hA : ps_A E a) (hS : va_S (ps_A E) s.heap H locs) (hdg : decode cc pc = .ok (.putfield idx, 3))
    (kk : ∀ (H1 : Heap) (locs1 : List Loc), va_at E.1 ps_CL (a, .inr (ci, fs.set k v)) H1 → H1.size = H.size → (∀ q : Nat, q ≠ a → H1[q]? = H[q]?) → va_S (ps_A E) s.heap H1 locs1 → W p l e R s m args below meth c H1 locs1 cells slots Q (F0 m (pc + 3) ls rest)) : W p l e R s m args below meth c H locs cells slots Q (F0 m pc ls (v :: .ref a :: rest)) := by
  obtain ⟨hx, hb, hml, ho, hts, hlk, hr, hK, hh, hnm⟩ := X
  have hap := va_apart (own := own) hts hin ty0 hty hnm2 hK.1 hc
  obtain ⟨r, h1, cell, q1, q2, q3, q4⟩ := hat
  have hr : r = (C, T, N) := Option.some.inj (h1.symm.trans hc)
  subst hr
  obtain ⟨hSl, hfc, kC, hkC, hkind⟩ := hK.1.1 ci _ hc
  obtain ⟨cf, kf, fi, f, hi, hsl⟩ := hSl k hk
  have hlay := hts _ (hin _ (u_in_lay hk))
  unfold u_lay at hlay
  rw [if_pos hfin] at hlay
  have hst := (u_facts hfc hkC (u_lays hts hin hk) hi).1
  have hcf : m.cls = cf := by
    obtain ⟨_, _, c', _, _, _, -, -, hf', -, -, -, hown2, -⟩ := Cond.laysFinal_spec hlay
    have e1 : c' = cf := by have := hi.symm.trans hf'; simp at this; exact this.1.symm
    rw [hdecl] at hown2
    rw [← e1]; exact Option.some.inj (ho.symm.trans hown2)
  have h6 := u_fits hfc hkC hkind (Or.inr hlay) hi (hty k hk) hn hfit
  subst hsame
  refine W.putFinK hx hb ho (hts _ hlink) hi hst hcf (by rw [hnm, hin2]) (by rw [q2]; exact h6) q1 q3 (by rw [hsl]; exact k2_hasslot (q4 k hk)) rfl rfl hdg fun H' e1 e2 e3 => ?_
  rw [hsl] at e1 ⊢
  exact kk H' _ ⟨_, hc, t_OB.to (V := updV (vp_V fs) k v) ⟨_, e1, q2, q3, t_set q4 hap hk v⟩ (fun j _ => vp_updV_set hl v j)⟩ e2 e3 (hS.put e2 e3 hA)
theorem ps_new (X : ps_X p E s m args meth c cc nL ret own H0 nm) (hin : ∀ w ∈ u_ws C T N, w ∈ lw_all) {ty : Nat → FieldType} (hty : ∀ k, k < N → parseFieldDescriptor (T k).2.2.1 = some (ty k)) (hcl : Cond.classLink own idx C ∈ lw_all) (hinst : Cond.instantiable C N ∈ lw_all) (hini : Cond.initialized C ∈ lw_all) (hc : ps_CL[ci]? = some (C, T, N)) (hfs : ∀ j, j < N → defaultValue (ty j) = vp_V fs j) (hcs : cells + 1 ≤ R.cells ∧ slots + N ≤ R.slots) (hS : va_S (ps_A E) s.heap H locs) (hdg : decode cc pc = .ok (.new idx, 3))
    (kk : ∀ H1 : Heap, va_at E.1 ps_CL (H.size, .inr (ci, fs)) H1 → H1.size = H.size + 1 → (∀ q : Nat, q < H.size → H1[q]? = H[q]?) → va_S (ps_A E) s.heap H1 locs → W p l e R s m args below meth c H1 locs (cells + 1) (slots + N) Q (F0 m (pc + 3) ls (.ref H.size :: rest))) : W p l e R s m args below meth c H locs cells slots Q (F0 m pc ls rest) := by
  obtain ⟨hx, hb, hml, ho, hts, hlk, hr, hK, hh, hnm⟩ := X
  have hKn := hK.1.1 ci _ hc
  refine W.newcK hx hb ho (hts _ hcl) (hts _ hinst) (hts _ hini) rfl hdg hcs.1 hcs.2 hKn.2.1 rfl fun H1 kC hkC e1 z1 o1 => ?_
  exact kk H1 ⟨_, hc, (u_born ty hts hin hKn hkC e1 hty).to hfs⟩ z1 o1 ⟨Nat.le_trans hS.1 (by omega), fun x h1 h2 => (o1 x (Nat.lt_of_lt_of_le h1 hS.1)).trans (hS.2.1 x h1 h2), hS.2.2⟩
-- arrays of ints
variable {n j t : Nat} {f : Nat → Int32} {x i : Int32}
theorem ps_inI (hi : i = nI j) (hj : j < n) (hn : n ≤ 2147483647) : vp_in i n ∧ i.toNatClampNeg = j := by
  subst hi
  exact ⟨vp_in_nI hj (by omega), nI_clamp (by omega)⟩
theorem ps_iald (X : ps_X p E s m args meth c cc nL ret own H0 nm) (hat : va_at E.1 ps_CL (a, .inl (E.2.1 0, n, .inl f)) H) (hi : i = nI j) (hj : j < n) (hn : n ≤ 2147483647) (hdg : decode cc pc = .ok (.iaload, 1))
    (kk : W p l e R s m args below meth c H locs cells slots Q (F0 m (pc + 1) ls (.int (f j) :: rest))) : W p l e R s m args below meth c H locs cells slots Q (F0 m pc ls (.int i :: .ref a :: rest)) := by
  obtain ⟨hx, hb, hml, ho, hts, hlk, hr, hK, hh, hnm⟩ := X
  obtain ⟨h1, h2⟩ := ps_inI hi hj hn
  exact va_iald hx hb hK.1 (ps_P1 hat) 0 0 rfl rfl h1 hdg (by rw [h2]; exact kk)
theorem ps_bald (X : ps_X p E s m args meth c cc nL ret own H0 nm) (hat : va_at E.1 ps_CL (a, .inl (E.2.1 1, n, .inl f)) H) (hi : i = nI j) (hj : j < n) (hn : n ≤ 2147483647) (hdg : decode cc pc = .ok (.baload, 1))
    (kk : W p l e R s m args below meth c H locs cells slots Q (F0 m (pc + 1) ls (.int (f j) :: rest))) : W p l e R s m args below meth c H locs cells slots Q (F0 m pc ls (.int i :: .ref a :: rest)) := by
  obtain ⟨hx, hb, hml, ho, hts, hlk, hr, hK, hh, hnm⟩ := X
  obtain ⟨h1, h2⟩ := ps_inI hi hj hn
  exact va_bald hx hb hK.1 (ps_P1 hat) 0 1 rfl rfl h1 hdg (by rw [h2]; exact kk)
theorem ps_sald (X : ps_X p E s m args meth c cc nL ret own H0 nm) (hat : va_at E.1 ps_CL (a, .inl (E.2.1 2, n, .inl f)) H) (hi : i = nI j) (hj : j < n) (hn : n ≤ 2147483647) (hdg : decode cc pc = .ok (.saload, 1))
    (kk : W p l e R s m args below meth c H locs cells slots Q (F0 m (pc + 1) ls (.int (f j) :: rest))) : W p l e R s m args below meth c H locs cells slots Q (F0 m pc ls (.int i :: .ref a :: rest)) := by
  obtain ⟨hx, hb, hml, ho, hts, hlk, hr, hK, hh, hnm⟩ := X
  obtain ⟨h1, h2⟩ := ps_inI hi hj hn
  exact va_sald hx hb hK.1 (ps_P1 hat) 0 2 rfl rfl h1 hdg (by rw [h2]; exact kk)
theorem ps_zald (X : ps_X p E s m args meth c cc nL ret own H0 nm) (hat : va_at E.1 ps_CL (a, .inl (E.2.1 3, n, .inl f)) H) (hi : i = nI j) (hj : j < n) (hn : n ≤ 2147483647) (hdg : decode cc pc = .ok (.baload, 1))
    (kk : W p l e R s m args below meth c H locs cells slots Q (F0 m (pc + 1) ls (.int (f j) :: rest))) : W p l e R s m args below meth c H locs cells slots Q (F0 m pc ls (.int i :: .ref a :: rest)) := by
  obtain ⟨hx, hb, hml, ho, hts, hlk, hr, hK, hh, hnm⟩ := X
  obtain ⟨h1, h2⟩ := ps_inI hi hj hn
  exact va_zald hx hb hK.1 (ps_P1 hat) 0 3 rfl rfl h1 hdg (by rw [h2]; exact kk)
theorem ps_updc {cA : ClassId} {g : Nat → Int32} {y : Int32} (hg : ∀ q, g q = if q = j then y else f q) : arrV cA n (updV (fun q => .int (f q)) j (.int y)) = vp_cell cA (n, .inl g) := by
  rw [vp_cell_i]
  congr 1
  funext q
  by_cases hq : q = j
  · subst hq
    simp [updV, hg]
  · simp [updV, hg, hq]
theorem ps_iast (X : ps_X p E s m args meth c cc nL ret own H0 nm) (hat : va_at E.1 ps_CL (a, .inl (E.2.1 0, n, .inl f)) H) (hi : i = nI j) (hj : j < n) (hn : n ≤ 2147483647) (hA : ps_A E a) (hS : va_S (ps_A E) s.heap H locs) (hdg : decode cc pc = .ok (.iastore, 1))
    (kk : ∀ (H1 : Heap) (locs1 : List Loc), va_at E.1 ps_CL (a, .inl (E.2.1 0, n, .inl (upd f j x))) H1 → H1.size = H.size → (∀ q : Nat, q ≠ a → H1[q]? = H[q]?) → va_S (ps_A E) s.heap H1 locs1 → W p l e R s m args below meth c H1 locs1 cells slots Q (F0 m (pc + 1) ls rest)) : W p l e R s m args below meth c H locs cells slots Q (F0 m pc ls (.int x :: .int i :: .ref a :: rest)) := by
  obtain ⟨hx, hb, hml, ho, hts, hlk, hr, hK, hh, hnm⟩ := X
  obtain ⟨h1, h2⟩ := ps_inI hi hj hn
  refine W.iast hx hb hat ((hK.1.2 0 _ rfl).1 n (fun j => .int (f j))) (fun q => by cases q) (by show ¬ (i < 0 ∨ (arrV _ _ _).slots.size ≤ _); rw [arrV_size]; exact h1) rfl rfl hdg fun H1 e z oq => ?_
  refine kk H1 _ ?_ z oq (hS.put z oq hA)
  show H1[a]? = some (vp_cell _ _)
  rw [e, vp_cell_i, arrV_store, h2]
  exact congrArg some (ps_updc (fun _ => rfl))
theorem ps_bast (X : ps_X p E s m args meth c cc nL ret own H0 nm) (hat : va_at E.1 ps_CL (a, .inl (E.2.1 1, n, .inl f)) H) (hi : i = nI j) (hj : j < n) (hn : n ≤ 2147483647) (hA : ps_A E a) (hS : va_S (ps_A E) s.heap H locs) (hdg : decode cc pc = .ok (.bastore, 1))
    (kk : ∀ (H1 : Heap) (locs1 : List Loc), va_at E.1 ps_CL (a, .inl (E.2.1 1, n, .inl (upd f j (vp_nar .byte x)))) H1 → H1.size = H.size → (∀ q : Nat, q ≠ a → H1[q]? = H[q]?) → va_S (ps_A E) s.heap H1 locs1 → W p l e R s m args below meth c H1 locs1 cells slots Q (F0 m (pc + 1) ls rest)) : W p l e R s m args below meth c H locs cells slots Q (F0 m pc ls (.int x :: .int i :: .ref a :: rest)) := by
  obtain ⟨hx, hb, hml, ho, hts, hlk, hr, hK, hh, hnm⟩ := X
  obtain ⟨h1, h2⟩ := ps_inI hi hj hn
  refine W.bast hx hb hat ((hK.1.2 1 _ rfl).1 n (fun j => .int (f j))) (fun q => by cases q) (by show ¬ (i < 0 ∨ (arrV _ _ _).slots.size ≤ _); rw [arrV_size]; exact h1) rfl rfl hdg fun H1 e z oq => ?_
  refine kk H1 _ ?_ z oq (hS.put z oq hA)
  show H1[a]? = some (vp_cell _ _)
  rw [e, vp_cell_i, arrV_store, h2]
  exact congrArg some (ps_updc (fun _ => rfl))
theorem ps_sast (X : ps_X p E s m args meth c cc nL ret own H0 nm) (hat : va_at E.1 ps_CL (a, .inl (E.2.1 2, n, .inl f)) H) (hi : i = nI j) (hj : j < n) (hn : n ≤ 2147483647) (hA : ps_A E a) (hS : va_S (ps_A E) s.heap H locs) (hdg : decode cc pc = .ok (.sastore, 1))
    (kk : ∀ (H1 : Heap) (locs1 : List Loc), va_at E.1 ps_CL (a, .inl (E.2.1 2, n, .inl (upd f j (vp_nar .short x)))) H1 → H1.size = H.size → (∀ q : Nat, q ≠ a → H1[q]? = H[q]?) → va_S (ps_A E) s.heap H1 locs1 → W p l e R s m args below meth c H1 locs1 cells slots Q (F0 m (pc + 1) ls rest)) : W p l e R s m args below meth c H locs cells slots Q (F0 m pc ls (.int x :: .int i :: .ref a :: rest)) := by
  obtain ⟨hx, hb, hml, ho, hts, hlk, hr, hK, hh, hnm⟩ := X
  obtain ⟨h1, h2⟩ := ps_inI hi hj hn
  refine W.sast hx hb hat ((hK.1.2 2 _ rfl).1 n (fun j => .int (f j))) (fun q => by cases q) (by show ¬ (i < 0 ∨ (arrV _ _ _).slots.size ≤ _); rw [arrV_size]; exact h1) rfl rfl hdg fun H1 e z oq => ?_
  refine kk H1 _ ?_ z oq (hS.put z oq hA)
  show H1[a]? = some (vp_cell _ _)
  rw [e, vp_cell_i, arrV_store, h2]
  exact congrArg some (ps_updc (fun _ => rfl))
theorem ps_zast (X : ps_X p E s m args meth c cc nL ret own H0 nm) (hat : va_at E.1 ps_CL (a, .inl (E.2.1 3, n, .inl f)) H) (hi : i = nI j) (hj : j < n) (hn : n ≤ 2147483647) (hA : ps_A E a) (hS : va_S (ps_A E) s.heap H locs) (hdg : decode cc pc = .ok (.bastore, 1))
    (kk : ∀ (H1 : Heap) (locs1 : List Loc), va_at E.1 ps_CL (a, .inl (E.2.1 3, n, .inl (upd f j (vp_nar .boolean x)))) H1 → H1.size = H.size → (∀ q : Nat, q ≠ a → H1[q]? = H[q]?) → va_S (ps_A E) s.heap H1 locs1 → W p l e R s m args below meth c H1 locs1 cells slots Q (F0 m (pc + 1) ls rest)) : W p l e R s m args below meth c H locs cells slots Q (F0 m pc ls (.int x :: .int i :: .ref a :: rest)) := by
  obtain ⟨hx, hb, hml, ho, hts, hlk, hr, hK, hh, hnm⟩ := X
  obtain ⟨h1, h2⟩ := ps_inI hi hj hn
  refine W.zast hx hb hat ((hK.1.2 3 _ rfl).1 n (fun j => .int (f j))) (fun q => by cases q) (by show ¬ (i < 0 ∨ (arrV _ _ _).slots.size ≤ _); rw [arrV_size]; exact h1) rfl rfl hdg fun H1 e z oq => ?_
  refine kk H1 _ ?_ z oq (hS.put z oq hA)
  show H1[a]? = some (vp_cell _ _)
  rw [e, vp_cell_i, arrV_store, h2]
  exact congrArg some (ps_updc (fun _ => rfl))
theorem ps_alen {a0 : vp_A} {ty : FieldType} (X : ps_X p E s m args meth c cc nL ret own H0 nm) (hty : (ps_TY E.2.1)[t]? = some (E.2.1 t, ty)) (hat : va_at E.1 ps_CL (a, .inl (E.2.1 t, a0)) H) (hn : a0.1 = n) (hdg : decode cc pc = .ok (.arraylength, 1))
    (kk : W p l e R s m args below meth c H locs cells slots Q (F0 m (pc + 1) ls (.int (nI n) :: rest))) : W p l e R s m args below meth c H locs cells slots Q (F0 m pc ls (.ref a :: rest)) := by
  obtain ⟨hx, hb, hml, ho, hts, hlk, hr, hK, hh, hnm⟩ := X
  exact va_alen (v := nI n) hx hb hK.1 (ps_P1 hat) 0 t rfl hty (by rw [hn]; rfl) hdg kk
-- new arrays of primitives
theorem ps_newP {atype : ArrayType} {ty : FieldType} (X : ps_X p E s m args meth c cc nL ret own H0 nm) (harr : Cond.arrayClass (newarray.typeOf atype) ∈ lw_all) (hty : (ps_TY E.2.1)[t]? = some (E.2.1 t, ty)) (hta : newarray.typeOf atype = ty) (hd : defaultValue ty = .int 0) (hra : ∀ U cA, va_RA U cA ty → U.vm.findClass ("[" ++ ty.toString) = some cA) (hi : i = nI n) (hn : n * componentBytes ty ≤ 536870912) (hn2 : n ≤ 2147483647) (hcs : cells + 1 ≤ R.cells ∧ slots + n ≤ R.slots) (hS : va_S (ps_A E) s.heap H locs) (hdg : decode cc pc = .ok (.newarray atype, 2))
    (kk : ∀ H1 : Heap, va_at E.1 ps_CL (H.size, .inl (E.2.1 t, n, .inl (fun _ => 0))) H1 → H1.size = H.size + 1 → (∀ q : Nat, q < H.size → H1[q]? = H[q]?) → va_S (ps_A E) s.heap H1 locs → W p l e R s m args below meth c H1 locs (cells + 1) (slots + n) Q (F0 m (pc + 2) ls (.ref H.size :: rest))) : W p l e R s m args below meth c H locs cells slots Q (F0 m pc ls (.int i :: rest)) := by
  obtain ⟨hx, hb, hml, ho, hts, hlk, hr, hK, hh, hnm⟩ := X
  subst hi
  have hc1 : (nI n).toNatClampNeg = n := nI_clamp (by omega)
  refine va_newaK hx hb (hts _ harr) rfl hdg rfl (nI_pos (by omega)) hc1 (by rw [hta]; exact hn) hcs.1 hcs.2 rfl fun H1 cA e1 z1 o1 hAr hNm => ?_
  have hcA : cA = E.2.1 t := by
    have h2 := hra s _ (hK.1.2 t _ hty).2
    rw [hta] at hNm
    exact Option.some.inj (hNm.symm.trans h2)
  rw [hta, hd, hcA] at e1
  exact kk H1 e1 z1 o1 ⟨Nat.le_trans hS.1 (by omega), fun x h1 h2 => (o1 x (Nat.lt_of_lt_of_le h1 hS.1)).trans (hS.2.1 x h1 h2), hS.2.2⟩
-- a value, seen otherwise
theorem ps_top {x y : Int32} (h : x = y) (k : W p l e R s m args below meth c H locs cells slots Q (F0 m pc ls (.int y :: rest))) : W p l e R s m args below meth c H locs cells slots Q (F0 m pc ls (.int x :: rest)) := by rw [h]; exact k
theorem ps_st {st st' : List Value} (h : st = st') (k : W p l e R s m args below meth c H locs cells slots Q (F0 m pc ls st')) : W p l e R s m args below meth c H locs cells slots Q (F0 m pc ls st) := by rw [h]; exact k
theorem ps_lv {l1 l2 : List (Nat × Value)} (h : lv_has ls nL l1) (e : l1 = l2) : lv_has ls nL l2 := e ▸ h
end PSM
