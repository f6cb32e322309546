/-! ps_: throws in rows, and handlers -/
set_option maxRecDepth 100000
section PSXQ
variable {p : Program} {l : Launch} {e : Env} {R : Room} {s : State} {m : MethodId} {args : Array Value} {below : List Frame} {meth : Method} {c : Code} {H : Heap} {locs : List Loc} {cells slots : Nat} {Q : State → Prop}
variable {E : ps_E} {cc : ByteArray} {nL : Nat} {ret : Option FieldType} {own nm : String} {H0 : Heap} {pc idx : Nat} {ls : Array Slot} {rest st : List Value} {z : Nat}
variable {n a : Nat} {i x : Int32} {f : Nat → Int32} {hh : List (Nat × Nat × Nat × Nat)}
theorem ps_oob (X : ps_X p E s m args meth c cc nL ret own H0 nm) (hZ : ps_Zk E z) (hX : ps_Zx E) (hLT : l.stackTraces = false) (hn : n < 2 ^ 31) (hS : va_S (ps_A E) s.heap H locs) (hl : ls.size = nL) (hR : (8 ≤ R.frames ∧ 10260 ≤ R.locals) ∧ cells + 3 ≤ R.cells ∧ slots + 222 ≤ R.slots) (hcat : (rest.map fun v => v.category).sum ≤ 8)
    (k : ps_kM p l e R s m args below meth c H locs (cells + 3) (slots + 222) Q E pc ls rest ps_nI) : ∀ tx : String, tx = (toString "Index " ++ toString i ++ toString " out of bounds for length " ++ toString n : String) → vx_Note p l e R s m args below meth c H locs cells slots Q (F0 m pc ls rest) ps_nI tx := by
  intro tx htx
  subst htx
  exact ps_vm (names := ps_uI) (nb := 212) X hZ hX hLT ps_aI ps_oI (by decide) (by decide) (by decide) (index_text_modelled i n) (index_text_bytes i hn) (by decide) hS hl (by decide) hR hcat k
theorem ps_ialdZ (X : ps_X p E s m args meth c cc nL ret own H0 nm) (hZ : ps_Zk E z) (hX : ps_Zx E) (hLT : l.stackTraces = false) (hat : va_at E.1 ps_CL (a, .inl (E.2.1 0, n, .inl f)) H) (hn : n < 2 ^ 31) (hout : ¬ vp_in i n) (hS : va_S (ps_A E) s.heap H locs) (hl : ls.size = nL) (hR : (8 ≤ R.frames ∧ 10260 ≤ R.locals) ∧ cells + 3 ≤ R.cells ∧ slots + 222 ≤ R.slots) (hcat : (rest.map fun v => v.category).sum ≤ 8) (hdg : decode cc pc = .ok (.iaload, 1))
    (k : ps_kM p l e R s m args below meth c H locs (cells + 3) (slots + 222) Q E pc ls rest ps_nI) : W p l e R s m args below meth c H locs cells slots Q (F0 m pc ls (.int i :: .ref a :: rest)) :=
  vx_ialdZ X.1 X.2.1 X.2.2.2.2.2.2.2.1.1 (ps_P1 hat) 0 0 rfl rfl hout hdg (ps_oob X hZ hX hLT hn hS hl hR hcat k)
theorem ps_baldZ (X : ps_X p E s m args meth c cc nL ret own H0 nm) (hZ : ps_Zk E z) (hX : ps_Zx E) (hLT : l.stackTraces = false) (hat : va_at E.1 ps_CL (a, .inl (E.2.1 1, n, .inl f)) H) (hn : n < 2 ^ 31) (hout : ¬ vp_in i n) (hS : va_S (ps_A E) s.heap H locs) (hl : ls.size = nL) (hR : (8 ≤ R.frames ∧ 10260 ≤ R.locals) ∧ cells + 3 ≤ R.cells ∧ slots + 222 ≤ R.slots) (hcat : (rest.map fun v => v.category).sum ≤ 8) (hdg : decode cc pc = .ok (.baload, 1))
    (k : ps_kM p l e R s m args below meth c H locs (cells + 3) (slots + 222) Q E pc ls rest ps_nI) : W p l e R s m args below meth c H locs cells slots Q (F0 m pc ls (.int i :: .ref a :: rest)) :=
  vx_baldZ X.1 X.2.1 X.2.2.2.2.2.2.2.1.1 (ps_P1 hat) 0 1 rfl rfl hout hdg (ps_oob X hZ hX hLT hn hS hl hR hcat k)
theorem ps_saldZ (X : ps_X p E s m args meth c cc nL ret own H0 nm) (hZ : ps_Zk E z) (hX : ps_Zx E) (hLT : l.stackTraces = false) (hat : va_at E.1 ps_CL (a, .inl (E.2.1 2, n, .inl f)) H) (hn : n < 2 ^ 31) (hout : ¬ vp_in i n) (hS : va_S (ps_A E) s.heap H locs) (hl : ls.size = nL) (hR : (8 ≤ R.frames ∧ 10260 ≤ R.locals) ∧ cells + 3 ≤ R.cells ∧ slots + 222 ≤ R.slots) (hcat : (rest.map fun v => v.category).sum ≤ 8) (hdg : decode cc pc = .ok (.saload, 1))
    (k : ps_kM p l e R s m args below meth c H locs (cells + 3) (slots + 222) Q E pc ls rest ps_nI) : W p l e R s m args below meth c H locs cells slots Q (F0 m pc ls (.int i :: .ref a :: rest)) :=
  vx_saldZ X.1 X.2.1 X.2.2.2.2.2.2.2.1.1 (ps_P1 hat) 0 2 rfl rfl hout hdg (ps_oob X hZ hX hLT hn hS hl hR hcat k)
theorem ps_iastZ (X : ps_X p E s m args meth c cc nL ret own H0 nm) (hZ : ps_Zk E z) (hX : ps_Zx E) (hLT : l.stackTraces = false) (hat : va_at E.1 ps_CL (a, .inl (E.2.1 0, n, .inl f)) H) (hn : n < 2 ^ 31) (hout : ¬ vp_in i n) (hS : va_S (ps_A E) s.heap H locs) (hl : ls.size = nL) (hR : (8 ≤ R.frames ∧ 10260 ≤ R.locals) ∧ cells + 3 ≤ R.cells ∧ slots + 222 ≤ R.slots) (hcat : (rest.map fun v => v.category).sum ≤ 8) (hdg : decode cc pc = .ok (.iastore, 1))
    (k : ps_kM p l e R s m args below meth c H locs (cells + 3) (slots + 222) Q E pc ls rest ps_nI) : W p l e R s m args below meth c H locs cells slots Q (F0 m pc ls (.int x :: .int i :: .ref a :: rest)) :=
  vx_iastZ X.1 X.2.1 X.2.2.2.2.2.2.2.1.1 (ps_P1 hat) 0 0 rfl rfl hout hdg (ps_oob X hZ hX hLT hn hS hl hR hcat k)
theorem ps_bastZ (X : ps_X p E s m args meth c cc nL ret own H0 nm) (hZ : ps_Zk E z) (hX : ps_Zx E) (hLT : l.stackTraces = false) (hat : va_at E.1 ps_CL (a, .inl (E.2.1 1, n, .inl f)) H) (hn : n < 2 ^ 31) (hout : ¬ vp_in i n) (hS : va_S (ps_A E) s.heap H locs) (hl : ls.size = nL) (hR : (8 ≤ R.frames ∧ 10260 ≤ R.locals) ∧ cells + 3 ≤ R.cells ∧ slots + 222 ≤ R.slots) (hcat : (rest.map fun v => v.category).sum ≤ 8) (hdg : decode cc pc = .ok (.bastore, 1))
    (k : ps_kM p l e R s m args below meth c H locs (cells + 3) (slots + 222) Q E pc ls rest ps_nI) : W p l e R s m args below meth c H locs cells slots Q (F0 m pc ls (.int x :: .int i :: .ref a :: rest)) :=
  vx_bastZ X.1 X.2.1 X.2.2.2.2.2.2.2.1.1 (ps_P1 hat) 0 1 rfl rfl hout hdg (ps_oob X hZ hX hLT hn hS hl hR hcat k)
theorem ps_sastZ (X : ps_X p E s m args meth c cc nL ret own H0 nm) (hZ : ps_Zk E z) (hX : ps_Zx E) (hLT : l.stackTraces = false) (hat : va_at E.1 ps_CL (a, .inl (E.2.1 2, n, .inl f)) H) (hn : n < 2 ^ 31) (hout : ¬ vp_in i n) (hS : va_S (ps_A E) s.heap H locs) (hl : ls.size = nL) (hR : (8 ≤ R.frames ∧ 10260 ≤ R.locals) ∧ cells + 3 ≤ R.cells ∧ slots + 222 ≤ R.slots) (hcat : (rest.map fun v => v.category).sum ≤ 8) (hdg : decode cc pc = .ok (.sastore, 1))
    (k : ps_kM p l e R s m args below meth c H locs (cells + 3) (slots + 222) Q E pc ls rest ps_nI) : W p l e R s m args below meth c H locs cells slots Q (F0 m pc ls (.int x :: .int i :: .ref a :: rest)) :=
  vx_sastZ X.1 X.2.1 X.2.2.2.2.2.2.2.1.1 (ps_P1 hat) 0 2 rfl rfl hout hdg (ps_oob X hZ hX hLT hn hS hl hR hcat k)
/-- caught by a row of this method's table -/
theorem ps_catch {N name : String} {q : Addr} {ce : Cell} {pre suf : List (Nat × Nat × Nat × Nat)} {r : Nat × Nat × Nat × Nat} (X : ps_X p E s m args meth c cc nL ret own H0 nm) (hZ : ps_Zk E z) (hX : ps_Zx E) (ht : c.exceptionTable.toList = tableOf hh) (hk : hh = pre ++ r :: suf)
    (hpass : ∀ y ∈ pre, ¬ (y.1 ≤ pc ∧ pc < y.2.1) ∨ (y.2.2.2 ≠ 0 ∧ ∃ nn : String, Cond.classLink own y.2.2.2 nn ∈ lw_all ∧ (N, nn) ∈ ps_ncs)) (hin : r.1 ≤ pc ∧ pc < r.2.1) (h0 : r.2.2.2 ≠ 0) (hlink : Cond.classLink own r.2.2.2 name ∈ lw_all) (hcast : Cond.castable N name ∈ lw_tbl)
    (hce : H[q]? = some ce) (hcv : ce.vm = .none) (hcl : s.vm.findClass N = some ce.cls) (kk : W p l e R s m args below meth c H locs cells slots Q (F0 m r.2.2.1 ls [.ref q])) : vx_W p l e R s m args below meth c H locs cells slots Q (F0 m pc ls rest) q := by
  have hcs := X.nw hZ hcast rfl
  obtain ⟨hx, hb, hml, ho, hts, hlk, hr, hK, hh9, hnm⟩ := X
  refine vx_catch (own := own) (name := name) (E := N) ho (tableOf pre) ⟨r.1, r.2.1, r.2.2.1, r.2.2.2⟩ (tableOf suf) (by rw [ht, hk]; simp [tableOf]) (fun y hy => ?_) (by simp [covers, hin.1, hin.2]) h0 (hts _ hlink) (va_Nw.use rfl hcs) hce hcv hcl kk
  obtain ⟨w, hw, rfl⟩ := List.mem_map.mp hy
  rcases hpass w hw with h | ⟨h1, nn, h2, h3⟩
  · refine Or.inl ?_
    simp only [covers, Bool.and_eq_false_iff, decide_eq_false_iff_not]
    by_cases q1 : w.1 ≤ pc
    · exact Or.inr (fun q2 => h ⟨q1, q2⟩)
    · exact Or.inl q1
  · exact Or.inr ⟨h1, nn, hts _ h2, (hX s hK.2).1 _ h3⟩
end PSXQ
