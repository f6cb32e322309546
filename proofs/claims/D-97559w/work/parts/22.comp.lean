/-! ps_: the component's objects: promises, scales -/
set_option maxRecDepth 100000
/-- a promise: kind, number, likely, giver, deed, day -/
abbrev ps_pr (kd n lk gv dd dy : Nat) : va_E := .inr (kd + 6, [.int (nI n), .int (nI lk), .int (nI gv), .int (nI dd), .int (nI dy)])
/-- the class of a promise by its kind -/
def ps_pc : Nat → String := fun k => match k with
  | 1 => RX8
  | 2 => RX9
  | 3 => RX10
  | 4 => RX11
  | _ => RX12
/-- the scales at q: what they are (σ), the list's count of changes, its array, the promises, the arrays -/
def ps_Sd (E : ps_E) (z : Nat) (Γ : ps_Gh) (q : Nat) (σ : Nat → Nat) (mc : Int32) (r : Nat) (pf : Nat → Nat) (kf tf : Nat → Int32) (df : Nat → Option Nat) : Prop :=
  Γ q = some (.inr (2, [.int (nI (σ 0)), .int (nI (σ 1)), .int (nI (σ 2)), .ref (q + 1), .ref (q + 2), .ref (q + 3), .int (nI (σ 4))])) ∧
  Γ (q + 1) = some (.inl (E.2.1 0, 4, .inl kf)) ∧ (∀ g, g < 4 → kf g = nI (σ (5 + g))) ∧
  Γ (q + 2) = some (.inr (13, [.int mc, .ref r, .int (nI (σ 3))])) ∧
  Γ (q + 3) = some (.inl (E.2.1 0, 8, .inl tf)) ∧ (∀ p, p < 8 → tf p = nI (σ (49 + p))) ∧
  ((r = z ∧ σ 3 = 0) ∨ Γ r = some (ps_q (E.2.1 6) 10 df)) ∧ (∀ p, p < σ 3 → df p = some (pf p)) ∧
  ∀ p, p < σ 3 → Γ (pf p) = some (ps_pr (σ (9 + p)) p (σ (41 + p)) (σ (17 + p)) (σ (25 + p)) (σ (33 + p)))
def ps_Sc (E : ps_E) (z : Nat) (Γ : ps_Gh) (q : Nat) (σ : Nat → Nat) : Prop := ∃ mc r pf kf tf df, ps_Sd E z Γ q σ mc r pf kf tf df
section PSCo
variable {p : Program} {l : Launch} {e : Env} {R : Room} {s : State} {m : MethodId} {args : Array Value} {below : List Frame} {meth : Method} {c : Code} {H : Heap} {locs : List Loc} {cells slots : Nat} {Q : State → Prop}
variable {E : ps_E} {cc : ByteArray} {nL : Nat} {ret : Option FieldType} {own nm : String} {H0 : Heap} {pc : Nat} {ls : Array Slot} {rest st : List Value} {z : Nat}
variable {idx a n kd : Nat} {fs : List Value}
theorem ps_prc (X : ps_X p E s m args meth c cc nL ret own H0 nm) (hk : 1 ≤ kd ∧ kd ≤ 5) (hat : va_at E.1 ps_CL (a, .inr (kd + 6, fs)) H) : ps_recv s H a (ps_pc kd) := by
  obtain ⟨h1, h2⟩ := hk
  obtain rfl | rfl | rfl | rfl | rfl : kd = 1 ∨ kd = 2 ∨ kd = 3 ∨ kd = 4 ∨ kd = 5 := by omega
  · exact ps_rc X (ci := 7) rfl hat
  · exact ps_rc X (ci := 8) rfl hat
  · exact ps_rc X (ci := 9) rfl hat
  · exact ps_rc X (ci := 10) rfl hat
  · exact ps_rc X (ci := 11) rfl hat
/-- a field of a promise, of any kind -/
theorem ps_pget {v : Value} (X : ps_X p E s m args meth c cc nL ret own H0 nm) (hk : 1 ≤ kd ∧ kd ≤ 5) (k : Nat) (hk5 : k < 5) (hlink : Cond.fieldLink own idx (TX8 k).1 (TX8 k).2.1 (TX8 k).2.2.1 ∈ lw_all) (hat : va_at E.1 ps_CL (a, .inr (kd + 6, fs)) H) (hv : fs[k]? = some v) (hdg : decode cc pc = .ok (.getfield idx, 3))
    (kk : W p l e R s m args below meth c H locs cells slots Q (F0 m (pc + 3) ls (v :: rest))) : W p l e R s m args below meth c H locs cells slots Q (F0 m pc ls (.ref a :: rest)) := by
  have e9 : TX9 k = TX8 k := by
    obtain rfl | rfl | rfl | rfl | rfl : k = 0 ∨ k = 1 ∨ k = 2 ∨ k = 3 ∨ k = 4 := by omega
    all_goals rfl
  have e10 : TX10 k = TX8 k := by
    obtain rfl | rfl | rfl | rfl | rfl : k = 0 ∨ k = 1 ∨ k = 2 ∨ k = 3 ∨ k = 4 := by omega
    all_goals rfl
  have e11 : TX11 k = TX8 k := by
    obtain rfl | rfl | rfl | rfl | rfl : k = 0 ∨ k = 1 ∨ k = 2 ∨ k = 3 ∨ k = 4 := by omega
    all_goals rfl
  have e12 : TX12 k = TX8 k := by
    obtain rfl | rfl | rfl | rfl | rfl : k = 0 ∨ k = 1 ∨ k = 2 ∨ k = 3 ∨ k = 4 := by omega
    all_goals rfl
  obtain ⟨h1, h2⟩ := hk
  obtain rfl | rfl | rfl | rfl | rfl : kd = 1 ∨ kd = 2 ∨ kd = 3 ∨ kd = 4 ∨ kd = 5 := by omega
  · exact ps_get X in_X8 (ci := 7) rfl k hk5 hlink rfl hat hv hdg kk
  · exact ps_get X in_X9 (ci := 8) rfl k hk5 (by rw [e9]; exact hlink) (by rw [e9]) hat hv hdg kk
  · exact ps_get X in_X10 (ci := 9) rfl k hk5 (by rw [e10]; exact hlink) (by rw [e10]) hat hv hdg kk
  · exact ps_get X in_X11 (ci := 10) rfl k hk5 (by rw [e11]; exact hlink) (by rw [e11]) hat hv hdg kk
  · exact ps_get X in_X12 (ci := 11) rfl k hk5 (by rw [e12]; exact hlink) (by rw [e12]) hat hv hdg kk
theorem ps_cla (X : ps_X p E s m args meth c cc nL ret own H0 nm) : ∃ cC, ClassAt s "java/util/ArrayList" cC := ⟨_, (X.2.2.2.2.2.2.2.1.1.1 13 _ rfl).2⟩
end PSCo
theorem lw_F {own : String} {idx : Nat} {C : String} {x y : MethodName} {b : ByteArray} {L : Nat} {r : Option FieldType} (h1 : Cond.methodLink own idx x ∈ lw_all) (h2 : Cond.selects C x y ∈ lw_all) (h3 : Cond.instanceMethod y ∈ lw_all) (h4 : Cond.initialized y.cls ∈ lw_all) (h9 : Cond.code y b L r ∈ lw_all) : GoodIn lw_all (va_wsF own idx C x y (ws_ y b L r)) := by
  refine lw_app ?_ (lw_meth h9)
  intro w hw
  simp only [List.mem_cons, List.not_mem_nil, or_false] at hw
  rcases hw with e | e | e | e
  · rw [e]; exact h1
  · rw [e]; exact h2
  · rw [e]; exact h3
  · rw [e]; exact h4
theorem lw_U {own : String} {idx : Nat} {C owner : String} {x y : MethodName} {b : ByteArray} {L : Nat} {r : Option FieldType} (h1 : Cond.methodLink own idx x ∈ lw_all) (h2 : Cond.sameMethod x.cls owner x.name x.desc ∈ lw_all) (h3 : Cond.selects C x y ∈ lw_all) (h4 : Cond.instanceMethod y ∈ lw_all) (h5 : Cond.initialized y.cls ∈ lw_all) (h9 : Cond.code y b L r ∈ lw_all) : GoodIn lw_all (va_wsU own idx C owner x y (ws_ y b L r)) := by
  refine lw_app ?_ (lw_meth h9)
  intro w hw
  simp only [List.mem_cons, List.not_mem_nil, or_false] at hw
  rcases hw with e | e | e | e | e
  · rw [e]; exact h1
  · rw [e]; exact h2
  · rw [e]; exact h3
  · rw [e]; exact h4
  · rw [e]; exact h5
theorem lw_O {own : String} {idx : Nat} {C owner : String} {x y : MethodName} {b : ByteArray} {L : Nat} {r : Option FieldType} (h1 : Cond.methodLink own idx x ∈ lw_all) (h2 : Cond.sameMethod x.cls owner x.name x.desc ∈ lw_all) (h3 : Cond.instanceMethod ⟨owner, x.name, x.desc⟩ ∈ lw_all) (h4 : Cond.selects C x y ∈ lw_all) (h5 : Cond.instanceMethod y ∈ lw_all) (h6 : Cond.initialized y.cls ∈ lw_all) (h9 : Cond.code y b L r ∈ lw_all) : GoodIn lw_all (va_wsO own idx C owner x y (ws_ y b L r)) := by
  refine lw_app ?_ (lw_meth h9)
  intro w hw
  simp only [List.mem_cons, List.not_mem_nil, or_false] at hw
  rcases hw with e | e | e | e | e | e
  · rw [e]; exact h1
  · rw [e]; exact h2
  · rw [e]; exact h3
  · rw [e]; exact h4
  · rw [e]; exact h5
  · rw [e]; exact h6
theorem lw_SU {own : String} {idx : Nat} {y : MethodName} {b : ByteArray} {L : Nat} {r : Option FieldType} (h1 : Cond.methodLink own idx y ∈ lw_all) (h2 : Cond.sameMethod y.cls y.cls y.name y.desc ∈ lw_all) (h3 : Cond.superclass own y.cls ∈ lw_all) (h4 : Cond.instanceMethod y ∈ lw_all) (h5 : Cond.initialized y.cls ∈ lw_all) (h9 : Cond.code y b L r ∈ lw_all) : GoodIn lw_all (va_wsSU own idx y (ws_ y b L r)) := by
  refine lw_app ?_ (lw_meth h9)
  intro w hw
  simp only [List.mem_cons, List.not_mem_nil, or_false] at hw
  rcases hw with e | e | e | e | e
  · rw [e]; exact h1
  · rw [e]; exact h2
  · rw [e]; exact h3
  · rw [e]; exact h4
  · rw [e]; exact h5
theorem ps_castP {p : Program} {l : Launch} {e : Env} {R : Room} {s : State} {m : MethodId} {args : Array Value} {below : List Frame} {meth : Method} {c : Code} {H : Heap} {locs : List Loc} {cells slots : Nat} {Q : State → Prop} {E : ps_E} {cc : ByteArray} {nL : Nat} {ret : Option FieldType} {own nm : String} {H0 : Heap} {pc : Nat} {ls : Array Slot} {rest : List Value} {z idx a kd : Nat} {fs : List Value} (X : ps_X p E s m args meth c cc nL ret own H0 nm) (hZ : ps_Zk E z) (hcl : Cond.classLink own idx "PromiseScales$Promise" ∈ lw_all) (hk : 1 ≤ kd ∧ kd ≤ 5) (hat : va_at E.1 ps_CL (a, .inr (kd + 6, fs)) H) (hdg : decode cc pc = .ok (.checkcast idx, 3))
    (kk : W p l e R s m args below meth c H locs cells slots Q (F0 m (pc + 3) ls (.ref a :: rest))) : W p l e R s m args below meth c H locs cells slots Q (F0 m pc ls (.ref a :: rest)) := by
  obtain ⟨h1, h2⟩ := hk
  obtain rfl | rfl | rfl | rfl | rfl : kd = 1 ∨ kd = 2 ∨ kd = 3 ∨ kd = 4 ∨ kd = 5 := by omega
  · exact ps_cast (C := "PromiseScales$Plain") X hcl (X.nw hZ q1687 rfl) (ps_rc X (ci := 7) rfl hat) hdg kk
  · exact ps_cast (C := "PromiseScales$If") X hcl (X.nw hZ q1685 rfl) (ps_rc X (ci := 8) rfl hat) hdg kk
  · exact ps_cast (C := "PromiseScales$Twice") X hcl (X.nw hZ q1688 rfl) (ps_rc X (ci := 9) rfl hat) hdg kk
  · exact ps_cast (C := "PromiseScales$Oath") X hcl (X.nw hZ q1686 rfl) (ps_rc X (ci := 10) rfl hat) hdg kk
  · exact ps_cast (C := "PromiseScales$About") X hcl (X.nw hZ q1684 rfl) (ps_rc X (ci := 11) rfl hat) hdg kk
section PSMath
variable {p : Program} {l : Launch} {e : Env} {R : Room} {s : State} {m : MethodId} {args : Array Value} {below : List Frame} {meth : Method} {c : Code} {H : Heap} {locs : List Loc} {cells slots : Nat} {Q : State → Prop}
variable {E : ps_E} {cc : ByteArray} {nL : Nat} {ret : Option FieldType} {own nm : String} {H0 : Heap} {pc idx : Nat} {ls : Array Slot} {rest : List Value}
theorem ps_mmaxX {x y : Int32} (X : ps_X p E s m args meth c cc nL ret own H0 nm) (hlink : Cond.methodLink own idx ⟨"java/lang/Math", "max", "(II)I"⟩ ∈ lw_all) (hl : ls.size = nL) (hR : (1 ≤ R.frames ∧ (rest.map fun v => v.category).sum + 13 ≤ R.locals) ∧ cells ≤ R.cells ∧ slots ≤ R.slots) (hdg : decode cc pc = .ok (.invokestatic idx, 3))
    (kk : W p l e R s m args below meth c H locs cells slots Q (F0 m (pc + 3) ls (.int (if x < y then y else x) :: rest))) : W p l e R s m args below meth c H locs cells slots Q (F0 m pc ls (.int y :: .int x :: rest)) := by
  obtain ⟨hx, hb, hml, ho, hts, hlk, hr, hK, hh, hnm⟩ := X
  exact va_mmax hx hb (by rw [hml, hl]) ho (hts _ hlink) (hts _ q585) (hts _ q89) (hts _ q586) hR.1.1 hR.1.2 hR.2.1 hR.2.2 hdg kk
theorem ps_mminX {x y : Int32} (X : ps_X p E s m args meth c cc nL ret own H0 nm) (hlink : Cond.methodLink own idx ⟨"java/lang/Math", "min", "(II)I"⟩ ∈ lw_all) (hl : ls.size = nL) (hR : (1 ≤ R.frames ∧ (rest.map fun v => v.category).sum + 13 ≤ R.locals) ∧ cells ≤ R.cells ∧ slots ≤ R.slots) (hdg : decode cc pc = .ok (.invokestatic idx, 3))
    (kk : W p l e R s m args below meth c H locs cells slots Q (F0 m (pc + 3) ls (.int (if y < x then y else x) :: rest))) : W p l e R s m args below meth c H locs cells slots Q (F0 m pc ls (.int y :: .int x :: rest)) := by
  obtain ⟨hx, hb, hml, ho, hts, hlk, hr, hK, hh, hnm⟩ := X
  exact va_mmin hx hb (by rw [hml, hl]) ho (hts _ hlink) (hts _ q588) (hts _ q89) (hts _ q589) hR.1.1 hR.1.2 hR.2.1 hR.2.2 hdg kk
theorem ps_mmax {u v : Nat} (X : ps_X p E s m args meth c cc nL ret own H0 nm) (hlink : Cond.methodLink own idx ⟨"java/lang/Math", "max", "(II)I"⟩ ∈ lw_all) (hu : u < 2147483648 ∧ v < 2147483648) (hl : ls.size = nL) (hR : (1 ≤ R.frames ∧ (rest.map fun v => v.category).sum + 13 ≤ R.locals) ∧ cells ≤ R.cells ∧ slots ≤ R.slots) (hdg : decode cc pc = .ok (.invokestatic idx, 3))
    (kk : W p l e R s m args below meth c H locs cells slots Q (F0 m (pc + 3) ls (.int (nI (if u < v then v else u)) :: rest))) : W p l e R s m args below meth c H locs cells slots Q (F0 m pc ls (.int (nI v) :: .int (nI u) :: rest)) := by
  refine ps_mmaxX X hlink hl hR hdg ?_
  by_cases q : u < v
  · rw [if_pos ((ps_nlt hu.1 hu.2).mpr q)]; rw [if_pos q] at kk; exact kk
  · rw [if_neg (fun z => q ((ps_nlt hu.1 hu.2).mp z))]; rw [if_neg q] at kk; exact kk
theorem ps_mmin {u v : Nat} (X : ps_X p E s m args meth c cc nL ret own H0 nm) (hlink : Cond.methodLink own idx ⟨"java/lang/Math", "min", "(II)I"⟩ ∈ lw_all) (hu : u < 2147483648 ∧ v < 2147483648) (hl : ls.size = nL) (hR : (1 ≤ R.frames ∧ (rest.map fun v => v.category).sum + 13 ≤ R.locals) ∧ cells ≤ R.cells ∧ slots ≤ R.slots) (hdg : decode cc pc = .ok (.invokestatic idx, 3))
    (kk : W p l e R s m args below meth c H locs cells slots Q (F0 m (pc + 3) ls (.int (nI (if v < u then v else u)) :: rest))) : W p l e R s m args below meth c H locs cells slots Q (F0 m pc ls (.int (nI v) :: .int (nI u) :: rest)) := by
  refine ps_mminX X hlink hl hR hdg ?_
  by_cases q : v < u
  · rw [if_pos ((ps_nlt hu.2 hu.1).mpr q)]; rw [if_pos q] at kk; exact kk
  · rw [if_neg (fun z => q ((ps_nlt hu.2 hu.1).mp z))]; rw [if_neg q] at kk; exact kk
end PSMath
theorem ps_clA {p : Program} {s : State} {m : MethodId} {args : Array Value} {meth : Method} {c : Code} {E : ps_E} {cc : ByteArray} {nL : Nat} {ret : Option FieldType} {own nm : String} {H0 : Heap} {ci : Nat} {r : vw_C} (X : ps_X p E s m args meth c cc nL ret own H0 nm) (hc : ps_CL[ci]? = some r) : ClassAt s r.1 (E.1.1 ci) := (X.2.2.2.2.2.2.2.1.1.1 ci _ hc).2
/-- what the one before weighs, as it is handed over: f: there is none -/
def pr_b (f : Bool) (b : Nat) : Int32 := if f = true then (-1000000) else nI b
def pr_w (kd lk u : Nat) (f : Bool) (b : Nat) : Nat := if kd = 2 then (if f = true then lk * u / 10 else lk * u / 10 * b / 20) else if kd = 3 then (lk * u / 10 + 1) / 2 else if kd = 4 then (if 10 < lk * u / 10 then 20 else 2 * (lk * u / 10)) else if kd = 5 then (if f = true then 20 else 20 - b) else lk * u / 10
theorem sp_as_w {σ : Nat → Nat} {p kind before : Nat} : sp_as σ p kind before = pr_w kind (σ (41 + p)) (σ (5 + σ (17 + p))) (decide (p = 0)) before := by
  unfold sp_as pr_w sp_plain
  by_cases h : p = 0
  · subst h; simp
  · simp [h]
theorem pr_ne {b : Nat} (h : b ≤ 20) : ¬ nI b = -1000000 := fun q => by
  have h1 := congrArg Int32.toInt q
  rw [nI_toInt (by omega), show (-1000000 : Int32).toInt = -1000000 by decide] at h1
  omega
