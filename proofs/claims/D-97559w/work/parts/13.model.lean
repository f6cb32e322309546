/-! ps_: the model's world: its object at m, its twelve arrays at m + 1 .. m + 12 -/
set_option maxRecDepth 100000
abbrev ps_mfs (m : Nat) (F : Nat → Int32) : List Value := [.ref (m + 1), .ref (m + 2), .ref (m + 3), .int (F 3), .int (F 4), .ref (m + 4), .ref (m + 5), .ref (m + 6), .int (F 8), .int (F 9), .int (F 10), .int (F 11), .int (F 12), .int (F 13), .int (F 14), .ref (m + 7), .ref (m + 8), .int (F 17), .ref (m + 9), .int (F 19), .ref (m + 10), .ref (m + 11), .ref (m + 12), .int (F 23)]
/-- an int array of the model, by its number: its length -/
def ps_ml : Nat → Nat := fun k => match k with
  | 1 => 8
  | 2 => 8
  | 3 => 320
  | 4 => 57
  | 5 => 40
  | 6 => 120
  | 7 => 57
  | 8 => 1368
  | 9 => 57
  | 11 => 114
  | 12 => 16
  | _ => 0
def ps_Mo (E : ps_E) (H : Heap) (m : Nat) (F : Nat → Int32) (A : Nat → Nat → Int32) : Prop :=
  ps_A E m ∧ va_at E.1 ps_CL (m, .inr (4, ps_mfs m F)) H ∧ (∀ k, 1 ≤ k → k < 13 → k ≠ 10 → va_at E.1 ps_CL (m + k, .inl (E.2.1 0, ps_ml k, .inl (A k))) H) ∧ va_at E.1 ps_CL (m + 10, .inl (E.2.1 3, 2, .inl (A 10))) H
/-- only the model's cells changed -/
def ps_Mf (m : Nat) (H H1 : Heap) : Prop := H1.size = H.size ∧ ∀ q : Nat, (q < m ∨ m + 13 ≤ q) → H1[q]? = H[q]?
theorem ps_Mf.rf {m : Nat} {H : Heap} : ps_Mf m H H := ⟨rfl, fun _ _ => rfl⟩
theorem ps_Mf.tr {m : Nat} {H H1 H2 : Heap} (h1 : ps_Mf m H H1) (h2 : ps_Mf m H1 H2) : ps_Mf m H H2 := ⟨h2.1.trans h1.1, fun q hq => (h2.2 q hq).trans (h1.2 q hq)⟩
theorem ps_Mf.put {m a : Nat} {H H1 : Heap} (z : H1.size = H.size) (oq : ∀ q : Nat, q ≠ a → H1[q]? = H[q]?) (h1 : m ≤ a) (h2 : a < m + 13) : ps_Mf m H H1 := ⟨z, fun q hq => oq q (by omega)⟩
/-- array k of the model holds the numbers g -/
def ps_Vw (A : Nat → Nat → Int32) (k L : Nat) (g : Nat → Nat) : Prop := ∀ i, i < L → A k i = nI (g i)
theorem ps_Vw.up {A : Nat → Nat → Int32} {k L n v : Nat} {g : Nat → Nat} {x : Int32} (h : ps_Vw A k L g) (hx : x = nI v) : ps_Vw (va_up A k (upd (A k) n x)) k L (va_up g n v) := by
  intro i hi
  rw [va_up_self]
  by_cases e : i = n
  · subst e; rw [pk_us, va_up_self, hx]
  · rw [pk_un e, va_up_ne _ _ e]; exact h i hi
theorem ps_Vw.ne {A : Nat → Nat → Int32} {k j L : Nat} {g : Nat → Nat} {f : Nat → Int32} (h : ps_Vw A k L g) (hk : k ≠ j) : ps_Vw (va_up A j f) k L g := by
  intro i hi
  rw [va_up_ne _ _ hk]; exact h i hi
theorem ps_Mo.kept {E : ps_E} {H H1 : Heap} {m : Nat} {F : Nat → Int32} {A : Nat → Nat → Int32} (h : ps_Mo E H m F A) (hq : ∀ q : Nat, m ≤ q → q < m + 13 → H1[q]? = H[q]?) : ps_Mo E H1 m F A :=
  ⟨h.1, h.2.1.kept (hq m (by omega) (by omega)), fun k h1 h2 h3 => (h.2.2.1 k h1 h2 h3).kept (hq (m + k) (by omega) (by omega)), h.2.2.2.kept (hq (m + 10) (by omega) (by omega))⟩
theorem ps_Mo.lt {E : ps_E} {H : Heap} {m : Nat} {F : Nat → Int32} {A : Nat → Nat → Int32} (h : ps_Mo E H m F A) : m + 12 < H.size := va_at.lt (h.2.2.1 12 (by omega) (by omega) (by omega))
theorem ps_mfs_set {m k : Nat} {F : Nat → Int32} {v : Int32} (hk : k = 3 ∨ k = 4 ∨ (8 ≤ k ∧ k ≤ 14) ∨ k = 17 ∨ k = 19 ∨ k = 23) : (ps_mfs m F).set k (.int v) = ps_mfs m (va_up F k v) := by
  rcases hk with rfl | rfl | ⟨h1, h2⟩ | rfl | rfl | rfl
  · rfl
  · rfl
  · obtain rfl | rfl | rfl | rfl | rfl | rfl | rfl : k = 8 ∨ k = 9 ∨ k = 10 ∨ k = 11 ∨ k = 12 ∨ k = 13 ∨ k = 14 := by omega
    all_goals rfl
  · rfl
  · rfl
  · rfl
section PSK
variable {p : Program} {l : Launch} {e : Env} {R : Room} {s : State} {m : MethodId} {args : Array Value} {below : List Frame} {meth : Method} {c : Code} {H : Heap} {locs : List Loc} {cells slots : Nat} {Q : State → Prop}
variable {E : ps_E} {cc : ByteArray} {nL : Nat} {ret : Option FieldType} {nm : String} {H0 : Heap} {pc : Nat} {ls : Array Slot} {rest : List Value} {o idx : Nat} {F : Nat → Int32} {A : Nat → Nat → Int32}
theorem ps_mrc (X : ps_X p E s m args meth c cc nL ret RX4 H0 nm) (hM : ps_Mo E H o F A) : ps_recv s H o RX4 := ps_rc X (ci := 4) rfl hM.2.1
/-- getfield of the model -/
theorem ps_mget {v : Value} (X : ps_X p E s m args meth c cc nL ret RX4 H0 nm) (hM : ps_Mo E H o F A) (k : Nat) (hk : k < 24) (hlink : Cond.fieldLink RX4 idx RX4 (TX4 k).2.1 (TX4 k).2.2.1 ∈ lw_all) (hsame : RX4 = (TX4 k).1) (hv : (ps_mfs o F)[k]? = some v) (hdg : decode cc pc = .ok (.getfield idx, 3))
    (kk : W p l e R s m args below meth c H locs cells slots Q (F0 m (pc + 3) ls (v :: rest))) : W p l e R s m args below meth c H locs cells slots Q (F0 m pc ls (.ref o :: rest)) :=
  ps_get X in_X4 (ci := 4) rfl k hk hlink hsame hM.2.1 hv hdg kk
/-- putfield of an int of the model -/
theorem ps_mput {v : Int32} (X : ps_X p E s m args meth c cc nL ret RX4 H0 nm) (hM : ps_Mo E H o F A) (k : Nat) (hk : k = 3 ∨ k = 4 ∨ (8 ≤ k ∧ k ≤ 14) ∨ k = 17 ∨ k = 19 ∨ k = 23) (hlink : Cond.fieldLink RX4 idx RX4 (TX4 k).2.1 (TX4 k).2.2.1 ∈ lw_all) (hsame : RX4 = (TX4 k).1) (hfin : (TX4 k).2.2.2 = false) (hn : narrow (tyX4 k) (.int v) = .int v) (hfit : fits (tyX4 k) (.int v) = true) (hS : va_S (ps_A E) s.heap H locs) (hdg : decode cc pc = .ok (.putfield idx, 3))
    (kk : ∀ (H1 : Heap) (locs1 : List Loc), ps_Mo E H1 o (va_up F k v) A → ps_Mf o H H1 → va_S (ps_A E) s.heap H1 locs1 → W p l e R s m args below meth c H1 locs1 cells slots Q (F0 m (pc + 3) ls rest)) : W p l e R s m args below meth c H locs cells slots Q (F0 m pc ls (.int v :: .ref o :: rest)) := by
  refine ps_put X in_X4 tyX4_ok nmX4 (ci := 4) rfl k (by omega) hlink hsame hfin hn hfit (by show k < 24; omega) hM.2.1 hM.1 hS hdg (fun H1 locs1 h1 z oq hS1 => ?_)
  rw [ps_mfs_set hk] at h1
  exact kk H1 locs1 ⟨hM.1, h1, fun k h2 h3 h4 => (hM.2.2.1 k h2 h3 h4).kept (oq _ (by simp; omega)), hM.2.2.2.kept (oq _ (by simp))⟩ (ps_Mf.put z oq (by omega) (by omega)) hS1
/-- a load of an int array of the model -/
theorem ps_mld {i v : Int32} {j : Nat} (X : ps_X p E s m args meth c cc nL ret RX4 H0 nm) (hM : ps_Mo E H o F A) (k : Nat) (hk : 1 ≤ k ∧ k < 13 ∧ k ≠ 10) (hi : i = nI j) (hj : j < ps_ml k) (hv : A k j = v) (hdg : decode cc pc = .ok (.iaload, 1))
    (kk : W p l e R s m args below meth c H locs cells slots Q (F0 m (pc + 1) ls (.int v :: rest))) : W p l e R s m args below meth c H locs cells slots Q (F0 m pc ls (.int i :: .ref (o + k) :: rest)) := by
  subst hv
  have h9 : ps_ml k ≤ 2147483647 := by
    obtain ⟨h1, h2, h3⟩ := hk
    obtain rfl | rfl | rfl | rfl | rfl | rfl | rfl | rfl | rfl | rfl | rfl : k = 1 ∨ k = 2 ∨ k = 3 ∨ k = 4 ∨ k = 5 ∨ k = 6 ∨ k = 7 ∨ k = 8 ∨ k = 9 ∨ k = 11 ∨ k = 12 := by omega
    all_goals decide
  exact ps_iald X (hM.2.2.1 k hk.1 hk.2.1 hk.2.2) hi hj h9 hdg kk
/-- a store into an int array of the model -/
theorem ps_mst {i x : Int32} {j : Nat} (X : ps_X p E s m args meth c cc nL ret RX4 H0 nm) (hM : ps_Mo E H o F A) (k : Nat) (hk : 1 ≤ k ∧ k < 13 ∧ k ≠ 10) (hi : i = nI j) (hj : j < ps_ml k) (hS : va_S (ps_A E) s.heap H locs) (hdg : decode cc pc = .ok (.iastore, 1))
    (kk : ∀ (H1 : Heap) (locs1 : List Loc), ps_Mo E H1 o F (va_up A k (upd (A k) j x)) → ps_Mf o H H1 → va_S (ps_A E) s.heap H1 locs1 → W p l e R s m args below meth c H1 locs1 cells slots Q (F0 m (pc + 1) ls rest)) : W p l e R s m args below meth c H locs cells slots Q (F0 m pc ls (.int x :: .int i :: .ref (o + k) :: rest)) := by
  have h9 : ps_ml k ≤ 2147483647 := by
    obtain ⟨h1, h2, h3⟩ := hk
    obtain rfl | rfl | rfl | rfl | rfl | rfl | rfl | rfl | rfl | rfl | rfl : k = 1 ∨ k = 2 ∨ k = 3 ∨ k = 4 ∨ k = 5 ∨ k = 6 ∨ k = 7 ∨ k = 8 ∨ k = 9 ∨ k = 11 ∨ k = 12 := by omega
    all_goals decide
  have hA0 := hM.1
  refine ps_iast X (hM.2.2.1 k hk.1 hk.2.1 hk.2.2) hi hj h9 (by unfold ps_A at hA0 ⊢; omega) hS hdg (fun H1 locs1 h1 z oq hS1 => ?_)
  refine kk H1 locs1 ⟨hM.1, hM.2.1.kept (oq _ (by simp; omega)), fun k2 h2 h3 h4 => ?_, ?_⟩ (ps_Mf.put z oq (by omega) (by omega)) hS1
  · by_cases e : k2 = k
    · subst e; rw [va_up_self]; exact h1
    · rw [va_up_ne _ _ e]; exact (hM.2.2.1 k2 h2 h3 h4).kept (oq _ (by simp; omega))
  · rw [va_up_ne _ _ (show 10 ≠ k by omega)]; exact hM.2.2.2.kept (oq _ (by simp; omega))
/-- the flags of the images -/
theorem ps_mldZ {i v : Int32} {j : Nat} (X : ps_X p E s m args meth c cc nL ret RX4 H0 nm) (hM : ps_Mo E H o F A) (hi : i = nI j) (hj : j < 2) (hv : A 10 j = v) (hdg : decode cc pc = .ok (.baload, 1))
    (kk : W p l e R s m args below meth c H locs cells slots Q (F0 m (pc + 1) ls (.int v :: rest))) : W p l e R s m args below meth c H locs cells slots Q (F0 m pc ls (.int i :: .ref (o + 10) :: rest)) := by
  subst hv
  exact ps_zald X hM.2.2.2 hi hj (by decide) hdg kk
theorem ps_mstZ {i x : Int32} {j : Nat} (X : ps_X p E s m args meth c cc nL ret RX4 H0 nm) (hM : ps_Mo E H o F A) (hi : i = nI j) (hj : j < 2) (hS : va_S (ps_A E) s.heap H locs) (hdg : decode cc pc = .ok (.bastore, 1))
    (kk : ∀ (H1 : Heap) (locs1 : List Loc), ps_Mo E H1 o F (va_up A 10 (upd (A 10) j (vp_nar .boolean x))) → ps_Mf o H H1 → va_S (ps_A E) s.heap H1 locs1 → W p l e R s m args below meth c H1 locs1 cells slots Q (F0 m (pc + 1) ls rest)) : W p l e R s m args below meth c H locs cells slots Q (F0 m pc ls (.int x :: .int i :: .ref (o + 10) :: rest)) := by
  have hA0 := hM.1
  refine ps_zast X hM.2.2.2 hi hj (by decide) (by unfold ps_A at hA0 ⊢; omega) hS hdg (fun H1 locs1 h1 z oq hS1 => ?_)
  refine kk H1 locs1 ⟨hM.1, hM.2.1.kept (oq _ (by simp)), fun k2 h2 h3 h4 => ?_, ?_⟩ (ps_Mf.put z oq (by omega) (by omega)) hS1
  · rw [va_up_ne _ _ h4]; exact (hM.2.2.1 k2 h2 h3 h4).kept (oq _ (by simp; omega))
  · rw [va_up_self]; exact h1
end PSK
theorem bI_is1 {b : Bool} (h : b = true) : nI 1 = bI b := by rw [h]; rfl
theorem bI_is0 {b : Bool} (h : b = false) : nI 0 = bI b := by rw [h]; rfl
