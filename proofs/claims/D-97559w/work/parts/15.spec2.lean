/-! ps_: what the public methods answer, by the scales alone -/
set_option maxRecDepth 100000
def sumR (f : Nat → Nat) (lo : Nat) : Nat → Nat
  | 0 => 0
  | n + 1 => sumR f lo n + f (lo + n)
def fstR (g : Nat → Option Nat) (lo : Nat) : Nat → Option Nat
  | 0 => none
  | n + 1 => (fstR g lo n).or (g (lo + n))
def allR (f : Nat → Bool) (lo : Nat) : Nat → Bool
  | 0 => true
  | n + 1 => allR f lo n && f (lo + n)
theorem sumR_lo (f : Nat → Nat) (lo : Nat) : ∀ n, sumR f lo (n + 1) = f lo + sumR f (lo + 1) n
  | 0 => by simp [sumR]
  | n + 1 => by
    rw [sumR, sumR_lo f lo n, sumR, show lo + 1 + n = lo + (n + 1) by omega]
    omega
theorem fstR_lo (g : Nat → Option Nat) (lo : Nat) : ∀ n, fstR g lo (n + 1) = (g lo).or (fstR g (lo + 1) n)
  | 0 => by simp [fstR]
  | n + 1 => by
    rw [fstR, fstR_lo g lo n, fstR, show lo + 1 + n = lo + (n + 1) by omega, Option.or_assoc]
theorem allR_iff (f : Nat → Bool) (lo : Nat) : ∀ n, allR f lo n = true ↔ ∀ i, i < n → f (lo + i) = true
  | 0 => by simp [allR]
  | n + 1 => by
    rw [allR, Bool.and_eq_true, allR_iff f lo n]
    constructor
    · intro h i hi
      rcases Nat.lt_or_ge i n with q | q
      · exact h.1 i q
      · rw [show i = n by omega]; exact h.2
    · intro h
      exact ⟨fun i hi => h i (by omega), h n (by omega)⟩
theorem sumR_le (f : Nat → Nat) (lo b : Nat) (h : ∀ i, f i ≤ b) : ∀ n, sumR f lo n ≤ b * n
  | 0 => by simp [sumR]
  | n + 1 => by
    have := sumR_le f lo b h n
    have := h (lo + n)
    rw [sumR, Nat.mul_succ]
    omega
/-- no number: -1000000 -/
def optI (o : Option Nat) : Int32 := match o with
  | none => (-1000000)
  | some n => nI n
def sp_ones (n : Nat) : Nat := sumR (fun i => if n.testBit i = true then 1 else 0) 0 8
def sp_ccnt (σ : Nat → Nat) (a : Nat) : Nat → Nat := sumR (fun b => if sp_clash σ a b = true then 1 else 0) (a + 1)
def sp_cfst (σ : Nat → Nat) (a : Nat) : Nat → Option Nat := fstR (fun b => if sp_clash σ a b = true then some (8 * a + b) else none) (a + 1)
def sp_cnt (σ : Nat → Nat) : Nat := sumR (fun a => sp_ccnt σ a (σ 3 - a - 1)) 0 (σ 3)
def sp_fst (σ : Nat → Nat) : Option Nat := fstR (fun a => sp_cfst σ a (σ 3 - a - 1)) 0 (σ 3)
def sp_bagI (σ : Nat → Nat) (u a : Nat) : Nat → Bool := allR (fun b => !(u.testBit a && u.testBit b && sp_clash σ a b)) (a + 1)
def sp_bagA (σ : Nat → Nat) (u : Nat) : Nat → Bool := allR (fun a => (!(u.testBit a) || sp_open σ a) && sp_bagI σ u a (σ 3 - a - 1)) 0
def sp_bag (σ : Nat → Nat) (u : Nat) : Bool := sp_bagA σ u (σ 3)
def sp_hit (σ : Nat → Nat) (v u : Nat) : Bool := decide (sp_read σ u = v) && sp_bag σ u
def sp_bagN (σ : Nat → Nat) (v : Nat) : Nat → Nat := sumR (fun u => if sp_hit σ v u = true then 1 else 0) 0
def sp_bagB (σ : Nat → Nat) (v : Nat) : Nat → Option Nat
  | 0 => none
  | u + 1 => if sp_hit σ v u = true then (match sp_bagB σ v u with
      | none => some u
      | some b => if sp_ones u < sp_ones b then some u else some b) else sp_bagB σ v u
def sp_hv (σ : Nat → Nat) (n : Nat) : Nat → Nat
  | 0 => 0
  | u + 1 => if sp_ones u ≤ n ∧ sp_bag σ u = true ∧ sp_read σ (sp_hv σ n u) < sp_read σ u then u else sp_hv σ n u
def sp_wd (σ : Nat → Nat) (p : Nat) : Nat → Nat
  | 0 => 1
  | k + 1 => if sp_as σ p (sp_wd σ p k) (sp_w σ p) < sp_as σ p (k + 2) (sp_w σ p) then k + 2 else sp_wd σ p k
def sp_pr (σ : Nat → Nat) (g v : Nat) : Nat → Nat := sumR (fun p => if sp_open σ p = true ∧ σ (17 + p) = g then v * sp_w σ (p + 1) / 20 else 0) 0
def sp_prom (σ : Nat → Nat) (p j : Nat) : Nat :=
  if j = 0 then σ (17 + p) else if j = 1 then σ (25 + p) else if j = 2 then σ (33 + p) else if j = 3 then σ (41 + p) else if j = 4 then sp_w σ (p + 1) else if j = 5 then σ (49 + p) else σ 4 / 2 ^ p % 2
def op_promise (σ : Nat → Nat) (x y : Int32) : Int32 := if rng x 0 (σ 3) = true ∧ rng y 0 7 = true then nI (sp_prom σ x.toNatClampNeg y.toNatClampNeg) else (-1000001)
def op_keeps (σ : Nat → Nat) (x : Int32) : Int32 := if rng x 0 (σ 2) = true then nI (σ (5 + x.toNatClampNeg)) else (-1000001)
def op_reads (σ : Nat → Nat) (x : Int32) : Int32 := if 1 ≤ σ 1 then (if rng x 0 (2 ^ σ 3) = true then nI (sp_read σ x.toNatClampNeg) else (-1000001)) else (-1000002)
def op_clash (σ : Nat → Nat) (x : Int32) : Int32 := if 1 ≤ σ 1 then (if rng x 0 2 = true then (if x.toNatClampNeg = 0 then nI (sp_cnt σ) else optI (sp_fst σ)) else (-1000001)) else (-1000002)
def op_bags (σ : Nat → Nat) (x y : Int32) : Int32 := if 1 ≤ σ 1 then (if rng x 0 201 = true ∧ rng y 0 2 = true then (if y.toNatClampNeg = 0 then nI (sp_bagN σ x.toNatClampNeg (2 ^ σ 3)) else optI (sp_bagB σ x.toNatClampNeg (2 ^ σ 3))) else (-1000001)) else (-1000002)
def op_heaviest (σ : Nat → Nat) (x y : Int32) : Int32 := if 1 ≤ σ 1 then (if rng x 0 9 = true ∧ rng y 0 2 = true then (if y.toNatClampNeg = 0 then nI (sp_read σ (sp_hv σ x.toNatClampNeg (2 ^ σ 3))) else nI (sp_hv σ x.toNatClampNeg (2 ^ σ 3))) else (-1000001)) else (-1000002)
def op_worded (σ : Nat → Nat) (x y : Int32) : Int32 := if rng x 0 (σ 3) = true ∧ rng y 0 6 = true then (if sp_open σ x.toNatClampNeg = true then (if y.toNatClampNeg = 0 then nI (sp_wd σ x.toNatClampNeg 4) else nI (sp_as σ x.toNatClampNeg y.toNatClampNeg (sp_w σ x.toNatClampNeg))) else (-1000002)) else (-1000001)
def op_price (σ : Nat → Nat) (x y : Int32) : Int32 := if rng x 0 (σ 3) = true ∧ rng y 0 1000 = true then nI (y.toNatClampNeg * sp_w σ (x.toNatClampNeg + 1) / 20) else (-1000001)
def op_prices (σ : Nat → Nat) (x y : Int32) : Int32 := if rng x 0 (σ 2) = true ∧ rng y 0 1000 = true then nI (sp_pr σ x.toNatClampNeg y.toNatClampNeg (σ 3)) else (-1000001)
def op_kind (σ : Nat → Nat) (x : Int32) : Int32 := if rng x 0 (σ 3) = true then nI (σ (9 + x.toNatClampNeg)) else (-1000001)
def sp_plk (σ : Nat → Nat) (g p : Nat) : Bool := sp_open σ p && decide (σ (9 + p) = 1) && decide (σ (17 + p) = g)
def sp_isK (o k : Nat) : Bool := decide (k = 0) || decide (o = k) || (decide (k = 1) && decide (o < 4)) || (decide (k = 4) && decide (o = 5))
theorem optI_lt {o : Option Nat} (h : ∀ n, o = some n → n < 2147483648) : optI o < 0 ↔ o = none := by
  cases o with
  | none => simp [optI]
  | some n => simp [optI]; exact nI_pos' (by have := h n rfl; omega)
theorem optI_eq {o : Option Nat} (h : ∀ n, o = some n → n < 2147483648) : optI o = (-1000000) ↔ o = none := by
  cases o with
  | none => simp [optI]
  | some n =>
    simp only [optI]
    constructor
    · intro q
      have h1 := h n rfl
      have h2 : (nI n).toInt = (-1000000 : Int32).toInt := by rw [q]
      rw [nI_toInt (by omega), show (-1000000 : Int32).toInt = -1000000 by decide] at h2
      omega
    · intro q; cases q
theorem nI_and (a b : Nat) : nI a &&& nI b = nI (a &&& b) := by
  apply Int32.toBitVec_inj.mp
  simp [nI, Int32.toBitVec_and, Int32.toBitVec_ofNat, BitVec.ofNat_and]
theorem nI_or (a b : Nat) : nI a ||| nI b = nI (a ||| b) := by
  apply Int32.toBitVec_inj.mp
  simp [nI, Int32.toBitVec_or, Int32.toBitVec_ofNat, BitVec.ofNat_or]
theorem nI_xor (a b : Nat) : nI a ^^^ nI b = nI (a ^^^ b) := by
  apply Int32.toBitVec_inj.mp
  simp [nI, Int32.toBitVec_xor, Int32.toBitVec_ofNat, BitVec.ofNat_xor]
theorem sp_ones_step : ∀ n, n < 256 → 0 < n → sp_ones (n &&& (n - 1)) + 1 = sp_ones n ∧ n &&& (n - 1) < n := by decide +kernel
theorem sp_ones_le : ∀ n, n < 256 → sp_ones n ≤ 8 := by decide +kernel
theorem sp_bagB_lt {σ : Nat → Nat} {v : Nat} : ∀ {u n}, sp_bagB σ v u = some n → n < u
  | 0, n, h => by simp [sp_bagB] at h
  | u + 1, n, h => by
    simp only [sp_bagB] at h
    split at h
    · cases hb : sp_bagB σ v u with
      | none => rw [hb] at h; cases h; omega
      | some b =>
        rw [hb] at h
        have := sp_bagB_lt hb
        simp only at h
        split at h <;> cases h <;> omega
    · have := sp_bagB_lt h; omega
theorem sp_hv_lt {σ : Nat → Nat} {n : Nat} : ∀ {u}, sp_hv σ n (u + 1) < u + 1
  | 0 => by simp [sp_hv]
  | u + 1 => by
    have := sp_hv_lt (σ := σ) (n := n) (u := u)
    rw [sp_hv]
    split <;> omega
theorem sp_wd_lt {σ : Nat → Nat} {p : Nat} : ∀ {k}, 1 ≤ sp_wd σ p k ∧ sp_wd σ p k ≤ k + 1
  | 0 => by simp [sp_wd]
  | k + 1 => by
    have := sp_wd_lt (σ := σ) (p := p) (k := k)
    rw [sp_wd]
    split <;> omega
theorem fstR_lt {g : Nat → Option Nat} {lo b : Nat} (h : ∀ i n, g i = some n → i < b → n < 2147483648) : ∀ {k n}, lo + k ≤ b → fstR g lo k = some n → n < 2147483648
  | 0, n, _, q => by simp [fstR] at q
  | k + 1, n, hb, q => by
    rw [fstR] at q
    cases hk : fstR g lo k with
    | none => rw [hk] at q; exact h _ _ q (by omega)
    | some m => rw [hk] at q; cases q; exact fstR_lt h (by omega) hk
theorem ps_dec {j : Nat} (h : 1 ≤ j) : nI j + Int32.ofInt (-1) = nI (j - 1) := by
  obtain ⟨k, rfl⟩ : ∃ k, j = k + 1 := ⟨j - 1, by omega⟩
  exact pk_m1 k
theorem ps_decp (j : Nat) : nI j + Int32.ofInt (-1) = nI j - nI 1 := by
  rw [Int32.sub_eq_add_neg]; rfl
theorem ps_predlt {i : Nat} (h : i < 2147483648) : nI i - nI 1 < 0 ↔ i = 0 := by
  rcases Nat.eq_zero_or_pos i with rfl | h2
  · exact ⟨fun _ => rfl, fun _ => by decide⟩
  · rw [pk_sub (by omega)]
    exact ⟨fun q => absurd q (nI_pos (by omega)), fun q => by omega⟩
section PSP
variable {p : Program} {l : Launch} {e : Env} {R : Room} {s : State} {m : MethodId} {args : Array Value} {below : List Frame} {meth : Method} {c : Code} {H : Heap} {locs : List Loc} {cells slots : Nat} {Q : State → Prop}
theorem ps_ifpl {cc : ByteArray} {pc : Nat} {ls : Array Slot} {rest : List Value} {i tgt : Nat} {off : Int} (hexec : p.tables.exec = Jvm.exec) (hb : c.code = cc) (hdg : decode cc pc = .ok (.ifCond .lt off, 3)) (ht : (pc : Int) + off = (tgt : Int)) (h : i < 2147483648) (kt : i = 0 → W p l e R s m args below meth c H locs cells slots Q (F0 m tgt ls rest)) (kf : 0 < i → W p l e R s m args below meth c H locs cells slots Q (F0 m (pc + 3) ls rest)) : W p l e R s m args below meth c H locs cells slots Q (F0 m pc ls (.int (nI i - nI 1) :: rest)) :=
  lv_if_lt hexec hb hdg ht (fun q => kt ((ps_predlt h).mp q)) (fun q => kf (Nat.pos_of_ne_zero fun z => q ((ps_predlt h).mpr z)))
end PSP
section PSQ
variable {p : Program} {l : Launch} {e : Env} {R : Room} {s : State} {m : MethodId} {args : Array Value} {below : List Frame} {meth : Method} {c : Code} {H : Heap} {locs : List Loc} {cells slots : Nat} {Q : State → Prop}
theorem ps_ifgp {cc : ByteArray} {pc : Nat} {ls : Array Slot} {rest : List Value} {i tgt : Nat} {off : Int} (hexec : p.tables.exec = Jvm.exec) (hb : c.code = cc) (hdg : decode cc pc = .ok (.ifCond .ge off, 3)) (ht : (pc : Int) + off = (tgt : Int)) (h : i < 2147483648) (kt : 0 < i → W p l e R s m args below meth c H locs cells slots Q (F0 m tgt ls rest)) (kf : i = 0 → W p l e R s m args below meth c H locs cells slots Q (F0 m (pc + 3) ls rest)) : W p l e R s m args below meth c H locs cells slots Q (F0 m pc ls (.int (nI i - nI 1) :: rest)) :=
  lv_if_ge hexec hb hdg ht (fun q => kt (Nat.pos_of_ne_zero fun z => Int32.not_le.mpr ((ps_predlt h).mpr z) q)) (fun q => kf ((ps_predlt h).mp (Int32.not_le.mp q)))
end PSQ
