/-! ps_: the words of a throw of the component's own -/
set_option maxRecDepth 100000
theorem ps_a0 : (vx_at0 "PromiseScales" 124 ps_nI ps_uI).all ps_okw = true := by decide +kernel
theorem ps_o0 : (vx_at0 "PromiseScales" 124 ps_nI ps_uI).all vx_ot = true := by decide +kernel
theorem ps_succ1 (i : Nat) : nI (i + 1) - nI 1 = nI i := by
  rw [← nI_add i 1]; simp
