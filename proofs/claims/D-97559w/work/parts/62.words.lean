/-! ps_: methods that throw, methods that catch; what the machine throws -/
set_option maxRecDepth 100000
abbrev ps_nN : String := "java/lang/NullPointerException"
abbrev ps_nI : String := "java/lang/ArrayIndexOutOfBoundsException"
abbrev ps_nG : String := "java/lang/NegativeArraySizeException"
abbrev ps_nS : String := "java/lang/ArrayStoreException"
abbrev ps_nC : String := "java/lang/ClassCastException"
abbrev ps_uR : List String := ["java/lang/RuntimeException", "java/lang/Exception"]
abbrev ps_uI : List String := ["java/lang/IndexOutOfBoundsException", "java/lang/RuntimeException", "java/lang/Exception"]
abbrev ps_okw (w : Cond) : Bool := (goodWord w || (ps_kw w && w.onTables)) && decide (w ∈ lw_tbl)
theorem ps_aN : (vx_atN 8).all ps_okw = true := by decide +kernel
theorem ps_aI : (vx_atM ps_nI ps_uI).all ps_okw = true := by decide +kernel
theorem ps_aG : (vx_atM ps_nG ps_uR).all ps_okw = true := by decide +kernel
theorem ps_aS : (vx_atM ps_nS ps_uR).all ps_okw = true := by decide +kernel
theorem ps_aC : (vx_atM ps_nC ps_uR).all ps_okw = true := by decide +kernel
theorem ps_oN : (vx_atN 8).all vx_ot = true := by decide +kernel
theorem ps_oI : (vx_atM ps_nI ps_uI).all vx_ot = true := by decide +kernel
theorem ps_oG : (vx_atM ps_nG ps_uR).all vx_ot = true := by decide +kernel
theorem ps_oS : (vx_atM ps_nS ps_uR).all vx_ot = true := by decide +kernel
theorem ps_oC : (vx_atM ps_nC ps_uR).all vx_ot = true := by decide +kernel
