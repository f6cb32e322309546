/-! PromiseScales$Shelf -/
set_option maxRecDepth 100000
def RX1 : String := "PromiseScales$Shelf"
def TX1 : u_T := fun k => match k with
  | _ => ("PromiseScales$Shelf", "held", "Ljava/lang/Object;", false)
def tyX1 : Nat → FieldType := fun k => match k with
  | _ => .object "java/lang/Object"
abbrev wsX10 : List Cond := u_ws RX1 TX1 1
theorem nmX1 : ∀ a, a < 1 → ∀ b, b < 1 → a ≠ b → (TX1 a).2.1 ≠ (TX1 b).2.1 := by decide +kernel
theorem tyX1_ok : ∀ k, k < 1 → parseFieldDescriptor (TX1 k).2.2.1 = some (tyX1 k) := by decide +kernel
abbrev cX1_init : ByteArray := prog_13_method_1_code
def yX1_init : MethodName := ⟨RX1, "<init>", "()V"⟩
theorem dX1_init_0 : decode cX1_init 0 = .ok (.aload_n 0, 1) := by decide +kernel
theorem dX1_init_1 : decode cX1_init 1 = .ok (.invokespecial 1, 3) := by decide +kernel
theorem dX1_init_4 : decode cX1_init 4 = .ok (.return_, 1) := by decide +kernel
abbrev cX1_put : ByteArray := prog_13_method_4_code
def yX1_put : MethodName := ⟨RX1, "put", "(II)I"⟩
def dkwX1_put_2 : List UInt8 := [42, 180, 0, 7, 192, 0, 17, 27, 28, 79, 42, 27, 182, 0, 19, 172]
abbrev dktX1_put_2 : List UInt8 := dkwX1_put_2 ++ []
def dkwX1_put_1 : List UInt8 := [42, 180, 0, 7, 193, 0, 15, 153, 0, 17, 42, 180, 0, 7, 192, 0, 15, 27, 28, 147, 86, 167, 0, 13]
abbrev dktX1_put_1 : List UInt8 := dkwX1_put_1 ++ dktX1_put_2
def dkwX1_put_0 : List UInt8 := [42, 180, 0, 7, 193, 0, 13, 153, 0, 17, 42, 180, 0, 7, 192, 0, 13, 27, 28, 145, 84, 167, 0, 37]
abbrev dktX1_put_0 : List UInt8 := dkwX1_put_0 ++ dktX1_put_1
theorem dksX1_put_0 : cX1_put.data.toList.drop 0 = dktX1_put_0 := by decide +kernel
theorem dksX1_put_1 : cX1_put.data.toList.drop 24 = dktX1_put_1 := dk_seg dksX1_put_0 24 rfl rfl
theorem dksX1_put_2 : cX1_put.data.toList.drop 48 = dktX1_put_2 := dk_seg dksX1_put_1 24 rfl rfl
theorem dX1_put_0 : decode cX1_put 0 = .ok (.aload_n 0, 1) := dk_42 (dk_at dksX1_put_0 0 rfl rfl)
theorem dX1_put_1 : decode cX1_put 1 = .ok (.getfield 7, 3) := dk_180 0 7 (dk_at dksX1_put_0 1 rfl rfl)
theorem dX1_put_4 : decode cX1_put 4 = .ok (.instanceof 13, 3) := dk_193 0 13 (dk_at dksX1_put_0 4 rfl rfl)
theorem dX1_put_7 : decode cX1_put 7 = .ok (.ifCond .eq 17, 3) := dk_153 0 17 (dk_at dksX1_put_0 7 rfl rfl)
theorem dX1_put_10 : decode cX1_put 10 = .ok (.aload_n 0, 1) := dk_42 (dk_at dksX1_put_0 10 rfl rfl)
theorem dX1_put_11 : decode cX1_put 11 = .ok (.getfield 7, 3) := dk_180 0 7 (dk_at dksX1_put_0 11 rfl rfl)
theorem dX1_put_14 : decode cX1_put 14 = .ok (.checkcast 13, 3) := dk_192 0 13 (dk_at dksX1_put_0 14 rfl rfl)
theorem dX1_put_17 : decode cX1_put 17 = .ok (.iload_n 1, 1) := dk_27 (dk_at dksX1_put_0 17 rfl rfl)
theorem dX1_put_18 : decode cX1_put 18 = .ok (.iload_n 2, 1) := dk_28 (dk_at dksX1_put_0 18 rfl rfl)
theorem dX1_put_19 : decode cX1_put 19 = .ok (.i2b, 1) := dk_145 (dk_at dksX1_put_0 19 rfl rfl)
theorem dX1_put_20 : decode cX1_put 20 = .ok (.bastore, 1) := dk_84 (dk_at dksX1_put_0 20 rfl rfl)
theorem dX1_put_21 : decode cX1_put 21 = .ok (.goto 37, 3) := dk_167 0 37 (dk_at dksX1_put_0 21 rfl rfl)
theorem dX1_put_24 : decode cX1_put 24 = .ok (.aload_n 0, 1) := dk_42 (dk_at dksX1_put_1 0 rfl rfl)
theorem dX1_put_25 : decode cX1_put 25 = .ok (.getfield 7, 3) := dk_180 0 7 (dk_at dksX1_put_1 1 rfl rfl)
theorem dX1_put_28 : decode cX1_put 28 = .ok (.instanceof 15, 3) := dk_193 0 15 (dk_at dksX1_put_1 4 rfl rfl)
theorem dX1_put_31 : decode cX1_put 31 = .ok (.ifCond .eq 17, 3) := dk_153 0 17 (dk_at dksX1_put_1 7 rfl rfl)
theorem dX1_put_34 : decode cX1_put 34 = .ok (.aload_n 0, 1) := dk_42 (dk_at dksX1_put_1 10 rfl rfl)
theorem dX1_put_35 : decode cX1_put 35 = .ok (.getfield 7, 3) := dk_180 0 7 (dk_at dksX1_put_1 11 rfl rfl)
theorem dX1_put_38 : decode cX1_put 38 = .ok (.checkcast 15, 3) := dk_192 0 15 (dk_at dksX1_put_1 14 rfl rfl)
theorem dX1_put_41 : decode cX1_put 41 = .ok (.iload_n 1, 1) := dk_27 (dk_at dksX1_put_1 17 rfl rfl)
theorem dX1_put_42 : decode cX1_put 42 = .ok (.iload_n 2, 1) := dk_28 (dk_at dksX1_put_1 18 rfl rfl)
theorem dX1_put_43 : decode cX1_put 43 = .ok (.i2s, 1) := dk_147 (dk_at dksX1_put_1 19 rfl rfl)
theorem dX1_put_44 : decode cX1_put 44 = .ok (.sastore, 1) := dk_86 (dk_at dksX1_put_1 20 rfl rfl)
theorem dX1_put_45 : decode cX1_put 45 = .ok (.goto 13, 3) := dk_167 0 13 (dk_at dksX1_put_1 21 rfl rfl)
theorem dX1_put_48 : decode cX1_put 48 = .ok (.aload_n 0, 1) := dk_42 (dk_at dksX1_put_2 0 rfl rfl)
theorem dX1_put_49 : decode cX1_put 49 = .ok (.getfield 7, 3) := dk_180 0 7 (dk_at dksX1_put_2 1 rfl rfl)
theorem dX1_put_52 : decode cX1_put 52 = .ok (.checkcast 17, 3) := dk_192 0 17 (dk_at dksX1_put_2 4 rfl rfl)
theorem dX1_put_55 : decode cX1_put 55 = .ok (.iload_n 1, 1) := dk_27 (dk_at dksX1_put_2 7 rfl rfl)
theorem dX1_put_56 : decode cX1_put 56 = .ok (.iload_n 2, 1) := dk_28 (dk_at dksX1_put_2 8 rfl rfl)
theorem dX1_put_57 : decode cX1_put 57 = .ok (.iastore, 1) := dk_79 (dk_at dksX1_put_2 9 rfl rfl)
theorem dX1_put_58 : decode cX1_put 58 = .ok (.aload_n 0, 1) := dk_42 (dk_at dksX1_put_2 10 rfl rfl)
theorem dX1_put_59 : decode cX1_put 59 = .ok (.iload_n 1, 1) := dk_27 (dk_at dksX1_put_2 11 rfl rfl)
theorem dX1_put_60 : decode cX1_put 60 = .ok (.invokevirtual 19, 3) := dk_182 0 19 (dk_at dksX1_put_2 12 rfl rfl)
theorem dX1_put_63 : decode cX1_put 63 = .ok (.ireturn, 1) := dk_172 (dk_at dksX1_put_2 15 rfl rfl)
abbrev cX1_at : ByteArray := prog_13_method_3_code
def yX1_at : MethodName := ⟨RX1, "at", "(I)I"⟩
def dkwX1_at_2 : List UInt8 := [46, 172]
abbrev dktX1_at_2 : List UInt8 := dkwX1_at_2 ++ []
def dkwX1_at_1 : List UInt8 := [193, 0, 15, 153, 0, 13, 42, 180, 0, 7, 192, 0, 15, 27, 53, 172, 42, 180, 0, 7, 192, 0, 17, 27]
abbrev dktX1_at_1 : List UInt8 := dkwX1_at_1 ++ dktX1_at_2
def dkwX1_at_0 : List UInt8 := [42, 180, 0, 7, 193, 0, 13, 153, 0, 13, 42, 180, 0, 7, 192, 0, 13, 27, 51, 172, 42, 180, 0, 7]
abbrev dktX1_at_0 : List UInt8 := dkwX1_at_0 ++ dktX1_at_1
theorem dksX1_at_0 : cX1_at.data.toList.drop 0 = dktX1_at_0 := by decide +kernel
theorem dksX1_at_1 : cX1_at.data.toList.drop 24 = dktX1_at_1 := dk_seg dksX1_at_0 24 rfl rfl
theorem dksX1_at_2 : cX1_at.data.toList.drop 48 = dktX1_at_2 := dk_seg dksX1_at_1 24 rfl rfl
theorem dX1_at_0 : decode cX1_at 0 = .ok (.aload_n 0, 1) := dk_42 (dk_at dksX1_at_0 0 rfl rfl)
theorem dX1_at_1 : decode cX1_at 1 = .ok (.getfield 7, 3) := dk_180 0 7 (dk_at dksX1_at_0 1 rfl rfl)
theorem dX1_at_4 : decode cX1_at 4 = .ok (.instanceof 13, 3) := dk_193 0 13 (dk_at dksX1_at_0 4 rfl rfl)
theorem dX1_at_7 : decode cX1_at 7 = .ok (.ifCond .eq 13, 3) := dk_153 0 13 (dk_at dksX1_at_0 7 rfl rfl)
theorem dX1_at_10 : decode cX1_at 10 = .ok (.aload_n 0, 1) := dk_42 (dk_at dksX1_at_0 10 rfl rfl)
theorem dX1_at_11 : decode cX1_at 11 = .ok (.getfield 7, 3) := dk_180 0 7 (dk_at dksX1_at_0 11 rfl rfl)
theorem dX1_at_14 : decode cX1_at 14 = .ok (.checkcast 13, 3) := dk_192 0 13 (dk_at dksX1_at_0 14 rfl rfl)
theorem dX1_at_17 : decode cX1_at 17 = .ok (.iload_n 1, 1) := dk_27 (dk_at dksX1_at_0 17 rfl rfl)
theorem dX1_at_18 : decode cX1_at 18 = .ok (.baload, 1) := dk_51 (dk_at dksX1_at_0 18 rfl rfl)
theorem dX1_at_19 : decode cX1_at 19 = .ok (.ireturn, 1) := dk_172 (dk_at dksX1_at_0 19 rfl rfl)
theorem dX1_at_20 : decode cX1_at 20 = .ok (.aload_n 0, 1) := dk_42 (dk_at dksX1_at_0 20 rfl rfl)
theorem dX1_at_21 : decode cX1_at 21 = .ok (.getfield 7, 3) := dk_180 0 7 (dk_at dksX1_at_0 21 rfl rfl)
theorem dX1_at_24 : decode cX1_at 24 = .ok (.instanceof 15, 3) := dk_193 0 15 (dk_at dksX1_at_1 0 rfl rfl)
theorem dX1_at_27 : decode cX1_at 27 = .ok (.ifCond .eq 13, 3) := dk_153 0 13 (dk_at dksX1_at_1 3 rfl rfl)
theorem dX1_at_30 : decode cX1_at 30 = .ok (.aload_n 0, 1) := dk_42 (dk_at dksX1_at_1 6 rfl rfl)
theorem dX1_at_31 : decode cX1_at 31 = .ok (.getfield 7, 3) := dk_180 0 7 (dk_at dksX1_at_1 7 rfl rfl)
theorem dX1_at_34 : decode cX1_at 34 = .ok (.checkcast 15, 3) := dk_192 0 15 (dk_at dksX1_at_1 10 rfl rfl)
theorem dX1_at_37 : decode cX1_at 37 = .ok (.iload_n 1, 1) := dk_27 (dk_at dksX1_at_1 13 rfl rfl)
theorem dX1_at_38 : decode cX1_at 38 = .ok (.saload, 1) := dk_53 (dk_at dksX1_at_1 14 rfl rfl)
theorem dX1_at_39 : decode cX1_at 39 = .ok (.ireturn, 1) := dk_172 (dk_at dksX1_at_1 15 rfl rfl)
theorem dX1_at_40 : decode cX1_at 40 = .ok (.aload_n 0, 1) := dk_42 (dk_at dksX1_at_1 16 rfl rfl)
theorem dX1_at_41 : decode cX1_at 41 = .ok (.getfield 7, 3) := dk_180 0 7 (dk_at dksX1_at_1 17 rfl rfl)
theorem dX1_at_44 : decode cX1_at 44 = .ok (.checkcast 17, 3) := dk_192 0 17 (dk_at dksX1_at_1 20 rfl rfl)
theorem dX1_at_47 : decode cX1_at 47 = .ok (.iload_n 1, 1) := dk_27 (dk_at dksX1_at_1 23 rfl rfl)
theorem dX1_at_48 : decode cX1_at 48 = .ok (.iaload, 1) := dk_46 (dk_at dksX1_at_2 0 rfl rfl)
theorem dX1_at_49 : decode cX1_at 49 = .ok (.ireturn, 1) := dk_172 (dk_at dksX1_at_2 1 rfl rfl)
abbrev cX1_many : ByteArray := prog_13_method_2_code
def yX1_many : MethodName := ⟨RX1, "many", "()I"⟩
def dkwX1_many_1 : List UInt8 := [193, 0, 15, 153, 0, 12, 42, 180, 0, 7, 192, 0, 15, 190, 172, 42, 180, 0, 7, 192, 0, 17, 190, 172]
abbrev dktX1_many_1 : List UInt8 := dkwX1_many_1 ++ []
def dkwX1_many_0 : List UInt8 := [42, 180, 0, 7, 193, 0, 13, 153, 0, 12, 42, 180, 0, 7, 192, 0, 13, 190, 172, 42, 180, 0, 7]
abbrev dktX1_many_0 : List UInt8 := dkwX1_many_0 ++ dktX1_many_1
theorem dksX1_many_0 : cX1_many.data.toList.drop 0 = dktX1_many_0 := by decide +kernel
theorem dksX1_many_1 : cX1_many.data.toList.drop 23 = dktX1_many_1 := dk_seg dksX1_many_0 23 rfl rfl
theorem dX1_many_0 : decode cX1_many 0 = .ok (.aload_n 0, 1) := dk_42 (dk_at dksX1_many_0 0 rfl rfl)
theorem dX1_many_1 : decode cX1_many 1 = .ok (.getfield 7, 3) := dk_180 0 7 (dk_at dksX1_many_0 1 rfl rfl)
theorem dX1_many_4 : decode cX1_many 4 = .ok (.instanceof 13, 3) := dk_193 0 13 (dk_at dksX1_many_0 4 rfl rfl)
theorem dX1_many_7 : decode cX1_many 7 = .ok (.ifCond .eq 12, 3) := dk_153 0 12 (dk_at dksX1_many_0 7 rfl rfl)
theorem dX1_many_10 : decode cX1_many 10 = .ok (.aload_n 0, 1) := dk_42 (dk_at dksX1_many_0 10 rfl rfl)
theorem dX1_many_11 : decode cX1_many 11 = .ok (.getfield 7, 3) := dk_180 0 7 (dk_at dksX1_many_0 11 rfl rfl)
theorem dX1_many_14 : decode cX1_many 14 = .ok (.checkcast 13, 3) := dk_192 0 13 (dk_at dksX1_many_0 14 rfl rfl)
theorem dX1_many_17 : decode cX1_many 17 = .ok (.arraylength, 1) := dk_190 (dk_at dksX1_many_0 17 rfl rfl)
theorem dX1_many_18 : decode cX1_many 18 = .ok (.ireturn, 1) := dk_172 (dk_at dksX1_many_0 18 rfl rfl)
theorem dX1_many_19 : decode cX1_many 19 = .ok (.aload_n 0, 1) := dk_42 (dk_at dksX1_many_0 19 rfl rfl)
theorem dX1_many_20 : decode cX1_many 20 = .ok (.getfield 7, 3) := dk_180 0 7 (dk_at dksX1_many_0 20 rfl rfl)
theorem dX1_many_23 : decode cX1_many 23 = .ok (.instanceof 15, 3) := dk_193 0 15 (dk_at dksX1_many_1 0 rfl rfl)
theorem dX1_many_26 : decode cX1_many 26 = .ok (.ifCond .eq 12, 3) := dk_153 0 12 (dk_at dksX1_many_1 3 rfl rfl)
theorem dX1_many_29 : decode cX1_many 29 = .ok (.aload_n 0, 1) := dk_42 (dk_at dksX1_many_1 6 rfl rfl)
theorem dX1_many_30 : decode cX1_many 30 = .ok (.getfield 7, 3) := dk_180 0 7 (dk_at dksX1_many_1 7 rfl rfl)
theorem dX1_many_33 : decode cX1_many 33 = .ok (.checkcast 15, 3) := dk_192 0 15 (dk_at dksX1_many_1 10 rfl rfl)
theorem dX1_many_36 : decode cX1_many 36 = .ok (.arraylength, 1) := dk_190 (dk_at dksX1_many_1 13 rfl rfl)
theorem dX1_many_37 : decode cX1_many 37 = .ok (.ireturn, 1) := dk_172 (dk_at dksX1_many_1 14 rfl rfl)
theorem dX1_many_38 : decode cX1_many 38 = .ok (.aload_n 0, 1) := dk_42 (dk_at dksX1_many_1 15 rfl rfl)
theorem dX1_many_39 : decode cX1_many 39 = .ok (.getfield 7, 3) := dk_180 0 7 (dk_at dksX1_many_1 16 rfl rfl)
theorem dX1_many_42 : decode cX1_many 42 = .ok (.checkcast 17, 3) := dk_192 0 17 (dk_at dksX1_many_1 19 rfl rfl)
theorem dX1_many_45 : decode cX1_many 45 = .ok (.arraylength, 1) := dk_190 (dk_at dksX1_many_1 22 rfl rfl)
theorem dX1_many_46 : decode cX1_many 46 = .ok (.ireturn, 1) := dk_172 (dk_at dksX1_many_1 23 rfl rfl)
theorem q69 : (Jvm.Cond.initialized "PromiseScales$Shelf") ∈ lw_all := lw_g (lw_at lw_m1 2 rfl) rfl
theorem q118 : (Jvm.Cond.instantiable "PromiseScales$Shelf" (1 : Nat)) ∈ lw_all := lw_g (lw_at lw_m1 51 rfl) rfl
theorem q120 : (Jvm.Cond.instanceMethod ({ cls := "PromiseScales$Shelf", name := "<init>", desc := "()V" } : Jvm.MethodName)) ∈ lw_all := lw_g (lw_at lw_m1 53 rfl) rfl
theorem q121 : (Jvm.Cond.code ({ cls := "PromiseScales$Shelf", name := "<init>", desc := "()V" } : Jvm.MethodName) prog_13_method_1_code (1 : Nat) (Option.none : Option Jvm.ClassFile.FieldType)) ∈ lw_all := lw_g (lw_at lw_m1 54 rfl) rfl
theorem q122 : (Jvm.Cond.methodLink "PromiseScales$Shelf" (1 : Nat) ({ cls := "java/lang/Object", name := "<init>", desc := "()V" } : Jvm.MethodName)) ∈ lw_all := lw_g (lw_at lw_m1 55 rfl) rfl
theorem q123 : (Jvm.Cond.fieldLink "PromiseScales$Shelf" (7 : Nat) "PromiseScales$Shelf" "held" "Ljava/lang/Object;") ∈ lw_all := lw_g (lw_at lw_m1 56 rfl) rfl
theorem q125 : (Jvm.Cond.lays "PromiseScales$Shelf" "PromiseScales$Shelf" "held" "Ljava/lang/Object;") ∈ lw_all := lw_g (lw_at lw_m1 58 rfl) rfl
theorem q126 : (Jvm.Cond.soleField "PromiseScales$Shelf" "held") ∈ lw_all := lw_g (lw_at lw_m1 59 rfl) rfl
theorem q127 : (Jvm.Cond.superclass "PromiseScales$Shelf" "java/lang/Object") ∈ lw_all := lw_g (lw_at lw_m1 60 rfl) rfl
theorem q407 : (Jvm.Cond.privateMethod ({ cls := "PromiseScales$Shelf", name := "put", desc := "(II)I" } : Jvm.MethodName)) ∈ lw_tbl := lw_at lw_m2 100 rfl
theorem q408 : (Jvm.Cond.instanceMethod ({ cls := "PromiseScales$Shelf", name := "put", desc := "(II)I" } : Jvm.MethodName)) ∈ lw_all := lw_g (lw_at lw_m2 101 rfl) rfl
theorem q409 : (Jvm.Cond.code ({ cls := "PromiseScales$Shelf", name := "put", desc := "(II)I" } : Jvm.MethodName) prog_13_method_4_code (3 : Nat) (Option.some Jvm.ClassFile.FieldType.int)) ∈ lw_all := lw_g (lw_at lw_m2 102 rfl) rfl
theorem q410 : (Jvm.Cond.classLink "PromiseScales$Shelf" (13 : Nat) "[B") ∈ lw_all := lw_g (lw_at lw_m2 103 rfl) rfl
theorem q411 : (Jvm.Cond.classLink "PromiseScales$Shelf" (15 : Nat) "[S") ∈ lw_all := lw_g (lw_at lw_m2 104 rfl) rfl
theorem q412 : (Jvm.Cond.classLink "PromiseScales$Shelf" (17 : Nat) "[I") ∈ lw_all := lw_g (lw_at lw_m2 105 rfl) rfl
theorem q413 : (Jvm.Cond.methodLink "PromiseScales$Shelf" (19 : Nat) ({ cls := "PromiseScales$Shelf", name := "at", desc := "(I)I" } : Jvm.MethodName)) ∈ lw_all := lw_g (lw_at lw_m2 106 rfl) rfl
theorem q414 : (Jvm.Cond.privateMethod ({ cls := "PromiseScales$Shelf", name := "at", desc := "(I)I" } : Jvm.MethodName)) ∈ lw_tbl := lw_at lw_m2 107 rfl
theorem q415 : (Jvm.Cond.instanceMethod ({ cls := "PromiseScales$Shelf", name := "at", desc := "(I)I" } : Jvm.MethodName)) ∈ lw_all := lw_g (lw_at lw_m2 108 rfl) rfl
theorem q416 : (Jvm.Cond.code ({ cls := "PromiseScales$Shelf", name := "at", desc := "(I)I" } : Jvm.MethodName) prog_13_method_3_code (2 : Nat) (Option.some Jvm.ClassFile.FieldType.int)) ∈ lw_all := lw_g (lw_at lw_m2 109 rfl) rfl
theorem q444 : (Jvm.Cond.privateMethod ({ cls := "PromiseScales$Shelf", name := "many", desc := "()I" } : Jvm.MethodName)) ∈ lw_tbl := lw_at lw_m2 137 rfl
theorem q445 : (Jvm.Cond.instanceMethod ({ cls := "PromiseScales$Shelf", name := "many", desc := "()I" } : Jvm.MethodName)) ∈ lw_all := lw_g (lw_at lw_m2 138 rfl) rfl
theorem q446 : (Jvm.Cond.code ({ cls := "PromiseScales$Shelf", name := "many", desc := "()I" } : Jvm.MethodName) prog_13_method_2_code (1 : Nat) (Option.some Jvm.ClassFile.FieldType.int)) ∈ lw_all := lw_g (lw_at lw_m2 139 rfl) rfl
theorem q786 : (Jvm.Cond.selects "PromiseScales$Shelf" ({ cls := "java/lang/Object", name := "getClass", desc := "()Ljava/lang/Class;" } : Jvm.MethodName) ({ cls := "java/lang/Object", name := "getClass", desc := "()Ljava/lang/Class;" } : Jvm.MethodName)) ∈ lw_all := lw_g (lw_at lw_m3 239 rfl) rfl
theorem q1692 : (Jvm.Cond.castable "PromiseScales$Shelf" "java/lang/Object") ∈ lw_tbl := lw_at lw_m7 185 rfl
theorem in_X1 : ∀ w ∈ wsX10, w ∈ lw_all := lw_in wsX10 [125] (by decide +kernel) (by decide +kernel)
/-! PromiseScales$Scales -/
set_option maxRecDepth 100000
def RX2 : String := "PromiseScales$Scales"
def TX2 : u_T := fun k => match k with
  | 0 => ("PromiseScales$Scales", "wax", "I", false)
  | 1 => ("PromiseScales$Scales", "stick", "I", false)
  | 2 => ("PromiseScales$Scales", "givers", "I", false)
  | 3 => ("PromiseScales$Scales", "keeps", "[I", true)
  | 4 => ("PromiseScales$Scales", "promises", "Ljava/util/List;", true)
  | 5 => ("PromiseScales$Scales", "state", "[I", true)
  | _ => ("PromiseScales$Scales", "pan", "I", false)
def tyX2 : Nat → FieldType := fun k => match k with
  | 0 => .int
  | 1 => .int
  | 2 => .int
  | 3 => .array .int
  | 4 => .object "java/util/List"
  | 5 => .array .int
  | _ => .int
abbrev wsX20 : List Cond := u_ws RX2 TX2 7
theorem nmX2 : ∀ a, a < 7 → ∀ b, b < 7 → a ≠ b → (TX2 a).2.1 ≠ (TX2 b).2.1 := by decide +kernel
theorem tyX2_ok : ∀ k, k < 7 → parseFieldDescriptor (TX2 k).2.2.1 = some (tyX2 k) := by decide +kernel
abbrev cX2_init : ByteArray := prog_12_method_1_code
def yX2_init : MethodName := ⟨RX2, "<init>", "()V"⟩
def dkwX2_init_1 : List UInt8 := [16, 8, 188, 10, 181, 0, 22, 177]
abbrev dktX2_init_1 : List UInt8 := dkwX2_init_1 ++ []
def dkwX2_init_0 : List UInt8 := [42, 183, 0, 3, 42, 7, 188, 10, 181, 0, 9, 42, 187, 0, 15, 89, 183, 0, 17, 181, 0, 18, 42]
abbrev dktX2_init_0 : List UInt8 := dkwX2_init_0 ++ dktX2_init_1
theorem dksX2_init_0 : cX2_init.data.toList.drop 0 = dktX2_init_0 := by decide +kernel
theorem dksX2_init_1 : cX2_init.data.toList.drop 23 = dktX2_init_1 := dk_seg dksX2_init_0 23 rfl rfl
theorem dX2_init_0 : decode cX2_init 0 = .ok (.aload_n 0, 1) := dk_42 (dk_at dksX2_init_0 0 rfl rfl)
theorem dX2_init_1 : decode cX2_init 1 = .ok (.invokespecial 3, 3) := dk_183 0 3 (dk_at dksX2_init_0 1 rfl rfl)
theorem dX2_init_4 : decode cX2_init 4 = .ok (.aload_n 0, 1) := dk_42 (dk_at dksX2_init_0 4 rfl rfl)
theorem dX2_init_5 : decode cX2_init 5 = .ok (.iconst 4, 1) := dk_7 (dk_at dksX2_init_0 5 rfl rfl)
theorem dX2_init_6 : decode cX2_init 6 = .ok (.newarray .int, 2) := dk_188_10 (dk_at dksX2_init_0 6 rfl rfl)
theorem dX2_init_8 : decode cX2_init 8 = .ok (.putfield 9, 3) := dk_181 0 9 (dk_at dksX2_init_0 8 rfl rfl)
theorem dX2_init_11 : decode cX2_init 11 = .ok (.aload_n 0, 1) := dk_42 (dk_at dksX2_init_0 11 rfl rfl)
theorem dX2_init_12 : decode cX2_init 12 = .ok (.new 15, 3) := dk_187 0 15 (dk_at dksX2_init_0 12 rfl rfl)
theorem dX2_init_15 : decode cX2_init 15 = .ok (.dup, 1) := dk_89 (dk_at dksX2_init_0 15 rfl rfl)
theorem dX2_init_16 : decode cX2_init 16 = .ok (.invokespecial 17, 3) := dk_183 0 17 (dk_at dksX2_init_0 16 rfl rfl)
theorem dX2_init_19 : decode cX2_init 19 = .ok (.putfield 18, 3) := dk_181 0 18 (dk_at dksX2_init_0 19 rfl rfl)
theorem dX2_init_22 : decode cX2_init 22 = .ok (.aload_n 0, 1) := dk_42 (dk_at dksX2_init_0 22 rfl rfl)
theorem dX2_init_23 : decode cX2_init 23 = .ok (.bipush 8, 2) := dk_16 8 (dk_at dksX2_init_1 0 rfl rfl)
theorem dX2_init_25 : decode cX2_init 25 = .ok (.newarray .int, 2) := dk_188_10 (dk_at dksX2_init_1 2 rfl rfl)
theorem dX2_init_27 : decode cX2_init 27 = .ok (.putfield 22, 3) := dk_181 0 22 (dk_at dksX2_init_1 4 rfl rfl)
theorem dX2_init_30 : decode cX2_init 30 = .ok (.return_, 1) := dk_177 (dk_at dksX2_init_1 7 rfl rfl)
abbrev cX2_many : ByteArray := prog_12_method_3_code
def yX2_many : MethodName := ⟨RX2, "many", "()I"⟩
def dkwX2_many_0 : List UInt8 := [42, 180, 0, 18, 185, 0, 49, 1, 0, 172]
abbrev dktX2_many_0 : List UInt8 := dkwX2_many_0 ++ []
theorem dksX2_many_0 : cX2_many.data.toList.drop 0 = dktX2_many_0 := by decide +kernel
theorem dX2_many_0 : decode cX2_many 0 = .ok (.aload_n 0, 1) := dk_42 (dk_at dksX2_many_0 0 rfl rfl)
theorem dX2_many_1 : decode cX2_many 1 = .ok (.getfield 18, 3) := dk_180 0 18 (dk_at dksX2_many_0 1 rfl rfl)
theorem dX2_many_4 : decode cX2_many 4 = .ok (.invokeinterface 49 1, 5) := by decide +kernel
theorem dX2_many_9 : decode cX2_many 9 = .ok (.ireturn, 1) := dk_172 (dk_at dksX2_many_0 9 rfl rfl)
abbrev cX2_become : ByteArray := prog_12_method_2_code
def yX2_become : MethodName := ⟨RX2, "become", "(LPromiseScales$Scales;)V"⟩
def dkwX2_become_4 : List UInt8 := [185, 0, 53, 2, 0, 192, 0, 57, 185, 0, 59, 2, 0, 87, 132, 2, 1, 167, 255, 217, 177]
abbrev dktX2_become_4 : List UInt8 := dkwX2_become_4 ++ []
def dkwX2_become_3 : List UInt8 := [61, 28, 43, 180, 0, 18, 185, 0, 49, 1, 0, 162, 0, 32, 42, 180, 0, 18, 43, 180, 0, 18, 28]
abbrev dktX2_become_3 : List UInt8 := dkwX2_become_3 ++ dktX2_become_4
def dkwX2_become_2 : List UInt8 := [180, 0, 22, 3, 42, 180, 0, 22, 3, 16, 8, 184, 0, 38, 42, 180, 0, 18, 185, 0, 44, 1, 0, 3]
abbrev dktX2_become_2 : List UInt8 := dkwX2_become_2 ++ dktX2_become_3
def dkwX2_become_1 : List UInt8 := [42, 43, 180, 0, 35, 181, 0, 35, 43, 180, 0, 9, 3, 42, 180, 0, 9, 3, 7, 184, 0, 38, 43]
abbrev dktX2_become_1 : List UInt8 := dkwX2_become_1 ++ dktX2_become_2
def dkwX2_become_0 : List UInt8 := [42, 43, 180, 0, 25, 181, 0, 25, 42, 43, 180, 0, 29, 181, 0, 29, 42, 43, 180, 0, 32, 181, 0, 32]
abbrev dktX2_become_0 : List UInt8 := dkwX2_become_0 ++ dktX2_become_1
theorem dksX2_become_0 : cX2_become.data.toList.drop 0 = dktX2_become_0 := by decide +kernel
theorem dksX2_become_1 : cX2_become.data.toList.drop 24 = dktX2_become_1 := dk_seg dksX2_become_0 24 rfl rfl
theorem dksX2_become_2 : cX2_become.data.toList.drop 47 = dktX2_become_2 := dk_seg dksX2_become_1 23 rfl rfl
theorem dksX2_become_3 : cX2_become.data.toList.drop 71 = dktX2_become_3 := dk_seg dksX2_become_2 24 rfl rfl
theorem dksX2_become_4 : cX2_become.data.toList.drop 94 = dktX2_become_4 := dk_seg dksX2_become_3 23 rfl rfl
theorem dX2_become_0 : decode cX2_become 0 = .ok (.aload_n 0, 1) := dk_42 (dk_at dksX2_become_0 0 rfl rfl)
theorem dX2_become_1 : decode cX2_become 1 = .ok (.aload_n 1, 1) := dk_43 (dk_at dksX2_become_0 1 rfl rfl)
theorem dX2_become_2 : decode cX2_become 2 = .ok (.getfield 25, 3) := dk_180 0 25 (dk_at dksX2_become_0 2 rfl rfl)
theorem dX2_become_5 : decode cX2_become 5 = .ok (.putfield 25, 3) := dk_181 0 25 (dk_at dksX2_become_0 5 rfl rfl)
theorem dX2_become_8 : decode cX2_become 8 = .ok (.aload_n 0, 1) := dk_42 (dk_at dksX2_become_0 8 rfl rfl)
theorem dX2_become_9 : decode cX2_become 9 = .ok (.aload_n 1, 1) := dk_43 (dk_at dksX2_become_0 9 rfl rfl)
theorem dX2_become_10 : decode cX2_become 10 = .ok (.getfield 29, 3) := dk_180 0 29 (dk_at dksX2_become_0 10 rfl rfl)
theorem dX2_become_13 : decode cX2_become 13 = .ok (.putfield 29, 3) := dk_181 0 29 (dk_at dksX2_become_0 13 rfl rfl)
theorem dX2_become_16 : decode cX2_become 16 = .ok (.aload_n 0, 1) := dk_42 (dk_at dksX2_become_0 16 rfl rfl)
theorem dX2_become_17 : decode cX2_become 17 = .ok (.aload_n 1, 1) := dk_43 (dk_at dksX2_become_0 17 rfl rfl)
theorem dX2_become_18 : decode cX2_become 18 = .ok (.getfield 32, 3) := dk_180 0 32 (dk_at dksX2_become_0 18 rfl rfl)
theorem dX2_become_21 : decode cX2_become 21 = .ok (.putfield 32, 3) := dk_181 0 32 (dk_at dksX2_become_0 21 rfl rfl)
theorem dX2_become_24 : decode cX2_become 24 = .ok (.aload_n 0, 1) := dk_42 (dk_at dksX2_become_1 0 rfl rfl)
theorem dX2_become_25 : decode cX2_become 25 = .ok (.aload_n 1, 1) := dk_43 (dk_at dksX2_become_1 1 rfl rfl)
theorem dX2_become_26 : decode cX2_become 26 = .ok (.getfield 35, 3) := dk_180 0 35 (dk_at dksX2_become_1 2 rfl rfl)
theorem dX2_become_29 : decode cX2_become 29 = .ok (.putfield 35, 3) := dk_181 0 35 (dk_at dksX2_become_1 5 rfl rfl)
theorem dX2_become_32 : decode cX2_become 32 = .ok (.aload_n 1, 1) := dk_43 (dk_at dksX2_become_1 8 rfl rfl)
theorem dX2_become_33 : decode cX2_become 33 = .ok (.getfield 9, 3) := dk_180 0 9 (dk_at dksX2_become_1 9 rfl rfl)
theorem dX2_become_36 : decode cX2_become 36 = .ok (.iconst 0, 1) := dk_3 (dk_at dksX2_become_1 12 rfl rfl)
theorem dX2_become_37 : decode cX2_become 37 = .ok (.aload_n 0, 1) := dk_42 (dk_at dksX2_become_1 13 rfl rfl)
theorem dX2_become_38 : decode cX2_become 38 = .ok (.getfield 9, 3) := dk_180 0 9 (dk_at dksX2_become_1 14 rfl rfl)
theorem dX2_become_41 : decode cX2_become 41 = .ok (.iconst 0, 1) := dk_3 (dk_at dksX2_become_1 17 rfl rfl)
theorem dX2_become_42 : decode cX2_become 42 = .ok (.iconst 4, 1) := dk_7 (dk_at dksX2_become_1 18 rfl rfl)
theorem dX2_become_43 : decode cX2_become 43 = .ok (.invokestatic 38, 3) := dk_184 0 38 (dk_at dksX2_become_1 19 rfl rfl)
theorem dX2_become_46 : decode cX2_become 46 = .ok (.aload_n 1, 1) := dk_43 (dk_at dksX2_become_1 22 rfl rfl)
theorem dX2_become_47 : decode cX2_become 47 = .ok (.getfield 22, 3) := dk_180 0 22 (dk_at dksX2_become_2 0 rfl rfl)
theorem dX2_become_50 : decode cX2_become 50 = .ok (.iconst 0, 1) := dk_3 (dk_at dksX2_become_2 3 rfl rfl)
theorem dX2_become_51 : decode cX2_become 51 = .ok (.aload_n 0, 1) := dk_42 (dk_at dksX2_become_2 4 rfl rfl)
theorem dX2_become_52 : decode cX2_become 52 = .ok (.getfield 22, 3) := dk_180 0 22 (dk_at dksX2_become_2 5 rfl rfl)
theorem dX2_become_55 : decode cX2_become 55 = .ok (.iconst 0, 1) := dk_3 (dk_at dksX2_become_2 8 rfl rfl)
theorem dX2_become_56 : decode cX2_become 56 = .ok (.bipush 8, 2) := dk_16 8 (dk_at dksX2_become_2 9 rfl rfl)
theorem dX2_become_58 : decode cX2_become 58 = .ok (.invokestatic 38, 3) := dk_184 0 38 (dk_at dksX2_become_2 11 rfl rfl)
theorem dX2_become_61 : decode cX2_become 61 = .ok (.aload_n 0, 1) := dk_42 (dk_at dksX2_become_2 14 rfl rfl)
theorem dX2_become_62 : decode cX2_become 62 = .ok (.getfield 18, 3) := dk_180 0 18 (dk_at dksX2_become_2 15 rfl rfl)
theorem dX2_become_65 : decode cX2_become 65 = .ok (.invokeinterface 44 1, 5) := by decide +kernel
theorem dX2_become_70 : decode cX2_become 70 = .ok (.iconst 0, 1) := dk_3 (dk_at dksX2_become_2 23 rfl rfl)
theorem dX2_become_71 : decode cX2_become 71 = .ok (.istore_n 2, 1) := dk_61 (dk_at dksX2_become_3 0 rfl rfl)
theorem dX2_become_72 : decode cX2_become 72 = .ok (.iload_n 2, 1) := dk_28 (dk_at dksX2_become_3 1 rfl rfl)
theorem dX2_become_73 : decode cX2_become 73 = .ok (.aload_n 1, 1) := dk_43 (dk_at dksX2_become_3 2 rfl rfl)
theorem dX2_become_74 : decode cX2_become 74 = .ok (.getfield 18, 3) := dk_180 0 18 (dk_at dksX2_become_3 3 rfl rfl)
theorem dX2_become_77 : decode cX2_become 77 = .ok (.invokeinterface 49 1, 5) := by decide +kernel
theorem dX2_become_82 : decode cX2_become 82 = .ok (.if_icmp .ge 32, 3) := dk_162 0 32 (dk_at dksX2_become_3 11 rfl rfl)
theorem dX2_become_85 : decode cX2_become 85 = .ok (.aload_n 0, 1) := dk_42 (dk_at dksX2_become_3 14 rfl rfl)
theorem dX2_become_86 : decode cX2_become 86 = .ok (.getfield 18, 3) := dk_180 0 18 (dk_at dksX2_become_3 15 rfl rfl)
theorem dX2_become_89 : decode cX2_become 89 = .ok (.aload_n 1, 1) := dk_43 (dk_at dksX2_become_3 18 rfl rfl)
theorem dX2_become_90 : decode cX2_become 90 = .ok (.getfield 18, 3) := dk_180 0 18 (dk_at dksX2_become_3 19 rfl rfl)
theorem dX2_become_93 : decode cX2_become 93 = .ok (.iload_n 2, 1) := dk_28 (dk_at dksX2_become_3 22 rfl rfl)
theorem dX2_become_94 : decode cX2_become 94 = .ok (.invokeinterface 53 2, 5) := by decide +kernel
theorem dX2_become_99 : decode cX2_become 99 = .ok (.checkcast 57, 3) := dk_192 0 57 (dk_at dksX2_become_4 5 rfl rfl)
theorem dX2_become_102 : decode cX2_become 102 = .ok (.invokeinterface 59 2, 5) := by decide +kernel
theorem dX2_become_107 : decode cX2_become 107 = .ok (.pop, 1) := dk_87 (dk_at dksX2_become_4 13 rfl rfl)
theorem dX2_become_108 : decode cX2_become 108 = .ok (.iinc 2 1, 3) := dk_132 2 1 (dk_at dksX2_become_4 14 rfl rfl)
theorem dX2_become_111 : decode cX2_become 111 = .ok (.goto (-39), 3) := dk_167 255 217 (dk_at dksX2_become_4 17 rfl rfl)
theorem dX2_become_114 : decode cX2_become 114 = .ok (.return_, 1) := dk_177 (dk_at dksX2_become_4 20 rfl rfl)
abbrev cX2_isOpen : ByteArray := prog_12_method_6_code
def yX2_isOpen : MethodName := ⟨RX2, "isOpen", "(I)Z"⟩
def dkwX2_isOpen_0 : List UInt8 := [42, 180, 0, 22, 27, 46, 154, 0, 7, 4, 167, 0, 4, 3, 172]
abbrev dktX2_isOpen_0 : List UInt8 := dkwX2_isOpen_0 ++ []
theorem dksX2_isOpen_0 : cX2_isOpen.data.toList.drop 0 = dktX2_isOpen_0 := by decide +kernel
theorem dX2_isOpen_0 : decode cX2_isOpen 0 = .ok (.aload_n 0, 1) := dk_42 (dk_at dksX2_isOpen_0 0 rfl rfl)
theorem dX2_isOpen_1 : decode cX2_isOpen 1 = .ok (.getfield 22, 3) := dk_180 0 22 (dk_at dksX2_isOpen_0 1 rfl rfl)
theorem dX2_isOpen_4 : decode cX2_isOpen 4 = .ok (.iload_n 1, 1) := dk_27 (dk_at dksX2_isOpen_0 4 rfl rfl)
theorem dX2_isOpen_5 : decode cX2_isOpen 5 = .ok (.iaload, 1) := dk_46 (dk_at dksX2_isOpen_0 5 rfl rfl)
theorem dX2_isOpen_6 : decode cX2_isOpen 6 = .ok (.ifCond .ne 7, 3) := dk_154 0 7 (dk_at dksX2_isOpen_0 6 rfl rfl)
theorem dX2_isOpen_9 : decode cX2_isOpen 9 = .ok (.iconst 1, 1) := dk_4 (dk_at dksX2_isOpen_0 9 rfl rfl)
theorem dX2_isOpen_10 : decode cX2_isOpen 10 = .ok (.goto 4, 3) := dk_167 0 4 (dk_at dksX2_isOpen_0 10 rfl rfl)
theorem dX2_isOpen_13 : decode cX2_isOpen 13 = .ok (.iconst 0, 1) := dk_3 (dk_at dksX2_isOpen_0 13 rfl rfl)
theorem dX2_isOpen_14 : decode cX2_isOpen 14 = .ok (.ireturn, 1) := dk_172 (dk_at dksX2_isOpen_0 14 rfl rfl)
abbrev cX2_reads : ByteArray := prog_12_method_9_code
def yX2_reads : MethodName := ⟨RX2, "reads", "(I)I"⟩
def dkwX2_reads_0 : List UInt8 := [42, 27, 182, 0, 90, 42, 180, 0, 25, 42, 180, 0, 29, 184, 0, 93, 172]
abbrev dktX2_reads_0 : List UInt8 := dkwX2_reads_0 ++ []
theorem dksX2_reads_0 : cX2_reads.data.toList.drop 0 = dktX2_reads_0 := by decide +kernel
theorem dX2_reads_0 : decode cX2_reads 0 = .ok (.aload_n 0, 1) := dk_42 (dk_at dksX2_reads_0 0 rfl rfl)
theorem dX2_reads_1 : decode cX2_reads 1 = .ok (.iload_n 1, 1) := dk_27 (dk_at dksX2_reads_0 1 rfl rfl)
theorem dX2_reads_2 : decode cX2_reads 2 = .ok (.invokevirtual 90, 3) := dk_182 0 90 (dk_at dksX2_reads_0 2 rfl rfl)
theorem dX2_reads_5 : decode cX2_reads 5 = .ok (.aload_n 0, 1) := dk_42 (dk_at dksX2_reads_0 5 rfl rfl)
theorem dX2_reads_6 : decode cX2_reads 6 = .ok (.getfield 25, 3) := dk_180 0 25 (dk_at dksX2_reads_0 6 rfl rfl)
theorem dX2_reads_9 : decode cX2_reads 9 = .ok (.aload_n 0, 1) := dk_42 (dk_at dksX2_reads_0 9 rfl rfl)
theorem dX2_reads_10 : decode cX2_reads 10 = .ok (.getfield 29, 3) := dk_180 0 29 (dk_at dksX2_reads_0 10 rfl rfl)
theorem dX2_reads_13 : decode cX2_reads 13 = .ok (.invokestatic 93, 3) := dk_184 0 93 (dk_at dksX2_reads_0 13 rfl rfl)
theorem dX2_reads_16 : decode cX2_reads 16 = .ok (.ireturn, 1) := dk_172 (dk_at dksX2_reads_0 16 rfl rfl)
abbrev cX2_weightOf : ByteArray := prog_12_method_8_code
def yX2_weightOf : MethodName := ⟨RX2, "weightOf", "(I)I"⟩
def dkwX2_weightOf_1 : List UInt8 := [182, 0, 78, 167, 0, 4, 3, 96, 61, 132, 3, 1, 167, 255, 225, 28, 172]
abbrev dktX2_weightOf_1 : List UInt8 := dkwX2_weightOf_1 ++ []
def dkwX2_weightOf_0 : List UInt8 := [3, 61, 3, 62, 29, 42, 182, 0, 63, 162, 0, 29, 28, 27, 29, 184, 0, 86, 153, 0, 11, 42, 29]
abbrev dktX2_weightOf_0 : List UInt8 := dkwX2_weightOf_0 ++ dktX2_weightOf_1
theorem dksX2_weightOf_0 : cX2_weightOf.data.toList.drop 0 = dktX2_weightOf_0 := by decide +kernel
theorem dksX2_weightOf_1 : cX2_weightOf.data.toList.drop 23 = dktX2_weightOf_1 := dk_seg dksX2_weightOf_0 23 rfl rfl
theorem dX2_weightOf_0 : decode cX2_weightOf 0 = .ok (.iconst 0, 1) := dk_3 (dk_at dksX2_weightOf_0 0 rfl rfl)
theorem dX2_weightOf_1 : decode cX2_weightOf 1 = .ok (.istore_n 2, 1) := dk_61 (dk_at dksX2_weightOf_0 1 rfl rfl)
theorem dX2_weightOf_2 : decode cX2_weightOf 2 = .ok (.iconst 0, 1) := dk_3 (dk_at dksX2_weightOf_0 2 rfl rfl)
theorem dX2_weightOf_3 : decode cX2_weightOf 3 = .ok (.istore_n 3, 1) := dk_62 (dk_at dksX2_weightOf_0 3 rfl rfl)
theorem dX2_weightOf_4 : decode cX2_weightOf 4 = .ok (.iload_n 3, 1) := dk_29 (dk_at dksX2_weightOf_0 4 rfl rfl)
theorem dX2_weightOf_5 : decode cX2_weightOf 5 = .ok (.aload_n 0, 1) := dk_42 (dk_at dksX2_weightOf_0 5 rfl rfl)
theorem dX2_weightOf_6 : decode cX2_weightOf 6 = .ok (.invokevirtual 63, 3) := dk_182 0 63 (dk_at dksX2_weightOf_0 6 rfl rfl)
theorem dX2_weightOf_9 : decode cX2_weightOf 9 = .ok (.if_icmp .ge 29, 3) := dk_162 0 29 (dk_at dksX2_weightOf_0 9 rfl rfl)
theorem dX2_weightOf_12 : decode cX2_weightOf 12 = .ok (.iload_n 2, 1) := dk_28 (dk_at dksX2_weightOf_0 12 rfl rfl)
theorem dX2_weightOf_13 : decode cX2_weightOf 13 = .ok (.iload_n 1, 1) := dk_27 (dk_at dksX2_weightOf_0 13 rfl rfl)
theorem dX2_weightOf_14 : decode cX2_weightOf 14 = .ok (.iload_n 3, 1) := dk_29 (dk_at dksX2_weightOf_0 14 rfl rfl)
theorem dX2_weightOf_15 : decode cX2_weightOf 15 = .ok (.invokestatic 86, 3) := dk_184 0 86 (dk_at dksX2_weightOf_0 15 rfl rfl)
theorem dX2_weightOf_18 : decode cX2_weightOf 18 = .ok (.ifCond .eq 11, 3) := dk_153 0 11 (dk_at dksX2_weightOf_0 18 rfl rfl)
theorem dX2_weightOf_21 : decode cX2_weightOf 21 = .ok (.aload_n 0, 1) := dk_42 (dk_at dksX2_weightOf_0 21 rfl rfl)
theorem dX2_weightOf_22 : decode cX2_weightOf 22 = .ok (.iload_n 3, 1) := dk_29 (dk_at dksX2_weightOf_0 22 rfl rfl)
theorem dX2_weightOf_23 : decode cX2_weightOf 23 = .ok (.invokevirtual 78, 3) := dk_182 0 78 (dk_at dksX2_weightOf_1 0 rfl rfl)
theorem dX2_weightOf_26 : decode cX2_weightOf 26 = .ok (.goto 4, 3) := dk_167 0 4 (dk_at dksX2_weightOf_1 3 rfl rfl)
theorem dX2_weightOf_29 : decode cX2_weightOf 29 = .ok (.iconst 0, 1) := dk_3 (dk_at dksX2_weightOf_1 6 rfl rfl)
theorem dX2_weightOf_30 : decode cX2_weightOf 30 = .ok (.iadd, 1) := dk_96 (dk_at dksX2_weightOf_1 7 rfl rfl)
theorem dX2_weightOf_31 : decode cX2_weightOf 31 = .ok (.istore_n 2, 1) := dk_61 (dk_at dksX2_weightOf_1 8 rfl rfl)
theorem dX2_weightOf_32 : decode cX2_weightOf 32 = .ok (.iinc 3 1, 3) := dk_132 3 1 (dk_at dksX2_weightOf_1 9 rfl rfl)
theorem dX2_weightOf_35 : decode cX2_weightOf 35 = .ok (.goto (-31), 3) := dk_167 255 225 (dk_at dksX2_weightOf_1 12 rfl rfl)
theorem dX2_weightOf_38 : decode cX2_weightOf 38 = .ok (.iload_n 2, 1) := dk_28 (dk_at dksX2_weightOf_1 15 rfl rfl)
theorem dX2_weightOf_39 : decode cX2_weightOf 39 = .ok (.ireturn, 1) := dk_172 (dk_at dksX2_weightOf_1 16 rfl rfl)
abbrev cX2_weight : ByteArray := prog_12_method_7_code
def yX2_weight : MethodName := ⟨RX2, "weight", "(I)I"⟩
def dkwX2_weight_2 : List UInt8 := [18, 77, 167, 0, 10, 42, 27, 4, 100, 182, 0, 78, 182, 0, 82, 172]
abbrev dktX2_weight_2 : List UInt8 := dkwX2_weight_2 ++ []
def dkwX2_weight_1 : List UInt8 := [172, 42, 27, 182, 0, 70, 42, 180, 0, 9, 42, 27, 182, 0, 70, 180, 0, 74, 46, 27, 154, 0, 8]
abbrev dktX2_weight_1 : List UInt8 := dkwX2_weight_1 ++ dktX2_weight_2
def dkwX2_weight_0 : List UInt8 := [42, 27, 182, 0, 66, 154, 0, 20, 42, 180, 0, 22, 27, 46, 4, 160, 0, 8, 16, 20, 167, 0, 4, 3]
abbrev dktX2_weight_0 : List UInt8 := dkwX2_weight_0 ++ dktX2_weight_1
theorem dksX2_weight_0 : cX2_weight.data.toList.drop 0 = dktX2_weight_0 := by decide +kernel
theorem dksX2_weight_1 : cX2_weight.data.toList.drop 24 = dktX2_weight_1 := dk_seg dksX2_weight_0 24 rfl rfl
theorem dksX2_weight_2 : cX2_weight.data.toList.drop 47 = dktX2_weight_2 := dk_seg dksX2_weight_1 23 rfl rfl
theorem dX2_weight_0 : decode cX2_weight 0 = .ok (.aload_n 0, 1) := dk_42 (dk_at dksX2_weight_0 0 rfl rfl)
theorem dX2_weight_1 : decode cX2_weight 1 = .ok (.iload_n 1, 1) := dk_27 (dk_at dksX2_weight_0 1 rfl rfl)
theorem dX2_weight_2 : decode cX2_weight 2 = .ok (.invokevirtual 66, 3) := dk_182 0 66 (dk_at dksX2_weight_0 2 rfl rfl)
theorem dX2_weight_5 : decode cX2_weight 5 = .ok (.ifCond .ne 20, 3) := dk_154 0 20 (dk_at dksX2_weight_0 5 rfl rfl)
theorem dX2_weight_8 : decode cX2_weight 8 = .ok (.aload_n 0, 1) := dk_42 (dk_at dksX2_weight_0 8 rfl rfl)
theorem dX2_weight_9 : decode cX2_weight 9 = .ok (.getfield 22, 3) := dk_180 0 22 (dk_at dksX2_weight_0 9 rfl rfl)
theorem dX2_weight_12 : decode cX2_weight 12 = .ok (.iload_n 1, 1) := dk_27 (dk_at dksX2_weight_0 12 rfl rfl)
theorem dX2_weight_13 : decode cX2_weight 13 = .ok (.iaload, 1) := dk_46 (dk_at dksX2_weight_0 13 rfl rfl)
theorem dX2_weight_14 : decode cX2_weight 14 = .ok (.iconst 1, 1) := dk_4 (dk_at dksX2_weight_0 14 rfl rfl)
theorem dX2_weight_15 : decode cX2_weight 15 = .ok (.if_icmp .ne 8, 3) := dk_160 0 8 (dk_at dksX2_weight_0 15 rfl rfl)
theorem dX2_weight_18 : decode cX2_weight 18 = .ok (.bipush 20, 2) := dk_16 20 (dk_at dksX2_weight_0 18 rfl rfl)
theorem dX2_weight_20 : decode cX2_weight 20 = .ok (.goto 4, 3) := dk_167 0 4 (dk_at dksX2_weight_0 20 rfl rfl)
theorem dX2_weight_23 : decode cX2_weight 23 = .ok (.iconst 0, 1) := dk_3 (dk_at dksX2_weight_0 23 rfl rfl)
theorem dX2_weight_24 : decode cX2_weight 24 = .ok (.ireturn, 1) := dk_172 (dk_at dksX2_weight_1 0 rfl rfl)
theorem dX2_weight_25 : decode cX2_weight 25 = .ok (.aload_n 0, 1) := dk_42 (dk_at dksX2_weight_1 1 rfl rfl)
theorem dX2_weight_26 : decode cX2_weight 26 = .ok (.iload_n 1, 1) := dk_27 (dk_at dksX2_weight_1 2 rfl rfl)
theorem dX2_weight_27 : decode cX2_weight 27 = .ok (.invokevirtual 70, 3) := dk_182 0 70 (dk_at dksX2_weight_1 3 rfl rfl)
theorem dX2_weight_30 : decode cX2_weight 30 = .ok (.aload_n 0, 1) := dk_42 (dk_at dksX2_weight_1 6 rfl rfl)
theorem dX2_weight_31 : decode cX2_weight 31 = .ok (.getfield 9, 3) := dk_180 0 9 (dk_at dksX2_weight_1 7 rfl rfl)
theorem dX2_weight_34 : decode cX2_weight 34 = .ok (.aload_n 0, 1) := dk_42 (dk_at dksX2_weight_1 10 rfl rfl)
theorem dX2_weight_35 : decode cX2_weight 35 = .ok (.iload_n 1, 1) := dk_27 (dk_at dksX2_weight_1 11 rfl rfl)
theorem dX2_weight_36 : decode cX2_weight 36 = .ok (.invokevirtual 70, 3) := dk_182 0 70 (dk_at dksX2_weight_1 12 rfl rfl)
theorem dX2_weight_39 : decode cX2_weight 39 = .ok (.getfield 74, 3) := dk_180 0 74 (dk_at dksX2_weight_1 15 rfl rfl)
theorem dX2_weight_42 : decode cX2_weight 42 = .ok (.iaload, 1) := dk_46 (dk_at dksX2_weight_1 18 rfl rfl)
theorem dX2_weight_43 : decode cX2_weight 43 = .ok (.iload_n 1, 1) := dk_27 (dk_at dksX2_weight_1 19 rfl rfl)
theorem dX2_weight_44 : decode cX2_weight 44 = .ok (.ifCond .ne 8, 3) := dk_154 0 8 (dk_at dksX2_weight_1 20 rfl rfl)
theorem dX2_weight_47 : decode cX2_weight 47 = .ok (.ldc 77, 2) := dk_18 77 (dk_at dksX2_weight_2 0 rfl rfl)
theorem dX2_weight_49 : decode cX2_weight 49 = .ok (.goto 10, 3) := dk_167 0 10 (dk_at dksX2_weight_2 2 rfl rfl)
theorem dX2_weight_52 : decode cX2_weight 52 = .ok (.aload_n 0, 1) := dk_42 (dk_at dksX2_weight_2 5 rfl rfl)
theorem dX2_weight_53 : decode cX2_weight 53 = .ok (.iload_n 1, 1) := dk_27 (dk_at dksX2_weight_2 6 rfl rfl)
theorem dX2_weight_54 : decode cX2_weight 54 = .ok (.iconst 1, 1) := dk_4 (dk_at dksX2_weight_2 7 rfl rfl)
theorem dX2_weight_55 : decode cX2_weight 55 = .ok (.isub, 1) := dk_100 (dk_at dksX2_weight_2 8 rfl rfl)
theorem dX2_weight_56 : decode cX2_weight 56 = .ok (.invokevirtual 78, 3) := dk_182 0 78 (dk_at dksX2_weight_2 9 rfl rfl)
theorem dX2_weight_59 : decode cX2_weight 59 = .ok (.invokevirtual 82, 3) := dk_182 0 82 (dk_at dksX2_weight_2 12 rfl rfl)
theorem dX2_weight_62 : decode cX2_weight 62 = .ok (.ireturn, 1) := dk_172 (dk_at dksX2_weight_2 15 rfl rfl)
abbrev cX2_promise : ByteArray := prog_12_method_5_code
def yX2_promise : MethodName := ⟨RX2, "promise", "(I)LPromiseScales$Promise;"⟩
def dkwX2_promise_0 : List UInt8 := [42, 180, 0, 18, 27, 185, 0, 53, 2, 0, 192, 0, 57, 176]
abbrev dktX2_promise_0 : List UInt8 := dkwX2_promise_0 ++ []
theorem dksX2_promise_0 : cX2_promise.data.toList.drop 0 = dktX2_promise_0 := by decide +kernel
theorem dX2_promise_0 : decode cX2_promise 0 = .ok (.aload_n 0, 1) := dk_42 (dk_at dksX2_promise_0 0 rfl rfl)
theorem dX2_promise_1 : decode cX2_promise 1 = .ok (.getfield 18, 3) := dk_180 0 18 (dk_at dksX2_promise_0 1 rfl rfl)
theorem dX2_promise_4 : decode cX2_promise 4 = .ok (.iload_n 1, 1) := dk_27 (dk_at dksX2_promise_0 4 rfl rfl)
theorem dX2_promise_5 : decode cX2_promise 5 = .ok (.invokeinterface 53 2, 5) := by decide +kernel
theorem dX2_promise_10 : decode cX2_promise 10 = .ok (.checkcast 57, 3) := dk_192 0 57 (dk_at dksX2_promise_0 10 rfl rfl)
theorem dX2_promise_13 : decode cX2_promise 13 = .ok (.areturn, 1) := dk_176 (dk_at dksX2_promise_0 13 rfl rfl)
abbrev cX2_settle : ByteArray := prog_12_method_12_code
def yX2_settle : MethodName := ⟨RX2, "settle", "(IZ)V"⟩
def dkwX2_settle_2 : List UInt8 := [180, 0, 9, 29, 46, 28, 153, 0, 7, 4, 167, 0, 4, 2, 96, 184, 0, 103, 184, 0, 108, 79, 177]
abbrev dktX2_settle_2 : List UInt8 := dkwX2_settle_2 ++ []
def dkwX2_settle_1 : List UInt8 := [42, 89, 180, 0, 35, 4, 27, 120, 2, 130, 126, 181, 0, 35, 42, 180, 0, 9, 29, 3, 16, 10, 42]
abbrev dktX2_settle_1 : List UInt8 := dkwX2_settle_1 ++ dktX2_settle_2
def dkwX2_settle_0 : List UInt8 := [42, 27, 182, 0, 70, 180, 0, 74, 62, 42, 180, 0, 22, 27, 28, 153, 0, 7, 4, 167, 0, 4, 5, 79]
abbrev dktX2_settle_0 : List UInt8 := dkwX2_settle_0 ++ dktX2_settle_1
theorem dksX2_settle_0 : cX2_settle.data.toList.drop 0 = dktX2_settle_0 := by decide +kernel
theorem dksX2_settle_1 : cX2_settle.data.toList.drop 24 = dktX2_settle_1 := dk_seg dksX2_settle_0 24 rfl rfl
theorem dksX2_settle_2 : cX2_settle.data.toList.drop 47 = dktX2_settle_2 := dk_seg dksX2_settle_1 23 rfl rfl
theorem dX2_settle_0 : decode cX2_settle 0 = .ok (.aload_n 0, 1) := dk_42 (dk_at dksX2_settle_0 0 rfl rfl)
theorem dX2_settle_1 : decode cX2_settle 1 = .ok (.iload_n 1, 1) := dk_27 (dk_at dksX2_settle_0 1 rfl rfl)
theorem dX2_settle_2 : decode cX2_settle 2 = .ok (.invokevirtual 70, 3) := dk_182 0 70 (dk_at dksX2_settle_0 2 rfl rfl)
theorem dX2_settle_5 : decode cX2_settle 5 = .ok (.getfield 74, 3) := dk_180 0 74 (dk_at dksX2_settle_0 5 rfl rfl)
theorem dX2_settle_8 : decode cX2_settle 8 = .ok (.istore_n 3, 1) := dk_62 (dk_at dksX2_settle_0 8 rfl rfl)
theorem dX2_settle_9 : decode cX2_settle 9 = .ok (.aload_n 0, 1) := dk_42 (dk_at dksX2_settle_0 9 rfl rfl)
theorem dX2_settle_10 : decode cX2_settle 10 = .ok (.getfield 22, 3) := dk_180 0 22 (dk_at dksX2_settle_0 10 rfl rfl)
theorem dX2_settle_13 : decode cX2_settle 13 = .ok (.iload_n 1, 1) := dk_27 (dk_at dksX2_settle_0 13 rfl rfl)
theorem dX2_settle_14 : decode cX2_settle 14 = .ok (.iload_n 2, 1) := dk_28 (dk_at dksX2_settle_0 14 rfl rfl)
theorem dX2_settle_15 : decode cX2_settle 15 = .ok (.ifCond .eq 7, 3) := dk_153 0 7 (dk_at dksX2_settle_0 15 rfl rfl)
theorem dX2_settle_18 : decode cX2_settle 18 = .ok (.iconst 1, 1) := dk_4 (dk_at dksX2_settle_0 18 rfl rfl)
theorem dX2_settle_19 : decode cX2_settle 19 = .ok (.goto 4, 3) := dk_167 0 4 (dk_at dksX2_settle_0 19 rfl rfl)
theorem dX2_settle_22 : decode cX2_settle 22 = .ok (.iconst 2, 1) := dk_5 (dk_at dksX2_settle_0 22 rfl rfl)
theorem dX2_settle_23 : decode cX2_settle 23 = .ok (.iastore, 1) := dk_79 (dk_at dksX2_settle_0 23 rfl rfl)
theorem dX2_settle_24 : decode cX2_settle 24 = .ok (.aload_n 0, 1) := dk_42 (dk_at dksX2_settle_1 0 rfl rfl)
theorem dX2_settle_25 : decode cX2_settle 25 = .ok (.dup, 1) := dk_89 (dk_at dksX2_settle_1 1 rfl rfl)
theorem dX2_settle_26 : decode cX2_settle 26 = .ok (.getfield 35, 3) := dk_180 0 35 (dk_at dksX2_settle_1 2 rfl rfl)
theorem dX2_settle_29 : decode cX2_settle 29 = .ok (.iconst 1, 1) := dk_4 (dk_at dksX2_settle_1 5 rfl rfl)
theorem dX2_settle_30 : decode cX2_settle 30 = .ok (.iload_n 1, 1) := dk_27 (dk_at dksX2_settle_1 6 rfl rfl)
theorem dX2_settle_31 : decode cX2_settle 31 = .ok (.ishl, 1) := dk_120 (dk_at dksX2_settle_1 7 rfl rfl)
theorem dX2_settle_32 : decode cX2_settle 32 = .ok (.iconst (-1), 1) := dk_2 (dk_at dksX2_settle_1 8 rfl rfl)
theorem dX2_settle_33 : decode cX2_settle 33 = .ok (.ixor, 1) := dk_130 (dk_at dksX2_settle_1 9 rfl rfl)
theorem dX2_settle_34 : decode cX2_settle 34 = .ok (.iand, 1) := dk_126 (dk_at dksX2_settle_1 10 rfl rfl)
theorem dX2_settle_35 : decode cX2_settle 35 = .ok (.putfield 35, 3) := dk_181 0 35 (dk_at dksX2_settle_1 11 rfl rfl)
theorem dX2_settle_38 : decode cX2_settle 38 = .ok (.aload_n 0, 1) := dk_42 (dk_at dksX2_settle_1 14 rfl rfl)
theorem dX2_settle_39 : decode cX2_settle 39 = .ok (.getfield 9, 3) := dk_180 0 9 (dk_at dksX2_settle_1 15 rfl rfl)
theorem dX2_settle_42 : decode cX2_settle 42 = .ok (.iload_n 3, 1) := dk_29 (dk_at dksX2_settle_1 18 rfl rfl)
theorem dX2_settle_43 : decode cX2_settle 43 = .ok (.iconst 0, 1) := dk_3 (dk_at dksX2_settle_1 19 rfl rfl)
theorem dX2_settle_44 : decode cX2_settle 44 = .ok (.bipush 10, 2) := dk_16 10 (dk_at dksX2_settle_1 20 rfl rfl)
theorem dX2_settle_46 : decode cX2_settle 46 = .ok (.aload_n 0, 1) := dk_42 (dk_at dksX2_settle_1 22 rfl rfl)
theorem dX2_settle_47 : decode cX2_settle 47 = .ok (.getfield 9, 3) := dk_180 0 9 (dk_at dksX2_settle_2 0 rfl rfl)
theorem dX2_settle_50 : decode cX2_settle 50 = .ok (.iload_n 3, 1) := dk_29 (dk_at dksX2_settle_2 3 rfl rfl)
theorem dX2_settle_51 : decode cX2_settle 51 = .ok (.iaload, 1) := dk_46 (dk_at dksX2_settle_2 4 rfl rfl)
theorem dX2_settle_52 : decode cX2_settle 52 = .ok (.iload_n 2, 1) := dk_28 (dk_at dksX2_settle_2 5 rfl rfl)
theorem dX2_settle_53 : decode cX2_settle 53 = .ok (.ifCond .eq 7, 3) := dk_153 0 7 (dk_at dksX2_settle_2 6 rfl rfl)
theorem dX2_settle_56 : decode cX2_settle 56 = .ok (.iconst 1, 1) := dk_4 (dk_at dksX2_settle_2 9 rfl rfl)
theorem dX2_settle_57 : decode cX2_settle 57 = .ok (.goto 4, 3) := dk_167 0 4 (dk_at dksX2_settle_2 10 rfl rfl)
theorem dX2_settle_60 : decode cX2_settle 60 = .ok (.iconst (-1), 1) := dk_2 (dk_at dksX2_settle_2 13 rfl rfl)
theorem dX2_settle_61 : decode cX2_settle 61 = .ok (.iadd, 1) := dk_96 (dk_at dksX2_settle_2 14 rfl rfl)
theorem dX2_settle_62 : decode cX2_settle 62 = .ok (.invokestatic 103, 3) := dk_184 0 103 (dk_at dksX2_settle_2 15 rfl rfl)
theorem dX2_settle_65 : decode cX2_settle 65 = .ok (.invokestatic 108, 3) := dk_184 0 108 (dk_at dksX2_settle_2 18 rfl rfl)
theorem dX2_settle_68 : decode cX2_settle 68 = .ok (.iastore, 1) := dk_79 (dk_at dksX2_settle_2 21 rfl rfl)
theorem dX2_settle_69 : decode cX2_settle 69 = .ok (.return_, 1) := dk_177 (dk_at dksX2_settle_2 22 rfl rfl)
abbrev cX2_all : ByteArray := prog_12_method_4_code
def yX2_all : MethodName := ⟨RX2, "all", "()I"⟩
def dkwX2_all_0 : List UInt8 := [4, 42, 182, 0, 63, 120, 4, 100, 172]
abbrev dktX2_all_0 : List UInt8 := dkwX2_all_0 ++ []
theorem dksX2_all_0 : cX2_all.data.toList.drop 0 = dktX2_all_0 := by decide +kernel
theorem dX2_all_0 : decode cX2_all 0 = .ok (.iconst 1, 1) := dk_4 (dk_at dksX2_all_0 0 rfl rfl)
theorem dX2_all_1 : decode cX2_all 1 = .ok (.aload_n 0, 1) := dk_42 (dk_at dksX2_all_0 1 rfl rfl)
theorem dX2_all_2 : decode cX2_all 2 = .ok (.invokevirtual 63, 3) := dk_182 0 63 (dk_at dksX2_all_0 2 rfl rfl)
theorem dX2_all_5 : decode cX2_all 5 = .ok (.ishl, 1) := dk_120 (dk_at dksX2_all_0 5 rfl rfl)
theorem dX2_all_6 : decode cX2_all 6 = .ok (.iconst 1, 1) := dk_4 (dk_at dksX2_all_0 6 rfl rfl)
theorem dX2_all_7 : decode cX2_all 7 = .ok (.isub, 1) := dk_100 (dk_at dksX2_all_0 7 rfl rfl)
theorem dX2_all_8 : decode cX2_all 8 = .ok (.ireturn, 1) := dk_172 (dk_at dksX2_all_0 8 rfl rfl)
abbrev cX2_isClash : ByteArray := prog_12_method_10_code
def yX2_isClash : MethodName := ⟨RX2, "isClash", "(II)Z"⟩
def dkwX2_isClash_2 : List UInt8 := [180, 0, 97, 160, 0, 19, 45, 180, 0, 100, 25, 4, 180, 0, 100, 159, 0, 7, 4, 167, 0, 4, 3, 172]
abbrev dktX2_isClash_2 : List UInt8 := dkwX2_isClash_2 ++ []
def dkwX2_isClash_1 : List UInt8 := [182, 0, 66, 153, 0, 43, 45, 180, 0, 74, 25, 4, 180, 0, 74, 160, 0, 31, 45, 180, 0, 97, 25, 4]
abbrev dktX2_isClash_1 : List UInt8 := dkwX2_isClash_1 ++ dktX2_isClash_2
def dkwX2_isClash_0 : List UInt8 := [42, 27, 182, 0, 70, 78, 42, 28, 182, 0, 70, 58, 4, 42, 27, 182, 0, 66, 153, 0, 51, 42, 28]
abbrev dktX2_isClash_0 : List UInt8 := dkwX2_isClash_0 ++ dktX2_isClash_1
theorem dksX2_isClash_0 : cX2_isClash.data.toList.drop 0 = dktX2_isClash_0 := by decide +kernel
theorem dksX2_isClash_1 : cX2_isClash.data.toList.drop 23 = dktX2_isClash_1 := dk_seg dksX2_isClash_0 23 rfl rfl
theorem dksX2_isClash_2 : cX2_isClash.data.toList.drop 47 = dktX2_isClash_2 := dk_seg dksX2_isClash_1 24 rfl rfl
theorem dX2_isClash_0 : decode cX2_isClash 0 = .ok (.aload_n 0, 1) := dk_42 (dk_at dksX2_isClash_0 0 rfl rfl)
theorem dX2_isClash_1 : decode cX2_isClash 1 = .ok (.iload_n 1, 1) := dk_27 (dk_at dksX2_isClash_0 1 rfl rfl)
theorem dX2_isClash_2 : decode cX2_isClash 2 = .ok (.invokevirtual 70, 3) := dk_182 0 70 (dk_at dksX2_isClash_0 2 rfl rfl)
theorem dX2_isClash_5 : decode cX2_isClash 5 = .ok (.astore_n 3, 1) := dk_78 (dk_at dksX2_isClash_0 5 rfl rfl)
theorem dX2_isClash_6 : decode cX2_isClash 6 = .ok (.aload_n 0, 1) := dk_42 (dk_at dksX2_isClash_0 6 rfl rfl)
theorem dX2_isClash_7 : decode cX2_isClash 7 = .ok (.iload_n 2, 1) := dk_28 (dk_at dksX2_isClash_0 7 rfl rfl)
theorem dX2_isClash_8 : decode cX2_isClash 8 = .ok (.invokevirtual 70, 3) := dk_182 0 70 (dk_at dksX2_isClash_0 8 rfl rfl)
theorem dX2_isClash_11 : decode cX2_isClash 11 = .ok (.astore 4, 2) := dk_58 4 (dk_at dksX2_isClash_0 11 rfl rfl)
theorem dX2_isClash_13 : decode cX2_isClash 13 = .ok (.aload_n 0, 1) := dk_42 (dk_at dksX2_isClash_0 13 rfl rfl)
theorem dX2_isClash_14 : decode cX2_isClash 14 = .ok (.iload_n 1, 1) := dk_27 (dk_at dksX2_isClash_0 14 rfl rfl)
theorem dX2_isClash_15 : decode cX2_isClash 15 = .ok (.invokevirtual 66, 3) := dk_182 0 66 (dk_at dksX2_isClash_0 15 rfl rfl)
theorem dX2_isClash_18 : decode cX2_isClash 18 = .ok (.ifCond .eq 51, 3) := dk_153 0 51 (dk_at dksX2_isClash_0 18 rfl rfl)
theorem dX2_isClash_21 : decode cX2_isClash 21 = .ok (.aload_n 0, 1) := dk_42 (dk_at dksX2_isClash_0 21 rfl rfl)
theorem dX2_isClash_22 : decode cX2_isClash 22 = .ok (.iload_n 2, 1) := dk_28 (dk_at dksX2_isClash_0 22 rfl rfl)
theorem dX2_isClash_23 : decode cX2_isClash 23 = .ok (.invokevirtual 66, 3) := dk_182 0 66 (dk_at dksX2_isClash_1 0 rfl rfl)
theorem dX2_isClash_26 : decode cX2_isClash 26 = .ok (.ifCond .eq 43, 3) := dk_153 0 43 (dk_at dksX2_isClash_1 3 rfl rfl)
theorem dX2_isClash_29 : decode cX2_isClash 29 = .ok (.aload_n 3, 1) := dk_45 (dk_at dksX2_isClash_1 6 rfl rfl)
theorem dX2_isClash_30 : decode cX2_isClash 30 = .ok (.getfield 74, 3) := dk_180 0 74 (dk_at dksX2_isClash_1 7 rfl rfl)
theorem dX2_isClash_33 : decode cX2_isClash 33 = .ok (.aload 4, 2) := dk_25 4 (dk_at dksX2_isClash_1 10 rfl rfl)
theorem dX2_isClash_35 : decode cX2_isClash 35 = .ok (.getfield 74, 3) := dk_180 0 74 (dk_at dksX2_isClash_1 12 rfl rfl)
theorem dX2_isClash_38 : decode cX2_isClash 38 = .ok (.if_icmp .ne 31, 3) := dk_160 0 31 (dk_at dksX2_isClash_1 15 rfl rfl)
theorem dX2_isClash_41 : decode cX2_isClash 41 = .ok (.aload_n 3, 1) := dk_45 (dk_at dksX2_isClash_1 18 rfl rfl)
theorem dX2_isClash_42 : decode cX2_isClash 42 = .ok (.getfield 97, 3) := dk_180 0 97 (dk_at dksX2_isClash_1 19 rfl rfl)
theorem dX2_isClash_45 : decode cX2_isClash 45 = .ok (.aload 4, 2) := dk_25 4 (dk_at dksX2_isClash_1 22 rfl rfl)
theorem dX2_isClash_47 : decode cX2_isClash 47 = .ok (.getfield 97, 3) := dk_180 0 97 (dk_at dksX2_isClash_2 0 rfl rfl)
theorem dX2_isClash_50 : decode cX2_isClash 50 = .ok (.if_icmp .ne 19, 3) := dk_160 0 19 (dk_at dksX2_isClash_2 3 rfl rfl)
theorem dX2_isClash_53 : decode cX2_isClash 53 = .ok (.aload_n 3, 1) := dk_45 (dk_at dksX2_isClash_2 6 rfl rfl)
theorem dX2_isClash_54 : decode cX2_isClash 54 = .ok (.getfield 100, 3) := dk_180 0 100 (dk_at dksX2_isClash_2 7 rfl rfl)
theorem dX2_isClash_57 : decode cX2_isClash 57 = .ok (.aload 4, 2) := dk_25 4 (dk_at dksX2_isClash_2 10 rfl rfl)
theorem dX2_isClash_59 : decode cX2_isClash 59 = .ok (.getfield 100, 3) := dk_180 0 100 (dk_at dksX2_isClash_2 12 rfl rfl)
theorem dX2_isClash_62 : decode cX2_isClash 62 = .ok (.if_icmp .eq 7, 3) := dk_159 0 7 (dk_at dksX2_isClash_2 15 rfl rfl)
theorem dX2_isClash_65 : decode cX2_isClash 65 = .ok (.iconst 1, 1) := dk_4 (dk_at dksX2_isClash_2 18 rfl rfl)
theorem dX2_isClash_66 : decode cX2_isClash 66 = .ok (.goto 4, 3) := dk_167 0 4 (dk_at dksX2_isClash_2 19 rfl rfl)
theorem dX2_isClash_69 : decode cX2_isClash 69 = .ok (.iconst 0, 1) := dk_3 (dk_at dksX2_isClash_2 22 rfl rfl)
theorem dX2_isClash_70 : decode cX2_isClash 70 = .ok (.ireturn, 1) := dk_172 (dk_at dksX2_isClash_2 23 rfl rfl)
abbrev cX2_open : ByteArray := prog_12_method_11_code
def yX2_open : MethodName := ⟨RX2, "open", "()I"⟩
def dkwX2_open_1 : List UInt8 := [167, 0, 4, 3, 128, 60, 132, 2, 1, 167, 255, 227, 27, 172]
abbrev dktX2_open_1 : List UInt8 := dkwX2_open_1 ++ []
def dkwX2_open_0 : List UInt8 := [3, 60, 3, 61, 28, 42, 182, 0, 63, 162, 0, 27, 27, 42, 28, 182, 0, 66, 153, 0, 9, 4, 28, 120]
abbrev dktX2_open_0 : List UInt8 := dkwX2_open_0 ++ dktX2_open_1
theorem dksX2_open_0 : cX2_open.data.toList.drop 0 = dktX2_open_0 := by decide +kernel
theorem dksX2_open_1 : cX2_open.data.toList.drop 24 = dktX2_open_1 := dk_seg dksX2_open_0 24 rfl rfl
theorem dX2_open_0 : decode cX2_open 0 = .ok (.iconst 0, 1) := dk_3 (dk_at dksX2_open_0 0 rfl rfl)
theorem dX2_open_1 : decode cX2_open 1 = .ok (.istore_n 1, 1) := dk_60 (dk_at dksX2_open_0 1 rfl rfl)
theorem dX2_open_2 : decode cX2_open 2 = .ok (.iconst 0, 1) := dk_3 (dk_at dksX2_open_0 2 rfl rfl)
theorem dX2_open_3 : decode cX2_open 3 = .ok (.istore_n 2, 1) := dk_61 (dk_at dksX2_open_0 3 rfl rfl)
theorem dX2_open_4 : decode cX2_open 4 = .ok (.iload_n 2, 1) := dk_28 (dk_at dksX2_open_0 4 rfl rfl)
theorem dX2_open_5 : decode cX2_open 5 = .ok (.aload_n 0, 1) := dk_42 (dk_at dksX2_open_0 5 rfl rfl)
theorem dX2_open_6 : decode cX2_open 6 = .ok (.invokevirtual 63, 3) := dk_182 0 63 (dk_at dksX2_open_0 6 rfl rfl)
theorem dX2_open_9 : decode cX2_open 9 = .ok (.if_icmp .ge 27, 3) := dk_162 0 27 (dk_at dksX2_open_0 9 rfl rfl)
theorem dX2_open_12 : decode cX2_open 12 = .ok (.iload_n 1, 1) := dk_27 (dk_at dksX2_open_0 12 rfl rfl)
theorem dX2_open_13 : decode cX2_open 13 = .ok (.aload_n 0, 1) := dk_42 (dk_at dksX2_open_0 13 rfl rfl)
theorem dX2_open_14 : decode cX2_open 14 = .ok (.iload_n 2, 1) := dk_28 (dk_at dksX2_open_0 14 rfl rfl)
theorem dX2_open_15 : decode cX2_open 15 = .ok (.invokevirtual 66, 3) := dk_182 0 66 (dk_at dksX2_open_0 15 rfl rfl)
theorem dX2_open_18 : decode cX2_open 18 = .ok (.ifCond .eq 9, 3) := dk_153 0 9 (dk_at dksX2_open_0 18 rfl rfl)
theorem dX2_open_21 : decode cX2_open 21 = .ok (.iconst 1, 1) := dk_4 (dk_at dksX2_open_0 21 rfl rfl)
theorem dX2_open_22 : decode cX2_open 22 = .ok (.iload_n 2, 1) := dk_28 (dk_at dksX2_open_0 22 rfl rfl)
theorem dX2_open_23 : decode cX2_open 23 = .ok (.ishl, 1) := dk_120 (dk_at dksX2_open_0 23 rfl rfl)
theorem dX2_open_24 : decode cX2_open 24 = .ok (.goto 4, 3) := dk_167 0 4 (dk_at dksX2_open_1 0 rfl rfl)
theorem dX2_open_27 : decode cX2_open 27 = .ok (.iconst 0, 1) := dk_3 (dk_at dksX2_open_1 3 rfl rfl)
theorem dX2_open_28 : decode cX2_open 28 = .ok (.ior, 1) := dk_128 (dk_at dksX2_open_1 4 rfl rfl)
theorem dX2_open_29 : decode cX2_open 29 = .ok (.istore_n 1, 1) := dk_60 (dk_at dksX2_open_1 5 rfl rfl)
theorem dX2_open_30 : decode cX2_open 30 = .ok (.iinc 2 1, 3) := dk_132 2 1 (dk_at dksX2_open_1 6 rfl rfl)
theorem dX2_open_33 : decode cX2_open 33 = .ok (.goto (-29), 3) := dk_167 255 227 (dk_at dksX2_open_1 9 rfl rfl)
theorem dX2_open_36 : decode cX2_open 36 = .ok (.iload_n 1, 1) := dk_27 (dk_at dksX2_open_1 12 rfl rfl)
theorem dX2_open_37 : decode cX2_open 37 = .ok (.ireturn, 1) := dk_172 (dk_at dksX2_open_1 13 rfl rfl)
theorem q70 : (Jvm.Cond.initialized "PromiseScales$Scales") ∈ lw_all := lw_g (lw_at lw_m1 3 rfl) rfl
theorem q129 : (Jvm.Cond.instantiable "PromiseScales$Scales" (7 : Nat)) ∈ lw_all := lw_g (lw_at lw_m1 62 rfl) rfl
theorem q131 : (Jvm.Cond.instanceMethod ({ cls := "PromiseScales$Scales", name := "<init>", desc := "()V" } : Jvm.MethodName)) ∈ lw_all := lw_g (lw_at lw_m1 64 rfl) rfl
theorem q132 : (Jvm.Cond.code ({ cls := "PromiseScales$Scales", name := "<init>", desc := "()V" } : Jvm.MethodName) prog_12_method_1_code (1 : Nat) (Option.none : Option Jvm.ClassFile.FieldType)) ∈ lw_all := lw_g (lw_at lw_m1 65 rfl) rfl
theorem q133 : (Jvm.Cond.methodLink "PromiseScales$Scales" (3 : Nat) ({ cls := "java/lang/Object", name := "<init>", desc := "()V" } : Jvm.MethodName)) ∈ lw_all := lw_g (lw_at lw_m1 66 rfl) rfl
theorem q134 : (Jvm.Cond.classLink "PromiseScales$Scales" (15 : Nat) "java/util/ArrayList") ∈ lw_all := lw_g (lw_at lw_m1 67 rfl) rfl
theorem q136 : (Jvm.Cond.methodLink "PromiseScales$Scales" (17 : Nat) ({ cls := "java/util/ArrayList", name := "<init>", desc := "()V" } : Jvm.MethodName)) ∈ lw_all := lw_g (lw_at lw_m1 69 rfl) rfl
theorem q162 : (Jvm.Cond.fieldLink "PromiseScales$Scales" (25 : Nat) "PromiseScales$Scales" "wax" "I") ∈ lw_all := lw_g (lw_at lw_m1 95 rfl) rfl
theorem q165 : (Jvm.Cond.fieldLink "PromiseScales$Scales" (29 : Nat) "PromiseScales$Scales" "stick" "I") ∈ lw_all := lw_g (lw_at lw_m1 98 rfl) rfl
theorem q168 : (Jvm.Cond.fieldLink "PromiseScales$Scales" (32 : Nat) "PromiseScales$Scales" "givers" "I") ∈ lw_all := lw_g (lw_at lw_m1 101 rfl) rfl
theorem q171 : (Jvm.Cond.fieldLink "PromiseScales$Scales" (9 : Nat) "PromiseScales$Scales" "keeps" "[I") ∈ lw_all := lw_g (lw_at lw_m1 104 rfl) rfl
theorem q174 : (Jvm.Cond.fieldLink "PromiseScales$Scales" (18 : Nat) "PromiseScales$Scales" "promises" "Ljava/util/List;") ∈ lw_all := lw_g (lw_at lw_m1 107 rfl) rfl
theorem q176 : (Jvm.Cond.fieldLink "PromiseScales$Scales" (22 : Nat) "PromiseScales$Scales" "state" "[I") ∈ lw_all := lw_g (lw_at lw_m1 109 rfl) rfl
theorem q178 : (Jvm.Cond.fieldLink "PromiseScales$Scales" (35 : Nat) "PromiseScales$Scales" "pan" "I") ∈ lw_all := lw_g (lw_at lw_m1 111 rfl) rfl
theorem q180 : (Jvm.Cond.lays "PromiseScales$Scales" "PromiseScales$Scales" "wax" "I") ∈ lw_all := lw_g (lw_at lw_m1 113 rfl) rfl
theorem q181 : (Jvm.Cond.soleField "PromiseScales$Scales" "wax") ∈ lw_all := lw_g (lw_at lw_m1 114 rfl) rfl
theorem q182 : (Jvm.Cond.lays "PromiseScales$Scales" "PromiseScales$Scales" "stick" "I") ∈ lw_all := lw_g (lw_at lw_m1 115 rfl) rfl
theorem q183 : (Jvm.Cond.soleField "PromiseScales$Scales" "stick") ∈ lw_all := lw_g (lw_at lw_m1 116 rfl) rfl
theorem q184 : (Jvm.Cond.lays "PromiseScales$Scales" "PromiseScales$Scales" "givers" "I") ∈ lw_all := lw_g (lw_at lw_m1 117 rfl) rfl
theorem q185 : (Jvm.Cond.soleField "PromiseScales$Scales" "givers") ∈ lw_all := lw_g (lw_at lw_m1 118 rfl) rfl
theorem q186 : (Jvm.Cond.laysFinal "PromiseScales$Scales" "PromiseScales$Scales" "keeps" "[I") ∈ lw_all := lw_g (lw_at lw_m1 119 rfl) rfl
theorem q187 : (Jvm.Cond.soleField "PromiseScales$Scales" "keeps") ∈ lw_all := lw_g (lw_at lw_m1 120 rfl) rfl
theorem q188 : (Jvm.Cond.laysFinal "PromiseScales$Scales" "PromiseScales$Scales" "promises" "Ljava/util/List;") ∈ lw_all := lw_g (lw_at lw_m1 121 rfl) rfl
theorem q189 : (Jvm.Cond.soleField "PromiseScales$Scales" "promises") ∈ lw_all := lw_g (lw_at lw_m1 122 rfl) rfl
theorem q190 : (Jvm.Cond.laysFinal "PromiseScales$Scales" "PromiseScales$Scales" "state" "[I") ∈ lw_all := lw_g (lw_at lw_m1 123 rfl) rfl
theorem q191 : (Jvm.Cond.soleField "PromiseScales$Scales" "state") ∈ lw_all := lw_g (lw_at lw_m1 124 rfl) rfl
theorem q192 : (Jvm.Cond.lays "PromiseScales$Scales" "PromiseScales$Scales" "pan" "I") ∈ lw_all := lw_g (lw_at lw_m1 125 rfl) rfl
theorem q193 : (Jvm.Cond.soleField "PromiseScales$Scales" "pan") ∈ lw_all := lw_g (lw_at lw_m1 126 rfl) rfl
theorem q194 : (Jvm.Cond.superclass "PromiseScales$Scales" "java/lang/Object") ∈ lw_all := lw_g (lw_at lw_m1 127 rfl) rfl
theorem q647 : (Jvm.Cond.instanceMethod ({ cls := "PromiseScales$Scales", name := "many", desc := "()I" } : Jvm.MethodName)) ∈ lw_all := lw_g (lw_at lw_m3 100 rfl) rfl
theorem q648 : (Jvm.Cond.selects "PromiseScales$Scales" ({ cls := "PromiseScales$Scales", name := "many", desc := "()I" } : Jvm.MethodName) ({ cls := "PromiseScales$Scales", name := "many", desc := "()I" } : Jvm.MethodName)) ∈ lw_all := lw_g (lw_at lw_m3 101 rfl) rfl
theorem q649 : (Jvm.Cond.code ({ cls := "PromiseScales$Scales", name := "many", desc := "()I" } : Jvm.MethodName) prog_12_method_3_code (1 : Nat) (Option.some Jvm.ClassFile.FieldType.int)) ∈ lw_all := lw_g (lw_at lw_m3 102 rfl) rfl
theorem q650 : (Jvm.Cond.interfaceEntry "PromiseScales$Scales" (49 : Nat)) ∈ lw_tbl := lw_at lw_m3 103 rfl
theorem q651 : (Jvm.Cond.methodLink "PromiseScales$Scales" (49 : Nat) ({ cls := "java/util/List", name := "size", desc := "()I" } : Jvm.MethodName)) ∈ lw_all := lw_g (lw_at lw_m3 104 rfl) rfl
theorem q675 : (Jvm.Cond.fieldLink "PromiseScales$Scales" (74 : Nat) "PromiseScales$Promise" "giver" "I") ∈ lw_all := lw_g (lw_at lw_m3 128 rfl) rfl
theorem q678 : (Jvm.Cond.fieldLink "PromiseScales$Scales" (100 : Nat) "PromiseScales$Promise" "deed" "I") ∈ lw_all := lw_g (lw_at lw_m3 131 rfl) rfl
theorem q681 : (Jvm.Cond.fieldLink "PromiseScales$Scales" (97 : Nat) "PromiseScales$Promise" "day" "I") ∈ lw_all := lw_g (lw_at lw_m3 134 rfl) rfl
theorem q785 : (Jvm.Cond.selects "PromiseScales$Scales" ({ cls := "java/lang/Object", name := "getClass", desc := "()Ljava/lang/Class;" } : Jvm.MethodName) ({ cls := "java/lang/Object", name := "getClass", desc := "()Ljava/lang/Class;" } : Jvm.MethodName)) ∈ lw_all := lw_g (lw_at lw_m3 238 rfl) rfl
theorem q809 : (Jvm.Cond.instanceMethod ({ cls := "PromiseScales$Scales", name := "become", desc := "(LPromiseScales$Scales;)V" } : Jvm.MethodName)) ∈ lw_all := lw_g (lw_at lw_m4 22 rfl) rfl
theorem q810 : (Jvm.Cond.selects "PromiseScales$Scales" ({ cls := "PromiseScales$Scales", name := "become", desc := "(LPromiseScales$Scales;)V" } : Jvm.MethodName) ({ cls := "PromiseScales$Scales", name := "become", desc := "(LPromiseScales$Scales;)V" } : Jvm.MethodName)) ∈ lw_all := lw_g (lw_at lw_m4 23 rfl) rfl
theorem q811 : (Jvm.Cond.code ({ cls := "PromiseScales$Scales", name := "become", desc := "(LPromiseScales$Scales;)V" } : Jvm.MethodName) prog_12_method_2_code (3 : Nat) (Option.none : Option Jvm.ClassFile.FieldType)) ∈ lw_all := lw_g (lw_at lw_m4 24 rfl) rfl
theorem q812 : (Jvm.Cond.methodLink "PromiseScales$Scales" (38 : Nat) ({ cls := "java/lang/System", name := "arraycopy", desc := "(Ljava/lang/Object;ILjava/lang/Object;II)V" } : Jvm.MethodName)) ∈ lw_all := lw_g (lw_at lw_m4 25 rfl) rfl
theorem q813 : (Jvm.Cond.interfaceEntry "PromiseScales$Scales" (44 : Nat)) ∈ lw_tbl := lw_at lw_m4 26 rfl
theorem q814 : (Jvm.Cond.methodLink "PromiseScales$Scales" (44 : Nat) ({ cls := "java/util/List", name := "clear", desc := "()V" } : Jvm.MethodName)) ∈ lw_all := lw_g (lw_at lw_m4 27 rfl) rfl
theorem q822 : (Jvm.Cond.interfaceEntry "PromiseScales$Scales" (53 : Nat)) ∈ lw_tbl := lw_at lw_m4 35 rfl
theorem q823 : (Jvm.Cond.methodLink "PromiseScales$Scales" (53 : Nat) ({ cls := "java/util/List", name := "get", desc := "(I)Ljava/lang/Object;" } : Jvm.MethodName)) ∈ lw_all := lw_g (lw_at lw_m4 36 rfl) rfl
theorem q841 : (Jvm.Cond.classLink "PromiseScales$Scales" (57 : Nat) "PromiseScales$Promise") ∈ lw_all := lw_g (lw_at lw_m4 54 rfl) rfl
theorem q842 : (Jvm.Cond.interfaceEntry "PromiseScales$Scales" (59 : Nat)) ∈ lw_tbl := lw_at lw_m4 55 rfl
theorem q843 : (Jvm.Cond.methodLink "PromiseScales$Scales" (59 : Nat) ({ cls := "java/util/List", name := "add", desc := "(Ljava/lang/Object;)Z" } : Jvm.MethodName)) ∈ lw_all := lw_g (lw_at lw_m4 56 rfl) rfl
theorem q861 : (Jvm.Cond.instanceMethod ({ cls := "PromiseScales$Scales", name := "isOpen", desc := "(I)Z" } : Jvm.MethodName)) ∈ lw_all := lw_g (lw_at lw_m4 74 rfl) rfl
theorem q862 : (Jvm.Cond.selects "PromiseScales$Scales" ({ cls := "PromiseScales$Scales", name := "isOpen", desc := "(I)Z" } : Jvm.MethodName) ({ cls := "PromiseScales$Scales", name := "isOpen", desc := "(I)Z" } : Jvm.MethodName)) ∈ lw_all := lw_g (lw_at lw_m4 75 rfl) rfl
theorem q863 : (Jvm.Cond.code ({ cls := "PromiseScales$Scales", name := "isOpen", desc := "(I)Z" } : Jvm.MethodName) prog_12_method_6_code (2 : Nat) (Option.some Jvm.ClassFile.FieldType.boolean)) ∈ lw_all := lw_g (lw_at lw_m4 76 rfl) rfl
theorem q873 : (Jvm.Cond.instanceMethod ({ cls := "PromiseScales$Scales", name := "reads", desc := "(I)I" } : Jvm.MethodName)) ∈ lw_all := lw_g (lw_at lw_m4 86 rfl) rfl
theorem q874 : (Jvm.Cond.selects "PromiseScales$Scales" ({ cls := "PromiseScales$Scales", name := "reads", desc := "(I)I" } : Jvm.MethodName) ({ cls := "PromiseScales$Scales", name := "reads", desc := "(I)I" } : Jvm.MethodName)) ∈ lw_all := lw_g (lw_at lw_m4 87 rfl) rfl
theorem q875 : (Jvm.Cond.code ({ cls := "PromiseScales$Scales", name := "reads", desc := "(I)I" } : Jvm.MethodName) prog_12_method_9_code (2 : Nat) (Option.some Jvm.ClassFile.FieldType.int)) ∈ lw_all := lw_g (lw_at lw_m4 88 rfl) rfl
theorem q876 : (Jvm.Cond.methodLink "PromiseScales$Scales" (90 : Nat) ({ cls := "PromiseScales$Scales", name := "weightOf", desc := "(I)I" } : Jvm.MethodName)) ∈ lw_all := lw_g (lw_at lw_m4 89 rfl) rfl
theorem q877 : (Jvm.Cond.instanceMethod ({ cls := "PromiseScales$Scales", name := "weightOf", desc := "(I)I" } : Jvm.MethodName)) ∈ lw_all := lw_g (lw_at lw_m4 90 rfl) rfl
theorem q878 : (Jvm.Cond.selects "PromiseScales$Scales" ({ cls := "PromiseScales$Scales", name := "weightOf", desc := "(I)I" } : Jvm.MethodName) ({ cls := "PromiseScales$Scales", name := "weightOf", desc := "(I)I" } : Jvm.MethodName)) ∈ lw_all := lw_g (lw_at lw_m4 91 rfl) rfl
theorem q879 : (Jvm.Cond.code ({ cls := "PromiseScales$Scales", name := "weightOf", desc := "(I)I" } : Jvm.MethodName) prog_12_method_8_code (4 : Nat) (Option.some Jvm.ClassFile.FieldType.int)) ∈ lw_all := lw_g (lw_at lw_m4 92 rfl) rfl
theorem q880 : (Jvm.Cond.methodLink "PromiseScales$Scales" (63 : Nat) ({ cls := "PromiseScales$Scales", name := "many", desc := "()I" } : Jvm.MethodName)) ∈ lw_all := lw_g (lw_at lw_m4 93 rfl) rfl
theorem q881 : (Jvm.Cond.methodLinkNest "PromiseScales$Scales" (86 : Nat) ({ cls := "PromiseScales", name := "has", desc := "(II)Z" } : Jvm.MethodName) "PromiseScales") ∈ lw_tbl := lw_at lw_m4 94 rfl
theorem q882 : (Jvm.Cond.methodLink "PromiseScales$Scales" (78 : Nat) ({ cls := "PromiseScales$Scales", name := "weight", desc := "(I)I" } : Jvm.MethodName)) ∈ lw_all := lw_g (lw_at lw_m4 95 rfl) rfl
theorem q883 : (Jvm.Cond.instanceMethod ({ cls := "PromiseScales$Scales", name := "weight", desc := "(I)I" } : Jvm.MethodName)) ∈ lw_all := lw_g (lw_at lw_m4 96 rfl) rfl
theorem q884 : (Jvm.Cond.selects "PromiseScales$Scales" ({ cls := "PromiseScales$Scales", name := "weight", desc := "(I)I" } : Jvm.MethodName) ({ cls := "PromiseScales$Scales", name := "weight", desc := "(I)I" } : Jvm.MethodName)) ∈ lw_all := lw_g (lw_at lw_m4 97 rfl) rfl
theorem q885 : (Jvm.Cond.code ({ cls := "PromiseScales$Scales", name := "weight", desc := "(I)I" } : Jvm.MethodName) prog_12_method_7_code (2 : Nat) (Option.some Jvm.ClassFile.FieldType.int)) ∈ lw_all := lw_g (lw_at lw_m4 98 rfl) rfl
theorem q886 : (Jvm.Cond.methodLink "PromiseScales$Scales" (66 : Nat) ({ cls := "PromiseScales$Scales", name := "isOpen", desc := "(I)Z" } : Jvm.MethodName)) ∈ lw_all := lw_g (lw_at lw_m4 99 rfl) rfl
theorem q887 : (Jvm.Cond.methodLink "PromiseScales$Scales" (70 : Nat) ({ cls := "PromiseScales$Scales", name := "promise", desc := "(I)LPromiseScales$Promise;" } : Jvm.MethodName)) ∈ lw_all := lw_g (lw_at lw_m4 100 rfl) rfl
theorem q888 : (Jvm.Cond.instanceMethod ({ cls := "PromiseScales$Scales", name := "promise", desc := "(I)LPromiseScales$Promise;" } : Jvm.MethodName)) ∈ lw_all := lw_g (lw_at lw_m4 101 rfl) rfl
theorem q889 : (Jvm.Cond.selects "PromiseScales$Scales" ({ cls := "PromiseScales$Scales", name := "promise", desc := "(I)LPromiseScales$Promise;" } : Jvm.MethodName) ({ cls := "PromiseScales$Scales", name := "promise", desc := "(I)LPromiseScales$Promise;" } : Jvm.MethodName)) ∈ lw_all := lw_g (lw_at lw_m4 102 rfl) rfl
theorem q890 : (Jvm.Cond.code ({ cls := "PromiseScales$Scales", name := "promise", desc := "(I)LPromiseScales$Promise;" } : Jvm.MethodName) prog_12_method_5_code (2 : Nat) (Option.some (Jvm.ClassFile.FieldType.object "PromiseScales$Promise"))) ∈ lw_all := lw_g (lw_at lw_m4 103 rfl) rfl
theorem q891 : (Jvm.Cond.constant "PromiseScales$Scales" (77 : Nat) (-1000000 : Int32)) ∈ lw_all := lw_g (lw_at lw_m4 104 rfl) rfl
theorem q892 : (Jvm.Cond.methodLink "PromiseScales$Scales" (82 : Nat) ({ cls := "PromiseScales$Promise", name := "weighs", desc := "(II)I" } : Jvm.MethodName)) ∈ lw_all := lw_g (lw_at lw_m4 105 rfl) rfl
theorem q917 : (Jvm.Cond.methodLinkNest "PromiseScales$Scales" (93 : Nat) ({ cls := "PromiseScales", name := "readsBy", desc := "(III)I" } : Jvm.MethodName) "PromiseScales") ∈ lw_tbl := lw_at lw_m4 130 rfl
theorem q925 : (Jvm.Cond.instanceMethod ({ cls := "PromiseScales$Scales", name := "settle", desc := "(IZ)V" } : Jvm.MethodName)) ∈ lw_all := lw_g (lw_at lw_m4 138 rfl) rfl
theorem q926 : (Jvm.Cond.selects "PromiseScales$Scales" ({ cls := "PromiseScales$Scales", name := "settle", desc := "(IZ)V" } : Jvm.MethodName) ({ cls := "PromiseScales$Scales", name := "settle", desc := "(IZ)V" } : Jvm.MethodName)) ∈ lw_all := lw_g (lw_at lw_m4 139 rfl) rfl
theorem q927 : (Jvm.Cond.code ({ cls := "PromiseScales$Scales", name := "settle", desc := "(IZ)V" } : Jvm.MethodName) prog_12_method_12_code (4 : Nat) (Option.none : Option Jvm.ClassFile.FieldType)) ∈ lw_all := lw_g (lw_at lw_m4 140 rfl) rfl
theorem q928 : (Jvm.Cond.methodLink "PromiseScales$Scales" (103 : Nat) ({ cls := "java/lang/Math", name := "min", desc := "(II)I" } : Jvm.MethodName)) ∈ lw_all := lw_g (lw_at lw_m4 141 rfl) rfl
theorem q929 : (Jvm.Cond.methodLink "PromiseScales$Scales" (108 : Nat) ({ cls := "java/lang/Math", name := "max", desc := "(II)I" } : Jvm.MethodName)) ∈ lw_all := lw_g (lw_at lw_m4 142 rfl) rfl
theorem q975 : (Jvm.Cond.instanceMethod ({ cls := "PromiseScales$Scales", name := "all", desc := "()I" } : Jvm.MethodName)) ∈ lw_all := lw_g (lw_at lw_m4 188 rfl) rfl
theorem q976 : (Jvm.Cond.selects "PromiseScales$Scales" ({ cls := "PromiseScales$Scales", name := "all", desc := "()I" } : Jvm.MethodName) ({ cls := "PromiseScales$Scales", name := "all", desc := "()I" } : Jvm.MethodName)) ∈ lw_all := lw_g (lw_at lw_m4 189 rfl) rfl
theorem q977 : (Jvm.Cond.code ({ cls := "PromiseScales$Scales", name := "all", desc := "()I" } : Jvm.MethodName) prog_12_method_4_code (1 : Nat) (Option.some Jvm.ClassFile.FieldType.int)) ∈ lw_all := lw_g (lw_at lw_m4 190 rfl) rfl
theorem q984 : (Jvm.Cond.instanceMethod ({ cls := "PromiseScales$Scales", name := "isClash", desc := "(II)Z" } : Jvm.MethodName)) ∈ lw_all := lw_g (lw_at lw_m4 197 rfl) rfl
theorem q985 : (Jvm.Cond.selects "PromiseScales$Scales" ({ cls := "PromiseScales$Scales", name := "isClash", desc := "(II)Z" } : Jvm.MethodName) ({ cls := "PromiseScales$Scales", name := "isClash", desc := "(II)Z" } : Jvm.MethodName)) ∈ lw_all := lw_g (lw_at lw_m4 198 rfl) rfl
theorem q986 : (Jvm.Cond.code ({ cls := "PromiseScales$Scales", name := "isClash", desc := "(II)Z" } : Jvm.MethodName) prog_12_method_10_code (5 : Nat) (Option.some Jvm.ClassFile.FieldType.boolean)) ∈ lw_all := lw_g (lw_at lw_m4 199 rfl) rfl
theorem q997 : (Jvm.Cond.instanceMethod ({ cls := "PromiseScales$Scales", name := "open", desc := "()I" } : Jvm.MethodName)) ∈ lw_all := lw_g (lw_at lw_m4 210 rfl) rfl
theorem q998 : (Jvm.Cond.selects "PromiseScales$Scales" ({ cls := "PromiseScales$Scales", name := "open", desc := "()I" } : Jvm.MethodName) ({ cls := "PromiseScales$Scales", name := "open", desc := "()I" } : Jvm.MethodName)) ∈ lw_all := lw_g (lw_at lw_m4 211 rfl) rfl
theorem q999 : (Jvm.Cond.code ({ cls := "PromiseScales$Scales", name := "open", desc := "()I" } : Jvm.MethodName) prog_12_method_11_code (3 : Nat) (Option.some Jvm.ClassFile.FieldType.int)) ∈ lw_all := lw_g (lw_at lw_m4 212 rfl) rfl
theorem q1693 : (Jvm.Cond.castable "PromiseScales$Scales" "java/lang/Object") ∈ lw_tbl := lw_at lw_m7 186 rfl
theorem in_X2 : ∀ w ∈ wsX20, w ∈ lw_all := lw_in wsX20 [180, 182, 184, 186, 188, 190, 192] (by decide +kernel) (by decide +kernel)
/-! PromiseScales$Trail -/
set_option maxRecDepth 100000
def RX3 : String := "PromiseScales$Trail"
def TX3 : u_T := fun k => match k with
  | 0 => ("PromiseScales$Trail", "body", "[I", true)
  | _ => ("PromiseScales$Trail", "many", "I", false)
def tyX3 : Nat → FieldType := fun k => match k with
  | 0 => .array .int
  | _ => .int
abbrev wsX30 : List Cond := u_ws RX3 TX3 2
theorem nmX3 : ∀ a, a < 2 → ∀ b, b < 2 → a ≠ b → (TX3 a).2.1 ≠ (TX3 b).2.1 := by decide +kernel
theorem tyX3_ok : ∀ k, k < 2 → parseFieldDescriptor (TX3 k).2.2.1 = some (tyX3 k) := by decide +kernel
abbrev cX3_init : ByteArray := prog_14_method_1_code
def yX3_init : MethodName := ⟨RX3, "<init>", "()V"⟩
def dkwX3_init_0 : List UInt8 := [42, 183, 0, 3, 42, 16, 16, 188, 10, 181, 0, 9, 177]
abbrev dktX3_init_0 : List UInt8 := dkwX3_init_0 ++ []
theorem dksX3_init_0 : cX3_init.data.toList.drop 0 = dktX3_init_0 := by decide +kernel
theorem dX3_init_0 : decode cX3_init 0 = .ok (.aload_n 0, 1) := dk_42 (dk_at dksX3_init_0 0 rfl rfl)
theorem dX3_init_1 : decode cX3_init 1 = .ok (.invokespecial 3, 3) := dk_183 0 3 (dk_at dksX3_init_0 1 rfl rfl)
theorem dX3_init_4 : decode cX3_init 4 = .ok (.aload_n 0, 1) := dk_42 (dk_at dksX3_init_0 4 rfl rfl)
theorem dX3_init_5 : decode cX3_init 5 = .ok (.bipush 16, 2) := dk_16 16 (dk_at dksX3_init_0 5 rfl rfl)
theorem dX3_init_7 : decode cX3_init 7 = .ok (.newarray .int, 2) := dk_188_10 (dk_at dksX3_init_0 7 rfl rfl)
theorem dX3_init_9 : decode cX3_init 9 = .ok (.putfield 9, 3) := dk_181 0 9 (dk_at dksX3_init_0 9 rfl rfl)
theorem dX3_init_12 : decode cX3_init 12 = .ok (.return_, 1) := dk_177 (dk_at dksX3_init_0 12 rfl rfl)
abbrev cX3_begins : ByteArray := prog_14_method_2_code
def yX3_begins : MethodName := ⟨RX3, "begins", "(I)V"⟩
def dkwX3_begins_1 : List UInt8 := [27, 79, 177]
abbrev dktX3_begins_1 : List UInt8 := dkwX3_begins_1 ++ []
def dkwX3_begins_0 : List UInt8 := [42, 180, 0, 15, 16, 16, 162, 0, 20, 42, 180, 0, 9, 42, 89, 180, 0, 15, 90, 4, 96, 181, 0, 15]
abbrev dktX3_begins_0 : List UInt8 := dkwX3_begins_0 ++ dktX3_begins_1
theorem dksX3_begins_0 : cX3_begins.data.toList.drop 0 = dktX3_begins_0 := by decide +kernel
theorem dksX3_begins_1 : cX3_begins.data.toList.drop 24 = dktX3_begins_1 := dk_seg dksX3_begins_0 24 rfl rfl
theorem dX3_begins_0 : decode cX3_begins 0 = .ok (.aload_n 0, 1) := dk_42 (dk_at dksX3_begins_0 0 rfl rfl)
theorem dX3_begins_1 : decode cX3_begins 1 = .ok (.getfield 15, 3) := dk_180 0 15 (dk_at dksX3_begins_0 1 rfl rfl)
theorem dX3_begins_4 : decode cX3_begins 4 = .ok (.bipush 16, 2) := dk_16 16 (dk_at dksX3_begins_0 4 rfl rfl)
theorem dX3_begins_6 : decode cX3_begins 6 = .ok (.if_icmp .ge 20, 3) := dk_162 0 20 (dk_at dksX3_begins_0 6 rfl rfl)
theorem dX3_begins_9 : decode cX3_begins 9 = .ok (.aload_n 0, 1) := dk_42 (dk_at dksX3_begins_0 9 rfl rfl)
theorem dX3_begins_10 : decode cX3_begins 10 = .ok (.getfield 9, 3) := dk_180 0 9 (dk_at dksX3_begins_0 10 rfl rfl)
theorem dX3_begins_13 : decode cX3_begins 13 = .ok (.aload_n 0, 1) := dk_42 (dk_at dksX3_begins_0 13 rfl rfl)
theorem dX3_begins_14 : decode cX3_begins 14 = .ok (.dup, 1) := dk_89 (dk_at dksX3_begins_0 14 rfl rfl)
theorem dX3_begins_15 : decode cX3_begins 15 = .ok (.getfield 15, 3) := dk_180 0 15 (dk_at dksX3_begins_0 15 rfl rfl)
theorem dX3_begins_18 : decode cX3_begins 18 = .ok (.dup_x1, 1) := dk_90 (dk_at dksX3_begins_0 18 rfl rfl)
theorem dX3_begins_19 : decode cX3_begins 19 = .ok (.iconst 1, 1) := dk_4 (dk_at dksX3_begins_0 19 rfl rfl)
theorem dX3_begins_20 : decode cX3_begins 20 = .ok (.iadd, 1) := dk_96 (dk_at dksX3_begins_0 20 rfl rfl)
theorem dX3_begins_21 : decode cX3_begins 21 = .ok (.putfield 15, 3) := dk_181 0 15 (dk_at dksX3_begins_0 21 rfl rfl)
theorem dX3_begins_24 : decode cX3_begins 24 = .ok (.iload_n 1, 1) := dk_27 (dk_at dksX3_begins_1 0 rfl rfl)
theorem dX3_begins_25 : decode cX3_begins 25 = .ok (.iastore, 1) := dk_79 (dk_at dksX3_begins_1 1 rfl rfl)
theorem dX3_begins_26 : decode cX3_begins 26 = .ok (.return_, 1) := dk_177 (dk_at dksX3_begins_1 2 rfl rfl)
theorem q74 : (Jvm.Cond.initialized "PromiseScales$Trail") ∈ lw_all := lw_g (lw_at lw_m1 7 rfl) rfl
theorem q197 : (Jvm.Cond.instantiable "PromiseScales$Trail" (2 : Nat)) ∈ lw_all := lw_g (lw_at lw_m1 130 rfl) rfl
theorem q199 : (Jvm.Cond.instanceMethod ({ cls := "PromiseScales$Trail", name := "<init>", desc := "()V" } : Jvm.MethodName)) ∈ lw_all := lw_g (lw_at lw_m1 132 rfl) rfl
theorem q200 : (Jvm.Cond.code ({ cls := "PromiseScales$Trail", name := "<init>", desc := "()V" } : Jvm.MethodName) prog_14_method_1_code (1 : Nat) (Option.none : Option Jvm.ClassFile.FieldType)) ∈ lw_all := lw_g (lw_at lw_m1 133 rfl) rfl
theorem q201 : (Jvm.Cond.methodLink "PromiseScales$Trail" (3 : Nat) ({ cls := "java/lang/Object", name := "<init>", desc := "()V" } : Jvm.MethodName)) ∈ lw_all := lw_g (lw_at lw_m1 134 rfl) rfl
theorem q202 : (Jvm.Cond.fieldLink "PromiseScales$Trail" (9 : Nat) "PromiseScales$Trail" "body" "[I") ∈ lw_all := lw_g (lw_at lw_m1 135 rfl) rfl
theorem q204 : (Jvm.Cond.fieldLink "PromiseScales$Trail" (15 : Nat) "PromiseScales$Trail" "many" "I") ∈ lw_all := lw_g (lw_at lw_m1 137 rfl) rfl
theorem q206 : (Jvm.Cond.laysFinal "PromiseScales$Trail" "PromiseScales$Trail" "body" "[I") ∈ lw_all := lw_g (lw_at lw_m1 139 rfl) rfl
theorem q207 : (Jvm.Cond.soleField "PromiseScales$Trail" "body") ∈ lw_all := lw_g (lw_at lw_m1 140 rfl) rfl
theorem q208 : (Jvm.Cond.lays "PromiseScales$Trail" "PromiseScales$Trail" "many" "I") ∈ lw_all := lw_g (lw_at lw_m1 141 rfl) rfl
theorem q209 : (Jvm.Cond.soleField "PromiseScales$Trail" "many") ∈ lw_all := lw_g (lw_at lw_m1 142 rfl) rfl
theorem q210 : (Jvm.Cond.superclass "PromiseScales$Trail" "java/lang/Object") ∈ lw_all := lw_g (lw_at lw_m1 143 rfl) rfl
theorem q787 : (Jvm.Cond.selects "PromiseScales$Trail" ({ cls := "java/lang/Object", name := "getClass", desc := "()Ljava/lang/Class;" } : Jvm.MethodName) ({ cls := "java/lang/Object", name := "getClass", desc := "()Ljava/lang/Class;" } : Jvm.MethodName)) ∈ lw_all := lw_g (lw_at lw_m4 0 rfl) rfl
theorem q1179 : (Jvm.Cond.instanceMethod ({ cls := "PromiseScales$Trail", name := "begins", desc := "(I)V" } : Jvm.MethodName)) ∈ lw_all := lw_g (lw_at lw_m5 152 rfl) rfl
theorem q1180 : (Jvm.Cond.selects "PromiseScales$Trail" ({ cls := "PromiseScales$Trail", name := "begins", desc := "(I)V" } : Jvm.MethodName) ({ cls := "PromiseScales$Trail", name := "begins", desc := "(I)V" } : Jvm.MethodName)) ∈ lw_all := lw_g (lw_at lw_m5 153 rfl) rfl
theorem q1181 : (Jvm.Cond.code ({ cls := "PromiseScales$Trail", name := "begins", desc := "(I)V" } : Jvm.MethodName) prog_14_method_2_code (2 : Nat) (Option.none : Option Jvm.ClassFile.FieldType)) ∈ lw_all := lw_g (lw_at lw_m5 154 rfl) rfl
theorem q1696 : (Jvm.Cond.castable "PromiseScales$Trail" "java/lang/Object") ∈ lw_tbl := lw_at lw_m7 189 rfl
theorem in_X3 : ∀ w ∈ wsX30, w ∈ lw_all := lw_in wsX30 [206, 208] (by decide +kernel) (by decide +kernel)
/-! PromiseScales$Reader -/
set_option maxRecDepth 100000
def RX5 : String := "PromiseScales$Reader"
def TX5 : u_T := fun k => match k with
  | 0 => ("PromiseScales$Reader", "text", "[B", true)
  | 1 => ("PromiseScales$Reader", "size", "I", true)
  | 2 => ("PromiseScales$Reader", "at", "I", false)
  | 3 => ("PromiseScales$Reader", "token", "I", false)
  | 4 => ("PromiseScales$Reader", "from", "I", false)
  | 5 => ("PromiseScales$Reader", "value", "I", false)
  | _ => ("PromiseScales$Reader", "made", "LPromiseScales$Scales;", true)
def tyX5 : Nat → FieldType := fun k => match k with
  | 0 => .array .byte
  | 1 => .int
  | 2 => .int
  | 3 => .int
  | 4 => .int
  | 5 => .int
  | _ => .object "PromiseScales$Scales"
abbrev wsX50 : List Cond := u_ws RX5 TX5 7
theorem nmX5 : ∀ a, a < 7 → ∀ b, b < 7 → a ≠ b → (TX5 a).2.1 ≠ (TX5 b).2.1 := by decide +kernel
theorem tyX5_ok : ∀ k, k < 7 → parseFieldDescriptor (TX5 k).2.2.1 = some (tyX5 k) := by decide +kernel
abbrev cX5_init : ByteArray := prog_11_method_1_code
def yX5_init : MethodName := ⟨RX5, "<init>", "([BI)V"⟩
def dkwX5_init_1 : List UInt8 := [181, 0, 22, 177]
abbrev dktX5_init_1 : List UInt8 := dkwX5_init_1 ++ []
def dkwX5_init_0 : List UInt8 := [42, 183, 0, 3, 42, 187, 0, 9, 89, 183, 0, 11, 181, 0, 12, 42, 43, 181, 0, 18, 42, 28]
abbrev dktX5_init_0 : List UInt8 := dkwX5_init_0 ++ dktX5_init_1
theorem dksX5_init_0 : cX5_init.data.toList.drop 0 = dktX5_init_0 := by decide +kernel
theorem dksX5_init_1 : cX5_init.data.toList.drop 22 = dktX5_init_1 := dk_seg dksX5_init_0 22 rfl rfl
theorem dX5_init_0 : decode cX5_init 0 = .ok (.aload_n 0, 1) := dk_42 (dk_at dksX5_init_0 0 rfl rfl)
theorem dX5_init_1 : decode cX5_init 1 = .ok (.invokespecial 3, 3) := dk_183 0 3 (dk_at dksX5_init_0 1 rfl rfl)
theorem dX5_init_4 : decode cX5_init 4 = .ok (.aload_n 0, 1) := dk_42 (dk_at dksX5_init_0 4 rfl rfl)
theorem dX5_init_5 : decode cX5_init 5 = .ok (.new 9, 3) := dk_187 0 9 (dk_at dksX5_init_0 5 rfl rfl)
theorem dX5_init_8 : decode cX5_init 8 = .ok (.dup, 1) := dk_89 (dk_at dksX5_init_0 8 rfl rfl)
theorem dX5_init_9 : decode cX5_init 9 = .ok (.invokespecial 11, 3) := dk_183 0 11 (dk_at dksX5_init_0 9 rfl rfl)
theorem dX5_init_12 : decode cX5_init 12 = .ok (.putfield 12, 3) := dk_181 0 12 (dk_at dksX5_init_0 12 rfl rfl)
theorem dX5_init_15 : decode cX5_init 15 = .ok (.aload_n 0, 1) := dk_42 (dk_at dksX5_init_0 15 rfl rfl)
theorem dX5_init_16 : decode cX5_init 16 = .ok (.aload_n 1, 1) := dk_43 (dk_at dksX5_init_0 16 rfl rfl)
theorem dX5_init_17 : decode cX5_init 17 = .ok (.putfield 18, 3) := dk_181 0 18 (dk_at dksX5_init_0 17 rfl rfl)
theorem dX5_init_20 : decode cX5_init 20 = .ok (.aload_n 0, 1) := dk_42 (dk_at dksX5_init_0 20 rfl rfl)
theorem dX5_init_21 : decode cX5_init 21 = .ok (.iload_n 2, 1) := dk_28 (dk_at dksX5_init_0 21 rfl rfl)
theorem dX5_init_22 : decode cX5_init 22 = .ok (.putfield 22, 3) := dk_181 0 22 (dk_at dksX5_init_1 0 rfl rfl)
theorem dX5_init_25 : decode cX5_init 25 = .ok (.return_, 1) := dk_177 (dk_at dksX5_init_1 3 rfl rfl)
abbrev cX5_all : ByteArray := prog_11_method_8_code
def yX5_all : MethodName := ⟨RX5, "all", "()V"⟩
def dkwX5_all_5 : List UInt8 := [27, 181, 0, 96, 177]
abbrev dktX5_all_5 : List UInt8 := dkwX5_all_5 ++ []
def dkwX5_all_4 : List UInt8 := [167, 255, 232, 42, 42, 180, 0, 52, 154, 0, 7, 4, 167, 0, 4, 3, 4, 182, 0, 60, 42, 180, 0, 12]
abbrev dktX5_all_4 : List UInt8 := dkwX5_all_4 ++ dktX5_all_5
def dkwX5_all_3 : List UInt8 := [180, 0, 52, 4, 160, 0, 22, 18, 85, 42, 180, 0, 37, 182, 0, 87, 155, 0, 10, 42, 182, 0, 93]
abbrev dktX5_all_3 : List UInt8 := dkwX5_all_3 ++ dktX5_all_4
def dkwX5_all_2 : List UInt8 := [16, 59, 182, 0, 78, 42, 4, 16, 103, 182, 0, 67, 153, 0, 10, 42, 182, 0, 82, 167, 255, 242, 42]
abbrev dktX5_all_2 : List UInt8 := dkwX5_all_2 ++ dktX5_all_3
def dkwX5_all_1 : List UInt8 := [42, 3, 16, 9, 182, 0, 71, 181, 0, 75, 42, 16, 44, 182, 0, 78, 42, 4, 8, 182, 0, 71, 60, 42]
abbrev dktX5_all_1 : List UInt8 := dkwX5_all_1 ++ dktX5_all_2
def dkwX5_all_0 : List UInt8 := [42, 182, 0, 64, 42, 42, 4, 16, 115, 182, 0, 67, 4, 182, 0, 60, 42, 182, 0, 64, 42, 180, 0, 12]
abbrev dktX5_all_0 : List UInt8 := dkwX5_all_0 ++ dktX5_all_1
theorem dksX5_all_0 : cX5_all.data.toList.drop 0 = dktX5_all_0 := by decide +kernel
theorem dksX5_all_1 : cX5_all.data.toList.drop 24 = dktX5_all_1 := dk_seg dksX5_all_0 24 rfl rfl
theorem dksX5_all_2 : cX5_all.data.toList.drop 48 = dktX5_all_2 := dk_seg dksX5_all_1 24 rfl rfl
theorem dksX5_all_3 : cX5_all.data.toList.drop 71 = dktX5_all_3 := dk_seg dksX5_all_2 23 rfl rfl
theorem dksX5_all_4 : cX5_all.data.toList.drop 94 = dktX5_all_4 := dk_seg dksX5_all_3 23 rfl rfl
theorem dksX5_all_5 : cX5_all.data.toList.drop 118 = dktX5_all_5 := dk_seg dksX5_all_4 24 rfl rfl
theorem dX5_all_0 : decode cX5_all 0 = .ok (.aload_n 0, 1) := dk_42 (dk_at dksX5_all_0 0 rfl rfl)
theorem dX5_all_1 : decode cX5_all 1 = .ok (.invokevirtual 64, 3) := dk_182 0 64 (dk_at dksX5_all_0 1 rfl rfl)
theorem dX5_all_4 : decode cX5_all 4 = .ok (.aload_n 0, 1) := dk_42 (dk_at dksX5_all_0 4 rfl rfl)
theorem dX5_all_5 : decode cX5_all 5 = .ok (.aload_n 0, 1) := dk_42 (dk_at dksX5_all_0 5 rfl rfl)
theorem dX5_all_6 : decode cX5_all 6 = .ok (.iconst 1, 1) := dk_4 (dk_at dksX5_all_0 6 rfl rfl)
theorem dX5_all_7 : decode cX5_all 7 = .ok (.bipush 115, 2) := dk_16 115 (dk_at dksX5_all_0 7 rfl rfl)
theorem dX5_all_9 : decode cX5_all 9 = .ok (.invokevirtual 67, 3) := dk_182 0 67 (dk_at dksX5_all_0 9 rfl rfl)
theorem dX5_all_12 : decode cX5_all 12 = .ok (.iconst 1, 1) := dk_4 (dk_at dksX5_all_0 12 rfl rfl)
theorem dX5_all_13 : decode cX5_all 13 = .ok (.invokevirtual 60, 3) := dk_182 0 60 (dk_at dksX5_all_0 13 rfl rfl)
theorem dX5_all_16 : decode cX5_all 16 = .ok (.aload_n 0, 1) := dk_42 (dk_at dksX5_all_0 16 rfl rfl)
theorem dX5_all_17 : decode cX5_all 17 = .ok (.invokevirtual 64, 3) := dk_182 0 64 (dk_at dksX5_all_0 17 rfl rfl)
theorem dX5_all_20 : decode cX5_all 20 = .ok (.aload_n 0, 1) := dk_42 (dk_at dksX5_all_0 20 rfl rfl)
theorem dX5_all_21 : decode cX5_all 21 = .ok (.getfield 12, 3) := dk_180 0 12 (dk_at dksX5_all_0 21 rfl rfl)
theorem dX5_all_24 : decode cX5_all 24 = .ok (.aload_n 0, 1) := dk_42 (dk_at dksX5_all_1 0 rfl rfl)
theorem dX5_all_25 : decode cX5_all 25 = .ok (.iconst 0, 1) := dk_3 (dk_at dksX5_all_1 1 rfl rfl)
theorem dX5_all_26 : decode cX5_all 26 = .ok (.bipush 9, 2) := dk_16 9 (dk_at dksX5_all_1 2 rfl rfl)
theorem dX5_all_28 : decode cX5_all 28 = .ok (.invokevirtual 71, 3) := dk_182 0 71 (dk_at dksX5_all_1 4 rfl rfl)
theorem dX5_all_31 : decode cX5_all 31 = .ok (.putfield 75, 3) := dk_181 0 75 (dk_at dksX5_all_1 7 rfl rfl)
theorem dX5_all_34 : decode cX5_all 34 = .ok (.aload_n 0, 1) := dk_42 (dk_at dksX5_all_1 10 rfl rfl)
theorem dX5_all_35 : decode cX5_all 35 = .ok (.bipush 44, 2) := dk_16 44 (dk_at dksX5_all_1 11 rfl rfl)
theorem dX5_all_37 : decode cX5_all 37 = .ok (.invokevirtual 78, 3) := dk_182 0 78 (dk_at dksX5_all_1 13 rfl rfl)
theorem dX5_all_40 : decode cX5_all 40 = .ok (.aload_n 0, 1) := dk_42 (dk_at dksX5_all_1 16 rfl rfl)
theorem dX5_all_41 : decode cX5_all 41 = .ok (.iconst 1, 1) := dk_4 (dk_at dksX5_all_1 17 rfl rfl)
theorem dX5_all_42 : decode cX5_all 42 = .ok (.iconst 5, 1) := dk_8 (dk_at dksX5_all_1 18 rfl rfl)
theorem dX5_all_43 : decode cX5_all 43 = .ok (.invokevirtual 71, 3) := dk_182 0 71 (dk_at dksX5_all_1 19 rfl rfl)
theorem dX5_all_46 : decode cX5_all 46 = .ok (.istore_n 1, 1) := dk_60 (dk_at dksX5_all_1 22 rfl rfl)
theorem dX5_all_47 : decode cX5_all 47 = .ok (.aload_n 0, 1) := dk_42 (dk_at dksX5_all_1 23 rfl rfl)
theorem dX5_all_48 : decode cX5_all 48 = .ok (.bipush 59, 2) := dk_16 59 (dk_at dksX5_all_2 0 rfl rfl)
theorem dX5_all_50 : decode cX5_all 50 = .ok (.invokevirtual 78, 3) := dk_182 0 78 (dk_at dksX5_all_2 2 rfl rfl)
theorem dX5_all_53 : decode cX5_all 53 = .ok (.aload_n 0, 1) := dk_42 (dk_at dksX5_all_2 5 rfl rfl)
theorem dX5_all_54 : decode cX5_all 54 = .ok (.iconst 1, 1) := dk_4 (dk_at dksX5_all_2 6 rfl rfl)
theorem dX5_all_55 : decode cX5_all 55 = .ok (.bipush 103, 2) := dk_16 103 (dk_at dksX5_all_2 7 rfl rfl)
theorem dX5_all_57 : decode cX5_all 57 = .ok (.invokevirtual 67, 3) := dk_182 0 67 (dk_at dksX5_all_2 9 rfl rfl)
theorem dX5_all_60 : decode cX5_all 60 = .ok (.ifCond .eq 10, 3) := dk_153 0 10 (dk_at dksX5_all_2 12 rfl rfl)
theorem dX5_all_63 : decode cX5_all 63 = .ok (.aload_n 0, 1) := dk_42 (dk_at dksX5_all_2 15 rfl rfl)
theorem dX5_all_64 : decode cX5_all 64 = .ok (.invokevirtual 82, 3) := dk_182 0 82 (dk_at dksX5_all_2 16 rfl rfl)
theorem dX5_all_67 : decode cX5_all 67 = .ok (.goto (-14), 3) := dk_167 255 242 (dk_at dksX5_all_2 19 rfl rfl)
theorem dX5_all_70 : decode cX5_all 70 = .ok (.aload_n 0, 1) := dk_42 (dk_at dksX5_all_2 22 rfl rfl)
theorem dX5_all_71 : decode cX5_all 71 = .ok (.getfield 52, 3) := dk_180 0 52 (dk_at dksX5_all_3 0 rfl rfl)
theorem dX5_all_74 : decode cX5_all 74 = .ok (.iconst 1, 1) := dk_4 (dk_at dksX5_all_3 3 rfl rfl)
theorem dX5_all_75 : decode cX5_all 75 = .ok (.if_icmp .ne 22, 3) := dk_160 0 22 (dk_at dksX5_all_3 4 rfl rfl)
theorem dX5_all_78 : decode cX5_all 78 = .ok (.ldc 85, 2) := dk_18 85 (dk_at dksX5_all_3 7 rfl rfl)
theorem dX5_all_80 : decode cX5_all 80 = .ok (.aload_n 0, 1) := dk_42 (dk_at dksX5_all_3 9 rfl rfl)
theorem dX5_all_81 : decode cX5_all 81 = .ok (.getfield 37, 3) := dk_180 0 37 (dk_at dksX5_all_3 10 rfl rfl)
theorem dX5_all_84 : decode cX5_all 84 = .ok (.invokevirtual 87, 3) := dk_182 0 87 (dk_at dksX5_all_3 13 rfl rfl)
theorem dX5_all_87 : decode cX5_all 87 = .ok (.ifCond .lt 10, 3) := dk_155 0 10 (dk_at dksX5_all_3 16 rfl rfl)
theorem dX5_all_90 : decode cX5_all 90 = .ok (.aload_n 0, 1) := dk_42 (dk_at dksX5_all_3 19 rfl rfl)
theorem dX5_all_91 : decode cX5_all 91 = .ok (.invokevirtual 93, 3) := dk_182 0 93 (dk_at dksX5_all_3 20 rfl rfl)
theorem dX5_all_94 : decode cX5_all 94 = .ok (.goto (-24), 3) := dk_167 255 232 (dk_at dksX5_all_4 0 rfl rfl)
theorem dX5_all_97 : decode cX5_all 97 = .ok (.aload_n 0, 1) := dk_42 (dk_at dksX5_all_4 3 rfl rfl)
theorem dX5_all_98 : decode cX5_all 98 = .ok (.aload_n 0, 1) := dk_42 (dk_at dksX5_all_4 4 rfl rfl)
theorem dX5_all_99 : decode cX5_all 99 = .ok (.getfield 52, 3) := dk_180 0 52 (dk_at dksX5_all_4 5 rfl rfl)
theorem dX5_all_102 : decode cX5_all 102 = .ok (.ifCond .ne 7, 3) := dk_154 0 7 (dk_at dksX5_all_4 8 rfl rfl)
theorem dX5_all_105 : decode cX5_all 105 = .ok (.iconst 1, 1) := dk_4 (dk_at dksX5_all_4 11 rfl rfl)
theorem dX5_all_106 : decode cX5_all 106 = .ok (.goto 4, 3) := dk_167 0 4 (dk_at dksX5_all_4 12 rfl rfl)
theorem dX5_all_109 : decode cX5_all 109 = .ok (.iconst 0, 1) := dk_3 (dk_at dksX5_all_4 15 rfl rfl)
theorem dX5_all_110 : decode cX5_all 110 = .ok (.iconst 1, 1) := dk_4 (dk_at dksX5_all_4 16 rfl rfl)
theorem dX5_all_111 : decode cX5_all 111 = .ok (.invokevirtual 60, 3) := dk_182 0 60 (dk_at dksX5_all_4 17 rfl rfl)
theorem dX5_all_114 : decode cX5_all 114 = .ok (.aload_n 0, 1) := dk_42 (dk_at dksX5_all_4 20 rfl rfl)
theorem dX5_all_115 : decode cX5_all 115 = .ok (.getfield 12, 3) := dk_180 0 12 (dk_at dksX5_all_4 21 rfl rfl)
theorem dX5_all_118 : decode cX5_all 118 = .ok (.iload_n 1, 1) := dk_27 (dk_at dksX5_all_5 0 rfl rfl)
theorem dX5_all_119 : decode cX5_all 119 = .ok (.putfield 96, 3) := dk_181 0 96 (dk_at dksX5_all_5 1 rfl rfl)
theorem dX5_all_122 : decode cX5_all 122 = .ok (.return_, 1) := dk_177 (dk_at dksX5_all_5 4 rfl rfl)
abbrev cX5_next : ByteArray := prog_11_method_3_code
def yX5_next : MethodName := ⟨RX5, "next", "()V"⟩
def dkwX5_next_9 : List UInt8 := [181, 0, 52, 177]
abbrev dktX5_next_9 : List UInt8 := dkwX5_next_9 ++ []
def dkwX5_next_8 : List UInt8 := [167, 255, 190, 42, 42, 180, 0, 26, 42, 180, 0, 30, 100, 5, 164, 0, 7, 7, 167, 0, 4, 5]
abbrev dktX5_next_8 : List UInt8 := dkwX5_next_8 ++ dktX5_next_9
def dkwX5_next_7 : List UInt8 := [96, 16, 48, 100, 167, 0, 7, 42, 180, 0, 37, 181, 0, 37, 42, 89, 180, 0, 26, 4, 96, 181, 0, 26]
abbrev dktX5_next_7 : List UInt8 := dkwX5_next_7 ++ dktX5_next_8
def dkwX5_next_6 : List UInt8 := [42, 180, 0, 26, 42, 180, 0, 30, 4, 96, 160, 0, 21, 16, 10, 42, 180, 0, 37, 104, 42, 182, 0, 33]
abbrev dktX5_next_6 : List UInt8 := dkwX5_next_6 ++ dktX5_next_7
def dkwX5_next_5 : List UInt8 := [16, 48, 100, 181, 0, 37, 42, 182, 0, 33, 133, 20, 0, 48, 20, 0, 50, 184, 0, 44, 153, 0, 55, 42]
abbrev dktX5_next_5 : List UInt8 := dkwX5_next_5 ++ dktX5_next_6
def dkwX5_next_4 : List UInt8 := [16, 59, 160, 0, 7, 6, 167, 0, 4, 7, 181, 0, 52, 42, 180, 0, 52, 5, 159, 0, 4, 177, 42, 27]
abbrev dktX5_next_4 : List UInt8 := dkwX5_next_4 ++ dktX5_next_5
def dkwX5_next_3 : List UInt8 := [20, 0, 48, 20, 0, 50, 184, 0, 44, 153, 0, 7, 5, 167, 0, 20, 27, 16, 44, 159, 0, 9, 27]
abbrev dktX5_next_3 : List UInt8 := dkwX5_next_3 ++ dktX5_next_4
def dkwX5_next_2 : List UInt8 := [167, 0, 56, 27, 133, 20, 0, 40, 20, 0, 42, 184, 0, 44, 153, 0, 7, 4, 167, 0, 38, 27, 133]
abbrev dktX5_next_2 : List UInt8 := dkwX5_next_2 ++ dktX5_next_3
def dkwX5_next_1 : List UInt8 := [18, 29, 160, 0, 7, 3, 167, 0, 4, 4, 96, 181, 0, 26, 42, 27, 18, 29, 160, 0, 7, 3]
abbrev dktX5_next_1 : List UInt8 := dkwX5_next_1 ++ dktX5_next_2
def dkwX5_next_0 : List UInt8 := [42, 42, 180, 0, 26, 181, 0, 30, 42, 182, 0, 33, 60, 42, 27, 181, 0, 37, 42, 89, 180, 0, 26, 27]
abbrev dktX5_next_0 : List UInt8 := dkwX5_next_0 ++ dktX5_next_1
theorem dksX5_next_0 : cX5_next.data.toList.drop 0 = dktX5_next_0 := by decide +kernel
theorem dksX5_next_1 : cX5_next.data.toList.drop 24 = dktX5_next_1 := dk_seg dksX5_next_0 24 rfl rfl
theorem dksX5_next_2 : cX5_next.data.toList.drop 46 = dktX5_next_2 := dk_seg dksX5_next_1 22 rfl rfl
theorem dksX5_next_3 : cX5_next.data.toList.drop 69 = dktX5_next_3 := dk_seg dksX5_next_2 23 rfl rfl
theorem dksX5_next_4 : cX5_next.data.toList.drop 92 = dktX5_next_4 := dk_seg dksX5_next_3 23 rfl rfl
theorem dksX5_next_5 : cX5_next.data.toList.drop 116 = dktX5_next_5 := dk_seg dksX5_next_4 24 rfl rfl
theorem dksX5_next_6 : cX5_next.data.toList.drop 140 = dktX5_next_6 := dk_seg dksX5_next_5 24 rfl rfl
theorem dksX5_next_7 : cX5_next.data.toList.drop 164 = dktX5_next_7 := dk_seg dksX5_next_6 24 rfl rfl
theorem dksX5_next_8 : cX5_next.data.toList.drop 188 = dktX5_next_8 := dk_seg dksX5_next_7 24 rfl rfl
theorem dksX5_next_9 : cX5_next.data.toList.drop 210 = dktX5_next_9 := dk_seg dksX5_next_8 22 rfl rfl
theorem dX5_next_0 : decode cX5_next 0 = .ok (.aload_n 0, 1) := dk_42 (dk_at dksX5_next_0 0 rfl rfl)
theorem dX5_next_1 : decode cX5_next 1 = .ok (.aload_n 0, 1) := dk_42 (dk_at dksX5_next_0 1 rfl rfl)
theorem dX5_next_2 : decode cX5_next 2 = .ok (.getfield 26, 3) := dk_180 0 26 (dk_at dksX5_next_0 2 rfl rfl)
theorem dX5_next_5 : decode cX5_next 5 = .ok (.putfield 30, 3) := dk_181 0 30 (dk_at dksX5_next_0 5 rfl rfl)
theorem dX5_next_8 : decode cX5_next 8 = .ok (.aload_n 0, 1) := dk_42 (dk_at dksX5_next_0 8 rfl rfl)
theorem dX5_next_9 : decode cX5_next 9 = .ok (.invokevirtual 33, 3) := dk_182 0 33 (dk_at dksX5_next_0 9 rfl rfl)
theorem dX5_next_12 : decode cX5_next 12 = .ok (.istore_n 1, 1) := dk_60 (dk_at dksX5_next_0 12 rfl rfl)
theorem dX5_next_13 : decode cX5_next 13 = .ok (.aload_n 0, 1) := dk_42 (dk_at dksX5_next_0 13 rfl rfl)
theorem dX5_next_14 : decode cX5_next 14 = .ok (.iload_n 1, 1) := dk_27 (dk_at dksX5_next_0 14 rfl rfl)
theorem dX5_next_15 : decode cX5_next 15 = .ok (.putfield 37, 3) := dk_181 0 37 (dk_at dksX5_next_0 15 rfl rfl)
theorem dX5_next_18 : decode cX5_next 18 = .ok (.aload_n 0, 1) := dk_42 (dk_at dksX5_next_0 18 rfl rfl)
theorem dX5_next_19 : decode cX5_next 19 = .ok (.dup, 1) := dk_89 (dk_at dksX5_next_0 19 rfl rfl)
theorem dX5_next_20 : decode cX5_next 20 = .ok (.getfield 26, 3) := dk_180 0 26 (dk_at dksX5_next_0 20 rfl rfl)
theorem dX5_next_23 : decode cX5_next 23 = .ok (.iload_n 1, 1) := dk_27 (dk_at dksX5_next_0 23 rfl rfl)
theorem dX5_next_24 : decode cX5_next 24 = .ok (.ldc 29, 2) := dk_18 29 (dk_at dksX5_next_1 0 rfl rfl)
theorem dX5_next_26 : decode cX5_next 26 = .ok (.if_icmp .ne 7, 3) := dk_160 0 7 (dk_at dksX5_next_1 2 rfl rfl)
theorem dX5_next_29 : decode cX5_next 29 = .ok (.iconst 0, 1) := dk_3 (dk_at dksX5_next_1 5 rfl rfl)
theorem dX5_next_30 : decode cX5_next 30 = .ok (.goto 4, 3) := dk_167 0 4 (dk_at dksX5_next_1 6 rfl rfl)
theorem dX5_next_33 : decode cX5_next 33 = .ok (.iconst 1, 1) := dk_4 (dk_at dksX5_next_1 9 rfl rfl)
theorem dX5_next_34 : decode cX5_next 34 = .ok (.iadd, 1) := dk_96 (dk_at dksX5_next_1 10 rfl rfl)
theorem dX5_next_35 : decode cX5_next 35 = .ok (.putfield 26, 3) := dk_181 0 26 (dk_at dksX5_next_1 11 rfl rfl)
theorem dX5_next_38 : decode cX5_next 38 = .ok (.aload_n 0, 1) := dk_42 (dk_at dksX5_next_1 14 rfl rfl)
theorem dX5_next_39 : decode cX5_next 39 = .ok (.iload_n 1, 1) := dk_27 (dk_at dksX5_next_1 15 rfl rfl)
theorem dX5_next_40 : decode cX5_next 40 = .ok (.ldc 29, 2) := dk_18 29 (dk_at dksX5_next_1 16 rfl rfl)
theorem dX5_next_42 : decode cX5_next 42 = .ok (.if_icmp .ne 7, 3) := dk_160 0 7 (dk_at dksX5_next_1 18 rfl rfl)
theorem dX5_next_45 : decode cX5_next 45 = .ok (.iconst 0, 1) := dk_3 (dk_at dksX5_next_1 21 rfl rfl)
theorem dX5_next_46 : decode cX5_next 46 = .ok (.goto 56, 3) := dk_167 0 56 (dk_at dksX5_next_2 0 rfl rfl)
theorem dX5_next_49 : decode cX5_next 49 = .ok (.iload_n 1, 1) := dk_27 (dk_at dksX5_next_2 3 rfl rfl)
theorem dX5_next_50 : decode cX5_next 50 = .ok (.i2l, 1) := dk_133 (dk_at dksX5_next_2 4 rfl rfl)
theorem dX5_next_51 : decode cX5_next 51 = .ok (.ldc2_w 40, 3) := dk_20 0 40 (dk_at dksX5_next_2 5 rfl rfl)
theorem dX5_next_54 : decode cX5_next 54 = .ok (.ldc2_w 42, 3) := dk_20 0 42 (dk_at dksX5_next_2 8 rfl rfl)
theorem dX5_next_57 : decode cX5_next 57 = .ok (.invokestatic 44, 3) := dk_184 0 44 (dk_at dksX5_next_2 11 rfl rfl)
theorem dX5_next_60 : decode cX5_next 60 = .ok (.ifCond .eq 7, 3) := dk_153 0 7 (dk_at dksX5_next_2 14 rfl rfl)
theorem dX5_next_63 : decode cX5_next 63 = .ok (.iconst 1, 1) := dk_4 (dk_at dksX5_next_2 17 rfl rfl)
theorem dX5_next_64 : decode cX5_next 64 = .ok (.goto 38, 3) := dk_167 0 38 (dk_at dksX5_next_2 18 rfl rfl)
theorem dX5_next_67 : decode cX5_next 67 = .ok (.iload_n 1, 1) := dk_27 (dk_at dksX5_next_2 21 rfl rfl)
theorem dX5_next_68 : decode cX5_next 68 = .ok (.i2l, 1) := dk_133 (dk_at dksX5_next_2 22 rfl rfl)
theorem dX5_next_69 : decode cX5_next 69 = .ok (.ldc2_w 48, 3) := dk_20 0 48 (dk_at dksX5_next_3 0 rfl rfl)
theorem dX5_next_72 : decode cX5_next 72 = .ok (.ldc2_w 50, 3) := dk_20 0 50 (dk_at dksX5_next_3 3 rfl rfl)
theorem dX5_next_75 : decode cX5_next 75 = .ok (.invokestatic 44, 3) := dk_184 0 44 (dk_at dksX5_next_3 6 rfl rfl)
theorem dX5_next_78 : decode cX5_next 78 = .ok (.ifCond .eq 7, 3) := dk_153 0 7 (dk_at dksX5_next_3 9 rfl rfl)
theorem dX5_next_81 : decode cX5_next 81 = .ok (.iconst 2, 1) := dk_5 (dk_at dksX5_next_3 12 rfl rfl)
theorem dX5_next_82 : decode cX5_next 82 = .ok (.goto 20, 3) := dk_167 0 20 (dk_at dksX5_next_3 13 rfl rfl)
theorem dX5_next_85 : decode cX5_next 85 = .ok (.iload_n 1, 1) := dk_27 (dk_at dksX5_next_3 16 rfl rfl)
theorem dX5_next_86 : decode cX5_next 86 = .ok (.bipush 44, 2) := dk_16 44 (dk_at dksX5_next_3 17 rfl rfl)
theorem dX5_next_88 : decode cX5_next 88 = .ok (.if_icmp .eq 9, 3) := dk_159 0 9 (dk_at dksX5_next_3 19 rfl rfl)
theorem dX5_next_91 : decode cX5_next 91 = .ok (.iload_n 1, 1) := dk_27 (dk_at dksX5_next_3 22 rfl rfl)
theorem dX5_next_92 : decode cX5_next 92 = .ok (.bipush 59, 2) := dk_16 59 (dk_at dksX5_next_4 0 rfl rfl)
theorem dX5_next_94 : decode cX5_next 94 = .ok (.if_icmp .ne 7, 3) := dk_160 0 7 (dk_at dksX5_next_4 2 rfl rfl)
theorem dX5_next_97 : decode cX5_next 97 = .ok (.iconst 3, 1) := dk_6 (dk_at dksX5_next_4 5 rfl rfl)
theorem dX5_next_98 : decode cX5_next 98 = .ok (.goto 4, 3) := dk_167 0 4 (dk_at dksX5_next_4 6 rfl rfl)
theorem dX5_next_101 : decode cX5_next 101 = .ok (.iconst 4, 1) := dk_7 (dk_at dksX5_next_4 9 rfl rfl)
theorem dX5_next_102 : decode cX5_next 102 = .ok (.putfield 52, 3) := dk_181 0 52 (dk_at dksX5_next_4 10 rfl rfl)
theorem dX5_next_105 : decode cX5_next 105 = .ok (.aload_n 0, 1) := dk_42 (dk_at dksX5_next_4 13 rfl rfl)
theorem dX5_next_106 : decode cX5_next 106 = .ok (.getfield 52, 3) := dk_180 0 52 (dk_at dksX5_next_4 14 rfl rfl)
theorem dX5_next_109 : decode cX5_next 109 = .ok (.iconst 2, 1) := dk_5 (dk_at dksX5_next_4 17 rfl rfl)
theorem dX5_next_110 : decode cX5_next 110 = .ok (.if_icmp .eq 4, 3) := dk_159 0 4 (dk_at dksX5_next_4 18 rfl rfl)
theorem dX5_next_113 : decode cX5_next 113 = .ok (.return_, 1) := dk_177 (dk_at dksX5_next_4 21 rfl rfl)
theorem dX5_next_114 : decode cX5_next 114 = .ok (.aload_n 0, 1) := dk_42 (dk_at dksX5_next_4 22 rfl rfl)
theorem dX5_next_115 : decode cX5_next 115 = .ok (.iload_n 1, 1) := dk_27 (dk_at dksX5_next_4 23 rfl rfl)
theorem dX5_next_116 : decode cX5_next 116 = .ok (.bipush 48, 2) := dk_16 48 (dk_at dksX5_next_5 0 rfl rfl)
theorem dX5_next_118 : decode cX5_next 118 = .ok (.isub, 1) := dk_100 (dk_at dksX5_next_5 2 rfl rfl)
theorem dX5_next_119 : decode cX5_next 119 = .ok (.putfield 37, 3) := dk_181 0 37 (dk_at dksX5_next_5 3 rfl rfl)
theorem dX5_next_122 : decode cX5_next 122 = .ok (.aload_n 0, 1) := dk_42 (dk_at dksX5_next_5 6 rfl rfl)
theorem dX5_next_123 : decode cX5_next 123 = .ok (.invokevirtual 33, 3) := dk_182 0 33 (dk_at dksX5_next_5 7 rfl rfl)
theorem dX5_next_126 : decode cX5_next 126 = .ok (.i2l, 1) := dk_133 (dk_at dksX5_next_5 10 rfl rfl)
theorem dX5_next_127 : decode cX5_next 127 = .ok (.ldc2_w 48, 3) := dk_20 0 48 (dk_at dksX5_next_5 11 rfl rfl)
theorem dX5_next_130 : decode cX5_next 130 = .ok (.ldc2_w 50, 3) := dk_20 0 50 (dk_at dksX5_next_5 14 rfl rfl)
theorem dX5_next_133 : decode cX5_next 133 = .ok (.invokestatic 44, 3) := dk_184 0 44 (dk_at dksX5_next_5 17 rfl rfl)
theorem dX5_next_136 : decode cX5_next 136 = .ok (.ifCond .eq 55, 3) := dk_153 0 55 (dk_at dksX5_next_5 20 rfl rfl)
theorem dX5_next_139 : decode cX5_next 139 = .ok (.aload_n 0, 1) := dk_42 (dk_at dksX5_next_5 23 rfl rfl)
theorem dX5_next_140 : decode cX5_next 140 = .ok (.aload_n 0, 1) := dk_42 (dk_at dksX5_next_6 0 rfl rfl)
theorem dX5_next_141 : decode cX5_next 141 = .ok (.getfield 26, 3) := dk_180 0 26 (dk_at dksX5_next_6 1 rfl rfl)
theorem dX5_next_144 : decode cX5_next 144 = .ok (.aload_n 0, 1) := dk_42 (dk_at dksX5_next_6 4 rfl rfl)
theorem dX5_next_145 : decode cX5_next 145 = .ok (.getfield 30, 3) := dk_180 0 30 (dk_at dksX5_next_6 5 rfl rfl)
theorem dX5_next_148 : decode cX5_next 148 = .ok (.iconst 1, 1) := dk_4 (dk_at dksX5_next_6 8 rfl rfl)
theorem dX5_next_149 : decode cX5_next 149 = .ok (.iadd, 1) := dk_96 (dk_at dksX5_next_6 9 rfl rfl)
theorem dX5_next_150 : decode cX5_next 150 = .ok (.if_icmp .ne 21, 3) := dk_160 0 21 (dk_at dksX5_next_6 10 rfl rfl)
theorem dX5_next_153 : decode cX5_next 153 = .ok (.bipush 10, 2) := dk_16 10 (dk_at dksX5_next_6 13 rfl rfl)
theorem dX5_next_155 : decode cX5_next 155 = .ok (.aload_n 0, 1) := dk_42 (dk_at dksX5_next_6 15 rfl rfl)
theorem dX5_next_156 : decode cX5_next 156 = .ok (.getfield 37, 3) := dk_180 0 37 (dk_at dksX5_next_6 16 rfl rfl)
theorem dX5_next_159 : decode cX5_next 159 = .ok (.imul, 1) := dk_104 (dk_at dksX5_next_6 19 rfl rfl)
theorem dX5_next_160 : decode cX5_next 160 = .ok (.aload_n 0, 1) := dk_42 (dk_at dksX5_next_6 20 rfl rfl)
theorem dX5_next_161 : decode cX5_next 161 = .ok (.invokevirtual 33, 3) := dk_182 0 33 (dk_at dksX5_next_6 21 rfl rfl)
theorem dX5_next_164 : decode cX5_next 164 = .ok (.iadd, 1) := dk_96 (dk_at dksX5_next_7 0 rfl rfl)
theorem dX5_next_165 : decode cX5_next 165 = .ok (.bipush 48, 2) := dk_16 48 (dk_at dksX5_next_7 1 rfl rfl)
theorem dX5_next_167 : decode cX5_next 167 = .ok (.isub, 1) := dk_100 (dk_at dksX5_next_7 3 rfl rfl)
theorem dX5_next_168 : decode cX5_next 168 = .ok (.goto 7, 3) := dk_167 0 7 (dk_at dksX5_next_7 4 rfl rfl)
theorem dX5_next_171 : decode cX5_next 171 = .ok (.aload_n 0, 1) := dk_42 (dk_at dksX5_next_7 7 rfl rfl)
theorem dX5_next_172 : decode cX5_next 172 = .ok (.getfield 37, 3) := dk_180 0 37 (dk_at dksX5_next_7 8 rfl rfl)
theorem dX5_next_175 : decode cX5_next 175 = .ok (.putfield 37, 3) := dk_181 0 37 (dk_at dksX5_next_7 11 rfl rfl)
theorem dX5_next_178 : decode cX5_next 178 = .ok (.aload_n 0, 1) := dk_42 (dk_at dksX5_next_7 14 rfl rfl)
theorem dX5_next_179 : decode cX5_next 179 = .ok (.dup, 1) := dk_89 (dk_at dksX5_next_7 15 rfl rfl)
theorem dX5_next_180 : decode cX5_next 180 = .ok (.getfield 26, 3) := dk_180 0 26 (dk_at dksX5_next_7 16 rfl rfl)
theorem dX5_next_183 : decode cX5_next 183 = .ok (.iconst 1, 1) := dk_4 (dk_at dksX5_next_7 19 rfl rfl)
theorem dX5_next_184 : decode cX5_next 184 = .ok (.iadd, 1) := dk_96 (dk_at dksX5_next_7 20 rfl rfl)
theorem dX5_next_185 : decode cX5_next 185 = .ok (.putfield 26, 3) := dk_181 0 26 (dk_at dksX5_next_7 21 rfl rfl)
theorem dX5_next_188 : decode cX5_next 188 = .ok (.goto (-66), 3) := dk_167 255 190 (dk_at dksX5_next_8 0 rfl rfl)
theorem dX5_next_191 : decode cX5_next 191 = .ok (.aload_n 0, 1) := dk_42 (dk_at dksX5_next_8 3 rfl rfl)
theorem dX5_next_192 : decode cX5_next 192 = .ok (.aload_n 0, 1) := dk_42 (dk_at dksX5_next_8 4 rfl rfl)
theorem dX5_next_193 : decode cX5_next 193 = .ok (.getfield 26, 3) := dk_180 0 26 (dk_at dksX5_next_8 5 rfl rfl)
theorem dX5_next_196 : decode cX5_next 196 = .ok (.aload_n 0, 1) := dk_42 (dk_at dksX5_next_8 8 rfl rfl)
theorem dX5_next_197 : decode cX5_next 197 = .ok (.getfield 30, 3) := dk_180 0 30 (dk_at dksX5_next_8 9 rfl rfl)
theorem dX5_next_200 : decode cX5_next 200 = .ok (.isub, 1) := dk_100 (dk_at dksX5_next_8 12 rfl rfl)
theorem dX5_next_201 : decode cX5_next 201 = .ok (.iconst 2, 1) := dk_5 (dk_at dksX5_next_8 13 rfl rfl)
theorem dX5_next_202 : decode cX5_next 202 = .ok (.if_icmp .le 7, 3) := dk_164 0 7 (dk_at dksX5_next_8 14 rfl rfl)
theorem dX5_next_205 : decode cX5_next 205 = .ok (.iconst 4, 1) := dk_7 (dk_at dksX5_next_8 17 rfl rfl)
theorem dX5_next_206 : decode cX5_next 206 = .ok (.goto 4, 3) := dk_167 0 4 (dk_at dksX5_next_8 18 rfl rfl)
theorem dX5_next_209 : decode cX5_next 209 = .ok (.iconst 2, 1) := dk_5 (dk_at dksX5_next_8 21 rfl rfl)
theorem dX5_next_210 : decode cX5_next 210 = .ok (.putfield 52, 3) := dk_181 0 52 (dk_at dksX5_next_9 0 rfl rfl)
theorem dX5_next_213 : decode cX5_next 213 = .ok (.return_, 1) := dk_177 (dk_at dksX5_next_9 3 rfl rfl)
abbrev cX5_look : ByteArray := prog_11_method_2_code
def yX5_look : MethodName := ⟨RX5, "look", "()I"⟩
def dkwX5_look_1 : List UInt8 := [167, 0, 5, 18, 29, 172]
abbrev dktX5_look_1 : List UInt8 := dkwX5_look_1 ++ []
def dkwX5_look_0 : List UInt8 := [42, 180, 0, 26, 42, 180, 0, 22, 162, 0, 19, 42, 180, 0, 18, 42, 180, 0, 26, 51, 17, 0, 255, 126]
abbrev dktX5_look_0 : List UInt8 := dkwX5_look_0 ++ dktX5_look_1
theorem dksX5_look_0 : cX5_look.data.toList.drop 0 = dktX5_look_0 := by decide +kernel
theorem dksX5_look_1 : cX5_look.data.toList.drop 24 = dktX5_look_1 := dk_seg dksX5_look_0 24 rfl rfl
theorem dX5_look_0 : decode cX5_look 0 = .ok (.aload_n 0, 1) := dk_42 (dk_at dksX5_look_0 0 rfl rfl)
theorem dX5_look_1 : decode cX5_look 1 = .ok (.getfield 26, 3) := dk_180 0 26 (dk_at dksX5_look_0 1 rfl rfl)
theorem dX5_look_4 : decode cX5_look 4 = .ok (.aload_n 0, 1) := dk_42 (dk_at dksX5_look_0 4 rfl rfl)
theorem dX5_look_5 : decode cX5_look 5 = .ok (.getfield 22, 3) := dk_180 0 22 (dk_at dksX5_look_0 5 rfl rfl)
theorem dX5_look_8 : decode cX5_look 8 = .ok (.if_icmp .ge 19, 3) := dk_162 0 19 (dk_at dksX5_look_0 8 rfl rfl)
theorem dX5_look_11 : decode cX5_look 11 = .ok (.aload_n 0, 1) := dk_42 (dk_at dksX5_look_0 11 rfl rfl)
theorem dX5_look_12 : decode cX5_look 12 = .ok (.getfield 18, 3) := dk_180 0 18 (dk_at dksX5_look_0 12 rfl rfl)
theorem dX5_look_15 : decode cX5_look 15 = .ok (.aload_n 0, 1) := dk_42 (dk_at dksX5_look_0 15 rfl rfl)
theorem dX5_look_16 : decode cX5_look 16 = .ok (.getfield 26, 3) := dk_180 0 26 (dk_at dksX5_look_0 16 rfl rfl)
theorem dX5_look_19 : decode cX5_look 19 = .ok (.baload, 1) := dk_51 (dk_at dksX5_look_0 19 rfl rfl)
theorem dX5_look_20 : decode cX5_look 20 = .ok (.sipush 255, 3) := dk_17 0 255 (dk_at dksX5_look_0 20 rfl rfl)
theorem dX5_look_23 : decode cX5_look 23 = .ok (.iand, 1) := dk_126 (dk_at dksX5_look_0 23 rfl rfl)
theorem dX5_look_24 : decode cX5_look 24 = .ok (.goto 5, 3) := dk_167 0 5 (dk_at dksX5_look_1 0 rfl rfl)
theorem dX5_look_27 : decode cX5_look 27 = .ok (.ldc 29, 2) := dk_18 29 (dk_at dksX5_look_1 3 rfl rfl)
theorem dX5_look_29 : decode cX5_look 29 = .ok (.ireturn, 1) := dk_172 (dk_at dksX5_look_1 5 rfl rfl)
abbrev cX5_is : ByteArray := prog_11_method_5_code
def yX5_is : MethodName := ⟨RX5, "is", "(II)Z"⟩
def dkwX5_is_0 : List UInt8 := [42, 180, 0, 52, 27, 160, 0, 15, 42, 180, 0, 37, 28, 160, 0, 7, 4, 167, 0, 4, 3, 172]
abbrev dktX5_is_0 : List UInt8 := dkwX5_is_0 ++ []
theorem dksX5_is_0 : cX5_is.data.toList.drop 0 = dktX5_is_0 := by decide +kernel
theorem dX5_is_0 : decode cX5_is 0 = .ok (.aload_n 0, 1) := dk_42 (dk_at dksX5_is_0 0 rfl rfl)
theorem dX5_is_1 : decode cX5_is 1 = .ok (.getfield 52, 3) := dk_180 0 52 (dk_at dksX5_is_0 1 rfl rfl)
theorem dX5_is_4 : decode cX5_is 4 = .ok (.iload_n 1, 1) := dk_27 (dk_at dksX5_is_0 4 rfl rfl)
theorem dX5_is_5 : decode cX5_is 5 = .ok (.if_icmp .ne 15, 3) := dk_160 0 15 (dk_at dksX5_is_0 5 rfl rfl)
theorem dX5_is_8 : decode cX5_is 8 = .ok (.aload_n 0, 1) := dk_42 (dk_at dksX5_is_0 8 rfl rfl)
theorem dX5_is_9 : decode cX5_is 9 = .ok (.getfield 37, 3) := dk_180 0 37 (dk_at dksX5_is_0 9 rfl rfl)
theorem dX5_is_12 : decode cX5_is 12 = .ok (.iload_n 2, 1) := dk_28 (dk_at dksX5_is_0 12 rfl rfl)
theorem dX5_is_13 : decode cX5_is 13 = .ok (.if_icmp .ne 7, 3) := dk_160 0 7 (dk_at dksX5_is_0 13 rfl rfl)
theorem dX5_is_16 : decode cX5_is 16 = .ok (.iconst 1, 1) := dk_4 (dk_at dksX5_is_0 16 rfl rfl)
theorem dX5_is_17 : decode cX5_is 17 = .ok (.goto 4, 3) := dk_167 0 4 (dk_at dksX5_is_0 17 rfl rfl)
theorem dX5_is_20 : decode cX5_is 20 = .ok (.iconst 0, 1) := dk_3 (dk_at dksX5_is_0 20 rfl rfl)
theorem dX5_is_21 : decode cX5_is 21 = .ok (.ireturn, 1) := dk_172 (dk_at dksX5_is_0 21 rfl rfl)
abbrev cX5_must : ByteArray := prog_11_method_4_code
def yX5_must : MethodName := ⟨RX5, "must", "(ZI)V"⟩
def dkwX5_must_0 : List UInt8 := [27, 154, 0, 16, 187, 0, 55, 89, 28, 42, 180, 0, 30, 183, 0, 57, 191, 177]
abbrev dktX5_must_0 : List UInt8 := dkwX5_must_0 ++ []
theorem dksX5_must_0 : cX5_must.data.toList.drop 0 = dktX5_must_0 := by decide +kernel
theorem dX5_must_0 : decode cX5_must 0 = .ok (.iload_n 1, 1) := dk_27 (dk_at dksX5_must_0 0 rfl rfl)
theorem dX5_must_1 : decode cX5_must 1 = .ok (.ifCond .ne 16, 3) := dk_154 0 16 (dk_at dksX5_must_0 1 rfl rfl)
theorem dX5_must_4 : decode cX5_must 4 = .ok (.new 55, 3) := dk_187 0 55 (dk_at dksX5_must_0 4 rfl rfl)
theorem dX5_must_7 : decode cX5_must 7 = .ok (.dup, 1) := dk_89 (dk_at dksX5_must_0 7 rfl rfl)
theorem dX5_must_8 : decode cX5_must 8 = .ok (.iload_n 2, 1) := dk_28 (dk_at dksX5_must_0 8 rfl rfl)
theorem dX5_must_9 : decode cX5_must 9 = .ok (.aload_n 0, 1) := dk_42 (dk_at dksX5_must_0 9 rfl rfl)
theorem dX5_must_10 : decode cX5_must 10 = .ok (.getfield 30, 3) := dk_180 0 30 (dk_at dksX5_must_0 10 rfl rfl)
theorem dX5_must_13 : decode cX5_must 13 = .ok (.invokespecial 57, 3) := dk_183 0 57 (dk_at dksX5_must_0 13 rfl rfl)
theorem dX5_must_16 : decode cX5_must 16 = .ok (.athrow, 1) := dk_191 (dk_at dksX5_must_0 16 rfl rfl)
theorem dX5_must_17 : decode cX5_must 17 = .ok (.return_, 1) := dk_177 (dk_at dksX5_must_0 17 rfl rfl)
abbrev cX5_figure : ByteArray := prog_11_method_6_code
def yX5_figure : MethodName := ⟨RX5, "figure", "(II)I"⟩
def dkwX5_figure_1 : List UInt8 := [27, 133, 28, 133, 184, 0, 44, 5, 182, 0, 60, 42, 180, 0, 37, 62, 42, 182, 0, 64, 29, 172]
abbrev dktX5_figure_1 : List UInt8 := dkwX5_figure_1 ++ []
def dkwX5_figure_0 : List UInt8 := [42, 42, 180, 0, 52, 5, 160, 0, 7, 4, 167, 0, 4, 3, 4, 182, 0, 60, 42, 42, 180, 0, 37, 133]
abbrev dktX5_figure_0 : List UInt8 := dkwX5_figure_0 ++ dktX5_figure_1
theorem dksX5_figure_0 : cX5_figure.data.toList.drop 0 = dktX5_figure_0 := by decide +kernel
theorem dksX5_figure_1 : cX5_figure.data.toList.drop 24 = dktX5_figure_1 := dk_seg dksX5_figure_0 24 rfl rfl
theorem dX5_figure_0 : decode cX5_figure 0 = .ok (.aload_n 0, 1) := dk_42 (dk_at dksX5_figure_0 0 rfl rfl)
theorem dX5_figure_1 : decode cX5_figure 1 = .ok (.aload_n 0, 1) := dk_42 (dk_at dksX5_figure_0 1 rfl rfl)
theorem dX5_figure_2 : decode cX5_figure 2 = .ok (.getfield 52, 3) := dk_180 0 52 (dk_at dksX5_figure_0 2 rfl rfl)
theorem dX5_figure_5 : decode cX5_figure 5 = .ok (.iconst 2, 1) := dk_5 (dk_at dksX5_figure_0 5 rfl rfl)
theorem dX5_figure_6 : decode cX5_figure 6 = .ok (.if_icmp .ne 7, 3) := dk_160 0 7 (dk_at dksX5_figure_0 6 rfl rfl)
theorem dX5_figure_9 : decode cX5_figure 9 = .ok (.iconst 1, 1) := dk_4 (dk_at dksX5_figure_0 9 rfl rfl)
theorem dX5_figure_10 : decode cX5_figure 10 = .ok (.goto 4, 3) := dk_167 0 4 (dk_at dksX5_figure_0 10 rfl rfl)
theorem dX5_figure_13 : decode cX5_figure 13 = .ok (.iconst 0, 1) := dk_3 (dk_at dksX5_figure_0 13 rfl rfl)
theorem dX5_figure_14 : decode cX5_figure 14 = .ok (.iconst 1, 1) := dk_4 (dk_at dksX5_figure_0 14 rfl rfl)
theorem dX5_figure_15 : decode cX5_figure 15 = .ok (.invokevirtual 60, 3) := dk_182 0 60 (dk_at dksX5_figure_0 15 rfl rfl)
theorem dX5_figure_18 : decode cX5_figure 18 = .ok (.aload_n 0, 1) := dk_42 (dk_at dksX5_figure_0 18 rfl rfl)
theorem dX5_figure_19 : decode cX5_figure 19 = .ok (.aload_n 0, 1) := dk_42 (dk_at dksX5_figure_0 19 rfl rfl)
theorem dX5_figure_20 : decode cX5_figure 20 = .ok (.getfield 37, 3) := dk_180 0 37 (dk_at dksX5_figure_0 20 rfl rfl)
theorem dX5_figure_23 : decode cX5_figure 23 = .ok (.i2l, 1) := dk_133 (dk_at dksX5_figure_0 23 rfl rfl)
theorem dX5_figure_24 : decode cX5_figure 24 = .ok (.iload_n 1, 1) := dk_27 (dk_at dksX5_figure_1 0 rfl rfl)
theorem dX5_figure_25 : decode cX5_figure 25 = .ok (.i2l, 1) := dk_133 (dk_at dksX5_figure_1 1 rfl rfl)
theorem dX5_figure_26 : decode cX5_figure 26 = .ok (.iload_n 2, 1) := dk_28 (dk_at dksX5_figure_1 2 rfl rfl)
theorem dX5_figure_27 : decode cX5_figure 27 = .ok (.i2l, 1) := dk_133 (dk_at dksX5_figure_1 3 rfl rfl)
theorem dX5_figure_28 : decode cX5_figure 28 = .ok (.invokestatic 44, 3) := dk_184 0 44 (dk_at dksX5_figure_1 4 rfl rfl)
theorem dX5_figure_31 : decode cX5_figure 31 = .ok (.iconst 2, 1) := dk_5 (dk_at dksX5_figure_1 7 rfl rfl)
theorem dX5_figure_32 : decode cX5_figure 32 = .ok (.invokevirtual 60, 3) := dk_182 0 60 (dk_at dksX5_figure_1 8 rfl rfl)
theorem dX5_figure_35 : decode cX5_figure 35 = .ok (.aload_n 0, 1) := dk_42 (dk_at dksX5_figure_1 11 rfl rfl)
theorem dX5_figure_36 : decode cX5_figure 36 = .ok (.getfield 37, 3) := dk_180 0 37 (dk_at dksX5_figure_1 12 rfl rfl)
theorem dX5_figure_39 : decode cX5_figure 39 = .ok (.istore_n 3, 1) := dk_62 (dk_at dksX5_figure_1 15 rfl rfl)
theorem dX5_figure_40 : decode cX5_figure 40 = .ok (.aload_n 0, 1) := dk_42 (dk_at dksX5_figure_1 16 rfl rfl)
theorem dX5_figure_41 : decode cX5_figure 41 = .ok (.invokevirtual 64, 3) := dk_182 0 64 (dk_at dksX5_figure_1 17 rfl rfl)
theorem dX5_figure_44 : decode cX5_figure 44 = .ok (.iload_n 3, 1) := dk_29 (dk_at dksX5_figure_1 20 rfl rfl)
theorem dX5_figure_45 : decode cX5_figure 45 = .ok (.ireturn, 1) := dk_172 (dk_at dksX5_figure_1 21 rfl rfl)
abbrev cX5_sign : ByteArray := prog_11_method_7_code
def yX5_sign : MethodName := ⟨RX5, "sign", "(I)V"⟩
def dkwX5_sign_0 : List UInt8 := [42, 42, 6, 27, 182, 0, 67, 4, 182, 0, 60, 42, 182, 0, 64, 177]
abbrev dktX5_sign_0 : List UInt8 := dkwX5_sign_0 ++ []
theorem dksX5_sign_0 : cX5_sign.data.toList.drop 0 = dktX5_sign_0 := by decide +kernel
theorem dX5_sign_0 : decode cX5_sign 0 = .ok (.aload_n 0, 1) := dk_42 (dk_at dksX5_sign_0 0 rfl rfl)
theorem dX5_sign_1 : decode cX5_sign 1 = .ok (.aload_n 0, 1) := dk_42 (dk_at dksX5_sign_0 1 rfl rfl)
theorem dX5_sign_2 : decode cX5_sign 2 = .ok (.iconst 3, 1) := dk_6 (dk_at dksX5_sign_0 2 rfl rfl)
theorem dX5_sign_3 : decode cX5_sign 3 = .ok (.iload_n 1, 1) := dk_27 (dk_at dksX5_sign_0 3 rfl rfl)
theorem dX5_sign_4 : decode cX5_sign 4 = .ok (.invokevirtual 67, 3) := dk_182 0 67 (dk_at dksX5_sign_0 4 rfl rfl)
theorem dX5_sign_7 : decode cX5_sign 7 = .ok (.iconst 1, 1) := dk_4 (dk_at dksX5_sign_0 7 rfl rfl)
theorem dX5_sign_8 : decode cX5_sign 8 = .ok (.invokevirtual 60, 3) := dk_182 0 60 (dk_at dksX5_sign_0 8 rfl rfl)
theorem dX5_sign_11 : decode cX5_sign 11 = .ok (.aload_n 0, 1) := dk_42 (dk_at dksX5_sign_0 11 rfl rfl)
theorem dX5_sign_12 : decode cX5_sign 12 = .ok (.invokevirtual 64, 3) := dk_182 0 64 (dk_at dksX5_sign_0 12 rfl rfl)
theorem dX5_sign_15 : decode cX5_sign 15 = .ok (.return_, 1) := dk_177 (dk_at dksX5_sign_0 15 rfl rfl)
abbrev cX5_giver : ByteArray := prog_11_method_9_code
def yX5_giver : MethodName := ⟨RX5, "giver", "()V"⟩
def dkwX5_giver_2 : List UInt8 := [79, 42, 16, 59, 182, 0, 78, 42, 180, 0, 12, 89, 180, 0, 99, 4, 96, 181, 0, 99, 177]
abbrev dktX5_giver_2 : List UInt8 := dkwX5_giver_2 ++ []
def dkwX5_giver_1 : List UInt8 := [182, 0, 64, 42, 180, 0, 12, 180, 0, 102, 42, 180, 0, 12, 180, 0, 99, 42, 3, 16, 10, 182, 0, 71]
abbrev dktX5_giver_1 : List UInt8 := dkwX5_giver_1 ++ dktX5_giver_2
def dkwX5_giver_0 : List UInt8 := [42, 42, 180, 0, 12, 180, 0, 99, 7, 162, 0, 7, 4, 167, 0, 4, 3, 6, 182, 0, 60, 42]
abbrev dktX5_giver_0 : List UInt8 := dkwX5_giver_0 ++ dktX5_giver_1
theorem dksX5_giver_0 : cX5_giver.data.toList.drop 0 = dktX5_giver_0 := by decide +kernel
theorem dksX5_giver_1 : cX5_giver.data.toList.drop 22 = dktX5_giver_1 := dk_seg dksX5_giver_0 22 rfl rfl
theorem dksX5_giver_2 : cX5_giver.data.toList.drop 46 = dktX5_giver_2 := dk_seg dksX5_giver_1 24 rfl rfl
theorem dX5_giver_0 : decode cX5_giver 0 = .ok (.aload_n 0, 1) := dk_42 (dk_at dksX5_giver_0 0 rfl rfl)
theorem dX5_giver_1 : decode cX5_giver 1 = .ok (.aload_n 0, 1) := dk_42 (dk_at dksX5_giver_0 1 rfl rfl)
theorem dX5_giver_2 : decode cX5_giver 2 = .ok (.getfield 12, 3) := dk_180 0 12 (dk_at dksX5_giver_0 2 rfl rfl)
theorem dX5_giver_5 : decode cX5_giver 5 = .ok (.getfield 99, 3) := dk_180 0 99 (dk_at dksX5_giver_0 5 rfl rfl)
theorem dX5_giver_8 : decode cX5_giver 8 = .ok (.iconst 4, 1) := dk_7 (dk_at dksX5_giver_0 8 rfl rfl)
theorem dX5_giver_9 : decode cX5_giver 9 = .ok (.if_icmp .ge 7, 3) := dk_162 0 7 (dk_at dksX5_giver_0 9 rfl rfl)
theorem dX5_giver_12 : decode cX5_giver 12 = .ok (.iconst 1, 1) := dk_4 (dk_at dksX5_giver_0 12 rfl rfl)
theorem dX5_giver_13 : decode cX5_giver 13 = .ok (.goto 4, 3) := dk_167 0 4 (dk_at dksX5_giver_0 13 rfl rfl)
theorem dX5_giver_16 : decode cX5_giver 16 = .ok (.iconst 0, 1) := dk_3 (dk_at dksX5_giver_0 16 rfl rfl)
theorem dX5_giver_17 : decode cX5_giver 17 = .ok (.iconst 3, 1) := dk_6 (dk_at dksX5_giver_0 17 rfl rfl)
theorem dX5_giver_18 : decode cX5_giver 18 = .ok (.invokevirtual 60, 3) := dk_182 0 60 (dk_at dksX5_giver_0 18 rfl rfl)
theorem dX5_giver_21 : decode cX5_giver 21 = .ok (.aload_n 0, 1) := dk_42 (dk_at dksX5_giver_0 21 rfl rfl)
theorem dX5_giver_22 : decode cX5_giver 22 = .ok (.invokevirtual 64, 3) := dk_182 0 64 (dk_at dksX5_giver_1 0 rfl rfl)
theorem dX5_giver_25 : decode cX5_giver 25 = .ok (.aload_n 0, 1) := dk_42 (dk_at dksX5_giver_1 3 rfl rfl)
theorem dX5_giver_26 : decode cX5_giver 26 = .ok (.getfield 12, 3) := dk_180 0 12 (dk_at dksX5_giver_1 4 rfl rfl)
theorem dX5_giver_29 : decode cX5_giver 29 = .ok (.getfield 102, 3) := dk_180 0 102 (dk_at dksX5_giver_1 7 rfl rfl)
theorem dX5_giver_32 : decode cX5_giver 32 = .ok (.aload_n 0, 1) := dk_42 (dk_at dksX5_giver_1 10 rfl rfl)
theorem dX5_giver_33 : decode cX5_giver 33 = .ok (.getfield 12, 3) := dk_180 0 12 (dk_at dksX5_giver_1 11 rfl rfl)
theorem dX5_giver_36 : decode cX5_giver 36 = .ok (.getfield 99, 3) := dk_180 0 99 (dk_at dksX5_giver_1 14 rfl rfl)
theorem dX5_giver_39 : decode cX5_giver 39 = .ok (.aload_n 0, 1) := dk_42 (dk_at dksX5_giver_1 17 rfl rfl)
theorem dX5_giver_40 : decode cX5_giver 40 = .ok (.iconst 0, 1) := dk_3 (dk_at dksX5_giver_1 18 rfl rfl)
theorem dX5_giver_41 : decode cX5_giver 41 = .ok (.bipush 10, 2) := dk_16 10 (dk_at dksX5_giver_1 19 rfl rfl)
theorem dX5_giver_43 : decode cX5_giver 43 = .ok (.invokevirtual 71, 3) := dk_182 0 71 (dk_at dksX5_giver_1 21 rfl rfl)
theorem dX5_giver_46 : decode cX5_giver 46 = .ok (.iastore, 1) := dk_79 (dk_at dksX5_giver_2 0 rfl rfl)
theorem dX5_giver_47 : decode cX5_giver 47 = .ok (.aload_n 0, 1) := dk_42 (dk_at dksX5_giver_2 1 rfl rfl)
theorem dX5_giver_48 : decode cX5_giver 48 = .ok (.bipush 59, 2) := dk_16 59 (dk_at dksX5_giver_2 2 rfl rfl)
theorem dX5_giver_50 : decode cX5_giver 50 = .ok (.invokevirtual 78, 3) := dk_182 0 78 (dk_at dksX5_giver_2 4 rfl rfl)
theorem dX5_giver_53 : decode cX5_giver 53 = .ok (.aload_n 0, 1) := dk_42 (dk_at dksX5_giver_2 7 rfl rfl)
theorem dX5_giver_54 : decode cX5_giver 54 = .ok (.getfield 12, 3) := dk_180 0 12 (dk_at dksX5_giver_2 8 rfl rfl)
theorem dX5_giver_57 : decode cX5_giver 57 = .ok (.dup, 1) := dk_89 (dk_at dksX5_giver_2 11 rfl rfl)
theorem dX5_giver_58 : decode cX5_giver 58 = .ok (.getfield 99, 3) := dk_180 0 99 (dk_at dksX5_giver_2 12 rfl rfl)
theorem dX5_giver_61 : decode cX5_giver 61 = .ok (.iconst 1, 1) := dk_4 (dk_at dksX5_giver_2 15 rfl rfl)
theorem dX5_giver_62 : decode cX5_giver 62 = .ok (.iadd, 1) := dk_96 (dk_at dksX5_giver_2 16 rfl rfl)
theorem dX5_giver_63 : decode cX5_giver 63 = .ok (.putfield 99, 3) := dk_181 0 99 (dk_at dksX5_giver_2 17 rfl rfl)
theorem dX5_giver_66 : decode cX5_giver 66 = .ok (.return_, 1) := dk_177 (dk_at dksX5_giver_2 20 rfl rfl)
abbrev cX5_promise : ByteArray := prog_11_method_10_code
def yX5_promise : MethodName := ⟨RX5, "promise", "()V"⟩
def dkwX5_promise_5 : List UInt8 := [21, 5, 21, 6, 184, 0, 113, 185, 0, 117, 2, 0, 87, 177]
abbrev dktX5_promise_5 : List UInt8 := dkwX5_promise_5 ++ []
def dkwX5_promise_4 : List UInt8 := [182, 0, 71, 54, 6, 42, 16, 59, 182, 0, 78, 42, 180, 0, 12, 180, 0, 109, 28, 27, 29, 21, 4]
abbrev dktX5_promise_4 : List UInt8 := dkwX5_promise_4 ++ dktX5_promise_5
def dkwX5_promise_3 : List UInt8 := [16, 44, 182, 0, 78, 42, 3, 16, 9, 182, 0, 71, 54, 5, 42, 16, 44, 182, 0, 78, 42, 3, 16, 20]
abbrev dktX5_promise_3 : List UInt8 := dkwX5_promise_3 ++ dktX5_promise_4
def dkwX5_promise_2 : List UInt8 := [180, 0, 99, 4, 100, 182, 0, 71, 62, 42, 16, 44, 182, 0, 78, 42, 3, 8, 182, 0, 71, 54, 4, 42]
abbrev dktX5_promise_2 : List UInt8 := dkwX5_promise_2 ++ dktX5_promise_3
def dkwX5_promise_1 : List UInt8 := [4, 18, 85, 42, 180, 0, 37, 182, 0, 87, 96, 61, 42, 182, 0, 64, 42, 3, 42, 180, 0, 12]
abbrev dktX5_promise_1 : List UInt8 := dkwX5_promise_1 ++ dktX5_promise_2
def dkwX5_promise_0 : List UInt8 := [42, 180, 0, 12, 182, 0, 106, 60, 42, 27, 16, 8, 162, 0, 7, 4, 167, 0, 4, 3, 6, 182, 0, 60]
abbrev dktX5_promise_0 : List UInt8 := dkwX5_promise_0 ++ dktX5_promise_1
theorem dksX5_promise_0 : cX5_promise.data.toList.drop 0 = dktX5_promise_0 := by decide +kernel
theorem dksX5_promise_1 : cX5_promise.data.toList.drop 24 = dktX5_promise_1 := dk_seg dksX5_promise_0 24 rfl rfl
theorem dksX5_promise_2 : cX5_promise.data.toList.drop 46 = dktX5_promise_2 := dk_seg dksX5_promise_1 22 rfl rfl
theorem dksX5_promise_3 : cX5_promise.data.toList.drop 70 = dktX5_promise_3 := dk_seg dksX5_promise_2 24 rfl rfl
theorem dksX5_promise_4 : cX5_promise.data.toList.drop 94 = dktX5_promise_4 := dk_seg dksX5_promise_3 24 rfl rfl
theorem dksX5_promise_5 : cX5_promise.data.toList.drop 117 = dktX5_promise_5 := dk_seg dksX5_promise_4 23 rfl rfl
theorem dX5_promise_0 : decode cX5_promise 0 = .ok (.aload_n 0, 1) := dk_42 (dk_at dksX5_promise_0 0 rfl rfl)
theorem dX5_promise_1 : decode cX5_promise 1 = .ok (.getfield 12, 3) := dk_180 0 12 (dk_at dksX5_promise_0 1 rfl rfl)
theorem dX5_promise_4 : decode cX5_promise 4 = .ok (.invokevirtual 106, 3) := dk_182 0 106 (dk_at dksX5_promise_0 4 rfl rfl)
theorem dX5_promise_7 : decode cX5_promise 7 = .ok (.istore_n 1, 1) := dk_60 (dk_at dksX5_promise_0 7 rfl rfl)
theorem dX5_promise_8 : decode cX5_promise 8 = .ok (.aload_n 0, 1) := dk_42 (dk_at dksX5_promise_0 8 rfl rfl)
theorem dX5_promise_9 : decode cX5_promise 9 = .ok (.iload_n 1, 1) := dk_27 (dk_at dksX5_promise_0 9 rfl rfl)
theorem dX5_promise_10 : decode cX5_promise 10 = .ok (.bipush 8, 2) := dk_16 8 (dk_at dksX5_promise_0 10 rfl rfl)
theorem dX5_promise_12 : decode cX5_promise 12 = .ok (.if_icmp .ge 7, 3) := dk_162 0 7 (dk_at dksX5_promise_0 12 rfl rfl)
theorem dX5_promise_15 : decode cX5_promise 15 = .ok (.iconst 1, 1) := dk_4 (dk_at dksX5_promise_0 15 rfl rfl)
theorem dX5_promise_16 : decode cX5_promise 16 = .ok (.goto 4, 3) := dk_167 0 4 (dk_at dksX5_promise_0 16 rfl rfl)
theorem dX5_promise_19 : decode cX5_promise 19 = .ok (.iconst 0, 1) := dk_3 (dk_at dksX5_promise_0 19 rfl rfl)
theorem dX5_promise_20 : decode cX5_promise 20 = .ok (.iconst 3, 1) := dk_6 (dk_at dksX5_promise_0 20 rfl rfl)
theorem dX5_promise_21 : decode cX5_promise 21 = .ok (.invokevirtual 60, 3) := dk_182 0 60 (dk_at dksX5_promise_0 21 rfl rfl)
theorem dX5_promise_24 : decode cX5_promise 24 = .ok (.iconst 1, 1) := dk_4 (dk_at dksX5_promise_1 0 rfl rfl)
theorem dX5_promise_25 : decode cX5_promise 25 = .ok (.ldc 85, 2) := dk_18 85 (dk_at dksX5_promise_1 1 rfl rfl)
theorem dX5_promise_27 : decode cX5_promise 27 = .ok (.aload_n 0, 1) := dk_42 (dk_at dksX5_promise_1 3 rfl rfl)
theorem dX5_promise_28 : decode cX5_promise 28 = .ok (.getfield 37, 3) := dk_180 0 37 (dk_at dksX5_promise_1 4 rfl rfl)
theorem dX5_promise_31 : decode cX5_promise 31 = .ok (.invokevirtual 87, 3) := dk_182 0 87 (dk_at dksX5_promise_1 7 rfl rfl)
theorem dX5_promise_34 : decode cX5_promise 34 = .ok (.iadd, 1) := dk_96 (dk_at dksX5_promise_1 10 rfl rfl)
theorem dX5_promise_35 : decode cX5_promise 35 = .ok (.istore_n 2, 1) := dk_61 (dk_at dksX5_promise_1 11 rfl rfl)
theorem dX5_promise_36 : decode cX5_promise 36 = .ok (.aload_n 0, 1) := dk_42 (dk_at dksX5_promise_1 12 rfl rfl)
theorem dX5_promise_37 : decode cX5_promise 37 = .ok (.invokevirtual 64, 3) := dk_182 0 64 (dk_at dksX5_promise_1 13 rfl rfl)
theorem dX5_promise_40 : decode cX5_promise 40 = .ok (.aload_n 0, 1) := dk_42 (dk_at dksX5_promise_1 16 rfl rfl)
theorem dX5_promise_41 : decode cX5_promise 41 = .ok (.iconst 0, 1) := dk_3 (dk_at dksX5_promise_1 17 rfl rfl)
theorem dX5_promise_42 : decode cX5_promise 42 = .ok (.aload_n 0, 1) := dk_42 (dk_at dksX5_promise_1 18 rfl rfl)
theorem dX5_promise_43 : decode cX5_promise 43 = .ok (.getfield 12, 3) := dk_180 0 12 (dk_at dksX5_promise_1 19 rfl rfl)
theorem dX5_promise_46 : decode cX5_promise 46 = .ok (.getfield 99, 3) := dk_180 0 99 (dk_at dksX5_promise_2 0 rfl rfl)
theorem dX5_promise_49 : decode cX5_promise 49 = .ok (.iconst 1, 1) := dk_4 (dk_at dksX5_promise_2 3 rfl rfl)
theorem dX5_promise_50 : decode cX5_promise 50 = .ok (.isub, 1) := dk_100 (dk_at dksX5_promise_2 4 rfl rfl)
theorem dX5_promise_51 : decode cX5_promise 51 = .ok (.invokevirtual 71, 3) := dk_182 0 71 (dk_at dksX5_promise_2 5 rfl rfl)
theorem dX5_promise_54 : decode cX5_promise 54 = .ok (.istore_n 3, 1) := dk_62 (dk_at dksX5_promise_2 8 rfl rfl)
theorem dX5_promise_55 : decode cX5_promise 55 = .ok (.aload_n 0, 1) := dk_42 (dk_at dksX5_promise_2 9 rfl rfl)
theorem dX5_promise_56 : decode cX5_promise 56 = .ok (.bipush 44, 2) := dk_16 44 (dk_at dksX5_promise_2 10 rfl rfl)
theorem dX5_promise_58 : decode cX5_promise 58 = .ok (.invokevirtual 78, 3) := dk_182 0 78 (dk_at dksX5_promise_2 12 rfl rfl)
theorem dX5_promise_61 : decode cX5_promise 61 = .ok (.aload_n 0, 1) := dk_42 (dk_at dksX5_promise_2 15 rfl rfl)
theorem dX5_promise_62 : decode cX5_promise 62 = .ok (.iconst 0, 1) := dk_3 (dk_at dksX5_promise_2 16 rfl rfl)
theorem dX5_promise_63 : decode cX5_promise 63 = .ok (.iconst 5, 1) := dk_8 (dk_at dksX5_promise_2 17 rfl rfl)
theorem dX5_promise_64 : decode cX5_promise 64 = .ok (.invokevirtual 71, 3) := dk_182 0 71 (dk_at dksX5_promise_2 18 rfl rfl)
theorem dX5_promise_67 : decode cX5_promise 67 = .ok (.istore 4, 2) := dk_54 4 (dk_at dksX5_promise_2 21 rfl rfl)
theorem dX5_promise_69 : decode cX5_promise 69 = .ok (.aload_n 0, 1) := dk_42 (dk_at dksX5_promise_2 23 rfl rfl)
theorem dX5_promise_70 : decode cX5_promise 70 = .ok (.bipush 44, 2) := dk_16 44 (dk_at dksX5_promise_3 0 rfl rfl)
theorem dX5_promise_72 : decode cX5_promise 72 = .ok (.invokevirtual 78, 3) := dk_182 0 78 (dk_at dksX5_promise_3 2 rfl rfl)
theorem dX5_promise_75 : decode cX5_promise 75 = .ok (.aload_n 0, 1) := dk_42 (dk_at dksX5_promise_3 5 rfl rfl)
theorem dX5_promise_76 : decode cX5_promise 76 = .ok (.iconst 0, 1) := dk_3 (dk_at dksX5_promise_3 6 rfl rfl)
theorem dX5_promise_77 : decode cX5_promise 77 = .ok (.bipush 9, 2) := dk_16 9 (dk_at dksX5_promise_3 7 rfl rfl)
theorem dX5_promise_79 : decode cX5_promise 79 = .ok (.invokevirtual 71, 3) := dk_182 0 71 (dk_at dksX5_promise_3 9 rfl rfl)
theorem dX5_promise_82 : decode cX5_promise 82 = .ok (.istore 5, 2) := dk_54 5 (dk_at dksX5_promise_3 12 rfl rfl)
theorem dX5_promise_84 : decode cX5_promise 84 = .ok (.aload_n 0, 1) := dk_42 (dk_at dksX5_promise_3 14 rfl rfl)
theorem dX5_promise_85 : decode cX5_promise 85 = .ok (.bipush 44, 2) := dk_16 44 (dk_at dksX5_promise_3 15 rfl rfl)
theorem dX5_promise_87 : decode cX5_promise 87 = .ok (.invokevirtual 78, 3) := dk_182 0 78 (dk_at dksX5_promise_3 17 rfl rfl)
theorem dX5_promise_90 : decode cX5_promise 90 = .ok (.aload_n 0, 1) := dk_42 (dk_at dksX5_promise_3 20 rfl rfl)
theorem dX5_promise_91 : decode cX5_promise 91 = .ok (.iconst 0, 1) := dk_3 (dk_at dksX5_promise_3 21 rfl rfl)
theorem dX5_promise_92 : decode cX5_promise 92 = .ok (.bipush 20, 2) := dk_16 20 (dk_at dksX5_promise_3 22 rfl rfl)
theorem dX5_promise_94 : decode cX5_promise 94 = .ok (.invokevirtual 71, 3) := dk_182 0 71 (dk_at dksX5_promise_4 0 rfl rfl)
theorem dX5_promise_97 : decode cX5_promise 97 = .ok (.istore 6, 2) := dk_54 6 (dk_at dksX5_promise_4 3 rfl rfl)
theorem dX5_promise_99 : decode cX5_promise 99 = .ok (.aload_n 0, 1) := dk_42 (dk_at dksX5_promise_4 5 rfl rfl)
theorem dX5_promise_100 : decode cX5_promise 100 = .ok (.bipush 59, 2) := dk_16 59 (dk_at dksX5_promise_4 6 rfl rfl)
theorem dX5_promise_102 : decode cX5_promise 102 = .ok (.invokevirtual 78, 3) := dk_182 0 78 (dk_at dksX5_promise_4 8 rfl rfl)
theorem dX5_promise_105 : decode cX5_promise 105 = .ok (.aload_n 0, 1) := dk_42 (dk_at dksX5_promise_4 11 rfl rfl)
theorem dX5_promise_106 : decode cX5_promise 106 = .ok (.getfield 12, 3) := dk_180 0 12 (dk_at dksX5_promise_4 12 rfl rfl)
theorem dX5_promise_109 : decode cX5_promise 109 = .ok (.getfield 109, 3) := dk_180 0 109 (dk_at dksX5_promise_4 15 rfl rfl)
theorem dX5_promise_112 : decode cX5_promise 112 = .ok (.iload_n 2, 1) := dk_28 (dk_at dksX5_promise_4 18 rfl rfl)
theorem dX5_promise_113 : decode cX5_promise 113 = .ok (.iload_n 1, 1) := dk_27 (dk_at dksX5_promise_4 19 rfl rfl)
theorem dX5_promise_114 : decode cX5_promise 114 = .ok (.iload_n 3, 1) := dk_29 (dk_at dksX5_promise_4 20 rfl rfl)
theorem dX5_promise_115 : decode cX5_promise 115 = .ok (.iload 4, 2) := dk_21 4 (dk_at dksX5_promise_4 21 rfl rfl)
theorem dX5_promise_117 : decode cX5_promise 117 = .ok (.iload 5, 2) := dk_21 5 (dk_at dksX5_promise_5 0 rfl rfl)
theorem dX5_promise_119 : decode cX5_promise 119 = .ok (.iload 6, 2) := dk_21 6 (dk_at dksX5_promise_5 2 rfl rfl)
theorem dX5_promise_121 : decode cX5_promise 121 = .ok (.invokestatic 113, 3) := dk_184 0 113 (dk_at dksX5_promise_5 4 rfl rfl)
theorem dX5_promise_124 : decode cX5_promise 124 = .ok (.invokeinterface 117 2, 5) := by decide +kernel
theorem dX5_promise_129 : decode cX5_promise 129 = .ok (.pop, 1) := dk_87 (dk_at dksX5_promise_5 12 rfl rfl)
theorem dX5_promise_130 : decode cX5_promise 130 = .ok (.return_, 1) := dk_177 (dk_at dksX5_promise_5 13 rfl rfl)
theorem q86 : (Jvm.Cond.initialized "PromiseScales$Reader") ∈ lw_all := lw_g (lw_at lw_m1 19 rfl) rfl
theorem q163 : (Jvm.Cond.fieldLink "PromiseScales$Reader" (75 : Nat) "PromiseScales$Scales" "wax" "I") ∈ lw_all := lw_g (lw_at lw_m1 96 rfl) rfl
theorem q166 : (Jvm.Cond.fieldLink "PromiseScales$Reader" (96 : Nat) "PromiseScales$Scales" "stick" "I") ∈ lw_all := lw_g (lw_at lw_m1 99 rfl) rfl
theorem q169 : (Jvm.Cond.fieldLink "PromiseScales$Reader" (99 : Nat) "PromiseScales$Scales" "givers" "I") ∈ lw_all := lw_g (lw_at lw_m1 102 rfl) rfl
theorem q172 : (Jvm.Cond.fieldLink "PromiseScales$Reader" (102 : Nat) "PromiseScales$Scales" "keeps" "[I") ∈ lw_all := lw_g (lw_at lw_m1 105 rfl) rfl
theorem q175 : (Jvm.Cond.fieldLink "PromiseScales$Reader" (109 : Nat) "PromiseScales$Scales" "promises" "Ljava/util/List;") ∈ lw_all := lw_g (lw_at lw_m1 108 rfl) rfl
theorem q459 : (Jvm.Cond.instantiable "PromiseScales$Reader" (7 : Nat)) ∈ lw_all := lw_g (lw_at lw_m2 152 rfl) rfl
theorem q461 : (Jvm.Cond.instanceMethod ({ cls := "PromiseScales$Reader", name := "<init>", desc := "([BI)V" } : Jvm.MethodName)) ∈ lw_all := lw_g (lw_at lw_m2 154 rfl) rfl
theorem q462 : (Jvm.Cond.code ({ cls := "PromiseScales$Reader", name := "<init>", desc := "([BI)V" } : Jvm.MethodName) prog_11_method_1_code (3 : Nat) (Option.none : Option Jvm.ClassFile.FieldType)) ∈ lw_all := lw_g (lw_at lw_m2 155 rfl) rfl
theorem q463 : (Jvm.Cond.methodLink "PromiseScales$Reader" (3 : Nat) ({ cls := "java/lang/Object", name := "<init>", desc := "()V" } : Jvm.MethodName)) ∈ lw_all := lw_g (lw_at lw_m2 156 rfl) rfl
theorem q464 : (Jvm.Cond.classLink "PromiseScales$Reader" (9 : Nat) "PromiseScales$Scales") ∈ lw_all := lw_g (lw_at lw_m2 157 rfl) rfl
theorem q465 : (Jvm.Cond.methodLinkNest "PromiseScales$Reader" (11 : Nat) ({ cls := "PromiseScales$Scales", name := "<init>", desc := "()V" } : Jvm.MethodName) "PromiseScales") ∈ lw_tbl := lw_at lw_m2 158 rfl
theorem q466 : (Jvm.Cond.fieldLink "PromiseScales$Reader" (18 : Nat) "PromiseScales$Reader" "text" "[B") ∈ lw_all := lw_g (lw_at lw_m2 159 rfl) rfl
theorem q467 : (Jvm.Cond.fieldLink "PromiseScales$Reader" (22 : Nat) "PromiseScales$Reader" "size" "I") ∈ lw_all := lw_g (lw_at lw_m2 160 rfl) rfl
theorem q468 : (Jvm.Cond.fieldLink "PromiseScales$Reader" (26 : Nat) "PromiseScales$Reader" "at" "I") ∈ lw_all := lw_g (lw_at lw_m2 161 rfl) rfl
theorem q469 : (Jvm.Cond.fieldLink "PromiseScales$Reader" (52 : Nat) "PromiseScales$Reader" "token" "I") ∈ lw_all := lw_g (lw_at lw_m2 162 rfl) rfl
theorem q470 : (Jvm.Cond.fieldLink "PromiseScales$Reader" (30 : Nat) "PromiseScales$Reader" "from" "I") ∈ lw_all := lw_g (lw_at lw_m2 163 rfl) rfl
theorem q471 : (Jvm.Cond.fieldLink "PromiseScales$Reader" (37 : Nat) "PromiseScales$Reader" "value" "I") ∈ lw_all := lw_g (lw_at lw_m2 164 rfl) rfl
theorem q472 : (Jvm.Cond.fieldLink "PromiseScales$Reader" (12 : Nat) "PromiseScales$Reader" "made" "LPromiseScales$Scales;") ∈ lw_all := lw_g (lw_at lw_m2 165 rfl) rfl
theorem q474 : (Jvm.Cond.laysFinal "PromiseScales$Reader" "PromiseScales$Reader" "text" "[B") ∈ lw_all := lw_g (lw_at lw_m2 167 rfl) rfl
theorem q475 : (Jvm.Cond.soleField "PromiseScales$Reader" "text") ∈ lw_all := lw_g (lw_at lw_m2 168 rfl) rfl
theorem q476 : (Jvm.Cond.laysFinal "PromiseScales$Reader" "PromiseScales$Reader" "size" "I") ∈ lw_all := lw_g (lw_at lw_m2 169 rfl) rfl
theorem q477 : (Jvm.Cond.soleField "PromiseScales$Reader" "size") ∈ lw_all := lw_g (lw_at lw_m2 170 rfl) rfl
theorem q478 : (Jvm.Cond.lays "PromiseScales$Reader" "PromiseScales$Reader" "at" "I") ∈ lw_all := lw_g (lw_at lw_m2 171 rfl) rfl
theorem q479 : (Jvm.Cond.soleField "PromiseScales$Reader" "at") ∈ lw_all := lw_g (lw_at lw_m2 172 rfl) rfl
theorem q480 : (Jvm.Cond.lays "PromiseScales$Reader" "PromiseScales$Reader" "token" "I") ∈ lw_all := lw_g (lw_at lw_m2 173 rfl) rfl
theorem q481 : (Jvm.Cond.soleField "PromiseScales$Reader" "token") ∈ lw_all := lw_g (lw_at lw_m2 174 rfl) rfl
theorem q482 : (Jvm.Cond.lays "PromiseScales$Reader" "PromiseScales$Reader" "from" "I") ∈ lw_all := lw_g (lw_at lw_m2 175 rfl) rfl
theorem q483 : (Jvm.Cond.soleField "PromiseScales$Reader" "from") ∈ lw_all := lw_g (lw_at lw_m2 176 rfl) rfl
theorem q484 : (Jvm.Cond.lays "PromiseScales$Reader" "PromiseScales$Reader" "value" "I") ∈ lw_all := lw_g (lw_at lw_m2 177 rfl) rfl
theorem q485 : (Jvm.Cond.soleField "PromiseScales$Reader" "value") ∈ lw_all := lw_g (lw_at lw_m2 178 rfl) rfl
theorem q486 : (Jvm.Cond.laysFinal "PromiseScales$Reader" "PromiseScales$Reader" "made" "LPromiseScales$Scales;") ∈ lw_all := lw_g (lw_at lw_m2 179 rfl) rfl
theorem q487 : (Jvm.Cond.soleField "PromiseScales$Reader" "made") ∈ lw_all := lw_g (lw_at lw_m2 180 rfl) rfl
theorem q488 : (Jvm.Cond.superclass "PromiseScales$Reader" "java/lang/Object") ∈ lw_all := lw_g (lw_at lw_m2 181 rfl) rfl
theorem q490 : (Jvm.Cond.instanceMethod ({ cls := "PromiseScales$Reader", name := "all", desc := "()V" } : Jvm.MethodName)) ∈ lw_all := lw_g (lw_at lw_m2 183 rfl) rfl
theorem q491 : (Jvm.Cond.selects "PromiseScales$Reader" ({ cls := "PromiseScales$Reader", name := "all", desc := "()V" } : Jvm.MethodName) ({ cls := "PromiseScales$Reader", name := "all", desc := "()V" } : Jvm.MethodName)) ∈ lw_all := lw_g (lw_at lw_m2 184 rfl) rfl
theorem q492 : (Jvm.Cond.code ({ cls := "PromiseScales$Reader", name := "all", desc := "()V" } : Jvm.MethodName) prog_11_method_8_code (2 : Nat) (Option.none : Option Jvm.ClassFile.FieldType)) ∈ lw_all := lw_g (lw_at lw_m2 185 rfl) rfl
theorem q493 : (Jvm.Cond.methodLink "PromiseScales$Reader" (64 : Nat) ({ cls := "PromiseScales$Reader", name := "next", desc := "()V" } : Jvm.MethodName)) ∈ lw_all := lw_g (lw_at lw_m2 186 rfl) rfl
theorem q494 : (Jvm.Cond.privateMethod ({ cls := "PromiseScales$Reader", name := "next", desc := "()V" } : Jvm.MethodName)) ∈ lw_tbl := lw_at lw_m2 187 rfl
theorem q495 : (Jvm.Cond.instanceMethod ({ cls := "PromiseScales$Reader", name := "next", desc := "()V" } : Jvm.MethodName)) ∈ lw_all := lw_g (lw_at lw_m2 188 rfl) rfl
theorem q496 : (Jvm.Cond.code ({ cls := "PromiseScales$Reader", name := "next", desc := "()V" } : Jvm.MethodName) prog_11_method_3_code (2 : Nat) (Option.none : Option Jvm.ClassFile.FieldType)) ∈ lw_all := lw_g (lw_at lw_m2 189 rfl) rfl
theorem q497 : (Jvm.Cond.methodLink "PromiseScales$Reader" (33 : Nat) ({ cls := "PromiseScales$Reader", name := "look", desc := "()I" } : Jvm.MethodName)) ∈ lw_all := lw_g (lw_at lw_m2 190 rfl) rfl
theorem q498 : (Jvm.Cond.privateMethod ({ cls := "PromiseScales$Reader", name := "look", desc := "()I" } : Jvm.MethodName)) ∈ lw_tbl := lw_at lw_m2 191 rfl
theorem q499 : (Jvm.Cond.instanceMethod ({ cls := "PromiseScales$Reader", name := "look", desc := "()I" } : Jvm.MethodName)) ∈ lw_all := lw_g (lw_at lw_m2 192 rfl) rfl
theorem q500 : (Jvm.Cond.code ({ cls := "PromiseScales$Reader", name := "look", desc := "()I" } : Jvm.MethodName) prog_11_method_2_code (1 : Nat) (Option.some Jvm.ClassFile.FieldType.int)) ∈ lw_all := lw_g (lw_at lw_m2 193 rfl) rfl
theorem q501 : (Jvm.Cond.constant "PromiseScales$Reader" (29 : Nat) (-1000000 : Int32)) ∈ lw_all := lw_g (lw_at lw_m2 194 rfl) rfl
theorem q502 : (Jvm.Cond.constantLong "PromiseScales$Reader" (40 : Nat) (97 : Int64)) ∈ lw_all := lw_g (lw_at lw_m2 195 rfl) rfl
theorem q503 : (Jvm.Cond.constantLong "PromiseScales$Reader" (42 : Nat) (122 : Int64)) ∈ lw_all := lw_g (lw_at lw_m2 196 rfl) rfl
theorem q504 : (Jvm.Cond.methodLinkNest "PromiseScales$Reader" (44 : Nat) ({ cls := "PromiseScales", name := "isIn", desc := "(JJJ)Z" } : Jvm.MethodName) "PromiseScales") ∈ lw_tbl := lw_at lw_m2 197 rfl
theorem q505 : (Jvm.Cond.constantLong "PromiseScales$Reader" (48 : Nat) (48 : Int64)) ∈ lw_all := lw_g (lw_at lw_m2 198 rfl) rfl
theorem q506 : (Jvm.Cond.constantLong "PromiseScales$Reader" (50 : Nat) (57 : Int64)) ∈ lw_all := lw_g (lw_at lw_m2 199 rfl) rfl
theorem q507 : (Jvm.Cond.methodLink "PromiseScales$Reader" (67 : Nat) ({ cls := "PromiseScales$Reader", name := "is", desc := "(II)Z" } : Jvm.MethodName)) ∈ lw_all := lw_g (lw_at lw_m2 200 rfl) rfl
theorem q508 : (Jvm.Cond.privateMethod ({ cls := "PromiseScales$Reader", name := "is", desc := "(II)Z" } : Jvm.MethodName)) ∈ lw_tbl := lw_at lw_m2 201 rfl
theorem q509 : (Jvm.Cond.instanceMethod ({ cls := "PromiseScales$Reader", name := "is", desc := "(II)Z" } : Jvm.MethodName)) ∈ lw_all := lw_g (lw_at lw_m2 202 rfl) rfl
theorem q510 : (Jvm.Cond.code ({ cls := "PromiseScales$Reader", name := "is", desc := "(II)Z" } : Jvm.MethodName) prog_11_method_5_code (3 : Nat) (Option.some Jvm.ClassFile.FieldType.boolean)) ∈ lw_all := lw_g (lw_at lw_m2 203 rfl) rfl
theorem q511 : (Jvm.Cond.methodLink "PromiseScales$Reader" (60 : Nat) ({ cls := "PromiseScales$Reader", name := "must", desc := "(ZI)V" } : Jvm.MethodName)) ∈ lw_all := lw_g (lw_at lw_m2 204 rfl) rfl
theorem q512 : (Jvm.Cond.privateMethod ({ cls := "PromiseScales$Reader", name := "must", desc := "(ZI)V" } : Jvm.MethodName)) ∈ lw_tbl := lw_at lw_m2 205 rfl
theorem q513 : (Jvm.Cond.instanceMethod ({ cls := "PromiseScales$Reader", name := "must", desc := "(ZI)V" } : Jvm.MethodName)) ∈ lw_all := lw_g (lw_at lw_m2 206 rfl) rfl
theorem q514 : (Jvm.Cond.code ({ cls := "PromiseScales$Reader", name := "must", desc := "(ZI)V" } : Jvm.MethodName) prog_11_method_4_code (3 : Nat) (Option.none : Option Jvm.ClassFile.FieldType)) ∈ lw_all := lw_g (lw_at lw_m2 207 rfl) rfl
theorem q515 : (Jvm.Cond.classLink "PromiseScales$Reader" (55 : Nat) "PromiseScales$Fault") ∈ lw_all := lw_g (lw_at lw_m2 208 rfl) rfl
theorem q524 : (Jvm.Cond.methodLink "PromiseScales$Reader" (57 : Nat) ({ cls := "PromiseScales$Fault", name := "<init>", desc := "(II)V" } : Jvm.MethodName)) ∈ lw_all := lw_g (lw_at lw_m2 217 rfl) rfl
theorem q543 : (Jvm.Cond.methodLink "PromiseScales$Reader" (71 : Nat) ({ cls := "PromiseScales$Reader", name := "figure", desc := "(II)I" } : Jvm.MethodName)) ∈ lw_all := lw_g (lw_at lw_m2 236 rfl) rfl
theorem q544 : (Jvm.Cond.privateMethod ({ cls := "PromiseScales$Reader", name := "figure", desc := "(II)I" } : Jvm.MethodName)) ∈ lw_tbl := lw_at lw_m2 237 rfl
theorem q545 : (Jvm.Cond.instanceMethod ({ cls := "PromiseScales$Reader", name := "figure", desc := "(II)I" } : Jvm.MethodName)) ∈ lw_all := lw_g (lw_at lw_m2 238 rfl) rfl
theorem q546 : (Jvm.Cond.code ({ cls := "PromiseScales$Reader", name := "figure", desc := "(II)I" } : Jvm.MethodName) prog_11_method_6_code (4 : Nat) (Option.some Jvm.ClassFile.FieldType.int)) ∈ lw_all := lw_g (lw_at lw_m2 239 rfl) rfl
theorem q547 : (Jvm.Cond.methodLink "PromiseScales$Reader" (78 : Nat) ({ cls := "PromiseScales$Reader", name := "sign", desc := "(I)V" } : Jvm.MethodName)) ∈ lw_all := lw_g (lw_at lw_m3 0 rfl) rfl
theorem q548 : (Jvm.Cond.privateMethod ({ cls := "PromiseScales$Reader", name := "sign", desc := "(I)V" } : Jvm.MethodName)) ∈ lw_tbl := lw_at lw_m3 1 rfl
theorem q549 : (Jvm.Cond.instanceMethod ({ cls := "PromiseScales$Reader", name := "sign", desc := "(I)V" } : Jvm.MethodName)) ∈ lw_all := lw_g (lw_at lw_m3 2 rfl) rfl
theorem q550 : (Jvm.Cond.code ({ cls := "PromiseScales$Reader", name := "sign", desc := "(I)V" } : Jvm.MethodName) prog_11_method_7_code (2 : Nat) (Option.none : Option Jvm.ClassFile.FieldType)) ∈ lw_all := lw_g (lw_at lw_m3 3 rfl) rfl
theorem q551 : (Jvm.Cond.methodLink "PromiseScales$Reader" (82 : Nat) ({ cls := "PromiseScales$Reader", name := "giver", desc := "()V" } : Jvm.MethodName)) ∈ lw_all := lw_g (lw_at lw_m3 4 rfl) rfl
theorem q552 : (Jvm.Cond.privateMethod ({ cls := "PromiseScales$Reader", name := "giver", desc := "()V" } : Jvm.MethodName)) ∈ lw_tbl := lw_at lw_m3 5 rfl
theorem q553 : (Jvm.Cond.instanceMethod ({ cls := "PromiseScales$Reader", name := "giver", desc := "()V" } : Jvm.MethodName)) ∈ lw_all := lw_g (lw_at lw_m3 6 rfl) rfl
theorem q554 : (Jvm.Cond.code ({ cls := "PromiseScales$Reader", name := "giver", desc := "()V" } : Jvm.MethodName) prog_11_method_9_code (1 : Nat) (Option.none : Option Jvm.ClassFile.FieldType)) ∈ lw_all := lw_g (lw_at lw_m3 7 rfl) rfl
theorem q555 : (Jvm.Cond.stringRef "PromiseScales$Reader" (85 : Nat) "pitom") ∈ lw_tbl := lw_at lw_m3 8 rfl
theorem q556 : (Jvm.Cond.methodLink "PromiseScales$Reader" (87 : Nat) ({ cls := "java/lang/String", name := "indexOf", desc := "(I)I" } : Jvm.MethodName)) ∈ lw_all := lw_g (lw_at lw_m3 9 rfl) rfl
theorem q642 : (Jvm.Cond.methodLink "PromiseScales$Reader" (93 : Nat) ({ cls := "PromiseScales$Reader", name := "promise", desc := "()V" } : Jvm.MethodName)) ∈ lw_all := lw_g (lw_at lw_m3 95 rfl) rfl
theorem q643 : (Jvm.Cond.privateMethod ({ cls := "PromiseScales$Reader", name := "promise", desc := "()V" } : Jvm.MethodName)) ∈ lw_tbl := lw_at lw_m3 96 rfl
theorem q644 : (Jvm.Cond.instanceMethod ({ cls := "PromiseScales$Reader", name := "promise", desc := "()V" } : Jvm.MethodName)) ∈ lw_all := lw_g (lw_at lw_m3 97 rfl) rfl
theorem q645 : (Jvm.Cond.code ({ cls := "PromiseScales$Reader", name := "promise", desc := "()V" } : Jvm.MethodName) prog_11_method_10_code (7 : Nat) (Option.none : Option Jvm.ClassFile.FieldType)) ∈ lw_all := lw_g (lw_at lw_m3 98 rfl) rfl
theorem q646 : (Jvm.Cond.methodLink "PromiseScales$Reader" (106 : Nat) ({ cls := "PromiseScales$Scales", name := "many", desc := "()I" } : Jvm.MethodName)) ∈ lw_all := lw_g (lw_at lw_m3 99 rfl) rfl
theorem q660 : (Jvm.Cond.methodLinkNest "PromiseScales$Reader" (113 : Nat) ({ cls := "PromiseScales", name := "promiseBy", desc := "(IIIIII)LPromiseScales$Promise;" } : Jvm.MethodName) "PromiseScales") ∈ lw_tbl := lw_at lw_m3 113 rfl
theorem q742 : (Jvm.Cond.interfaceEntry "PromiseScales$Reader" (117 : Nat)) ∈ lw_tbl := lw_at lw_m3 195 rfl
theorem q743 : (Jvm.Cond.methodLink "PromiseScales$Reader" (117 : Nat) ({ cls := "java/util/List", name := "add", desc := "(Ljava/lang/Object;)Z" } : Jvm.MethodName)) ∈ lw_all := lw_g (lw_at lw_m3 196 rfl) rfl
theorem q784 : (Jvm.Cond.selects "PromiseScales$Reader" ({ cls := "java/lang/Object", name := "getClass", desc := "()Ljava/lang/Class;" } : Jvm.MethodName) ({ cls := "java/lang/Object", name := "getClass", desc := "()Ljava/lang/Class;" } : Jvm.MethodName)) ∈ lw_all := lw_g (lw_at lw_m3 237 rfl) rfl
theorem q1702 : (Jvm.Cond.castable "PromiseScales$Reader" "java/lang/Object") ∈ lw_tbl := lw_at lw_m7 195 rfl
theorem in_X5 : ∀ w ∈ wsX50, w ∈ lw_all := lw_in wsX50 [474, 476, 478, 480, 482, 484, 486] (by decide +kernel) (by decide +kernel)
/-! PromiseScales$Fault -/
set_option maxRecDepth 100000
def RX6 : String := "PromiseScales$Fault"
def TX6 : u_T := fun k => match k with
  | 0 => ("java/lang/Throwable", "cause", "Ljava/lang/Throwable;", false)
  | 1 => ("java/lang/Throwable", "stackTrace", "[Ljava/lang/StackTraceElement;", false)
  | 2 => ("java/lang/Throwable", "suppressedExceptions", "Ljava/util/List;", false)
  | 3 => ("java/lang/Throwable", "detailMessage", "Ljava/lang/String;", false)
  | 4 => ("java/lang/Throwable", "backtrace", "Ljava/lang/Object;", false)
  | 5 => ("java/lang/Throwable", "depth", "I", false)
  | 6 => ("PromiseScales$Fault", "kind", "I", true)
  | _ => ("PromiseScales$Fault", "place", "I", true)
def tyX6 : Nat → FieldType := fun k => match k with
  | 0 => .object "java/lang/Throwable"
  | 1 => .array (.object "java/lang/StackTraceElement")
  | 2 => .object "java/util/List"
  | 3 => .object "java/lang/String"
  | 4 => .object "java/lang/Object"
  | 5 => .int
  | 6 => .int
  | _ => .int
abbrev wsX60 : List Cond := u_ws RX6 TX6 8
theorem nmX6 : ∀ a, a < 8 → ∀ b, b < 8 → a ≠ b → (TX6 a).2.1 ≠ (TX6 b).2.1 := by decide +kernel
theorem tyX6_ok : ∀ k, k < 8 → parseFieldDescriptor (TX6 k).2.2.1 = some (tyX6 k) := by decide +kernel
abbrev cX6_init : ByteArray := prog_3_method_1_code
def yX6_init : MethodName := ⟨RX6, "<init>", "(II)V"⟩
def dkwX6_init_0 : List UInt8 := [42, 1, 1, 3, 3, 183, 0, 1, 42, 27, 181, 0, 7, 42, 28, 181, 0, 13, 177]
abbrev dktX6_init_0 : List UInt8 := dkwX6_init_0 ++ []
theorem dksX6_init_0 : cX6_init.data.toList.drop 0 = dktX6_init_0 := by decide +kernel
theorem dX6_init_0 : decode cX6_init 0 = .ok (.aload_n 0, 1) := dk_42 (dk_at dksX6_init_0 0 rfl rfl)
theorem dX6_init_1 : decode cX6_init 1 = .ok (.aconst_null, 1) := dk_1 (dk_at dksX6_init_0 1 rfl rfl)
theorem dX6_init_2 : decode cX6_init 2 = .ok (.aconst_null, 1) := dk_1 (dk_at dksX6_init_0 2 rfl rfl)
theorem dX6_init_3 : decode cX6_init 3 = .ok (.iconst 0, 1) := dk_3 (dk_at dksX6_init_0 3 rfl rfl)
theorem dX6_init_4 : decode cX6_init 4 = .ok (.iconst 0, 1) := dk_3 (dk_at dksX6_init_0 4 rfl rfl)
theorem dX6_init_5 : decode cX6_init 5 = .ok (.invokespecial 1, 3) := dk_183 0 1 (dk_at dksX6_init_0 5 rfl rfl)
theorem dX6_init_8 : decode cX6_init 8 = .ok (.aload_n 0, 1) := dk_42 (dk_at dksX6_init_0 8 rfl rfl)
theorem dX6_init_9 : decode cX6_init 9 = .ok (.iload_n 1, 1) := dk_27 (dk_at dksX6_init_0 9 rfl rfl)
theorem dX6_init_10 : decode cX6_init 10 = .ok (.putfield 7, 3) := dk_181 0 7 (dk_at dksX6_init_0 10 rfl rfl)
theorem dX6_init_13 : decode cX6_init 13 = .ok (.aload_n 0, 1) := dk_42 (dk_at dksX6_init_0 13 rfl rfl)
theorem dX6_init_14 : decode cX6_init 14 = .ok (.iload_n 2, 1) := dk_28 (dk_at dksX6_init_0 14 rfl rfl)
theorem dX6_init_15 : decode cX6_init 15 = .ok (.putfield 13, 3) := dk_181 0 13 (dk_at dksX6_init_0 15 rfl rfl)
theorem dX6_init_18 : decode cX6_init 18 = .ok (.return_, 1) := dk_177 (dk_at dksX6_init_0 18 rfl rfl)
theorem q87 : (Jvm.Cond.initialized "PromiseScales$Fault") ∈ lw_all := lw_g (lw_at lw_m1 20 rfl) rfl
theorem q271 : (Jvm.Cond.selects "PromiseScales$Fault" ({ cls := "java/lang/Throwable", name := "fillInStackTrace", desc := "()Ljava/lang/Throwable;" } : Jvm.MethodName) ({ cls := "java/lang/Throwable", name := "fillInStackTrace", desc := "()Ljava/lang/Throwable;" } : Jvm.MethodName)) ∈ lw_all := lw_g (lw_at lw_m1 204 rfl) rfl
theorem q516 : (Jvm.Cond.instantiable "PromiseScales$Fault" (8 : Nat)) ∈ lw_all := lw_g (lw_at lw_m2 209 rfl) rfl
theorem q517 : (Jvm.Cond.castable "PromiseScales$Fault" "PromiseScales$Fault") ∈ lw_tbl := lw_at lw_m2 210 rfl
theorem q518 : (Jvm.Cond.selects "PromiseScales$Fault" ({ cls := "java/lang/Throwable", name := "fillInStackTrace", desc := "(I)Ljava/lang/Throwable;" } : Jvm.MethodName) ({ cls := "java/lang/Throwable", name := "fillInStackTrace", desc := "(I)Ljava/lang/Throwable;" } : Jvm.MethodName)) ∈ lw_all := lw_g (lw_at lw_m2 211 rfl) rfl
theorem q519 : (Jvm.Cond.lays "PromiseScales$Fault" "java/lang/Throwable" "cause" "Ljava/lang/Throwable;") ∈ lw_all := lw_g (lw_at lw_m2 212 rfl) rfl
theorem q520 : (Jvm.Cond.lays "PromiseScales$Fault" "java/lang/Throwable" "stackTrace" "[Ljava/lang/StackTraceElement;") ∈ lw_all := lw_g (lw_at lw_m2 213 rfl) rfl
theorem q521 : (Jvm.Cond.lays "PromiseScales$Fault" "java/lang/Throwable" "suppressedExceptions" "Ljava/util/List;") ∈ lw_all := lw_g (lw_at lw_m2 214 rfl) rfl
theorem q522 : (Jvm.Cond.lays "PromiseScales$Fault" "java/lang/Throwable" "detailMessage" "Ljava/lang/String;") ∈ lw_all := lw_g (lw_at lw_m2 215 rfl) rfl
theorem q523 : (Jvm.Cond.lays "PromiseScales$Fault" "java/lang/Throwable" "backtrace" "Ljava/lang/Object;") ∈ lw_all := lw_g (lw_at lw_m2 216 rfl) rfl
theorem q525 : (Jvm.Cond.instanceMethod ({ cls := "PromiseScales$Fault", name := "<init>", desc := "(II)V" } : Jvm.MethodName)) ∈ lw_all := lw_g (lw_at lw_m2 218 rfl) rfl
theorem q526 : (Jvm.Cond.code ({ cls := "PromiseScales$Fault", name := "<init>", desc := "(II)V" } : Jvm.MethodName) prog_3_method_1_code (3 : Nat) (Option.none : Option Jvm.ClassFile.FieldType)) ∈ lw_all := lw_g (lw_at lw_m2 219 rfl) rfl
theorem q527 : (Jvm.Cond.methodLink "PromiseScales$Fault" (1 : Nat) ({ cls := "java/lang/Exception", name := "<init>", desc := "(Ljava/lang/String;Ljava/lang/Throwable;ZZ)V" } : Jvm.MethodName)) ∈ lw_all := lw_g (lw_at lw_m2 220 rfl) rfl
theorem q533 : (Jvm.Cond.fieldLink "PromiseScales$Fault" (7 : Nat) "PromiseScales$Fault" "kind" "I") ∈ lw_all := lw_g (lw_at lw_m2 226 rfl) rfl
theorem q535 : (Jvm.Cond.fieldLink "PromiseScales$Fault" (13 : Nat) "PromiseScales$Fault" "place" "I") ∈ lw_all := lw_g (lw_at lw_m2 228 rfl) rfl
theorem q537 : (Jvm.Cond.laysFinal "PromiseScales$Fault" "PromiseScales$Fault" "kind" "I") ∈ lw_all := lw_g (lw_at lw_m2 230 rfl) rfl
theorem q538 : (Jvm.Cond.soleField "PromiseScales$Fault" "kind") ∈ lw_all := lw_g (lw_at lw_m2 231 rfl) rfl
theorem q539 : (Jvm.Cond.laysFinal "PromiseScales$Fault" "PromiseScales$Fault" "place" "I") ∈ lw_all := lw_g (lw_at lw_m2 232 rfl) rfl
theorem q540 : (Jvm.Cond.soleField "PromiseScales$Fault" "place") ∈ lw_all := lw_g (lw_at lw_m2 233 rfl) rfl
theorem q541 : (Jvm.Cond.lays "PromiseScales$Fault" "java/lang/Throwable" "depth" "I") ∈ lw_all := lw_g (lw_at lw_m2 234 rfl) rfl
theorem q542 : (Jvm.Cond.superclass "PromiseScales$Fault" "java/lang/Exception") ∈ lw_all := lw_g (lw_at lw_m2 235 rfl) rfl
theorem q779 : (Jvm.Cond.selects "PromiseScales$Fault" ({ cls := "java/lang/Object", name := "getClass", desc := "()Ljava/lang/Class;" } : Jvm.MethodName) ({ cls := "java/lang/Object", name := "getClass", desc := "()Ljava/lang/Class;" } : Jvm.MethodName)) ∈ lw_all := lw_g (lw_at lw_m3 232 rfl) rfl
theorem q1703 : (Jvm.Cond.castable "PromiseScales$Fault" "java/lang/Object") ∈ lw_tbl := lw_at lw_m7 196 rfl
theorem in_X6 : ∀ w ∈ wsX60, w ∈ lw_all := lw_in wsX60 [519, 520, 521, 522, 523, 541, 537, 539] (by decide +kernel) (by decide +kernel)
/-! PromiseScales$Promise -/
set_option maxRecDepth 100000
def RX7 : String := "PromiseScales$Promise"
abbrev cX7_init : ByteArray := prog_10_method_1_code
def yX7_init : MethodName := ⟨RX7, "<init>", "(IIIII)V"⟩
def dkwX7_init_1 : List UInt8 := [181, 0, 21, 42, 21, 5, 181, 0, 24, 177]
abbrev dktX7_init_1 : List UInt8 := dkwX7_init_1 ++ []
def dkwX7_init_0 : List UInt8 := [42, 183, 0, 3, 42, 27, 181, 0, 9, 42, 28, 181, 0, 15, 42, 29, 181, 0, 18, 42, 21, 4]
abbrev dktX7_init_0 : List UInt8 := dkwX7_init_0 ++ dktX7_init_1
theorem dksX7_init_0 : cX7_init.data.toList.drop 0 = dktX7_init_0 := by decide +kernel
theorem dksX7_init_1 : cX7_init.data.toList.drop 22 = dktX7_init_1 := dk_seg dksX7_init_0 22 rfl rfl
theorem dX7_init_0 : decode cX7_init 0 = .ok (.aload_n 0, 1) := dk_42 (dk_at dksX7_init_0 0 rfl rfl)
theorem dX7_init_1 : decode cX7_init 1 = .ok (.invokespecial 3, 3) := dk_183 0 3 (dk_at dksX7_init_0 1 rfl rfl)
theorem dX7_init_4 : decode cX7_init 4 = .ok (.aload_n 0, 1) := dk_42 (dk_at dksX7_init_0 4 rfl rfl)
theorem dX7_init_5 : decode cX7_init 5 = .ok (.iload_n 1, 1) := dk_27 (dk_at dksX7_init_0 5 rfl rfl)
theorem dX7_init_6 : decode cX7_init 6 = .ok (.putfield 9, 3) := dk_181 0 9 (dk_at dksX7_init_0 6 rfl rfl)
theorem dX7_init_9 : decode cX7_init 9 = .ok (.aload_n 0, 1) := dk_42 (dk_at dksX7_init_0 9 rfl rfl)
theorem dX7_init_10 : decode cX7_init 10 = .ok (.iload_n 2, 1) := dk_28 (dk_at dksX7_init_0 10 rfl rfl)
theorem dX7_init_11 : decode cX7_init 11 = .ok (.putfield 15, 3) := dk_181 0 15 (dk_at dksX7_init_0 11 rfl rfl)
theorem dX7_init_14 : decode cX7_init 14 = .ok (.aload_n 0, 1) := dk_42 (dk_at dksX7_init_0 14 rfl rfl)
theorem dX7_init_15 : decode cX7_init 15 = .ok (.iload_n 3, 1) := dk_29 (dk_at dksX7_init_0 15 rfl rfl)
theorem dX7_init_16 : decode cX7_init 16 = .ok (.putfield 18, 3) := dk_181 0 18 (dk_at dksX7_init_0 16 rfl rfl)
theorem dX7_init_19 : decode cX7_init 19 = .ok (.aload_n 0, 1) := dk_42 (dk_at dksX7_init_0 19 rfl rfl)
theorem dX7_init_20 : decode cX7_init 20 = .ok (.iload 4, 2) := dk_21 4 (dk_at dksX7_init_0 20 rfl rfl)
theorem dX7_init_22 : decode cX7_init 22 = .ok (.putfield 21, 3) := dk_181 0 21 (dk_at dksX7_init_1 0 rfl rfl)
theorem dX7_init_25 : decode cX7_init 25 = .ok (.aload_n 0, 1) := dk_42 (dk_at dksX7_init_1 3 rfl rfl)
theorem dX7_init_26 : decode cX7_init 26 = .ok (.iload 5, 2) := dk_21 5 (dk_at dksX7_init_1 4 rfl rfl)
theorem dX7_init_28 : decode cX7_init 28 = .ok (.putfield 24, 3) := dk_181 0 24 (dk_at dksX7_init_1 6 rfl rfl)
theorem dX7_init_31 : decode cX7_init 31 = .ok (.return_, 1) := dk_177 (dk_at dksX7_init_1 9 rfl rfl)
abbrev cX7_weighs : ByteArray := prog_10_method_3_code
def yX7_weighs : MethodName := ⟨RX7, "weighs", "(II)I"⟩
def dkwX7_weighs_0 : List UInt8 := [42, 180, 0, 24, 27, 104, 16, 10, 108, 172]
abbrev dktX7_weighs_0 : List UInt8 := dkwX7_weighs_0 ++ []
theorem dksX7_weighs_0 : cX7_weighs.data.toList.drop 0 = dktX7_weighs_0 := by decide +kernel
theorem dX7_weighs_0 : decode cX7_weighs 0 = .ok (.aload_n 0, 1) := dk_42 (dk_at dksX7_weighs_0 0 rfl rfl)
theorem dX7_weighs_1 : decode cX7_weighs 1 = .ok (.getfield 24, 3) := dk_180 0 24 (dk_at dksX7_weighs_0 1 rfl rfl)
theorem dX7_weighs_4 : decode cX7_weighs 4 = .ok (.iload_n 1, 1) := dk_27 (dk_at dksX7_weighs_0 4 rfl rfl)
theorem dX7_weighs_5 : decode cX7_weighs 5 = .ok (.imul, 1) := dk_104 (dk_at dksX7_weighs_0 5 rfl rfl)
theorem dX7_weighs_6 : decode cX7_weighs 6 = .ok (.bipush 10, 2) := dk_16 10 (dk_at dksX7_weighs_0 6 rfl rfl)
theorem dX7_weighs_8 : decode cX7_weighs 8 = .ok (.idiv, 1) := dk_108 (dk_at dksX7_weighs_0 8 rfl rfl)
theorem dX7_weighs_9 : decode cX7_weighs 9 = .ok (.ireturn, 1) := dk_172 (dk_at dksX7_weighs_0 9 rfl rfl)
abbrev cX7_likely : ByteArray := prog_10_method_5_code
def yX7_likely : MethodName := ⟨RX7, "likely", "()I"⟩
theorem dX7_likely_0 : decode cX7_likely 0 = .ok (.aload_n 0, 1) := by decide +kernel
theorem dX7_likely_1 : decode cX7_likely 1 = .ok (.getfield 24, 3) := by decide +kernel
theorem dX7_likely_4 : decode cX7_likely 4 = .ok (.ireturn, 1) := by decide +kernel
abbrev cX7_number : ByteArray := prog_10_method_4_code
def yX7_number : MethodName := ⟨RX7, "number", "()I"⟩
theorem dX7_number_0 : decode cX7_number 0 = .ok (.aload_n 0, 1) := by decide +kernel
theorem dX7_number_1 : decode cX7_number 1 = .ok (.getfield 9, 3) := by decide +kernel
theorem dX7_number_4 : decode cX7_number 4 = .ok (.ireturn, 1) := by decide +kernel
theorem q93 : (Jvm.Cond.initialized "PromiseScales$Promise") ∈ lw_all := lw_g (lw_at lw_m1 26 rfl) rfl
theorem q669 : (Jvm.Cond.instanceMethod ({ cls := "PromiseScales$Promise", name := "<init>", desc := "(IIIII)V" } : Jvm.MethodName)) ∈ lw_all := lw_g (lw_at lw_m3 122 rfl) rfl
theorem q670 : (Jvm.Cond.code ({ cls := "PromiseScales$Promise", name := "<init>", desc := "(IIIII)V" } : Jvm.MethodName) prog_10_method_1_code (6 : Nat) (Option.none : Option Jvm.ClassFile.FieldType)) ∈ lw_all := lw_g (lw_at lw_m3 123 rfl) rfl
theorem q671 : (Jvm.Cond.methodLink "PromiseScales$Promise" (3 : Nat) ({ cls := "java/lang/Object", name := "<init>", desc := "()V" } : Jvm.MethodName)) ∈ lw_all := lw_g (lw_at lw_m3 124 rfl) rfl
theorem q672 : (Jvm.Cond.fieldLink "PromiseScales$Promise" (9 : Nat) "PromiseScales$Promise" "number" "I") ∈ lw_all := lw_g (lw_at lw_m3 125 rfl) rfl
theorem q673 : (Jvm.Cond.fieldLink "PromiseScales$Promise" (24 : Nat) "PromiseScales$Promise" "likely" "I") ∈ lw_all := lw_g (lw_at lw_m3 126 rfl) rfl
theorem q674 : (Jvm.Cond.fieldLink "PromiseScales$Promise" (15 : Nat) "PromiseScales$Promise" "giver" "I") ∈ lw_all := lw_g (lw_at lw_m3 127 rfl) rfl
theorem q677 : (Jvm.Cond.fieldLink "PromiseScales$Promise" (18 : Nat) "PromiseScales$Promise" "deed" "I") ∈ lw_all := lw_g (lw_at lw_m3 130 rfl) rfl
theorem q680 : (Jvm.Cond.fieldLink "PromiseScales$Promise" (21 : Nat) "PromiseScales$Promise" "day" "I") ∈ lw_all := lw_g (lw_at lw_m3 133 rfl) rfl
theorem q684 : (Jvm.Cond.soleField "PromiseScales$Promise" "number") ∈ lw_all := lw_g (lw_at lw_m3 137 rfl) rfl
theorem q686 : (Jvm.Cond.soleField "PromiseScales$Promise" "likely") ∈ lw_all := lw_g (lw_at lw_m3 139 rfl) rfl
theorem q688 : (Jvm.Cond.soleField "PromiseScales$Promise" "giver") ∈ lw_all := lw_g (lw_at lw_m3 141 rfl) rfl
theorem q690 : (Jvm.Cond.soleField "PromiseScales$Promise" "deed") ∈ lw_all := lw_g (lw_at lw_m3 143 rfl) rfl
theorem q692 : (Jvm.Cond.soleField "PromiseScales$Promise" "day") ∈ lw_all := lw_g (lw_at lw_m3 145 rfl) rfl
theorem q893 : (Jvm.Cond.instanceMethod ({ cls := "PromiseScales$Promise", name := "weighs", desc := "(II)I" } : Jvm.MethodName)) ∈ lw_all := lw_g (lw_at lw_m4 106 rfl) rfl
theorem q894 : (Jvm.Cond.sameMethod "PromiseScales$Promise" "PromiseScales$Promise" "weighs" "(II)I") ∈ lw_all := lw_g (lw_at lw_m4 107 rfl) rfl
theorem q905 : (Jvm.Cond.declares ({ cls := "PromiseScales$Promise", name := "weighs", desc := "(II)I" } : Jvm.MethodName)) ∈ lw_tbl := lw_at lw_m4 118 rfl
theorem q906 : (Jvm.Cond.code ({ cls := "PromiseScales$Promise", name := "weighs", desc := "(II)I" } : Jvm.MethodName) prog_10_method_3_code (3 : Nat) (Option.some Jvm.ClassFile.FieldType.int)) ∈ lw_all := lw_g (lw_at lw_m4 119 rfl) rfl
theorem q949 : (Jvm.Cond.instanceMethod ({ cls := "PromiseScales$Promise", name := "likely", desc := "()I" } : Jvm.MethodName)) ∈ lw_all := lw_g (lw_at lw_m4 162 rfl) rfl
theorem q950 : (Jvm.Cond.sameMethod "PromiseScales$Promise" "PromiseScales$Promise" "likely" "()I") ∈ lw_all := lw_g (lw_at lw_m4 163 rfl) rfl
theorem q956 : (Jvm.Cond.code ({ cls := "PromiseScales$Promise", name := "likely", desc := "()I" } : Jvm.MethodName) prog_10_method_5_code (1 : Nat) (Option.some Jvm.ClassFile.FieldType.int)) ∈ lw_all := lw_g (lw_at lw_m4 169 rfl) rfl
theorem q1084 : (Jvm.Cond.declares ({ cls := "PromiseScales$Promise", name := "kind", desc := "()I" } : Jvm.MethodName)) ∈ lw_tbl := lw_at lw_m5 57 rfl
theorem q1085 : (Jvm.Cond.sameMethod "PromiseScales$Promise" "PromiseScales$Promise" "kind" "()I") ∈ lw_all := lw_g (lw_at lw_m5 58 rfl) rfl
theorem q1148 : (Jvm.Cond.instanceMethod ({ cls := "PromiseScales$Promise", name := "number", desc := "()I" } : Jvm.MethodName)) ∈ lw_all := lw_g (lw_at lw_m5 121 rfl) rfl
theorem q1149 : (Jvm.Cond.sameMethod "PromiseScales$Promise" "PromiseScales$Promise" "number" "()I") ∈ lw_all := lw_g (lw_at lw_m5 122 rfl) rfl
theorem q1155 : (Jvm.Cond.code ({ cls := "PromiseScales$Promise", name := "number", desc := "()I" } : Jvm.MethodName) prog_10_method_4_code (1 : Nat) (Option.some Jvm.ClassFile.FieldType.int)) ∈ lw_all := lw_g (lw_at lw_m5 128 rfl) rfl
theorem q1173 : (Jvm.Cond.superclass "PromiseScales$Promise" "java/lang/Object") ∈ lw_all := lw_g (lw_at lw_m5 146 rfl) rfl
theorem q1196 : (Jvm.Cond.publicMethod ({ cls := "PromiseScales$Promise", name := "likely", desc := "()I" } : Jvm.MethodName)) ∈ lw_tbl := lw_at lw_m5 169 rfl
theorem q1235 : (Jvm.Cond.publicMethod ({ cls := "PromiseScales$Promise", name := "number", desc := "()I" } : Jvm.MethodName)) ∈ lw_tbl := lw_at lw_m5 208 rfl
/-! PromiseScales$Plain -/
set_option maxRecDepth 100000
def RX8 : String := "PromiseScales$Plain"
def TX8 : u_T := fun k => match k with
  | 0 => ("PromiseScales$Promise", "number", "I", true)
  | 1 => ("PromiseScales$Promise", "likely", "I", true)
  | 2 => ("PromiseScales$Promise", "giver", "I", true)
  | 3 => ("PromiseScales$Promise", "deed", "I", true)
  | _ => ("PromiseScales$Promise", "day", "I", true)
def tyX8 : Nat → FieldType := fun k => match k with
  | 0 => .int
  | 1 => .int
  | 2 => .int
  | 3 => .int
  | _ => .int
abbrev wsX80 : List Cond := u_ws RX8 TX8 5
theorem nmX8 : ∀ a, a < 5 → ∀ b, b < 5 → a ≠ b → (TX8 a).2.1 ≠ (TX8 b).2.1 := by decide +kernel
theorem tyX8_ok : ∀ k, k < 5 → parseFieldDescriptor (TX8 k).2.2.1 = some (tyX8 k) := by decide +kernel
abbrev cX8_init : ByteArray := prog_9_method_1_code
def yX8_init : MethodName := ⟨RX8, "<init>", "(IIIII)V"⟩
def dkwX8_init_0 : List UInt8 := [42, 27, 28, 29, 21, 4, 21, 5, 183, 0, 3, 177]
abbrev dktX8_init_0 : List UInt8 := dkwX8_init_0 ++ []
theorem dksX8_init_0 : cX8_init.data.toList.drop 0 = dktX8_init_0 := by decide +kernel
theorem dX8_init_0 : decode cX8_init 0 = .ok (.aload_n 0, 1) := dk_42 (dk_at dksX8_init_0 0 rfl rfl)
theorem dX8_init_1 : decode cX8_init 1 = .ok (.iload_n 1, 1) := dk_27 (dk_at dksX8_init_0 1 rfl rfl)
theorem dX8_init_2 : decode cX8_init 2 = .ok (.iload_n 2, 1) := dk_28 (dk_at dksX8_init_0 2 rfl rfl)
theorem dX8_init_3 : decode cX8_init 3 = .ok (.iload_n 3, 1) := dk_29 (dk_at dksX8_init_0 3 rfl rfl)
theorem dX8_init_4 : decode cX8_init 4 = .ok (.iload 4, 2) := dk_21 4 (dk_at dksX8_init_0 4 rfl rfl)
theorem dX8_init_6 : decode cX8_init 6 = .ok (.iload 5, 2) := dk_21 5 (dk_at dksX8_init_0 6 rfl rfl)
theorem dX8_init_8 : decode cX8_init 8 = .ok (.invokespecial 3, 3) := dk_183 0 3 (dk_at dksX8_init_0 8 rfl rfl)
theorem dX8_init_11 : decode cX8_init 11 = .ok (.return_, 1) := dk_177 (dk_at dksX8_init_0 11 rfl rfl)
abbrev cX8_kind : ByteArray := prog_9_method_2_code
def yX8_kind : MethodName := ⟨RX8, "kind", "()I"⟩
theorem dX8_kind_0 : decode cX8_kind 0 = .ok (.iconst 1, 1) := by decide +kernel
theorem dX8_kind_1 : decode cX8_kind 1 = .ok (.ireturn, 1) := by decide +kernel
abbrev cX8_size : ByteArray := prog_9_method_3_code
def yX8_size : MethodName := ⟨RX8, "size", "(LPromiseScales$Trail;LPromiseScales$Held;)I"⟩
def dkwX8_size_0 : List UInt8 := [43, 16, 11, 182, 0, 9, 42, 43, 44, 183, 0, 15, 42, 43, 44, 182, 0, 19, 96, 172]
abbrev dktX8_size_0 : List UInt8 := dkwX8_size_0 ++ []
theorem dksX8_size_0 : cX8_size.data.toList.drop 0 = dktX8_size_0 := by decide +kernel
theorem dX8_size_0 : decode cX8_size 0 = .ok (.aload_n 1, 1) := dk_43 (dk_at dksX8_size_0 0 rfl rfl)
theorem dX8_size_1 : decode cX8_size 1 = .ok (.bipush 11, 2) := dk_16 11 (dk_at dksX8_size_0 1 rfl rfl)
theorem dX8_size_3 : decode cX8_size 3 = .ok (.invokevirtual 9, 3) := dk_182 0 9 (dk_at dksX8_size_0 3 rfl rfl)
theorem dX8_size_6 : decode cX8_size 6 = .ok (.aload_n 0, 1) := dk_42 (dk_at dksX8_size_0 6 rfl rfl)
theorem dX8_size_7 : decode cX8_size 7 = .ok (.aload_n 1, 1) := dk_43 (dk_at dksX8_size_0 7 rfl rfl)
theorem dX8_size_8 : decode cX8_size 8 = .ok (.aload_n 2, 1) := dk_44 (dk_at dksX8_size_0 8 rfl rfl)
theorem dX8_size_9 : decode cX8_size 9 = .ok (.invokespecial 15, 3) := dk_183 0 15 (dk_at dksX8_size_0 9 rfl rfl)
theorem dX8_size_12 : decode cX8_size 12 = .ok (.aload_n 0, 1) := dk_42 (dk_at dksX8_size_0 12 rfl rfl)
theorem dX8_size_13 : decode cX8_size 13 = .ok (.aload_n 1, 1) := dk_43 (dk_at dksX8_size_0 13 rfl rfl)
theorem dX8_size_14 : decode cX8_size 14 = .ok (.aload_n 2, 1) := dk_44 (dk_at dksX8_size_0 14 rfl rfl)
theorem dX8_size_15 : decode cX8_size 15 = .ok (.invokevirtual 19, 3) := dk_182 0 19 (dk_at dksX8_size_0 15 rfl rfl)
theorem dX8_size_18 : decode cX8_size 18 = .ok (.iadd, 1) := dk_96 (dk_at dksX8_size_0 18 rfl rfl)
theorem dX8_size_19 : decode cX8_size 19 = .ok (.ireturn, 1) := dk_172 (dk_at dksX8_size_0 19 rfl rfl)
abbrev cX8_mark : ByteArray := prog_9_method_4_code
def yX8_mark : MethodName := ⟨RX8, "mark", "(LPromiseScales$Trail;LPromiseScales$Held;)I"⟩
def dkwX8_mark_0 : List UInt8 := [43, 16, 21, 182, 0, 9, 42, 43, 44, 183, 0, 24, 44, 185, 0, 25, 1, 0, 96, 172]
abbrev dktX8_mark_0 : List UInt8 := dkwX8_mark_0 ++ []
theorem dksX8_mark_0 : cX8_mark.data.toList.drop 0 = dktX8_mark_0 := by decide +kernel
theorem dX8_mark_0 : decode cX8_mark 0 = .ok (.aload_n 1, 1) := dk_43 (dk_at dksX8_mark_0 0 rfl rfl)
theorem dX8_mark_1 : decode cX8_mark 1 = .ok (.bipush 21, 2) := dk_16 21 (dk_at dksX8_mark_0 1 rfl rfl)
theorem dX8_mark_3 : decode cX8_mark 3 = .ok (.invokevirtual 9, 3) := dk_182 0 9 (dk_at dksX8_mark_0 3 rfl rfl)
theorem dX8_mark_6 : decode cX8_mark 6 = .ok (.aload_n 0, 1) := dk_42 (dk_at dksX8_mark_0 6 rfl rfl)
theorem dX8_mark_7 : decode cX8_mark 7 = .ok (.aload_n 1, 1) := dk_43 (dk_at dksX8_mark_0 7 rfl rfl)
theorem dX8_mark_8 : decode cX8_mark 8 = .ok (.aload_n 2, 1) := dk_44 (dk_at dksX8_mark_0 8 rfl rfl)
theorem dX8_mark_9 : decode cX8_mark 9 = .ok (.invokespecial 24, 3) := dk_183 0 24 (dk_at dksX8_mark_0 9 rfl rfl)
theorem dX8_mark_12 : decode cX8_mark 12 = .ok (.aload_n 2, 1) := dk_44 (dk_at dksX8_mark_0 12 rfl rfl)
theorem dX8_mark_13 : decode cX8_mark 13 = .ok (.invokeinterface 25 1, 5) := by decide +kernel
theorem dX8_mark_18 : decode cX8_mark 18 = .ok (.iadd, 1) := dk_96 (dk_at dksX8_mark_0 18 rfl rfl)
theorem dX8_mark_19 : decode cX8_mark 19 = .ok (.ireturn, 1) := dk_172 (dk_at dksX8_mark_0 19 rfl rfl)
theorem q94 : (Jvm.Cond.initialized "PromiseScales$Plain") ∈ lw_all := lw_g (lw_at lw_m1 27 rfl) rfl
theorem q664 : (Jvm.Cond.instantiable "PromiseScales$Plain" (5 : Nat)) ∈ lw_all := lw_g (lw_at lw_m3 117 rfl) rfl
theorem q666 : (Jvm.Cond.instanceMethod ({ cls := "PromiseScales$Plain", name := "<init>", desc := "(IIIII)V" } : Jvm.MethodName)) ∈ lw_all := lw_g (lw_at lw_m3 119 rfl) rfl
theorem q667 : (Jvm.Cond.code ({ cls := "PromiseScales$Plain", name := "<init>", desc := "(IIIII)V" } : Jvm.MethodName) prog_9_method_1_code (6 : Nat) (Option.none : Option Jvm.ClassFile.FieldType)) ∈ lw_all := lw_g (lw_at lw_m3 120 rfl) rfl
theorem q668 : (Jvm.Cond.methodLink "PromiseScales$Plain" (3 : Nat) ({ cls := "PromiseScales$Promise", name := "<init>", desc := "(IIIII)V" } : Jvm.MethodName)) ∈ lw_all := lw_g (lw_at lw_m3 121 rfl) rfl
theorem q683 : (Jvm.Cond.laysFinal "PromiseScales$Plain" "PromiseScales$Promise" "number" "I") ∈ lw_all := lw_g (lw_at lw_m3 136 rfl) rfl
theorem q685 : (Jvm.Cond.laysFinal "PromiseScales$Plain" "PromiseScales$Promise" "likely" "I") ∈ lw_all := lw_g (lw_at lw_m3 138 rfl) rfl
theorem q687 : (Jvm.Cond.laysFinal "PromiseScales$Plain" "PromiseScales$Promise" "giver" "I") ∈ lw_all := lw_g (lw_at lw_m3 140 rfl) rfl
theorem q689 : (Jvm.Cond.laysFinal "PromiseScales$Plain" "PromiseScales$Promise" "deed" "I") ∈ lw_all := lw_g (lw_at lw_m3 142 rfl) rfl
theorem q691 : (Jvm.Cond.laysFinal "PromiseScales$Plain" "PromiseScales$Promise" "day" "I") ∈ lw_all := lw_g (lw_at lw_m3 144 rfl) rfl
theorem q693 : (Jvm.Cond.superclass "PromiseScales$Plain" "PromiseScales$Promise") ∈ lw_all := lw_g (lw_at lw_m3 146 rfl) rfl
theorem q783 : (Jvm.Cond.selects "PromiseScales$Plain" ({ cls := "java/lang/Object", name := "getClass", desc := "()Ljava/lang/Class;" } : Jvm.MethodName) ({ cls := "java/lang/Object", name := "getClass", desc := "()Ljava/lang/Class;" } : Jvm.MethodName)) ∈ lw_all := lw_g (lw_at lw_m3 236 rfl) rfl
theorem q904 : (Jvm.Cond.sameMethod "PromiseScales$Plain" "PromiseScales$Promise" "weighs" "(II)I") ∈ lw_all := lw_g (lw_at lw_m4 117 rfl) rfl
theorem q912 : (Jvm.Cond.selects "PromiseScales$Plain" ({ cls := "PromiseScales$Promise", name := "weighs", desc := "(II)I" } : Jvm.MethodName) ({ cls := "PromiseScales$Promise", name := "weighs", desc := "(II)I" } : Jvm.MethodName)) ∈ lw_all := lw_g (lw_at lw_m4 125 rfl) rfl
theorem q954 : (Jvm.Cond.selects "PromiseScales$Plain" ({ cls := "PromiseScales$Promise", name := "likely", desc := "()I" } : Jvm.MethodName) ({ cls := "PromiseScales$Promise", name := "likely", desc := "()I" } : Jvm.MethodName)) ∈ lw_all := lw_g (lw_at lw_m4 167 rfl) rfl
theorem q1095 : (Jvm.Cond.selects "PromiseScales$Plain" ({ cls := "PromiseScales$Promise", name := "kind", desc := "()I" } : Jvm.MethodName) ({ cls := "PromiseScales$Plain", name := "kind", desc := "()I" } : Jvm.MethodName)) ∈ lw_all := lw_g (lw_at lw_m5 68 rfl) rfl
theorem q1096 : (Jvm.Cond.instanceMethod ({ cls := "PromiseScales$Plain", name := "kind", desc := "()I" } : Jvm.MethodName)) ∈ lw_all := lw_g (lw_at lw_m5 69 rfl) rfl
theorem q1097 : (Jvm.Cond.code ({ cls := "PromiseScales$Plain", name := "kind", desc := "()I" } : Jvm.MethodName) prog_9_method_2_code (1 : Nat) (Option.some Jvm.ClassFile.FieldType.int)) ∈ lw_all := lw_g (lw_at lw_m5 70 rfl) rfl
theorem q1153 : (Jvm.Cond.selects "PromiseScales$Plain" ({ cls := "PromiseScales$Promise", name := "number", desc := "()I" } : Jvm.MethodName) ({ cls := "PromiseScales$Promise", name := "number", desc := "()I" } : Jvm.MethodName)) ∈ lw_all := lw_g (lw_at lw_m5 126 rfl) rfl
theorem q1203 : (Jvm.Cond.castable "PromiseScales$Plain" "PromiseScales$Marked") ∈ lw_tbl := lw_at lw_m5 176 rfl
theorem q1204 : (Jvm.Cond.selects "PromiseScales$Plain" ({ cls := "PromiseScales$Marked", name := "likely", desc := "()I" } : Jvm.MethodName) ({ cls := "PromiseScales$Promise", name := "likely", desc := "()I" } : Jvm.MethodName)) ∈ lw_all := lw_g (lw_at lw_m5 177 rfl) rfl
theorem q1205 : (Jvm.Cond.unhidden "PromiseScales$Plain" "likely" "()I") ∈ lw_tbl := lw_at lw_m5 178 rfl
theorem q1214 : (Jvm.Cond.instanceMethod ({ cls := "PromiseScales$Plain", name := "size", desc := "(LPromiseScales$Trail;LPromiseScales$Held;)I" } : Jvm.MethodName)) ∈ lw_all := lw_g (lw_at lw_m5 187 rfl) rfl
theorem q1215 : (Jvm.Cond.code ({ cls := "PromiseScales$Plain", name := "size", desc := "(LPromiseScales$Trail;LPromiseScales$Held;)I" } : Jvm.MethodName) prog_9_method_3_code (3 : Nat) (Option.some Jvm.ClassFile.FieldType.int)) ∈ lw_all := lw_g (lw_at lw_m5 188 rfl) rfl
theorem q1216 : (Jvm.Cond.methodLink "PromiseScales$Plain" (9 : Nat) ({ cls := "PromiseScales$Trail", name := "begins", desc := "(I)V" } : Jvm.MethodName)) ∈ lw_all := lw_g (lw_at lw_m5 189 rfl) rfl
theorem q1217 : (Jvm.Cond.methodLink "PromiseScales$Plain" (19 : Nat) ({ cls := "PromiseScales$Plain", name := "mark", desc := "(LPromiseScales$Trail;LPromiseScales$Held;)I" } : Jvm.MethodName)) ∈ lw_all := lw_g (lw_at lw_m5 190 rfl) rfl
theorem q1218 : (Jvm.Cond.instanceMethod ({ cls := "PromiseScales$Plain", name := "mark", desc := "(LPromiseScales$Trail;LPromiseScales$Held;)I" } : Jvm.MethodName)) ∈ lw_all := lw_g (lw_at lw_m5 191 rfl) rfl
theorem q1219 : (Jvm.Cond.selects "PromiseScales$Plain" ({ cls := "PromiseScales$Plain", name := "mark", desc := "(LPromiseScales$Trail;LPromiseScales$Held;)I" } : Jvm.MethodName) ({ cls := "PromiseScales$Plain", name := "mark", desc := "(LPromiseScales$Trail;LPromiseScales$Held;)I" } : Jvm.MethodName)) ∈ lw_all := lw_g (lw_at lw_m5 192 rfl) rfl
theorem q1220 : (Jvm.Cond.sameMethod "PromiseScales$Plain" "PromiseScales$Plain" "mark" "(LPromiseScales$Trail;LPromiseScales$Held;)I") ∈ lw_all := lw_g (lw_at lw_m5 193 rfl) rfl
theorem q1225 : (Jvm.Cond.code ({ cls := "PromiseScales$Plain", name := "mark", desc := "(LPromiseScales$Trail;LPromiseScales$Held;)I" } : Jvm.MethodName) prog_9_method_4_code (3 : Nat) (Option.some Jvm.ClassFile.FieldType.int)) ∈ lw_all := lw_g (lw_at lw_m5 198 rfl) rfl
theorem q1240 : (Jvm.Cond.selects "PromiseScales$Plain" ({ cls := "PromiseScales$Marked", name := "number", desc := "()I" } : Jvm.MethodName) ({ cls := "PromiseScales$Promise", name := "number", desc := "()I" } : Jvm.MethodName)) ∈ lw_all := lw_g (lw_at lw_m5 213 rfl) rfl
theorem q1241 : (Jvm.Cond.unhidden "PromiseScales$Plain" "number" "()I") ∈ lw_tbl := lw_at lw_m5 214 rfl
theorem q1244 : (Jvm.Cond.interfaceEntry "PromiseScales$Plain" (25 : Nat)) ∈ lw_tbl := lw_at lw_m5 217 rfl
theorem q1245 : (Jvm.Cond.methodLink "PromiseScales$Plain" (25 : Nat) ({ cls := "PromiseScales$Held", name := "weight", desc := "()I" } : Jvm.MethodName)) ∈ lw_all := lw_g (lw_at lw_m5 218 rfl) rfl
theorem q1261 : (Jvm.Cond.selects "PromiseScales$Plain" ({ cls := "PromiseScales$Marked", name := "size", desc := "(LPromiseScales$Trail;LPromiseScales$Held;)I" } : Jvm.MethodName) ({ cls := "PromiseScales$Plain", name := "size", desc := "(LPromiseScales$Trail;LPromiseScales$Held;)I" } : Jvm.MethodName)) ∈ lw_all := lw_g (lw_at lw_m5 234 rfl) rfl
theorem q1269 : (Jvm.Cond.selects "PromiseScales$Plain" ({ cls := "PromiseScales$Marked", name := "mark", desc := "(LPromiseScales$Trail;LPromiseScales$Held;)I" } : Jvm.MethodName) ({ cls := "PromiseScales$Plain", name := "mark", desc := "(LPromiseScales$Trail;LPromiseScales$Held;)I" } : Jvm.MethodName)) ∈ lw_all := lw_g (lw_at lw_m6 2 rfl) rfl
theorem q1678 : (Jvm.Cond.sameMethod "PromiseScales$Plain" "PromiseScales$Plain" "size" "(LPromiseScales$Trail;LPromiseScales$Held;)I") ∈ lw_all := lw_g (lw_at lw_m7 171 rfl) rfl
theorem q1687 : (Jvm.Cond.castable "PromiseScales$Plain" "PromiseScales$Promise") ∈ lw_tbl := lw_at lw_m7 180 rfl
theorem q1704 : (Jvm.Cond.castable "PromiseScales$Plain" "java/lang/Object") ∈ lw_tbl := lw_at lw_m7 197 rfl
theorem in_X8 : ∀ w ∈ wsX80, w ∈ lw_all := lw_in wsX80 [683, 685, 687, 689, 691] (by decide +kernel) (by decide +kernel)
/-! PromiseScales$If -/
set_option maxRecDepth 100000
def RX9 : String := "PromiseScales$If"
def TX9 : u_T := fun k => match k with
  | 0 => ("PromiseScales$Promise", "number", "I", true)
  | 1 => ("PromiseScales$Promise", "likely", "I", true)
  | 2 => ("PromiseScales$Promise", "giver", "I", true)
  | 3 => ("PromiseScales$Promise", "deed", "I", true)
  | _ => ("PromiseScales$Promise", "day", "I", true)
def tyX9 : Nat → FieldType := fun k => match k with
  | 0 => .int
  | 1 => .int
  | 2 => .int
  | 3 => .int
  | _ => .int
abbrev wsX90 : List Cond := u_ws RX9 TX9 5
theorem nmX9 : ∀ a, a < 5 → ∀ b, b < 5 → a ≠ b → (TX9 a).2.1 ≠ (TX9 b).2.1 := by decide +kernel
theorem tyX9_ok : ∀ k, k < 5 → parseFieldDescriptor (TX9 k).2.2.1 = some (tyX9 k) := by decide +kernel
abbrev cX9_init : ByteArray := prog_6_method_1_code
def yX9_init : MethodName := ⟨RX9, "<init>", "(IIIII)V"⟩
def dkwX9_init_0 : List UInt8 := [42, 27, 28, 29, 21, 4, 21, 5, 183, 0, 3, 177]
abbrev dktX9_init_0 : List UInt8 := dkwX9_init_0 ++ []
theorem dksX9_init_0 : cX9_init.data.toList.drop 0 = dktX9_init_0 := by decide +kernel
theorem dX9_init_0 : decode cX9_init 0 = .ok (.aload_n 0, 1) := dk_42 (dk_at dksX9_init_0 0 rfl rfl)
theorem dX9_init_1 : decode cX9_init 1 = .ok (.iload_n 1, 1) := dk_27 (dk_at dksX9_init_0 1 rfl rfl)
theorem dX9_init_2 : decode cX9_init 2 = .ok (.iload_n 2, 1) := dk_28 (dk_at dksX9_init_0 2 rfl rfl)
theorem dX9_init_3 : decode cX9_init 3 = .ok (.iload_n 3, 1) := dk_29 (dk_at dksX9_init_0 3 rfl rfl)
theorem dX9_init_4 : decode cX9_init 4 = .ok (.iload 4, 2) := dk_21 4 (dk_at dksX9_init_0 4 rfl rfl)
theorem dX9_init_6 : decode cX9_init 6 = .ok (.iload 5, 2) := dk_21 5 (dk_at dksX9_init_0 6 rfl rfl)
theorem dX9_init_8 : decode cX9_init 8 = .ok (.invokespecial 3, 3) := dk_183 0 3 (dk_at dksX9_init_0 8 rfl rfl)
theorem dX9_init_11 : decode cX9_init 11 = .ok (.return_, 1) := dk_177 (dk_at dksX9_init_0 11 rfl rfl)
abbrev cX9_weighs : ByteArray := prog_6_method_3_code
def yX9_weighs : MethodName := ⟨RX9, "weighs", "(II)I"⟩
def dkwX9_weighs_1 : List UInt8 := [16, 20, 108, 172]
abbrev dktX9_weighs_1 : List UInt8 := dkwX9_weighs_1 ++ []
def dkwX9_weighs_0 : List UInt8 := [28, 18, 9, 160, 0, 12, 42, 27, 28, 183, 0, 10, 167, 0, 14, 42, 27, 28, 183, 0, 10, 28, 104]
abbrev dktX9_weighs_0 : List UInt8 := dkwX9_weighs_0 ++ dktX9_weighs_1
theorem dksX9_weighs_0 : cX9_weighs.data.toList.drop 0 = dktX9_weighs_0 := by decide +kernel
theorem dksX9_weighs_1 : cX9_weighs.data.toList.drop 23 = dktX9_weighs_1 := dk_seg dksX9_weighs_0 23 rfl rfl
theorem dX9_weighs_0 : decode cX9_weighs 0 = .ok (.iload_n 2, 1) := dk_28 (dk_at dksX9_weighs_0 0 rfl rfl)
theorem dX9_weighs_1 : decode cX9_weighs 1 = .ok (.ldc 9, 2) := dk_18 9 (dk_at dksX9_weighs_0 1 rfl rfl)
theorem dX9_weighs_3 : decode cX9_weighs 3 = .ok (.if_icmp .ne 12, 3) := dk_160 0 12 (dk_at dksX9_weighs_0 3 rfl rfl)
theorem dX9_weighs_6 : decode cX9_weighs 6 = .ok (.aload_n 0, 1) := dk_42 (dk_at dksX9_weighs_0 6 rfl rfl)
theorem dX9_weighs_7 : decode cX9_weighs 7 = .ok (.iload_n 1, 1) := dk_27 (dk_at dksX9_weighs_0 7 rfl rfl)
theorem dX9_weighs_8 : decode cX9_weighs 8 = .ok (.iload_n 2, 1) := dk_28 (dk_at dksX9_weighs_0 8 rfl rfl)
theorem dX9_weighs_9 : decode cX9_weighs 9 = .ok (.invokespecial 10, 3) := dk_183 0 10 (dk_at dksX9_weighs_0 9 rfl rfl)
theorem dX9_weighs_12 : decode cX9_weighs 12 = .ok (.goto 14, 3) := dk_167 0 14 (dk_at dksX9_weighs_0 12 rfl rfl)
theorem dX9_weighs_15 : decode cX9_weighs 15 = .ok (.aload_n 0, 1) := dk_42 (dk_at dksX9_weighs_0 15 rfl rfl)
theorem dX9_weighs_16 : decode cX9_weighs 16 = .ok (.iload_n 1, 1) := dk_27 (dk_at dksX9_weighs_0 16 rfl rfl)
theorem dX9_weighs_17 : decode cX9_weighs 17 = .ok (.iload_n 2, 1) := dk_28 (dk_at dksX9_weighs_0 17 rfl rfl)
theorem dX9_weighs_18 : decode cX9_weighs 18 = .ok (.invokespecial 10, 3) := dk_183 0 10 (dk_at dksX9_weighs_0 18 rfl rfl)
theorem dX9_weighs_21 : decode cX9_weighs 21 = .ok (.iload_n 2, 1) := dk_28 (dk_at dksX9_weighs_0 21 rfl rfl)
theorem dX9_weighs_22 : decode cX9_weighs 22 = .ok (.imul, 1) := dk_104 (dk_at dksX9_weighs_0 22 rfl rfl)
theorem dX9_weighs_23 : decode cX9_weighs 23 = .ok (.bipush 20, 2) := dk_16 20 (dk_at dksX9_weighs_1 0 rfl rfl)
theorem dX9_weighs_25 : decode cX9_weighs 25 = .ok (.idiv, 1) := dk_108 (dk_at dksX9_weighs_1 2 rfl rfl)
theorem dX9_weighs_26 : decode cX9_weighs 26 = .ok (.ireturn, 1) := dk_172 (dk_at dksX9_weighs_1 3 rfl rfl)
abbrev cX9_kind : ByteArray := prog_6_method_2_code
def yX9_kind : MethodName := ⟨RX9, "kind", "()I"⟩
theorem dX9_kind_0 : decode cX9_kind 0 = .ok (.iconst 2, 1) := by decide +kernel
theorem dX9_kind_1 : decode cX9_kind 1 = .ok (.ireturn, 1) := by decide +kernel
abbrev cX9_size : ByteArray := prog_6_method_4_code
def yX9_size : MethodName := ⟨RX9, "size", "(LPromiseScales$Trail;LPromiseScales$Held;)I"⟩
def dkwX9_size_0 : List UInt8 := [43, 16, 12, 182, 0, 14, 42, 43, 44, 183, 0, 20, 116, 172]
abbrev dktX9_size_0 : List UInt8 := dkwX9_size_0 ++ []
theorem dksX9_size_0 : cX9_size.data.toList.drop 0 = dktX9_size_0 := by decide +kernel
theorem dX9_size_0 : decode cX9_size 0 = .ok (.aload_n 1, 1) := dk_43 (dk_at dksX9_size_0 0 rfl rfl)
theorem dX9_size_1 : decode cX9_size 1 = .ok (.bipush 12, 2) := dk_16 12 (dk_at dksX9_size_0 1 rfl rfl)
theorem dX9_size_3 : decode cX9_size 3 = .ok (.invokevirtual 14, 3) := dk_182 0 14 (dk_at dksX9_size_0 3 rfl rfl)
theorem dX9_size_6 : decode cX9_size 6 = .ok (.aload_n 0, 1) := dk_42 (dk_at dksX9_size_0 6 rfl rfl)
theorem dX9_size_7 : decode cX9_size 7 = .ok (.aload_n 1, 1) := dk_43 (dk_at dksX9_size_0 7 rfl rfl)
theorem dX9_size_8 : decode cX9_size 8 = .ok (.aload_n 2, 1) := dk_44 (dk_at dksX9_size_0 8 rfl rfl)
theorem dX9_size_9 : decode cX9_size 9 = .ok (.invokespecial 20, 3) := dk_183 0 20 (dk_at dksX9_size_0 9 rfl rfl)
theorem dX9_size_12 : decode cX9_size 12 = .ok (.ineg, 1) := dk_116 (dk_at dksX9_size_0 12 rfl rfl)
theorem dX9_size_13 : decode cX9_size 13 = .ok (.ireturn, 1) := dk_172 (dk_at dksX9_size_0 13 rfl rfl)
abbrev cX9_mark : ByteArray := prog_6_method_5_code
def yX9_mark : MethodName := ⟨RX9, "mark", "(LPromiseScales$Trail;LPromiseScales$Held;)I"⟩
def dkwX9_mark_0 : List UInt8 := [43, 16, 24, 182, 0, 14, 5, 42, 43, 44, 183, 0, 24, 104, 172]
abbrev dktX9_mark_0 : List UInt8 := dkwX9_mark_0 ++ []
theorem dksX9_mark_0 : cX9_mark.data.toList.drop 0 = dktX9_mark_0 := by decide +kernel
theorem dX9_mark_0 : decode cX9_mark 0 = .ok (.aload_n 1, 1) := dk_43 (dk_at dksX9_mark_0 0 rfl rfl)
theorem dX9_mark_1 : decode cX9_mark 1 = .ok (.bipush 24, 2) := dk_16 24 (dk_at dksX9_mark_0 1 rfl rfl)
theorem dX9_mark_3 : decode cX9_mark 3 = .ok (.invokevirtual 14, 3) := dk_182 0 14 (dk_at dksX9_mark_0 3 rfl rfl)
theorem dX9_mark_6 : decode cX9_mark 6 = .ok (.iconst 2, 1) := dk_5 (dk_at dksX9_mark_0 6 rfl rfl)
theorem dX9_mark_7 : decode cX9_mark 7 = .ok (.aload_n 0, 1) := dk_42 (dk_at dksX9_mark_0 7 rfl rfl)
theorem dX9_mark_8 : decode cX9_mark 8 = .ok (.aload_n 1, 1) := dk_43 (dk_at dksX9_mark_0 8 rfl rfl)
theorem dX9_mark_9 : decode cX9_mark 9 = .ok (.aload_n 2, 1) := dk_44 (dk_at dksX9_mark_0 9 rfl rfl)
theorem dX9_mark_10 : decode cX9_mark 10 = .ok (.invokespecial 24, 3) := dk_183 0 24 (dk_at dksX9_mark_0 10 rfl rfl)
theorem dX9_mark_13 : decode cX9_mark 13 = .ok (.imul, 1) := dk_104 (dk_at dksX9_mark_0 13 rfl rfl)
theorem dX9_mark_14 : decode cX9_mark 14 = .ok (.ireturn, 1) := dk_172 (dk_at dksX9_mark_0 14 rfl rfl)
theorem q95 : (Jvm.Cond.initialized "PromiseScales$If") ∈ lw_all := lw_g (lw_at lw_m1 28 rfl) rfl
theorem q695 : (Jvm.Cond.instantiable "PromiseScales$If" (5 : Nat)) ∈ lw_all := lw_g (lw_at lw_m3 148 rfl) rfl
theorem q697 : (Jvm.Cond.instanceMethod ({ cls := "PromiseScales$If", name := "<init>", desc := "(IIIII)V" } : Jvm.MethodName)) ∈ lw_all := lw_g (lw_at lw_m3 150 rfl) rfl
theorem q698 : (Jvm.Cond.code ({ cls := "PromiseScales$If", name := "<init>", desc := "(IIIII)V" } : Jvm.MethodName) prog_6_method_1_code (6 : Nat) (Option.none : Option Jvm.ClassFile.FieldType)) ∈ lw_all := lw_g (lw_at lw_m3 151 rfl) rfl
theorem q699 : (Jvm.Cond.methodLink "PromiseScales$If" (3 : Nat) ({ cls := "PromiseScales$Plain", name := "<init>", desc := "(IIIII)V" } : Jvm.MethodName)) ∈ lw_all := lw_g (lw_at lw_m3 152 rfl) rfl
theorem q700 : (Jvm.Cond.laysFinal "PromiseScales$If" "PromiseScales$Promise" "number" "I") ∈ lw_all := lw_g (lw_at lw_m3 153 rfl) rfl
theorem q701 : (Jvm.Cond.laysFinal "PromiseScales$If" "PromiseScales$Promise" "likely" "I") ∈ lw_all := lw_g (lw_at lw_m3 154 rfl) rfl
theorem q702 : (Jvm.Cond.laysFinal "PromiseScales$If" "PromiseScales$Promise" "giver" "I") ∈ lw_all := lw_g (lw_at lw_m3 155 rfl) rfl
theorem q703 : (Jvm.Cond.laysFinal "PromiseScales$If" "PromiseScales$Promise" "deed" "I") ∈ lw_all := lw_g (lw_at lw_m3 156 rfl) rfl
theorem q704 : (Jvm.Cond.laysFinal "PromiseScales$If" "PromiseScales$Promise" "day" "I") ∈ lw_all := lw_g (lw_at lw_m3 157 rfl) rfl
theorem q705 : (Jvm.Cond.superclass "PromiseScales$If" "PromiseScales$Plain") ∈ lw_all := lw_g (lw_at lw_m3 158 rfl) rfl
theorem q781 : (Jvm.Cond.selects "PromiseScales$If" ({ cls := "java/lang/Object", name := "getClass", desc := "()Ljava/lang/Class;" } : Jvm.MethodName) ({ cls := "java/lang/Object", name := "getClass", desc := "()Ljava/lang/Class;" } : Jvm.MethodName)) ∈ lw_all := lw_g (lw_at lw_m3 234 rfl) rfl
theorem q899 : (Jvm.Cond.selects "PromiseScales$If" ({ cls := "PromiseScales$Promise", name := "weighs", desc := "(II)I" } : Jvm.MethodName) ({ cls := "PromiseScales$If", name := "weighs", desc := "(II)I" } : Jvm.MethodName)) ∈ lw_all := lw_g (lw_at lw_m4 112 rfl) rfl
theorem q900 : (Jvm.Cond.instanceMethod ({ cls := "PromiseScales$If", name := "weighs", desc := "(II)I" } : Jvm.MethodName)) ∈ lw_all := lw_g (lw_at lw_m4 113 rfl) rfl
theorem q901 : (Jvm.Cond.code ({ cls := "PromiseScales$If", name := "weighs", desc := "(II)I" } : Jvm.MethodName) prog_6_method_3_code (3 : Nat) (Option.some Jvm.ClassFile.FieldType.int)) ∈ lw_all := lw_g (lw_at lw_m4 114 rfl) rfl
theorem q902 : (Jvm.Cond.constant "PromiseScales$If" (9 : Nat) (-1000000 : Int32)) ∈ lw_all := lw_g (lw_at lw_m4 115 rfl) rfl
theorem q903 : (Jvm.Cond.methodLink "PromiseScales$If" (10 : Nat) ({ cls := "PromiseScales$Plain", name := "weighs", desc := "(II)I" } : Jvm.MethodName)) ∈ lw_all := lw_g (lw_at lw_m4 116 rfl) rfl
theorem q952 : (Jvm.Cond.selects "PromiseScales$If" ({ cls := "PromiseScales$Promise", name := "likely", desc := "()I" } : Jvm.MethodName) ({ cls := "PromiseScales$Promise", name := "likely", desc := "()I" } : Jvm.MethodName)) ∈ lw_all := lw_g (lw_at lw_m4 165 rfl) rfl
theorem q1089 : (Jvm.Cond.selects "PromiseScales$If" ({ cls := "PromiseScales$Promise", name := "kind", desc := "()I" } : Jvm.MethodName) ({ cls := "PromiseScales$If", name := "kind", desc := "()I" } : Jvm.MethodName)) ∈ lw_all := lw_g (lw_at lw_m5 62 rfl) rfl
theorem q1090 : (Jvm.Cond.instanceMethod ({ cls := "PromiseScales$If", name := "kind", desc := "()I" } : Jvm.MethodName)) ∈ lw_all := lw_g (lw_at lw_m5 63 rfl) rfl
theorem q1091 : (Jvm.Cond.code ({ cls := "PromiseScales$If", name := "kind", desc := "()I" } : Jvm.MethodName) prog_6_method_2_code (1 : Nat) (Option.some Jvm.ClassFile.FieldType.int)) ∈ lw_all := lw_g (lw_at lw_m5 64 rfl) rfl
theorem q1151 : (Jvm.Cond.selects "PromiseScales$If" ({ cls := "PromiseScales$Promise", name := "number", desc := "()I" } : Jvm.MethodName) ({ cls := "PromiseScales$Promise", name := "number", desc := "()I" } : Jvm.MethodName)) ∈ lw_all := lw_g (lw_at lw_m5 124 rfl) rfl
theorem q1197 : (Jvm.Cond.castable "PromiseScales$If" "PromiseScales$Marked") ∈ lw_tbl := lw_at lw_m5 170 rfl
theorem q1198 : (Jvm.Cond.selects "PromiseScales$If" ({ cls := "PromiseScales$Marked", name := "likely", desc := "()I" } : Jvm.MethodName) ({ cls := "PromiseScales$Promise", name := "likely", desc := "()I" } : Jvm.MethodName)) ∈ lw_all := lw_g (lw_at lw_m5 171 rfl) rfl
theorem q1199 : (Jvm.Cond.unhidden "PromiseScales$If" "likely" "()I") ∈ lw_tbl := lw_at lw_m5 172 rfl
theorem q1209 : (Jvm.Cond.selects "PromiseScales$If" ({ cls := "PromiseScales$Marked", name := "size", desc := "(LPromiseScales$Trail;LPromiseScales$Held;)I" } : Jvm.MethodName) ({ cls := "PromiseScales$If", name := "size", desc := "(LPromiseScales$Trail;LPromiseScales$Held;)I" } : Jvm.MethodName)) ∈ lw_all := lw_g (lw_at lw_m5 182 rfl) rfl
theorem q1210 : (Jvm.Cond.instanceMethod ({ cls := "PromiseScales$If", name := "size", desc := "(LPromiseScales$Trail;LPromiseScales$Held;)I" } : Jvm.MethodName)) ∈ lw_all := lw_g (lw_at lw_m5 183 rfl) rfl
theorem q1211 : (Jvm.Cond.code ({ cls := "PromiseScales$If", name := "size", desc := "(LPromiseScales$Trail;LPromiseScales$Held;)I" } : Jvm.MethodName) prog_6_method_4_code (3 : Nat) (Option.some Jvm.ClassFile.FieldType.int)) ∈ lw_all := lw_g (lw_at lw_m5 184 rfl) rfl
theorem q1212 : (Jvm.Cond.methodLink "PromiseScales$If" (14 : Nat) ({ cls := "PromiseScales$Trail", name := "begins", desc := "(I)V" } : Jvm.MethodName)) ∈ lw_all := lw_g (lw_at lw_m5 185 rfl) rfl
theorem q1213 : (Jvm.Cond.methodLink "PromiseScales$If" (20 : Nat) ({ cls := "PromiseScales$Plain", name := "size", desc := "(LPromiseScales$Trail;LPromiseScales$Held;)I" } : Jvm.MethodName)) ∈ lw_all := lw_g (lw_at lw_m5 186 rfl) rfl
theorem q1221 : (Jvm.Cond.selects "PromiseScales$If" ({ cls := "PromiseScales$Plain", name := "mark", desc := "(LPromiseScales$Trail;LPromiseScales$Held;)I" } : Jvm.MethodName) ({ cls := "PromiseScales$If", name := "mark", desc := "(LPromiseScales$Trail;LPromiseScales$Held;)I" } : Jvm.MethodName)) ∈ lw_all := lw_g (lw_at lw_m5 194 rfl) rfl
theorem q1222 : (Jvm.Cond.instanceMethod ({ cls := "PromiseScales$If", name := "mark", desc := "(LPromiseScales$Trail;LPromiseScales$Held;)I" } : Jvm.MethodName)) ∈ lw_all := lw_g (lw_at lw_m5 195 rfl) rfl
theorem q1223 : (Jvm.Cond.code ({ cls := "PromiseScales$If", name := "mark", desc := "(LPromiseScales$Trail;LPromiseScales$Held;)I" } : Jvm.MethodName) prog_6_method_5_code (3 : Nat) (Option.some Jvm.ClassFile.FieldType.int)) ∈ lw_all := lw_g (lw_at lw_m5 196 rfl) rfl
theorem q1224 : (Jvm.Cond.methodLink "PromiseScales$If" (24 : Nat) ({ cls := "PromiseScales$Plain", name := "mark", desc := "(LPromiseScales$Trail;LPromiseScales$Held;)I" } : Jvm.MethodName)) ∈ lw_all := lw_g (lw_at lw_m5 197 rfl) rfl
theorem q1236 : (Jvm.Cond.selects "PromiseScales$If" ({ cls := "PromiseScales$Marked", name := "number", desc := "()I" } : Jvm.MethodName) ({ cls := "PromiseScales$Promise", name := "number", desc := "()I" } : Jvm.MethodName)) ∈ lw_all := lw_g (lw_at lw_m5 209 rfl) rfl
theorem q1237 : (Jvm.Cond.unhidden "PromiseScales$If" "number" "()I") ∈ lw_tbl := lw_at lw_m5 210 rfl
theorem q1267 : (Jvm.Cond.selects "PromiseScales$If" ({ cls := "PromiseScales$Marked", name := "mark", desc := "(LPromiseScales$Trail;LPromiseScales$Held;)I" } : Jvm.MethodName) ({ cls := "PromiseScales$If", name := "mark", desc := "(LPromiseScales$Trail;LPromiseScales$Held;)I" } : Jvm.MethodName)) ∈ lw_all := lw_g (lw_at lw_m6 0 rfl) rfl
theorem q1685 : (Jvm.Cond.castable "PromiseScales$If" "PromiseScales$Promise") ∈ lw_tbl := lw_at lw_m7 178 rfl
theorem q1689 : (Jvm.Cond.castable "PromiseScales$If" "PromiseScales$Plain") ∈ lw_tbl := lw_at lw_m7 182 rfl
theorem q1705 : (Jvm.Cond.castable "PromiseScales$If" "java/lang/Object") ∈ lw_tbl := lw_at lw_m7 198 rfl
theorem in_X9 : ∀ w ∈ wsX90, w ∈ lw_all := lw_in wsX90 [700, 701, 702, 703, 704] (by decide +kernel) (by decide +kernel)
/-! PromiseScales$Twice -/
set_option maxRecDepth 100000
def RX10 : String := "PromiseScales$Twice"
def TX10 : u_T := fun k => match k with
  | 0 => ("PromiseScales$Promise", "number", "I", true)
  | 1 => ("PromiseScales$Promise", "likely", "I", true)
  | 2 => ("PromiseScales$Promise", "giver", "I", true)
  | 3 => ("PromiseScales$Promise", "deed", "I", true)
  | _ => ("PromiseScales$Promise", "day", "I", true)
def tyX10 : Nat → FieldType := fun k => match k with
  | 0 => .int
  | 1 => .int
  | 2 => .int
  | 3 => .int
  | _ => .int
abbrev wsX100 : List Cond := u_ws RX10 TX10 5
theorem nmX10 : ∀ a, a < 5 → ∀ b, b < 5 → a ≠ b → (TX10 a).2.1 ≠ (TX10 b).2.1 := by decide +kernel
theorem tyX10_ok : ∀ k, k < 5 → parseFieldDescriptor (TX10 k).2.2.1 = some (tyX10 k) := by decide +kernel
abbrev cX10_init : ByteArray := prog_15_method_1_code
def yX10_init : MethodName := ⟨RX10, "<init>", "(IIIII)V"⟩
def dkwX10_init_0 : List UInt8 := [42, 27, 28, 29, 21, 4, 21, 5, 183, 0, 3, 177]
abbrev dktX10_init_0 : List UInt8 := dkwX10_init_0 ++ []
theorem dksX10_init_0 : cX10_init.data.toList.drop 0 = dktX10_init_0 := by decide +kernel
theorem dX10_init_0 : decode cX10_init 0 = .ok (.aload_n 0, 1) := dk_42 (dk_at dksX10_init_0 0 rfl rfl)
theorem dX10_init_1 : decode cX10_init 1 = .ok (.iload_n 1, 1) := dk_27 (dk_at dksX10_init_0 1 rfl rfl)
theorem dX10_init_2 : decode cX10_init 2 = .ok (.iload_n 2, 1) := dk_28 (dk_at dksX10_init_0 2 rfl rfl)
theorem dX10_init_3 : decode cX10_init 3 = .ok (.iload_n 3, 1) := dk_29 (dk_at dksX10_init_0 3 rfl rfl)
theorem dX10_init_4 : decode cX10_init 4 = .ok (.iload 4, 2) := dk_21 4 (dk_at dksX10_init_0 4 rfl rfl)
theorem dX10_init_6 : decode cX10_init 6 = .ok (.iload 5, 2) := dk_21 5 (dk_at dksX10_init_0 6 rfl rfl)
theorem dX10_init_8 : decode cX10_init 8 = .ok (.invokespecial 3, 3) := dk_183 0 3 (dk_at dksX10_init_0 8 rfl rfl)
theorem dX10_init_11 : decode cX10_init 11 = .ok (.return_, 1) := dk_177 (dk_at dksX10_init_0 11 rfl rfl)
abbrev cX10_weighs : ByteArray := prog_15_method_3_code
def yX10_weighs : MethodName := ⟨RX10, "weighs", "(II)I"⟩
def dkwX10_weighs_0 : List UInt8 := [42, 27, 28, 183, 0, 9, 4, 96, 5, 108, 172]
abbrev dktX10_weighs_0 : List UInt8 := dkwX10_weighs_0 ++ []
theorem dksX10_weighs_0 : cX10_weighs.data.toList.drop 0 = dktX10_weighs_0 := by decide +kernel
theorem dX10_weighs_0 : decode cX10_weighs 0 = .ok (.aload_n 0, 1) := dk_42 (dk_at dksX10_weighs_0 0 rfl rfl)
theorem dX10_weighs_1 : decode cX10_weighs 1 = .ok (.iload_n 1, 1) := dk_27 (dk_at dksX10_weighs_0 1 rfl rfl)
theorem dX10_weighs_2 : decode cX10_weighs 2 = .ok (.iload_n 2, 1) := dk_28 (dk_at dksX10_weighs_0 2 rfl rfl)
theorem dX10_weighs_3 : decode cX10_weighs 3 = .ok (.invokespecial 9, 3) := dk_183 0 9 (dk_at dksX10_weighs_0 3 rfl rfl)
theorem dX10_weighs_6 : decode cX10_weighs 6 = .ok (.iconst 1, 1) := dk_4 (dk_at dksX10_weighs_0 6 rfl rfl)
theorem dX10_weighs_7 : decode cX10_weighs 7 = .ok (.iadd, 1) := dk_96 (dk_at dksX10_weighs_0 7 rfl rfl)
theorem dX10_weighs_8 : decode cX10_weighs 8 = .ok (.iconst 2, 1) := dk_5 (dk_at dksX10_weighs_0 8 rfl rfl)
theorem dX10_weighs_9 : decode cX10_weighs 9 = .ok (.idiv, 1) := dk_108 (dk_at dksX10_weighs_0 9 rfl rfl)
theorem dX10_weighs_10 : decode cX10_weighs 10 = .ok (.ireturn, 1) := dk_172 (dk_at dksX10_weighs_0 10 rfl rfl)
abbrev cX10_kind : ByteArray := prog_15_method_2_code
def yX10_kind : MethodName := ⟨RX10, "kind", "()I"⟩
theorem dX10_kind_0 : decode cX10_kind 0 = .ok (.iconst 3, 1) := by decide +kernel
theorem dX10_kind_1 : decode cX10_kind 1 = .ok (.ireturn, 1) := by decide +kernel
abbrev cX10_mark : ByteArray := prog_15_method_4_code
def yX10_mark : MethodName := ⟨RX10, "mark", "(LPromiseScales$Trail;LPromiseScales$Held;)I"⟩
def dkwX10_mark_0 : List UInt8 := [43, 16, 22, 182, 0, 13, 42, 43, 44, 183, 0, 19, 17, 3, 232, 100, 172]
abbrev dktX10_mark_0 : List UInt8 := dkwX10_mark_0 ++ []
theorem dksX10_mark_0 : cX10_mark.data.toList.drop 0 = dktX10_mark_0 := by decide +kernel
theorem dX10_mark_0 : decode cX10_mark 0 = .ok (.aload_n 1, 1) := dk_43 (dk_at dksX10_mark_0 0 rfl rfl)
theorem dX10_mark_1 : decode cX10_mark 1 = .ok (.bipush 22, 2) := dk_16 22 (dk_at dksX10_mark_0 1 rfl rfl)
theorem dX10_mark_3 : decode cX10_mark 3 = .ok (.invokevirtual 13, 3) := dk_182 0 13 (dk_at dksX10_mark_0 3 rfl rfl)
theorem dX10_mark_6 : decode cX10_mark 6 = .ok (.aload_n 0, 1) := dk_42 (dk_at dksX10_mark_0 6 rfl rfl)
theorem dX10_mark_7 : decode cX10_mark 7 = .ok (.aload_n 1, 1) := dk_43 (dk_at dksX10_mark_0 7 rfl rfl)
theorem dX10_mark_8 : decode cX10_mark 8 = .ok (.aload_n 2, 1) := dk_44 (dk_at dksX10_mark_0 8 rfl rfl)
theorem dX10_mark_9 : decode cX10_mark 9 = .ok (.invokespecial 19, 3) := dk_183 0 19 (dk_at dksX10_mark_0 9 rfl rfl)
theorem dX10_mark_12 : decode cX10_mark 12 = .ok (.sipush 1000, 3) := dk_17 3 232 (dk_at dksX10_mark_0 12 rfl rfl)
theorem dX10_mark_15 : decode cX10_mark 15 = .ok (.isub, 1) := dk_100 (dk_at dksX10_mark_0 15 rfl rfl)
theorem dX10_mark_16 : decode cX10_mark 16 = .ok (.ireturn, 1) := dk_172 (dk_at dksX10_mark_0 16 rfl rfl)
theorem q96 : (Jvm.Cond.initialized "PromiseScales$Twice") ∈ lw_all := lw_g (lw_at lw_m1 29 rfl) rfl
theorem q707 : (Jvm.Cond.instantiable "PromiseScales$Twice" (5 : Nat)) ∈ lw_all := lw_g (lw_at lw_m3 160 rfl) rfl
theorem q709 : (Jvm.Cond.instanceMethod ({ cls := "PromiseScales$Twice", name := "<init>", desc := "(IIIII)V" } : Jvm.MethodName)) ∈ lw_all := lw_g (lw_at lw_m3 162 rfl) rfl
theorem q710 : (Jvm.Cond.code ({ cls := "PromiseScales$Twice", name := "<init>", desc := "(IIIII)V" } : Jvm.MethodName) prog_15_method_1_code (6 : Nat) (Option.none : Option Jvm.ClassFile.FieldType)) ∈ lw_all := lw_g (lw_at lw_m3 163 rfl) rfl
theorem q711 : (Jvm.Cond.methodLink "PromiseScales$Twice" (3 : Nat) ({ cls := "PromiseScales$Plain", name := "<init>", desc := "(IIIII)V" } : Jvm.MethodName)) ∈ lw_all := lw_g (lw_at lw_m3 164 rfl) rfl
theorem q712 : (Jvm.Cond.laysFinal "PromiseScales$Twice" "PromiseScales$Promise" "number" "I") ∈ lw_all := lw_g (lw_at lw_m3 165 rfl) rfl
theorem q713 : (Jvm.Cond.laysFinal "PromiseScales$Twice" "PromiseScales$Promise" "likely" "I") ∈ lw_all := lw_g (lw_at lw_m3 166 rfl) rfl
theorem q714 : (Jvm.Cond.laysFinal "PromiseScales$Twice" "PromiseScales$Promise" "giver" "I") ∈ lw_all := lw_g (lw_at lw_m3 167 rfl) rfl
theorem q715 : (Jvm.Cond.laysFinal "PromiseScales$Twice" "PromiseScales$Promise" "deed" "I") ∈ lw_all := lw_g (lw_at lw_m3 168 rfl) rfl
theorem q716 : (Jvm.Cond.laysFinal "PromiseScales$Twice" "PromiseScales$Promise" "day" "I") ∈ lw_all := lw_g (lw_at lw_m3 169 rfl) rfl
theorem q717 : (Jvm.Cond.superclass "PromiseScales$Twice" "PromiseScales$Plain") ∈ lw_all := lw_g (lw_at lw_m3 170 rfl) rfl
theorem q788 : (Jvm.Cond.selects "PromiseScales$Twice" ({ cls := "java/lang/Object", name := "getClass", desc := "()Ljava/lang/Class;" } : Jvm.MethodName) ({ cls := "java/lang/Object", name := "getClass", desc := "()Ljava/lang/Class;" } : Jvm.MethodName)) ∈ lw_all := lw_g (lw_at lw_m4 1 rfl) rfl
theorem q913 : (Jvm.Cond.selects "PromiseScales$Twice" ({ cls := "PromiseScales$Promise", name := "weighs", desc := "(II)I" } : Jvm.MethodName) ({ cls := "PromiseScales$Twice", name := "weighs", desc := "(II)I" } : Jvm.MethodName)) ∈ lw_all := lw_g (lw_at lw_m4 126 rfl) rfl
theorem q914 : (Jvm.Cond.instanceMethod ({ cls := "PromiseScales$Twice", name := "weighs", desc := "(II)I" } : Jvm.MethodName)) ∈ lw_all := lw_g (lw_at lw_m4 127 rfl) rfl
theorem q915 : (Jvm.Cond.code ({ cls := "PromiseScales$Twice", name := "weighs", desc := "(II)I" } : Jvm.MethodName) prog_15_method_3_code (3 : Nat) (Option.some Jvm.ClassFile.FieldType.int)) ∈ lw_all := lw_g (lw_at lw_m4 128 rfl) rfl
theorem q916 : (Jvm.Cond.methodLink "PromiseScales$Twice" (9 : Nat) ({ cls := "PromiseScales$Plain", name := "weighs", desc := "(II)I" } : Jvm.MethodName)) ∈ lw_all := lw_g (lw_at lw_m4 129 rfl) rfl
theorem q955 : (Jvm.Cond.selects "PromiseScales$Twice" ({ cls := "PromiseScales$Promise", name := "likely", desc := "()I" } : Jvm.MethodName) ({ cls := "PromiseScales$Promise", name := "likely", desc := "()I" } : Jvm.MethodName)) ∈ lw_all := lw_g (lw_at lw_m4 168 rfl) rfl
theorem q1098 : (Jvm.Cond.selects "PromiseScales$Twice" ({ cls := "PromiseScales$Promise", name := "kind", desc := "()I" } : Jvm.MethodName) ({ cls := "PromiseScales$Twice", name := "kind", desc := "()I" } : Jvm.MethodName)) ∈ lw_all := lw_g (lw_at lw_m5 71 rfl) rfl
theorem q1099 : (Jvm.Cond.instanceMethod ({ cls := "PromiseScales$Twice", name := "kind", desc := "()I" } : Jvm.MethodName)) ∈ lw_all := lw_g (lw_at lw_m5 72 rfl) rfl
theorem q1100 : (Jvm.Cond.code ({ cls := "PromiseScales$Twice", name := "kind", desc := "()I" } : Jvm.MethodName) prog_15_method_2_code (1 : Nat) (Option.some Jvm.ClassFile.FieldType.int)) ∈ lw_all := lw_g (lw_at lw_m5 73 rfl) rfl
theorem q1154 : (Jvm.Cond.selects "PromiseScales$Twice" ({ cls := "PromiseScales$Promise", name := "number", desc := "()I" } : Jvm.MethodName) ({ cls := "PromiseScales$Promise", name := "number", desc := "()I" } : Jvm.MethodName)) ∈ lw_all := lw_g (lw_at lw_m5 127 rfl) rfl
theorem q1206 : (Jvm.Cond.castable "PromiseScales$Twice" "PromiseScales$Marked") ∈ lw_tbl := lw_at lw_m5 179 rfl
theorem q1207 : (Jvm.Cond.selects "PromiseScales$Twice" ({ cls := "PromiseScales$Marked", name := "likely", desc := "()I" } : Jvm.MethodName) ({ cls := "PromiseScales$Promise", name := "likely", desc := "()I" } : Jvm.MethodName)) ∈ lw_all := lw_g (lw_at lw_m5 180 rfl) rfl
theorem q1208 : (Jvm.Cond.unhidden "PromiseScales$Twice" "likely" "()I") ∈ lw_tbl := lw_at lw_m5 181 rfl
theorem q1242 : (Jvm.Cond.selects "PromiseScales$Twice" ({ cls := "PromiseScales$Marked", name := "number", desc := "()I" } : Jvm.MethodName) ({ cls := "PromiseScales$Promise", name := "number", desc := "()I" } : Jvm.MethodName)) ∈ lw_all := lw_g (lw_at lw_m5 215 rfl) rfl
theorem q1243 : (Jvm.Cond.unhidden "PromiseScales$Twice" "number" "()I") ∈ lw_tbl := lw_at lw_m5 216 rfl
theorem q1255 : (Jvm.Cond.selects "PromiseScales$Twice" ({ cls := "PromiseScales$Plain", name := "mark", desc := "(LPromiseScales$Trail;LPromiseScales$Held;)I" } : Jvm.MethodName) ({ cls := "PromiseScales$Twice", name := "mark", desc := "(LPromiseScales$Trail;LPromiseScales$Held;)I" } : Jvm.MethodName)) ∈ lw_all := lw_g (lw_at lw_m5 228 rfl) rfl
theorem q1256 : (Jvm.Cond.instanceMethod ({ cls := "PromiseScales$Twice", name := "mark", desc := "(LPromiseScales$Trail;LPromiseScales$Held;)I" } : Jvm.MethodName)) ∈ lw_all := lw_g (lw_at lw_m5 229 rfl) rfl
theorem q1257 : (Jvm.Cond.code ({ cls := "PromiseScales$Twice", name := "mark", desc := "(LPromiseScales$Trail;LPromiseScales$Held;)I" } : Jvm.MethodName) prog_15_method_4_code (3 : Nat) (Option.some Jvm.ClassFile.FieldType.int)) ∈ lw_all := lw_g (lw_at lw_m5 230 rfl) rfl
theorem q1258 : (Jvm.Cond.methodLink "PromiseScales$Twice" (13 : Nat) ({ cls := "PromiseScales$Trail", name := "begins", desc := "(I)V" } : Jvm.MethodName)) ∈ lw_all := lw_g (lw_at lw_m5 231 rfl) rfl
theorem q1259 : (Jvm.Cond.methodLink "PromiseScales$Twice" (19 : Nat) ({ cls := "PromiseScales$Plain", name := "mark", desc := "(LPromiseScales$Trail;LPromiseScales$Held;)I" } : Jvm.MethodName)) ∈ lw_all := lw_g (lw_at lw_m5 232 rfl) rfl
theorem q1262 : (Jvm.Cond.selects "PromiseScales$Twice" ({ cls := "PromiseScales$Marked", name := "size", desc := "(LPromiseScales$Trail;LPromiseScales$Held;)I" } : Jvm.MethodName) ({ cls := "PromiseScales$Plain", name := "size", desc := "(LPromiseScales$Trail;LPromiseScales$Held;)I" } : Jvm.MethodName)) ∈ lw_all := lw_g (lw_at lw_m5 235 rfl) rfl
theorem q1270 : (Jvm.Cond.selects "PromiseScales$Twice" ({ cls := "PromiseScales$Marked", name := "mark", desc := "(LPromiseScales$Trail;LPromiseScales$Held;)I" } : Jvm.MethodName) ({ cls := "PromiseScales$Twice", name := "mark", desc := "(LPromiseScales$Trail;LPromiseScales$Held;)I" } : Jvm.MethodName)) ∈ lw_all := lw_g (lw_at lw_m6 3 rfl) rfl
theorem q1688 : (Jvm.Cond.castable "PromiseScales$Twice" "PromiseScales$Promise") ∈ lw_tbl := lw_at lw_m7 181 rfl
theorem q1690 : (Jvm.Cond.castable "PromiseScales$Twice" "PromiseScales$Plain") ∈ lw_tbl := lw_at lw_m7 183 rfl
theorem q1706 : (Jvm.Cond.castable "PromiseScales$Twice" "java/lang/Object") ∈ lw_tbl := lw_at lw_m7 199 rfl
theorem in_X10 : ∀ w ∈ wsX100, w ∈ lw_all := lw_in wsX100 [712, 713, 714, 715, 716] (by decide +kernel) (by decide +kernel)
/-! PromiseScales$Oath -/
set_option maxRecDepth 100000
def RX11 : String := "PromiseScales$Oath"
def TX11 : u_T := fun k => match k with
  | 0 => ("PromiseScales$Promise", "number", "I", true)
  | 1 => ("PromiseScales$Promise", "likely", "I", true)
  | 2 => ("PromiseScales$Promise", "giver", "I", true)
  | 3 => ("PromiseScales$Promise", "deed", "I", true)
  | _ => ("PromiseScales$Promise", "day", "I", true)
def tyX11 : Nat → FieldType := fun k => match k with
  | 0 => .int
  | 1 => .int
  | 2 => .int
  | 3 => .int
  | _ => .int
abbrev wsX110 : List Cond := u_ws RX11 TX11 5
theorem nmX11 : ∀ a, a < 5 → ∀ b, b < 5 → a ≠ b → (TX11 a).2.1 ≠ (TX11 b).2.1 := by decide +kernel
theorem tyX11_ok : ∀ k, k < 5 → parseFieldDescriptor (TX11 k).2.2.1 = some (tyX11 k) := by decide +kernel
abbrev cX11_init : ByteArray := prog_8_method_1_code
def yX11_init : MethodName := ⟨RX11, "<init>", "(IIIII)V"⟩
def dkwX11_init_0 : List UInt8 := [42, 27, 28, 29, 21, 4, 21, 5, 183, 0, 3, 177]
abbrev dktX11_init_0 : List UInt8 := dkwX11_init_0 ++ []
theorem dksX11_init_0 : cX11_init.data.toList.drop 0 = dktX11_init_0 := by decide +kernel
theorem dX11_init_0 : decode cX11_init 0 = .ok (.aload_n 0, 1) := dk_42 (dk_at dksX11_init_0 0 rfl rfl)
theorem dX11_init_1 : decode cX11_init 1 = .ok (.iload_n 1, 1) := dk_27 (dk_at dksX11_init_0 1 rfl rfl)
theorem dX11_init_2 : decode cX11_init 2 = .ok (.iload_n 2, 1) := dk_28 (dk_at dksX11_init_0 2 rfl rfl)
theorem dX11_init_3 : decode cX11_init 3 = .ok (.iload_n 3, 1) := dk_29 (dk_at dksX11_init_0 3 rfl rfl)
theorem dX11_init_4 : decode cX11_init 4 = .ok (.iload 4, 2) := dk_21 4 (dk_at dksX11_init_0 4 rfl rfl)
theorem dX11_init_6 : decode cX11_init 6 = .ok (.iload 5, 2) := dk_21 5 (dk_at dksX11_init_0 6 rfl rfl)
theorem dX11_init_8 : decode cX11_init 8 = .ok (.invokespecial 3, 3) := dk_183 0 3 (dk_at dksX11_init_0 8 rfl rfl)
theorem dX11_init_11 : decode cX11_init 11 = .ok (.return_, 1) := dk_177 (dk_at dksX11_init_0 11 rfl rfl)
abbrev cX11_weighs : ByteArray := prog_8_method_3_code
def yX11_weighs : MethodName := ⟨RX11, "weighs", "(II)I"⟩
def dkwX11_weighs_0 : List UInt8 := [16, 20, 5, 42, 27, 28, 183, 0, 9, 104, 184, 0, 13, 172]
abbrev dktX11_weighs_0 : List UInt8 := dkwX11_weighs_0 ++ []
theorem dksX11_weighs_0 : cX11_weighs.data.toList.drop 0 = dktX11_weighs_0 := by decide +kernel
theorem dX11_weighs_0 : decode cX11_weighs 0 = .ok (.bipush 20, 2) := dk_16 20 (dk_at dksX11_weighs_0 0 rfl rfl)
theorem dX11_weighs_2 : decode cX11_weighs 2 = .ok (.iconst 2, 1) := dk_5 (dk_at dksX11_weighs_0 2 rfl rfl)
theorem dX11_weighs_3 : decode cX11_weighs 3 = .ok (.aload_n 0, 1) := dk_42 (dk_at dksX11_weighs_0 3 rfl rfl)
theorem dX11_weighs_4 : decode cX11_weighs 4 = .ok (.iload_n 1, 1) := dk_27 (dk_at dksX11_weighs_0 4 rfl rfl)
theorem dX11_weighs_5 : decode cX11_weighs 5 = .ok (.iload_n 2, 1) := dk_28 (dk_at dksX11_weighs_0 5 rfl rfl)
theorem dX11_weighs_6 : decode cX11_weighs 6 = .ok (.invokespecial 9, 3) := dk_183 0 9 (dk_at dksX11_weighs_0 6 rfl rfl)
theorem dX11_weighs_9 : decode cX11_weighs 9 = .ok (.imul, 1) := dk_104 (dk_at dksX11_weighs_0 9 rfl rfl)
theorem dX11_weighs_10 : decode cX11_weighs 10 = .ok (.invokestatic 13, 3) := dk_184 0 13 (dk_at dksX11_weighs_0 10 rfl rfl)
theorem dX11_weighs_13 : decode cX11_weighs 13 = .ok (.ireturn, 1) := dk_172 (dk_at dksX11_weighs_0 13 rfl rfl)
abbrev cX11_kind : ByteArray := prog_8_method_2_code
def yX11_kind : MethodName := ⟨RX11, "kind", "()I"⟩
theorem dX11_kind_0 : decode cX11_kind 0 = .ok (.iconst 4, 1) := by decide +kernel
theorem dX11_kind_1 : decode cX11_kind 1 = .ok (.ireturn, 1) := by decide +kernel
abbrev cX11_size : ByteArray := prog_8_method_4_code
def yX11_size : MethodName := ⟨RX11, "size", "(LPromiseScales$Trail;LPromiseScales$Held;)I"⟩
def dkwX11_size_0 : List UInt8 := [43, 16, 13, 182, 0, 18, 42, 43, 44, 183, 0, 24, 16, 100, 100, 172]
abbrev dktX11_size_0 : List UInt8 := dkwX11_size_0 ++ []
theorem dksX11_size_0 : cX11_size.data.toList.drop 0 = dktX11_size_0 := by decide +kernel
theorem dX11_size_0 : decode cX11_size 0 = .ok (.aload_n 1, 1) := dk_43 (dk_at dksX11_size_0 0 rfl rfl)
theorem dX11_size_1 : decode cX11_size 1 = .ok (.bipush 13, 2) := dk_16 13 (dk_at dksX11_size_0 1 rfl rfl)
theorem dX11_size_3 : decode cX11_size 3 = .ok (.invokevirtual 18, 3) := dk_182 0 18 (dk_at dksX11_size_0 3 rfl rfl)
theorem dX11_size_6 : decode cX11_size 6 = .ok (.aload_n 0, 1) := dk_42 (dk_at dksX11_size_0 6 rfl rfl)
theorem dX11_size_7 : decode cX11_size 7 = .ok (.aload_n 1, 1) := dk_43 (dk_at dksX11_size_0 7 rfl rfl)
theorem dX11_size_8 : decode cX11_size 8 = .ok (.aload_n 2, 1) := dk_44 (dk_at dksX11_size_0 8 rfl rfl)
theorem dX11_size_9 : decode cX11_size 9 = .ok (.invokespecial 24, 3) := dk_183 0 24 (dk_at dksX11_size_0 9 rfl rfl)
theorem dX11_size_12 : decode cX11_size 12 = .ok (.bipush 100, 2) := dk_16 100 (dk_at dksX11_size_0 12 rfl rfl)
theorem dX11_size_14 : decode cX11_size 14 = .ok (.isub, 1) := dk_100 (dk_at dksX11_size_0 14 rfl rfl)
theorem dX11_size_15 : decode cX11_size 15 = .ok (.ireturn, 1) := dk_172 (dk_at dksX11_size_0 15 rfl rfl)
abbrev cX11_mark : ByteArray := prog_8_method_5_code
def yX11_mark : MethodName := ⟨RX11, "mark", "(LPromiseScales$Trail;LPromiseScales$Held;)I"⟩
def dkwX11_mark_0 : List UInt8 := [43, 16, 23, 182, 0, 18, 42, 43, 44, 183, 0, 28, 42, 43, 44, 182, 0, 31, 100, 172]
abbrev dktX11_mark_0 : List UInt8 := dkwX11_mark_0 ++ []
theorem dksX11_mark_0 : cX11_mark.data.toList.drop 0 = dktX11_mark_0 := by decide +kernel
theorem dX11_mark_0 : decode cX11_mark 0 = .ok (.aload_n 1, 1) := dk_43 (dk_at dksX11_mark_0 0 rfl rfl)
theorem dX11_mark_1 : decode cX11_mark 1 = .ok (.bipush 23, 2) := dk_16 23 (dk_at dksX11_mark_0 1 rfl rfl)
theorem dX11_mark_3 : decode cX11_mark 3 = .ok (.invokevirtual 18, 3) := dk_182 0 18 (dk_at dksX11_mark_0 3 rfl rfl)
theorem dX11_mark_6 : decode cX11_mark 6 = .ok (.aload_n 0, 1) := dk_42 (dk_at dksX11_mark_0 6 rfl rfl)
theorem dX11_mark_7 : decode cX11_mark 7 = .ok (.aload_n 1, 1) := dk_43 (dk_at dksX11_mark_0 7 rfl rfl)
theorem dX11_mark_8 : decode cX11_mark 8 = .ok (.aload_n 2, 1) := dk_44 (dk_at dksX11_mark_0 8 rfl rfl)
theorem dX11_mark_9 : decode cX11_mark 9 = .ok (.invokespecial 28, 3) := dk_183 0 28 (dk_at dksX11_mark_0 9 rfl rfl)
theorem dX11_mark_12 : decode cX11_mark 12 = .ok (.aload_n 0, 1) := dk_42 (dk_at dksX11_mark_0 12 rfl rfl)
theorem dX11_mark_13 : decode cX11_mark 13 = .ok (.aload_n 1, 1) := dk_43 (dk_at dksX11_mark_0 13 rfl rfl)
theorem dX11_mark_14 : decode cX11_mark 14 = .ok (.aload_n 2, 1) := dk_44 (dk_at dksX11_mark_0 14 rfl rfl)
theorem dX11_mark_15 : decode cX11_mark 15 = .ok (.invokevirtual 31, 3) := dk_182 0 31 (dk_at dksX11_mark_0 15 rfl rfl)
theorem dX11_mark_18 : decode cX11_mark 18 = .ok (.isub, 1) := dk_100 (dk_at dksX11_mark_0 18 rfl rfl)
theorem dX11_mark_19 : decode cX11_mark 19 = .ok (.ireturn, 1) := dk_172 (dk_at dksX11_mark_0 19 rfl rfl)
theorem q97 : (Jvm.Cond.initialized "PromiseScales$Oath") ∈ lw_all := lw_g (lw_at lw_m1 30 rfl) rfl
theorem q719 : (Jvm.Cond.instantiable "PromiseScales$Oath" (5 : Nat)) ∈ lw_all := lw_g (lw_at lw_m3 172 rfl) rfl
theorem q721 : (Jvm.Cond.instanceMethod ({ cls := "PromiseScales$Oath", name := "<init>", desc := "(IIIII)V" } : Jvm.MethodName)) ∈ lw_all := lw_g (lw_at lw_m3 174 rfl) rfl
theorem q722 : (Jvm.Cond.code ({ cls := "PromiseScales$Oath", name := "<init>", desc := "(IIIII)V" } : Jvm.MethodName) prog_8_method_1_code (6 : Nat) (Option.none : Option Jvm.ClassFile.FieldType)) ∈ lw_all := lw_g (lw_at lw_m3 175 rfl) rfl
theorem q723 : (Jvm.Cond.methodLink "PromiseScales$Oath" (3 : Nat) ({ cls := "PromiseScales$Promise", name := "<init>", desc := "(IIIII)V" } : Jvm.MethodName)) ∈ lw_all := lw_g (lw_at lw_m3 176 rfl) rfl
theorem q724 : (Jvm.Cond.laysFinal "PromiseScales$Oath" "PromiseScales$Promise" "number" "I") ∈ lw_all := lw_g (lw_at lw_m3 177 rfl) rfl
theorem q725 : (Jvm.Cond.laysFinal "PromiseScales$Oath" "PromiseScales$Promise" "likely" "I") ∈ lw_all := lw_g (lw_at lw_m3 178 rfl) rfl
theorem q726 : (Jvm.Cond.laysFinal "PromiseScales$Oath" "PromiseScales$Promise" "giver" "I") ∈ lw_all := lw_g (lw_at lw_m3 179 rfl) rfl
theorem q727 : (Jvm.Cond.laysFinal "PromiseScales$Oath" "PromiseScales$Promise" "deed" "I") ∈ lw_all := lw_g (lw_at lw_m3 180 rfl) rfl
theorem q728 : (Jvm.Cond.laysFinal "PromiseScales$Oath" "PromiseScales$Promise" "day" "I") ∈ lw_all := lw_g (lw_at lw_m3 181 rfl) rfl
theorem q729 : (Jvm.Cond.superclass "PromiseScales$Oath" "PromiseScales$Promise") ∈ lw_all := lw_g (lw_at lw_m3 182 rfl) rfl
theorem q782 : (Jvm.Cond.selects "PromiseScales$Oath" ({ cls := "java/lang/Object", name := "getClass", desc := "()Ljava/lang/Class;" } : Jvm.MethodName) ({ cls := "java/lang/Object", name := "getClass", desc := "()Ljava/lang/Class;" } : Jvm.MethodName)) ∈ lw_all := lw_g (lw_at lw_m3 235 rfl) rfl
theorem q907 : (Jvm.Cond.selects "PromiseScales$Oath" ({ cls := "PromiseScales$Promise", name := "weighs", desc := "(II)I" } : Jvm.MethodName) ({ cls := "PromiseScales$Oath", name := "weighs", desc := "(II)I" } : Jvm.MethodName)) ∈ lw_all := lw_g (lw_at lw_m4 120 rfl) rfl
theorem q908 : (Jvm.Cond.instanceMethod ({ cls := "PromiseScales$Oath", name := "weighs", desc := "(II)I" } : Jvm.MethodName)) ∈ lw_all := lw_g (lw_at lw_m4 121 rfl) rfl
theorem q909 : (Jvm.Cond.code ({ cls := "PromiseScales$Oath", name := "weighs", desc := "(II)I" } : Jvm.MethodName) prog_8_method_3_code (3 : Nat) (Option.some Jvm.ClassFile.FieldType.int)) ∈ lw_all := lw_g (lw_at lw_m4 122 rfl) rfl
theorem q910 : (Jvm.Cond.methodLink "PromiseScales$Oath" (9 : Nat) ({ cls := "PromiseScales$Promise", name := "weighs", desc := "(II)I" } : Jvm.MethodName)) ∈ lw_all := lw_g (lw_at lw_m4 123 rfl) rfl
theorem q911 : (Jvm.Cond.methodLink "PromiseScales$Oath" (13 : Nat) ({ cls := "java/lang/Math", name := "min", desc := "(II)I" } : Jvm.MethodName)) ∈ lw_all := lw_g (lw_at lw_m4 124 rfl) rfl
theorem q953 : (Jvm.Cond.selects "PromiseScales$Oath" ({ cls := "PromiseScales$Promise", name := "likely", desc := "()I" } : Jvm.MethodName) ({ cls := "PromiseScales$Promise", name := "likely", desc := "()I" } : Jvm.MethodName)) ∈ lw_all := lw_g (lw_at lw_m4 166 rfl) rfl
theorem q1092 : (Jvm.Cond.selects "PromiseScales$Oath" ({ cls := "PromiseScales$Promise", name := "kind", desc := "()I" } : Jvm.MethodName) ({ cls := "PromiseScales$Oath", name := "kind", desc := "()I" } : Jvm.MethodName)) ∈ lw_all := lw_g (lw_at lw_m5 65 rfl) rfl
theorem q1093 : (Jvm.Cond.instanceMethod ({ cls := "PromiseScales$Oath", name := "kind", desc := "()I" } : Jvm.MethodName)) ∈ lw_all := lw_g (lw_at lw_m5 66 rfl) rfl
theorem q1094 : (Jvm.Cond.code ({ cls := "PromiseScales$Oath", name := "kind", desc := "()I" } : Jvm.MethodName) prog_8_method_2_code (1 : Nat) (Option.some Jvm.ClassFile.FieldType.int)) ∈ lw_all := lw_g (lw_at lw_m5 67 rfl) rfl
theorem q1152 : (Jvm.Cond.selects "PromiseScales$Oath" ({ cls := "PromiseScales$Promise", name := "number", desc := "()I" } : Jvm.MethodName) ({ cls := "PromiseScales$Promise", name := "number", desc := "()I" } : Jvm.MethodName)) ∈ lw_all := lw_g (lw_at lw_m5 125 rfl) rfl
theorem q1183 : (Jvm.Cond.instanceMethod ({ cls := "PromiseScales$Oath", name := "size", desc := "(LPromiseScales$Trail;LPromiseScales$Held;)I" } : Jvm.MethodName)) ∈ lw_all := lw_g (lw_at lw_m5 156 rfl) rfl
theorem q1184 : (Jvm.Cond.code ({ cls := "PromiseScales$Oath", name := "size", desc := "(LPromiseScales$Trail;LPromiseScales$Held;)I" } : Jvm.MethodName) prog_8_method_4_code (3 : Nat) (Option.some Jvm.ClassFile.FieldType.int)) ∈ lw_all := lw_g (lw_at lw_m5 157 rfl) rfl
theorem q1185 : (Jvm.Cond.methodLink "PromiseScales$Oath" (18 : Nat) ({ cls := "PromiseScales$Trail", name := "begins", desc := "(I)V" } : Jvm.MethodName)) ∈ lw_all := lw_g (lw_at lw_m5 158 rfl) rfl
theorem q1200 : (Jvm.Cond.castable "PromiseScales$Oath" "PromiseScales$Marked") ∈ lw_tbl := lw_at lw_m5 173 rfl
theorem q1201 : (Jvm.Cond.selects "PromiseScales$Oath" ({ cls := "PromiseScales$Marked", name := "likely", desc := "()I" } : Jvm.MethodName) ({ cls := "PromiseScales$Promise", name := "likely", desc := "()I" } : Jvm.MethodName)) ∈ lw_all := lw_g (lw_at lw_m5 174 rfl) rfl
theorem q1202 : (Jvm.Cond.unhidden "PromiseScales$Oath" "likely" "()I") ∈ lw_tbl := lw_at lw_m5 175 rfl
theorem q1238 : (Jvm.Cond.selects "PromiseScales$Oath" ({ cls := "PromiseScales$Marked", name := "number", desc := "()I" } : Jvm.MethodName) ({ cls := "PromiseScales$Promise", name := "number", desc := "()I" } : Jvm.MethodName)) ∈ lw_all := lw_g (lw_at lw_m5 211 rfl) rfl
theorem q1239 : (Jvm.Cond.unhidden "PromiseScales$Oath" "number" "()I") ∈ lw_tbl := lw_at lw_m5 212 rfl
theorem q1260 : (Jvm.Cond.selects "PromiseScales$Oath" ({ cls := "PromiseScales$Marked", name := "size", desc := "(LPromiseScales$Trail;LPromiseScales$Held;)I" } : Jvm.MethodName) ({ cls := "PromiseScales$Oath", name := "size", desc := "(LPromiseScales$Trail;LPromiseScales$Held;)I" } : Jvm.MethodName)) ∈ lw_all := lw_g (lw_at lw_m5 233 rfl) rfl
theorem q1264 : (Jvm.Cond.instanceMethod ({ cls := "PromiseScales$Oath", name := "mark", desc := "(LPromiseScales$Trail;LPromiseScales$Held;)I" } : Jvm.MethodName)) ∈ lw_all := lw_g (lw_at lw_m5 237 rfl) rfl
theorem q1265 : (Jvm.Cond.code ({ cls := "PromiseScales$Oath", name := "mark", desc := "(LPromiseScales$Trail;LPromiseScales$Held;)I" } : Jvm.MethodName) prog_8_method_5_code (3 : Nat) (Option.some Jvm.ClassFile.FieldType.int)) ∈ lw_all := lw_g (lw_at lw_m5 238 rfl) rfl
theorem q1266 : (Jvm.Cond.methodLink "PromiseScales$Oath" (31 : Nat) ({ cls := "PromiseScales$Oath", name := "size", desc := "(LPromiseScales$Trail;LPromiseScales$Held;)I" } : Jvm.MethodName)) ∈ lw_all := lw_g (lw_at lw_m5 239 rfl) rfl
theorem q1268 : (Jvm.Cond.selects "PromiseScales$Oath" ({ cls := "PromiseScales$Marked", name := "mark", desc := "(LPromiseScales$Trail;LPromiseScales$Held;)I" } : Jvm.MethodName) ({ cls := "PromiseScales$Oath", name := "mark", desc := "(LPromiseScales$Trail;LPromiseScales$Held;)I" } : Jvm.MethodName)) ∈ lw_all := lw_g (lw_at lw_m6 1 rfl) rfl
theorem q1677 : (Jvm.Cond.sameMethod "PromiseScales$Oath" "PromiseScales$Oath" "size" "(LPromiseScales$Trail;LPromiseScales$Held;)I") ∈ lw_all := lw_g (lw_at lw_m7 170 rfl) rfl
theorem q1680 : (Jvm.Cond.selects "PromiseScales$Oath" ({ cls := "PromiseScales$Oath", name := "size", desc := "(LPromiseScales$Trail;LPromiseScales$Held;)I" } : Jvm.MethodName) ({ cls := "PromiseScales$Oath", name := "size", desc := "(LPromiseScales$Trail;LPromiseScales$Held;)I" } : Jvm.MethodName)) ∈ lw_all := lw_g (lw_at lw_m7 173 rfl) rfl
theorem q1686 : (Jvm.Cond.castable "PromiseScales$Oath" "PromiseScales$Promise") ∈ lw_tbl := lw_at lw_m7 179 rfl
theorem q1707 : (Jvm.Cond.castable "PromiseScales$Oath" "java/lang/Object") ∈ lw_tbl := lw_at lw_m7 200 rfl
theorem in_X11 : ∀ w ∈ wsX110, w ∈ lw_all := lw_in wsX110 [724, 725, 726, 727, 728] (by decide +kernel) (by decide +kernel)
/-! PromiseScales$About -/
set_option maxRecDepth 100000
def RX12 : String := "PromiseScales$About"
def TX12 : u_T := fun k => match k with
  | 0 => ("PromiseScales$Promise", "number", "I", true)
  | 1 => ("PromiseScales$Promise", "likely", "I", true)
  | 2 => ("PromiseScales$Promise", "giver", "I", true)
  | 3 => ("PromiseScales$Promise", "deed", "I", true)
  | _ => ("PromiseScales$Promise", "day", "I", true)
def tyX12 : Nat → FieldType := fun k => match k with
  | 0 => .int
  | 1 => .int
  | 2 => .int
  | 3 => .int
  | _ => .int
abbrev wsX120 : List Cond := u_ws RX12 TX12 5
theorem nmX12 : ∀ a, a < 5 → ∀ b, b < 5 → a ≠ b → (TX12 a).2.1 ≠ (TX12 b).2.1 := by decide +kernel
theorem tyX12_ok : ∀ k, k < 5 → parseFieldDescriptor (TX12 k).2.2.1 = some (tyX12 k) := by decide +kernel
abbrev cX12_init : ByteArray := prog_2_method_1_code
def yX12_init : MethodName := ⟨RX12, "<init>", "(IIIII)V"⟩
def dkwX12_init_0 : List UInt8 := [42, 27, 28, 29, 21, 4, 21, 5, 183, 0, 3, 177]
abbrev dktX12_init_0 : List UInt8 := dkwX12_init_0 ++ []
theorem dksX12_init_0 : cX12_init.data.toList.drop 0 = dktX12_init_0 := by decide +kernel
theorem dX12_init_0 : decode cX12_init 0 = .ok (.aload_n 0, 1) := dk_42 (dk_at dksX12_init_0 0 rfl rfl)
theorem dX12_init_1 : decode cX12_init 1 = .ok (.iload_n 1, 1) := dk_27 (dk_at dksX12_init_0 1 rfl rfl)
theorem dX12_init_2 : decode cX12_init 2 = .ok (.iload_n 2, 1) := dk_28 (dk_at dksX12_init_0 2 rfl rfl)
theorem dX12_init_3 : decode cX12_init 3 = .ok (.iload_n 3, 1) := dk_29 (dk_at dksX12_init_0 3 rfl rfl)
theorem dX12_init_4 : decode cX12_init 4 = .ok (.iload 4, 2) := dk_21 4 (dk_at dksX12_init_0 4 rfl rfl)
theorem dX12_init_6 : decode cX12_init 6 = .ok (.iload 5, 2) := dk_21 5 (dk_at dksX12_init_0 6 rfl rfl)
theorem dX12_init_8 : decode cX12_init 8 = .ok (.invokespecial 3, 3) := dk_183 0 3 (dk_at dksX12_init_0 8 rfl rfl)
theorem dX12_init_11 : decode cX12_init 11 = .ok (.return_, 1) := dk_177 (dk_at dksX12_init_0 11 rfl rfl)
abbrev cX12_weighs : ByteArray := prog_2_method_3_code
def yX12_weighs : MethodName := ⟨RX12, "weighs", "(II)I"⟩
def dkwX12_weighs_0 : List UInt8 := [28, 18, 9, 160, 0, 8, 16, 20, 167, 0, 7, 16, 20, 28, 100, 172]
abbrev dktX12_weighs_0 : List UInt8 := dkwX12_weighs_0 ++ []
theorem dksX12_weighs_0 : cX12_weighs.data.toList.drop 0 = dktX12_weighs_0 := by decide +kernel
theorem dX12_weighs_0 : decode cX12_weighs 0 = .ok (.iload_n 2, 1) := dk_28 (dk_at dksX12_weighs_0 0 rfl rfl)
theorem dX12_weighs_1 : decode cX12_weighs 1 = .ok (.ldc 9, 2) := dk_18 9 (dk_at dksX12_weighs_0 1 rfl rfl)
theorem dX12_weighs_3 : decode cX12_weighs 3 = .ok (.if_icmp .ne 8, 3) := dk_160 0 8 (dk_at dksX12_weighs_0 3 rfl rfl)
theorem dX12_weighs_6 : decode cX12_weighs 6 = .ok (.bipush 20, 2) := dk_16 20 (dk_at dksX12_weighs_0 6 rfl rfl)
theorem dX12_weighs_8 : decode cX12_weighs 8 = .ok (.goto 7, 3) := dk_167 0 7 (dk_at dksX12_weighs_0 8 rfl rfl)
theorem dX12_weighs_11 : decode cX12_weighs 11 = .ok (.bipush 20, 2) := dk_16 20 (dk_at dksX12_weighs_0 11 rfl rfl)
theorem dX12_weighs_13 : decode cX12_weighs 13 = .ok (.iload_n 2, 1) := dk_28 (dk_at dksX12_weighs_0 13 rfl rfl)
theorem dX12_weighs_14 : decode cX12_weighs 14 = .ok (.isub, 1) := dk_100 (dk_at dksX12_weighs_0 14 rfl rfl)
theorem dX12_weighs_15 : decode cX12_weighs 15 = .ok (.ireturn, 1) := dk_172 (dk_at dksX12_weighs_0 15 rfl rfl)
abbrev cX12_kind : ByteArray := prog_2_method_2_code
def yX12_kind : MethodName := ⟨RX12, "kind", "()I"⟩
theorem dX12_kind_0 : decode cX12_kind 0 = .ok (.iconst 5, 1) := by decide +kernel
theorem dX12_kind_1 : decode cX12_kind 1 = .ok (.ireturn, 1) := by decide +kernel
abbrev cX12_size : ByteArray := prog_2_method_4_code
def yX12_size : MethodName := ⟨RX12, "size", "(LPromiseScales$Trail;LPromiseScales$Held;)I"⟩
def dkwX12_size_0 : List UInt8 := [43, 16, 14, 182, 0, 10, 5, 42, 43, 44, 183, 0, 16, 104, 172]
abbrev dktX12_size_0 : List UInt8 := dkwX12_size_0 ++ []
theorem dksX12_size_0 : cX12_size.data.toList.drop 0 = dktX12_size_0 := by decide +kernel
theorem dX12_size_0 : decode cX12_size 0 = .ok (.aload_n 1, 1) := dk_43 (dk_at dksX12_size_0 0 rfl rfl)
theorem dX12_size_1 : decode cX12_size 1 = .ok (.bipush 14, 2) := dk_16 14 (dk_at dksX12_size_0 1 rfl rfl)
theorem dX12_size_3 : decode cX12_size 3 = .ok (.invokevirtual 10, 3) := dk_182 0 10 (dk_at dksX12_size_0 3 rfl rfl)
theorem dX12_size_6 : decode cX12_size 6 = .ok (.iconst 2, 1) := dk_5 (dk_at dksX12_size_0 6 rfl rfl)
theorem dX12_size_7 : decode cX12_size 7 = .ok (.aload_n 0, 1) := dk_42 (dk_at dksX12_size_0 7 rfl rfl)
theorem dX12_size_8 : decode cX12_size 8 = .ok (.aload_n 1, 1) := dk_43 (dk_at dksX12_size_0 8 rfl rfl)
theorem dX12_size_9 : decode cX12_size 9 = .ok (.aload_n 2, 1) := dk_44 (dk_at dksX12_size_0 9 rfl rfl)
theorem dX12_size_10 : decode cX12_size 10 = .ok (.invokespecial 16, 3) := dk_183 0 16 (dk_at dksX12_size_0 10 rfl rfl)
theorem dX12_size_13 : decode cX12_size 13 = .ok (.imul, 1) := dk_104 (dk_at dksX12_size_0 13 rfl rfl)
theorem dX12_size_14 : decode cX12_size 14 = .ok (.ireturn, 1) := dk_172 (dk_at dksX12_size_0 14 rfl rfl)
theorem q98 : (Jvm.Cond.initialized "PromiseScales$About") ∈ lw_all := lw_g (lw_at lw_m1 31 rfl) rfl
theorem q731 : (Jvm.Cond.instantiable "PromiseScales$About" (5 : Nat)) ∈ lw_all := lw_g (lw_at lw_m3 184 rfl) rfl
theorem q733 : (Jvm.Cond.instanceMethod ({ cls := "PromiseScales$About", name := "<init>", desc := "(IIIII)V" } : Jvm.MethodName)) ∈ lw_all := lw_g (lw_at lw_m3 186 rfl) rfl
theorem q734 : (Jvm.Cond.code ({ cls := "PromiseScales$About", name := "<init>", desc := "(IIIII)V" } : Jvm.MethodName) prog_2_method_1_code (6 : Nat) (Option.none : Option Jvm.ClassFile.FieldType)) ∈ lw_all := lw_g (lw_at lw_m3 187 rfl) rfl
theorem q735 : (Jvm.Cond.methodLink "PromiseScales$About" (3 : Nat) ({ cls := "PromiseScales$Oath", name := "<init>", desc := "(IIIII)V" } : Jvm.MethodName)) ∈ lw_all := lw_g (lw_at lw_m3 188 rfl) rfl
theorem q736 : (Jvm.Cond.laysFinal "PromiseScales$About" "PromiseScales$Promise" "number" "I") ∈ lw_all := lw_g (lw_at lw_m3 189 rfl) rfl
theorem q737 : (Jvm.Cond.laysFinal "PromiseScales$About" "PromiseScales$Promise" "likely" "I") ∈ lw_all := lw_g (lw_at lw_m3 190 rfl) rfl
theorem q738 : (Jvm.Cond.laysFinal "PromiseScales$About" "PromiseScales$Promise" "giver" "I") ∈ lw_all := lw_g (lw_at lw_m3 191 rfl) rfl
theorem q739 : (Jvm.Cond.laysFinal "PromiseScales$About" "PromiseScales$Promise" "deed" "I") ∈ lw_all := lw_g (lw_at lw_m3 192 rfl) rfl
theorem q740 : (Jvm.Cond.laysFinal "PromiseScales$About" "PromiseScales$Promise" "day" "I") ∈ lw_all := lw_g (lw_at lw_m3 193 rfl) rfl
theorem q741 : (Jvm.Cond.superclass "PromiseScales$About" "PromiseScales$Oath") ∈ lw_all := lw_g (lw_at lw_m3 194 rfl) rfl
theorem q778 : (Jvm.Cond.selects "PromiseScales$About" ({ cls := "java/lang/Object", name := "getClass", desc := "()Ljava/lang/Class;" } : Jvm.MethodName) ({ cls := "java/lang/Object", name := "getClass", desc := "()Ljava/lang/Class;" } : Jvm.MethodName)) ∈ lw_all := lw_g (lw_at lw_m3 231 rfl) rfl
theorem q895 : (Jvm.Cond.selects "PromiseScales$About" ({ cls := "PromiseScales$Promise", name := "weighs", desc := "(II)I" } : Jvm.MethodName) ({ cls := "PromiseScales$About", name := "weighs", desc := "(II)I" } : Jvm.MethodName)) ∈ lw_all := lw_g (lw_at lw_m4 108 rfl) rfl
theorem q896 : (Jvm.Cond.instanceMethod ({ cls := "PromiseScales$About", name := "weighs", desc := "(II)I" } : Jvm.MethodName)) ∈ lw_all := lw_g (lw_at lw_m4 109 rfl) rfl
theorem q897 : (Jvm.Cond.code ({ cls := "PromiseScales$About", name := "weighs", desc := "(II)I" } : Jvm.MethodName) prog_2_method_3_code (3 : Nat) (Option.some Jvm.ClassFile.FieldType.int)) ∈ lw_all := lw_g (lw_at lw_m4 110 rfl) rfl
theorem q898 : (Jvm.Cond.constant "PromiseScales$About" (9 : Nat) (-1000000 : Int32)) ∈ lw_all := lw_g (lw_at lw_m4 111 rfl) rfl
theorem q951 : (Jvm.Cond.selects "PromiseScales$About" ({ cls := "PromiseScales$Promise", name := "likely", desc := "()I" } : Jvm.MethodName) ({ cls := "PromiseScales$Promise", name := "likely", desc := "()I" } : Jvm.MethodName)) ∈ lw_all := lw_g (lw_at lw_m4 164 rfl) rfl
theorem q1086 : (Jvm.Cond.selects "PromiseScales$About" ({ cls := "PromiseScales$Promise", name := "kind", desc := "()I" } : Jvm.MethodName) ({ cls := "PromiseScales$About", name := "kind", desc := "()I" } : Jvm.MethodName)) ∈ lw_all := lw_g (lw_at lw_m5 59 rfl) rfl
theorem q1087 : (Jvm.Cond.instanceMethod ({ cls := "PromiseScales$About", name := "kind", desc := "()I" } : Jvm.MethodName)) ∈ lw_all := lw_g (lw_at lw_m5 60 rfl) rfl
theorem q1088 : (Jvm.Cond.code ({ cls := "PromiseScales$About", name := "kind", desc := "()I" } : Jvm.MethodName) prog_2_method_2_code (1 : Nat) (Option.some Jvm.ClassFile.FieldType.int)) ∈ lw_all := lw_g (lw_at lw_m5 61 rfl) rfl
theorem q1150 : (Jvm.Cond.selects "PromiseScales$About" ({ cls := "PromiseScales$Promise", name := "number", desc := "()I" } : Jvm.MethodName) ({ cls := "PromiseScales$Promise", name := "number", desc := "()I" } : Jvm.MethodName)) ∈ lw_all := lw_g (lw_at lw_m5 123 rfl) rfl
theorem q1175 : (Jvm.Cond.selects "PromiseScales$About" ({ cls := "PromiseScales$Marked", name := "size", desc := "(LPromiseScales$Trail;LPromiseScales$Held;)I" } : Jvm.MethodName) ({ cls := "PromiseScales$About", name := "size", desc := "(LPromiseScales$Trail;LPromiseScales$Held;)I" } : Jvm.MethodName)) ∈ lw_all := lw_g (lw_at lw_m5 148 rfl) rfl
theorem q1176 : (Jvm.Cond.instanceMethod ({ cls := "PromiseScales$About", name := "size", desc := "(LPromiseScales$Trail;LPromiseScales$Held;)I" } : Jvm.MethodName)) ∈ lw_all := lw_g (lw_at lw_m5 149 rfl) rfl
theorem q1177 : (Jvm.Cond.code ({ cls := "PromiseScales$About", name := "size", desc := "(LPromiseScales$Trail;LPromiseScales$Held;)I" } : Jvm.MethodName) prog_2_method_4_code (3 : Nat) (Option.some Jvm.ClassFile.FieldType.int)) ∈ lw_all := lw_g (lw_at lw_m5 150 rfl) rfl
theorem q1178 : (Jvm.Cond.methodLink "PromiseScales$About" (10 : Nat) ({ cls := "PromiseScales$Trail", name := "begins", desc := "(I)V" } : Jvm.MethodName)) ∈ lw_all := lw_g (lw_at lw_m5 151 rfl) rfl
theorem q1182 : (Jvm.Cond.methodLink "PromiseScales$About" (16 : Nat) ({ cls := "PromiseScales$Oath", name := "size", desc := "(LPromiseScales$Trail;LPromiseScales$Held;)I" } : Jvm.MethodName)) ∈ lw_all := lw_g (lw_at lw_m5 155 rfl) rfl
theorem q1193 : (Jvm.Cond.castable "PromiseScales$About" "PromiseScales$Marked") ∈ lw_tbl := lw_at lw_m5 166 rfl
theorem q1194 : (Jvm.Cond.selects "PromiseScales$About" ({ cls := "PromiseScales$Marked", name := "likely", desc := "()I" } : Jvm.MethodName) ({ cls := "PromiseScales$Promise", name := "likely", desc := "()I" } : Jvm.MethodName)) ∈ lw_all := lw_g (lw_at lw_m5 167 rfl) rfl
theorem q1195 : (Jvm.Cond.unhidden "PromiseScales$About" "likely" "()I") ∈ lw_tbl := lw_at lw_m5 168 rfl
theorem q1233 : (Jvm.Cond.selects "PromiseScales$About" ({ cls := "PromiseScales$Marked", name := "number", desc := "()I" } : Jvm.MethodName) ({ cls := "PromiseScales$Promise", name := "number", desc := "()I" } : Jvm.MethodName)) ∈ lw_all := lw_g (lw_at lw_m5 206 rfl) rfl
theorem q1234 : (Jvm.Cond.unhidden "PromiseScales$About" "number" "()I") ∈ lw_tbl := lw_at lw_m5 207 rfl
theorem q1263 : (Jvm.Cond.selects "PromiseScales$About" ({ cls := "PromiseScales$Marked", name := "mark", desc := "(LPromiseScales$Trail;LPromiseScales$Held;)I" } : Jvm.MethodName) ({ cls := "PromiseScales$Oath", name := "mark", desc := "(LPromiseScales$Trail;LPromiseScales$Held;)I" } : Jvm.MethodName)) ∈ lw_all := lw_g (lw_at lw_m5 236 rfl) rfl
theorem q1679 : (Jvm.Cond.selects "PromiseScales$About" ({ cls := "PromiseScales$Oath", name := "size", desc := "(LPromiseScales$Trail;LPromiseScales$Held;)I" } : Jvm.MethodName) ({ cls := "PromiseScales$About", name := "size", desc := "(LPromiseScales$Trail;LPromiseScales$Held;)I" } : Jvm.MethodName)) ∈ lw_all := lw_g (lw_at lw_m7 172 rfl) rfl
theorem q1684 : (Jvm.Cond.castable "PromiseScales$About" "PromiseScales$Promise") ∈ lw_tbl := lw_at lw_m7 177 rfl
theorem q1691 : (Jvm.Cond.castable "PromiseScales$About" "PromiseScales$Oath") ∈ lw_tbl := lw_at lw_m7 184 rfl
theorem q1708 : (Jvm.Cond.castable "PromiseScales$About" "java/lang/Object") ∈ lw_tbl := lw_at lw_m7 201 rfl
theorem in_X12 : ∀ w ∈ wsX120, w ∈ lw_all := lw_in wsX120 [736, 737, 738, 739, 740] (by decide +kernel) (by decide +kernel)
/-! PromiseScales$Has -/
set_option maxRecDepth 100000
def RX13 : String := "PromiseScales$Has"
def TX13 : u_T := fun k => match k with
  | 0 => ("PromiseScales$Has", "promise", "I", true)
  | _ => ("PromiseScales$Has", "this$0", "LPromiseScales;", true)
def tyX13 : Nat → FieldType := fun k => match k with
  | 0 => .int
  | _ => .object "PromiseScales"
abbrev wsX130 : List Cond := u_ws RX13 TX13 2
theorem nmX13 : ∀ a, a < 2 → ∀ b, b < 2 → a ≠ b → (TX13 a).2.1 ≠ (TX13 b).2.1 := by decide +kernel
theorem tyX13_ok : ∀ k, k < 2 → parseFieldDescriptor (TX13 k).2.2.1 = some (tyX13 k) := by decide +kernel
abbrev cX13_init : ByteArray := prog_4_method_1_code
def yX13_init : MethodName := ⟨RX13, "<init>", "(LPromiseScales;I)V"⟩
def dkwX13_init_0 : List UInt8 := [42, 43, 181, 0, 1, 42, 183, 0, 7, 42, 28, 181, 0, 13, 177]
abbrev dktX13_init_0 : List UInt8 := dkwX13_init_0 ++ []
theorem dksX13_init_0 : cX13_init.data.toList.drop 0 = dktX13_init_0 := by decide +kernel
theorem dX13_init_0 : decode cX13_init 0 = .ok (.aload_n 0, 1) := dk_42 (dk_at dksX13_init_0 0 rfl rfl)
theorem dX13_init_1 : decode cX13_init 1 = .ok (.aload_n 1, 1) := dk_43 (dk_at dksX13_init_0 1 rfl rfl)
theorem dX13_init_2 : decode cX13_init 2 = .ok (.putfield 1, 3) := dk_181 0 1 (dk_at dksX13_init_0 2 rfl rfl)
theorem dX13_init_5 : decode cX13_init 5 = .ok (.aload_n 0, 1) := dk_42 (dk_at dksX13_init_0 5 rfl rfl)
theorem dX13_init_6 : decode cX13_init 6 = .ok (.invokespecial 7, 3) := dk_183 0 7 (dk_at dksX13_init_0 6 rfl rfl)
theorem dX13_init_9 : decode cX13_init 9 = .ok (.aload_n 0, 1) := dk_42 (dk_at dksX13_init_0 9 rfl rfl)
theorem dX13_init_10 : decode cX13_init 10 = .ok (.iload_n 2, 1) := dk_28 (dk_at dksX13_init_0 10 rfl rfl)
theorem dX13_init_11 : decode cX13_init 11 = .ok (.putfield 13, 3) := dk_181 0 13 (dk_at dksX13_init_0 11 rfl rfl)
theorem dX13_init_14 : decode cX13_init 14 = .ok (.return_, 1) := dk_177 (dk_at dksX13_init_0 14 rfl rfl)
abbrev cX13_weight : ByteArray := prog_4_method_2_code
def yX13_weight : MethodName := ⟨RX13, "weight", "()I"⟩
def dkwX13_weight_0 : List UInt8 := [42, 180, 0, 1, 180, 0, 17, 42, 180, 0, 13, 182, 0, 23, 172]
abbrev dktX13_weight_0 : List UInt8 := dkwX13_weight_0 ++ []
theorem dksX13_weight_0 : cX13_weight.data.toList.drop 0 = dktX13_weight_0 := by decide +kernel
theorem dX13_weight_0 : decode cX13_weight 0 = .ok (.aload_n 0, 1) := dk_42 (dk_at dksX13_weight_0 0 rfl rfl)
theorem dX13_weight_1 : decode cX13_weight 1 = .ok (.getfield 1, 3) := dk_180 0 1 (dk_at dksX13_weight_0 1 rfl rfl)
theorem dX13_weight_4 : decode cX13_weight 4 = .ok (.getfield 17, 3) := dk_180 0 17 (dk_at dksX13_weight_0 4 rfl rfl)
theorem dX13_weight_7 : decode cX13_weight 7 = .ok (.aload_n 0, 1) := dk_42 (dk_at dksX13_weight_0 7 rfl rfl)
theorem dX13_weight_8 : decode cX13_weight 8 = .ok (.getfield 13, 3) := dk_180 0 13 (dk_at dksX13_weight_0 8 rfl rfl)
theorem dX13_weight_11 : decode cX13_weight 11 = .ok (.invokevirtual 23, 3) := dk_182 0 23 (dk_at dksX13_weight_0 11 rfl rfl)
theorem dX13_weight_14 : decode cX13_weight 14 = .ok (.ireturn, 1) := dk_172 (dk_at dksX13_weight_0 14 rfl rfl)
theorem q104 : (Jvm.Cond.initialized "PromiseScales$Has") ∈ lw_all := lw_g (lw_at lw_m1 37 rfl) rfl
theorem q215 : (Jvm.Cond.fieldLinkNest "PromiseScales$Has" (17 : Nat) "PromiseScales" "scales" "LPromiseScales$Scales;" "PromiseScales") ∈ lw_tbl := lw_at lw_m1 148 rfl
theorem q780 : (Jvm.Cond.selects "PromiseScales$Has" ({ cls := "java/lang/Object", name := "getClass", desc := "()Ljava/lang/Class;" } : Jvm.MethodName) ({ cls := "java/lang/Object", name := "getClass", desc := "()Ljava/lang/Class;" } : Jvm.MethodName)) ∈ lw_all := lw_g (lw_at lw_m3 233 rfl) rfl
theorem q1161 : (Jvm.Cond.instantiable "PromiseScales$Has" (2 : Nat)) ∈ lw_all := lw_g (lw_at lw_m5 134 rfl) rfl
theorem q1163 : (Jvm.Cond.instanceMethod ({ cls := "PromiseScales$Has", name := "<init>", desc := "(LPromiseScales;I)V" } : Jvm.MethodName)) ∈ lw_all := lw_g (lw_at lw_m5 136 rfl) rfl
theorem q1164 : (Jvm.Cond.code ({ cls := "PromiseScales$Has", name := "<init>", desc := "(LPromiseScales;I)V" } : Jvm.MethodName) prog_4_method_1_code (3 : Nat) (Option.none : Option Jvm.ClassFile.FieldType)) ∈ lw_all := lw_g (lw_at lw_m5 137 rfl) rfl
theorem q1165 : (Jvm.Cond.methodLink "PromiseScales$Has" (7 : Nat) ({ cls := "java/lang/Object", name := "<init>", desc := "()V" } : Jvm.MethodName)) ∈ lw_all := lw_g (lw_at lw_m5 138 rfl) rfl
theorem q1166 : (Jvm.Cond.fieldLink "PromiseScales$Has" (13 : Nat) "PromiseScales$Has" "promise" "I") ∈ lw_all := lw_g (lw_at lw_m5 139 rfl) rfl
theorem q1167 : (Jvm.Cond.fieldLink "PromiseScales$Has" (1 : Nat) "PromiseScales$Has" "this$0" "LPromiseScales;") ∈ lw_all := lw_g (lw_at lw_m5 140 rfl) rfl
theorem q1168 : (Jvm.Cond.laysFinal "PromiseScales$Has" "PromiseScales$Has" "promise" "I") ∈ lw_all := lw_g (lw_at lw_m5 141 rfl) rfl
theorem q1169 : (Jvm.Cond.soleField "PromiseScales$Has" "promise") ∈ lw_all := lw_g (lw_at lw_m5 142 rfl) rfl
theorem q1170 : (Jvm.Cond.laysFinal "PromiseScales$Has" "PromiseScales$Has" "this$0" "LPromiseScales;") ∈ lw_all := lw_g (lw_at lw_m5 143 rfl) rfl
theorem q1171 : (Jvm.Cond.soleField "PromiseScales$Has" "this$0") ∈ lw_all := lw_g (lw_at lw_m5 144 rfl) rfl
theorem q1172 : (Jvm.Cond.superclass "PromiseScales$Has" "java/lang/Object") ∈ lw_all := lw_g (lw_at lw_m5 145 rfl) rfl
theorem q1248 : (Jvm.Cond.castable "PromiseScales$Has" "PromiseScales$Held") ∈ lw_tbl := lw_at lw_m5 221 rfl
theorem q1249 : (Jvm.Cond.selects "PromiseScales$Has" ({ cls := "PromiseScales$Held", name := "weight", desc := "()I" } : Jvm.MethodName) ({ cls := "PromiseScales$Has", name := "weight", desc := "()I" } : Jvm.MethodName)) ∈ lw_all := lw_g (lw_at lw_m5 222 rfl) rfl
theorem q1250 : (Jvm.Cond.unhidden "PromiseScales$Has" "weight" "()I") ∈ lw_tbl := lw_at lw_m5 223 rfl
theorem q1251 : (Jvm.Cond.instanceMethod ({ cls := "PromiseScales$Has", name := "weight", desc := "()I" } : Jvm.MethodName)) ∈ lw_all := lw_g (lw_at lw_m5 224 rfl) rfl
theorem q1252 : (Jvm.Cond.publicMethod ({ cls := "PromiseScales$Has", name := "weight", desc := "()I" } : Jvm.MethodName)) ∈ lw_tbl := lw_at lw_m5 225 rfl
theorem q1253 : (Jvm.Cond.code ({ cls := "PromiseScales$Has", name := "weight", desc := "()I" } : Jvm.MethodName) prog_4_method_2_code (1 : Nat) (Option.some Jvm.ClassFile.FieldType.int)) ∈ lw_all := lw_g (lw_at lw_m5 226 rfl) rfl
theorem q1254 : (Jvm.Cond.methodLink "PromiseScales$Has" (23 : Nat) ({ cls := "PromiseScales$Scales", name := "weight", desc := "(I)I" } : Jvm.MethodName)) ∈ lw_all := lw_g (lw_at lw_m5 227 rfl) rfl
theorem q1710 : (Jvm.Cond.castable "PromiseScales$Has" "java/lang/Object") ∈ lw_tbl := lw_at lw_m7 203 rfl
theorem in_X13 : ∀ w ∈ wsX130, w ∈ lw_all := lw_in wsX130 [1168, 1170] (by decide +kernel) (by decide +kernel)
/-! PromiseScales$Marked -/
set_option maxRecDepth 100000
def RX14 : String := "PromiseScales$Marked"
abbrev cX14_size : ByteArray := prog_7_method_3_code
def yX14_size : MethodName := ⟨RX14, "size", "(LPromiseScales$Trail;LPromiseScales$Held;)I"⟩
def dkwX14_size_0 : List UInt8 := [43, 16, 10, 182, 0, 1, 42, 185, 0, 7, 1, 0, 172]
abbrev dktX14_size_0 : List UInt8 := dkwX14_size_0 ++ []
theorem dksX14_size_0 : cX14_size.data.toList.drop 0 = dktX14_size_0 := by decide +kernel
theorem dX14_size_0 : decode cX14_size 0 = .ok (.aload_n 1, 1) := dk_43 (dk_at dksX14_size_0 0 rfl rfl)
theorem dX14_size_1 : decode cX14_size 1 = .ok (.bipush 10, 2) := dk_16 10 (dk_at dksX14_size_0 1 rfl rfl)
theorem dX14_size_3 : decode cX14_size 3 = .ok (.invokevirtual 1, 3) := dk_182 0 1 (dk_at dksX14_size_0 3 rfl rfl)
theorem dX14_size_6 : decode cX14_size 6 = .ok (.aload_n 0, 1) := dk_42 (dk_at dksX14_size_0 6 rfl rfl)
theorem dX14_size_7 : decode cX14_size 7 = .ok (.invokeinterface 7 1, 5) := by decide +kernel
theorem dX14_size_12 : decode cX14_size 12 = .ok (.ireturn, 1) := dk_172 (dk_at dksX14_size_0 12 rfl rfl)
abbrev cX14_mark : ByteArray := prog_7_method_4_code
def yX14_mark : MethodName := ⟨RX14, "mark", "(LPromiseScales$Trail;LPromiseScales$Held;)I"⟩
def dkwX14_mark_0 : List UInt8 := [43, 16, 20, 182, 0, 1, 42, 185, 0, 13, 1, 0, 172]
abbrev dktX14_mark_0 : List UInt8 := dkwX14_mark_0 ++ []
theorem dksX14_mark_0 : cX14_mark.data.toList.drop 0 = dktX14_mark_0 := by decide +kernel
theorem dX14_mark_0 : decode cX14_mark 0 = .ok (.aload_n 1, 1) := dk_43 (dk_at dksX14_mark_0 0 rfl rfl)
theorem dX14_mark_1 : decode cX14_mark 1 = .ok (.bipush 20, 2) := dk_16 20 (dk_at dksX14_mark_0 1 rfl rfl)
theorem dX14_mark_3 : decode cX14_mark 3 = .ok (.invokevirtual 1, 3) := dk_182 0 1 (dk_at dksX14_mark_0 3 rfl rfl)
theorem dX14_mark_6 : decode cX14_mark 6 = .ok (.aload_n 0, 1) := dk_42 (dk_at dksX14_mark_0 6 rfl rfl)
theorem dX14_mark_7 : decode cX14_mark 7 = .ok (.invokeinterface 13 1, 5) := by decide +kernel
theorem dX14_mark_12 : decode cX14_mark 12 = .ok (.ireturn, 1) := dk_172 (dk_at dksX14_mark_0 12 rfl rfl)
theorem q1174 : (Jvm.Cond.declares ({ cls := "PromiseScales$Marked", name := "size", desc := "(LPromiseScales$Trail;LPromiseScales$Held;)I" } : Jvm.MethodName)) ∈ lw_tbl := lw_at lw_m5 147 rfl
theorem q1186 : (Jvm.Cond.instanceMethod ({ cls := "PromiseScales$Marked", name := "size", desc := "(LPromiseScales$Trail;LPromiseScales$Held;)I" } : Jvm.MethodName)) ∈ lw_all := lw_g (lw_at lw_m5 159 rfl) rfl
theorem q1187 : (Jvm.Cond.code ({ cls := "PromiseScales$Marked", name := "size", desc := "(LPromiseScales$Trail;LPromiseScales$Held;)I" } : Jvm.MethodName) prog_7_method_3_code (3 : Nat) (Option.some Jvm.ClassFile.FieldType.int)) ∈ lw_all := lw_g (lw_at lw_m5 160 rfl) rfl
theorem q1188 : (Jvm.Cond.methodLink "PromiseScales$Marked" (1 : Nat) ({ cls := "PromiseScales$Trail", name := "begins", desc := "(I)V" } : Jvm.MethodName)) ∈ lw_all := lw_g (lw_at lw_m5 161 rfl) rfl
theorem q1189 : (Jvm.Cond.interfaceEntry "PromiseScales$Marked" (7 : Nat)) ∈ lw_tbl := lw_at lw_m5 162 rfl
theorem q1190 : (Jvm.Cond.methodLink "PromiseScales$Marked" (7 : Nat) ({ cls := "PromiseScales$Marked", name := "likely", desc := "()I" } : Jvm.MethodName)) ∈ lw_all := lw_g (lw_at lw_m5 163 rfl) rfl
theorem q1191 : (Jvm.Cond.interfaceMethod "PromiseScales$Marked" "PromiseScales$Marked" "likely" "()I") ∈ lw_tbl := lw_at lw_m5 164 rfl
theorem q1192 : (Jvm.Cond.declares ({ cls := "PromiseScales$Marked", name := "likely", desc := "()I" } : Jvm.MethodName)) ∈ lw_tbl := lw_at lw_m5 165 rfl
theorem q1226 : (Jvm.Cond.declares ({ cls := "PromiseScales$Marked", name := "mark", desc := "(LPromiseScales$Trail;LPromiseScales$Held;)I" } : Jvm.MethodName)) ∈ lw_tbl := lw_at lw_m5 199 rfl
theorem q1227 : (Jvm.Cond.instanceMethod ({ cls := "PromiseScales$Marked", name := "mark", desc := "(LPromiseScales$Trail;LPromiseScales$Held;)I" } : Jvm.MethodName)) ∈ lw_all := lw_g (lw_at lw_m5 200 rfl) rfl
theorem q1228 : (Jvm.Cond.code ({ cls := "PromiseScales$Marked", name := "mark", desc := "(LPromiseScales$Trail;LPromiseScales$Held;)I" } : Jvm.MethodName) prog_7_method_4_code (3 : Nat) (Option.some Jvm.ClassFile.FieldType.int)) ∈ lw_all := lw_g (lw_at lw_m5 201 rfl) rfl
theorem q1229 : (Jvm.Cond.interfaceEntry "PromiseScales$Marked" (13 : Nat)) ∈ lw_tbl := lw_at lw_m5 202 rfl
theorem q1230 : (Jvm.Cond.methodLink "PromiseScales$Marked" (13 : Nat) ({ cls := "PromiseScales$Marked", name := "number", desc := "()I" } : Jvm.MethodName)) ∈ lw_all := lw_g (lw_at lw_m5 203 rfl) rfl
theorem q1231 : (Jvm.Cond.interfaceMethod "PromiseScales$Marked" "PromiseScales$Marked" "number" "()I") ∈ lw_tbl := lw_at lw_m5 204 rfl
theorem q1232 : (Jvm.Cond.declares ({ cls := "PromiseScales$Marked", name := "number", desc := "()I" } : Jvm.MethodName)) ∈ lw_tbl := lw_at lw_m5 205 rfl
theorem q1682 : (Jvm.Cond.initialized "PromiseScales$Marked") ∈ lw_all := lw_g (lw_at lw_m7 175 rfl) rfl
