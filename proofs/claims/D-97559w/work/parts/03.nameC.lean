/-! PromiseScales -/
set_option maxRecDepth 100000
def RX0 : String := "PromiseScales"
def TX0 : u_T := fun k => match k with
  | 0 => ("PromiseScales", "rows", "[LPromiseScales$Shelf;", true)
  | 1 => ("PromiseScales", "tape", "[B", true)
  | 2 => ("PromiseScales", "taped", "I", false)
  | 3 => ("PromiseScales", "faultKind", "I", false)
  | 4 => ("PromiseScales", "scales", "LPromiseScales$Scales;", true)
  | 5 => ("PromiseScales", "then", "LPromiseScales$Scales;", true)
  | 6 => ("PromiseScales", "past", "[LPromiseScales$Scales;", true)
  | 7 => ("PromiseScales", "acts", "I", false)
  | 8 => ("PromiseScales", "images", "[LPromiseScales$Scales;", true)
  | 9 => ("PromiseScales", "trail", "LPromiseScales$Trail;", false)
  | _ => ("PromiseScales", "status", "I", false)
def tyX0 : Nat → FieldType := fun k => match k with
  | 0 => .array (.object "PromiseScales$Shelf")
  | 1 => .array .byte
  | 2 => .int
  | 3 => .int
  | 4 => .object "PromiseScales$Scales"
  | 5 => .object "PromiseScales$Scales"
  | 6 => .array (.object "PromiseScales$Scales")
  | 7 => .int
  | 8 => .array (.object "PromiseScales$Scales")
  | 9 => .object "PromiseScales$Trail"
  | _ => .int
abbrev wsX00 : List Cond := u_ws RX0 TX0 11
theorem nmX0 : ∀ a, a < 11 → ∀ b, b < 11 → a ≠ b → (TX0 a).2.1 ≠ (TX0 b).2.1 := by decide +kernel
theorem tyX0_ok : ∀ k, k < 11 → parseFieldDescriptor (TX0 k).2.2.1 = some (tyX0 k) := by decide +kernel
abbrev cX0_init : ByteArray := prog_1_method_7_code
def yX0_init : MethodName := ⟨RX0, "<init>", "()V"⟩
def dkwX0_init_2 : List UInt8 := [181, 0, 53, 42, 5, 189, 0, 43, 181, 0, 57, 42, 187, 0, 60, 89, 183, 0, 62, 181, 0, 63, 177]
abbrev dktX0_init_2 : List UInt8 := dkwX0_init_2 ++ []
def dkwX0_init_1 : List UInt8 := [183, 0, 45, 181, 0, 46, 42, 187, 0, 43, 89, 183, 0, 45, 181, 0, 50, 42, 16, 24, 189, 0, 43]
abbrev dktX0_init_1 : List UInt8 := dkwX0_init_1 ++ dktX0_init_2
def dkwX0_init_0 : List UInt8 := [42, 183, 0, 28, 42, 184, 0, 31, 181, 0, 35, 42, 16, 120, 188, 8, 181, 0, 39, 42, 187, 0, 43, 89]
abbrev dktX0_init_0 : List UInt8 := dkwX0_init_0 ++ dktX0_init_1
theorem dksX0_init_0 : cX0_init.data.toList.drop 0 = dktX0_init_0 := by decide +kernel
theorem dksX0_init_1 : cX0_init.data.toList.drop 24 = dktX0_init_1 := dk_seg dksX0_init_0 24 rfl rfl
theorem dksX0_init_2 : cX0_init.data.toList.drop 47 = dktX0_init_2 := dk_seg dksX0_init_1 23 rfl rfl
theorem dX0_init_0 : decode cX0_init 0 = .ok (.aload_n 0, 1) := dk_42 (dk_at dksX0_init_0 0 rfl rfl)
theorem dX0_init_1 : decode cX0_init 1 = .ok (.invokespecial 28, 3) := dk_183 0 28 (dk_at dksX0_init_0 1 rfl rfl)
theorem dX0_init_4 : decode cX0_init 4 = .ok (.aload_n 0, 1) := dk_42 (dk_at dksX0_init_0 4 rfl rfl)
theorem dX0_init_5 : decode cX0_init 5 = .ok (.invokestatic 31, 3) := dk_184 0 31 (dk_at dksX0_init_0 5 rfl rfl)
theorem dX0_init_8 : decode cX0_init 8 = .ok (.putfield 35, 3) := dk_181 0 35 (dk_at dksX0_init_0 8 rfl rfl)
theorem dX0_init_11 : decode cX0_init 11 = .ok (.aload_n 0, 1) := dk_42 (dk_at dksX0_init_0 11 rfl rfl)
theorem dX0_init_12 : decode cX0_init 12 = .ok (.bipush 120, 2) := dk_16 120 (dk_at dksX0_init_0 12 rfl rfl)
theorem dX0_init_14 : decode cX0_init 14 = .ok (.newarray .byte, 2) := dk_188_8 (dk_at dksX0_init_0 14 rfl rfl)
theorem dX0_init_16 : decode cX0_init 16 = .ok (.putfield 39, 3) := dk_181 0 39 (dk_at dksX0_init_0 16 rfl rfl)
theorem dX0_init_19 : decode cX0_init 19 = .ok (.aload_n 0, 1) := dk_42 (dk_at dksX0_init_0 19 rfl rfl)
theorem dX0_init_20 : decode cX0_init 20 = .ok (.new 43, 3) := dk_187 0 43 (dk_at dksX0_init_0 20 rfl rfl)
theorem dX0_init_23 : decode cX0_init 23 = .ok (.dup, 1) := dk_89 (dk_at dksX0_init_0 23 rfl rfl)
theorem dX0_init_24 : decode cX0_init 24 = .ok (.invokespecial 45, 3) := dk_183 0 45 (dk_at dksX0_init_1 0 rfl rfl)
theorem dX0_init_27 : decode cX0_init 27 = .ok (.putfield 46, 3) := dk_181 0 46 (dk_at dksX0_init_1 3 rfl rfl)
theorem dX0_init_30 : decode cX0_init 30 = .ok (.aload_n 0, 1) := dk_42 (dk_at dksX0_init_1 6 rfl rfl)
theorem dX0_init_31 : decode cX0_init 31 = .ok (.new 43, 3) := dk_187 0 43 (dk_at dksX0_init_1 7 rfl rfl)
theorem dX0_init_34 : decode cX0_init 34 = .ok (.dup, 1) := dk_89 (dk_at dksX0_init_1 10 rfl rfl)
theorem dX0_init_35 : decode cX0_init 35 = .ok (.invokespecial 45, 3) := dk_183 0 45 (dk_at dksX0_init_1 11 rfl rfl)
theorem dX0_init_38 : decode cX0_init 38 = .ok (.putfield 50, 3) := dk_181 0 50 (dk_at dksX0_init_1 14 rfl rfl)
theorem dX0_init_41 : decode cX0_init 41 = .ok (.aload_n 0, 1) := dk_42 (dk_at dksX0_init_1 17 rfl rfl)
theorem dX0_init_42 : decode cX0_init 42 = .ok (.bipush 24, 2) := dk_16 24 (dk_at dksX0_init_1 18 rfl rfl)
theorem dX0_init_44 : decode cX0_init 44 = .ok (.anewarray 43, 3) := dk_189 0 43 (dk_at dksX0_init_1 20 rfl rfl)
theorem dX0_init_47 : decode cX0_init 47 = .ok (.putfield 53, 3) := dk_181 0 53 (dk_at dksX0_init_2 0 rfl rfl)
theorem dX0_init_50 : decode cX0_init 50 = .ok (.aload_n 0, 1) := dk_42 (dk_at dksX0_init_2 3 rfl rfl)
theorem dX0_init_51 : decode cX0_init 51 = .ok (.iconst 2, 1) := dk_5 (dk_at dksX0_init_2 4 rfl rfl)
theorem dX0_init_52 : decode cX0_init 52 = .ok (.anewarray 43, 3) := dk_189 0 43 (dk_at dksX0_init_2 5 rfl rfl)
theorem dX0_init_55 : decode cX0_init 55 = .ok (.putfield 57, 3) := dk_181 0 57 (dk_at dksX0_init_2 8 rfl rfl)
theorem dX0_init_58 : decode cX0_init 58 = .ok (.aload_n 0, 1) := dk_42 (dk_at dksX0_init_2 11 rfl rfl)
theorem dX0_init_59 : decode cX0_init 59 = .ok (.new 60, 3) := dk_187 0 60 (dk_at dksX0_init_2 12 rfl rfl)
theorem dX0_init_62 : decode cX0_init 62 = .ok (.dup, 1) := dk_89 (dk_at dksX0_init_2 15 rfl rfl)
theorem dX0_init_63 : decode cX0_init 63 = .ok (.invokespecial 62, 3) := dk_183 0 62 (dk_at dksX0_init_2 16 rfl rfl)
theorem dX0_init_66 : decode cX0_init 66 = .ok (.putfield 63, 3) := dk_181 0 63 (dk_at dksX0_init_2 19 rfl rfl)
theorem dX0_init_69 : decode cX0_init 69 = .ok (.return_, 1) := dk_177 (dk_at dksX0_init_2 22 rfl rfl)
abbrev cX0_shelves : ByteArray := prog_1_method_6_code
def yX0_shelves : MethodName := ⟨RX0, "shelves", "()[LPromiseScales$Shelf;"⟩
def dkwX0_shelves_1 : List UInt8 := [132, 1, 1, 167, 255, 237, 42, 176]
abbrev dktX0_shelves_1 : List UInt8 := dkwX0_shelves_1 ++ []
def dkwX0_shelves_0 : List UInt8 := [16, 8, 189, 0, 23, 75, 3, 60, 27, 16, 8, 162, 0, 19, 42, 27, 187, 0, 23, 89, 183, 0, 25, 83]
abbrev dktX0_shelves_0 : List UInt8 := dkwX0_shelves_0 ++ dktX0_shelves_1
theorem dksX0_shelves_0 : cX0_shelves.data.toList.drop 0 = dktX0_shelves_0 := by decide +kernel
theorem dksX0_shelves_1 : cX0_shelves.data.toList.drop 24 = dktX0_shelves_1 := dk_seg dksX0_shelves_0 24 rfl rfl
theorem dX0_shelves_0 : decode cX0_shelves 0 = .ok (.bipush 8, 2) := dk_16 8 (dk_at dksX0_shelves_0 0 rfl rfl)
theorem dX0_shelves_2 : decode cX0_shelves 2 = .ok (.anewarray 23, 3) := dk_189 0 23 (dk_at dksX0_shelves_0 2 rfl rfl)
theorem dX0_shelves_5 : decode cX0_shelves 5 = .ok (.astore_n 0, 1) := dk_75 (dk_at dksX0_shelves_0 5 rfl rfl)
theorem dX0_shelves_6 : decode cX0_shelves 6 = .ok (.iconst 0, 1) := dk_3 (dk_at dksX0_shelves_0 6 rfl rfl)
theorem dX0_shelves_7 : decode cX0_shelves 7 = .ok (.istore_n 1, 1) := dk_60 (dk_at dksX0_shelves_0 7 rfl rfl)
theorem dX0_shelves_8 : decode cX0_shelves 8 = .ok (.iload_n 1, 1) := dk_27 (dk_at dksX0_shelves_0 8 rfl rfl)
theorem dX0_shelves_9 : decode cX0_shelves 9 = .ok (.bipush 8, 2) := dk_16 8 (dk_at dksX0_shelves_0 9 rfl rfl)
theorem dX0_shelves_11 : decode cX0_shelves 11 = .ok (.if_icmp .ge 19, 3) := dk_162 0 19 (dk_at dksX0_shelves_0 11 rfl rfl)
theorem dX0_shelves_14 : decode cX0_shelves 14 = .ok (.aload_n 0, 1) := dk_42 (dk_at dksX0_shelves_0 14 rfl rfl)
theorem dX0_shelves_15 : decode cX0_shelves 15 = .ok (.iload_n 1, 1) := dk_27 (dk_at dksX0_shelves_0 15 rfl rfl)
theorem dX0_shelves_16 : decode cX0_shelves 16 = .ok (.new 23, 3) := dk_187 0 23 (dk_at dksX0_shelves_0 16 rfl rfl)
theorem dX0_shelves_19 : decode cX0_shelves 19 = .ok (.dup, 1) := dk_89 (dk_at dksX0_shelves_0 19 rfl rfl)
theorem dX0_shelves_20 : decode cX0_shelves 20 = .ok (.invokespecial 25, 3) := dk_183 0 25 (dk_at dksX0_shelves_0 20 rfl rfl)
theorem dX0_shelves_23 : decode cX0_shelves 23 = .ok (.aastore, 1) := dk_83 (dk_at dksX0_shelves_0 23 rfl rfl)
theorem dX0_shelves_24 : decode cX0_shelves 24 = .ok (.iinc 1 1, 3) := dk_132 1 1 (dk_at dksX0_shelves_1 0 rfl rfl)
theorem dX0_shelves_27 : decode cX0_shelves 27 = .ok (.goto (-19), 3) := dk_167 255 237 (dk_at dksX0_shelves_1 3 rfl rfl)
theorem dX0_shelves_30 : decode cX0_shelves 30 = .ok (.aload_n 0, 1) := dk_42 (dk_at dksX0_shelves_1 6 rfl rfl)
theorem dX0_shelves_31 : decode cX0_shelves 31 = .ok (.areturn, 1) := dk_176 (dk_at dksX0_shelves_1 7 rfl rfl)
abbrev cX0_row : ByteArray := prog_1_method_12_code
def yX0_row : MethodName := ⟨RX0, "row", "(III)I"⟩
def dkwX0_row_2 : List UInt8 := [182, 0, 93, 172, 58, 4, 42, 7, 182, 0, 99, 172]
abbrev dktX0_row_2 : List UInt8 := dkwX0_row_2 ++ []
def dkwX0_row_1 : List UInt8 := [164, 0, 6, 18, 84, 172, 42, 180, 0, 35, 27, 50, 28, 29, 184, 0, 85, 181, 0, 89, 42, 29]
abbrev dktX0_row_1 : List UInt8 := dkwX0_row_1 ++ dktX0_row_2
def dkwX0_row_0 : List UInt8 := [27, 184, 0, 78, 153, 0, 21, 28, 133, 9, 20, 0, 82, 184, 0, 74, 153, 0, 9, 29, 16, 40]
abbrev dktX0_row_0 : List UInt8 := dkwX0_row_0 ++ dktX0_row_1
theorem dksX0_row_0 : cX0_row.data.toList.drop 0 = dktX0_row_0 := by decide +kernel
theorem dksX0_row_1 : cX0_row.data.toList.drop 22 = dktX0_row_1 := dk_seg dksX0_row_0 22 rfl rfl
theorem dksX0_row_2 : cX0_row.data.toList.drop 44 = dktX0_row_2 := dk_seg dksX0_row_1 22 rfl rfl
theorem dX0_row_0 : decode cX0_row 0 = .ok (.iload_n 1, 1) := dk_27 (dk_at dksX0_row_0 0 rfl rfl)
theorem dX0_row_1 : decode cX0_row 1 = .ok (.invokestatic 78, 3) := dk_184 0 78 (dk_at dksX0_row_0 1 rfl rfl)
theorem dX0_row_4 : decode cX0_row 4 = .ok (.ifCond .eq 21, 3) := dk_153 0 21 (dk_at dksX0_row_0 4 rfl rfl)
theorem dX0_row_7 : decode cX0_row 7 = .ok (.iload_n 2, 1) := dk_28 (dk_at dksX0_row_0 7 rfl rfl)
theorem dX0_row_8 : decode cX0_row 8 = .ok (.i2l, 1) := dk_133 (dk_at dksX0_row_0 8 rfl rfl)
theorem dX0_row_9 : decode cX0_row 9 = .ok (.lconst 0, 1) := dk_9 (dk_at dksX0_row_0 9 rfl rfl)
theorem dX0_row_10 : decode cX0_row 10 = .ok (.ldc2_w 82, 3) := dk_20 0 82 (dk_at dksX0_row_0 10 rfl rfl)
theorem dX0_row_13 : decode cX0_row 13 = .ok (.invokestatic 74, 3) := dk_184 0 74 (dk_at dksX0_row_0 13 rfl rfl)
theorem dX0_row_16 : decode cX0_row 16 = .ok (.ifCond .eq 9, 3) := dk_153 0 9 (dk_at dksX0_row_0 16 rfl rfl)
theorem dX0_row_19 : decode cX0_row 19 = .ok (.iload_n 3, 1) := dk_29 (dk_at dksX0_row_0 19 rfl rfl)
theorem dX0_row_20 : decode cX0_row 20 = .ok (.bipush 40, 2) := dk_16 40 (dk_at dksX0_row_0 20 rfl rfl)
theorem dX0_row_22 : decode cX0_row 22 = .ok (.if_icmp .le 6, 3) := dk_164 0 6 (dk_at dksX0_row_1 0 rfl rfl)
theorem dX0_row_25 : decode cX0_row 25 = .ok (.ldc 84, 2) := dk_18 84 (dk_at dksX0_row_1 3 rfl rfl)
theorem dX0_row_27 : decode cX0_row 27 = .ok (.ireturn, 1) := dk_172 (dk_at dksX0_row_1 5 rfl rfl)
theorem dX0_row_28 : decode cX0_row 28 = .ok (.aload_n 0, 1) := dk_42 (dk_at dksX0_row_1 6 rfl rfl)
theorem dX0_row_29 : decode cX0_row 29 = .ok (.getfield 35, 3) := dk_180 0 35 (dk_at dksX0_row_1 7 rfl rfl)
theorem dX0_row_32 : decode cX0_row 32 = .ok (.iload_n 1, 1) := dk_27 (dk_at dksX0_row_1 10 rfl rfl)
theorem dX0_row_33 : decode cX0_row 33 = .ok (.aaload, 1) := dk_50 (dk_at dksX0_row_1 11 rfl rfl)
theorem dX0_row_34 : decode cX0_row 34 = .ok (.iload_n 2, 1) := dk_28 (dk_at dksX0_row_1 12 rfl rfl)
theorem dX0_row_35 : decode cX0_row 35 = .ok (.iload_n 3, 1) := dk_29 (dk_at dksX0_row_1 13 rfl rfl)
theorem dX0_row_36 : decode cX0_row 36 = .ok (.invokestatic 85, 3) := dk_184 0 85 (dk_at dksX0_row_1 14 rfl rfl)
theorem dX0_row_39 : decode cX0_row 39 = .ok (.putfield 89, 3) := dk_181 0 89 (dk_at dksX0_row_1 17 rfl rfl)
theorem dX0_row_42 : decode cX0_row 42 = .ok (.aload_n 0, 1) := dk_42 (dk_at dksX0_row_1 20 rfl rfl)
theorem dX0_row_43 : decode cX0_row 43 = .ok (.iload_n 3, 1) := dk_29 (dk_at dksX0_row_1 21 rfl rfl)
theorem dX0_row_44 : decode cX0_row 44 = .ok (.invokevirtual 93, 3) := dk_182 0 93 (dk_at dksX0_row_2 0 rfl rfl)
theorem dX0_row_47 : decode cX0_row 47 = .ok (.ireturn, 1) := dk_172 (dk_at dksX0_row_2 3 rfl rfl)
theorem dX0_row_48 : decode cX0_row 48 = .ok (.astore 4, 2) := dk_58 4 (dk_at dksX0_row_2 4 rfl rfl)
theorem dX0_row_50 : decode cX0_row 50 = .ok (.aload_n 0, 1) := dk_42 (dk_at dksX0_row_2 6 rfl rfl)
theorem dX0_row_51 : decode cX0_row 51 = .ok (.iconst 4, 1) := dk_7 (dk_at dksX0_row_2 7 rfl rfl)
theorem dX0_row_52 : decode cX0_row 52 = .ok (.invokevirtual 99, 3) := dk_182 0 99 (dk_at dksX0_row_2 8 rfl rfl)
theorem dX0_row_55 : decode cX0_row 55 = .ok (.ireturn, 1) := dk_172 (dk_at dksX0_row_2 11 rfl rfl)
abbrev cX0_isRow : ByteArray := prog_1_method_10_code
def yX0_isRow : MethodName := ⟨RX0, "isRow", "(I)Z"⟩
def dkwX0_isRow_0 : List UInt8 := [26, 133, 9, 20, 0, 72, 184, 0, 74, 172]
abbrev dktX0_isRow_0 : List UInt8 := dkwX0_isRow_0 ++ []
theorem dksX0_isRow_0 : cX0_isRow.data.toList.drop 0 = dktX0_isRow_0 := by decide +kernel
theorem dX0_isRow_0 : decode cX0_isRow 0 = .ok (.iload_n 0, 1) := dk_26 (dk_at dksX0_isRow_0 0 rfl rfl)
theorem dX0_isRow_1 : decode cX0_isRow 1 = .ok (.i2l, 1) := dk_133 (dk_at dksX0_isRow_0 1 rfl rfl)
theorem dX0_isRow_2 : decode cX0_isRow 2 = .ok (.lconst 0, 1) := dk_9 (dk_at dksX0_isRow_0 2 rfl rfl)
theorem dX0_isRow_3 : decode cX0_isRow 3 = .ok (.ldc2_w 72, 3) := dk_20 0 72 (dk_at dksX0_isRow_0 3 rfl rfl)
theorem dX0_isRow_6 : decode cX0_isRow 6 = .ok (.invokestatic 74, 3) := dk_184 0 74 (dk_at dksX0_isRow_0 6 rfl rfl)
theorem dX0_isRow_9 : decode cX0_isRow 9 = .ok (.ireturn, 1) := dk_172 (dk_at dksX0_isRow_0 9 rfl rfl)
abbrev cX0_isIn : ByteArray := prog_1_method_1_code
def yX0_isIn : MethodName := ⟨RX0, "isIn", "(JJJ)Z"⟩
def dkwX0_isIn_0 : List UInt8 := [30, 32, 148, 155, 0, 14, 30, 22, 4, 148, 157, 0, 7, 4, 167, 0, 4, 3, 172]
abbrev dktX0_isIn_0 : List UInt8 := dkwX0_isIn_0 ++ []
theorem dksX0_isIn_0 : cX0_isIn.data.toList.drop 0 = dktX0_isIn_0 := by decide +kernel
theorem dX0_isIn_0 : decode cX0_isIn 0 = .ok (.lload_n 0, 1) := dk_30 (dk_at dksX0_isIn_0 0 rfl rfl)
theorem dX0_isIn_1 : decode cX0_isIn 1 = .ok (.lload_n 2, 1) := dk_32 (dk_at dksX0_isIn_0 1 rfl rfl)
theorem dX0_isIn_2 : decode cX0_isIn 2 = .ok (.lcmp, 1) := dk_148 (dk_at dksX0_isIn_0 2 rfl rfl)
theorem dX0_isIn_3 : decode cX0_isIn 3 = .ok (.ifCond .lt 14, 3) := dk_155 0 14 (dk_at dksX0_isIn_0 3 rfl rfl)
theorem dX0_isIn_6 : decode cX0_isIn 6 = .ok (.lload_n 0, 1) := dk_30 (dk_at dksX0_isIn_0 6 rfl rfl)
theorem dX0_isIn_7 : decode cX0_isIn 7 = .ok (.lload 4, 2) := dk_22 4 (dk_at dksX0_isIn_0 7 rfl rfl)
theorem dX0_isIn_9 : decode cX0_isIn 9 = .ok (.lcmp, 1) := dk_148 (dk_at dksX0_isIn_0 9 rfl rfl)
theorem dX0_isIn_10 : decode cX0_isIn 10 = .ok (.ifCond .gt 7, 3) := dk_157 0 7 (dk_at dksX0_isIn_0 10 rfl rfl)
theorem dX0_isIn_13 : decode cX0_isIn 13 = .ok (.iconst 1, 1) := dk_4 (dk_at dksX0_isIn_0 13 rfl rfl)
theorem dX0_isIn_14 : decode cX0_isIn 14 = .ok (.goto 4, 3) := dk_167 0 4 (dk_at dksX0_isIn_0 14 rfl rfl)
theorem dX0_isIn_17 : decode cX0_isIn 17 = .ok (.iconst 0, 1) := dk_3 (dk_at dksX0_isIn_0 17 rfl rfl)
theorem dX0_isIn_18 : decode cX0_isIn 18 = .ok (.ireturn, 1) := dk_172 (dk_at dksX0_isIn_0 18 rfl rfl)
abbrev cX0_newLane : ByteArray := prog_1_method_11_code
def yX0_newLane : MethodName := ⟨RX0, "newLane", "(II)Ljava/lang/Object;"⟩
def dkwX0_newLane_1 : List UInt8 := [176]
abbrev dktX0_newLane_1 : List UInt8 := dkwX0_newLane_1 ++ []
def dkwX0_newLane_0 : List UInt8 := [26, 154, 0, 9, 27, 188, 8, 167, 0, 17, 26, 4, 160, 0, 9, 27, 188, 9, 167, 0, 6, 27, 188, 10]
abbrev dktX0_newLane_0 : List UInt8 := dkwX0_newLane_0 ++ dktX0_newLane_1
theorem dksX0_newLane_0 : cX0_newLane.data.toList.drop 0 = dktX0_newLane_0 := by decide +kernel
theorem dksX0_newLane_1 : cX0_newLane.data.toList.drop 24 = dktX0_newLane_1 := dk_seg dksX0_newLane_0 24 rfl rfl
theorem dX0_newLane_0 : decode cX0_newLane 0 = .ok (.iload_n 0, 1) := dk_26 (dk_at dksX0_newLane_0 0 rfl rfl)
theorem dX0_newLane_1 : decode cX0_newLane 1 = .ok (.ifCond .ne 9, 3) := dk_154 0 9 (dk_at dksX0_newLane_0 1 rfl rfl)
theorem dX0_newLane_4 : decode cX0_newLane 4 = .ok (.iload_n 1, 1) := dk_27 (dk_at dksX0_newLane_0 4 rfl rfl)
theorem dX0_newLane_5 : decode cX0_newLane 5 = .ok (.newarray .byte, 2) := dk_188_8 (dk_at dksX0_newLane_0 5 rfl rfl)
theorem dX0_newLane_7 : decode cX0_newLane 7 = .ok (.goto 17, 3) := dk_167 0 17 (dk_at dksX0_newLane_0 7 rfl rfl)
theorem dX0_newLane_10 : decode cX0_newLane 10 = .ok (.iload_n 0, 1) := dk_26 (dk_at dksX0_newLane_0 10 rfl rfl)
theorem dX0_newLane_11 : decode cX0_newLane 11 = .ok (.iconst 1, 1) := dk_4 (dk_at dksX0_newLane_0 11 rfl rfl)
theorem dX0_newLane_12 : decode cX0_newLane 12 = .ok (.if_icmp .ne 9, 3) := dk_160 0 9 (dk_at dksX0_newLane_0 12 rfl rfl)
theorem dX0_newLane_15 : decode cX0_newLane 15 = .ok (.iload_n 1, 1) := dk_27 (dk_at dksX0_newLane_0 15 rfl rfl)
theorem dX0_newLane_16 : decode cX0_newLane 16 = .ok (.newarray .short, 2) := dk_188_9 (dk_at dksX0_newLane_0 16 rfl rfl)
theorem dX0_newLane_18 : decode cX0_newLane 18 = .ok (.goto 6, 3) := dk_167 0 6 (dk_at dksX0_newLane_0 18 rfl rfl)
theorem dX0_newLane_21 : decode cX0_newLane 21 = .ok (.iload_n 1, 1) := dk_27 (dk_at dksX0_newLane_0 21 rfl rfl)
theorem dX0_newLane_22 : decode cX0_newLane 22 = .ok (.newarray .int, 2) := dk_188_10 (dk_at dksX0_newLane_0 22 rfl rfl)
theorem dX0_newLane_24 : decode cX0_newLane 24 = .ok (.areturn, 1) := dk_176 (dk_at dksX0_newLane_1 0 rfl rfl)
abbrev cX0_well : ByteArray := prog_1_method_9_code
def yX0_well : MethodName := ⟨RX0, "well", "(I)I"⟩
def dkwX0_well_0 : List UInt8 := [42, 3, 181, 0, 67, 27, 172]
abbrev dktX0_well_0 : List UInt8 := dkwX0_well_0 ++ []
theorem dksX0_well_0 : cX0_well.data.toList.drop 0 = dktX0_well_0 := by decide +kernel
theorem dX0_well_0 : decode cX0_well 0 = .ok (.aload_n 0, 1) := dk_42 (dk_at dksX0_well_0 0 rfl rfl)
theorem dX0_well_1 : decode cX0_well 1 = .ok (.iconst 0, 1) := dk_3 (dk_at dksX0_well_0 1 rfl rfl)
theorem dX0_well_2 : decode cX0_well 2 = .ok (.putfield 67, 3) := dk_181 0 67 (dk_at dksX0_well_0 2 rfl rfl)
theorem dX0_well_5 : decode cX0_well 5 = .ok (.iload_n 1, 1) := dk_27 (dk_at dksX0_well_0 5 rfl rfl)
theorem dX0_well_6 : decode cX0_well 6 = .ok (.ireturn, 1) := dk_172 (dk_at dksX0_well_0 6 rfl rfl)
abbrev cX0_finds : ByteArray := prog_1_method_8_code
def yX0_finds : MethodName := ⟨RX0, "finds", "(I)I"⟩
def dkwX0_finds_0 : List UInt8 := [42, 27, 181, 0, 67, 18, 71, 27, 100, 172]
abbrev dktX0_finds_0 : List UInt8 := dkwX0_finds_0 ++ []
theorem dksX0_finds_0 : cX0_finds.data.toList.drop 0 = dktX0_finds_0 := by decide +kernel
theorem dX0_finds_0 : decode cX0_finds 0 = .ok (.aload_n 0, 1) := dk_42 (dk_at dksX0_finds_0 0 rfl rfl)
theorem dX0_finds_1 : decode cX0_finds 1 = .ok (.iload_n 1, 1) := dk_27 (dk_at dksX0_finds_0 1 rfl rfl)
theorem dX0_finds_2 : decode cX0_finds 2 = .ok (.putfield 67, 3) := dk_181 0 67 (dk_at dksX0_finds_0 2 rfl rfl)
theorem dX0_finds_5 : decode cX0_finds 5 = .ok (.ldc 71, 2) := dk_18 71 (dk_at dksX0_finds_0 5 rfl rfl)
theorem dX0_finds_7 : decode cX0_finds 7 = .ok (.iload_n 1, 1) := dk_27 (dk_at dksX0_finds_0 7 rfl rfl)
theorem dX0_finds_8 : decode cX0_finds 8 = .ok (.isub, 1) := dk_100 (dk_at dksX0_finds_0 8 rfl rfl)
theorem dX0_finds_9 : decode cX0_finds 9 = .ok (.ireturn, 1) := dk_172 (dk_at dksX0_finds_0 9 rfl rfl)
abbrev cX0_set : ByteArray := prog_1_method_13_code
def yX0_set : MethodName := ⟨RX0, "set", "(III)I"⟩
def dkwX0_set_1 : List UInt8 := [182, 0, 93, 172, 58, 4, 42, 4, 182, 0, 99, 172, 58, 4, 42, 5, 182, 0, 99, 172]
abbrev dktX0_set_1 : List UInt8 := dkwX0_set_1 ++ []
def dkwX0_set_0 : List UInt8 := [27, 184, 0, 78, 154, 0, 6, 18, 84, 172, 42, 42, 180, 0, 35, 27, 50, 28, 29, 182, 0, 102]
abbrev dktX0_set_0 : List UInt8 := dkwX0_set_0 ++ dktX0_set_1
theorem dksX0_set_0 : cX0_set.data.toList.drop 0 = dktX0_set_0 := by decide +kernel
theorem dksX0_set_1 : cX0_set.data.toList.drop 22 = dktX0_set_1 := dk_seg dksX0_set_0 22 rfl rfl
theorem dX0_set_0 : decode cX0_set 0 = .ok (.iload_n 1, 1) := dk_27 (dk_at dksX0_set_0 0 rfl rfl)
theorem dX0_set_1 : decode cX0_set 1 = .ok (.invokestatic 78, 3) := dk_184 0 78 (dk_at dksX0_set_0 1 rfl rfl)
theorem dX0_set_4 : decode cX0_set 4 = .ok (.ifCond .ne 6, 3) := dk_154 0 6 (dk_at dksX0_set_0 4 rfl rfl)
theorem dX0_set_7 : decode cX0_set 7 = .ok (.ldc 84, 2) := dk_18 84 (dk_at dksX0_set_0 7 rfl rfl)
theorem dX0_set_9 : decode cX0_set 9 = .ok (.ireturn, 1) := dk_172 (dk_at dksX0_set_0 9 rfl rfl)
theorem dX0_set_10 : decode cX0_set 10 = .ok (.aload_n 0, 1) := dk_42 (dk_at dksX0_set_0 10 rfl rfl)
theorem dX0_set_11 : decode cX0_set 11 = .ok (.aload_n 0, 1) := dk_42 (dk_at dksX0_set_0 11 rfl rfl)
theorem dX0_set_12 : decode cX0_set 12 = .ok (.getfield 35, 3) := dk_180 0 35 (dk_at dksX0_set_0 12 rfl rfl)
theorem dX0_set_15 : decode cX0_set 15 = .ok (.iload_n 1, 1) := dk_27 (dk_at dksX0_set_0 15 rfl rfl)
theorem dX0_set_16 : decode cX0_set 16 = .ok (.aaload, 1) := dk_50 (dk_at dksX0_set_0 16 rfl rfl)
theorem dX0_set_17 : decode cX0_set 17 = .ok (.iload_n 2, 1) := dk_28 (dk_at dksX0_set_0 17 rfl rfl)
theorem dX0_set_18 : decode cX0_set 18 = .ok (.iload_n 3, 1) := dk_29 (dk_at dksX0_set_0 18 rfl rfl)
theorem dX0_set_19 : decode cX0_set 19 = .ok (.invokevirtual 102, 3) := dk_182 0 102 (dk_at dksX0_set_0 19 rfl rfl)
theorem dX0_set_22 : decode cX0_set 22 = .ok (.invokevirtual 93, 3) := dk_182 0 93 (dk_at dksX0_set_1 0 rfl rfl)
theorem dX0_set_25 : decode cX0_set 25 = .ok (.ireturn, 1) := dk_172 (dk_at dksX0_set_1 3 rfl rfl)
theorem dX0_set_26 : decode cX0_set 26 = .ok (.astore 4, 2) := dk_58 4 (dk_at dksX0_set_1 4 rfl rfl)
theorem dX0_set_28 : decode cX0_set 28 = .ok (.aload_n 0, 1) := dk_42 (dk_at dksX0_set_1 6 rfl rfl)
theorem dX0_set_29 : decode cX0_set 29 = .ok (.iconst 1, 1) := dk_4 (dk_at dksX0_set_1 7 rfl rfl)
theorem dX0_set_30 : decode cX0_set 30 = .ok (.invokevirtual 99, 3) := dk_182 0 99 (dk_at dksX0_set_1 8 rfl rfl)
theorem dX0_set_33 : decode cX0_set 33 = .ok (.ireturn, 1) := dk_172 (dk_at dksX0_set_1 11 rfl rfl)
theorem dX0_set_34 : decode cX0_set 34 = .ok (.astore 4, 2) := dk_58 4 (dk_at dksX0_set_1 12 rfl rfl)
theorem dX0_set_36 : decode cX0_set 36 = .ok (.aload_n 0, 1) := dk_42 (dk_at dksX0_set_1 14 rfl rfl)
theorem dX0_set_37 : decode cX0_set 37 = .ok (.iconst 2, 1) := dk_5 (dk_at dksX0_set_1 15 rfl rfl)
theorem dX0_set_38 : decode cX0_set 38 = .ok (.invokevirtual 99, 3) := dk_182 0 99 (dk_at dksX0_set_1 16 rfl rfl)
theorem dX0_set_41 : decode cX0_set 41 = .ok (.ireturn, 1) := dk_172 (dk_at dksX0_set_1 19 rfl rfl)
abbrev cX0_copy : ByteArray := prog_1_method_14_code
def yX0_copy : MethodName := ⟨RX0, "copy", "(IIIII)I"⟩
def dkwX0_copy_3 : List UInt8 := [182, 0, 99, 172]
abbrev dktX0_copy_3 : List UInt8 := dkwX0_copy_3 ++ []
def dkwX0_copy_2 : List UInt8 := [182, 0, 93, 172, 58, 6, 42, 4, 182, 0, 99, 172, 58, 6, 42, 8, 182, 0, 99, 172, 58, 6, 42, 5]
abbrev dktX0_copy_2 : List UInt8 := dkwX0_copy_2 ++ dktX0_copy_3
def dkwX0_copy_1 : List UInt8 := [180, 0, 89, 28, 42, 180, 0, 35, 29, 50, 180, 0, 89, 21, 4, 21, 5, 184, 0, 110, 42, 21, 5]
abbrev dktX0_copy_1 : List UInt8 := dkwX0_copy_1 ++ dktX0_copy_2
def dkwX0_copy_0 : List UInt8 := [27, 184, 0, 78, 153, 0, 10, 29, 184, 0, 78, 154, 0, 6, 18, 84, 172, 42, 180, 0, 35, 27, 50]
abbrev dktX0_copy_0 : List UInt8 := dkwX0_copy_0 ++ dktX0_copy_1
theorem dksX0_copy_0 : cX0_copy.data.toList.drop 0 = dktX0_copy_0 := by decide +kernel
theorem dksX0_copy_1 : cX0_copy.data.toList.drop 23 = dktX0_copy_1 := dk_seg dksX0_copy_0 23 rfl rfl
theorem dksX0_copy_2 : cX0_copy.data.toList.drop 46 = dktX0_copy_2 := dk_seg dksX0_copy_1 23 rfl rfl
theorem dksX0_copy_3 : cX0_copy.data.toList.drop 70 = dktX0_copy_3 := dk_seg dksX0_copy_2 24 rfl rfl
theorem dX0_copy_0 : decode cX0_copy 0 = .ok (.iload_n 1, 1) := dk_27 (dk_at dksX0_copy_0 0 rfl rfl)
theorem dX0_copy_1 : decode cX0_copy 1 = .ok (.invokestatic 78, 3) := dk_184 0 78 (dk_at dksX0_copy_0 1 rfl rfl)
theorem dX0_copy_4 : decode cX0_copy 4 = .ok (.ifCond .eq 10, 3) := dk_153 0 10 (dk_at dksX0_copy_0 4 rfl rfl)
theorem dX0_copy_7 : decode cX0_copy 7 = .ok (.iload_n 3, 1) := dk_29 (dk_at dksX0_copy_0 7 rfl rfl)
theorem dX0_copy_8 : decode cX0_copy 8 = .ok (.invokestatic 78, 3) := dk_184 0 78 (dk_at dksX0_copy_0 8 rfl rfl)
theorem dX0_copy_11 : decode cX0_copy 11 = .ok (.ifCond .ne 6, 3) := dk_154 0 6 (dk_at dksX0_copy_0 11 rfl rfl)
theorem dX0_copy_14 : decode cX0_copy 14 = .ok (.ldc 84, 2) := dk_18 84 (dk_at dksX0_copy_0 14 rfl rfl)
theorem dX0_copy_16 : decode cX0_copy 16 = .ok (.ireturn, 1) := dk_172 (dk_at dksX0_copy_0 16 rfl rfl)
theorem dX0_copy_17 : decode cX0_copy 17 = .ok (.aload_n 0, 1) := dk_42 (dk_at dksX0_copy_0 17 rfl rfl)
theorem dX0_copy_18 : decode cX0_copy 18 = .ok (.getfield 35, 3) := dk_180 0 35 (dk_at dksX0_copy_0 18 rfl rfl)
theorem dX0_copy_21 : decode cX0_copy 21 = .ok (.iload_n 1, 1) := dk_27 (dk_at dksX0_copy_0 21 rfl rfl)
theorem dX0_copy_22 : decode cX0_copy 22 = .ok (.aaload, 1) := dk_50 (dk_at dksX0_copy_0 22 rfl rfl)
theorem dX0_copy_23 : decode cX0_copy 23 = .ok (.getfield 89, 3) := dk_180 0 89 (dk_at dksX0_copy_1 0 rfl rfl)
theorem dX0_copy_26 : decode cX0_copy 26 = .ok (.iload_n 2, 1) := dk_28 (dk_at dksX0_copy_1 3 rfl rfl)
theorem dX0_copy_27 : decode cX0_copy 27 = .ok (.aload_n 0, 1) := dk_42 (dk_at dksX0_copy_1 4 rfl rfl)
theorem dX0_copy_28 : decode cX0_copy 28 = .ok (.getfield 35, 3) := dk_180 0 35 (dk_at dksX0_copy_1 5 rfl rfl)
theorem dX0_copy_31 : decode cX0_copy 31 = .ok (.iload_n 3, 1) := dk_29 (dk_at dksX0_copy_1 8 rfl rfl)
theorem dX0_copy_32 : decode cX0_copy 32 = .ok (.aaload, 1) := dk_50 (dk_at dksX0_copy_1 9 rfl rfl)
theorem dX0_copy_33 : decode cX0_copy 33 = .ok (.getfield 89, 3) := dk_180 0 89 (dk_at dksX0_copy_1 10 rfl rfl)
theorem dX0_copy_36 : decode cX0_copy 36 = .ok (.iload 4, 2) := dk_21 4 (dk_at dksX0_copy_1 13 rfl rfl)
theorem dX0_copy_38 : decode cX0_copy 38 = .ok (.iload 5, 2) := dk_21 5 (dk_at dksX0_copy_1 15 rfl rfl)
theorem dX0_copy_40 : decode cX0_copy 40 = .ok (.invokestatic 110, 3) := dk_184 0 110 (dk_at dksX0_copy_1 17 rfl rfl)
theorem dX0_copy_43 : decode cX0_copy 43 = .ok (.aload_n 0, 1) := dk_42 (dk_at dksX0_copy_1 20 rfl rfl)
theorem dX0_copy_44 : decode cX0_copy 44 = .ok (.iload 5, 2) := dk_21 5 (dk_at dksX0_copy_1 21 rfl rfl)
theorem dX0_copy_46 : decode cX0_copy 46 = .ok (.invokevirtual 93, 3) := dk_182 0 93 (dk_at dksX0_copy_2 0 rfl rfl)
theorem dX0_copy_49 : decode cX0_copy 49 = .ok (.ireturn, 1) := dk_172 (dk_at dksX0_copy_2 3 rfl rfl)
theorem dX0_copy_50 : decode cX0_copy 50 = .ok (.astore 6, 2) := dk_58 6 (dk_at dksX0_copy_2 4 rfl rfl)
theorem dX0_copy_52 : decode cX0_copy 52 = .ok (.aload_n 0, 1) := dk_42 (dk_at dksX0_copy_2 6 rfl rfl)
theorem dX0_copy_53 : decode cX0_copy 53 = .ok (.iconst 1, 1) := dk_4 (dk_at dksX0_copy_2 7 rfl rfl)
theorem dX0_copy_54 : decode cX0_copy 54 = .ok (.invokevirtual 99, 3) := dk_182 0 99 (dk_at dksX0_copy_2 8 rfl rfl)
theorem dX0_copy_57 : decode cX0_copy 57 = .ok (.ireturn, 1) := dk_172 (dk_at dksX0_copy_2 11 rfl rfl)
theorem dX0_copy_58 : decode cX0_copy 58 = .ok (.astore 6, 2) := dk_58 6 (dk_at dksX0_copy_2 12 rfl rfl)
theorem dX0_copy_60 : decode cX0_copy 60 = .ok (.aload_n 0, 1) := dk_42 (dk_at dksX0_copy_2 14 rfl rfl)
theorem dX0_copy_61 : decode cX0_copy 61 = .ok (.iconst 5, 1) := dk_8 (dk_at dksX0_copy_2 15 rfl rfl)
theorem dX0_copy_62 : decode cX0_copy 62 = .ok (.invokevirtual 99, 3) := dk_182 0 99 (dk_at dksX0_copy_2 16 rfl rfl)
theorem dX0_copy_65 : decode cX0_copy 65 = .ok (.ireturn, 1) := dk_172 (dk_at dksX0_copy_2 19 rfl rfl)
theorem dX0_copy_66 : decode cX0_copy 66 = .ok (.astore 6, 2) := dk_58 6 (dk_at dksX0_copy_2 20 rfl rfl)
theorem dX0_copy_68 : decode cX0_copy 68 = .ok (.aload_n 0, 1) := dk_42 (dk_at dksX0_copy_2 22 rfl rfl)
theorem dX0_copy_69 : decode cX0_copy 69 = .ok (.iconst 2, 1) := dk_5 (dk_at dksX0_copy_2 23 rfl rfl)
theorem dX0_copy_70 : decode cX0_copy 70 = .ok (.invokevirtual 99, 3) := dk_182 0 99 (dk_at dksX0_copy_3 0 rfl rfl)
theorem dX0_copy_73 : decode cX0_copy 73 = .ok (.ireturn, 1) := dk_172 (dk_at dksX0_copy_3 3 rfl rfl)
abbrev cX0_drop : ByteArray := prog_1_method_15_code
def yX0_drop : MethodName := ⟨RX0, "drop", "(I)I"⟩
def dkwX0_drop_2 : List UInt8 := [50, 1, 181, 0, 89, 29, 172, 58, 4, 42, 180, 0, 35, 27, 50, 1, 181, 0, 89, 25, 4, 191]
abbrev dktX0_drop_2 : List UInt8 := dkwX0_drop_2 ++ []
def dkwX0_drop_1 : List UInt8 := [42, 180, 0, 35, 27, 50, 1, 181, 0, 89, 28, 172, 77, 42, 4, 182, 0, 99, 62, 42, 180, 0, 35, 27]
abbrev dktX0_drop_1 : List UInt8 := dkwX0_drop_1 ++ dktX0_drop_2
def dkwX0_drop_0 : List UInt8 := [27, 184, 0, 78, 154, 0, 6, 18, 84, 172, 42, 42, 180, 0, 35, 27, 50, 182, 0, 120, 182, 0, 93, 61]
abbrev dktX0_drop_0 : List UInt8 := dkwX0_drop_0 ++ dktX0_drop_1
theorem dksX0_drop_0 : cX0_drop.data.toList.drop 0 = dktX0_drop_0 := by decide +kernel
theorem dksX0_drop_1 : cX0_drop.data.toList.drop 24 = dktX0_drop_1 := dk_seg dksX0_drop_0 24 rfl rfl
theorem dksX0_drop_2 : cX0_drop.data.toList.drop 48 = dktX0_drop_2 := dk_seg dksX0_drop_1 24 rfl rfl
theorem dX0_drop_0 : decode cX0_drop 0 = .ok (.iload_n 1, 1) := dk_27 (dk_at dksX0_drop_0 0 rfl rfl)
theorem dX0_drop_1 : decode cX0_drop 1 = .ok (.invokestatic 78, 3) := dk_184 0 78 (dk_at dksX0_drop_0 1 rfl rfl)
theorem dX0_drop_4 : decode cX0_drop 4 = .ok (.ifCond .ne 6, 3) := dk_154 0 6 (dk_at dksX0_drop_0 4 rfl rfl)
theorem dX0_drop_7 : decode cX0_drop 7 = .ok (.ldc 84, 2) := dk_18 84 (dk_at dksX0_drop_0 7 rfl rfl)
theorem dX0_drop_9 : decode cX0_drop 9 = .ok (.ireturn, 1) := dk_172 (dk_at dksX0_drop_0 9 rfl rfl)
theorem dX0_drop_10 : decode cX0_drop 10 = .ok (.aload_n 0, 1) := dk_42 (dk_at dksX0_drop_0 10 rfl rfl)
theorem dX0_drop_11 : decode cX0_drop 11 = .ok (.aload_n 0, 1) := dk_42 (dk_at dksX0_drop_0 11 rfl rfl)
theorem dX0_drop_12 : decode cX0_drop 12 = .ok (.getfield 35, 3) := dk_180 0 35 (dk_at dksX0_drop_0 12 rfl rfl)
theorem dX0_drop_15 : decode cX0_drop 15 = .ok (.iload_n 1, 1) := dk_27 (dk_at dksX0_drop_0 15 rfl rfl)
theorem dX0_drop_16 : decode cX0_drop 16 = .ok (.aaload, 1) := dk_50 (dk_at dksX0_drop_0 16 rfl rfl)
theorem dX0_drop_17 : decode cX0_drop 17 = .ok (.invokevirtual 120, 3) := dk_182 0 120 (dk_at dksX0_drop_0 17 rfl rfl)
theorem dX0_drop_20 : decode cX0_drop 20 = .ok (.invokevirtual 93, 3) := dk_182 0 93 (dk_at dksX0_drop_0 20 rfl rfl)
theorem dX0_drop_23 : decode cX0_drop 23 = .ok (.istore_n 2, 1) := dk_61 (dk_at dksX0_drop_0 23 rfl rfl)
theorem dX0_drop_24 : decode cX0_drop 24 = .ok (.aload_n 0, 1) := dk_42 (dk_at dksX0_drop_1 0 rfl rfl)
theorem dX0_drop_25 : decode cX0_drop 25 = .ok (.getfield 35, 3) := dk_180 0 35 (dk_at dksX0_drop_1 1 rfl rfl)
theorem dX0_drop_28 : decode cX0_drop 28 = .ok (.iload_n 1, 1) := dk_27 (dk_at dksX0_drop_1 4 rfl rfl)
theorem dX0_drop_29 : decode cX0_drop 29 = .ok (.aaload, 1) := dk_50 (dk_at dksX0_drop_1 5 rfl rfl)
theorem dX0_drop_30 : decode cX0_drop 30 = .ok (.aconst_null, 1) := dk_1 (dk_at dksX0_drop_1 6 rfl rfl)
theorem dX0_drop_31 : decode cX0_drop 31 = .ok (.putfield 89, 3) := dk_181 0 89 (dk_at dksX0_drop_1 7 rfl rfl)
theorem dX0_drop_34 : decode cX0_drop 34 = .ok (.iload_n 2, 1) := dk_28 (dk_at dksX0_drop_1 10 rfl rfl)
theorem dX0_drop_35 : decode cX0_drop 35 = .ok (.ireturn, 1) := dk_172 (dk_at dksX0_drop_1 11 rfl rfl)
theorem dX0_drop_36 : decode cX0_drop 36 = .ok (.astore_n 2, 1) := dk_77 (dk_at dksX0_drop_1 12 rfl rfl)
theorem dX0_drop_37 : decode cX0_drop 37 = .ok (.aload_n 0, 1) := dk_42 (dk_at dksX0_drop_1 13 rfl rfl)
theorem dX0_drop_38 : decode cX0_drop 38 = .ok (.iconst 1, 1) := dk_4 (dk_at dksX0_drop_1 14 rfl rfl)
theorem dX0_drop_39 : decode cX0_drop 39 = .ok (.invokevirtual 99, 3) := dk_182 0 99 (dk_at dksX0_drop_1 15 rfl rfl)
theorem dX0_drop_42 : decode cX0_drop 42 = .ok (.istore_n 3, 1) := dk_62 (dk_at dksX0_drop_1 18 rfl rfl)
theorem dX0_drop_43 : decode cX0_drop 43 = .ok (.aload_n 0, 1) := dk_42 (dk_at dksX0_drop_1 19 rfl rfl)
theorem dX0_drop_44 : decode cX0_drop 44 = .ok (.getfield 35, 3) := dk_180 0 35 (dk_at dksX0_drop_1 20 rfl rfl)
theorem dX0_drop_47 : decode cX0_drop 47 = .ok (.iload_n 1, 1) := dk_27 (dk_at dksX0_drop_1 23 rfl rfl)
theorem dX0_drop_48 : decode cX0_drop 48 = .ok (.aaload, 1) := dk_50 (dk_at dksX0_drop_2 0 rfl rfl)
theorem dX0_drop_49 : decode cX0_drop 49 = .ok (.aconst_null, 1) := dk_1 (dk_at dksX0_drop_2 1 rfl rfl)
theorem dX0_drop_50 : decode cX0_drop 50 = .ok (.putfield 89, 3) := dk_181 0 89 (dk_at dksX0_drop_2 2 rfl rfl)
theorem dX0_drop_53 : decode cX0_drop 53 = .ok (.iload_n 3, 1) := dk_29 (dk_at dksX0_drop_2 5 rfl rfl)
theorem dX0_drop_54 : decode cX0_drop 54 = .ok (.ireturn, 1) := dk_172 (dk_at dksX0_drop_2 6 rfl rfl)
theorem dX0_drop_55 : decode cX0_drop 55 = .ok (.astore 4, 2) := dk_58 4 (dk_at dksX0_drop_2 7 rfl rfl)
theorem dX0_drop_57 : decode cX0_drop 57 = .ok (.aload_n 0, 1) := dk_42 (dk_at dksX0_drop_2 9 rfl rfl)
theorem dX0_drop_58 : decode cX0_drop 58 = .ok (.getfield 35, 3) := dk_180 0 35 (dk_at dksX0_drop_2 10 rfl rfl)
theorem dX0_drop_61 : decode cX0_drop 61 = .ok (.iload_n 1, 1) := dk_27 (dk_at dksX0_drop_2 13 rfl rfl)
theorem dX0_drop_62 : decode cX0_drop 62 = .ok (.aaload, 1) := dk_50 (dk_at dksX0_drop_2 14 rfl rfl)
theorem dX0_drop_63 : decode cX0_drop 63 = .ok (.aconst_null, 1) := dk_1 (dk_at dksX0_drop_2 15 rfl rfl)
theorem dX0_drop_64 : decode cX0_drop 64 = .ok (.putfield 89, 3) := dk_181 0 89 (dk_at dksX0_drop_2 16 rfl rfl)
theorem dX0_drop_67 : decode cX0_drop 67 = .ok (.aload 4, 2) := dk_25 4 (dk_at dksX0_drop_2 19 rfl rfl)
theorem dX0_drop_69 : decode cX0_drop 69 = .ok (.athrow, 1) := dk_191 (dk_at dksX0_drop_2 21 rfl rfl)
abbrev cX0_feed : ByteArray := prog_1_method_17_code
def yX0_feed : MethodName := ⟨RX0, "feed", "(I)I"⟩
def dkwX0_feed_2 : List UInt8 := [180, 0, 130, 172]
abbrev dktX0_feed_2 : List UInt8 := dkwX0_feed_2 ++ []
def dkwX0_feed_1 : List UInt8 := [18, 133, 172, 42, 180, 0, 39, 42, 89, 180, 0, 130, 90, 4, 96, 181, 0, 130, 27, 145, 84, 42]
abbrev dktX0_feed_1 : List UInt8 := dkwX0_feed_1 ++ dktX0_feed_2
def dkwX0_feed_0 : List UInt8 := [27, 133, 9, 20, 0, 128, 184, 0, 74, 154, 0, 6, 18, 84, 172, 42, 180, 0, 130, 16, 120, 160, 0, 6]
abbrev dktX0_feed_0 : List UInt8 := dkwX0_feed_0 ++ dktX0_feed_1
theorem dksX0_feed_0 : cX0_feed.data.toList.drop 0 = dktX0_feed_0 := by decide +kernel
theorem dksX0_feed_1 : cX0_feed.data.toList.drop 24 = dktX0_feed_1 := dk_seg dksX0_feed_0 24 rfl rfl
theorem dksX0_feed_2 : cX0_feed.data.toList.drop 46 = dktX0_feed_2 := dk_seg dksX0_feed_1 22 rfl rfl
theorem dX0_feed_0 : decode cX0_feed 0 = .ok (.iload_n 1, 1) := dk_27 (dk_at dksX0_feed_0 0 rfl rfl)
theorem dX0_feed_1 : decode cX0_feed 1 = .ok (.i2l, 1) := dk_133 (dk_at dksX0_feed_0 1 rfl rfl)
theorem dX0_feed_2 : decode cX0_feed 2 = .ok (.lconst 0, 1) := dk_9 (dk_at dksX0_feed_0 2 rfl rfl)
theorem dX0_feed_3 : decode cX0_feed 3 = .ok (.ldc2_w 128, 3) := dk_20 0 128 (dk_at dksX0_feed_0 3 rfl rfl)
theorem dX0_feed_6 : decode cX0_feed 6 = .ok (.invokestatic 74, 3) := dk_184 0 74 (dk_at dksX0_feed_0 6 rfl rfl)
theorem dX0_feed_9 : decode cX0_feed 9 = .ok (.ifCond .ne 6, 3) := dk_154 0 6 (dk_at dksX0_feed_0 9 rfl rfl)
theorem dX0_feed_12 : decode cX0_feed 12 = .ok (.ldc 84, 2) := dk_18 84 (dk_at dksX0_feed_0 12 rfl rfl)
theorem dX0_feed_14 : decode cX0_feed 14 = .ok (.ireturn, 1) := dk_172 (dk_at dksX0_feed_0 14 rfl rfl)
theorem dX0_feed_15 : decode cX0_feed 15 = .ok (.aload_n 0, 1) := dk_42 (dk_at dksX0_feed_0 15 rfl rfl)
theorem dX0_feed_16 : decode cX0_feed 16 = .ok (.getfield 130, 3) := dk_180 0 130 (dk_at dksX0_feed_0 16 rfl rfl)
theorem dX0_feed_19 : decode cX0_feed 19 = .ok (.bipush 120, 2) := dk_16 120 (dk_at dksX0_feed_0 19 rfl rfl)
theorem dX0_feed_21 : decode cX0_feed 21 = .ok (.if_icmp .ne 6, 3) := dk_160 0 6 (dk_at dksX0_feed_0 21 rfl rfl)
theorem dX0_feed_24 : decode cX0_feed 24 = .ok (.ldc 133, 2) := dk_18 133 (dk_at dksX0_feed_1 0 rfl rfl)
theorem dX0_feed_26 : decode cX0_feed 26 = .ok (.ireturn, 1) := dk_172 (dk_at dksX0_feed_1 2 rfl rfl)
theorem dX0_feed_27 : decode cX0_feed 27 = .ok (.aload_n 0, 1) := dk_42 (dk_at dksX0_feed_1 3 rfl rfl)
theorem dX0_feed_28 : decode cX0_feed 28 = .ok (.getfield 39, 3) := dk_180 0 39 (dk_at dksX0_feed_1 4 rfl rfl)
theorem dX0_feed_31 : decode cX0_feed 31 = .ok (.aload_n 0, 1) := dk_42 (dk_at dksX0_feed_1 7 rfl rfl)
theorem dX0_feed_32 : decode cX0_feed 32 = .ok (.dup, 1) := dk_89 (dk_at dksX0_feed_1 8 rfl rfl)
theorem dX0_feed_33 : decode cX0_feed 33 = .ok (.getfield 130, 3) := dk_180 0 130 (dk_at dksX0_feed_1 9 rfl rfl)
theorem dX0_feed_36 : decode cX0_feed 36 = .ok (.dup_x1, 1) := dk_90 (dk_at dksX0_feed_1 12 rfl rfl)
theorem dX0_feed_37 : decode cX0_feed 37 = .ok (.iconst 1, 1) := dk_4 (dk_at dksX0_feed_1 13 rfl rfl)
theorem dX0_feed_38 : decode cX0_feed 38 = .ok (.iadd, 1) := dk_96 (dk_at dksX0_feed_1 14 rfl rfl)
theorem dX0_feed_39 : decode cX0_feed 39 = .ok (.putfield 130, 3) := dk_181 0 130 (dk_at dksX0_feed_1 15 rfl rfl)
theorem dX0_feed_42 : decode cX0_feed 42 = .ok (.iload_n 1, 1) := dk_27 (dk_at dksX0_feed_1 18 rfl rfl)
theorem dX0_feed_43 : decode cX0_feed 43 = .ok (.i2b, 1) := dk_145 (dk_at dksX0_feed_1 19 rfl rfl)
theorem dX0_feed_44 : decode cX0_feed 44 = .ok (.bastore, 1) := dk_84 (dk_at dksX0_feed_1 20 rfl rfl)
theorem dX0_feed_45 : decode cX0_feed 45 = .ok (.aload_n 0, 1) := dk_42 (dk_at dksX0_feed_1 21 rfl rfl)
theorem dX0_feed_46 : decode cX0_feed 46 = .ok (.getfield 130, 3) := dk_180 0 130 (dk_at dksX0_feed_2 0 rfl rfl)
theorem dX0_feed_49 : decode cX0_feed 49 = .ok (.ireturn, 1) := dk_172 (dk_at dksX0_feed_2 3 rfl rfl)
abbrev cX0_scales : ByteArray := prog_1_method_18_code
def yX0_scales : MethodName := ⟨RX0, "scales", "()I"⟩
def dkwX0_scales_3 : List UInt8 := [182, 0, 157, 42, 3, 181, 0, 161, 42, 180, 0, 46, 182, 0, 164, 172]
abbrev dktX0_scales_3 : List UInt8 := dkwX0_scales_3 ++ []
def dkwX0_scales_2 : List UInt8 := [3, 181, 0, 130, 29, 172, 58, 4, 42, 3, 181, 0, 130, 25, 4, 191, 42, 180, 0, 46, 43, 180, 0, 154]
abbrev dktX0_scales_2 : List UInt8 := dkwX0_scales_2 ++ dktX0_scales_3
def dkwX0_scales_1 : List UInt8 := [181, 0, 130, 167, 0, 37, 77, 42, 44, 180, 0, 144, 181, 0, 147, 18, 150, 44, 180, 0, 151, 100, 62, 42]
abbrev dktX0_scales_1 : List UInt8 := dkwX0_scales_1 ++ dktX0_scales_2
def dkwX0_scales_0 : List UInt8 := [187, 0, 134, 89, 42, 180, 0, 39, 42, 180, 0, 130, 183, 0, 136, 76, 43, 182, 0, 139, 42, 3]
abbrev dktX0_scales_0 : List UInt8 := dkwX0_scales_0 ++ dktX0_scales_1
theorem dksX0_scales_0 : cX0_scales.data.toList.drop 0 = dktX0_scales_0 := by decide +kernel
theorem dksX0_scales_1 : cX0_scales.data.toList.drop 22 = dktX0_scales_1 := dk_seg dksX0_scales_0 22 rfl rfl
theorem dksX0_scales_2 : cX0_scales.data.toList.drop 46 = dktX0_scales_2 := dk_seg dksX0_scales_1 24 rfl rfl
theorem dksX0_scales_3 : cX0_scales.data.toList.drop 70 = dktX0_scales_3 := dk_seg dksX0_scales_2 24 rfl rfl
theorem dX0_scales_0 : decode cX0_scales 0 = .ok (.new 134, 3) := dk_187 0 134 (dk_at dksX0_scales_0 0 rfl rfl)
theorem dX0_scales_3 : decode cX0_scales 3 = .ok (.dup, 1) := dk_89 (dk_at dksX0_scales_0 3 rfl rfl)
theorem dX0_scales_4 : decode cX0_scales 4 = .ok (.aload_n 0, 1) := dk_42 (dk_at dksX0_scales_0 4 rfl rfl)
theorem dX0_scales_5 : decode cX0_scales 5 = .ok (.getfield 39, 3) := dk_180 0 39 (dk_at dksX0_scales_0 5 rfl rfl)
theorem dX0_scales_8 : decode cX0_scales 8 = .ok (.aload_n 0, 1) := dk_42 (dk_at dksX0_scales_0 8 rfl rfl)
theorem dX0_scales_9 : decode cX0_scales 9 = .ok (.getfield 130, 3) := dk_180 0 130 (dk_at dksX0_scales_0 9 rfl rfl)
theorem dX0_scales_12 : decode cX0_scales 12 = .ok (.invokespecial 136, 3) := dk_183 0 136 (dk_at dksX0_scales_0 12 rfl rfl)
theorem dX0_scales_15 : decode cX0_scales 15 = .ok (.astore_n 1, 1) := dk_76 (dk_at dksX0_scales_0 15 rfl rfl)
theorem dX0_scales_16 : decode cX0_scales 16 = .ok (.aload_n 1, 1) := dk_43 (dk_at dksX0_scales_0 16 rfl rfl)
theorem dX0_scales_17 : decode cX0_scales 17 = .ok (.invokevirtual 139, 3) := dk_182 0 139 (dk_at dksX0_scales_0 17 rfl rfl)
theorem dX0_scales_20 : decode cX0_scales 20 = .ok (.aload_n 0, 1) := dk_42 (dk_at dksX0_scales_0 20 rfl rfl)
theorem dX0_scales_21 : decode cX0_scales 21 = .ok (.iconst 0, 1) := dk_3 (dk_at dksX0_scales_0 21 rfl rfl)
theorem dX0_scales_22 : decode cX0_scales 22 = .ok (.putfield 130, 3) := dk_181 0 130 (dk_at dksX0_scales_1 0 rfl rfl)
theorem dX0_scales_25 : decode cX0_scales 25 = .ok (.goto 37, 3) := dk_167 0 37 (dk_at dksX0_scales_1 3 rfl rfl)
theorem dX0_scales_28 : decode cX0_scales 28 = .ok (.astore_n 2, 1) := dk_77 (dk_at dksX0_scales_1 6 rfl rfl)
theorem dX0_scales_29 : decode cX0_scales 29 = .ok (.aload_n 0, 1) := dk_42 (dk_at dksX0_scales_1 7 rfl rfl)
theorem dX0_scales_30 : decode cX0_scales 30 = .ok (.aload_n 2, 1) := dk_44 (dk_at dksX0_scales_1 8 rfl rfl)
theorem dX0_scales_31 : decode cX0_scales 31 = .ok (.getfield 144, 3) := dk_180 0 144 (dk_at dksX0_scales_1 9 rfl rfl)
theorem dX0_scales_34 : decode cX0_scales 34 = .ok (.putfield 147, 3) := dk_181 0 147 (dk_at dksX0_scales_1 12 rfl rfl)
theorem dX0_scales_37 : decode cX0_scales 37 = .ok (.ldc 150, 2) := dk_18 150 (dk_at dksX0_scales_1 15 rfl rfl)
theorem dX0_scales_39 : decode cX0_scales 39 = .ok (.aload_n 2, 1) := dk_44 (dk_at dksX0_scales_1 17 rfl rfl)
theorem dX0_scales_40 : decode cX0_scales 40 = .ok (.getfield 151, 3) := dk_180 0 151 (dk_at dksX0_scales_1 18 rfl rfl)
theorem dX0_scales_43 : decode cX0_scales 43 = .ok (.isub, 1) := dk_100 (dk_at dksX0_scales_1 21 rfl rfl)
theorem dX0_scales_44 : decode cX0_scales 44 = .ok (.istore_n 3, 1) := dk_62 (dk_at dksX0_scales_1 22 rfl rfl)
theorem dX0_scales_45 : decode cX0_scales 45 = .ok (.aload_n 0, 1) := dk_42 (dk_at dksX0_scales_1 23 rfl rfl)
theorem dX0_scales_46 : decode cX0_scales 46 = .ok (.iconst 0, 1) := dk_3 (dk_at dksX0_scales_2 0 rfl rfl)
theorem dX0_scales_47 : decode cX0_scales 47 = .ok (.putfield 130, 3) := dk_181 0 130 (dk_at dksX0_scales_2 1 rfl rfl)
theorem dX0_scales_50 : decode cX0_scales 50 = .ok (.iload_n 3, 1) := dk_29 (dk_at dksX0_scales_2 4 rfl rfl)
theorem dX0_scales_51 : decode cX0_scales 51 = .ok (.ireturn, 1) := dk_172 (dk_at dksX0_scales_2 5 rfl rfl)
theorem dX0_scales_52 : decode cX0_scales 52 = .ok (.astore 4, 2) := dk_58 4 (dk_at dksX0_scales_2 6 rfl rfl)
theorem dX0_scales_54 : decode cX0_scales 54 = .ok (.aload_n 0, 1) := dk_42 (dk_at dksX0_scales_2 8 rfl rfl)
theorem dX0_scales_55 : decode cX0_scales 55 = .ok (.iconst 0, 1) := dk_3 (dk_at dksX0_scales_2 9 rfl rfl)
theorem dX0_scales_56 : decode cX0_scales 56 = .ok (.putfield 130, 3) := dk_181 0 130 (dk_at dksX0_scales_2 10 rfl rfl)
theorem dX0_scales_59 : decode cX0_scales 59 = .ok (.aload 4, 2) := dk_25 4 (dk_at dksX0_scales_2 13 rfl rfl)
theorem dX0_scales_61 : decode cX0_scales 61 = .ok (.athrow, 1) := dk_191 (dk_at dksX0_scales_2 15 rfl rfl)
theorem dX0_scales_62 : decode cX0_scales 62 = .ok (.aload_n 0, 1) := dk_42 (dk_at dksX0_scales_2 16 rfl rfl)
theorem dX0_scales_63 : decode cX0_scales 63 = .ok (.getfield 46, 3) := dk_180 0 46 (dk_at dksX0_scales_2 17 rfl rfl)
theorem dX0_scales_66 : decode cX0_scales 66 = .ok (.aload_n 1, 1) := dk_43 (dk_at dksX0_scales_2 20 rfl rfl)
theorem dX0_scales_67 : decode cX0_scales 67 = .ok (.getfield 154, 3) := dk_180 0 154 (dk_at dksX0_scales_2 21 rfl rfl)
theorem dX0_scales_70 : decode cX0_scales 70 = .ok (.invokevirtual 157, 3) := dk_182 0 157 (dk_at dksX0_scales_3 0 rfl rfl)
theorem dX0_scales_73 : decode cX0_scales 73 = .ok (.aload_n 0, 1) := dk_42 (dk_at dksX0_scales_3 3 rfl rfl)
theorem dX0_scales_74 : decode cX0_scales 74 = .ok (.iconst 0, 1) := dk_3 (dk_at dksX0_scales_3 4 rfl rfl)
theorem dX0_scales_75 : decode cX0_scales 75 = .ok (.putfield 161, 3) := dk_181 0 161 (dk_at dksX0_scales_3 5 rfl rfl)
theorem dX0_scales_78 : decode cX0_scales 78 = .ok (.aload_n 0, 1) := dk_42 (dk_at dksX0_scales_3 8 rfl rfl)
theorem dX0_scales_79 : decode cX0_scales 79 = .ok (.getfield 46, 3) := dk_180 0 46 (dk_at dksX0_scales_3 9 rfl rfl)
theorem dX0_scales_82 : decode cX0_scales 82 = .ok (.invokevirtual 164, 3) := dk_182 0 164 (dk_at dksX0_scales_3 12 rfl rfl)
theorem dX0_scales_85 : decode cX0_scales 85 = .ok (.ireturn, 1) := dk_172 (dk_at dksX0_scales_3 15 rfl rfl)
abbrev cX0_promiseBy : ByteArray := prog_1_method_3_code
def yX0_promiseBy : MethodName := ⟨RX0, "promiseBy", "(IIIIII)LPromiseScales$Promise;"⟩
def dkwX0_promiseBy_5 : List UInt8 := [183, 0, 18, 176]
abbrev dktX0_promiseBy_5 : List UInt8 := dkwX0_promiseBy_5 ++ []
def dkwX0_promiseBy_4 : List UInt8 := [89, 27, 28, 29, 21, 4, 21, 5, 183, 0, 15, 176, 187, 0, 16, 89, 27, 28, 29, 21, 4, 21, 5]
abbrev dktX0_promiseBy_4 : List UInt8 := dkwX0_promiseBy_4 ++ dktX0_promiseBy_5
def dkwX0_promiseBy_3 : List UInt8 := [21, 5, 183, 0, 9, 176, 187, 0, 10, 89, 27, 28, 29, 21, 4, 21, 5, 183, 0, 12, 176, 187, 0, 13]
abbrev dktX0_promiseBy_3 : List UInt8 := dkwX0_promiseBy_3 ++ dktX0_promiseBy_4
def dkwX0_promiseBy_2 : List UInt8 := [187, 0, 1, 89, 27, 28, 29, 21, 4, 21, 5, 183, 0, 3, 176, 187, 0, 7, 89, 27, 28, 29, 21, 4]
abbrev dktX0_promiseBy_2 : List UInt8 := dkwX0_promiseBy_2 ++ dktX0_promiseBy_3
def dkwX0_promiseBy_1 : List UInt8 := [170, 0, 0, 0, 0, 0, 91, 0, 0, 0, 1, 0, 0, 0, 4, 0, 0, 0, 31, 0, 0, 0, 46, 0, 0, 0, 61, 0, 0, 0, 76]
abbrev dktX0_promiseBy_1 : List UInt8 := dkwX0_promiseBy_1 ++ dktX0_promiseBy_2
def dkwX0_promiseBy_0 : List UInt8 := [26]
abbrev dktX0_promiseBy_0 : List UInt8 := dkwX0_promiseBy_0 ++ dktX0_promiseBy_1
theorem dksX0_promiseBy_0 : cX0_promiseBy.data.toList.drop 0 = dktX0_promiseBy_0 := by decide +kernel
theorem dksX0_promiseBy_1 : cX0_promiseBy.data.toList.drop 1 = dktX0_promiseBy_1 := dk_seg dksX0_promiseBy_0 1 rfl rfl
theorem dksX0_promiseBy_2 : cX0_promiseBy.data.toList.drop 32 = dktX0_promiseBy_2 := dk_seg dksX0_promiseBy_1 31 rfl rfl
theorem dksX0_promiseBy_3 : cX0_promiseBy.data.toList.drop 56 = dktX0_promiseBy_3 := dk_seg dksX0_promiseBy_2 24 rfl rfl
theorem dksX0_promiseBy_4 : cX0_promiseBy.data.toList.drop 80 = dktX0_promiseBy_4 := dk_seg dksX0_promiseBy_3 24 rfl rfl
theorem dksX0_promiseBy_5 : cX0_promiseBy.data.toList.drop 103 = dktX0_promiseBy_5 := dk_seg dksX0_promiseBy_4 23 rfl rfl
theorem dX0_promiseBy_0 : decode cX0_promiseBy 0 = .ok (.iload_n 0, 1) := dk_26 (dk_at dksX0_promiseBy_0 0 rfl rfl)
theorem dX0_promiseBy_1 : decode cX0_promiseBy 1 = .ok (.tableswitch 91 1 4 #[31, 46, 61, 76], 31) := by decide +kernel
theorem dX0_promiseBy_32 : decode cX0_promiseBy 32 = .ok (.new 1, 3) := dk_187 0 1 (dk_at dksX0_promiseBy_2 0 rfl rfl)
theorem dX0_promiseBy_35 : decode cX0_promiseBy 35 = .ok (.dup, 1) := dk_89 (dk_at dksX0_promiseBy_2 3 rfl rfl)
theorem dX0_promiseBy_36 : decode cX0_promiseBy 36 = .ok (.iload_n 1, 1) := dk_27 (dk_at dksX0_promiseBy_2 4 rfl rfl)
theorem dX0_promiseBy_37 : decode cX0_promiseBy 37 = .ok (.iload_n 2, 1) := dk_28 (dk_at dksX0_promiseBy_2 5 rfl rfl)
theorem dX0_promiseBy_38 : decode cX0_promiseBy 38 = .ok (.iload_n 3, 1) := dk_29 (dk_at dksX0_promiseBy_2 6 rfl rfl)
theorem dX0_promiseBy_39 : decode cX0_promiseBy 39 = .ok (.iload 4, 2) := dk_21 4 (dk_at dksX0_promiseBy_2 7 rfl rfl)
theorem dX0_promiseBy_41 : decode cX0_promiseBy 41 = .ok (.iload 5, 2) := dk_21 5 (dk_at dksX0_promiseBy_2 9 rfl rfl)
theorem dX0_promiseBy_43 : decode cX0_promiseBy 43 = .ok (.invokespecial 3, 3) := dk_183 0 3 (dk_at dksX0_promiseBy_2 11 rfl rfl)
theorem dX0_promiseBy_46 : decode cX0_promiseBy 46 = .ok (.areturn, 1) := dk_176 (dk_at dksX0_promiseBy_2 14 rfl rfl)
theorem dX0_promiseBy_47 : decode cX0_promiseBy 47 = .ok (.new 7, 3) := dk_187 0 7 (dk_at dksX0_promiseBy_2 15 rfl rfl)
theorem dX0_promiseBy_50 : decode cX0_promiseBy 50 = .ok (.dup, 1) := dk_89 (dk_at dksX0_promiseBy_2 18 rfl rfl)
theorem dX0_promiseBy_51 : decode cX0_promiseBy 51 = .ok (.iload_n 1, 1) := dk_27 (dk_at dksX0_promiseBy_2 19 rfl rfl)
theorem dX0_promiseBy_52 : decode cX0_promiseBy 52 = .ok (.iload_n 2, 1) := dk_28 (dk_at dksX0_promiseBy_2 20 rfl rfl)
theorem dX0_promiseBy_53 : decode cX0_promiseBy 53 = .ok (.iload_n 3, 1) := dk_29 (dk_at dksX0_promiseBy_2 21 rfl rfl)
theorem dX0_promiseBy_54 : decode cX0_promiseBy 54 = .ok (.iload 4, 2) := dk_21 4 (dk_at dksX0_promiseBy_2 22 rfl rfl)
theorem dX0_promiseBy_56 : decode cX0_promiseBy 56 = .ok (.iload 5, 2) := dk_21 5 (dk_at dksX0_promiseBy_3 0 rfl rfl)
theorem dX0_promiseBy_58 : decode cX0_promiseBy 58 = .ok (.invokespecial 9, 3) := dk_183 0 9 (dk_at dksX0_promiseBy_3 2 rfl rfl)
theorem dX0_promiseBy_61 : decode cX0_promiseBy 61 = .ok (.areturn, 1) := dk_176 (dk_at dksX0_promiseBy_3 5 rfl rfl)
theorem dX0_promiseBy_62 : decode cX0_promiseBy 62 = .ok (.new 10, 3) := dk_187 0 10 (dk_at dksX0_promiseBy_3 6 rfl rfl)
theorem dX0_promiseBy_65 : decode cX0_promiseBy 65 = .ok (.dup, 1) := dk_89 (dk_at dksX0_promiseBy_3 9 rfl rfl)
theorem dX0_promiseBy_66 : decode cX0_promiseBy 66 = .ok (.iload_n 1, 1) := dk_27 (dk_at dksX0_promiseBy_3 10 rfl rfl)
theorem dX0_promiseBy_67 : decode cX0_promiseBy 67 = .ok (.iload_n 2, 1) := dk_28 (dk_at dksX0_promiseBy_3 11 rfl rfl)
theorem dX0_promiseBy_68 : decode cX0_promiseBy 68 = .ok (.iload_n 3, 1) := dk_29 (dk_at dksX0_promiseBy_3 12 rfl rfl)
theorem dX0_promiseBy_69 : decode cX0_promiseBy 69 = .ok (.iload 4, 2) := dk_21 4 (dk_at dksX0_promiseBy_3 13 rfl rfl)
theorem dX0_promiseBy_71 : decode cX0_promiseBy 71 = .ok (.iload 5, 2) := dk_21 5 (dk_at dksX0_promiseBy_3 15 rfl rfl)
theorem dX0_promiseBy_73 : decode cX0_promiseBy 73 = .ok (.invokespecial 12, 3) := dk_183 0 12 (dk_at dksX0_promiseBy_3 17 rfl rfl)
theorem dX0_promiseBy_76 : decode cX0_promiseBy 76 = .ok (.areturn, 1) := dk_176 (dk_at dksX0_promiseBy_3 20 rfl rfl)
theorem dX0_promiseBy_77 : decode cX0_promiseBy 77 = .ok (.new 13, 3) := dk_187 0 13 (dk_at dksX0_promiseBy_3 21 rfl rfl)
theorem dX0_promiseBy_80 : decode cX0_promiseBy 80 = .ok (.dup, 1) := dk_89 (dk_at dksX0_promiseBy_4 0 rfl rfl)
theorem dX0_promiseBy_81 : decode cX0_promiseBy 81 = .ok (.iload_n 1, 1) := dk_27 (dk_at dksX0_promiseBy_4 1 rfl rfl)
theorem dX0_promiseBy_82 : decode cX0_promiseBy 82 = .ok (.iload_n 2, 1) := dk_28 (dk_at dksX0_promiseBy_4 2 rfl rfl)
theorem dX0_promiseBy_83 : decode cX0_promiseBy 83 = .ok (.iload_n 3, 1) := dk_29 (dk_at dksX0_promiseBy_4 3 rfl rfl)
theorem dX0_promiseBy_84 : decode cX0_promiseBy 84 = .ok (.iload 4, 2) := dk_21 4 (dk_at dksX0_promiseBy_4 4 rfl rfl)
theorem dX0_promiseBy_86 : decode cX0_promiseBy 86 = .ok (.iload 5, 2) := dk_21 5 (dk_at dksX0_promiseBy_4 6 rfl rfl)
theorem dX0_promiseBy_88 : decode cX0_promiseBy 88 = .ok (.invokespecial 15, 3) := dk_183 0 15 (dk_at dksX0_promiseBy_4 8 rfl rfl)
theorem dX0_promiseBy_91 : decode cX0_promiseBy 91 = .ok (.areturn, 1) := dk_176 (dk_at dksX0_promiseBy_4 11 rfl rfl)
theorem dX0_promiseBy_92 : decode cX0_promiseBy 92 = .ok (.new 16, 3) := dk_187 0 16 (dk_at dksX0_promiseBy_4 12 rfl rfl)
theorem dX0_promiseBy_95 : decode cX0_promiseBy 95 = .ok (.dup, 1) := dk_89 (dk_at dksX0_promiseBy_4 15 rfl rfl)
theorem dX0_promiseBy_96 : decode cX0_promiseBy 96 = .ok (.iload_n 1, 1) := dk_27 (dk_at dksX0_promiseBy_4 16 rfl rfl)
theorem dX0_promiseBy_97 : decode cX0_promiseBy 97 = .ok (.iload_n 2, 1) := dk_28 (dk_at dksX0_promiseBy_4 17 rfl rfl)
theorem dX0_promiseBy_98 : decode cX0_promiseBy 98 = .ok (.iload_n 3, 1) := dk_29 (dk_at dksX0_promiseBy_4 18 rfl rfl)
theorem dX0_promiseBy_99 : decode cX0_promiseBy 99 = .ok (.iload 4, 2) := dk_21 4 (dk_at dksX0_promiseBy_4 19 rfl rfl)
theorem dX0_promiseBy_101 : decode cX0_promiseBy 101 = .ok (.iload 5, 2) := dk_21 5 (dk_at dksX0_promiseBy_4 21 rfl rfl)
theorem dX0_promiseBy_103 : decode cX0_promiseBy 103 = .ok (.invokespecial 18, 3) := dk_183 0 18 (dk_at dksX0_promiseBy_5 0 rfl rfl)
theorem dX0_promiseBy_106 : decode cX0_promiseBy 106 = .ok (.areturn, 1) := dk_176 (dk_at dksX0_promiseBy_5 3 rfl rfl)
abbrev cX0_fault : ByteArray := prog_1_method_19_code
def yX0_fault : MethodName := ⟨RX0, "fault", "()I"⟩
theorem dX0_fault_0 : decode cX0_fault 0 = .ok (.aload_n 0, 1) := by decide +kernel
theorem dX0_fault_1 : decode cX0_fault 1 = .ok (.getfield 147, 3) := by decide +kernel
theorem dX0_fault_4 : decode cX0_fault 4 = .ok (.ireturn, 1) := by decide +kernel
abbrev cX0_lay : ByteArray := prog_1_method_26_code
def yX0_lay : MethodName := ⟨RX0, "lay", "(II)I"⟩
def dkwX0_lay_3 : List UInt8 := [120, 130, 181, 0, 182, 42, 180, 0, 46, 42, 180, 0, 46, 180, 0, 182, 182, 0, 193, 172]
abbrev dktX0_lay_3 : List UInt8 := dkwX0_lay_3 ++ []
def dkwX0_lay_2 : List UInt8 := [167, 0, 4, 3, 160, 0, 6, 18, 189, 172, 42, 182, 0, 190, 42, 180, 0, 46, 89, 180, 0, 182, 4, 27]
abbrev dktX0_lay_2 : List UInt8 := dkwX0_lay_2 ++ dktX0_lay_3
def dkwX0_lay_1 : List UInt8 := [182, 0, 179, 153, 0, 27, 42, 180, 0, 46, 180, 0, 182, 27, 184, 0, 185, 28, 4, 160, 0, 7, 4]
abbrev dktX0_lay_1 : List UInt8 := dkwX0_lay_1 ++ dktX0_lay_2
def dkwX0_lay_0 : List UInt8 := [42, 27, 182, 0, 173, 153, 0, 10, 28, 184, 0, 176, 154, 0, 6, 18, 84, 172, 42, 180, 0, 46, 27]
abbrev dktX0_lay_0 : List UInt8 := dkwX0_lay_0 ++ dktX0_lay_1
theorem dksX0_lay_0 : cX0_lay.data.toList.drop 0 = dktX0_lay_0 := by decide +kernel
theorem dksX0_lay_1 : cX0_lay.data.toList.drop 23 = dktX0_lay_1 := dk_seg dksX0_lay_0 23 rfl rfl
theorem dksX0_lay_2 : cX0_lay.data.toList.drop 46 = dktX0_lay_2 := dk_seg dksX0_lay_1 23 rfl rfl
theorem dksX0_lay_3 : cX0_lay.data.toList.drop 70 = dktX0_lay_3 := dk_seg dksX0_lay_2 24 rfl rfl
theorem dX0_lay_0 : decode cX0_lay 0 = .ok (.aload_n 0, 1) := dk_42 (dk_at dksX0_lay_0 0 rfl rfl)
theorem dX0_lay_1 : decode cX0_lay 1 = .ok (.iload_n 1, 1) := dk_27 (dk_at dksX0_lay_0 1 rfl rfl)
theorem dX0_lay_2 : decode cX0_lay 2 = .ok (.invokevirtual 173, 3) := dk_182 0 173 (dk_at dksX0_lay_0 2 rfl rfl)
theorem dX0_lay_5 : decode cX0_lay 5 = .ok (.ifCond .eq 10, 3) := dk_153 0 10 (dk_at dksX0_lay_0 5 rfl rfl)
theorem dX0_lay_8 : decode cX0_lay 8 = .ok (.iload_n 2, 1) := dk_28 (dk_at dksX0_lay_0 8 rfl rfl)
theorem dX0_lay_9 : decode cX0_lay 9 = .ok (.invokestatic 176, 3) := dk_184 0 176 (dk_at dksX0_lay_0 9 rfl rfl)
theorem dX0_lay_12 : decode cX0_lay 12 = .ok (.ifCond .ne 6, 3) := dk_154 0 6 (dk_at dksX0_lay_0 12 rfl rfl)
theorem dX0_lay_15 : decode cX0_lay 15 = .ok (.ldc 84, 2) := dk_18 84 (dk_at dksX0_lay_0 15 rfl rfl)
theorem dX0_lay_17 : decode cX0_lay 17 = .ok (.ireturn, 1) := dk_172 (dk_at dksX0_lay_0 17 rfl rfl)
theorem dX0_lay_18 : decode cX0_lay 18 = .ok (.aload_n 0, 1) := dk_42 (dk_at dksX0_lay_0 18 rfl rfl)
theorem dX0_lay_19 : decode cX0_lay 19 = .ok (.getfield 46, 3) := dk_180 0 46 (dk_at dksX0_lay_0 19 rfl rfl)
theorem dX0_lay_22 : decode cX0_lay 22 = .ok (.iload_n 1, 1) := dk_27 (dk_at dksX0_lay_0 22 rfl rfl)
theorem dX0_lay_23 : decode cX0_lay 23 = .ok (.invokevirtual 179, 3) := dk_182 0 179 (dk_at dksX0_lay_1 0 rfl rfl)
theorem dX0_lay_26 : decode cX0_lay 26 = .ok (.ifCond .eq 27, 3) := dk_153 0 27 (dk_at dksX0_lay_1 3 rfl rfl)
theorem dX0_lay_29 : decode cX0_lay 29 = .ok (.aload_n 0, 1) := dk_42 (dk_at dksX0_lay_1 6 rfl rfl)
theorem dX0_lay_30 : decode cX0_lay 30 = .ok (.getfield 46, 3) := dk_180 0 46 (dk_at dksX0_lay_1 7 rfl rfl)
theorem dX0_lay_33 : decode cX0_lay 33 = .ok (.getfield 182, 3) := dk_180 0 182 (dk_at dksX0_lay_1 10 rfl rfl)
theorem dX0_lay_36 : decode cX0_lay 36 = .ok (.iload_n 1, 1) := dk_27 (dk_at dksX0_lay_1 13 rfl rfl)
theorem dX0_lay_37 : decode cX0_lay 37 = .ok (.invokestatic 185, 3) := dk_184 0 185 (dk_at dksX0_lay_1 14 rfl rfl)
theorem dX0_lay_40 : decode cX0_lay 40 = .ok (.iload_n 2, 1) := dk_28 (dk_at dksX0_lay_1 17 rfl rfl)
theorem dX0_lay_41 : decode cX0_lay 41 = .ok (.iconst 1, 1) := dk_4 (dk_at dksX0_lay_1 18 rfl rfl)
theorem dX0_lay_42 : decode cX0_lay 42 = .ok (.if_icmp .ne 7, 3) := dk_160 0 7 (dk_at dksX0_lay_1 19 rfl rfl)
theorem dX0_lay_45 : decode cX0_lay 45 = .ok (.iconst 1, 1) := dk_4 (dk_at dksX0_lay_1 22 rfl rfl)
theorem dX0_lay_46 : decode cX0_lay 46 = .ok (.goto 4, 3) := dk_167 0 4 (dk_at dksX0_lay_2 0 rfl rfl)
theorem dX0_lay_49 : decode cX0_lay 49 = .ok (.iconst 0, 1) := dk_3 (dk_at dksX0_lay_2 3 rfl rfl)
theorem dX0_lay_50 : decode cX0_lay 50 = .ok (.if_icmp .ne 6, 3) := dk_160 0 6 (dk_at dksX0_lay_2 4 rfl rfl)
theorem dX0_lay_53 : decode cX0_lay 53 = .ok (.ldc 189, 2) := dk_18 189 (dk_at dksX0_lay_2 7 rfl rfl)
theorem dX0_lay_55 : decode cX0_lay 55 = .ok (.ireturn, 1) := dk_172 (dk_at dksX0_lay_2 9 rfl rfl)
theorem dX0_lay_56 : decode cX0_lay 56 = .ok (.aload_n 0, 1) := dk_42 (dk_at dksX0_lay_2 10 rfl rfl)
theorem dX0_lay_57 : decode cX0_lay 57 = .ok (.invokevirtual 190, 3) := dk_182 0 190 (dk_at dksX0_lay_2 11 rfl rfl)
theorem dX0_lay_60 : decode cX0_lay 60 = .ok (.aload_n 0, 1) := dk_42 (dk_at dksX0_lay_2 14 rfl rfl)
theorem dX0_lay_61 : decode cX0_lay 61 = .ok (.getfield 46, 3) := dk_180 0 46 (dk_at dksX0_lay_2 15 rfl rfl)
theorem dX0_lay_64 : decode cX0_lay 64 = .ok (.dup, 1) := dk_89 (dk_at dksX0_lay_2 18 rfl rfl)
theorem dX0_lay_65 : decode cX0_lay 65 = .ok (.getfield 182, 3) := dk_180 0 182 (dk_at dksX0_lay_2 19 rfl rfl)
theorem dX0_lay_68 : decode cX0_lay 68 = .ok (.iconst 1, 1) := dk_4 (dk_at dksX0_lay_2 22 rfl rfl)
theorem dX0_lay_69 : decode cX0_lay 69 = .ok (.iload_n 1, 1) := dk_27 (dk_at dksX0_lay_2 23 rfl rfl)
theorem dX0_lay_70 : decode cX0_lay 70 = .ok (.ishl, 1) := dk_120 (dk_at dksX0_lay_3 0 rfl rfl)
theorem dX0_lay_71 : decode cX0_lay 71 = .ok (.ixor, 1) := dk_130 (dk_at dksX0_lay_3 1 rfl rfl)
theorem dX0_lay_72 : decode cX0_lay 72 = .ok (.putfield 182, 3) := dk_181 0 182 (dk_at dksX0_lay_3 2 rfl rfl)
theorem dX0_lay_75 : decode cX0_lay 75 = .ok (.aload_n 0, 1) := dk_42 (dk_at dksX0_lay_3 5 rfl rfl)
theorem dX0_lay_76 : decode cX0_lay 76 = .ok (.getfield 46, 3) := dk_180 0 46 (dk_at dksX0_lay_3 6 rfl rfl)
theorem dX0_lay_79 : decode cX0_lay 79 = .ok (.aload_n 0, 1) := dk_42 (dk_at dksX0_lay_3 9 rfl rfl)
theorem dX0_lay_80 : decode cX0_lay 80 = .ok (.getfield 46, 3) := dk_180 0 46 (dk_at dksX0_lay_3 10 rfl rfl)
theorem dX0_lay_83 : decode cX0_lay 83 = .ok (.getfield 182, 3) := dk_180 0 182 (dk_at dksX0_lay_3 13 rfl rfl)
theorem dX0_lay_86 : decode cX0_lay 86 = .ok (.invokevirtual 193, 3) := dk_182 0 193 (dk_at dksX0_lay_3 16 rfl rfl)
theorem dX0_lay_89 : decode cX0_lay 89 = .ok (.ireturn, 1) := dk_172 (dk_at dksX0_lay_3 19 rfl rfl)
abbrev cX0_isPromise : ByteArray := prog_1_method_21_code
def yX0_isPromise : MethodName := ⟨RX0, "isPromise", "(I)Z"⟩
def dkwX0_isPromise_0 : List UInt8 := [27, 133, 9, 42, 180, 0, 46, 182, 0, 164, 4, 100, 133, 184, 0, 74, 172]
abbrev dktX0_isPromise_0 : List UInt8 := dkwX0_isPromise_0 ++ []
theorem dksX0_isPromise_0 : cX0_isPromise.data.toList.drop 0 = dktX0_isPromise_0 := by decide +kernel
theorem dX0_isPromise_0 : decode cX0_isPromise 0 = .ok (.iload_n 1, 1) := dk_27 (dk_at dksX0_isPromise_0 0 rfl rfl)
theorem dX0_isPromise_1 : decode cX0_isPromise 1 = .ok (.i2l, 1) := dk_133 (dk_at dksX0_isPromise_0 1 rfl rfl)
theorem dX0_isPromise_2 : decode cX0_isPromise 2 = .ok (.lconst 0, 1) := dk_9 (dk_at dksX0_isPromise_0 2 rfl rfl)
theorem dX0_isPromise_3 : decode cX0_isPromise 3 = .ok (.aload_n 0, 1) := dk_42 (dk_at dksX0_isPromise_0 3 rfl rfl)
theorem dX0_isPromise_4 : decode cX0_isPromise 4 = .ok (.getfield 46, 3) := dk_180 0 46 (dk_at dksX0_isPromise_0 4 rfl rfl)
theorem dX0_isPromise_7 : decode cX0_isPromise 7 = .ok (.invokevirtual 164, 3) := dk_182 0 164 (dk_at dksX0_isPromise_0 7 rfl rfl)
theorem dX0_isPromise_10 : decode cX0_isPromise 10 = .ok (.iconst 1, 1) := dk_4 (dk_at dksX0_isPromise_0 10 rfl rfl)
theorem dX0_isPromise_11 : decode cX0_isPromise 11 = .ok (.isub, 1) := dk_100 (dk_at dksX0_isPromise_0 11 rfl rfl)
theorem dX0_isPromise_12 : decode cX0_isPromise 12 = .ok (.i2l, 1) := dk_133 (dk_at dksX0_isPromise_0 12 rfl rfl)
theorem dX0_isPromise_13 : decode cX0_isPromise 13 = .ok (.invokestatic 74, 3) := dk_184 0 74 (dk_at dksX0_isPromise_0 13 rfl rfl)
theorem dX0_isPromise_16 : decode cX0_isPromise 16 = .ok (.ireturn, 1) := dk_172 (dk_at dksX0_isPromise_0 16 rfl rfl)
abbrev cX0_isHalf : ByteArray := prog_1_method_24_code
def yX0_isHalf : MethodName := ⟨RX0, "isHalf", "(I)Z"⟩
def dkwX0_isHalf_0 : List UInt8 := [26, 133, 9, 10, 184, 0, 74, 172]
abbrev dktX0_isHalf_0 : List UInt8 := dkwX0_isHalf_0 ++ []
theorem dksX0_isHalf_0 : cX0_isHalf.data.toList.drop 0 = dktX0_isHalf_0 := by decide +kernel
theorem dX0_isHalf_0 : decode cX0_isHalf 0 = .ok (.iload_n 0, 1) := dk_26 (dk_at dksX0_isHalf_0 0 rfl rfl)
theorem dX0_isHalf_1 : decode cX0_isHalf 1 = .ok (.i2l, 1) := dk_133 (dk_at dksX0_isHalf_0 1 rfl rfl)
theorem dX0_isHalf_2 : decode cX0_isHalf 2 = .ok (.lconst 0, 1) := dk_9 (dk_at dksX0_isHalf_0 2 rfl rfl)
theorem dX0_isHalf_3 : decode cX0_isHalf 3 = .ok (.lconst 1, 1) := dk_10 (dk_at dksX0_isHalf_0 3 rfl rfl)
theorem dX0_isHalf_4 : decode cX0_isHalf 4 = .ok (.invokestatic 74, 3) := dk_184 0 74 (dk_at dksX0_isHalf_0 4 rfl rfl)
theorem dX0_isHalf_7 : decode cX0_isHalf 7 = .ok (.ireturn, 1) := dk_172 (dk_at dksX0_isHalf_0 7 rfl rfl)
abbrev cX0_has : ByteArray := prog_1_method_2_code
def yX0_has : MethodName := ⟨RX0, "has", "(II)Z"⟩
def dkwX0_has_0 : List UInt8 := [26, 27, 122, 4, 126, 4, 160, 0, 7, 4, 167, 0, 4, 3, 172]
abbrev dktX0_has_0 : List UInt8 := dkwX0_has_0 ++ []
theorem dksX0_has_0 : cX0_has.data.toList.drop 0 = dktX0_has_0 := by decide +kernel
theorem dX0_has_0 : decode cX0_has 0 = .ok (.iload_n 0, 1) := dk_26 (dk_at dksX0_has_0 0 rfl rfl)
theorem dX0_has_1 : decode cX0_has 1 = .ok (.iload_n 1, 1) := dk_27 (dk_at dksX0_has_0 1 rfl rfl)
theorem dX0_has_2 : decode cX0_has 2 = .ok (.ishr, 1) := dk_122 (dk_at dksX0_has_0 2 rfl rfl)
theorem dX0_has_3 : decode cX0_has 3 = .ok (.iconst 1, 1) := dk_4 (dk_at dksX0_has_0 3 rfl rfl)
theorem dX0_has_4 : decode cX0_has 4 = .ok (.iand, 1) := dk_126 (dk_at dksX0_has_0 4 rfl rfl)
theorem dX0_has_5 : decode cX0_has 5 = .ok (.iconst 1, 1) := dk_4 (dk_at dksX0_has_0 5 rfl rfl)
theorem dX0_has_6 : decode cX0_has 6 = .ok (.if_icmp .ne 7, 3) := dk_160 0 7 (dk_at dksX0_has_0 6 rfl rfl)
theorem dX0_has_9 : decode cX0_has 9 = .ok (.iconst 1, 1) := dk_4 (dk_at dksX0_has_0 9 rfl rfl)
theorem dX0_has_10 : decode cX0_has 10 = .ok (.goto 4, 3) := dk_167 0 4 (dk_at dksX0_has_0 10 rfl rfl)
theorem dX0_has_13 : decode cX0_has 13 = .ok (.iconst 0, 1) := dk_3 (dk_at dksX0_has_0 13 rfl rfl)
theorem dX0_has_14 : decode cX0_has 14 = .ok (.ireturn, 1) := dk_172 (dk_at dksX0_has_0 14 rfl rfl)
abbrev cX0_keep : ByteArray := prog_1_method_25_code
def yX0_keep : MethodName := ⟨RX0, "keep", "()V"⟩
def dkwX0_keep_4 : List UInt8 := [180, 0, 161, 50, 42, 180, 0, 46, 182, 0, 157, 42, 89, 180, 0, 161, 4, 96, 181, 0, 161, 177]
abbrev dktX0_keep_4 : List UInt8 := dkwX0_keep_4 ++ []
def dkwX0_keep_3 : List UInt8 := [199, 0, 19, 42, 180, 0, 53, 42, 180, 0, 161, 187, 0, 43, 89, 183, 0, 45, 83, 42, 180, 0, 53, 42]
abbrev dktX0_keep_3 : List UInt8 := dkwX0_keep_3 ++ dktX0_keep_4
def dkwX0_keep_2 : List UInt8 := [16, 23, 43, 83, 42, 89, 180, 0, 161, 4, 100, 181, 0, 161, 42, 180, 0, 53, 42, 180, 0, 161, 50]
abbrev dktX0_keep_2 : List UInt8 := dkwX0_keep_2 ++ dktX0_keep_3
def dkwX0_keep_1 : List UInt8 := [42, 180, 0, 53, 28, 4, 100, 42, 180, 0, 53, 28, 50, 83, 132, 2, 1, 167, 255, 233, 42, 180, 0, 53]
abbrev dktX0_keep_1 : List UInt8 := dkwX0_keep_1 ++ dktX0_keep_2
def dkwX0_keep_0 : List UInt8 := [42, 180, 0, 161, 16, 24, 160, 0, 56, 42, 180, 0, 53, 3, 50, 76, 4, 61, 28, 16, 24, 162, 0, 23]
abbrev dktX0_keep_0 : List UInt8 := dkwX0_keep_0 ++ dktX0_keep_1
theorem dksX0_keep_0 : cX0_keep.data.toList.drop 0 = dktX0_keep_0 := by decide +kernel
theorem dksX0_keep_1 : cX0_keep.data.toList.drop 24 = dktX0_keep_1 := dk_seg dksX0_keep_0 24 rfl rfl
theorem dksX0_keep_2 : cX0_keep.data.toList.drop 48 = dktX0_keep_2 := dk_seg dksX0_keep_1 24 rfl rfl
theorem dksX0_keep_3 : cX0_keep.data.toList.drop 71 = dktX0_keep_3 := dk_seg dksX0_keep_2 23 rfl rfl
theorem dksX0_keep_4 : cX0_keep.data.toList.drop 95 = dktX0_keep_4 := dk_seg dksX0_keep_3 24 rfl rfl
theorem dX0_keep_0 : decode cX0_keep 0 = .ok (.aload_n 0, 1) := dk_42 (dk_at dksX0_keep_0 0 rfl rfl)
theorem dX0_keep_1 : decode cX0_keep 1 = .ok (.getfield 161, 3) := dk_180 0 161 (dk_at dksX0_keep_0 1 rfl rfl)
theorem dX0_keep_4 : decode cX0_keep 4 = .ok (.bipush 24, 2) := dk_16 24 (dk_at dksX0_keep_0 4 rfl rfl)
theorem dX0_keep_6 : decode cX0_keep 6 = .ok (.if_icmp .ne 56, 3) := dk_160 0 56 (dk_at dksX0_keep_0 6 rfl rfl)
theorem dX0_keep_9 : decode cX0_keep 9 = .ok (.aload_n 0, 1) := dk_42 (dk_at dksX0_keep_0 9 rfl rfl)
theorem dX0_keep_10 : decode cX0_keep 10 = .ok (.getfield 53, 3) := dk_180 0 53 (dk_at dksX0_keep_0 10 rfl rfl)
theorem dX0_keep_13 : decode cX0_keep 13 = .ok (.iconst 0, 1) := dk_3 (dk_at dksX0_keep_0 13 rfl rfl)
theorem dX0_keep_14 : decode cX0_keep 14 = .ok (.aaload, 1) := dk_50 (dk_at dksX0_keep_0 14 rfl rfl)
theorem dX0_keep_15 : decode cX0_keep 15 = .ok (.astore_n 1, 1) := dk_76 (dk_at dksX0_keep_0 15 rfl rfl)
theorem dX0_keep_16 : decode cX0_keep 16 = .ok (.iconst 1, 1) := dk_4 (dk_at dksX0_keep_0 16 rfl rfl)
theorem dX0_keep_17 : decode cX0_keep 17 = .ok (.istore_n 2, 1) := dk_61 (dk_at dksX0_keep_0 17 rfl rfl)
theorem dX0_keep_18 : decode cX0_keep 18 = .ok (.iload_n 2, 1) := dk_28 (dk_at dksX0_keep_0 18 rfl rfl)
theorem dX0_keep_19 : decode cX0_keep 19 = .ok (.bipush 24, 2) := dk_16 24 (dk_at dksX0_keep_0 19 rfl rfl)
theorem dX0_keep_21 : decode cX0_keep 21 = .ok (.if_icmp .ge 23, 3) := dk_162 0 23 (dk_at dksX0_keep_0 21 rfl rfl)
theorem dX0_keep_24 : decode cX0_keep 24 = .ok (.aload_n 0, 1) := dk_42 (dk_at dksX0_keep_1 0 rfl rfl)
theorem dX0_keep_25 : decode cX0_keep 25 = .ok (.getfield 53, 3) := dk_180 0 53 (dk_at dksX0_keep_1 1 rfl rfl)
theorem dX0_keep_28 : decode cX0_keep 28 = .ok (.iload_n 2, 1) := dk_28 (dk_at dksX0_keep_1 4 rfl rfl)
theorem dX0_keep_29 : decode cX0_keep 29 = .ok (.iconst 1, 1) := dk_4 (dk_at dksX0_keep_1 5 rfl rfl)
theorem dX0_keep_30 : decode cX0_keep 30 = .ok (.isub, 1) := dk_100 (dk_at dksX0_keep_1 6 rfl rfl)
theorem dX0_keep_31 : decode cX0_keep 31 = .ok (.aload_n 0, 1) := dk_42 (dk_at dksX0_keep_1 7 rfl rfl)
theorem dX0_keep_32 : decode cX0_keep 32 = .ok (.getfield 53, 3) := dk_180 0 53 (dk_at dksX0_keep_1 8 rfl rfl)
theorem dX0_keep_35 : decode cX0_keep 35 = .ok (.iload_n 2, 1) := dk_28 (dk_at dksX0_keep_1 11 rfl rfl)
theorem dX0_keep_36 : decode cX0_keep 36 = .ok (.aaload, 1) := dk_50 (dk_at dksX0_keep_1 12 rfl rfl)
theorem dX0_keep_37 : decode cX0_keep 37 = .ok (.aastore, 1) := dk_83 (dk_at dksX0_keep_1 13 rfl rfl)
theorem dX0_keep_38 : decode cX0_keep 38 = .ok (.iinc 2 1, 3) := dk_132 2 1 (dk_at dksX0_keep_1 14 rfl rfl)
theorem dX0_keep_41 : decode cX0_keep 41 = .ok (.goto (-23), 3) := dk_167 255 233 (dk_at dksX0_keep_1 17 rfl rfl)
theorem dX0_keep_44 : decode cX0_keep 44 = .ok (.aload_n 0, 1) := dk_42 (dk_at dksX0_keep_1 20 rfl rfl)
theorem dX0_keep_45 : decode cX0_keep 45 = .ok (.getfield 53, 3) := dk_180 0 53 (dk_at dksX0_keep_1 21 rfl rfl)
theorem dX0_keep_48 : decode cX0_keep 48 = .ok (.bipush 23, 2) := dk_16 23 (dk_at dksX0_keep_2 0 rfl rfl)
theorem dX0_keep_50 : decode cX0_keep 50 = .ok (.aload_n 1, 1) := dk_43 (dk_at dksX0_keep_2 2 rfl rfl)
theorem dX0_keep_51 : decode cX0_keep 51 = .ok (.aastore, 1) := dk_83 (dk_at dksX0_keep_2 3 rfl rfl)
theorem dX0_keep_52 : decode cX0_keep 52 = .ok (.aload_n 0, 1) := dk_42 (dk_at dksX0_keep_2 4 rfl rfl)
theorem dX0_keep_53 : decode cX0_keep 53 = .ok (.dup, 1) := dk_89 (dk_at dksX0_keep_2 5 rfl rfl)
theorem dX0_keep_54 : decode cX0_keep 54 = .ok (.getfield 161, 3) := dk_180 0 161 (dk_at dksX0_keep_2 6 rfl rfl)
theorem dX0_keep_57 : decode cX0_keep 57 = .ok (.iconst 1, 1) := dk_4 (dk_at dksX0_keep_2 9 rfl rfl)
theorem dX0_keep_58 : decode cX0_keep 58 = .ok (.isub, 1) := dk_100 (dk_at dksX0_keep_2 10 rfl rfl)
theorem dX0_keep_59 : decode cX0_keep 59 = .ok (.putfield 161, 3) := dk_181 0 161 (dk_at dksX0_keep_2 11 rfl rfl)
theorem dX0_keep_62 : decode cX0_keep 62 = .ok (.aload_n 0, 1) := dk_42 (dk_at dksX0_keep_2 14 rfl rfl)
theorem dX0_keep_63 : decode cX0_keep 63 = .ok (.getfield 53, 3) := dk_180 0 53 (dk_at dksX0_keep_2 15 rfl rfl)
theorem dX0_keep_66 : decode cX0_keep 66 = .ok (.aload_n 0, 1) := dk_42 (dk_at dksX0_keep_2 18 rfl rfl)
theorem dX0_keep_67 : decode cX0_keep 67 = .ok (.getfield 161, 3) := dk_180 0 161 (dk_at dksX0_keep_2 19 rfl rfl)
theorem dX0_keep_70 : decode cX0_keep 70 = .ok (.aaload, 1) := dk_50 (dk_at dksX0_keep_2 22 rfl rfl)
theorem dX0_keep_71 : decode cX0_keep 71 = .ok (.ifnonnull 19, 3) := dk_199 0 19 (dk_at dksX0_keep_3 0 rfl rfl)
theorem dX0_keep_74 : decode cX0_keep 74 = .ok (.aload_n 0, 1) := dk_42 (dk_at dksX0_keep_3 3 rfl rfl)
theorem dX0_keep_75 : decode cX0_keep 75 = .ok (.getfield 53, 3) := dk_180 0 53 (dk_at dksX0_keep_3 4 rfl rfl)
theorem dX0_keep_78 : decode cX0_keep 78 = .ok (.aload_n 0, 1) := dk_42 (dk_at dksX0_keep_3 7 rfl rfl)
theorem dX0_keep_79 : decode cX0_keep 79 = .ok (.getfield 161, 3) := dk_180 0 161 (dk_at dksX0_keep_3 8 rfl rfl)
theorem dX0_keep_82 : decode cX0_keep 82 = .ok (.new 43, 3) := dk_187 0 43 (dk_at dksX0_keep_3 11 rfl rfl)
theorem dX0_keep_85 : decode cX0_keep 85 = .ok (.dup, 1) := dk_89 (dk_at dksX0_keep_3 14 rfl rfl)
theorem dX0_keep_86 : decode cX0_keep 86 = .ok (.invokespecial 45, 3) := dk_183 0 45 (dk_at dksX0_keep_3 15 rfl rfl)
theorem dX0_keep_89 : decode cX0_keep 89 = .ok (.aastore, 1) := dk_83 (dk_at dksX0_keep_3 18 rfl rfl)
theorem dX0_keep_90 : decode cX0_keep 90 = .ok (.aload_n 0, 1) := dk_42 (dk_at dksX0_keep_3 19 rfl rfl)
theorem dX0_keep_91 : decode cX0_keep 91 = .ok (.getfield 53, 3) := dk_180 0 53 (dk_at dksX0_keep_3 20 rfl rfl)
theorem dX0_keep_94 : decode cX0_keep 94 = .ok (.aload_n 0, 1) := dk_42 (dk_at dksX0_keep_3 23 rfl rfl)
theorem dX0_keep_95 : decode cX0_keep 95 = .ok (.getfield 161, 3) := dk_180 0 161 (dk_at dksX0_keep_4 0 rfl rfl)
theorem dX0_keep_98 : decode cX0_keep 98 = .ok (.aaload, 1) := dk_50 (dk_at dksX0_keep_4 3 rfl rfl)
theorem dX0_keep_99 : decode cX0_keep 99 = .ok (.aload_n 0, 1) := dk_42 (dk_at dksX0_keep_4 4 rfl rfl)
theorem dX0_keep_100 : decode cX0_keep 100 = .ok (.getfield 46, 3) := dk_180 0 46 (dk_at dksX0_keep_4 5 rfl rfl)
theorem dX0_keep_103 : decode cX0_keep 103 = .ok (.invokevirtual 157, 3) := dk_182 0 157 (dk_at dksX0_keep_4 8 rfl rfl)
theorem dX0_keep_106 : decode cX0_keep 106 = .ok (.aload_n 0, 1) := dk_42 (dk_at dksX0_keep_4 11 rfl rfl)
theorem dX0_keep_107 : decode cX0_keep 107 = .ok (.dup, 1) := dk_89 (dk_at dksX0_keep_4 12 rfl rfl)
theorem dX0_keep_108 : decode cX0_keep 108 = .ok (.getfield 161, 3) := dk_180 0 161 (dk_at dksX0_keep_4 13 rfl rfl)
theorem dX0_keep_111 : decode cX0_keep 111 = .ok (.iconst 1, 1) := dk_4 (dk_at dksX0_keep_4 16 rfl rfl)
theorem dX0_keep_112 : decode cX0_keep 112 = .ok (.iadd, 1) := dk_96 (dk_at dksX0_keep_4 17 rfl rfl)
theorem dX0_keep_113 : decode cX0_keep 113 = .ok (.putfield 161, 3) := dk_181 0 161 (dk_at dksX0_keep_4 18 rfl rfl)
theorem dX0_keep_116 : decode cX0_keep 116 = .ok (.return_, 1) := dk_177 (dk_at dksX0_keep_4 21 rfl rfl)
abbrev cX0_readsBy : ByteArray := prog_1_method_5_code
def yX0_readsBy : MethodName := ⟨RX0, "readsBy", "(III)I"⟩
def dkwX0_readsBy_0 : List UInt8 := [26, 27, 96, 28, 108, 28, 104, 172]
abbrev dktX0_readsBy_0 : List UInt8 := dkwX0_readsBy_0 ++ []
theorem dksX0_readsBy_0 : cX0_readsBy.data.toList.drop 0 = dktX0_readsBy_0 := by decide +kernel
theorem dX0_readsBy_0 : decode cX0_readsBy 0 = .ok (.iload_n 0, 1) := dk_26 (dk_at dksX0_readsBy_0 0 rfl rfl)
theorem dX0_readsBy_1 : decode cX0_readsBy 1 = .ok (.iload_n 1, 1) := dk_27 (dk_at dksX0_readsBy_0 1 rfl rfl)
theorem dX0_readsBy_2 : decode cX0_readsBy 2 = .ok (.iadd, 1) := dk_96 (dk_at dksX0_readsBy_0 2 rfl rfl)
theorem dX0_readsBy_3 : decode cX0_readsBy 3 = .ok (.iload_n 2, 1) := dk_28 (dk_at dksX0_readsBy_0 3 rfl rfl)
theorem dX0_readsBy_4 : decode cX0_readsBy 4 = .ok (.idiv, 1) := dk_108 (dk_at dksX0_readsBy_0 4 rfl rfl)
theorem dX0_readsBy_5 : decode cX0_readsBy 5 = .ok (.iload_n 2, 1) := dk_28 (dk_at dksX0_readsBy_0 5 rfl rfl)
theorem dX0_readsBy_6 : decode cX0_readsBy 6 = .ok (.imul, 1) := dk_104 (dk_at dksX0_readsBy_0 6 rfl rfl)
theorem dX0_readsBy_7 : decode cX0_readsBy 7 = .ok (.ireturn, 1) := dk_172 (dk_at dksX0_readsBy_0 7 rfl rfl)
abbrev cX0_settle : ByteArray := prog_1_method_27_code
def yX0_settle : MethodName := ⟨RX0, "settle", "(II)I"⟩
def dkwX0_settle_3 : List UInt8 := [180, 0, 208, 46, 172]
abbrev dktX0_settle_3 : List UInt8 := dkwX0_settle_3 ++ []
def dkwX0_settle_2 : List UInt8 := [167, 0, 4, 3, 182, 0, 196, 42, 180, 0, 46, 180, 0, 200, 42, 180, 0, 46, 27, 182, 0, 204]
abbrev dktX0_settle_2 : List UInt8 := dkwX0_settle_2 ++ dktX0_settle_3
def dkwX0_settle_1 : List UInt8 := [182, 0, 179, 154, 0, 6, 18, 189, 172, 42, 182, 0, 190, 42, 180, 0, 46, 27, 28, 4, 160, 0, 7, 4]
abbrev dktX0_settle_1 : List UInt8 := dkwX0_settle_1 ++ dktX0_settle_2
def dkwX0_settle_0 : List UInt8 := [42, 27, 182, 0, 173, 153, 0, 10, 28, 184, 0, 176, 154, 0, 6, 18, 84, 172, 42, 180, 0, 46, 27]
abbrev dktX0_settle_0 : List UInt8 := dkwX0_settle_0 ++ dktX0_settle_1
theorem dksX0_settle_0 : cX0_settle.data.toList.drop 0 = dktX0_settle_0 := by decide +kernel
theorem dksX0_settle_1 : cX0_settle.data.toList.drop 23 = dktX0_settle_1 := dk_seg dksX0_settle_0 23 rfl rfl
theorem dksX0_settle_2 : cX0_settle.data.toList.drop 47 = dktX0_settle_2 := dk_seg dksX0_settle_1 24 rfl rfl
theorem dksX0_settle_3 : cX0_settle.data.toList.drop 69 = dktX0_settle_3 := dk_seg dksX0_settle_2 22 rfl rfl
theorem dX0_settle_0 : decode cX0_settle 0 = .ok (.aload_n 0, 1) := dk_42 (dk_at dksX0_settle_0 0 rfl rfl)
theorem dX0_settle_1 : decode cX0_settle 1 = .ok (.iload_n 1, 1) := dk_27 (dk_at dksX0_settle_0 1 rfl rfl)
theorem dX0_settle_2 : decode cX0_settle 2 = .ok (.invokevirtual 173, 3) := dk_182 0 173 (dk_at dksX0_settle_0 2 rfl rfl)
theorem dX0_settle_5 : decode cX0_settle 5 = .ok (.ifCond .eq 10, 3) := dk_153 0 10 (dk_at dksX0_settle_0 5 rfl rfl)
theorem dX0_settle_8 : decode cX0_settle 8 = .ok (.iload_n 2, 1) := dk_28 (dk_at dksX0_settle_0 8 rfl rfl)
theorem dX0_settle_9 : decode cX0_settle 9 = .ok (.invokestatic 176, 3) := dk_184 0 176 (dk_at dksX0_settle_0 9 rfl rfl)
theorem dX0_settle_12 : decode cX0_settle 12 = .ok (.ifCond .ne 6, 3) := dk_154 0 6 (dk_at dksX0_settle_0 12 rfl rfl)
theorem dX0_settle_15 : decode cX0_settle 15 = .ok (.ldc 84, 2) := dk_18 84 (dk_at dksX0_settle_0 15 rfl rfl)
theorem dX0_settle_17 : decode cX0_settle 17 = .ok (.ireturn, 1) := dk_172 (dk_at dksX0_settle_0 17 rfl rfl)
theorem dX0_settle_18 : decode cX0_settle 18 = .ok (.aload_n 0, 1) := dk_42 (dk_at dksX0_settle_0 18 rfl rfl)
theorem dX0_settle_19 : decode cX0_settle 19 = .ok (.getfield 46, 3) := dk_180 0 46 (dk_at dksX0_settle_0 19 rfl rfl)
theorem dX0_settle_22 : decode cX0_settle 22 = .ok (.iload_n 1, 1) := dk_27 (dk_at dksX0_settle_0 22 rfl rfl)
theorem dX0_settle_23 : decode cX0_settle 23 = .ok (.invokevirtual 179, 3) := dk_182 0 179 (dk_at dksX0_settle_1 0 rfl rfl)
theorem dX0_settle_26 : decode cX0_settle 26 = .ok (.ifCond .ne 6, 3) := dk_154 0 6 (dk_at dksX0_settle_1 3 rfl rfl)
theorem dX0_settle_29 : decode cX0_settle 29 = .ok (.ldc 189, 2) := dk_18 189 (dk_at dksX0_settle_1 6 rfl rfl)
theorem dX0_settle_31 : decode cX0_settle 31 = .ok (.ireturn, 1) := dk_172 (dk_at dksX0_settle_1 8 rfl rfl)
theorem dX0_settle_32 : decode cX0_settle 32 = .ok (.aload_n 0, 1) := dk_42 (dk_at dksX0_settle_1 9 rfl rfl)
theorem dX0_settle_33 : decode cX0_settle 33 = .ok (.invokevirtual 190, 3) := dk_182 0 190 (dk_at dksX0_settle_1 10 rfl rfl)
theorem dX0_settle_36 : decode cX0_settle 36 = .ok (.aload_n 0, 1) := dk_42 (dk_at dksX0_settle_1 13 rfl rfl)
theorem dX0_settle_37 : decode cX0_settle 37 = .ok (.getfield 46, 3) := dk_180 0 46 (dk_at dksX0_settle_1 14 rfl rfl)
theorem dX0_settle_40 : decode cX0_settle 40 = .ok (.iload_n 1, 1) := dk_27 (dk_at dksX0_settle_1 17 rfl rfl)
theorem dX0_settle_41 : decode cX0_settle 41 = .ok (.iload_n 2, 1) := dk_28 (dk_at dksX0_settle_1 18 rfl rfl)
theorem dX0_settle_42 : decode cX0_settle 42 = .ok (.iconst 1, 1) := dk_4 (dk_at dksX0_settle_1 19 rfl rfl)
theorem dX0_settle_43 : decode cX0_settle 43 = .ok (.if_icmp .ne 7, 3) := dk_160 0 7 (dk_at dksX0_settle_1 20 rfl rfl)
theorem dX0_settle_46 : decode cX0_settle 46 = .ok (.iconst 1, 1) := dk_4 (dk_at dksX0_settle_1 23 rfl rfl)
theorem dX0_settle_47 : decode cX0_settle 47 = .ok (.goto 4, 3) := dk_167 0 4 (dk_at dksX0_settle_2 0 rfl rfl)
theorem dX0_settle_50 : decode cX0_settle 50 = .ok (.iconst 0, 1) := dk_3 (dk_at dksX0_settle_2 3 rfl rfl)
theorem dX0_settle_51 : decode cX0_settle 51 = .ok (.invokevirtual 196, 3) := dk_182 0 196 (dk_at dksX0_settle_2 4 rfl rfl)
theorem dX0_settle_54 : decode cX0_settle 54 = .ok (.aload_n 0, 1) := dk_42 (dk_at dksX0_settle_2 7 rfl rfl)
theorem dX0_settle_55 : decode cX0_settle 55 = .ok (.getfield 46, 3) := dk_180 0 46 (dk_at dksX0_settle_2 8 rfl rfl)
theorem dX0_settle_58 : decode cX0_settle 58 = .ok (.getfield 200, 3) := dk_180 0 200 (dk_at dksX0_settle_2 11 rfl rfl)
theorem dX0_settle_61 : decode cX0_settle 61 = .ok (.aload_n 0, 1) := dk_42 (dk_at dksX0_settle_2 14 rfl rfl)
theorem dX0_settle_62 : decode cX0_settle 62 = .ok (.getfield 46, 3) := dk_180 0 46 (dk_at dksX0_settle_2 15 rfl rfl)
theorem dX0_settle_65 : decode cX0_settle 65 = .ok (.iload_n 1, 1) := dk_27 (dk_at dksX0_settle_2 18 rfl rfl)
theorem dX0_settle_66 : decode cX0_settle 66 = .ok (.invokevirtual 204, 3) := dk_182 0 204 (dk_at dksX0_settle_2 19 rfl rfl)
theorem dX0_settle_69 : decode cX0_settle 69 = .ok (.getfield 208, 3) := dk_180 0 208 (dk_at dksX0_settle_3 0 rfl rfl)
theorem dX0_settle_72 : decode cX0_settle 72 = .ok (.iaload, 1) := dk_46 (dk_at dksX0_settle_3 3 rfl rfl)
theorem dX0_settle_73 : decode cX0_settle 73 = .ok (.ireturn, 1) := dk_172 (dk_at dksX0_settle_3 4 rfl rfl)
abbrev cX0_wax : ByteArray := prog_1_method_28_code
def yX0_wax : MethodName := ⟨RX0, "wax", "(I)I"⟩
def dkwX0_wax_1 : List UInt8 := [172, 42, 182, 0, 190, 42, 180, 0, 46, 180, 0, 217, 61, 42, 180, 0, 46, 27, 181, 0, 217, 28, 172]
abbrev dktX0_wax_1 : List UInt8 := dkwX0_wax_1 ++ []
def dkwX0_wax_0 : List UInt8 := [42, 182, 0, 211, 154, 0, 6, 18, 189, 172, 27, 133, 9, 20, 0, 215, 184, 0, 74, 154, 0, 6, 18, 84]
abbrev dktX0_wax_0 : List UInt8 := dkwX0_wax_0 ++ dktX0_wax_1
theorem dksX0_wax_0 : cX0_wax.data.toList.drop 0 = dktX0_wax_0 := by decide +kernel
theorem dksX0_wax_1 : cX0_wax.data.toList.drop 24 = dktX0_wax_1 := dk_seg dksX0_wax_0 24 rfl rfl
theorem dX0_wax_0 : decode cX0_wax 0 = .ok (.aload_n 0, 1) := dk_42 (dk_at dksX0_wax_0 0 rfl rfl)
theorem dX0_wax_1 : decode cX0_wax 1 = .ok (.invokevirtual 211, 3) := dk_182 0 211 (dk_at dksX0_wax_0 1 rfl rfl)
theorem dX0_wax_4 : decode cX0_wax 4 = .ok (.ifCond .ne 6, 3) := dk_154 0 6 (dk_at dksX0_wax_0 4 rfl rfl)
theorem dX0_wax_7 : decode cX0_wax 7 = .ok (.ldc 189, 2) := dk_18 189 (dk_at dksX0_wax_0 7 rfl rfl)
theorem dX0_wax_9 : decode cX0_wax 9 = .ok (.ireturn, 1) := dk_172 (dk_at dksX0_wax_0 9 rfl rfl)
theorem dX0_wax_10 : decode cX0_wax 10 = .ok (.iload_n 1, 1) := dk_27 (dk_at dksX0_wax_0 10 rfl rfl)
theorem dX0_wax_11 : decode cX0_wax 11 = .ok (.i2l, 1) := dk_133 (dk_at dksX0_wax_0 11 rfl rfl)
theorem dX0_wax_12 : decode cX0_wax 12 = .ok (.lconst 0, 1) := dk_9 (dk_at dksX0_wax_0 12 rfl rfl)
theorem dX0_wax_13 : decode cX0_wax 13 = .ok (.ldc2_w 215, 3) := dk_20 0 215 (dk_at dksX0_wax_0 13 rfl rfl)
theorem dX0_wax_16 : decode cX0_wax 16 = .ok (.invokestatic 74, 3) := dk_184 0 74 (dk_at dksX0_wax_0 16 rfl rfl)
theorem dX0_wax_19 : decode cX0_wax 19 = .ok (.ifCond .ne 6, 3) := dk_154 0 6 (dk_at dksX0_wax_0 19 rfl rfl)
theorem dX0_wax_22 : decode cX0_wax 22 = .ok (.ldc 84, 2) := dk_18 84 (dk_at dksX0_wax_0 22 rfl rfl)
theorem dX0_wax_24 : decode cX0_wax 24 = .ok (.ireturn, 1) := dk_172 (dk_at dksX0_wax_1 0 rfl rfl)
theorem dX0_wax_25 : decode cX0_wax 25 = .ok (.aload_n 0, 1) := dk_42 (dk_at dksX0_wax_1 1 rfl rfl)
theorem dX0_wax_26 : decode cX0_wax 26 = .ok (.invokevirtual 190, 3) := dk_182 0 190 (dk_at dksX0_wax_1 2 rfl rfl)
theorem dX0_wax_29 : decode cX0_wax 29 = .ok (.aload_n 0, 1) := dk_42 (dk_at dksX0_wax_1 5 rfl rfl)
theorem dX0_wax_30 : decode cX0_wax 30 = .ok (.getfield 46, 3) := dk_180 0 46 (dk_at dksX0_wax_1 6 rfl rfl)
theorem dX0_wax_33 : decode cX0_wax 33 = .ok (.getfield 217, 3) := dk_180 0 217 (dk_at dksX0_wax_1 9 rfl rfl)
theorem dX0_wax_36 : decode cX0_wax 36 = .ok (.istore_n 2, 1) := dk_61 (dk_at dksX0_wax_1 12 rfl rfl)
theorem dX0_wax_37 : decode cX0_wax 37 = .ok (.aload_n 0, 1) := dk_42 (dk_at dksX0_wax_1 13 rfl rfl)
theorem dX0_wax_38 : decode cX0_wax 38 = .ok (.getfield 46, 3) := dk_180 0 46 (dk_at dksX0_wax_1 14 rfl rfl)
theorem dX0_wax_41 : decode cX0_wax 41 = .ok (.iload_n 1, 1) := dk_27 (dk_at dksX0_wax_1 17 rfl rfl)
theorem dX0_wax_42 : decode cX0_wax 42 = .ok (.putfield 217, 3) := dk_181 0 217 (dk_at dksX0_wax_1 18 rfl rfl)
theorem dX0_wax_45 : decode cX0_wax 45 = .ok (.iload_n 2, 1) := dk_28 (dk_at dksX0_wax_1 21 rfl rfl)
theorem dX0_wax_46 : decode cX0_wax 46 = .ok (.ireturn, 1) := dk_172 (dk_at dksX0_wax_1 22 rfl rfl)
abbrev cX0_isThere : ByteArray := prog_1_method_20_code
def yX0_isThere : MethodName := ⟨RX0, "isThere", "()Z"⟩
def dkwX0_isThere_0 : List UInt8 := [42, 180, 0, 46, 180, 0, 165, 158, 0, 7, 4, 167, 0, 4, 3, 172]
abbrev dktX0_isThere_0 : List UInt8 := dkwX0_isThere_0 ++ []
theorem dksX0_isThere_0 : cX0_isThere.data.toList.drop 0 = dktX0_isThere_0 := by decide +kernel
theorem dX0_isThere_0 : decode cX0_isThere 0 = .ok (.aload_n 0, 1) := dk_42 (dk_at dksX0_isThere_0 0 rfl rfl)
theorem dX0_isThere_1 : decode cX0_isThere 1 = .ok (.getfield 46, 3) := dk_180 0 46 (dk_at dksX0_isThere_0 1 rfl rfl)
theorem dX0_isThere_4 : decode cX0_isThere 4 = .ok (.getfield 165, 3) := dk_180 0 165 (dk_at dksX0_isThere_0 4 rfl rfl)
theorem dX0_isThere_7 : decode cX0_isThere 7 = .ok (.ifCond .le 7, 3) := dk_158 0 7 (dk_at dksX0_isThere_0 7 rfl rfl)
theorem dX0_isThere_10 : decode cX0_isThere 10 = .ok (.iconst 1, 1) := dk_4 (dk_at dksX0_isThere_0 10 rfl rfl)
theorem dX0_isThere_11 : decode cX0_isThere 11 = .ok (.goto 4, 3) := dk_167 0 4 (dk_at dksX0_isThere_0 11 rfl rfl)
theorem dX0_isThere_14 : decode cX0_isThere 14 = .ok (.iconst 0, 1) := dk_3 (dk_at dksX0_isThere_0 14 rfl rfl)
theorem dX0_isThere_15 : decode cX0_isThere 15 = .ok (.ireturn, 1) := dk_172 (dk_at dksX0_isThere_0 15 rfl rfl)
abbrev cX0_undo : ByteArray := prog_1_method_29_code
def yX0_undo : MethodName := ⟨RX0, "undo", "()I"⟩
def dkwX0_undo_1 : List UInt8 := [42, 180, 0, 53, 42, 180, 0, 161, 50, 182, 0, 157, 42, 180, 0, 161, 172]
abbrev dktX0_undo_1 : List UInt8 := dkwX0_undo_1 ++ []
def dkwX0_undo_0 : List UInt8 := [42, 180, 0, 161, 154, 0, 6, 18, 189, 172, 42, 89, 180, 0, 161, 4, 100, 181, 0, 161, 42, 180, 0, 46]
abbrev dktX0_undo_0 : List UInt8 := dkwX0_undo_0 ++ dktX0_undo_1
theorem dksX0_undo_0 : cX0_undo.data.toList.drop 0 = dktX0_undo_0 := by decide +kernel
theorem dksX0_undo_1 : cX0_undo.data.toList.drop 24 = dktX0_undo_1 := dk_seg dksX0_undo_0 24 rfl rfl
theorem dX0_undo_0 : decode cX0_undo 0 = .ok (.aload_n 0, 1) := dk_42 (dk_at dksX0_undo_0 0 rfl rfl)
theorem dX0_undo_1 : decode cX0_undo 1 = .ok (.getfield 161, 3) := dk_180 0 161 (dk_at dksX0_undo_0 1 rfl rfl)
theorem dX0_undo_4 : decode cX0_undo 4 = .ok (.ifCond .ne 6, 3) := dk_154 0 6 (dk_at dksX0_undo_0 4 rfl rfl)
theorem dX0_undo_7 : decode cX0_undo 7 = .ok (.ldc 189, 2) := dk_18 189 (dk_at dksX0_undo_0 7 rfl rfl)
theorem dX0_undo_9 : decode cX0_undo 9 = .ok (.ireturn, 1) := dk_172 (dk_at dksX0_undo_0 9 rfl rfl)
theorem dX0_undo_10 : decode cX0_undo 10 = .ok (.aload_n 0, 1) := dk_42 (dk_at dksX0_undo_0 10 rfl rfl)
theorem dX0_undo_11 : decode cX0_undo 11 = .ok (.dup, 1) := dk_89 (dk_at dksX0_undo_0 11 rfl rfl)
theorem dX0_undo_12 : decode cX0_undo 12 = .ok (.getfield 161, 3) := dk_180 0 161 (dk_at dksX0_undo_0 12 rfl rfl)
theorem dX0_undo_15 : decode cX0_undo 15 = .ok (.iconst 1, 1) := dk_4 (dk_at dksX0_undo_0 15 rfl rfl)
theorem dX0_undo_16 : decode cX0_undo 16 = .ok (.isub, 1) := dk_100 (dk_at dksX0_undo_0 16 rfl rfl)
theorem dX0_undo_17 : decode cX0_undo 17 = .ok (.putfield 161, 3) := dk_181 0 161 (dk_at dksX0_undo_0 17 rfl rfl)
theorem dX0_undo_20 : decode cX0_undo 20 = .ok (.aload_n 0, 1) := dk_42 (dk_at dksX0_undo_0 20 rfl rfl)
theorem dX0_undo_21 : decode cX0_undo 21 = .ok (.getfield 46, 3) := dk_180 0 46 (dk_at dksX0_undo_0 21 rfl rfl)
theorem dX0_undo_24 : decode cX0_undo 24 = .ok (.aload_n 0, 1) := dk_42 (dk_at dksX0_undo_1 0 rfl rfl)
theorem dX0_undo_25 : decode cX0_undo 25 = .ok (.getfield 53, 3) := dk_180 0 53 (dk_at dksX0_undo_1 1 rfl rfl)
theorem dX0_undo_28 : decode cX0_undo 28 = .ok (.aload_n 0, 1) := dk_42 (dk_at dksX0_undo_1 4 rfl rfl)
theorem dX0_undo_29 : decode cX0_undo 29 = .ok (.getfield 161, 3) := dk_180 0 161 (dk_at dksX0_undo_1 5 rfl rfl)
theorem dX0_undo_32 : decode cX0_undo 32 = .ok (.aaload, 1) := dk_50 (dk_at dksX0_undo_1 8 rfl rfl)
theorem dX0_undo_33 : decode cX0_undo 33 = .ok (.invokevirtual 157, 3) := dk_182 0 157 (dk_at dksX0_undo_1 9 rfl rfl)
theorem dX0_undo_36 : decode cX0_undo 36 = .ok (.aload_n 0, 1) := dk_42 (dk_at dksX0_undo_1 12 rfl rfl)
theorem dX0_undo_37 : decode cX0_undo 37 = .ok (.getfield 161, 3) := dk_180 0 161 (dk_at dksX0_undo_1 13 rfl rfl)
theorem dX0_undo_40 : decode cX0_undo 40 = .ok (.ireturn, 1) := dk_172 (dk_at dksX0_undo_1 16 rfl rfl)
abbrev cX0_promise : ByteArray := prog_1_method_30_code
def yX0_promise : MethodName := ⟨RX0, "promise", "(II)I"⟩
def dkwX0_promise_4 : List UInt8 := [4, 126, 172, 18, 84, 172]
abbrev dktX0_promise_4 : List UInt8 := dkwX0_promise_4 ++ []
def dkwX0_promise_3 : List UInt8 := [27, 182, 0, 229, 172, 42, 180, 0, 46, 180, 0, 232, 27, 46, 172, 42, 180, 0, 46, 180, 0, 182, 27, 122]
abbrev dktX0_promise_3 : List UInt8 := dkwX0_promise_3 ++ dktX0_promise_4
def dkwX0_promise_2 : List UInt8 := [45, 180, 0, 208, 172, 45, 180, 0, 220, 172, 45, 180, 0, 223, 172, 45, 182, 0, 226, 172, 42, 180, 0, 46]
abbrev dktX0_promise_2 : List UInt8 := dkwX0_promise_2 ++ dktX0_promise_3
def dkwX0_promise_1 : List UInt8 := [170, 0, 0, 0, 0, 0, 94, 0, 0, 0, 0, 0, 0, 0, 6, 0, 0, 0, 43, 0, 0, 0, 48, 0, 0, 0, 53, 0, 0, 0, 58, 0, 0, 0, 63, 0, 0, 0, 72, 0, 0, 0, 82]
abbrev dktX0_promise_1 : List UInt8 := dkwX0_promise_1 ++ dktX0_promise_2
def dkwX0_promise_0 : List UInt8 := [42, 27, 182, 0, 173, 154, 0, 6, 18, 84, 172, 42, 180, 0, 46, 27, 182, 0, 204, 78, 28]
abbrev dktX0_promise_0 : List UInt8 := dkwX0_promise_0 ++ dktX0_promise_1
theorem dksX0_promise_0 : cX0_promise.data.toList.drop 0 = dktX0_promise_0 := by decide +kernel
theorem dksX0_promise_1 : cX0_promise.data.toList.drop 21 = dktX0_promise_1 := dk_seg dksX0_promise_0 21 rfl rfl
theorem dksX0_promise_2 : cX0_promise.data.toList.drop 64 = dktX0_promise_2 := dk_seg dksX0_promise_1 43 rfl rfl
theorem dksX0_promise_3 : cX0_promise.data.toList.drop 88 = dktX0_promise_3 := dk_seg dksX0_promise_2 24 rfl rfl
theorem dksX0_promise_4 : cX0_promise.data.toList.drop 112 = dktX0_promise_4 := dk_seg dksX0_promise_3 24 rfl rfl
theorem dX0_promise_0 : decode cX0_promise 0 = .ok (.aload_n 0, 1) := dk_42 (dk_at dksX0_promise_0 0 rfl rfl)
theorem dX0_promise_1 : decode cX0_promise 1 = .ok (.iload_n 1, 1) := dk_27 (dk_at dksX0_promise_0 1 rfl rfl)
theorem dX0_promise_2 : decode cX0_promise 2 = .ok (.invokevirtual 173, 3) := dk_182 0 173 (dk_at dksX0_promise_0 2 rfl rfl)
theorem dX0_promise_5 : decode cX0_promise 5 = .ok (.ifCond .ne 6, 3) := dk_154 0 6 (dk_at dksX0_promise_0 5 rfl rfl)
theorem dX0_promise_8 : decode cX0_promise 8 = .ok (.ldc 84, 2) := dk_18 84 (dk_at dksX0_promise_0 8 rfl rfl)
theorem dX0_promise_10 : decode cX0_promise 10 = .ok (.ireturn, 1) := dk_172 (dk_at dksX0_promise_0 10 rfl rfl)
theorem dX0_promise_11 : decode cX0_promise 11 = .ok (.aload_n 0, 1) := dk_42 (dk_at dksX0_promise_0 11 rfl rfl)
theorem dX0_promise_12 : decode cX0_promise 12 = .ok (.getfield 46, 3) := dk_180 0 46 (dk_at dksX0_promise_0 12 rfl rfl)
theorem dX0_promise_15 : decode cX0_promise 15 = .ok (.iload_n 1, 1) := dk_27 (dk_at dksX0_promise_0 15 rfl rfl)
theorem dX0_promise_16 : decode cX0_promise 16 = .ok (.invokevirtual 204, 3) := dk_182 0 204 (dk_at dksX0_promise_0 16 rfl rfl)
theorem dX0_promise_19 : decode cX0_promise 19 = .ok (.astore_n 3, 1) := dk_78 (dk_at dksX0_promise_0 19 rfl rfl)
theorem dX0_promise_20 : decode cX0_promise 20 = .ok (.iload_n 2, 1) := dk_28 (dk_at dksX0_promise_0 20 rfl rfl)
theorem dX0_promise_21 : decode cX0_promise 21 = .ok (.tableswitch 94 0 6 #[43, 48, 53, 58, 63, 72, 82], 43) := by decide +kernel
theorem dX0_promise_64 : decode cX0_promise 64 = .ok (.aload_n 3, 1) := dk_45 (dk_at dksX0_promise_2 0 rfl rfl)
theorem dX0_promise_65 : decode cX0_promise 65 = .ok (.getfield 208, 3) := dk_180 0 208 (dk_at dksX0_promise_2 1 rfl rfl)
theorem dX0_promise_68 : decode cX0_promise 68 = .ok (.ireturn, 1) := dk_172 (dk_at dksX0_promise_2 4 rfl rfl)
theorem dX0_promise_69 : decode cX0_promise 69 = .ok (.aload_n 3, 1) := dk_45 (dk_at dksX0_promise_2 5 rfl rfl)
theorem dX0_promise_70 : decode cX0_promise 70 = .ok (.getfield 220, 3) := dk_180 0 220 (dk_at dksX0_promise_2 6 rfl rfl)
theorem dX0_promise_73 : decode cX0_promise 73 = .ok (.ireturn, 1) := dk_172 (dk_at dksX0_promise_2 9 rfl rfl)
theorem dX0_promise_74 : decode cX0_promise 74 = .ok (.aload_n 3, 1) := dk_45 (dk_at dksX0_promise_2 10 rfl rfl)
theorem dX0_promise_75 : decode cX0_promise 75 = .ok (.getfield 223, 3) := dk_180 0 223 (dk_at dksX0_promise_2 11 rfl rfl)
theorem dX0_promise_78 : decode cX0_promise 78 = .ok (.ireturn, 1) := dk_172 (dk_at dksX0_promise_2 14 rfl rfl)
theorem dX0_promise_79 : decode cX0_promise 79 = .ok (.aload_n 3, 1) := dk_45 (dk_at dksX0_promise_2 15 rfl rfl)
theorem dX0_promise_80 : decode cX0_promise 80 = .ok (.invokevirtual 226, 3) := dk_182 0 226 (dk_at dksX0_promise_2 16 rfl rfl)
theorem dX0_promise_83 : decode cX0_promise 83 = .ok (.ireturn, 1) := dk_172 (dk_at dksX0_promise_2 19 rfl rfl)
theorem dX0_promise_84 : decode cX0_promise 84 = .ok (.aload_n 0, 1) := dk_42 (dk_at dksX0_promise_2 20 rfl rfl)
theorem dX0_promise_85 : decode cX0_promise 85 = .ok (.getfield 46, 3) := dk_180 0 46 (dk_at dksX0_promise_2 21 rfl rfl)
theorem dX0_promise_88 : decode cX0_promise 88 = .ok (.iload_n 1, 1) := dk_27 (dk_at dksX0_promise_3 0 rfl rfl)
theorem dX0_promise_89 : decode cX0_promise 89 = .ok (.invokevirtual 229, 3) := dk_182 0 229 (dk_at dksX0_promise_3 1 rfl rfl)
theorem dX0_promise_92 : decode cX0_promise 92 = .ok (.ireturn, 1) := dk_172 (dk_at dksX0_promise_3 4 rfl rfl)
theorem dX0_promise_93 : decode cX0_promise 93 = .ok (.aload_n 0, 1) := dk_42 (dk_at dksX0_promise_3 5 rfl rfl)
theorem dX0_promise_94 : decode cX0_promise 94 = .ok (.getfield 46, 3) := dk_180 0 46 (dk_at dksX0_promise_3 6 rfl rfl)
theorem dX0_promise_97 : decode cX0_promise 97 = .ok (.getfield 232, 3) := dk_180 0 232 (dk_at dksX0_promise_3 9 rfl rfl)
theorem dX0_promise_100 : decode cX0_promise 100 = .ok (.iload_n 1, 1) := dk_27 (dk_at dksX0_promise_3 12 rfl rfl)
theorem dX0_promise_101 : decode cX0_promise 101 = .ok (.iaload, 1) := dk_46 (dk_at dksX0_promise_3 13 rfl rfl)
theorem dX0_promise_102 : decode cX0_promise 102 = .ok (.ireturn, 1) := dk_172 (dk_at dksX0_promise_3 14 rfl rfl)
theorem dX0_promise_103 : decode cX0_promise 103 = .ok (.aload_n 0, 1) := dk_42 (dk_at dksX0_promise_3 15 rfl rfl)
theorem dX0_promise_104 : decode cX0_promise 104 = .ok (.getfield 46, 3) := dk_180 0 46 (dk_at dksX0_promise_3 16 rfl rfl)
theorem dX0_promise_107 : decode cX0_promise 107 = .ok (.getfield 182, 3) := dk_180 0 182 (dk_at dksX0_promise_3 19 rfl rfl)
theorem dX0_promise_110 : decode cX0_promise 110 = .ok (.iload_n 1, 1) := dk_27 (dk_at dksX0_promise_3 22 rfl rfl)
theorem dX0_promise_111 : decode cX0_promise 111 = .ok (.ishr, 1) := dk_122 (dk_at dksX0_promise_3 23 rfl rfl)
theorem dX0_promise_112 : decode cX0_promise 112 = .ok (.iconst 1, 1) := dk_4 (dk_at dksX0_promise_4 0 rfl rfl)
theorem dX0_promise_113 : decode cX0_promise 113 = .ok (.iand, 1) := dk_126 (dk_at dksX0_promise_4 1 rfl rfl)
theorem dX0_promise_114 : decode cX0_promise 114 = .ok (.ireturn, 1) := dk_172 (dk_at dksX0_promise_4 2 rfl rfl)
theorem dX0_promise_115 : decode cX0_promise 115 = .ok (.ldc 84, 2) := dk_18 84 (dk_at dksX0_promise_4 3 rfl rfl)
theorem dX0_promise_117 : decode cX0_promise 117 = .ok (.ireturn, 1) := dk_172 (dk_at dksX0_promise_4 5 rfl rfl)
abbrev cX0_keeps : ByteArray := prog_1_method_31_code
def yX0_keeps : MethodName := ⟨RX0, "keeps", "(I)I"⟩
def dkwX0_keeps_0 : List UInt8 := [42, 27, 182, 0, 235, 153, 0, 15, 42, 180, 0, 46, 180, 0, 200, 27, 46, 167, 0, 5, 18, 84, 172]
abbrev dktX0_keeps_0 : List UInt8 := dkwX0_keeps_0 ++ []
theorem dksX0_keeps_0 : cX0_keeps.data.toList.drop 0 = dktX0_keeps_0 := by decide +kernel
theorem dX0_keeps_0 : decode cX0_keeps 0 = .ok (.aload_n 0, 1) := dk_42 (dk_at dksX0_keeps_0 0 rfl rfl)
theorem dX0_keeps_1 : decode cX0_keeps 1 = .ok (.iload_n 1, 1) := dk_27 (dk_at dksX0_keeps_0 1 rfl rfl)
theorem dX0_keeps_2 : decode cX0_keeps 2 = .ok (.invokevirtual 235, 3) := dk_182 0 235 (dk_at dksX0_keeps_0 2 rfl rfl)
theorem dX0_keeps_5 : decode cX0_keeps 5 = .ok (.ifCond .eq 15, 3) := dk_153 0 15 (dk_at dksX0_keeps_0 5 rfl rfl)
theorem dX0_keeps_8 : decode cX0_keeps 8 = .ok (.aload_n 0, 1) := dk_42 (dk_at dksX0_keeps_0 8 rfl rfl)
theorem dX0_keeps_9 : decode cX0_keeps 9 = .ok (.getfield 46, 3) := dk_180 0 46 (dk_at dksX0_keeps_0 9 rfl rfl)
theorem dX0_keeps_12 : decode cX0_keeps 12 = .ok (.getfield 200, 3) := dk_180 0 200 (dk_at dksX0_keeps_0 12 rfl rfl)
theorem dX0_keeps_15 : decode cX0_keeps 15 = .ok (.iload_n 1, 1) := dk_27 (dk_at dksX0_keeps_0 15 rfl rfl)
theorem dX0_keeps_16 : decode cX0_keeps 16 = .ok (.iaload, 1) := dk_46 (dk_at dksX0_keeps_0 16 rfl rfl)
theorem dX0_keeps_17 : decode cX0_keeps 17 = .ok (.goto 5, 3) := dk_167 0 5 (dk_at dksX0_keeps_0 17 rfl rfl)
theorem dX0_keeps_20 : decode cX0_keeps 20 = .ok (.ldc 84, 2) := dk_18 84 (dk_at dksX0_keeps_0 20 rfl rfl)
theorem dX0_keeps_22 : decode cX0_keeps 22 = .ok (.ireturn, 1) := dk_172 (dk_at dksX0_keeps_0 22 rfl rfl)
abbrev cX0_isGiver : ByteArray := prog_1_method_22_code
def yX0_isGiver : MethodName := ⟨RX0, "isGiver", "(I)Z"⟩
def dkwX0_isGiver_0 : List UInt8 := [27, 133, 9, 42, 180, 0, 46, 180, 0, 168, 4, 100, 133, 184, 0, 74, 172]
abbrev dktX0_isGiver_0 : List UInt8 := dkwX0_isGiver_0 ++ []
theorem dksX0_isGiver_0 : cX0_isGiver.data.toList.drop 0 = dktX0_isGiver_0 := by decide +kernel
theorem dX0_isGiver_0 : decode cX0_isGiver 0 = .ok (.iload_n 1, 1) := dk_27 (dk_at dksX0_isGiver_0 0 rfl rfl)
theorem dX0_isGiver_1 : decode cX0_isGiver 1 = .ok (.i2l, 1) := dk_133 (dk_at dksX0_isGiver_0 1 rfl rfl)
theorem dX0_isGiver_2 : decode cX0_isGiver 2 = .ok (.lconst 0, 1) := dk_9 (dk_at dksX0_isGiver_0 2 rfl rfl)
theorem dX0_isGiver_3 : decode cX0_isGiver 3 = .ok (.aload_n 0, 1) := dk_42 (dk_at dksX0_isGiver_0 3 rfl rfl)
theorem dX0_isGiver_4 : decode cX0_isGiver 4 = .ok (.getfield 46, 3) := dk_180 0 46 (dk_at dksX0_isGiver_0 4 rfl rfl)
theorem dX0_isGiver_7 : decode cX0_isGiver 7 = .ok (.getfield 168, 3) := dk_180 0 168 (dk_at dksX0_isGiver_0 7 rfl rfl)
theorem dX0_isGiver_10 : decode cX0_isGiver 10 = .ok (.iconst 1, 1) := dk_4 (dk_at dksX0_isGiver_0 10 rfl rfl)
theorem dX0_isGiver_11 : decode cX0_isGiver 11 = .ok (.isub, 1) := dk_100 (dk_at dksX0_isGiver_0 11 rfl rfl)
theorem dX0_isGiver_12 : decode cX0_isGiver 12 = .ok (.i2l, 1) := dk_133 (dk_at dksX0_isGiver_0 12 rfl rfl)
theorem dX0_isGiver_13 : decode cX0_isGiver 13 = .ok (.invokestatic 74, 3) := dk_184 0 74 (dk_at dksX0_isGiver_0 13 rfl rfl)
theorem dX0_isGiver_16 : decode cX0_isGiver 16 = .ok (.ireturn, 1) := dk_172 (dk_at dksX0_isGiver_0 16 rfl rfl)
abbrev cX0_reads : ByteArray := prog_1_method_32_code
def yX0_reads : MethodName := ⟨RX0, "reads", "(I)I"⟩
def dkwX0_reads_1 : List UInt8 := [182, 0, 193, 167, 0, 5, 18, 84, 172]
abbrev dktX0_reads_1 : List UInt8 := dkwX0_reads_1 ++ []
def dkwX0_reads_0 : List UInt8 := [42, 182, 0, 211, 154, 0, 6, 18, 189, 172, 42, 27, 182, 0, 238, 153, 0, 14, 42, 180, 0, 46, 27]
abbrev dktX0_reads_0 : List UInt8 := dkwX0_reads_0 ++ dktX0_reads_1
theorem dksX0_reads_0 : cX0_reads.data.toList.drop 0 = dktX0_reads_0 := by decide +kernel
theorem dksX0_reads_1 : cX0_reads.data.toList.drop 23 = dktX0_reads_1 := dk_seg dksX0_reads_0 23 rfl rfl
theorem dX0_reads_0 : decode cX0_reads 0 = .ok (.aload_n 0, 1) := dk_42 (dk_at dksX0_reads_0 0 rfl rfl)
theorem dX0_reads_1 : decode cX0_reads 1 = .ok (.invokevirtual 211, 3) := dk_182 0 211 (dk_at dksX0_reads_0 1 rfl rfl)
theorem dX0_reads_4 : decode cX0_reads 4 = .ok (.ifCond .ne 6, 3) := dk_154 0 6 (dk_at dksX0_reads_0 4 rfl rfl)
theorem dX0_reads_7 : decode cX0_reads 7 = .ok (.ldc 189, 2) := dk_18 189 (dk_at dksX0_reads_0 7 rfl rfl)
theorem dX0_reads_9 : decode cX0_reads 9 = .ok (.ireturn, 1) := dk_172 (dk_at dksX0_reads_0 9 rfl rfl)
theorem dX0_reads_10 : decode cX0_reads 10 = .ok (.aload_n 0, 1) := dk_42 (dk_at dksX0_reads_0 10 rfl rfl)
theorem dX0_reads_11 : decode cX0_reads 11 = .ok (.iload_n 1, 1) := dk_27 (dk_at dksX0_reads_0 11 rfl rfl)
theorem dX0_reads_12 : decode cX0_reads 12 = .ok (.invokevirtual 238, 3) := dk_182 0 238 (dk_at dksX0_reads_0 12 rfl rfl)
theorem dX0_reads_15 : decode cX0_reads 15 = .ok (.ifCond .eq 14, 3) := dk_153 0 14 (dk_at dksX0_reads_0 15 rfl rfl)
theorem dX0_reads_18 : decode cX0_reads 18 = .ok (.aload_n 0, 1) := dk_42 (dk_at dksX0_reads_0 18 rfl rfl)
theorem dX0_reads_19 : decode cX0_reads 19 = .ok (.getfield 46, 3) := dk_180 0 46 (dk_at dksX0_reads_0 19 rfl rfl)
theorem dX0_reads_22 : decode cX0_reads 22 = .ok (.iload_n 1, 1) := dk_27 (dk_at dksX0_reads_0 22 rfl rfl)
theorem dX0_reads_23 : decode cX0_reads 23 = .ok (.invokevirtual 193, 3) := dk_182 0 193 (dk_at dksX0_reads_1 0 rfl rfl)
theorem dX0_reads_26 : decode cX0_reads 26 = .ok (.goto 5, 3) := dk_167 0 5 (dk_at dksX0_reads_1 3 rfl rfl)
theorem dX0_reads_29 : decode cX0_reads 29 = .ok (.ldc 84, 2) := dk_18 84 (dk_at dksX0_reads_1 6 rfl rfl)
theorem dX0_reads_31 : decode cX0_reads 31 = .ok (.ireturn, 1) := dk_172 (dk_at dksX0_reads_1 8 rfl rfl)
abbrev cX0_isSet : ByteArray := prog_1_method_23_code
def yX0_isSet : MethodName := ⟨RX0, "isSet", "(I)Z"⟩
def dkwX0_isSet_0 : List UInt8 := [27, 133, 9, 42, 180, 0, 46, 182, 0, 171, 133, 184, 0, 74, 172]
abbrev dktX0_isSet_0 : List UInt8 := dkwX0_isSet_0 ++ []
theorem dksX0_isSet_0 : cX0_isSet.data.toList.drop 0 = dktX0_isSet_0 := by decide +kernel
theorem dX0_isSet_0 : decode cX0_isSet 0 = .ok (.iload_n 1, 1) := dk_27 (dk_at dksX0_isSet_0 0 rfl rfl)
theorem dX0_isSet_1 : decode cX0_isSet 1 = .ok (.i2l, 1) := dk_133 (dk_at dksX0_isSet_0 1 rfl rfl)
theorem dX0_isSet_2 : decode cX0_isSet 2 = .ok (.lconst 0, 1) := dk_9 (dk_at dksX0_isSet_0 2 rfl rfl)
theorem dX0_isSet_3 : decode cX0_isSet 3 = .ok (.aload_n 0, 1) := dk_42 (dk_at dksX0_isSet_0 3 rfl rfl)
theorem dX0_isSet_4 : decode cX0_isSet 4 = .ok (.getfield 46, 3) := dk_180 0 46 (dk_at dksX0_isSet_0 4 rfl rfl)
theorem dX0_isSet_7 : decode cX0_isSet 7 = .ok (.invokevirtual 171, 3) := dk_182 0 171 (dk_at dksX0_isSet_0 7 rfl rfl)
theorem dX0_isSet_10 : decode cX0_isSet 10 = .ok (.i2l, 1) := dk_133 (dk_at dksX0_isSet_0 10 rfl rfl)
theorem dX0_isSet_11 : decode cX0_isSet 11 = .ok (.invokestatic 74, 3) := dk_184 0 74 (dk_at dksX0_isSet_0 11 rfl rfl)
theorem dX0_isSet_14 : decode cX0_isSet 14 = .ok (.ireturn, 1) := dk_172 (dk_at dksX0_isSet_0 14 rfl rfl)
abbrev cX0_clash : ByteArray := prog_1_method_33_code
def yX0_clash : MethodName := ⟨RX0, "clash", "(I)I"⟩
def dkwX0_clash_4 : List UInt8 := [132, 5, 1, 167, 255, 204, 132, 4, 1, 167, 255, 180, 27, 154, 0, 7, 28, 167, 0, 4, 29, 172]
abbrev dktX0_clash_4 : List UInt8 := dkwX0_clash_4 ++ []
def dkwX0_clash_3 : List UInt8 := [167, 0, 23, 28, 154, 0, 14, 16, 8, 21, 4, 104, 21, 5, 96, 167, 0, 4, 29, 62, 132, 2, 1]
abbrev dktX0_clash_3 : List UInt8 := dkwX0_clash_3 ++ dktX0_clash_4
def dkwX0_clash_2 : List UInt8 := [42, 180, 0, 46, 182, 0, 164, 162, 0, 46, 42, 180, 0, 46, 21, 4, 21, 5, 182, 0, 242, 154, 0, 6]
abbrev dktX0_clash_2 : List UInt8 := dkwX0_clash_2 ++ dktX0_clash_3
def dkwX0_clash_1 : List UInt8 := [62, 3, 54, 4, 21, 4, 42, 180, 0, 46, 182, 0, 164, 162, 0, 70, 21, 4, 4, 96, 54, 5, 21, 5]
abbrev dktX0_clash_1 : List UInt8 := dkwX0_clash_1 ++ dktX0_clash_2
def dkwX0_clash_0 : List UInt8 := [42, 182, 0, 211, 154, 0, 6, 18, 189, 172, 27, 184, 0, 176, 154, 0, 6, 18, 84, 172, 3, 61, 18, 241]
abbrev dktX0_clash_0 : List UInt8 := dkwX0_clash_0 ++ dktX0_clash_1
theorem dksX0_clash_0 : cX0_clash.data.toList.drop 0 = dktX0_clash_0 := by decide +kernel
theorem dksX0_clash_1 : cX0_clash.data.toList.drop 24 = dktX0_clash_1 := dk_seg dksX0_clash_0 24 rfl rfl
theorem dksX0_clash_2 : cX0_clash.data.toList.drop 48 = dktX0_clash_2 := dk_seg dksX0_clash_1 24 rfl rfl
theorem dksX0_clash_3 : cX0_clash.data.toList.drop 72 = dktX0_clash_3 := dk_seg dksX0_clash_2 24 rfl rfl
theorem dksX0_clash_4 : cX0_clash.data.toList.drop 95 = dktX0_clash_4 := dk_seg dksX0_clash_3 23 rfl rfl
theorem dX0_clash_0 : decode cX0_clash 0 = .ok (.aload_n 0, 1) := dk_42 (dk_at dksX0_clash_0 0 rfl rfl)
theorem dX0_clash_1 : decode cX0_clash 1 = .ok (.invokevirtual 211, 3) := dk_182 0 211 (dk_at dksX0_clash_0 1 rfl rfl)
theorem dX0_clash_4 : decode cX0_clash 4 = .ok (.ifCond .ne 6, 3) := dk_154 0 6 (dk_at dksX0_clash_0 4 rfl rfl)
theorem dX0_clash_7 : decode cX0_clash 7 = .ok (.ldc 189, 2) := dk_18 189 (dk_at dksX0_clash_0 7 rfl rfl)
theorem dX0_clash_9 : decode cX0_clash 9 = .ok (.ireturn, 1) := dk_172 (dk_at dksX0_clash_0 9 rfl rfl)
theorem dX0_clash_10 : decode cX0_clash 10 = .ok (.iload_n 1, 1) := dk_27 (dk_at dksX0_clash_0 10 rfl rfl)
theorem dX0_clash_11 : decode cX0_clash 11 = .ok (.invokestatic 176, 3) := dk_184 0 176 (dk_at dksX0_clash_0 11 rfl rfl)
theorem dX0_clash_14 : decode cX0_clash 14 = .ok (.ifCond .ne 6, 3) := dk_154 0 6 (dk_at dksX0_clash_0 14 rfl rfl)
theorem dX0_clash_17 : decode cX0_clash 17 = .ok (.ldc 84, 2) := dk_18 84 (dk_at dksX0_clash_0 17 rfl rfl)
theorem dX0_clash_19 : decode cX0_clash 19 = .ok (.ireturn, 1) := dk_172 (dk_at dksX0_clash_0 19 rfl rfl)
theorem dX0_clash_20 : decode cX0_clash 20 = .ok (.iconst 0, 1) := dk_3 (dk_at dksX0_clash_0 20 rfl rfl)
theorem dX0_clash_21 : decode cX0_clash 21 = .ok (.istore_n 2, 1) := dk_61 (dk_at dksX0_clash_0 21 rfl rfl)
theorem dX0_clash_22 : decode cX0_clash 22 = .ok (.ldc 241, 2) := dk_18 241 (dk_at dksX0_clash_0 22 rfl rfl)
theorem dX0_clash_24 : decode cX0_clash 24 = .ok (.istore_n 3, 1) := dk_62 (dk_at dksX0_clash_1 0 rfl rfl)
theorem dX0_clash_25 : decode cX0_clash 25 = .ok (.iconst 0, 1) := dk_3 (dk_at dksX0_clash_1 1 rfl rfl)
theorem dX0_clash_26 : decode cX0_clash 26 = .ok (.istore 4, 2) := dk_54 4 (dk_at dksX0_clash_1 2 rfl rfl)
theorem dX0_clash_28 : decode cX0_clash 28 = .ok (.iload 4, 2) := dk_21 4 (dk_at dksX0_clash_1 4 rfl rfl)
theorem dX0_clash_30 : decode cX0_clash 30 = .ok (.aload_n 0, 1) := dk_42 (dk_at dksX0_clash_1 6 rfl rfl)
theorem dX0_clash_31 : decode cX0_clash 31 = .ok (.getfield 46, 3) := dk_180 0 46 (dk_at dksX0_clash_1 7 rfl rfl)
theorem dX0_clash_34 : decode cX0_clash 34 = .ok (.invokevirtual 164, 3) := dk_182 0 164 (dk_at dksX0_clash_1 10 rfl rfl)
theorem dX0_clash_37 : decode cX0_clash 37 = .ok (.if_icmp .ge 70, 3) := dk_162 0 70 (dk_at dksX0_clash_1 13 rfl rfl)
theorem dX0_clash_40 : decode cX0_clash 40 = .ok (.iload 4, 2) := dk_21 4 (dk_at dksX0_clash_1 16 rfl rfl)
theorem dX0_clash_42 : decode cX0_clash 42 = .ok (.iconst 1, 1) := dk_4 (dk_at dksX0_clash_1 18 rfl rfl)
theorem dX0_clash_43 : decode cX0_clash 43 = .ok (.iadd, 1) := dk_96 (dk_at dksX0_clash_1 19 rfl rfl)
theorem dX0_clash_44 : decode cX0_clash 44 = .ok (.istore 5, 2) := dk_54 5 (dk_at dksX0_clash_1 20 rfl rfl)
theorem dX0_clash_46 : decode cX0_clash 46 = .ok (.iload 5, 2) := dk_21 5 (dk_at dksX0_clash_1 22 rfl rfl)
theorem dX0_clash_48 : decode cX0_clash 48 = .ok (.aload_n 0, 1) := dk_42 (dk_at dksX0_clash_2 0 rfl rfl)
theorem dX0_clash_49 : decode cX0_clash 49 = .ok (.getfield 46, 3) := dk_180 0 46 (dk_at dksX0_clash_2 1 rfl rfl)
theorem dX0_clash_52 : decode cX0_clash 52 = .ok (.invokevirtual 164, 3) := dk_182 0 164 (dk_at dksX0_clash_2 4 rfl rfl)
theorem dX0_clash_55 : decode cX0_clash 55 = .ok (.if_icmp .ge 46, 3) := dk_162 0 46 (dk_at dksX0_clash_2 7 rfl rfl)
theorem dX0_clash_58 : decode cX0_clash 58 = .ok (.aload_n 0, 1) := dk_42 (dk_at dksX0_clash_2 10 rfl rfl)
theorem dX0_clash_59 : decode cX0_clash 59 = .ok (.getfield 46, 3) := dk_180 0 46 (dk_at dksX0_clash_2 11 rfl rfl)
theorem dX0_clash_62 : decode cX0_clash 62 = .ok (.iload 4, 2) := dk_21 4 (dk_at dksX0_clash_2 14 rfl rfl)
theorem dX0_clash_64 : decode cX0_clash 64 = .ok (.iload 5, 2) := dk_21 5 (dk_at dksX0_clash_2 16 rfl rfl)
theorem dX0_clash_66 : decode cX0_clash 66 = .ok (.invokevirtual 242, 3) := dk_182 0 242 (dk_at dksX0_clash_2 18 rfl rfl)
theorem dX0_clash_69 : decode cX0_clash 69 = .ok (.ifCond .ne 6, 3) := dk_154 0 6 (dk_at dksX0_clash_2 21 rfl rfl)
theorem dX0_clash_72 : decode cX0_clash 72 = .ok (.goto 23, 3) := dk_167 0 23 (dk_at dksX0_clash_3 0 rfl rfl)
theorem dX0_clash_75 : decode cX0_clash 75 = .ok (.iload_n 2, 1) := dk_28 (dk_at dksX0_clash_3 3 rfl rfl)
theorem dX0_clash_76 : decode cX0_clash 76 = .ok (.ifCond .ne 14, 3) := dk_154 0 14 (dk_at dksX0_clash_3 4 rfl rfl)
theorem dX0_clash_79 : decode cX0_clash 79 = .ok (.bipush 8, 2) := dk_16 8 (dk_at dksX0_clash_3 7 rfl rfl)
theorem dX0_clash_81 : decode cX0_clash 81 = .ok (.iload 4, 2) := dk_21 4 (dk_at dksX0_clash_3 9 rfl rfl)
theorem dX0_clash_83 : decode cX0_clash 83 = .ok (.imul, 1) := dk_104 (dk_at dksX0_clash_3 11 rfl rfl)
theorem dX0_clash_84 : decode cX0_clash 84 = .ok (.iload 5, 2) := dk_21 5 (dk_at dksX0_clash_3 12 rfl rfl)
theorem dX0_clash_86 : decode cX0_clash 86 = .ok (.iadd, 1) := dk_96 (dk_at dksX0_clash_3 14 rfl rfl)
theorem dX0_clash_87 : decode cX0_clash 87 = .ok (.goto 4, 3) := dk_167 0 4 (dk_at dksX0_clash_3 15 rfl rfl)
theorem dX0_clash_90 : decode cX0_clash 90 = .ok (.iload_n 3, 1) := dk_29 (dk_at dksX0_clash_3 18 rfl rfl)
theorem dX0_clash_91 : decode cX0_clash 91 = .ok (.istore_n 3, 1) := dk_62 (dk_at dksX0_clash_3 19 rfl rfl)
theorem dX0_clash_92 : decode cX0_clash 92 = .ok (.iinc 2 1, 3) := dk_132 2 1 (dk_at dksX0_clash_3 20 rfl rfl)
theorem dX0_clash_95 : decode cX0_clash 95 = .ok (.iinc 5 1, 3) := dk_132 5 1 (dk_at dksX0_clash_4 0 rfl rfl)
theorem dX0_clash_98 : decode cX0_clash 98 = .ok (.goto (-52), 3) := dk_167 255 204 (dk_at dksX0_clash_4 3 rfl rfl)
theorem dX0_clash_101 : decode cX0_clash 101 = .ok (.iinc 4 1, 3) := dk_132 4 1 (dk_at dksX0_clash_4 6 rfl rfl)
theorem dX0_clash_104 : decode cX0_clash 104 = .ok (.goto (-76), 3) := dk_167 255 180 (dk_at dksX0_clash_4 9 rfl rfl)
theorem dX0_clash_107 : decode cX0_clash 107 = .ok (.iload_n 1, 1) := dk_27 (dk_at dksX0_clash_4 12 rfl rfl)
theorem dX0_clash_108 : decode cX0_clash 108 = .ok (.ifCond .ne 7, 3) := dk_154 0 7 (dk_at dksX0_clash_4 13 rfl rfl)
theorem dX0_clash_111 : decode cX0_clash 111 = .ok (.iload_n 2, 1) := dk_28 (dk_at dksX0_clash_4 16 rfl rfl)
theorem dX0_clash_112 : decode cX0_clash 112 = .ok (.goto 4, 3) := dk_167 0 4 (dk_at dksX0_clash_4 17 rfl rfl)
theorem dX0_clash_115 : decode cX0_clash 115 = .ok (.iload_n 3, 1) := dk_29 (dk_at dksX0_clash_4 20 rfl rfl)
theorem dX0_clash_116 : decode cX0_clash 116 = .ok (.ireturn, 1) := dk_172 (dk_at dksX0_clash_4 21 rfl rfl)
abbrev cX0_bags : ByteArray := prog_1_method_35_code
def yX0_bags : MethodName := ⟨RX0, "bags", "(II)I"⟩
def dkwX0_bags_5 : List UInt8 := [28, 154, 0, 7, 29, 167, 0, 5, 21, 4, 172]
abbrev dktX0_bags_5 : List UInt8 := dkwX0_bags_5 ++ []
def dkwX0_bags_4 : List UInt8 := [184, 0, 253, 162, 0, 8, 21, 5, 167, 0, 5, 21, 4, 54, 4, 132, 3, 1, 132, 5, 1, 167, 255, 184]
abbrev dktX0_bags_4 : List UInt8 := dkwX0_bags_4 ++ dktX0_bags_5
def dkwX0_bags_3 : List UInt8 := [182, 0, 250, 154, 0, 6, 167, 0, 35, 21, 4, 18, 241, 159, 0, 16, 21, 5, 184, 0, 253, 21, 4]
abbrev dktX0_bags_3 : List UInt8 := dkwX0_bags_3 ++ dktX0_bags_4
def dkwX0_bags_2 : List UInt8 := [182, 0, 171, 163, 0, 66, 42, 180, 0, 46, 21, 5, 182, 0, 193, 27, 160, 0, 47, 42, 21, 5]
abbrev dktX0_bags_2 : List UInt8 := dkwX0_bags_2 ++ dktX0_bags_3
def dkwX0_bags_1 : List UInt8 := [184, 0, 176, 154, 0, 6, 18, 84, 172, 3, 62, 18, 241, 54, 4, 3, 54, 5, 21, 5, 42, 180, 0, 46]
abbrev dktX0_bags_1 : List UInt8 := dkwX0_bags_1 ++ dktX0_bags_2
def dkwX0_bags_0 : List UInt8 := [42, 182, 0, 211, 154, 0, 6, 18, 189, 172, 27, 133, 9, 20, 0, 248, 184, 0, 74, 153, 0, 10, 28]
abbrev dktX0_bags_0 : List UInt8 := dkwX0_bags_0 ++ dktX0_bags_1
theorem dksX0_bags_0 : cX0_bags.data.toList.drop 0 = dktX0_bags_0 := by decide +kernel
theorem dksX0_bags_1 : cX0_bags.data.toList.drop 23 = dktX0_bags_1 := dk_seg dksX0_bags_0 23 rfl rfl
theorem dksX0_bags_2 : cX0_bags.data.toList.drop 47 = dktX0_bags_2 := dk_seg dksX0_bags_1 24 rfl rfl
theorem dksX0_bags_3 : cX0_bags.data.toList.drop 69 = dktX0_bags_3 := dk_seg dksX0_bags_2 22 rfl rfl
theorem dksX0_bags_4 : cX0_bags.data.toList.drop 92 = dktX0_bags_4 := dk_seg dksX0_bags_3 23 rfl rfl
theorem dksX0_bags_5 : cX0_bags.data.toList.drop 116 = dktX0_bags_5 := dk_seg dksX0_bags_4 24 rfl rfl
theorem dX0_bags_0 : decode cX0_bags 0 = .ok (.aload_n 0, 1) := dk_42 (dk_at dksX0_bags_0 0 rfl rfl)
theorem dX0_bags_1 : decode cX0_bags 1 = .ok (.invokevirtual 211, 3) := dk_182 0 211 (dk_at dksX0_bags_0 1 rfl rfl)
theorem dX0_bags_4 : decode cX0_bags 4 = .ok (.ifCond .ne 6, 3) := dk_154 0 6 (dk_at dksX0_bags_0 4 rfl rfl)
theorem dX0_bags_7 : decode cX0_bags 7 = .ok (.ldc 189, 2) := dk_18 189 (dk_at dksX0_bags_0 7 rfl rfl)
theorem dX0_bags_9 : decode cX0_bags 9 = .ok (.ireturn, 1) := dk_172 (dk_at dksX0_bags_0 9 rfl rfl)
theorem dX0_bags_10 : decode cX0_bags 10 = .ok (.iload_n 1, 1) := dk_27 (dk_at dksX0_bags_0 10 rfl rfl)
theorem dX0_bags_11 : decode cX0_bags 11 = .ok (.i2l, 1) := dk_133 (dk_at dksX0_bags_0 11 rfl rfl)
theorem dX0_bags_12 : decode cX0_bags 12 = .ok (.lconst 0, 1) := dk_9 (dk_at dksX0_bags_0 12 rfl rfl)
theorem dX0_bags_13 : decode cX0_bags 13 = .ok (.ldc2_w 248, 3) := dk_20 0 248 (dk_at dksX0_bags_0 13 rfl rfl)
theorem dX0_bags_16 : decode cX0_bags 16 = .ok (.invokestatic 74, 3) := dk_184 0 74 (dk_at dksX0_bags_0 16 rfl rfl)
theorem dX0_bags_19 : decode cX0_bags 19 = .ok (.ifCond .eq 10, 3) := dk_153 0 10 (dk_at dksX0_bags_0 19 rfl rfl)
theorem dX0_bags_22 : decode cX0_bags 22 = .ok (.iload_n 2, 1) := dk_28 (dk_at dksX0_bags_0 22 rfl rfl)
theorem dX0_bags_23 : decode cX0_bags 23 = .ok (.invokestatic 176, 3) := dk_184 0 176 (dk_at dksX0_bags_1 0 rfl rfl)
theorem dX0_bags_26 : decode cX0_bags 26 = .ok (.ifCond .ne 6, 3) := dk_154 0 6 (dk_at dksX0_bags_1 3 rfl rfl)
theorem dX0_bags_29 : decode cX0_bags 29 = .ok (.ldc 84, 2) := dk_18 84 (dk_at dksX0_bags_1 6 rfl rfl)
theorem dX0_bags_31 : decode cX0_bags 31 = .ok (.ireturn, 1) := dk_172 (dk_at dksX0_bags_1 8 rfl rfl)
theorem dX0_bags_32 : decode cX0_bags 32 = .ok (.iconst 0, 1) := dk_3 (dk_at dksX0_bags_1 9 rfl rfl)
theorem dX0_bags_33 : decode cX0_bags 33 = .ok (.istore_n 3, 1) := dk_62 (dk_at dksX0_bags_1 10 rfl rfl)
theorem dX0_bags_34 : decode cX0_bags 34 = .ok (.ldc 241, 2) := dk_18 241 (dk_at dksX0_bags_1 11 rfl rfl)
theorem dX0_bags_36 : decode cX0_bags 36 = .ok (.istore 4, 2) := dk_54 4 (dk_at dksX0_bags_1 13 rfl rfl)
theorem dX0_bags_38 : decode cX0_bags 38 = .ok (.iconst 0, 1) := dk_3 (dk_at dksX0_bags_1 15 rfl rfl)
theorem dX0_bags_39 : decode cX0_bags 39 = .ok (.istore 5, 2) := dk_54 5 (dk_at dksX0_bags_1 16 rfl rfl)
theorem dX0_bags_41 : decode cX0_bags 41 = .ok (.iload 5, 2) := dk_21 5 (dk_at dksX0_bags_1 18 rfl rfl)
theorem dX0_bags_43 : decode cX0_bags 43 = .ok (.aload_n 0, 1) := dk_42 (dk_at dksX0_bags_1 20 rfl rfl)
theorem dX0_bags_44 : decode cX0_bags 44 = .ok (.getfield 46, 3) := dk_180 0 46 (dk_at dksX0_bags_1 21 rfl rfl)
theorem dX0_bags_47 : decode cX0_bags 47 = .ok (.invokevirtual 171, 3) := dk_182 0 171 (dk_at dksX0_bags_2 0 rfl rfl)
theorem dX0_bags_50 : decode cX0_bags 50 = .ok (.if_icmp .gt 66, 3) := dk_163 0 66 (dk_at dksX0_bags_2 3 rfl rfl)
theorem dX0_bags_53 : decode cX0_bags 53 = .ok (.aload_n 0, 1) := dk_42 (dk_at dksX0_bags_2 6 rfl rfl)
theorem dX0_bags_54 : decode cX0_bags 54 = .ok (.getfield 46, 3) := dk_180 0 46 (dk_at dksX0_bags_2 7 rfl rfl)
theorem dX0_bags_57 : decode cX0_bags 57 = .ok (.iload 5, 2) := dk_21 5 (dk_at dksX0_bags_2 10 rfl rfl)
theorem dX0_bags_59 : decode cX0_bags 59 = .ok (.invokevirtual 193, 3) := dk_182 0 193 (dk_at dksX0_bags_2 12 rfl rfl)
theorem dX0_bags_62 : decode cX0_bags 62 = .ok (.iload_n 1, 1) := dk_27 (dk_at dksX0_bags_2 15 rfl rfl)
theorem dX0_bags_63 : decode cX0_bags 63 = .ok (.if_icmp .ne 47, 3) := dk_160 0 47 (dk_at dksX0_bags_2 16 rfl rfl)
theorem dX0_bags_66 : decode cX0_bags 66 = .ok (.aload_n 0, 1) := dk_42 (dk_at dksX0_bags_2 19 rfl rfl)
theorem dX0_bags_67 : decode cX0_bags 67 = .ok (.iload 5, 2) := dk_21 5 (dk_at dksX0_bags_2 20 rfl rfl)
theorem dX0_bags_69 : decode cX0_bags 69 = .ok (.invokevirtual 250, 3) := dk_182 0 250 (dk_at dksX0_bags_3 0 rfl rfl)
theorem dX0_bags_72 : decode cX0_bags 72 = .ok (.ifCond .ne 6, 3) := dk_154 0 6 (dk_at dksX0_bags_3 3 rfl rfl)
theorem dX0_bags_75 : decode cX0_bags 75 = .ok (.goto 35, 3) := dk_167 0 35 (dk_at dksX0_bags_3 6 rfl rfl)
theorem dX0_bags_78 : decode cX0_bags 78 = .ok (.iload 4, 2) := dk_21 4 (dk_at dksX0_bags_3 9 rfl rfl)
theorem dX0_bags_80 : decode cX0_bags 80 = .ok (.ldc 241, 2) := dk_18 241 (dk_at dksX0_bags_3 11 rfl rfl)
theorem dX0_bags_82 : decode cX0_bags 82 = .ok (.if_icmp .eq 16, 3) := dk_159 0 16 (dk_at dksX0_bags_3 13 rfl rfl)
theorem dX0_bags_85 : decode cX0_bags 85 = .ok (.iload 5, 2) := dk_21 5 (dk_at dksX0_bags_3 16 rfl rfl)
theorem dX0_bags_87 : decode cX0_bags 87 = .ok (.invokestatic 253, 3) := dk_184 0 253 (dk_at dksX0_bags_3 18 rfl rfl)
theorem dX0_bags_90 : decode cX0_bags 90 = .ok (.iload 4, 2) := dk_21 4 (dk_at dksX0_bags_3 21 rfl rfl)
theorem dX0_bags_92 : decode cX0_bags 92 = .ok (.invokestatic 253, 3) := dk_184 0 253 (dk_at dksX0_bags_4 0 rfl rfl)
theorem dX0_bags_95 : decode cX0_bags 95 = .ok (.if_icmp .ge 8, 3) := dk_162 0 8 (dk_at dksX0_bags_4 3 rfl rfl)
theorem dX0_bags_98 : decode cX0_bags 98 = .ok (.iload 5, 2) := dk_21 5 (dk_at dksX0_bags_4 6 rfl rfl)
theorem dX0_bags_100 : decode cX0_bags 100 = .ok (.goto 5, 3) := dk_167 0 5 (dk_at dksX0_bags_4 8 rfl rfl)
theorem dX0_bags_103 : decode cX0_bags 103 = .ok (.iload 4, 2) := dk_21 4 (dk_at dksX0_bags_4 11 rfl rfl)
theorem dX0_bags_105 : decode cX0_bags 105 = .ok (.istore 4, 2) := dk_54 4 (dk_at dksX0_bags_4 13 rfl rfl)
theorem dX0_bags_107 : decode cX0_bags 107 = .ok (.iinc 3 1, 3) := dk_132 3 1 (dk_at dksX0_bags_4 15 rfl rfl)
theorem dX0_bags_110 : decode cX0_bags 110 = .ok (.iinc 5 1, 3) := dk_132 5 1 (dk_at dksX0_bags_4 18 rfl rfl)
theorem dX0_bags_113 : decode cX0_bags 113 = .ok (.goto (-72), 3) := dk_167 255 184 (dk_at dksX0_bags_4 21 rfl rfl)
theorem dX0_bags_116 : decode cX0_bags 116 = .ok (.iload_n 2, 1) := dk_28 (dk_at dksX0_bags_5 0 rfl rfl)
theorem dX0_bags_117 : decode cX0_bags 117 = .ok (.ifCond .ne 7, 3) := dk_154 0 7 (dk_at dksX0_bags_5 1 rfl rfl)
theorem dX0_bags_120 : decode cX0_bags 120 = .ok (.iload_n 3, 1) := dk_29 (dk_at dksX0_bags_5 4 rfl rfl)
theorem dX0_bags_121 : decode cX0_bags 121 = .ok (.goto 5, 3) := dk_167 0 5 (dk_at dksX0_bags_5 5 rfl rfl)
theorem dX0_bags_124 : decode cX0_bags 124 = .ok (.iload 4, 2) := dk_21 4 (dk_at dksX0_bags_5 8 rfl rfl)
theorem dX0_bags_126 : decode cX0_bags 126 = .ok (.ireturn, 1) := dk_172 (dk_at dksX0_bags_5 10 rfl rfl)
abbrev cX0_isBag : ByteArray := prog_1_method_34_code
def yX0_isBag : MethodName := ⟨RX0, "isBag", "(I)Z"⟩
def dkwX0_isBag_3 : List UInt8 := [153, 0, 5, 3, 172, 132, 3, 1, 167, 255, 212, 132, 2, 1, 167, 255, 191, 4, 172]
abbrev dktX0_isBag_3 : List UInt8 := dkwX0_isBag_3 ++ []
def dkwX0_isBag_2 : List UInt8 := [184, 0, 185, 153, 0, 25, 27, 29, 184, 0, 185, 153, 0, 17, 42, 180, 0, 46, 28, 29, 182, 0, 242]
abbrev dktX0_isBag_2 : List UInt8 := dkwX0_isBag_2 ++ dktX0_isBag_3
def dkwX0_isBag_1 : List UInt8 := [182, 0, 164, 162, 0, 60, 28, 4, 96, 62, 29, 42, 180, 0, 46, 182, 0, 164, 162, 0, 39, 27, 28]
abbrev dktX0_isBag_1 : List UInt8 := dkwX0_isBag_1 ++ dktX0_isBag_2
def dkwX0_isBag_0 : List UInt8 := [27, 42, 180, 0, 46, 182, 0, 245, 2, 130, 126, 153, 0, 5, 3, 172, 3, 61, 28, 42, 180, 0, 46]
abbrev dktX0_isBag_0 : List UInt8 := dkwX0_isBag_0 ++ dktX0_isBag_1
theorem dksX0_isBag_0 : cX0_isBag.data.toList.drop 0 = dktX0_isBag_0 := by decide +kernel
theorem dksX0_isBag_1 : cX0_isBag.data.toList.drop 23 = dktX0_isBag_1 := dk_seg dksX0_isBag_0 23 rfl rfl
theorem dksX0_isBag_2 : cX0_isBag.data.toList.drop 46 = dktX0_isBag_2 := dk_seg dksX0_isBag_1 23 rfl rfl
theorem dksX0_isBag_3 : cX0_isBag.data.toList.drop 69 = dktX0_isBag_3 := dk_seg dksX0_isBag_2 23 rfl rfl
theorem dX0_isBag_0 : decode cX0_isBag 0 = .ok (.iload_n 1, 1) := dk_27 (dk_at dksX0_isBag_0 0 rfl rfl)
theorem dX0_isBag_1 : decode cX0_isBag 1 = .ok (.aload_n 0, 1) := dk_42 (dk_at dksX0_isBag_0 1 rfl rfl)
theorem dX0_isBag_2 : decode cX0_isBag 2 = .ok (.getfield 46, 3) := dk_180 0 46 (dk_at dksX0_isBag_0 2 rfl rfl)
theorem dX0_isBag_5 : decode cX0_isBag 5 = .ok (.invokevirtual 245, 3) := dk_182 0 245 (dk_at dksX0_isBag_0 5 rfl rfl)
theorem dX0_isBag_8 : decode cX0_isBag 8 = .ok (.iconst (-1), 1) := dk_2 (dk_at dksX0_isBag_0 8 rfl rfl)
theorem dX0_isBag_9 : decode cX0_isBag 9 = .ok (.ixor, 1) := dk_130 (dk_at dksX0_isBag_0 9 rfl rfl)
theorem dX0_isBag_10 : decode cX0_isBag 10 = .ok (.iand, 1) := dk_126 (dk_at dksX0_isBag_0 10 rfl rfl)
theorem dX0_isBag_11 : decode cX0_isBag 11 = .ok (.ifCond .eq 5, 3) := dk_153 0 5 (dk_at dksX0_isBag_0 11 rfl rfl)
theorem dX0_isBag_14 : decode cX0_isBag 14 = .ok (.iconst 0, 1) := dk_3 (dk_at dksX0_isBag_0 14 rfl rfl)
theorem dX0_isBag_15 : decode cX0_isBag 15 = .ok (.ireturn, 1) := dk_172 (dk_at dksX0_isBag_0 15 rfl rfl)
theorem dX0_isBag_16 : decode cX0_isBag 16 = .ok (.iconst 0, 1) := dk_3 (dk_at dksX0_isBag_0 16 rfl rfl)
theorem dX0_isBag_17 : decode cX0_isBag 17 = .ok (.istore_n 2, 1) := dk_61 (dk_at dksX0_isBag_0 17 rfl rfl)
theorem dX0_isBag_18 : decode cX0_isBag 18 = .ok (.iload_n 2, 1) := dk_28 (dk_at dksX0_isBag_0 18 rfl rfl)
theorem dX0_isBag_19 : decode cX0_isBag 19 = .ok (.aload_n 0, 1) := dk_42 (dk_at dksX0_isBag_0 19 rfl rfl)
theorem dX0_isBag_20 : decode cX0_isBag 20 = .ok (.getfield 46, 3) := dk_180 0 46 (dk_at dksX0_isBag_0 20 rfl rfl)
theorem dX0_isBag_23 : decode cX0_isBag 23 = .ok (.invokevirtual 164, 3) := dk_182 0 164 (dk_at dksX0_isBag_1 0 rfl rfl)
theorem dX0_isBag_26 : decode cX0_isBag 26 = .ok (.if_icmp .ge 60, 3) := dk_162 0 60 (dk_at dksX0_isBag_1 3 rfl rfl)
theorem dX0_isBag_29 : decode cX0_isBag 29 = .ok (.iload_n 2, 1) := dk_28 (dk_at dksX0_isBag_1 6 rfl rfl)
theorem dX0_isBag_30 : decode cX0_isBag 30 = .ok (.iconst 1, 1) := dk_4 (dk_at dksX0_isBag_1 7 rfl rfl)
theorem dX0_isBag_31 : decode cX0_isBag 31 = .ok (.iadd, 1) := dk_96 (dk_at dksX0_isBag_1 8 rfl rfl)
theorem dX0_isBag_32 : decode cX0_isBag 32 = .ok (.istore_n 3, 1) := dk_62 (dk_at dksX0_isBag_1 9 rfl rfl)
theorem dX0_isBag_33 : decode cX0_isBag 33 = .ok (.iload_n 3, 1) := dk_29 (dk_at dksX0_isBag_1 10 rfl rfl)
theorem dX0_isBag_34 : decode cX0_isBag 34 = .ok (.aload_n 0, 1) := dk_42 (dk_at dksX0_isBag_1 11 rfl rfl)
theorem dX0_isBag_35 : decode cX0_isBag 35 = .ok (.getfield 46, 3) := dk_180 0 46 (dk_at dksX0_isBag_1 12 rfl rfl)
theorem dX0_isBag_38 : decode cX0_isBag 38 = .ok (.invokevirtual 164, 3) := dk_182 0 164 (dk_at dksX0_isBag_1 15 rfl rfl)
theorem dX0_isBag_41 : decode cX0_isBag 41 = .ok (.if_icmp .ge 39, 3) := dk_162 0 39 (dk_at dksX0_isBag_1 18 rfl rfl)
theorem dX0_isBag_44 : decode cX0_isBag 44 = .ok (.iload_n 1, 1) := dk_27 (dk_at dksX0_isBag_1 21 rfl rfl)
theorem dX0_isBag_45 : decode cX0_isBag 45 = .ok (.iload_n 2, 1) := dk_28 (dk_at dksX0_isBag_1 22 rfl rfl)
theorem dX0_isBag_46 : decode cX0_isBag 46 = .ok (.invokestatic 185, 3) := dk_184 0 185 (dk_at dksX0_isBag_2 0 rfl rfl)
theorem dX0_isBag_49 : decode cX0_isBag 49 = .ok (.ifCond .eq 25, 3) := dk_153 0 25 (dk_at dksX0_isBag_2 3 rfl rfl)
theorem dX0_isBag_52 : decode cX0_isBag 52 = .ok (.iload_n 1, 1) := dk_27 (dk_at dksX0_isBag_2 6 rfl rfl)
theorem dX0_isBag_53 : decode cX0_isBag 53 = .ok (.iload_n 3, 1) := dk_29 (dk_at dksX0_isBag_2 7 rfl rfl)
theorem dX0_isBag_54 : decode cX0_isBag 54 = .ok (.invokestatic 185, 3) := dk_184 0 185 (dk_at dksX0_isBag_2 8 rfl rfl)
theorem dX0_isBag_57 : decode cX0_isBag 57 = .ok (.ifCond .eq 17, 3) := dk_153 0 17 (dk_at dksX0_isBag_2 11 rfl rfl)
theorem dX0_isBag_60 : decode cX0_isBag 60 = .ok (.aload_n 0, 1) := dk_42 (dk_at dksX0_isBag_2 14 rfl rfl)
theorem dX0_isBag_61 : decode cX0_isBag 61 = .ok (.getfield 46, 3) := dk_180 0 46 (dk_at dksX0_isBag_2 15 rfl rfl)
theorem dX0_isBag_64 : decode cX0_isBag 64 = .ok (.iload_n 2, 1) := dk_28 (dk_at dksX0_isBag_2 18 rfl rfl)
theorem dX0_isBag_65 : decode cX0_isBag 65 = .ok (.iload_n 3, 1) := dk_29 (dk_at dksX0_isBag_2 19 rfl rfl)
theorem dX0_isBag_66 : decode cX0_isBag 66 = .ok (.invokevirtual 242, 3) := dk_182 0 242 (dk_at dksX0_isBag_2 20 rfl rfl)
theorem dX0_isBag_69 : decode cX0_isBag 69 = .ok (.ifCond .eq 5, 3) := dk_153 0 5 (dk_at dksX0_isBag_3 0 rfl rfl)
theorem dX0_isBag_72 : decode cX0_isBag 72 = .ok (.iconst 0, 1) := dk_3 (dk_at dksX0_isBag_3 3 rfl rfl)
theorem dX0_isBag_73 : decode cX0_isBag 73 = .ok (.ireturn, 1) := dk_172 (dk_at dksX0_isBag_3 4 rfl rfl)
theorem dX0_isBag_74 : decode cX0_isBag 74 = .ok (.iinc 3 1, 3) := dk_132 3 1 (dk_at dksX0_isBag_3 5 rfl rfl)
theorem dX0_isBag_77 : decode cX0_isBag 77 = .ok (.goto (-44), 3) := dk_167 255 212 (dk_at dksX0_isBag_3 8 rfl rfl)
theorem dX0_isBag_80 : decode cX0_isBag 80 = .ok (.iinc 2 1, 3) := dk_132 2 1 (dk_at dksX0_isBag_3 11 rfl rfl)
theorem dX0_isBag_83 : decode cX0_isBag 83 = .ok (.goto (-65), 3) := dk_167 255 191 (dk_at dksX0_isBag_3 14 rfl rfl)
theorem dX0_isBag_86 : decode cX0_isBag 86 = .ok (.iconst 1, 1) := dk_4 (dk_at dksX0_isBag_3 17 rfl rfl)
theorem dX0_isBag_87 : decode cX0_isBag 87 = .ok (.ireturn, 1) := dk_172 (dk_at dksX0_isBag_3 18 rfl rfl)
abbrev cX0_heaviest : ByteArray := prog_1_method_36_code
def yX0_heaviest : MethodName := ⟨RX0, "heaviest", "(II)I"⟩
def dkwX0_heaviest_5 : List UInt8 := [42, 180, 0, 46, 29, 182, 0, 193, 167, 0, 4, 29, 172]
abbrev dktX0_heaviest_5 : List UInt8 := dkwX0_heaviest_5 ++ []
def dkwX0_heaviest_4 : List UInt8 := [29, 182, 0, 193, 164, 0, 8, 21, 4, 167, 0, 4, 29, 62, 132, 4, 1, 167, 255, 184, 28, 154, 0, 14]
abbrev dktX0_heaviest_4 : List UInt8 := dkwX0_heaviest_4 ++ dktX0_heaviest_5
def dkwX0_heaviest_3 : List UInt8 := [167, 0, 4, 3, 54, 5, 21, 5, 153, 0, 28, 42, 180, 0, 46, 21, 4, 182, 0, 193, 42, 180, 0, 46]
abbrev dktX0_heaviest_3 : List UInt8 := dkwX0_heaviest_3 ++ dktX0_heaviest_4
def dkwX0_heaviest_2 : List UInt8 := [163, 0, 66, 21, 4, 184, 0, 253, 27, 163, 0, 16, 42, 21, 4, 182, 0, 250, 153, 0, 7, 4]
abbrev dktX0_heaviest_2 : List UInt8 := dkwX0_heaviest_2 ++ dktX0_heaviest_3
def dkwX0_heaviest_1 : List UInt8 := [184, 0, 176, 154, 0, 6, 18, 84, 172, 3, 62, 3, 54, 4, 21, 4, 42, 180, 0, 46, 182, 0, 171]
abbrev dktX0_heaviest_1 : List UInt8 := dkwX0_heaviest_1 ++ dktX0_heaviest_2
def dkwX0_heaviest_0 : List UInt8 := [42, 182, 0, 211, 154, 0, 6, 18, 189, 172, 27, 133, 9, 20, 1, 2, 184, 0, 74, 153, 0, 10, 28]
abbrev dktX0_heaviest_0 : List UInt8 := dkwX0_heaviest_0 ++ dktX0_heaviest_1
theorem dksX0_heaviest_0 : cX0_heaviest.data.toList.drop 0 = dktX0_heaviest_0 := by decide +kernel
theorem dksX0_heaviest_1 : cX0_heaviest.data.toList.drop 23 = dktX0_heaviest_1 := dk_seg dksX0_heaviest_0 23 rfl rfl
theorem dksX0_heaviest_2 : cX0_heaviest.data.toList.drop 46 = dktX0_heaviest_2 := dk_seg dksX0_heaviest_1 23 rfl rfl
theorem dksX0_heaviest_3 : cX0_heaviest.data.toList.drop 68 = dktX0_heaviest_3 := dk_seg dksX0_heaviest_2 22 rfl rfl
theorem dksX0_heaviest_4 : cX0_heaviest.data.toList.drop 92 = dktX0_heaviest_4 := dk_seg dksX0_heaviest_3 24 rfl rfl
theorem dksX0_heaviest_5 : cX0_heaviest.data.toList.drop 116 = dktX0_heaviest_5 := dk_seg dksX0_heaviest_4 24 rfl rfl
theorem dX0_heaviest_0 : decode cX0_heaviest 0 = .ok (.aload_n 0, 1) := dk_42 (dk_at dksX0_heaviest_0 0 rfl rfl)
theorem dX0_heaviest_1 : decode cX0_heaviest 1 = .ok (.invokevirtual 211, 3) := dk_182 0 211 (dk_at dksX0_heaviest_0 1 rfl rfl)
theorem dX0_heaviest_4 : decode cX0_heaviest 4 = .ok (.ifCond .ne 6, 3) := dk_154 0 6 (dk_at dksX0_heaviest_0 4 rfl rfl)
theorem dX0_heaviest_7 : decode cX0_heaviest 7 = .ok (.ldc 189, 2) := dk_18 189 (dk_at dksX0_heaviest_0 7 rfl rfl)
theorem dX0_heaviest_9 : decode cX0_heaviest 9 = .ok (.ireturn, 1) := dk_172 (dk_at dksX0_heaviest_0 9 rfl rfl)
theorem dX0_heaviest_10 : decode cX0_heaviest 10 = .ok (.iload_n 1, 1) := dk_27 (dk_at dksX0_heaviest_0 10 rfl rfl)
theorem dX0_heaviest_11 : decode cX0_heaviest 11 = .ok (.i2l, 1) := dk_133 (dk_at dksX0_heaviest_0 11 rfl rfl)
theorem dX0_heaviest_12 : decode cX0_heaviest 12 = .ok (.lconst 0, 1) := dk_9 (dk_at dksX0_heaviest_0 12 rfl rfl)
theorem dX0_heaviest_13 : decode cX0_heaviest 13 = .ok (.ldc2_w 258, 3) := dk_20 1 2 (dk_at dksX0_heaviest_0 13 rfl rfl)
theorem dX0_heaviest_16 : decode cX0_heaviest 16 = .ok (.invokestatic 74, 3) := dk_184 0 74 (dk_at dksX0_heaviest_0 16 rfl rfl)
theorem dX0_heaviest_19 : decode cX0_heaviest 19 = .ok (.ifCond .eq 10, 3) := dk_153 0 10 (dk_at dksX0_heaviest_0 19 rfl rfl)
theorem dX0_heaviest_22 : decode cX0_heaviest 22 = .ok (.iload_n 2, 1) := dk_28 (dk_at dksX0_heaviest_0 22 rfl rfl)
theorem dX0_heaviest_23 : decode cX0_heaviest 23 = .ok (.invokestatic 176, 3) := dk_184 0 176 (dk_at dksX0_heaviest_1 0 rfl rfl)
theorem dX0_heaviest_26 : decode cX0_heaviest 26 = .ok (.ifCond .ne 6, 3) := dk_154 0 6 (dk_at dksX0_heaviest_1 3 rfl rfl)
theorem dX0_heaviest_29 : decode cX0_heaviest 29 = .ok (.ldc 84, 2) := dk_18 84 (dk_at dksX0_heaviest_1 6 rfl rfl)
theorem dX0_heaviest_31 : decode cX0_heaviest 31 = .ok (.ireturn, 1) := dk_172 (dk_at dksX0_heaviest_1 8 rfl rfl)
theorem dX0_heaviest_32 : decode cX0_heaviest 32 = .ok (.iconst 0, 1) := dk_3 (dk_at dksX0_heaviest_1 9 rfl rfl)
theorem dX0_heaviest_33 : decode cX0_heaviest 33 = .ok (.istore_n 3, 1) := dk_62 (dk_at dksX0_heaviest_1 10 rfl rfl)
theorem dX0_heaviest_34 : decode cX0_heaviest 34 = .ok (.iconst 0, 1) := dk_3 (dk_at dksX0_heaviest_1 11 rfl rfl)
theorem dX0_heaviest_35 : decode cX0_heaviest 35 = .ok (.istore 4, 2) := dk_54 4 (dk_at dksX0_heaviest_1 12 rfl rfl)
theorem dX0_heaviest_37 : decode cX0_heaviest 37 = .ok (.iload 4, 2) := dk_21 4 (dk_at dksX0_heaviest_1 14 rfl rfl)
theorem dX0_heaviest_39 : decode cX0_heaviest 39 = .ok (.aload_n 0, 1) := dk_42 (dk_at dksX0_heaviest_1 16 rfl rfl)
theorem dX0_heaviest_40 : decode cX0_heaviest 40 = .ok (.getfield 46, 3) := dk_180 0 46 (dk_at dksX0_heaviest_1 17 rfl rfl)
theorem dX0_heaviest_43 : decode cX0_heaviest 43 = .ok (.invokevirtual 171, 3) := dk_182 0 171 (dk_at dksX0_heaviest_1 20 rfl rfl)
theorem dX0_heaviest_46 : decode cX0_heaviest 46 = .ok (.if_icmp .gt 66, 3) := dk_163 0 66 (dk_at dksX0_heaviest_2 0 rfl rfl)
theorem dX0_heaviest_49 : decode cX0_heaviest 49 = .ok (.iload 4, 2) := dk_21 4 (dk_at dksX0_heaviest_2 3 rfl rfl)
theorem dX0_heaviest_51 : decode cX0_heaviest 51 = .ok (.invokestatic 253, 3) := dk_184 0 253 (dk_at dksX0_heaviest_2 5 rfl rfl)
theorem dX0_heaviest_54 : decode cX0_heaviest 54 = .ok (.iload_n 1, 1) := dk_27 (dk_at dksX0_heaviest_2 8 rfl rfl)
theorem dX0_heaviest_55 : decode cX0_heaviest 55 = .ok (.if_icmp .gt 16, 3) := dk_163 0 16 (dk_at dksX0_heaviest_2 9 rfl rfl)
theorem dX0_heaviest_58 : decode cX0_heaviest 58 = .ok (.aload_n 0, 1) := dk_42 (dk_at dksX0_heaviest_2 12 rfl rfl)
theorem dX0_heaviest_59 : decode cX0_heaviest 59 = .ok (.iload 4, 2) := dk_21 4 (dk_at dksX0_heaviest_2 13 rfl rfl)
theorem dX0_heaviest_61 : decode cX0_heaviest 61 = .ok (.invokevirtual 250, 3) := dk_182 0 250 (dk_at dksX0_heaviest_2 15 rfl rfl)
theorem dX0_heaviest_64 : decode cX0_heaviest 64 = .ok (.ifCond .eq 7, 3) := dk_153 0 7 (dk_at dksX0_heaviest_2 18 rfl rfl)
theorem dX0_heaviest_67 : decode cX0_heaviest 67 = .ok (.iconst 1, 1) := dk_4 (dk_at dksX0_heaviest_2 21 rfl rfl)
theorem dX0_heaviest_68 : decode cX0_heaviest 68 = .ok (.goto 4, 3) := dk_167 0 4 (dk_at dksX0_heaviest_3 0 rfl rfl)
theorem dX0_heaviest_71 : decode cX0_heaviest 71 = .ok (.iconst 0, 1) := dk_3 (dk_at dksX0_heaviest_3 3 rfl rfl)
theorem dX0_heaviest_72 : decode cX0_heaviest 72 = .ok (.istore 5, 2) := dk_54 5 (dk_at dksX0_heaviest_3 4 rfl rfl)
theorem dX0_heaviest_74 : decode cX0_heaviest 74 = .ok (.iload 5, 2) := dk_21 5 (dk_at dksX0_heaviest_3 6 rfl rfl)
theorem dX0_heaviest_76 : decode cX0_heaviest 76 = .ok (.ifCond .eq 28, 3) := dk_153 0 28 (dk_at dksX0_heaviest_3 8 rfl rfl)
theorem dX0_heaviest_79 : decode cX0_heaviest 79 = .ok (.aload_n 0, 1) := dk_42 (dk_at dksX0_heaviest_3 11 rfl rfl)
theorem dX0_heaviest_80 : decode cX0_heaviest 80 = .ok (.getfield 46, 3) := dk_180 0 46 (dk_at dksX0_heaviest_3 12 rfl rfl)
theorem dX0_heaviest_83 : decode cX0_heaviest 83 = .ok (.iload 4, 2) := dk_21 4 (dk_at dksX0_heaviest_3 15 rfl rfl)
theorem dX0_heaviest_85 : decode cX0_heaviest 85 = .ok (.invokevirtual 193, 3) := dk_182 0 193 (dk_at dksX0_heaviest_3 17 rfl rfl)
theorem dX0_heaviest_88 : decode cX0_heaviest 88 = .ok (.aload_n 0, 1) := dk_42 (dk_at dksX0_heaviest_3 20 rfl rfl)
theorem dX0_heaviest_89 : decode cX0_heaviest 89 = .ok (.getfield 46, 3) := dk_180 0 46 (dk_at dksX0_heaviest_3 21 rfl rfl)
theorem dX0_heaviest_92 : decode cX0_heaviest 92 = .ok (.iload_n 3, 1) := dk_29 (dk_at dksX0_heaviest_4 0 rfl rfl)
theorem dX0_heaviest_93 : decode cX0_heaviest 93 = .ok (.invokevirtual 193, 3) := dk_182 0 193 (dk_at dksX0_heaviest_4 1 rfl rfl)
theorem dX0_heaviest_96 : decode cX0_heaviest 96 = .ok (.if_icmp .le 8, 3) := dk_164 0 8 (dk_at dksX0_heaviest_4 4 rfl rfl)
theorem dX0_heaviest_99 : decode cX0_heaviest 99 = .ok (.iload 4, 2) := dk_21 4 (dk_at dksX0_heaviest_4 7 rfl rfl)
theorem dX0_heaviest_101 : decode cX0_heaviest 101 = .ok (.goto 4, 3) := dk_167 0 4 (dk_at dksX0_heaviest_4 9 rfl rfl)
theorem dX0_heaviest_104 : decode cX0_heaviest 104 = .ok (.iload_n 3, 1) := dk_29 (dk_at dksX0_heaviest_4 12 rfl rfl)
theorem dX0_heaviest_105 : decode cX0_heaviest 105 = .ok (.istore_n 3, 1) := dk_62 (dk_at dksX0_heaviest_4 13 rfl rfl)
theorem dX0_heaviest_106 : decode cX0_heaviest 106 = .ok (.iinc 4 1, 3) := dk_132 4 1 (dk_at dksX0_heaviest_4 14 rfl rfl)
theorem dX0_heaviest_109 : decode cX0_heaviest 109 = .ok (.goto (-72), 3) := dk_167 255 184 (dk_at dksX0_heaviest_4 17 rfl rfl)
theorem dX0_heaviest_112 : decode cX0_heaviest 112 = .ok (.iload_n 2, 1) := dk_28 (dk_at dksX0_heaviest_4 20 rfl rfl)
theorem dX0_heaviest_113 : decode cX0_heaviest 113 = .ok (.ifCond .ne 14, 3) := dk_154 0 14 (dk_at dksX0_heaviest_4 21 rfl rfl)
theorem dX0_heaviest_116 : decode cX0_heaviest 116 = .ok (.aload_n 0, 1) := dk_42 (dk_at dksX0_heaviest_5 0 rfl rfl)
theorem dX0_heaviest_117 : decode cX0_heaviest 117 = .ok (.getfield 46, 3) := dk_180 0 46 (dk_at dksX0_heaviest_5 1 rfl rfl)
theorem dX0_heaviest_120 : decode cX0_heaviest 120 = .ok (.iload_n 3, 1) := dk_29 (dk_at dksX0_heaviest_5 4 rfl rfl)
theorem dX0_heaviest_121 : decode cX0_heaviest 121 = .ok (.invokevirtual 193, 3) := dk_182 0 193 (dk_at dksX0_heaviest_5 5 rfl rfl)
theorem dX0_heaviest_124 : decode cX0_heaviest 124 = .ok (.goto 4, 3) := dk_167 0 4 (dk_at dksX0_heaviest_5 8 rfl rfl)
theorem dX0_heaviest_127 : decode cX0_heaviest 127 = .ok (.iload_n 3, 1) := dk_29 (dk_at dksX0_heaviest_5 11 rfl rfl)
theorem dX0_heaviest_128 : decode cX0_heaviest 128 = .ok (.ireturn, 1) := dk_172 (dk_at dksX0_heaviest_5 12 rfl rfl)
abbrev cX0_worded : ByteArray := prog_1_method_38_code
def yX0_worded : MethodName := ⟨RX0, "worded", "(II)I"⟩
def dkwX0_worded_4 : List UInt8 := [184, 1, 16, 54, 4, 132, 5, 1, 167, 255, 215, 29, 172]
abbrev dktX0_worded_4 : List UInt8 := dkwX0_worded_4 ++ []
def dkwX0_worded_3 : List UInt8 := [182, 1, 13, 54, 6, 21, 6, 21, 4, 164, 0, 8, 21, 5, 167, 0, 4, 29, 62, 21, 4, 21, 6]
abbrev dktX0_worded_3 : List UInt8 := dkwX0_worded_3 ++ dktX0_worded_4
def dkwX0_worded_2 : List UInt8 := [4, 62, 42, 27, 4, 182, 1, 13, 54, 4, 5, 54, 5, 21, 5, 8, 163, 0, 41, 42, 27, 21, 5]
abbrev dktX0_worded_2 : List UInt8 := dkwX0_worded_2 ++ dktX0_worded_3
def dkwX0_worded_1 : List UInt8 := [180, 0, 46, 27, 182, 0, 179, 154, 0, 6, 18, 189, 172, 28, 158, 0, 10, 42, 27, 28, 182, 1, 13, 172]
abbrev dktX0_worded_1 : List UInt8 := dkwX0_worded_1 ++ dktX0_worded_2
def dkwX0_worded_0 : List UInt8 := [42, 27, 182, 0, 173, 153, 0, 15, 28, 133, 9, 20, 1, 11, 184, 0, 74, 154, 0, 6, 18, 84, 172, 42]
abbrev dktX0_worded_0 : List UInt8 := dkwX0_worded_0 ++ dktX0_worded_1
theorem dksX0_worded_0 : cX0_worded.data.toList.drop 0 = dktX0_worded_0 := by decide +kernel
theorem dksX0_worded_1 : cX0_worded.data.toList.drop 24 = dktX0_worded_1 := dk_seg dksX0_worded_0 24 rfl rfl
theorem dksX0_worded_2 : cX0_worded.data.toList.drop 48 = dktX0_worded_2 := dk_seg dksX0_worded_1 24 rfl rfl
theorem dksX0_worded_3 : cX0_worded.data.toList.drop 71 = dktX0_worded_3 := dk_seg dksX0_worded_2 23 rfl rfl
theorem dksX0_worded_4 : cX0_worded.data.toList.drop 94 = dktX0_worded_4 := dk_seg dksX0_worded_3 23 rfl rfl
theorem dX0_worded_0 : decode cX0_worded 0 = .ok (.aload_n 0, 1) := dk_42 (dk_at dksX0_worded_0 0 rfl rfl)
theorem dX0_worded_1 : decode cX0_worded 1 = .ok (.iload_n 1, 1) := dk_27 (dk_at dksX0_worded_0 1 rfl rfl)
theorem dX0_worded_2 : decode cX0_worded 2 = .ok (.invokevirtual 173, 3) := dk_182 0 173 (dk_at dksX0_worded_0 2 rfl rfl)
theorem dX0_worded_5 : decode cX0_worded 5 = .ok (.ifCond .eq 15, 3) := dk_153 0 15 (dk_at dksX0_worded_0 5 rfl rfl)
theorem dX0_worded_8 : decode cX0_worded 8 = .ok (.iload_n 2, 1) := dk_28 (dk_at dksX0_worded_0 8 rfl rfl)
theorem dX0_worded_9 : decode cX0_worded 9 = .ok (.i2l, 1) := dk_133 (dk_at dksX0_worded_0 9 rfl rfl)
theorem dX0_worded_10 : decode cX0_worded 10 = .ok (.lconst 0, 1) := dk_9 (dk_at dksX0_worded_0 10 rfl rfl)
theorem dX0_worded_11 : decode cX0_worded 11 = .ok (.ldc2_w 267, 3) := dk_20 1 11 (dk_at dksX0_worded_0 11 rfl rfl)
theorem dX0_worded_14 : decode cX0_worded 14 = .ok (.invokestatic 74, 3) := dk_184 0 74 (dk_at dksX0_worded_0 14 rfl rfl)
theorem dX0_worded_17 : decode cX0_worded 17 = .ok (.ifCond .ne 6, 3) := dk_154 0 6 (dk_at dksX0_worded_0 17 rfl rfl)
theorem dX0_worded_20 : decode cX0_worded 20 = .ok (.ldc 84, 2) := dk_18 84 (dk_at dksX0_worded_0 20 rfl rfl)
theorem dX0_worded_22 : decode cX0_worded 22 = .ok (.ireturn, 1) := dk_172 (dk_at dksX0_worded_0 22 rfl rfl)
theorem dX0_worded_23 : decode cX0_worded 23 = .ok (.aload_n 0, 1) := dk_42 (dk_at dksX0_worded_0 23 rfl rfl)
theorem dX0_worded_24 : decode cX0_worded 24 = .ok (.getfield 46, 3) := dk_180 0 46 (dk_at dksX0_worded_1 0 rfl rfl)
theorem dX0_worded_27 : decode cX0_worded 27 = .ok (.iload_n 1, 1) := dk_27 (dk_at dksX0_worded_1 3 rfl rfl)
theorem dX0_worded_28 : decode cX0_worded 28 = .ok (.invokevirtual 179, 3) := dk_182 0 179 (dk_at dksX0_worded_1 4 rfl rfl)
theorem dX0_worded_31 : decode cX0_worded 31 = .ok (.ifCond .ne 6, 3) := dk_154 0 6 (dk_at dksX0_worded_1 7 rfl rfl)
theorem dX0_worded_34 : decode cX0_worded 34 = .ok (.ldc 189, 2) := dk_18 189 (dk_at dksX0_worded_1 10 rfl rfl)
theorem dX0_worded_36 : decode cX0_worded 36 = .ok (.ireturn, 1) := dk_172 (dk_at dksX0_worded_1 12 rfl rfl)
theorem dX0_worded_37 : decode cX0_worded 37 = .ok (.iload_n 2, 1) := dk_28 (dk_at dksX0_worded_1 13 rfl rfl)
theorem dX0_worded_38 : decode cX0_worded 38 = .ok (.ifCond .le 10, 3) := dk_158 0 10 (dk_at dksX0_worded_1 14 rfl rfl)
theorem dX0_worded_41 : decode cX0_worded 41 = .ok (.aload_n 0, 1) := dk_42 (dk_at dksX0_worded_1 17 rfl rfl)
theorem dX0_worded_42 : decode cX0_worded 42 = .ok (.iload_n 1, 1) := dk_27 (dk_at dksX0_worded_1 18 rfl rfl)
theorem dX0_worded_43 : decode cX0_worded 43 = .ok (.iload_n 2, 1) := dk_28 (dk_at dksX0_worded_1 19 rfl rfl)
theorem dX0_worded_44 : decode cX0_worded 44 = .ok (.invokevirtual 269, 3) := dk_182 1 13 (dk_at dksX0_worded_1 20 rfl rfl)
theorem dX0_worded_47 : decode cX0_worded 47 = .ok (.ireturn, 1) := dk_172 (dk_at dksX0_worded_1 23 rfl rfl)
theorem dX0_worded_48 : decode cX0_worded 48 = .ok (.iconst 1, 1) := dk_4 (dk_at dksX0_worded_2 0 rfl rfl)
theorem dX0_worded_49 : decode cX0_worded 49 = .ok (.istore_n 3, 1) := dk_62 (dk_at dksX0_worded_2 1 rfl rfl)
theorem dX0_worded_50 : decode cX0_worded 50 = .ok (.aload_n 0, 1) := dk_42 (dk_at dksX0_worded_2 2 rfl rfl)
theorem dX0_worded_51 : decode cX0_worded 51 = .ok (.iload_n 1, 1) := dk_27 (dk_at dksX0_worded_2 3 rfl rfl)
theorem dX0_worded_52 : decode cX0_worded 52 = .ok (.iconst 1, 1) := dk_4 (dk_at dksX0_worded_2 4 rfl rfl)
theorem dX0_worded_53 : decode cX0_worded 53 = .ok (.invokevirtual 269, 3) := dk_182 1 13 (dk_at dksX0_worded_2 5 rfl rfl)
theorem dX0_worded_56 : decode cX0_worded 56 = .ok (.istore 4, 2) := dk_54 4 (dk_at dksX0_worded_2 8 rfl rfl)
theorem dX0_worded_58 : decode cX0_worded 58 = .ok (.iconst 2, 1) := dk_5 (dk_at dksX0_worded_2 10 rfl rfl)
theorem dX0_worded_59 : decode cX0_worded 59 = .ok (.istore 5, 2) := dk_54 5 (dk_at dksX0_worded_2 11 rfl rfl)
theorem dX0_worded_61 : decode cX0_worded 61 = .ok (.iload 5, 2) := dk_21 5 (dk_at dksX0_worded_2 13 rfl rfl)
theorem dX0_worded_63 : decode cX0_worded 63 = .ok (.iconst 5, 1) := dk_8 (dk_at dksX0_worded_2 15 rfl rfl)
theorem dX0_worded_64 : decode cX0_worded 64 = .ok (.if_icmp .gt 41, 3) := dk_163 0 41 (dk_at dksX0_worded_2 16 rfl rfl)
theorem dX0_worded_67 : decode cX0_worded 67 = .ok (.aload_n 0, 1) := dk_42 (dk_at dksX0_worded_2 19 rfl rfl)
theorem dX0_worded_68 : decode cX0_worded 68 = .ok (.iload_n 1, 1) := dk_27 (dk_at dksX0_worded_2 20 rfl rfl)
theorem dX0_worded_69 : decode cX0_worded 69 = .ok (.iload 5, 2) := dk_21 5 (dk_at dksX0_worded_2 21 rfl rfl)
theorem dX0_worded_71 : decode cX0_worded 71 = .ok (.invokevirtual 269, 3) := dk_182 1 13 (dk_at dksX0_worded_3 0 rfl rfl)
theorem dX0_worded_74 : decode cX0_worded 74 = .ok (.istore 6, 2) := dk_54 6 (dk_at dksX0_worded_3 3 rfl rfl)
theorem dX0_worded_76 : decode cX0_worded 76 = .ok (.iload 6, 2) := dk_21 6 (dk_at dksX0_worded_3 5 rfl rfl)
theorem dX0_worded_78 : decode cX0_worded 78 = .ok (.iload 4, 2) := dk_21 4 (dk_at dksX0_worded_3 7 rfl rfl)
theorem dX0_worded_80 : decode cX0_worded 80 = .ok (.if_icmp .le 8, 3) := dk_164 0 8 (dk_at dksX0_worded_3 9 rfl rfl)
theorem dX0_worded_83 : decode cX0_worded 83 = .ok (.iload 5, 2) := dk_21 5 (dk_at dksX0_worded_3 12 rfl rfl)
theorem dX0_worded_85 : decode cX0_worded 85 = .ok (.goto 4, 3) := dk_167 0 4 (dk_at dksX0_worded_3 14 rfl rfl)
theorem dX0_worded_88 : decode cX0_worded 88 = .ok (.iload_n 3, 1) := dk_29 (dk_at dksX0_worded_3 17 rfl rfl)
theorem dX0_worded_89 : decode cX0_worded 89 = .ok (.istore_n 3, 1) := dk_62 (dk_at dksX0_worded_3 18 rfl rfl)
theorem dX0_worded_90 : decode cX0_worded 90 = .ok (.iload 4, 2) := dk_21 4 (dk_at dksX0_worded_3 19 rfl rfl)
theorem dX0_worded_92 : decode cX0_worded 92 = .ok (.iload 6, 2) := dk_21 6 (dk_at dksX0_worded_3 21 rfl rfl)
theorem dX0_worded_94 : decode cX0_worded 94 = .ok (.invokestatic 272, 3) := dk_184 1 16 (dk_at dksX0_worded_4 0 rfl rfl)
theorem dX0_worded_97 : decode cX0_worded 97 = .ok (.istore 4, 2) := dk_54 4 (dk_at dksX0_worded_4 3 rfl rfl)
theorem dX0_worded_99 : decode cX0_worded 99 = .ok (.iinc 5 1, 3) := dk_132 5 1 (dk_at dksX0_worded_4 5 rfl rfl)
theorem dX0_worded_102 : decode cX0_worded 102 = .ok (.goto (-41), 3) := dk_167 255 215 (dk_at dksX0_worded_4 8 rfl rfl)
theorem dX0_worded_105 : decode cX0_worded 105 = .ok (.iload_n 3, 1) := dk_29 (dk_at dksX0_worded_4 11 rfl rfl)
theorem dX0_worded_106 : decode cX0_worded 106 = .ok (.ireturn, 1) := dk_172 (dk_at dksX0_worded_4 12 rfl rfl)
abbrev cX0_wordedAs : ByteArray := prog_1_method_37_code
def yX0_wordedAs : MethodName := ⟨RX0, "wordedAs", "(II)I"⟩
def dkwX0_wordedAs_2 : List UInt8 := [154, 0, 8, 18, 241, 167, 0, 13, 42, 180, 0, 46, 27, 4, 100, 182, 0, 229, 182, 1, 8, 172]
abbrev dktX0_wordedAs_2 : List UInt8 := dkwX0_wordedAs_2 ++ []
def dkwX0_wordedAs_1 : List UInt8 := [182, 0, 226, 184, 1, 4, 58, 4, 25, 4, 42, 180, 0, 46, 180, 0, 200, 45, 180, 0, 208, 46, 27]
abbrev dktX0_wordedAs_1 : List UInt8 := dkwX0_wordedAs_1 ++ dktX0_wordedAs_2
def dkwX0_wordedAs_0 : List UInt8 := [42, 180, 0, 46, 27, 182, 0, 204, 78, 28, 27, 45, 180, 0, 208, 45, 180, 0, 220, 45, 180, 0, 223, 45]
abbrev dktX0_wordedAs_0 : List UInt8 := dkwX0_wordedAs_0 ++ dktX0_wordedAs_1
theorem dksX0_wordedAs_0 : cX0_wordedAs.data.toList.drop 0 = dktX0_wordedAs_0 := by decide +kernel
theorem dksX0_wordedAs_1 : cX0_wordedAs.data.toList.drop 24 = dktX0_wordedAs_1 := dk_seg dksX0_wordedAs_0 24 rfl rfl
theorem dksX0_wordedAs_2 : cX0_wordedAs.data.toList.drop 47 = dktX0_wordedAs_2 := dk_seg dksX0_wordedAs_1 23 rfl rfl
theorem dX0_wordedAs_0 : decode cX0_wordedAs 0 = .ok (.aload_n 0, 1) := dk_42 (dk_at dksX0_wordedAs_0 0 rfl rfl)
theorem dX0_wordedAs_1 : decode cX0_wordedAs 1 = .ok (.getfield 46, 3) := dk_180 0 46 (dk_at dksX0_wordedAs_0 1 rfl rfl)
theorem dX0_wordedAs_4 : decode cX0_wordedAs 4 = .ok (.iload_n 1, 1) := dk_27 (dk_at dksX0_wordedAs_0 4 rfl rfl)
theorem dX0_wordedAs_5 : decode cX0_wordedAs 5 = .ok (.invokevirtual 204, 3) := dk_182 0 204 (dk_at dksX0_wordedAs_0 5 rfl rfl)
theorem dX0_wordedAs_8 : decode cX0_wordedAs 8 = .ok (.astore_n 3, 1) := dk_78 (dk_at dksX0_wordedAs_0 8 rfl rfl)
theorem dX0_wordedAs_9 : decode cX0_wordedAs 9 = .ok (.iload_n 2, 1) := dk_28 (dk_at dksX0_wordedAs_0 9 rfl rfl)
theorem dX0_wordedAs_10 : decode cX0_wordedAs 10 = .ok (.iload_n 1, 1) := dk_27 (dk_at dksX0_wordedAs_0 10 rfl rfl)
theorem dX0_wordedAs_11 : decode cX0_wordedAs 11 = .ok (.aload_n 3, 1) := dk_45 (dk_at dksX0_wordedAs_0 11 rfl rfl)
theorem dX0_wordedAs_12 : decode cX0_wordedAs 12 = .ok (.getfield 208, 3) := dk_180 0 208 (dk_at dksX0_wordedAs_0 12 rfl rfl)
theorem dX0_wordedAs_15 : decode cX0_wordedAs 15 = .ok (.aload_n 3, 1) := dk_45 (dk_at dksX0_wordedAs_0 15 rfl rfl)
theorem dX0_wordedAs_16 : decode cX0_wordedAs 16 = .ok (.getfield 220, 3) := dk_180 0 220 (dk_at dksX0_wordedAs_0 16 rfl rfl)
theorem dX0_wordedAs_19 : decode cX0_wordedAs 19 = .ok (.aload_n 3, 1) := dk_45 (dk_at dksX0_wordedAs_0 19 rfl rfl)
theorem dX0_wordedAs_20 : decode cX0_wordedAs 20 = .ok (.getfield 223, 3) := dk_180 0 223 (dk_at dksX0_wordedAs_0 20 rfl rfl)
theorem dX0_wordedAs_23 : decode cX0_wordedAs 23 = .ok (.aload_n 3, 1) := dk_45 (dk_at dksX0_wordedAs_0 23 rfl rfl)
theorem dX0_wordedAs_24 : decode cX0_wordedAs 24 = .ok (.invokevirtual 226, 3) := dk_182 0 226 (dk_at dksX0_wordedAs_1 0 rfl rfl)
theorem dX0_wordedAs_27 : decode cX0_wordedAs 27 = .ok (.invokestatic 260, 3) := dk_184 1 4 (dk_at dksX0_wordedAs_1 3 rfl rfl)
theorem dX0_wordedAs_30 : decode cX0_wordedAs 30 = .ok (.astore 4, 2) := dk_58 4 (dk_at dksX0_wordedAs_1 6 rfl rfl)
theorem dX0_wordedAs_32 : decode cX0_wordedAs 32 = .ok (.aload 4, 2) := dk_25 4 (dk_at dksX0_wordedAs_1 8 rfl rfl)
theorem dX0_wordedAs_34 : decode cX0_wordedAs 34 = .ok (.aload_n 0, 1) := dk_42 (dk_at dksX0_wordedAs_1 10 rfl rfl)
theorem dX0_wordedAs_35 : decode cX0_wordedAs 35 = .ok (.getfield 46, 3) := dk_180 0 46 (dk_at dksX0_wordedAs_1 11 rfl rfl)
theorem dX0_wordedAs_38 : decode cX0_wordedAs 38 = .ok (.getfield 200, 3) := dk_180 0 200 (dk_at dksX0_wordedAs_1 14 rfl rfl)
theorem dX0_wordedAs_41 : decode cX0_wordedAs 41 = .ok (.aload_n 3, 1) := dk_45 (dk_at dksX0_wordedAs_1 17 rfl rfl)
theorem dX0_wordedAs_42 : decode cX0_wordedAs 42 = .ok (.getfield 208, 3) := dk_180 0 208 (dk_at dksX0_wordedAs_1 18 rfl rfl)
theorem dX0_wordedAs_45 : decode cX0_wordedAs 45 = .ok (.iaload, 1) := dk_46 (dk_at dksX0_wordedAs_1 21 rfl rfl)
theorem dX0_wordedAs_46 : decode cX0_wordedAs 46 = .ok (.iload_n 1, 1) := dk_27 (dk_at dksX0_wordedAs_1 22 rfl rfl)
theorem dX0_wordedAs_47 : decode cX0_wordedAs 47 = .ok (.ifCond .ne 8, 3) := dk_154 0 8 (dk_at dksX0_wordedAs_2 0 rfl rfl)
theorem dX0_wordedAs_50 : decode cX0_wordedAs 50 = .ok (.ldc 241, 2) := dk_18 241 (dk_at dksX0_wordedAs_2 3 rfl rfl)
theorem dX0_wordedAs_52 : decode cX0_wordedAs 52 = .ok (.goto 13, 3) := dk_167 0 13 (dk_at dksX0_wordedAs_2 5 rfl rfl)
theorem dX0_wordedAs_55 : decode cX0_wordedAs 55 = .ok (.aload_n 0, 1) := dk_42 (dk_at dksX0_wordedAs_2 8 rfl rfl)
theorem dX0_wordedAs_56 : decode cX0_wordedAs 56 = .ok (.getfield 46, 3) := dk_180 0 46 (dk_at dksX0_wordedAs_2 9 rfl rfl)
theorem dX0_wordedAs_59 : decode cX0_wordedAs 59 = .ok (.iload_n 1, 1) := dk_27 (dk_at dksX0_wordedAs_2 12 rfl rfl)
theorem dX0_wordedAs_60 : decode cX0_wordedAs 60 = .ok (.iconst 1, 1) := dk_4 (dk_at dksX0_wordedAs_2 13 rfl rfl)
theorem dX0_wordedAs_61 : decode cX0_wordedAs 61 = .ok (.isub, 1) := dk_100 (dk_at dksX0_wordedAs_2 14 rfl rfl)
theorem dX0_wordedAs_62 : decode cX0_wordedAs 62 = .ok (.invokevirtual 229, 3) := dk_182 0 229 (dk_at dksX0_wordedAs_2 15 rfl rfl)
theorem dX0_wordedAs_65 : decode cX0_wordedAs 65 = .ok (.invokevirtual 264, 3) := dk_182 1 8 (dk_at dksX0_wordedAs_2 18 rfl rfl)
theorem dX0_wordedAs_68 : decode cX0_wordedAs 68 = .ok (.ireturn, 1) := dk_172 (dk_at dksX0_wordedAs_2 21 rfl rfl)
abbrev cX0_price : ByteArray := prog_1_method_40_code
def yX0_price : MethodName := ⟨RX0, "price", "(II)I"⟩
def dkwX0_price_1 : List UInt8 := [182, 1, 23, 167, 0, 5, 18, 84, 172]
abbrev dktX0_price_1 : List UInt8 := dkwX0_price_1 ++ []
def dkwX0_price_0 : List UInt8 := [42, 27, 182, 0, 173, 153, 0, 24, 28, 133, 9, 20, 1, 21, 184, 0, 74, 153, 0, 12, 42, 27, 28]
abbrev dktX0_price_0 : List UInt8 := dkwX0_price_0 ++ dktX0_price_1
theorem dksX0_price_0 : cX0_price.data.toList.drop 0 = dktX0_price_0 := by decide +kernel
theorem dksX0_price_1 : cX0_price.data.toList.drop 23 = dktX0_price_1 := dk_seg dksX0_price_0 23 rfl rfl
theorem dX0_price_0 : decode cX0_price 0 = .ok (.aload_n 0, 1) := dk_42 (dk_at dksX0_price_0 0 rfl rfl)
theorem dX0_price_1 : decode cX0_price 1 = .ok (.iload_n 1, 1) := dk_27 (dk_at dksX0_price_0 1 rfl rfl)
theorem dX0_price_2 : decode cX0_price 2 = .ok (.invokevirtual 173, 3) := dk_182 0 173 (dk_at dksX0_price_0 2 rfl rfl)
theorem dX0_price_5 : decode cX0_price 5 = .ok (.ifCond .eq 24, 3) := dk_153 0 24 (dk_at dksX0_price_0 5 rfl rfl)
theorem dX0_price_8 : decode cX0_price 8 = .ok (.iload_n 2, 1) := dk_28 (dk_at dksX0_price_0 8 rfl rfl)
theorem dX0_price_9 : decode cX0_price 9 = .ok (.i2l, 1) := dk_133 (dk_at dksX0_price_0 9 rfl rfl)
theorem dX0_price_10 : decode cX0_price 10 = .ok (.lconst 0, 1) := dk_9 (dk_at dksX0_price_0 10 rfl rfl)
theorem dX0_price_11 : decode cX0_price 11 = .ok (.ldc2_w 277, 3) := dk_20 1 21 (dk_at dksX0_price_0 11 rfl rfl)
theorem dX0_price_14 : decode cX0_price 14 = .ok (.invokestatic 74, 3) := dk_184 0 74 (dk_at dksX0_price_0 14 rfl rfl)
theorem dX0_price_17 : decode cX0_price 17 = .ok (.ifCond .eq 12, 3) := dk_153 0 12 (dk_at dksX0_price_0 17 rfl rfl)
theorem dX0_price_20 : decode cX0_price 20 = .ok (.aload_n 0, 1) := dk_42 (dk_at dksX0_price_0 20 rfl rfl)
theorem dX0_price_21 : decode cX0_price 21 = .ok (.iload_n 1, 1) := dk_27 (dk_at dksX0_price_0 21 rfl rfl)
theorem dX0_price_22 : decode cX0_price 22 = .ok (.iload_n 2, 1) := dk_28 (dk_at dksX0_price_0 22 rfl rfl)
theorem dX0_price_23 : decode cX0_price 23 = .ok (.invokevirtual 279, 3) := dk_182 1 23 (dk_at dksX0_price_1 0 rfl rfl)
theorem dX0_price_26 : decode cX0_price 26 = .ok (.goto 5, 3) := dk_167 0 5 (dk_at dksX0_price_1 3 rfl rfl)
theorem dX0_price_29 : decode cX0_price 29 = .ok (.ldc 84, 2) := dk_18 84 (dk_at dksX0_price_1 6 rfl rfl)
theorem dX0_price_31 : decode cX0_price 31 = .ok (.ireturn, 1) := dk_172 (dk_at dksX0_price_1 8 rfl rfl)
abbrev cX0_priceOf : ByteArray := prog_1_method_39_code
def yX0_priceOf : MethodName := ⟨RX0, "priceOf", "(II)I"⟩
def dkwX0_priceOf_0 : List UInt8 := [28, 42, 180, 0, 46, 27, 182, 0, 229, 104, 16, 20, 108, 172]
abbrev dktX0_priceOf_0 : List UInt8 := dkwX0_priceOf_0 ++ []
theorem dksX0_priceOf_0 : cX0_priceOf.data.toList.drop 0 = dktX0_priceOf_0 := by decide +kernel
theorem dX0_priceOf_0 : decode cX0_priceOf 0 = .ok (.iload_n 2, 1) := dk_28 (dk_at dksX0_priceOf_0 0 rfl rfl)
theorem dX0_priceOf_1 : decode cX0_priceOf 1 = .ok (.aload_n 0, 1) := dk_42 (dk_at dksX0_priceOf_0 1 rfl rfl)
theorem dX0_priceOf_2 : decode cX0_priceOf 2 = .ok (.getfield 46, 3) := dk_180 0 46 (dk_at dksX0_priceOf_0 2 rfl rfl)
theorem dX0_priceOf_5 : decode cX0_priceOf 5 = .ok (.iload_n 1, 1) := dk_27 (dk_at dksX0_priceOf_0 5 rfl rfl)
theorem dX0_priceOf_6 : decode cX0_priceOf 6 = .ok (.invokevirtual 229, 3) := dk_182 0 229 (dk_at dksX0_priceOf_0 6 rfl rfl)
theorem dX0_priceOf_9 : decode cX0_priceOf 9 = .ok (.imul, 1) := dk_104 (dk_at dksX0_priceOf_0 9 rfl rfl)
theorem dX0_priceOf_10 : decode cX0_priceOf 10 = .ok (.bipush 20, 2) := dk_16 20 (dk_at dksX0_priceOf_0 10 rfl rfl)
theorem dX0_priceOf_12 : decode cX0_priceOf 12 = .ok (.idiv, 1) := dk_108 (dk_at dksX0_priceOf_0 12 rfl rfl)
theorem dX0_priceOf_13 : decode cX0_priceOf 13 = .ok (.ireturn, 1) := dk_172 (dk_at dksX0_priceOf_0 13 rfl rfl)
abbrev cX0_prices : ByteArray := prog_1_method_41_code
def yX0_prices : MethodName := ⟨RX0, "prices", "(II)I"⟩
def dkwX0_prices_3 : List UInt8 := [21, 4, 28, 182, 1, 23, 167, 0, 4, 3, 96, 62, 132, 4, 1, 167, 255, 199, 29, 172]
abbrev dktX0_prices_3 : List UInt8 := dkwX0_prices_3 ++ []
def dkwX0_prices_2 : List UInt8 := [182, 0, 179, 153, 0, 29, 42, 180, 0, 46, 21, 4, 182, 0, 204, 180, 0, 208, 27, 160, 0, 13, 42]
abbrev dktX0_prices_2 : List UInt8 := dkwX0_prices_2 ++ dktX0_prices_3
def dkwX0_prices_1 : List UInt8 := [62, 3, 54, 4, 21, 4, 42, 180, 0, 46, 182, 0, 164, 162, 0, 51, 29, 42, 180, 0, 46, 21, 4]
abbrev dktX0_prices_1 : List UInt8 := dkwX0_prices_1 ++ dktX0_prices_2
def dkwX0_prices_0 : List UInt8 := [42, 27, 182, 0, 235, 153, 0, 15, 28, 133, 9, 20, 1, 21, 184, 0, 74, 154, 0, 6, 18, 84, 172, 3]
abbrev dktX0_prices_0 : List UInt8 := dkwX0_prices_0 ++ dktX0_prices_1
theorem dksX0_prices_0 : cX0_prices.data.toList.drop 0 = dktX0_prices_0 := by decide +kernel
theorem dksX0_prices_1 : cX0_prices.data.toList.drop 24 = dktX0_prices_1 := dk_seg dksX0_prices_0 24 rfl rfl
theorem dksX0_prices_2 : cX0_prices.data.toList.drop 47 = dktX0_prices_2 := dk_seg dksX0_prices_1 23 rfl rfl
theorem dksX0_prices_3 : cX0_prices.data.toList.drop 70 = dktX0_prices_3 := dk_seg dksX0_prices_2 23 rfl rfl
theorem dX0_prices_0 : decode cX0_prices 0 = .ok (.aload_n 0, 1) := dk_42 (dk_at dksX0_prices_0 0 rfl rfl)
theorem dX0_prices_1 : decode cX0_prices 1 = .ok (.iload_n 1, 1) := dk_27 (dk_at dksX0_prices_0 1 rfl rfl)
theorem dX0_prices_2 : decode cX0_prices 2 = .ok (.invokevirtual 235, 3) := dk_182 0 235 (dk_at dksX0_prices_0 2 rfl rfl)
theorem dX0_prices_5 : decode cX0_prices 5 = .ok (.ifCond .eq 15, 3) := dk_153 0 15 (dk_at dksX0_prices_0 5 rfl rfl)
theorem dX0_prices_8 : decode cX0_prices 8 = .ok (.iload_n 2, 1) := dk_28 (dk_at dksX0_prices_0 8 rfl rfl)
theorem dX0_prices_9 : decode cX0_prices 9 = .ok (.i2l, 1) := dk_133 (dk_at dksX0_prices_0 9 rfl rfl)
theorem dX0_prices_10 : decode cX0_prices 10 = .ok (.lconst 0, 1) := dk_9 (dk_at dksX0_prices_0 10 rfl rfl)
theorem dX0_prices_11 : decode cX0_prices 11 = .ok (.ldc2_w 277, 3) := dk_20 1 21 (dk_at dksX0_prices_0 11 rfl rfl)
theorem dX0_prices_14 : decode cX0_prices 14 = .ok (.invokestatic 74, 3) := dk_184 0 74 (dk_at dksX0_prices_0 14 rfl rfl)
theorem dX0_prices_17 : decode cX0_prices 17 = .ok (.ifCond .ne 6, 3) := dk_154 0 6 (dk_at dksX0_prices_0 17 rfl rfl)
theorem dX0_prices_20 : decode cX0_prices 20 = .ok (.ldc 84, 2) := dk_18 84 (dk_at dksX0_prices_0 20 rfl rfl)
theorem dX0_prices_22 : decode cX0_prices 22 = .ok (.ireturn, 1) := dk_172 (dk_at dksX0_prices_0 22 rfl rfl)
theorem dX0_prices_23 : decode cX0_prices 23 = .ok (.iconst 0, 1) := dk_3 (dk_at dksX0_prices_0 23 rfl rfl)
theorem dX0_prices_24 : decode cX0_prices 24 = .ok (.istore_n 3, 1) := dk_62 (dk_at dksX0_prices_1 0 rfl rfl)
theorem dX0_prices_25 : decode cX0_prices 25 = .ok (.iconst 0, 1) := dk_3 (dk_at dksX0_prices_1 1 rfl rfl)
theorem dX0_prices_26 : decode cX0_prices 26 = .ok (.istore 4, 2) := dk_54 4 (dk_at dksX0_prices_1 2 rfl rfl)
theorem dX0_prices_28 : decode cX0_prices 28 = .ok (.iload 4, 2) := dk_21 4 (dk_at dksX0_prices_1 4 rfl rfl)
theorem dX0_prices_30 : decode cX0_prices 30 = .ok (.aload_n 0, 1) := dk_42 (dk_at dksX0_prices_1 6 rfl rfl)
theorem dX0_prices_31 : decode cX0_prices 31 = .ok (.getfield 46, 3) := dk_180 0 46 (dk_at dksX0_prices_1 7 rfl rfl)
theorem dX0_prices_34 : decode cX0_prices 34 = .ok (.invokevirtual 164, 3) := dk_182 0 164 (dk_at dksX0_prices_1 10 rfl rfl)
theorem dX0_prices_37 : decode cX0_prices 37 = .ok (.if_icmp .ge 51, 3) := dk_162 0 51 (dk_at dksX0_prices_1 13 rfl rfl)
theorem dX0_prices_40 : decode cX0_prices 40 = .ok (.iload_n 3, 1) := dk_29 (dk_at dksX0_prices_1 16 rfl rfl)
theorem dX0_prices_41 : decode cX0_prices 41 = .ok (.aload_n 0, 1) := dk_42 (dk_at dksX0_prices_1 17 rfl rfl)
theorem dX0_prices_42 : decode cX0_prices 42 = .ok (.getfield 46, 3) := dk_180 0 46 (dk_at dksX0_prices_1 18 rfl rfl)
theorem dX0_prices_45 : decode cX0_prices 45 = .ok (.iload 4, 2) := dk_21 4 (dk_at dksX0_prices_1 21 rfl rfl)
theorem dX0_prices_47 : decode cX0_prices 47 = .ok (.invokevirtual 179, 3) := dk_182 0 179 (dk_at dksX0_prices_2 0 rfl rfl)
theorem dX0_prices_50 : decode cX0_prices 50 = .ok (.ifCond .eq 29, 3) := dk_153 0 29 (dk_at dksX0_prices_2 3 rfl rfl)
theorem dX0_prices_53 : decode cX0_prices 53 = .ok (.aload_n 0, 1) := dk_42 (dk_at dksX0_prices_2 6 rfl rfl)
theorem dX0_prices_54 : decode cX0_prices 54 = .ok (.getfield 46, 3) := dk_180 0 46 (dk_at dksX0_prices_2 7 rfl rfl)
theorem dX0_prices_57 : decode cX0_prices 57 = .ok (.iload 4, 2) := dk_21 4 (dk_at dksX0_prices_2 10 rfl rfl)
theorem dX0_prices_59 : decode cX0_prices 59 = .ok (.invokevirtual 204, 3) := dk_182 0 204 (dk_at dksX0_prices_2 12 rfl rfl)
theorem dX0_prices_62 : decode cX0_prices 62 = .ok (.getfield 208, 3) := dk_180 0 208 (dk_at dksX0_prices_2 15 rfl rfl)
theorem dX0_prices_65 : decode cX0_prices 65 = .ok (.iload_n 1, 1) := dk_27 (dk_at dksX0_prices_2 18 rfl rfl)
theorem dX0_prices_66 : decode cX0_prices 66 = .ok (.if_icmp .ne 13, 3) := dk_160 0 13 (dk_at dksX0_prices_2 19 rfl rfl)
theorem dX0_prices_69 : decode cX0_prices 69 = .ok (.aload_n 0, 1) := dk_42 (dk_at dksX0_prices_2 22 rfl rfl)
theorem dX0_prices_70 : decode cX0_prices 70 = .ok (.iload 4, 2) := dk_21 4 (dk_at dksX0_prices_3 0 rfl rfl)
theorem dX0_prices_72 : decode cX0_prices 72 = .ok (.iload_n 2, 1) := dk_28 (dk_at dksX0_prices_3 2 rfl rfl)
theorem dX0_prices_73 : decode cX0_prices 73 = .ok (.invokevirtual 279, 3) := dk_182 1 23 (dk_at dksX0_prices_3 3 rfl rfl)
theorem dX0_prices_76 : decode cX0_prices 76 = .ok (.goto 4, 3) := dk_167 0 4 (dk_at dksX0_prices_3 6 rfl rfl)
theorem dX0_prices_79 : decode cX0_prices 79 = .ok (.iconst 0, 1) := dk_3 (dk_at dksX0_prices_3 9 rfl rfl)
theorem dX0_prices_80 : decode cX0_prices 80 = .ok (.iadd, 1) := dk_96 (dk_at dksX0_prices_3 10 rfl rfl)
theorem dX0_prices_81 : decode cX0_prices 81 = .ok (.istore_n 3, 1) := dk_62 (dk_at dksX0_prices_3 11 rfl rfl)
theorem dX0_prices_82 : decode cX0_prices 82 = .ok (.iinc 4 1, 3) := dk_132 4 1 (dk_at dksX0_prices_3 12 rfl rfl)
theorem dX0_prices_85 : decode cX0_prices 85 = .ok (.goto (-57), 3) := dk_167 255 199 (dk_at dksX0_prices_3 15 rfl rfl)
theorem dX0_prices_88 : decode cX0_prices 88 = .ok (.iload_n 3, 1) := dk_29 (dk_at dksX0_prices_3 18 rfl rfl)
theorem dX0_prices_89 : decode cX0_prices 89 = .ok (.ireturn, 1) := dk_172 (dk_at dksX0_prices_3 19 rfl rfl)
abbrev cX0_settles : ByteArray := prog_1_method_43_code
def yX0_settles : MethodName := ⟨RX0, "settles", "(III)I"⟩
def dkwX0_settles_4 : List UInt8 := [46, 4, 160, 0, 7, 4, 167, 0, 4, 3, 96, 54, 4, 132, 5, 1, 167, 255, 201, 21, 4, 172]
abbrev dktX0_settles_4 : List UInt8 := dkwX0_settles_4 ++ []
def dkwX0_settles_3 : List UInt8 := [180, 0, 50, 21, 5, 182, 0, 204, 180, 0, 208, 27, 160, 0, 21, 42, 180, 0, 50, 180, 0, 232, 21, 5]
abbrev dktX0_settles_3 : List UInt8 := dkwX0_settles_3 ++ dktX0_settles_4
def dkwX0_settles_2 : List UInt8 := [172, 3, 54, 4, 3, 54, 5, 21, 5, 42, 180, 0, 50, 182, 0, 164, 162, 0, 49, 21, 4, 42]
abbrev dktX0_settles_2 : List UInt8 := dkwX0_settles_2 ++ dktX0_settles_3
def dkwX0_settles_1 : List UInt8 := [154, 0, 6, 18, 84, 172, 42, 28, 182, 1, 28, 29, 154, 0, 13, 42, 180, 0, 50, 180, 0, 200, 27, 46]
abbrev dktX0_settles_1 : List UInt8 := dkwX0_settles_1 ++ dktX0_settles_2
def dkwX0_settles_0 : List UInt8 := [42, 27, 182, 0, 235, 153, 0, 22, 28, 133, 9, 20, 1, 26, 184, 0, 74, 153, 0, 10, 29, 184, 0, 176]
abbrev dktX0_settles_0 : List UInt8 := dkwX0_settles_0 ++ dktX0_settles_1
theorem dksX0_settles_0 : cX0_settles.data.toList.drop 0 = dktX0_settles_0 := by decide +kernel
theorem dksX0_settles_1 : cX0_settles.data.toList.drop 24 = dktX0_settles_1 := dk_seg dksX0_settles_0 24 rfl rfl
theorem dksX0_settles_2 : cX0_settles.data.toList.drop 48 = dktX0_settles_2 := dk_seg dksX0_settles_1 24 rfl rfl
theorem dksX0_settles_3 : cX0_settles.data.toList.drop 70 = dktX0_settles_3 := dk_seg dksX0_settles_2 22 rfl rfl
theorem dksX0_settles_4 : cX0_settles.data.toList.drop 94 = dktX0_settles_4 := dk_seg dksX0_settles_3 24 rfl rfl
theorem dX0_settles_0 : decode cX0_settles 0 = .ok (.aload_n 0, 1) := dk_42 (dk_at dksX0_settles_0 0 rfl rfl)
theorem dX0_settles_1 : decode cX0_settles 1 = .ok (.iload_n 1, 1) := dk_27 (dk_at dksX0_settles_0 1 rfl rfl)
theorem dX0_settles_2 : decode cX0_settles 2 = .ok (.invokevirtual 235, 3) := dk_182 0 235 (dk_at dksX0_settles_0 2 rfl rfl)
theorem dX0_settles_5 : decode cX0_settles 5 = .ok (.ifCond .eq 22, 3) := dk_153 0 22 (dk_at dksX0_settles_0 5 rfl rfl)
theorem dX0_settles_8 : decode cX0_settles 8 = .ok (.iload_n 2, 1) := dk_28 (dk_at dksX0_settles_0 8 rfl rfl)
theorem dX0_settles_9 : decode cX0_settles 9 = .ok (.i2l, 1) := dk_133 (dk_at dksX0_settles_0 9 rfl rfl)
theorem dX0_settles_10 : decode cX0_settles 10 = .ok (.lconst 0, 1) := dk_9 (dk_at dksX0_settles_0 10 rfl rfl)
theorem dX0_settles_11 : decode cX0_settles 11 = .ok (.ldc2_w 282, 3) := dk_20 1 26 (dk_at dksX0_settles_0 11 rfl rfl)
theorem dX0_settles_14 : decode cX0_settles 14 = .ok (.invokestatic 74, 3) := dk_184 0 74 (dk_at dksX0_settles_0 14 rfl rfl)
theorem dX0_settles_17 : decode cX0_settles 17 = .ok (.ifCond .eq 10, 3) := dk_153 0 10 (dk_at dksX0_settles_0 17 rfl rfl)
theorem dX0_settles_20 : decode cX0_settles 20 = .ok (.iload_n 3, 1) := dk_29 (dk_at dksX0_settles_0 20 rfl rfl)
theorem dX0_settles_21 : decode cX0_settles 21 = .ok (.invokestatic 176, 3) := dk_184 0 176 (dk_at dksX0_settles_0 21 rfl rfl)
theorem dX0_settles_24 : decode cX0_settles 24 = .ok (.ifCond .ne 6, 3) := dk_154 0 6 (dk_at dksX0_settles_1 0 rfl rfl)
theorem dX0_settles_27 : decode cX0_settles 27 = .ok (.ldc 84, 2) := dk_18 84 (dk_at dksX0_settles_1 3 rfl rfl)
theorem dX0_settles_29 : decode cX0_settles 29 = .ok (.ireturn, 1) := dk_172 (dk_at dksX0_settles_1 5 rfl rfl)
theorem dX0_settles_30 : decode cX0_settles 30 = .ok (.aload_n 0, 1) := dk_42 (dk_at dksX0_settles_1 6 rfl rfl)
theorem dX0_settles_31 : decode cX0_settles 31 = .ok (.iload_n 2, 1) := dk_28 (dk_at dksX0_settles_1 7 rfl rfl)
theorem dX0_settles_32 : decode cX0_settles 32 = .ok (.invokevirtual 284, 3) := dk_182 1 28 (dk_at dksX0_settles_1 8 rfl rfl)
theorem dX0_settles_35 : decode cX0_settles 35 = .ok (.iload_n 3, 1) := dk_29 (dk_at dksX0_settles_1 11 rfl rfl)
theorem dX0_settles_36 : decode cX0_settles 36 = .ok (.ifCond .ne 13, 3) := dk_154 0 13 (dk_at dksX0_settles_1 12 rfl rfl)
theorem dX0_settles_39 : decode cX0_settles 39 = .ok (.aload_n 0, 1) := dk_42 (dk_at dksX0_settles_1 15 rfl rfl)
theorem dX0_settles_40 : decode cX0_settles 40 = .ok (.getfield 50, 3) := dk_180 0 50 (dk_at dksX0_settles_1 16 rfl rfl)
theorem dX0_settles_43 : decode cX0_settles 43 = .ok (.getfield 200, 3) := dk_180 0 200 (dk_at dksX0_settles_1 19 rfl rfl)
theorem dX0_settles_46 : decode cX0_settles 46 = .ok (.iload_n 1, 1) := dk_27 (dk_at dksX0_settles_1 22 rfl rfl)
theorem dX0_settles_47 : decode cX0_settles 47 = .ok (.iaload, 1) := dk_46 (dk_at dksX0_settles_1 23 rfl rfl)
theorem dX0_settles_48 : decode cX0_settles 48 = .ok (.ireturn, 1) := dk_172 (dk_at dksX0_settles_2 0 rfl rfl)
theorem dX0_settles_49 : decode cX0_settles 49 = .ok (.iconst 0, 1) := dk_3 (dk_at dksX0_settles_2 1 rfl rfl)
theorem dX0_settles_50 : decode cX0_settles 50 = .ok (.istore 4, 2) := dk_54 4 (dk_at dksX0_settles_2 2 rfl rfl)
theorem dX0_settles_52 : decode cX0_settles 52 = .ok (.iconst 0, 1) := dk_3 (dk_at dksX0_settles_2 4 rfl rfl)
theorem dX0_settles_53 : decode cX0_settles 53 = .ok (.istore 5, 2) := dk_54 5 (dk_at dksX0_settles_2 5 rfl rfl)
theorem dX0_settles_55 : decode cX0_settles 55 = .ok (.iload 5, 2) := dk_21 5 (dk_at dksX0_settles_2 7 rfl rfl)
theorem dX0_settles_57 : decode cX0_settles 57 = .ok (.aload_n 0, 1) := dk_42 (dk_at dksX0_settles_2 9 rfl rfl)
theorem dX0_settles_58 : decode cX0_settles 58 = .ok (.getfield 50, 3) := dk_180 0 50 (dk_at dksX0_settles_2 10 rfl rfl)
theorem dX0_settles_61 : decode cX0_settles 61 = .ok (.invokevirtual 164, 3) := dk_182 0 164 (dk_at dksX0_settles_2 13 rfl rfl)
theorem dX0_settles_64 : decode cX0_settles 64 = .ok (.if_icmp .ge 49, 3) := dk_162 0 49 (dk_at dksX0_settles_2 16 rfl rfl)
theorem dX0_settles_67 : decode cX0_settles 67 = .ok (.iload 4, 2) := dk_21 4 (dk_at dksX0_settles_2 19 rfl rfl)
theorem dX0_settles_69 : decode cX0_settles 69 = .ok (.aload_n 0, 1) := dk_42 (dk_at dksX0_settles_2 21 rfl rfl)
theorem dX0_settles_70 : decode cX0_settles 70 = .ok (.getfield 50, 3) := dk_180 0 50 (dk_at dksX0_settles_3 0 rfl rfl)
theorem dX0_settles_73 : decode cX0_settles 73 = .ok (.iload 5, 2) := dk_21 5 (dk_at dksX0_settles_3 3 rfl rfl)
theorem dX0_settles_75 : decode cX0_settles 75 = .ok (.invokevirtual 204, 3) := dk_182 0 204 (dk_at dksX0_settles_3 5 rfl rfl)
theorem dX0_settles_78 : decode cX0_settles 78 = .ok (.getfield 208, 3) := dk_180 0 208 (dk_at dksX0_settles_3 8 rfl rfl)
theorem dX0_settles_81 : decode cX0_settles 81 = .ok (.iload_n 1, 1) := dk_27 (dk_at dksX0_settles_3 11 rfl rfl)
theorem dX0_settles_82 : decode cX0_settles 82 = .ok (.if_icmp .ne 21, 3) := dk_160 0 21 (dk_at dksX0_settles_3 12 rfl rfl)
theorem dX0_settles_85 : decode cX0_settles 85 = .ok (.aload_n 0, 1) := dk_42 (dk_at dksX0_settles_3 15 rfl rfl)
theorem dX0_settles_86 : decode cX0_settles 86 = .ok (.getfield 50, 3) := dk_180 0 50 (dk_at dksX0_settles_3 16 rfl rfl)
theorem dX0_settles_89 : decode cX0_settles 89 = .ok (.getfield 232, 3) := dk_180 0 232 (dk_at dksX0_settles_3 19 rfl rfl)
theorem dX0_settles_92 : decode cX0_settles 92 = .ok (.iload 5, 2) := dk_21 5 (dk_at dksX0_settles_3 22 rfl rfl)
theorem dX0_settles_94 : decode cX0_settles 94 = .ok (.iaload, 1) := dk_46 (dk_at dksX0_settles_4 0 rfl rfl)
theorem dX0_settles_95 : decode cX0_settles 95 = .ok (.iconst 1, 1) := dk_4 (dk_at dksX0_settles_4 1 rfl rfl)
theorem dX0_settles_96 : decode cX0_settles 96 = .ok (.if_icmp .ne 7, 3) := dk_160 0 7 (dk_at dksX0_settles_4 2 rfl rfl)
theorem dX0_settles_99 : decode cX0_settles 99 = .ok (.iconst 1, 1) := dk_4 (dk_at dksX0_settles_4 5 rfl rfl)
theorem dX0_settles_100 : decode cX0_settles 100 = .ok (.goto 4, 3) := dk_167 0 4 (dk_at dksX0_settles_4 6 rfl rfl)
theorem dX0_settles_103 : decode cX0_settles 103 = .ok (.iconst 0, 1) := dk_3 (dk_at dksX0_settles_4 9 rfl rfl)
theorem dX0_settles_104 : decode cX0_settles 104 = .ok (.iadd, 1) := dk_96 (dk_at dksX0_settles_4 10 rfl rfl)
theorem dX0_settles_105 : decode cX0_settles 105 = .ok (.istore 4, 2) := dk_54 4 (dk_at dksX0_settles_4 11 rfl rfl)
theorem dX0_settles_107 : decode cX0_settles 107 = .ok (.iinc 5 1, 3) := dk_132 5 1 (dk_at dksX0_settles_4 13 rfl rfl)
theorem dX0_settles_110 : decode cX0_settles 110 = .ok (.goto (-55), 3) := dk_167 255 201 (dk_at dksX0_settles_4 16 rfl rfl)
theorem dX0_settles_113 : decode cX0_settles 113 = .ok (.iload 4, 2) := dk_21 4 (dk_at dksX0_settles_4 19 rfl rfl)
theorem dX0_settles_115 : decode cX0_settles 115 = .ok (.ireturn, 1) := dk_172 (dk_at dksX0_settles_4 21 rfl rfl)
abbrev cX0_goOn : ByteArray := prog_1_method_42_code
def yX0_goOn : MethodName := ⟨RX0, "goOn", "(I)V"⟩
def dkwX0_goOn_4 : List UInt8 := [177]
abbrev dktX0_goOn_4 : List UInt8 := dkwX0_goOn_4 ++ []
def dkwX0_goOn_3 : List UInt8 := [27, 161, 0, 7, 4, 167, 0, 4, 3, 182, 0, 196, 132, 3, 1, 167, 255, 191, 132, 2, 1, 167, 255, 177]
abbrev dktX0_goOn_3 : List UInt8 := dkwX0_goOn_3 ++ dktX0_goOn_4
def dkwX0_goOn_2 : List UInt8 := [29, 182, 0, 204, 180, 0, 223, 28, 160, 0, 28, 42, 180, 0, 50, 29, 42, 180, 0, 50, 29, 182, 0, 229]
abbrev dktX0_goOn_2 : List UInt8 := dkwX0_goOn_2 ++ dktX0_goOn_3
def dkwX0_goOn_1 : List UInt8 := [180, 0, 50, 182, 0, 164, 162, 0, 60, 42, 180, 0, 50, 29, 182, 0, 179, 153, 0, 43, 42, 180, 0, 50]
abbrev dktX0_goOn_1 : List UInt8 := dkwX0_goOn_1 ++ dktX0_goOn_2
def dkwX0_goOn_0 : List UInt8 := [42, 180, 0, 50, 42, 180, 0, 46, 182, 0, 157, 3, 61, 28, 16, 9, 163, 0, 79, 3, 62, 29, 42]
abbrev dktX0_goOn_0 : List UInt8 := dkwX0_goOn_0 ++ dktX0_goOn_1
theorem dksX0_goOn_0 : cX0_goOn.data.toList.drop 0 = dktX0_goOn_0 := by decide +kernel
theorem dksX0_goOn_1 : cX0_goOn.data.toList.drop 23 = dktX0_goOn_1 := dk_seg dksX0_goOn_0 23 rfl rfl
theorem dksX0_goOn_2 : cX0_goOn.data.toList.drop 47 = dktX0_goOn_2 := dk_seg dksX0_goOn_1 24 rfl rfl
theorem dksX0_goOn_3 : cX0_goOn.data.toList.drop 71 = dktX0_goOn_3 := dk_seg dksX0_goOn_2 24 rfl rfl
theorem dksX0_goOn_4 : cX0_goOn.data.toList.drop 95 = dktX0_goOn_4 := dk_seg dksX0_goOn_3 24 rfl rfl
theorem dX0_goOn_0 : decode cX0_goOn 0 = .ok (.aload_n 0, 1) := dk_42 (dk_at dksX0_goOn_0 0 rfl rfl)
theorem dX0_goOn_1 : decode cX0_goOn 1 = .ok (.getfield 50, 3) := dk_180 0 50 (dk_at dksX0_goOn_0 1 rfl rfl)
theorem dX0_goOn_4 : decode cX0_goOn 4 = .ok (.aload_n 0, 1) := dk_42 (dk_at dksX0_goOn_0 4 rfl rfl)
theorem dX0_goOn_5 : decode cX0_goOn 5 = .ok (.getfield 46, 3) := dk_180 0 46 (dk_at dksX0_goOn_0 5 rfl rfl)
theorem dX0_goOn_8 : decode cX0_goOn 8 = .ok (.invokevirtual 157, 3) := dk_182 0 157 (dk_at dksX0_goOn_0 8 rfl rfl)
theorem dX0_goOn_11 : decode cX0_goOn 11 = .ok (.iconst 0, 1) := dk_3 (dk_at dksX0_goOn_0 11 rfl rfl)
theorem dX0_goOn_12 : decode cX0_goOn 12 = .ok (.istore_n 2, 1) := dk_61 (dk_at dksX0_goOn_0 12 rfl rfl)
theorem dX0_goOn_13 : decode cX0_goOn 13 = .ok (.iload_n 2, 1) := dk_28 (dk_at dksX0_goOn_0 13 rfl rfl)
theorem dX0_goOn_14 : decode cX0_goOn 14 = .ok (.bipush 9, 2) := dk_16 9 (dk_at dksX0_goOn_0 14 rfl rfl)
theorem dX0_goOn_16 : decode cX0_goOn 16 = .ok (.if_icmp .gt 79, 3) := dk_163 0 79 (dk_at dksX0_goOn_0 16 rfl rfl)
theorem dX0_goOn_19 : decode cX0_goOn 19 = .ok (.iconst 0, 1) := dk_3 (dk_at dksX0_goOn_0 19 rfl rfl)
theorem dX0_goOn_20 : decode cX0_goOn 20 = .ok (.istore_n 3, 1) := dk_62 (dk_at dksX0_goOn_0 20 rfl rfl)
theorem dX0_goOn_21 : decode cX0_goOn 21 = .ok (.iload_n 3, 1) := dk_29 (dk_at dksX0_goOn_0 21 rfl rfl)
theorem dX0_goOn_22 : decode cX0_goOn 22 = .ok (.aload_n 0, 1) := dk_42 (dk_at dksX0_goOn_0 22 rfl rfl)
theorem dX0_goOn_23 : decode cX0_goOn 23 = .ok (.getfield 50, 3) := dk_180 0 50 (dk_at dksX0_goOn_1 0 rfl rfl)
theorem dX0_goOn_26 : decode cX0_goOn 26 = .ok (.invokevirtual 164, 3) := dk_182 0 164 (dk_at dksX0_goOn_1 3 rfl rfl)
theorem dX0_goOn_29 : decode cX0_goOn 29 = .ok (.if_icmp .ge 60, 3) := dk_162 0 60 (dk_at dksX0_goOn_1 6 rfl rfl)
theorem dX0_goOn_32 : decode cX0_goOn 32 = .ok (.aload_n 0, 1) := dk_42 (dk_at dksX0_goOn_1 9 rfl rfl)
theorem dX0_goOn_33 : decode cX0_goOn 33 = .ok (.getfield 50, 3) := dk_180 0 50 (dk_at dksX0_goOn_1 10 rfl rfl)
theorem dX0_goOn_36 : decode cX0_goOn 36 = .ok (.iload_n 3, 1) := dk_29 (dk_at dksX0_goOn_1 13 rfl rfl)
theorem dX0_goOn_37 : decode cX0_goOn 37 = .ok (.invokevirtual 179, 3) := dk_182 0 179 (dk_at dksX0_goOn_1 14 rfl rfl)
theorem dX0_goOn_40 : decode cX0_goOn 40 = .ok (.ifCond .eq 43, 3) := dk_153 0 43 (dk_at dksX0_goOn_1 17 rfl rfl)
theorem dX0_goOn_43 : decode cX0_goOn 43 = .ok (.aload_n 0, 1) := dk_42 (dk_at dksX0_goOn_1 20 rfl rfl)
theorem dX0_goOn_44 : decode cX0_goOn 44 = .ok (.getfield 50, 3) := dk_180 0 50 (dk_at dksX0_goOn_1 21 rfl rfl)
theorem dX0_goOn_47 : decode cX0_goOn 47 = .ok (.iload_n 3, 1) := dk_29 (dk_at dksX0_goOn_2 0 rfl rfl)
theorem dX0_goOn_48 : decode cX0_goOn 48 = .ok (.invokevirtual 204, 3) := dk_182 0 204 (dk_at dksX0_goOn_2 1 rfl rfl)
theorem dX0_goOn_51 : decode cX0_goOn 51 = .ok (.getfield 223, 3) := dk_180 0 223 (dk_at dksX0_goOn_2 4 rfl rfl)
theorem dX0_goOn_54 : decode cX0_goOn 54 = .ok (.iload_n 2, 1) := dk_28 (dk_at dksX0_goOn_2 7 rfl rfl)
theorem dX0_goOn_55 : decode cX0_goOn 55 = .ok (.if_icmp .ne 28, 3) := dk_160 0 28 (dk_at dksX0_goOn_2 8 rfl rfl)
theorem dX0_goOn_58 : decode cX0_goOn 58 = .ok (.aload_n 0, 1) := dk_42 (dk_at dksX0_goOn_2 11 rfl rfl)
theorem dX0_goOn_59 : decode cX0_goOn 59 = .ok (.getfield 50, 3) := dk_180 0 50 (dk_at dksX0_goOn_2 12 rfl rfl)
theorem dX0_goOn_62 : decode cX0_goOn 62 = .ok (.iload_n 3, 1) := dk_29 (dk_at dksX0_goOn_2 15 rfl rfl)
theorem dX0_goOn_63 : decode cX0_goOn 63 = .ok (.aload_n 0, 1) := dk_42 (dk_at dksX0_goOn_2 16 rfl rfl)
theorem dX0_goOn_64 : decode cX0_goOn 64 = .ok (.getfield 50, 3) := dk_180 0 50 (dk_at dksX0_goOn_2 17 rfl rfl)
theorem dX0_goOn_67 : decode cX0_goOn 67 = .ok (.iload_n 3, 1) := dk_29 (dk_at dksX0_goOn_2 20 rfl rfl)
theorem dX0_goOn_68 : decode cX0_goOn 68 = .ok (.invokevirtual 229, 3) := dk_182 0 229 (dk_at dksX0_goOn_2 21 rfl rfl)
theorem dX0_goOn_71 : decode cX0_goOn 71 = .ok (.iload_n 1, 1) := dk_27 (dk_at dksX0_goOn_3 0 rfl rfl)
theorem dX0_goOn_72 : decode cX0_goOn 72 = .ok (.if_icmp .lt 7, 3) := dk_161 0 7 (dk_at dksX0_goOn_3 1 rfl rfl)
theorem dX0_goOn_75 : decode cX0_goOn 75 = .ok (.iconst 1, 1) := dk_4 (dk_at dksX0_goOn_3 4 rfl rfl)
theorem dX0_goOn_76 : decode cX0_goOn 76 = .ok (.goto 4, 3) := dk_167 0 4 (dk_at dksX0_goOn_3 5 rfl rfl)
theorem dX0_goOn_79 : decode cX0_goOn 79 = .ok (.iconst 0, 1) := dk_3 (dk_at dksX0_goOn_3 8 rfl rfl)
theorem dX0_goOn_80 : decode cX0_goOn 80 = .ok (.invokevirtual 196, 3) := dk_182 0 196 (dk_at dksX0_goOn_3 9 rfl rfl)
theorem dX0_goOn_83 : decode cX0_goOn 83 = .ok (.iinc 3 1, 3) := dk_132 3 1 (dk_at dksX0_goOn_3 12 rfl rfl)
theorem dX0_goOn_86 : decode cX0_goOn 86 = .ok (.goto (-65), 3) := dk_167 255 191 (dk_at dksX0_goOn_3 15 rfl rfl)
theorem dX0_goOn_89 : decode cX0_goOn 89 = .ok (.iinc 2 1, 3) := dk_132 2 1 (dk_at dksX0_goOn_3 18 rfl rfl)
theorem dX0_goOn_92 : decode cX0_goOn 92 = .ok (.goto (-79), 3) := dk_167 255 177 (dk_at dksX0_goOn_3 21 rfl rfl)
theorem dX0_goOn_95 : decode cX0_goOn 95 = .ok (.return_, 1) := dk_177 (dk_at dksX0_goOn_4 0 rfl rfl)
abbrev cX0_bestHeavy : ByteArray := prog_1_method_44_code
def yX0_bestHeavy : MethodName := ⟨RX0, "bestHeavy", "(I)I"⟩
def dkwX0_bestHeavy_3 : List UInt8 := [167, 255, 206, 28, 172]
abbrev dktX0_bestHeavy_3 : List UInt8 := dkwX0_bestHeavy_3 ++ []
def dkwX0_bestHeavy_2 : List UInt8 := [167, 0, 4, 28, 61, 29, 42, 180, 0, 50, 180, 0, 200, 27, 46, 184, 1, 16, 62, 132, 4, 1]
abbrev dktX0_bestHeavy_2 : List UInt8 := dkwX0_bestHeavy_2 ++ dktX0_bestHeavy_3
def dkwX0_bestHeavy_1 : List UInt8 := [163, 0, 49, 42, 21, 4, 182, 1, 28, 42, 180, 0, 50, 180, 0, 200, 27, 46, 29, 164, 0, 8, 21, 4]
abbrev dktX0_bestHeavy_1 : List UInt8 := dkwX0_bestHeavy_1 ++ dktX0_bestHeavy_2
def dkwX0_bestHeavy_0 : List UInt8 := [42, 27, 182, 0, 235, 154, 0, 6, 18, 84, 172, 3, 61, 18, 241, 62, 3, 54, 4, 21, 4, 16, 20]
abbrev dktX0_bestHeavy_0 : List UInt8 := dkwX0_bestHeavy_0 ++ dktX0_bestHeavy_1
theorem dksX0_bestHeavy_0 : cX0_bestHeavy.data.toList.drop 0 = dktX0_bestHeavy_0 := by decide +kernel
theorem dksX0_bestHeavy_1 : cX0_bestHeavy.data.toList.drop 23 = dktX0_bestHeavy_1 := dk_seg dksX0_bestHeavy_0 23 rfl rfl
theorem dksX0_bestHeavy_2 : cX0_bestHeavy.data.toList.drop 47 = dktX0_bestHeavy_2 := dk_seg dksX0_bestHeavy_1 24 rfl rfl
theorem dksX0_bestHeavy_3 : cX0_bestHeavy.data.toList.drop 69 = dktX0_bestHeavy_3 := dk_seg dksX0_bestHeavy_2 22 rfl rfl
theorem dX0_bestHeavy_0 : decode cX0_bestHeavy 0 = .ok (.aload_n 0, 1) := dk_42 (dk_at dksX0_bestHeavy_0 0 rfl rfl)
theorem dX0_bestHeavy_1 : decode cX0_bestHeavy 1 = .ok (.iload_n 1, 1) := dk_27 (dk_at dksX0_bestHeavy_0 1 rfl rfl)
theorem dX0_bestHeavy_2 : decode cX0_bestHeavy 2 = .ok (.invokevirtual 235, 3) := dk_182 0 235 (dk_at dksX0_bestHeavy_0 2 rfl rfl)
theorem dX0_bestHeavy_5 : decode cX0_bestHeavy 5 = .ok (.ifCond .ne 6, 3) := dk_154 0 6 (dk_at dksX0_bestHeavy_0 5 rfl rfl)
theorem dX0_bestHeavy_8 : decode cX0_bestHeavy 8 = .ok (.ldc 84, 2) := dk_18 84 (dk_at dksX0_bestHeavy_0 8 rfl rfl)
theorem dX0_bestHeavy_10 : decode cX0_bestHeavy 10 = .ok (.ireturn, 1) := dk_172 (dk_at dksX0_bestHeavy_0 10 rfl rfl)
theorem dX0_bestHeavy_11 : decode cX0_bestHeavy 11 = .ok (.iconst 0, 1) := dk_3 (dk_at dksX0_bestHeavy_0 11 rfl rfl)
theorem dX0_bestHeavy_12 : decode cX0_bestHeavy 12 = .ok (.istore_n 2, 1) := dk_61 (dk_at dksX0_bestHeavy_0 12 rfl rfl)
theorem dX0_bestHeavy_13 : decode cX0_bestHeavy 13 = .ok (.ldc 241, 2) := dk_18 241 (dk_at dksX0_bestHeavy_0 13 rfl rfl)
theorem dX0_bestHeavy_15 : decode cX0_bestHeavy 15 = .ok (.istore_n 3, 1) := dk_62 (dk_at dksX0_bestHeavy_0 15 rfl rfl)
theorem dX0_bestHeavy_16 : decode cX0_bestHeavy 16 = .ok (.iconst 0, 1) := dk_3 (dk_at dksX0_bestHeavy_0 16 rfl rfl)
theorem dX0_bestHeavy_17 : decode cX0_bestHeavy 17 = .ok (.istore 4, 2) := dk_54 4 (dk_at dksX0_bestHeavy_0 17 rfl rfl)
theorem dX0_bestHeavy_19 : decode cX0_bestHeavy 19 = .ok (.iload 4, 2) := dk_21 4 (dk_at dksX0_bestHeavy_0 19 rfl rfl)
theorem dX0_bestHeavy_21 : decode cX0_bestHeavy 21 = .ok (.bipush 20, 2) := dk_16 20 (dk_at dksX0_bestHeavy_0 21 rfl rfl)
theorem dX0_bestHeavy_23 : decode cX0_bestHeavy 23 = .ok (.if_icmp .gt 49, 3) := dk_163 0 49 (dk_at dksX0_bestHeavy_1 0 rfl rfl)
theorem dX0_bestHeavy_26 : decode cX0_bestHeavy 26 = .ok (.aload_n 0, 1) := dk_42 (dk_at dksX0_bestHeavy_1 3 rfl rfl)
theorem dX0_bestHeavy_27 : decode cX0_bestHeavy 27 = .ok (.iload 4, 2) := dk_21 4 (dk_at dksX0_bestHeavy_1 4 rfl rfl)
theorem dX0_bestHeavy_29 : decode cX0_bestHeavy 29 = .ok (.invokevirtual 284, 3) := dk_182 1 28 (dk_at dksX0_bestHeavy_1 6 rfl rfl)
theorem dX0_bestHeavy_32 : decode cX0_bestHeavy 32 = .ok (.aload_n 0, 1) := dk_42 (dk_at dksX0_bestHeavy_1 9 rfl rfl)
theorem dX0_bestHeavy_33 : decode cX0_bestHeavy 33 = .ok (.getfield 50, 3) := dk_180 0 50 (dk_at dksX0_bestHeavy_1 10 rfl rfl)
theorem dX0_bestHeavy_36 : decode cX0_bestHeavy 36 = .ok (.getfield 200, 3) := dk_180 0 200 (dk_at dksX0_bestHeavy_1 13 rfl rfl)
theorem dX0_bestHeavy_39 : decode cX0_bestHeavy 39 = .ok (.iload_n 1, 1) := dk_27 (dk_at dksX0_bestHeavy_1 16 rfl rfl)
theorem dX0_bestHeavy_40 : decode cX0_bestHeavy 40 = .ok (.iaload, 1) := dk_46 (dk_at dksX0_bestHeavy_1 17 rfl rfl)
theorem dX0_bestHeavy_41 : decode cX0_bestHeavy 41 = .ok (.iload_n 3, 1) := dk_29 (dk_at dksX0_bestHeavy_1 18 rfl rfl)
theorem dX0_bestHeavy_42 : decode cX0_bestHeavy 42 = .ok (.if_icmp .le 8, 3) := dk_164 0 8 (dk_at dksX0_bestHeavy_1 19 rfl rfl)
theorem dX0_bestHeavy_45 : decode cX0_bestHeavy 45 = .ok (.iload 4, 2) := dk_21 4 (dk_at dksX0_bestHeavy_1 22 rfl rfl)
theorem dX0_bestHeavy_47 : decode cX0_bestHeavy 47 = .ok (.goto 4, 3) := dk_167 0 4 (dk_at dksX0_bestHeavy_2 0 rfl rfl)
theorem dX0_bestHeavy_50 : decode cX0_bestHeavy 50 = .ok (.iload_n 2, 1) := dk_28 (dk_at dksX0_bestHeavy_2 3 rfl rfl)
theorem dX0_bestHeavy_51 : decode cX0_bestHeavy 51 = .ok (.istore_n 2, 1) := dk_61 (dk_at dksX0_bestHeavy_2 4 rfl rfl)
theorem dX0_bestHeavy_52 : decode cX0_bestHeavy 52 = .ok (.iload_n 3, 1) := dk_29 (dk_at dksX0_bestHeavy_2 5 rfl rfl)
theorem dX0_bestHeavy_53 : decode cX0_bestHeavy 53 = .ok (.aload_n 0, 1) := dk_42 (dk_at dksX0_bestHeavy_2 6 rfl rfl)
theorem dX0_bestHeavy_54 : decode cX0_bestHeavy 54 = .ok (.getfield 50, 3) := dk_180 0 50 (dk_at dksX0_bestHeavy_2 7 rfl rfl)
theorem dX0_bestHeavy_57 : decode cX0_bestHeavy 57 = .ok (.getfield 200, 3) := dk_180 0 200 (dk_at dksX0_bestHeavy_2 10 rfl rfl)
theorem dX0_bestHeavy_60 : decode cX0_bestHeavy 60 = .ok (.iload_n 1, 1) := dk_27 (dk_at dksX0_bestHeavy_2 13 rfl rfl)
theorem dX0_bestHeavy_61 : decode cX0_bestHeavy 61 = .ok (.iaload, 1) := dk_46 (dk_at dksX0_bestHeavy_2 14 rfl rfl)
theorem dX0_bestHeavy_62 : decode cX0_bestHeavy 62 = .ok (.invokestatic 272, 3) := dk_184 1 16 (dk_at dksX0_bestHeavy_2 15 rfl rfl)
theorem dX0_bestHeavy_65 : decode cX0_bestHeavy 65 = .ok (.istore_n 3, 1) := dk_62 (dk_at dksX0_bestHeavy_2 18 rfl rfl)
theorem dX0_bestHeavy_66 : decode cX0_bestHeavy 66 = .ok (.iinc 4 1, 3) := dk_132 4 1 (dk_at dksX0_bestHeavy_2 19 rfl rfl)
theorem dX0_bestHeavy_69 : decode cX0_bestHeavy 69 = .ok (.goto (-50), 3) := dk_167 255 206 (dk_at dksX0_bestHeavy_3 0 rfl rfl)
theorem dX0_bestHeavy_72 : decode cX0_bestHeavy 72 = .ok (.iload_n 2, 1) := dk_28 (dk_at dksX0_bestHeavy_3 3 rfl rfl)
theorem dX0_bestHeavy_73 : decode cX0_bestHeavy 73 = .ok (.ireturn, 1) := dk_172 (dk_at dksX0_bestHeavy_3 4 rfl rfl)
abbrev cX0_found : ByteArray := prog_1_method_47_code
def yX0_found : MethodName := ⟨RX0, "found", "(IIII)I"⟩
def dkwX0_found_4 : List UInt8 := [182, 0, 93, 172, 58, 5, 42, 4, 182, 0, 99, 172, 58, 5, 42, 5, 182, 0, 99, 172]
abbrev dktX0_found_4 : List UInt8 := dkwX0_found_4 ++ []
def dkwX0_found_3 : List UInt8 := [182, 0, 238, 154, 0, 6, 18, 84, 172, 132, 6, 1, 167, 255, 230, 42, 42, 25, 5, 21, 4, 182, 1, 47]
abbrev dktX0_found_3 : List UInt8 := dkwX0_found_3 ++ dktX0_found_4
def dkwX0_found_2 : List UInt8 := [182, 1, 43, 58, 5, 3, 54, 6, 21, 6, 29, 162, 0, 26, 42, 25, 5, 5, 21, 6, 104, 46]
abbrev dktX0_found_2 : List UInt8 := dkwX0_found_2 ++ dktX0_found_3
def dkwX0_found_1 : List UInt8 := [184, 0, 74, 153, 0, 11, 21, 4, 184, 0, 176, 154, 0, 6, 18, 84, 172, 42, 27, 28, 5, 29, 104]
abbrev dktX0_found_1 : List UInt8 := dkwX0_found_1 ++ dktX0_found_2
def dkwX0_found_0 : List UInt8 := [42, 182, 0, 211, 154, 0, 6, 18, 189, 172, 27, 184, 0, 78, 153, 0, 23, 29, 133, 10, 20, 1, 2]
abbrev dktX0_found_0 : List UInt8 := dkwX0_found_0 ++ dktX0_found_1
theorem dksX0_found_0 : cX0_found.data.toList.drop 0 = dktX0_found_0 := by decide +kernel
theorem dksX0_found_1 : cX0_found.data.toList.drop 23 = dktX0_found_1 := dk_seg dksX0_found_0 23 rfl rfl
theorem dksX0_found_2 : cX0_found.data.toList.drop 46 = dktX0_found_2 := dk_seg dksX0_found_1 23 rfl rfl
theorem dksX0_found_3 : cX0_found.data.toList.drop 68 = dktX0_found_3 := dk_seg dksX0_found_2 22 rfl rfl
theorem dksX0_found_4 : cX0_found.data.toList.drop 92 = dktX0_found_4 := dk_seg dksX0_found_3 24 rfl rfl
theorem dX0_found_0 : decode cX0_found 0 = .ok (.aload_n 0, 1) := dk_42 (dk_at dksX0_found_0 0 rfl rfl)
theorem dX0_found_1 : decode cX0_found 1 = .ok (.invokevirtual 211, 3) := dk_182 0 211 (dk_at dksX0_found_0 1 rfl rfl)
theorem dX0_found_4 : decode cX0_found 4 = .ok (.ifCond .ne 6, 3) := dk_154 0 6 (dk_at dksX0_found_0 4 rfl rfl)
theorem dX0_found_7 : decode cX0_found 7 = .ok (.ldc 189, 2) := dk_18 189 (dk_at dksX0_found_0 7 rfl rfl)
theorem dX0_found_9 : decode cX0_found 9 = .ok (.ireturn, 1) := dk_172 (dk_at dksX0_found_0 9 rfl rfl)
theorem dX0_found_10 : decode cX0_found 10 = .ok (.iload_n 1, 1) := dk_27 (dk_at dksX0_found_0 10 rfl rfl)
theorem dX0_found_11 : decode cX0_found 11 = .ok (.invokestatic 78, 3) := dk_184 0 78 (dk_at dksX0_found_0 11 rfl rfl)
theorem dX0_found_14 : decode cX0_found 14 = .ok (.ifCond .eq 23, 3) := dk_153 0 23 (dk_at dksX0_found_0 14 rfl rfl)
theorem dX0_found_17 : decode cX0_found 17 = .ok (.iload_n 3, 1) := dk_29 (dk_at dksX0_found_0 17 rfl rfl)
theorem dX0_found_18 : decode cX0_found 18 = .ok (.i2l, 1) := dk_133 (dk_at dksX0_found_0 18 rfl rfl)
theorem dX0_found_19 : decode cX0_found 19 = .ok (.lconst 1, 1) := dk_10 (dk_at dksX0_found_0 19 rfl rfl)
theorem dX0_found_20 : decode cX0_found 20 = .ok (.ldc2_w 258, 3) := dk_20 1 2 (dk_at dksX0_found_0 20 rfl rfl)
theorem dX0_found_23 : decode cX0_found 23 = .ok (.invokestatic 74, 3) := dk_184 0 74 (dk_at dksX0_found_1 0 rfl rfl)
theorem dX0_found_26 : decode cX0_found 26 = .ok (.ifCond .eq 11, 3) := dk_153 0 11 (dk_at dksX0_found_1 3 rfl rfl)
theorem dX0_found_29 : decode cX0_found 29 = .ok (.iload 4, 2) := dk_21 4 (dk_at dksX0_found_1 6 rfl rfl)
theorem dX0_found_31 : decode cX0_found 31 = .ok (.invokestatic 176, 3) := dk_184 0 176 (dk_at dksX0_found_1 8 rfl rfl)
theorem dX0_found_34 : decode cX0_found 34 = .ok (.ifCond .ne 6, 3) := dk_154 0 6 (dk_at dksX0_found_1 11 rfl rfl)
theorem dX0_found_37 : decode cX0_found 37 = .ok (.ldc 84, 2) := dk_18 84 (dk_at dksX0_found_1 14 rfl rfl)
theorem dX0_found_39 : decode cX0_found 39 = .ok (.ireturn, 1) := dk_172 (dk_at dksX0_found_1 16 rfl rfl)
theorem dX0_found_40 : decode cX0_found 40 = .ok (.aload_n 0, 1) := dk_42 (dk_at dksX0_found_1 17 rfl rfl)
theorem dX0_found_41 : decode cX0_found 41 = .ok (.iload_n 1, 1) := dk_27 (dk_at dksX0_found_1 18 rfl rfl)
theorem dX0_found_42 : decode cX0_found 42 = .ok (.iload_n 2, 1) := dk_28 (dk_at dksX0_found_1 19 rfl rfl)
theorem dX0_found_43 : decode cX0_found 43 = .ok (.iconst 2, 1) := dk_5 (dk_at dksX0_found_1 20 rfl rfl)
theorem dX0_found_44 : decode cX0_found 44 = .ok (.iload_n 3, 1) := dk_29 (dk_at dksX0_found_1 21 rfl rfl)
theorem dX0_found_45 : decode cX0_found 45 = .ok (.imul, 1) := dk_104 (dk_at dksX0_found_1 22 rfl rfl)
theorem dX0_found_46 : decode cX0_found 46 = .ok (.invokevirtual 299, 3) := dk_182 1 43 (dk_at dksX0_found_2 0 rfl rfl)
theorem dX0_found_49 : decode cX0_found 49 = .ok (.astore 5, 2) := dk_58 5 (dk_at dksX0_found_2 3 rfl rfl)
theorem dX0_found_51 : decode cX0_found 51 = .ok (.iconst 0, 1) := dk_3 (dk_at dksX0_found_2 5 rfl rfl)
theorem dX0_found_52 : decode cX0_found 52 = .ok (.istore 6, 2) := dk_54 6 (dk_at dksX0_found_2 6 rfl rfl)
theorem dX0_found_54 : decode cX0_found 54 = .ok (.iload 6, 2) := dk_21 6 (dk_at dksX0_found_2 8 rfl rfl)
theorem dX0_found_56 : decode cX0_found 56 = .ok (.iload_n 3, 1) := dk_29 (dk_at dksX0_found_2 10 rfl rfl)
theorem dX0_found_57 : decode cX0_found 57 = .ok (.if_icmp .ge 26, 3) := dk_162 0 26 (dk_at dksX0_found_2 11 rfl rfl)
theorem dX0_found_60 : decode cX0_found 60 = .ok (.aload_n 0, 1) := dk_42 (dk_at dksX0_found_2 14 rfl rfl)
theorem dX0_found_61 : decode cX0_found 61 = .ok (.aload 5, 2) := dk_25 5 (dk_at dksX0_found_2 15 rfl rfl)
theorem dX0_found_63 : decode cX0_found 63 = .ok (.iconst 2, 1) := dk_5 (dk_at dksX0_found_2 17 rfl rfl)
theorem dX0_found_64 : decode cX0_found 64 = .ok (.iload 6, 2) := dk_21 6 (dk_at dksX0_found_2 18 rfl rfl)
theorem dX0_found_66 : decode cX0_found 66 = .ok (.imul, 1) := dk_104 (dk_at dksX0_found_2 20 rfl rfl)
theorem dX0_found_67 : decode cX0_found 67 = .ok (.iaload, 1) := dk_46 (dk_at dksX0_found_2 21 rfl rfl)
theorem dX0_found_68 : decode cX0_found 68 = .ok (.invokevirtual 238, 3) := dk_182 0 238 (dk_at dksX0_found_3 0 rfl rfl)
theorem dX0_found_71 : decode cX0_found 71 = .ok (.ifCond .ne 6, 3) := dk_154 0 6 (dk_at dksX0_found_3 3 rfl rfl)
theorem dX0_found_74 : decode cX0_found 74 = .ok (.ldc 84, 2) := dk_18 84 (dk_at dksX0_found_3 6 rfl rfl)
theorem dX0_found_76 : decode cX0_found 76 = .ok (.ireturn, 1) := dk_172 (dk_at dksX0_found_3 8 rfl rfl)
theorem dX0_found_77 : decode cX0_found 77 = .ok (.iinc 6 1, 3) := dk_132 6 1 (dk_at dksX0_found_3 9 rfl rfl)
theorem dX0_found_80 : decode cX0_found 80 = .ok (.goto (-26), 3) := dk_167 255 230 (dk_at dksX0_found_3 12 rfl rfl)
theorem dX0_found_83 : decode cX0_found 83 = .ok (.aload_n 0, 1) := dk_42 (dk_at dksX0_found_3 15 rfl rfl)
theorem dX0_found_84 : decode cX0_found 84 = .ok (.aload_n 0, 1) := dk_42 (dk_at dksX0_found_3 16 rfl rfl)
theorem dX0_found_85 : decode cX0_found 85 = .ok (.aload 5, 2) := dk_25 5 (dk_at dksX0_found_3 17 rfl rfl)
theorem dX0_found_87 : decode cX0_found 87 = .ok (.iload 4, 2) := dk_21 4 (dk_at dksX0_found_3 19 rfl rfl)
theorem dX0_found_89 : decode cX0_found 89 = .ok (.invokevirtual 303, 3) := dk_182 1 47 (dk_at dksX0_found_3 21 rfl rfl)
theorem dX0_found_92 : decode cX0_found 92 = .ok (.invokevirtual 93, 3) := dk_182 0 93 (dk_at dksX0_found_4 0 rfl rfl)
theorem dX0_found_95 : decode cX0_found 95 = .ok (.ireturn, 1) := dk_172 (dk_at dksX0_found_4 3 rfl rfl)
theorem dX0_found_96 : decode cX0_found 96 = .ok (.astore 5, 2) := dk_58 5 (dk_at dksX0_found_4 4 rfl rfl)
theorem dX0_found_98 : decode cX0_found 98 = .ok (.aload_n 0, 1) := dk_42 (dk_at dksX0_found_4 6 rfl rfl)
theorem dX0_found_99 : decode cX0_found 99 = .ok (.iconst 1, 1) := dk_4 (dk_at dksX0_found_4 7 rfl rfl)
theorem dX0_found_100 : decode cX0_found 100 = .ok (.invokevirtual 99, 3) := dk_182 0 99 (dk_at dksX0_found_4 8 rfl rfl)
theorem dX0_found_103 : decode cX0_found 103 = .ok (.ireturn, 1) := dk_172 (dk_at dksX0_found_4 11 rfl rfl)
theorem dX0_found_104 : decode cX0_found 104 = .ok (.astore 5, 2) := dk_58 5 (dk_at dksX0_found_4 12 rfl rfl)
theorem dX0_found_106 : decode cX0_found 106 = .ok (.aload_n 0, 1) := dk_42 (dk_at dksX0_found_4 14 rfl rfl)
theorem dX0_found_107 : decode cX0_found 107 = .ok (.iconst 2, 1) := dk_5 (dk_at dksX0_found_4 15 rfl rfl)
theorem dX0_found_108 : decode cX0_found 108 = .ok (.invokevirtual 99, 3) := dk_182 0 99 (dk_at dksX0_found_4 16 rfl rfl)
theorem dX0_found_111 : decode cX0_found 111 = .ok (.ireturn, 1) := dk_172 (dk_at dksX0_found_4 19 rfl rfl)
abbrev cX0_items : ByteArray := prog_1_method_16_code
def yX0_items : MethodName := ⟨RX0, "items", "(III)[I"⟩
def dkwX0_items_3 : List UInt8 := [167, 255, 229, 25, 5, 176]
abbrev dktX0_items_3 : List UInt8 := dkwX0_items_3 ++ []
def dkwX0_items_2 : List UInt8 := [162, 0, 27, 25, 5, 21, 6, 42, 180, 0, 35, 27, 50, 28, 21, 6, 96, 182, 0, 125, 79, 132, 6, 1]
abbrev dktX0_items_2 : List UInt8 := dkwX0_items_2 ++ dktX0_items_3
def dkwX0_items_1 : List UInt8 := [158, 0, 11, 187, 0, 108, 89, 183, 0, 124, 191, 29, 188, 10, 58, 5, 3, 54, 6, 21, 6, 29]
abbrev dktX0_items_1 : List UInt8 := dkwX0_items_1 ++ dktX0_items_2
def dkwX0_items_0 : List UInt8 := [42, 180, 0, 35, 27, 50, 182, 0, 120, 54, 4, 28, 155, 0, 15, 28, 133, 29, 133, 97, 21, 4, 133, 148]
abbrev dktX0_items_0 : List UInt8 := dkwX0_items_0 ++ dktX0_items_1
theorem dksX0_items_0 : cX0_items.data.toList.drop 0 = dktX0_items_0 := by decide +kernel
theorem dksX0_items_1 : cX0_items.data.toList.drop 24 = dktX0_items_1 := dk_seg dksX0_items_0 24 rfl rfl
theorem dksX0_items_2 : cX0_items.data.toList.drop 46 = dktX0_items_2 := dk_seg dksX0_items_1 22 rfl rfl
theorem dksX0_items_3 : cX0_items.data.toList.drop 70 = dktX0_items_3 := dk_seg dksX0_items_2 24 rfl rfl
theorem dX0_items_0 : decode cX0_items 0 = .ok (.aload_n 0, 1) := dk_42 (dk_at dksX0_items_0 0 rfl rfl)
theorem dX0_items_1 : decode cX0_items 1 = .ok (.getfield 35, 3) := dk_180 0 35 (dk_at dksX0_items_0 1 rfl rfl)
theorem dX0_items_4 : decode cX0_items 4 = .ok (.iload_n 1, 1) := dk_27 (dk_at dksX0_items_0 4 rfl rfl)
theorem dX0_items_5 : decode cX0_items 5 = .ok (.aaload, 1) := dk_50 (dk_at dksX0_items_0 5 rfl rfl)
theorem dX0_items_6 : decode cX0_items 6 = .ok (.invokevirtual 120, 3) := dk_182 0 120 (dk_at dksX0_items_0 6 rfl rfl)
theorem dX0_items_9 : decode cX0_items 9 = .ok (.istore 4, 2) := dk_54 4 (dk_at dksX0_items_0 9 rfl rfl)
theorem dX0_items_11 : decode cX0_items 11 = .ok (.iload_n 2, 1) := dk_28 (dk_at dksX0_items_0 11 rfl rfl)
theorem dX0_items_12 : decode cX0_items 12 = .ok (.ifCond .lt 15, 3) := dk_155 0 15 (dk_at dksX0_items_0 12 rfl rfl)
theorem dX0_items_15 : decode cX0_items 15 = .ok (.iload_n 2, 1) := dk_28 (dk_at dksX0_items_0 15 rfl rfl)
theorem dX0_items_16 : decode cX0_items 16 = .ok (.i2l, 1) := dk_133 (dk_at dksX0_items_0 16 rfl rfl)
theorem dX0_items_17 : decode cX0_items 17 = .ok (.iload_n 3, 1) := dk_29 (dk_at dksX0_items_0 17 rfl rfl)
theorem dX0_items_18 : decode cX0_items 18 = .ok (.i2l, 1) := dk_133 (dk_at dksX0_items_0 18 rfl rfl)
theorem dX0_items_19 : decode cX0_items 19 = .ok (.ladd, 1) := dk_97 (dk_at dksX0_items_0 19 rfl rfl)
theorem dX0_items_20 : decode cX0_items 20 = .ok (.iload 4, 2) := dk_21 4 (dk_at dksX0_items_0 20 rfl rfl)
theorem dX0_items_22 : decode cX0_items 22 = .ok (.i2l, 1) := dk_133 (dk_at dksX0_items_0 22 rfl rfl)
theorem dX0_items_23 : decode cX0_items 23 = .ok (.lcmp, 1) := dk_148 (dk_at dksX0_items_0 23 rfl rfl)
theorem dX0_items_24 : decode cX0_items 24 = .ok (.ifCond .le 11, 3) := dk_158 0 11 (dk_at dksX0_items_1 0 rfl rfl)
theorem dX0_items_27 : decode cX0_items 27 = .ok (.new 108, 3) := dk_187 0 108 (dk_at dksX0_items_1 3 rfl rfl)
theorem dX0_items_30 : decode cX0_items 30 = .ok (.dup, 1) := dk_89 (dk_at dksX0_items_1 6 rfl rfl)
theorem dX0_items_31 : decode cX0_items 31 = .ok (.invokespecial 124, 3) := dk_183 0 124 (dk_at dksX0_items_1 7 rfl rfl)
theorem dX0_items_34 : decode cX0_items 34 = .ok (.athrow, 1) := dk_191 (dk_at dksX0_items_1 10 rfl rfl)
theorem dX0_items_35 : decode cX0_items 35 = .ok (.iload_n 3, 1) := dk_29 (dk_at dksX0_items_1 11 rfl rfl)
theorem dX0_items_36 : decode cX0_items 36 = .ok (.newarray .int, 2) := dk_188_10 (dk_at dksX0_items_1 12 rfl rfl)
theorem dX0_items_38 : decode cX0_items 38 = .ok (.astore 5, 2) := dk_58 5 (dk_at dksX0_items_1 14 rfl rfl)
theorem dX0_items_40 : decode cX0_items 40 = .ok (.iconst 0, 1) := dk_3 (dk_at dksX0_items_1 16 rfl rfl)
theorem dX0_items_41 : decode cX0_items 41 = .ok (.istore 6, 2) := dk_54 6 (dk_at dksX0_items_1 17 rfl rfl)
theorem dX0_items_43 : decode cX0_items 43 = .ok (.iload 6, 2) := dk_21 6 (dk_at dksX0_items_1 19 rfl rfl)
theorem dX0_items_45 : decode cX0_items 45 = .ok (.iload_n 3, 1) := dk_29 (dk_at dksX0_items_1 21 rfl rfl)
theorem dX0_items_46 : decode cX0_items 46 = .ok (.if_icmp .ge 27, 3) := dk_162 0 27 (dk_at dksX0_items_2 0 rfl rfl)
theorem dX0_items_49 : decode cX0_items 49 = .ok (.aload 5, 2) := dk_25 5 (dk_at dksX0_items_2 3 rfl rfl)
theorem dX0_items_51 : decode cX0_items 51 = .ok (.iload 6, 2) := dk_21 6 (dk_at dksX0_items_2 5 rfl rfl)
theorem dX0_items_53 : decode cX0_items 53 = .ok (.aload_n 0, 1) := dk_42 (dk_at dksX0_items_2 7 rfl rfl)
theorem dX0_items_54 : decode cX0_items 54 = .ok (.getfield 35, 3) := dk_180 0 35 (dk_at dksX0_items_2 8 rfl rfl)
theorem dX0_items_57 : decode cX0_items 57 = .ok (.iload_n 1, 1) := dk_27 (dk_at dksX0_items_2 11 rfl rfl)
theorem dX0_items_58 : decode cX0_items 58 = .ok (.aaload, 1) := dk_50 (dk_at dksX0_items_2 12 rfl rfl)
theorem dX0_items_59 : decode cX0_items 59 = .ok (.iload_n 2, 1) := dk_28 (dk_at dksX0_items_2 13 rfl rfl)
theorem dX0_items_60 : decode cX0_items 60 = .ok (.iload 6, 2) := dk_21 6 (dk_at dksX0_items_2 14 rfl rfl)
theorem dX0_items_62 : decode cX0_items 62 = .ok (.iadd, 1) := dk_96 (dk_at dksX0_items_2 16 rfl rfl)
theorem dX0_items_63 : decode cX0_items 63 = .ok (.invokevirtual 125, 3) := dk_182 0 125 (dk_at dksX0_items_2 17 rfl rfl)
theorem dX0_items_66 : decode cX0_items 66 = .ok (.iastore, 1) := dk_79 (dk_at dksX0_items_2 20 rfl rfl)
theorem dX0_items_67 : decode cX0_items 67 = .ok (.iinc 6 1, 3) := dk_132 6 1 (dk_at dksX0_items_2 21 rfl rfl)
theorem dX0_items_70 : decode cX0_items 70 = .ok (.goto (-27), 3) := dk_167 255 229 (dk_at dksX0_items_3 0 rfl rfl)
theorem dX0_items_73 : decode cX0_items 73 = .ok (.aload 5, 2) := dk_25 5 (dk_at dksX0_items_3 3 rfl rfl)
theorem dX0_items_75 : decode cX0_items 75 = .ok (.areturn, 1) := dk_176 (dk_at dksX0_items_3 5 rfl rfl)
abbrev cX0_foundBy : ByteArray := prog_1_method_46_code
def yX0_foundBy : MethodName := ⟨RX0, "foundBy", "([II)I"⟩
def dkwX0_foundBy_4 : List UInt8 := [132, 4, 1, 167, 255, 217, 29, 172]
abbrev dktX0_foundBy_4 : List UInt8 := dkwX0_foundBy_4 ++ []
def dkwX0_foundBy_3 : List UInt8 := [180, 0, 217, 21, 4, 182, 1, 39, 153, 0, 12, 4, 21, 4, 4, 100, 120, 167, 0, 4, 3, 128, 62]
abbrev dktX0_foundBy_3 : List UInt8 := dkwX0_foundBy_3 ++ dktX0_foundBy_4
def dkwX0_foundBy_2 : List UInt8 := [132, 4, 1, 167, 255, 218, 29, 172, 4, 54, 4, 21, 4, 8, 163, 0, 39, 29, 42, 43, 42, 180, 0, 46]
abbrev dktX0_foundBy_2 : List UInt8 := dkwX0_foundBy_2 ++ dktX0_foundBy_3
def dkwX0_foundBy_1 : List UInt8 := [180, 0, 46, 180, 0, 165, 182, 1, 39, 153, 0, 10, 4, 21, 4, 120, 167, 0, 4, 3, 128, 62]
abbrev dktX0_foundBy_1 : List UInt8 := dkwX0_foundBy_1 ++ dktX0_foundBy_2
def dkwX0_foundBy_0 : List UInt8 := [3, 62, 28, 154, 0, 49, 3, 54, 4, 21, 4, 16, 9, 163, 0, 37, 29, 42, 43, 21, 4, 42]
abbrev dktX0_foundBy_0 : List UInt8 := dkwX0_foundBy_0 ++ dktX0_foundBy_1
theorem dksX0_foundBy_0 : cX0_foundBy.data.toList.drop 0 = dktX0_foundBy_0 := by decide +kernel
theorem dksX0_foundBy_1 : cX0_foundBy.data.toList.drop 22 = dktX0_foundBy_1 := dk_seg dksX0_foundBy_0 22 rfl rfl
theorem dksX0_foundBy_2 : cX0_foundBy.data.toList.drop 44 = dktX0_foundBy_2 := dk_seg dksX0_foundBy_1 22 rfl rfl
theorem dksX0_foundBy_3 : cX0_foundBy.data.toList.drop 68 = dktX0_foundBy_3 := dk_seg dksX0_foundBy_2 24 rfl rfl
theorem dksX0_foundBy_4 : cX0_foundBy.data.toList.drop 91 = dktX0_foundBy_4 := dk_seg dksX0_foundBy_3 23 rfl rfl
theorem dX0_foundBy_0 : decode cX0_foundBy 0 = .ok (.iconst 0, 1) := dk_3 (dk_at dksX0_foundBy_0 0 rfl rfl)
theorem dX0_foundBy_1 : decode cX0_foundBy 1 = .ok (.istore_n 3, 1) := dk_62 (dk_at dksX0_foundBy_0 1 rfl rfl)
theorem dX0_foundBy_2 : decode cX0_foundBy 2 = .ok (.iload_n 2, 1) := dk_28 (dk_at dksX0_foundBy_0 2 rfl rfl)
theorem dX0_foundBy_3 : decode cX0_foundBy 3 = .ok (.ifCond .ne 49, 3) := dk_154 0 49 (dk_at dksX0_foundBy_0 3 rfl rfl)
theorem dX0_foundBy_6 : decode cX0_foundBy 6 = .ok (.iconst 0, 1) := dk_3 (dk_at dksX0_foundBy_0 6 rfl rfl)
theorem dX0_foundBy_7 : decode cX0_foundBy 7 = .ok (.istore 4, 2) := dk_54 4 (dk_at dksX0_foundBy_0 7 rfl rfl)
theorem dX0_foundBy_9 : decode cX0_foundBy 9 = .ok (.iload 4, 2) := dk_21 4 (dk_at dksX0_foundBy_0 9 rfl rfl)
theorem dX0_foundBy_11 : decode cX0_foundBy 11 = .ok (.bipush 9, 2) := dk_16 9 (dk_at dksX0_foundBy_0 11 rfl rfl)
theorem dX0_foundBy_13 : decode cX0_foundBy 13 = .ok (.if_icmp .gt 37, 3) := dk_163 0 37 (dk_at dksX0_foundBy_0 13 rfl rfl)
theorem dX0_foundBy_16 : decode cX0_foundBy 16 = .ok (.iload_n 3, 1) := dk_29 (dk_at dksX0_foundBy_0 16 rfl rfl)
theorem dX0_foundBy_17 : decode cX0_foundBy 17 = .ok (.aload_n 0, 1) := dk_42 (dk_at dksX0_foundBy_0 17 rfl rfl)
theorem dX0_foundBy_18 : decode cX0_foundBy 18 = .ok (.aload_n 1, 1) := dk_43 (dk_at dksX0_foundBy_0 18 rfl rfl)
theorem dX0_foundBy_19 : decode cX0_foundBy 19 = .ok (.iload 4, 2) := dk_21 4 (dk_at dksX0_foundBy_0 19 rfl rfl)
theorem dX0_foundBy_21 : decode cX0_foundBy 21 = .ok (.aload_n 0, 1) := dk_42 (dk_at dksX0_foundBy_0 21 rfl rfl)
theorem dX0_foundBy_22 : decode cX0_foundBy 22 = .ok (.getfield 46, 3) := dk_180 0 46 (dk_at dksX0_foundBy_1 0 rfl rfl)
theorem dX0_foundBy_25 : decode cX0_foundBy 25 = .ok (.getfield 165, 3) := dk_180 0 165 (dk_at dksX0_foundBy_1 3 rfl rfl)
theorem dX0_foundBy_28 : decode cX0_foundBy 28 = .ok (.invokevirtual 295, 3) := dk_182 1 39 (dk_at dksX0_foundBy_1 6 rfl rfl)
theorem dX0_foundBy_31 : decode cX0_foundBy 31 = .ok (.ifCond .eq 10, 3) := dk_153 0 10 (dk_at dksX0_foundBy_1 9 rfl rfl)
theorem dX0_foundBy_34 : decode cX0_foundBy 34 = .ok (.iconst 1, 1) := dk_4 (dk_at dksX0_foundBy_1 12 rfl rfl)
theorem dX0_foundBy_35 : decode cX0_foundBy 35 = .ok (.iload 4, 2) := dk_21 4 (dk_at dksX0_foundBy_1 13 rfl rfl)
theorem dX0_foundBy_37 : decode cX0_foundBy 37 = .ok (.ishl, 1) := dk_120 (dk_at dksX0_foundBy_1 15 rfl rfl)
theorem dX0_foundBy_38 : decode cX0_foundBy 38 = .ok (.goto 4, 3) := dk_167 0 4 (dk_at dksX0_foundBy_1 16 rfl rfl)
theorem dX0_foundBy_41 : decode cX0_foundBy 41 = .ok (.iconst 0, 1) := dk_3 (dk_at dksX0_foundBy_1 19 rfl rfl)
theorem dX0_foundBy_42 : decode cX0_foundBy 42 = .ok (.ior, 1) := dk_128 (dk_at dksX0_foundBy_1 20 rfl rfl)
theorem dX0_foundBy_43 : decode cX0_foundBy 43 = .ok (.istore_n 3, 1) := dk_62 (dk_at dksX0_foundBy_1 21 rfl rfl)
theorem dX0_foundBy_44 : decode cX0_foundBy 44 = .ok (.iinc 4 1, 3) := dk_132 4 1 (dk_at dksX0_foundBy_2 0 rfl rfl)
theorem dX0_foundBy_47 : decode cX0_foundBy 47 = .ok (.goto (-38), 3) := dk_167 255 218 (dk_at dksX0_foundBy_2 3 rfl rfl)
theorem dX0_foundBy_50 : decode cX0_foundBy 50 = .ok (.iload_n 3, 1) := dk_29 (dk_at dksX0_foundBy_2 6 rfl rfl)
theorem dX0_foundBy_51 : decode cX0_foundBy 51 = .ok (.ireturn, 1) := dk_172 (dk_at dksX0_foundBy_2 7 rfl rfl)
theorem dX0_foundBy_52 : decode cX0_foundBy 52 = .ok (.iconst 1, 1) := dk_4 (dk_at dksX0_foundBy_2 8 rfl rfl)
theorem dX0_foundBy_53 : decode cX0_foundBy 53 = .ok (.istore 4, 2) := dk_54 4 (dk_at dksX0_foundBy_2 9 rfl rfl)
theorem dX0_foundBy_55 : decode cX0_foundBy 55 = .ok (.iload 4, 2) := dk_21 4 (dk_at dksX0_foundBy_2 11 rfl rfl)
theorem dX0_foundBy_57 : decode cX0_foundBy 57 = .ok (.iconst 5, 1) := dk_8 (dk_at dksX0_foundBy_2 13 rfl rfl)
theorem dX0_foundBy_58 : decode cX0_foundBy 58 = .ok (.if_icmp .gt 39, 3) := dk_163 0 39 (dk_at dksX0_foundBy_2 14 rfl rfl)
theorem dX0_foundBy_61 : decode cX0_foundBy 61 = .ok (.iload_n 3, 1) := dk_29 (dk_at dksX0_foundBy_2 17 rfl rfl)
theorem dX0_foundBy_62 : decode cX0_foundBy 62 = .ok (.aload_n 0, 1) := dk_42 (dk_at dksX0_foundBy_2 18 rfl rfl)
theorem dX0_foundBy_63 : decode cX0_foundBy 63 = .ok (.aload_n 1, 1) := dk_43 (dk_at dksX0_foundBy_2 19 rfl rfl)
theorem dX0_foundBy_64 : decode cX0_foundBy 64 = .ok (.aload_n 0, 1) := dk_42 (dk_at dksX0_foundBy_2 20 rfl rfl)
theorem dX0_foundBy_65 : decode cX0_foundBy 65 = .ok (.getfield 46, 3) := dk_180 0 46 (dk_at dksX0_foundBy_2 21 rfl rfl)
theorem dX0_foundBy_68 : decode cX0_foundBy 68 = .ok (.getfield 217, 3) := dk_180 0 217 (dk_at dksX0_foundBy_3 0 rfl rfl)
theorem dX0_foundBy_71 : decode cX0_foundBy 71 = .ok (.iload 4, 2) := dk_21 4 (dk_at dksX0_foundBy_3 3 rfl rfl)
theorem dX0_foundBy_73 : decode cX0_foundBy 73 = .ok (.invokevirtual 295, 3) := dk_182 1 39 (dk_at dksX0_foundBy_3 5 rfl rfl)
theorem dX0_foundBy_76 : decode cX0_foundBy 76 = .ok (.ifCond .eq 12, 3) := dk_153 0 12 (dk_at dksX0_foundBy_3 8 rfl rfl)
theorem dX0_foundBy_79 : decode cX0_foundBy 79 = .ok (.iconst 1, 1) := dk_4 (dk_at dksX0_foundBy_3 11 rfl rfl)
theorem dX0_foundBy_80 : decode cX0_foundBy 80 = .ok (.iload 4, 2) := dk_21 4 (dk_at dksX0_foundBy_3 12 rfl rfl)
theorem dX0_foundBy_82 : decode cX0_foundBy 82 = .ok (.iconst 1, 1) := dk_4 (dk_at dksX0_foundBy_3 14 rfl rfl)
theorem dX0_foundBy_83 : decode cX0_foundBy 83 = .ok (.isub, 1) := dk_100 (dk_at dksX0_foundBy_3 15 rfl rfl)
theorem dX0_foundBy_84 : decode cX0_foundBy 84 = .ok (.ishl, 1) := dk_120 (dk_at dksX0_foundBy_3 16 rfl rfl)
theorem dX0_foundBy_85 : decode cX0_foundBy 85 = .ok (.goto 4, 3) := dk_167 0 4 (dk_at dksX0_foundBy_3 17 rfl rfl)
theorem dX0_foundBy_88 : decode cX0_foundBy 88 = .ok (.iconst 0, 1) := dk_3 (dk_at dksX0_foundBy_3 20 rfl rfl)
theorem dX0_foundBy_89 : decode cX0_foundBy 89 = .ok (.ior, 1) := dk_128 (dk_at dksX0_foundBy_3 21 rfl rfl)
theorem dX0_foundBy_90 : decode cX0_foundBy 90 = .ok (.istore_n 3, 1) := dk_62 (dk_at dksX0_foundBy_3 22 rfl rfl)
theorem dX0_foundBy_91 : decode cX0_foundBy 91 = .ok (.iinc 4 1, 3) := dk_132 4 1 (dk_at dksX0_foundBy_4 0 rfl rfl)
theorem dX0_foundBy_94 : decode cX0_foundBy 94 = .ok (.goto (-39), 3) := dk_167 255 217 (dk_at dksX0_foundBy_4 3 rfl rfl)
theorem dX0_foundBy_97 : decode cX0_foundBy 97 = .ok (.iload_n 3, 1) := dk_29 (dk_at dksX0_foundBy_4 6 rfl rfl)
theorem dX0_foundBy_98 : decode cX0_foundBy 98 = .ok (.ireturn, 1) := dk_172 (dk_at dksX0_foundBy_4 7 rfl rfl)
abbrev cX0_isSo : ByteArray := prog_1_method_45_code
def yX0_isSo : MethodName := ⟨RX0, "isSo", "([III)Z"⟩
def dkwX0_isSo_1 : List UInt8 := [184, 1, 35, 43, 21, 4, 4, 96, 46, 159, 0, 5, 3, 172, 132, 4, 2, 167, 255, 219, 4, 172]
abbrev dktX0_isSo_1 : List UInt8 := dkwX0_isSo_1 ++ []
def dkwX0_isSo_0 : List UInt8 := [3, 54, 4, 21, 4, 43, 190, 162, 0, 36, 42, 180, 0, 46, 43, 21, 4, 46, 182, 1, 32, 28, 29]
abbrev dktX0_isSo_0 : List UInt8 := dkwX0_isSo_0 ++ dktX0_isSo_1
theorem dksX0_isSo_0 : cX0_isSo.data.toList.drop 0 = dktX0_isSo_0 := by decide +kernel
theorem dksX0_isSo_1 : cX0_isSo.data.toList.drop 23 = dktX0_isSo_1 := dk_seg dksX0_isSo_0 23 rfl rfl
theorem dX0_isSo_0 : decode cX0_isSo 0 = .ok (.iconst 0, 1) := dk_3 (dk_at dksX0_isSo_0 0 rfl rfl)
theorem dX0_isSo_1 : decode cX0_isSo 1 = .ok (.istore 4, 2) := dk_54 4 (dk_at dksX0_isSo_0 1 rfl rfl)
theorem dX0_isSo_3 : decode cX0_isSo 3 = .ok (.iload 4, 2) := dk_21 4 (dk_at dksX0_isSo_0 3 rfl rfl)
theorem dX0_isSo_5 : decode cX0_isSo 5 = .ok (.aload_n 1, 1) := dk_43 (dk_at dksX0_isSo_0 5 rfl rfl)
theorem dX0_isSo_6 : decode cX0_isSo 6 = .ok (.arraylength, 1) := dk_190 (dk_at dksX0_isSo_0 6 rfl rfl)
theorem dX0_isSo_7 : decode cX0_isSo 7 = .ok (.if_icmp .ge 36, 3) := dk_162 0 36 (dk_at dksX0_isSo_0 7 rfl rfl)
theorem dX0_isSo_10 : decode cX0_isSo 10 = .ok (.aload_n 0, 1) := dk_42 (dk_at dksX0_isSo_0 10 rfl rfl)
theorem dX0_isSo_11 : decode cX0_isSo 11 = .ok (.getfield 46, 3) := dk_180 0 46 (dk_at dksX0_isSo_0 11 rfl rfl)
theorem dX0_isSo_14 : decode cX0_isSo 14 = .ok (.aload_n 1, 1) := dk_43 (dk_at dksX0_isSo_0 14 rfl rfl)
theorem dX0_isSo_15 : decode cX0_isSo 15 = .ok (.iload 4, 2) := dk_21 4 (dk_at dksX0_isSo_0 15 rfl rfl)
theorem dX0_isSo_17 : decode cX0_isSo 17 = .ok (.iaload, 1) := dk_46 (dk_at dksX0_isSo_0 17 rfl rfl)
theorem dX0_isSo_18 : decode cX0_isSo 18 = .ok (.invokevirtual 288, 3) := dk_182 1 32 (dk_at dksX0_isSo_0 18 rfl rfl)
theorem dX0_isSo_21 : decode cX0_isSo 21 = .ok (.iload_n 2, 1) := dk_28 (dk_at dksX0_isSo_0 21 rfl rfl)
theorem dX0_isSo_22 : decode cX0_isSo 22 = .ok (.iload_n 3, 1) := dk_29 (dk_at dksX0_isSo_0 22 rfl rfl)
theorem dX0_isSo_23 : decode cX0_isSo 23 = .ok (.invokestatic 291, 3) := dk_184 1 35 (dk_at dksX0_isSo_1 0 rfl rfl)
theorem dX0_isSo_26 : decode cX0_isSo 26 = .ok (.aload_n 1, 1) := dk_43 (dk_at dksX0_isSo_1 3 rfl rfl)
theorem dX0_isSo_27 : decode cX0_isSo 27 = .ok (.iload 4, 2) := dk_21 4 (dk_at dksX0_isSo_1 4 rfl rfl)
theorem dX0_isSo_29 : decode cX0_isSo 29 = .ok (.iconst 1, 1) := dk_4 (dk_at dksX0_isSo_1 6 rfl rfl)
theorem dX0_isSo_30 : decode cX0_isSo 30 = .ok (.iadd, 1) := dk_96 (dk_at dksX0_isSo_1 7 rfl rfl)
theorem dX0_isSo_31 : decode cX0_isSo 31 = .ok (.iaload, 1) := dk_46 (dk_at dksX0_isSo_1 8 rfl rfl)
theorem dX0_isSo_32 : decode cX0_isSo 32 = .ok (.if_icmp .eq 5, 3) := dk_159 0 5 (dk_at dksX0_isSo_1 9 rfl rfl)
theorem dX0_isSo_35 : decode cX0_isSo 35 = .ok (.iconst 0, 1) := dk_3 (dk_at dksX0_isSo_1 12 rfl rfl)
theorem dX0_isSo_36 : decode cX0_isSo 36 = .ok (.ireturn, 1) := dk_172 (dk_at dksX0_isSo_1 13 rfl rfl)
theorem dX0_isSo_37 : decode cX0_isSo 37 = .ok (.iinc 4 2, 3) := dk_132 4 2 (dk_at dksX0_isSo_1 14 rfl rfl)
theorem dX0_isSo_40 : decode cX0_isSo 40 = .ok (.goto (-37), 3) := dk_167 255 219 (dk_at dksX0_isSo_1 17 rfl rfl)
theorem dX0_isSo_43 : decode cX0_isSo 43 = .ok (.iconst 1, 1) := dk_4 (dk_at dksX0_isSo_1 20 rfl rfl)
theorem dX0_isSo_44 : decode cX0_isSo 44 = .ok (.ireturn, 1) := dk_172 (dk_at dksX0_isSo_1 21 rfl rfl)
abbrev cX0_keepsFound : ByteArray := prog_1_method_50_code
def yX0_keepsFound : MethodName := ⟨RX0, "keepsFound", "(III)I"⟩
def dkwX0_keepsFound_4 : List UInt8 := [182, 0, 99, 172]
abbrev dktX0_keepsFound_4 : List UInt8 := dkwX0_keepsFound_4 ++ []
def dkwX0_keepsFound_3 : List UInt8 := [182, 1, 43, 182, 1, 56, 182, 0, 93, 172, 58, 5, 42, 4, 182, 0, 99, 172, 58, 5, 42, 5]
abbrev dktX0_keepsFound_3 : List UInt8 := dkwX0_keepsFound_3 ++ dktX0_keepsFound_4
def dkwX0_keepsFound_2 : List UInt8 := [4, 167, 0, 4, 3, 96, 54, 4, 132, 5, 1, 167, 255, 221, 42, 42, 27, 42, 28, 29, 21, 4]
abbrev dktX0_keepsFound_2 : List UInt8 := dkwX0_keepsFound_2 ++ dktX0_keepsFound_3
def dkwX0_keepsFound_1 : List UInt8 := [21, 5, 42, 180, 0, 46, 182, 0, 164, 162, 0, 29, 21, 4, 42, 27, 21, 5, 182, 1, 53, 153, 0, 7]
abbrev dktX0_keepsFound_1 : List UInt8 := dkwX0_keepsFound_1 ++ dktX0_keepsFound_2
def dkwX0_keepsFound_0 : List UInt8 := [42, 27, 182, 0, 235, 153, 0, 10, 28, 184, 0, 78, 154, 0, 6, 18, 84, 172, 3, 54, 4, 3, 54, 5]
abbrev dktX0_keepsFound_0 : List UInt8 := dkwX0_keepsFound_0 ++ dktX0_keepsFound_1
theorem dksX0_keepsFound_0 : cX0_keepsFound.data.toList.drop 0 = dktX0_keepsFound_0 := by decide +kernel
theorem dksX0_keepsFound_1 : cX0_keepsFound.data.toList.drop 24 = dktX0_keepsFound_1 := dk_seg dksX0_keepsFound_0 24 rfl rfl
theorem dksX0_keepsFound_2 : cX0_keepsFound.data.toList.drop 48 = dktX0_keepsFound_2 := dk_seg dksX0_keepsFound_1 24 rfl rfl
theorem dksX0_keepsFound_3 : cX0_keepsFound.data.toList.drop 70 = dktX0_keepsFound_3 := dk_seg dksX0_keepsFound_2 22 rfl rfl
theorem dksX0_keepsFound_4 : cX0_keepsFound.data.toList.drop 92 = dktX0_keepsFound_4 := dk_seg dksX0_keepsFound_3 22 rfl rfl
theorem dX0_keepsFound_0 : decode cX0_keepsFound 0 = .ok (.aload_n 0, 1) := dk_42 (dk_at dksX0_keepsFound_0 0 rfl rfl)
theorem dX0_keepsFound_1 : decode cX0_keepsFound 1 = .ok (.iload_n 1, 1) := dk_27 (dk_at dksX0_keepsFound_0 1 rfl rfl)
theorem dX0_keepsFound_2 : decode cX0_keepsFound 2 = .ok (.invokevirtual 235, 3) := dk_182 0 235 (dk_at dksX0_keepsFound_0 2 rfl rfl)
theorem dX0_keepsFound_5 : decode cX0_keepsFound 5 = .ok (.ifCond .eq 10, 3) := dk_153 0 10 (dk_at dksX0_keepsFound_0 5 rfl rfl)
theorem dX0_keepsFound_8 : decode cX0_keepsFound 8 = .ok (.iload_n 2, 1) := dk_28 (dk_at dksX0_keepsFound_0 8 rfl rfl)
theorem dX0_keepsFound_9 : decode cX0_keepsFound 9 = .ok (.invokestatic 78, 3) := dk_184 0 78 (dk_at dksX0_keepsFound_0 9 rfl rfl)
theorem dX0_keepsFound_12 : decode cX0_keepsFound 12 = .ok (.ifCond .ne 6, 3) := dk_154 0 6 (dk_at dksX0_keepsFound_0 12 rfl rfl)
theorem dX0_keepsFound_15 : decode cX0_keepsFound 15 = .ok (.ldc 84, 2) := dk_18 84 (dk_at dksX0_keepsFound_0 15 rfl rfl)
theorem dX0_keepsFound_17 : decode cX0_keepsFound 17 = .ok (.ireturn, 1) := dk_172 (dk_at dksX0_keepsFound_0 17 rfl rfl)
theorem dX0_keepsFound_18 : decode cX0_keepsFound 18 = .ok (.iconst 0, 1) := dk_3 (dk_at dksX0_keepsFound_0 18 rfl rfl)
theorem dX0_keepsFound_19 : decode cX0_keepsFound 19 = .ok (.istore 4, 2) := dk_54 4 (dk_at dksX0_keepsFound_0 19 rfl rfl)
theorem dX0_keepsFound_21 : decode cX0_keepsFound 21 = .ok (.iconst 0, 1) := dk_3 (dk_at dksX0_keepsFound_0 21 rfl rfl)
theorem dX0_keepsFound_22 : decode cX0_keepsFound 22 = .ok (.istore 5, 2) := dk_54 5 (dk_at dksX0_keepsFound_0 22 rfl rfl)
theorem dX0_keepsFound_24 : decode cX0_keepsFound 24 = .ok (.iload 5, 2) := dk_21 5 (dk_at dksX0_keepsFound_1 0 rfl rfl)
theorem dX0_keepsFound_26 : decode cX0_keepsFound 26 = .ok (.aload_n 0, 1) := dk_42 (dk_at dksX0_keepsFound_1 2 rfl rfl)
theorem dX0_keepsFound_27 : decode cX0_keepsFound 27 = .ok (.getfield 46, 3) := dk_180 0 46 (dk_at dksX0_keepsFound_1 3 rfl rfl)
theorem dX0_keepsFound_30 : decode cX0_keepsFound 30 = .ok (.invokevirtual 164, 3) := dk_182 0 164 (dk_at dksX0_keepsFound_1 6 rfl rfl)
theorem dX0_keepsFound_33 : decode cX0_keepsFound 33 = .ok (.if_icmp .ge 29, 3) := dk_162 0 29 (dk_at dksX0_keepsFound_1 9 rfl rfl)
theorem dX0_keepsFound_36 : decode cX0_keepsFound 36 = .ok (.iload 4, 2) := dk_21 4 (dk_at dksX0_keepsFound_1 12 rfl rfl)
theorem dX0_keepsFound_38 : decode cX0_keepsFound 38 = .ok (.aload_n 0, 1) := dk_42 (dk_at dksX0_keepsFound_1 14 rfl rfl)
theorem dX0_keepsFound_39 : decode cX0_keepsFound 39 = .ok (.iload_n 1, 1) := dk_27 (dk_at dksX0_keepsFound_1 15 rfl rfl)
theorem dX0_keepsFound_40 : decode cX0_keepsFound 40 = .ok (.iload 5, 2) := dk_21 5 (dk_at dksX0_keepsFound_1 16 rfl rfl)
theorem dX0_keepsFound_42 : decode cX0_keepsFound 42 = .ok (.invokevirtual 309, 3) := dk_182 1 53 (dk_at dksX0_keepsFound_1 18 rfl rfl)
theorem dX0_keepsFound_45 : decode cX0_keepsFound 45 = .ok (.ifCond .eq 7, 3) := dk_153 0 7 (dk_at dksX0_keepsFound_1 21 rfl rfl)
theorem dX0_keepsFound_48 : decode cX0_keepsFound 48 = .ok (.iconst 1, 1) := dk_4 (dk_at dksX0_keepsFound_2 0 rfl rfl)
theorem dX0_keepsFound_49 : decode cX0_keepsFound 49 = .ok (.goto 4, 3) := dk_167 0 4 (dk_at dksX0_keepsFound_2 1 rfl rfl)
theorem dX0_keepsFound_52 : decode cX0_keepsFound 52 = .ok (.iconst 0, 1) := dk_3 (dk_at dksX0_keepsFound_2 4 rfl rfl)
theorem dX0_keepsFound_53 : decode cX0_keepsFound 53 = .ok (.iadd, 1) := dk_96 (dk_at dksX0_keepsFound_2 5 rfl rfl)
theorem dX0_keepsFound_54 : decode cX0_keepsFound 54 = .ok (.istore 4, 2) := dk_54 4 (dk_at dksX0_keepsFound_2 6 rfl rfl)
theorem dX0_keepsFound_56 : decode cX0_keepsFound 56 = .ok (.iinc 5 1, 3) := dk_132 5 1 (dk_at dksX0_keepsFound_2 8 rfl rfl)
theorem dX0_keepsFound_59 : decode cX0_keepsFound 59 = .ok (.goto (-35), 3) := dk_167 255 221 (dk_at dksX0_keepsFound_2 11 rfl rfl)
theorem dX0_keepsFound_62 : decode cX0_keepsFound 62 = .ok (.aload_n 0, 1) := dk_42 (dk_at dksX0_keepsFound_2 14 rfl rfl)
theorem dX0_keepsFound_63 : decode cX0_keepsFound 63 = .ok (.aload_n 0, 1) := dk_42 (dk_at dksX0_keepsFound_2 15 rfl rfl)
theorem dX0_keepsFound_64 : decode cX0_keepsFound 64 = .ok (.iload_n 1, 1) := dk_27 (dk_at dksX0_keepsFound_2 16 rfl rfl)
theorem dX0_keepsFound_65 : decode cX0_keepsFound 65 = .ok (.aload_n 0, 1) := dk_42 (dk_at dksX0_keepsFound_2 17 rfl rfl)
theorem dX0_keepsFound_66 : decode cX0_keepsFound 66 = .ok (.iload_n 2, 1) := dk_28 (dk_at dksX0_keepsFound_2 18 rfl rfl)
theorem dX0_keepsFound_67 : decode cX0_keepsFound 67 = .ok (.iload_n 3, 1) := dk_29 (dk_at dksX0_keepsFound_2 19 rfl rfl)
theorem dX0_keepsFound_68 : decode cX0_keepsFound 68 = .ok (.iload 4, 2) := dk_21 4 (dk_at dksX0_keepsFound_2 20 rfl rfl)
theorem dX0_keepsFound_70 : decode cX0_keepsFound 70 = .ok (.invokevirtual 299, 3) := dk_182 1 43 (dk_at dksX0_keepsFound_3 0 rfl rfl)
theorem dX0_keepsFound_73 : decode cX0_keepsFound 73 = .ok (.invokevirtual 312, 3) := dk_182 1 56 (dk_at dksX0_keepsFound_3 3 rfl rfl)
theorem dX0_keepsFound_76 : decode cX0_keepsFound 76 = .ok (.invokevirtual 93, 3) := dk_182 0 93 (dk_at dksX0_keepsFound_3 6 rfl rfl)
theorem dX0_keepsFound_79 : decode cX0_keepsFound 79 = .ok (.ireturn, 1) := dk_172 (dk_at dksX0_keepsFound_3 9 rfl rfl)
theorem dX0_keepsFound_80 : decode cX0_keepsFound 80 = .ok (.astore 5, 2) := dk_58 5 (dk_at dksX0_keepsFound_3 10 rfl rfl)
theorem dX0_keepsFound_82 : decode cX0_keepsFound 82 = .ok (.aload_n 0, 1) := dk_42 (dk_at dksX0_keepsFound_3 12 rfl rfl)
theorem dX0_keepsFound_83 : decode cX0_keepsFound 83 = .ok (.iconst 1, 1) := dk_4 (dk_at dksX0_keepsFound_3 13 rfl rfl)
theorem dX0_keepsFound_84 : decode cX0_keepsFound 84 = .ok (.invokevirtual 99, 3) := dk_182 0 99 (dk_at dksX0_keepsFound_3 14 rfl rfl)
theorem dX0_keepsFound_87 : decode cX0_keepsFound 87 = .ok (.ireturn, 1) := dk_172 (dk_at dksX0_keepsFound_3 17 rfl rfl)
theorem dX0_keepsFound_88 : decode cX0_keepsFound 88 = .ok (.astore 5, 2) := dk_58 5 (dk_at dksX0_keepsFound_3 18 rfl rfl)
theorem dX0_keepsFound_90 : decode cX0_keepsFound 90 = .ok (.aload_n 0, 1) := dk_42 (dk_at dksX0_keepsFound_3 20 rfl rfl)
theorem dX0_keepsFound_91 : decode cX0_keepsFound 91 = .ok (.iconst 2, 1) := dk_5 (dk_at dksX0_keepsFound_3 21 rfl rfl)
theorem dX0_keepsFound_92 : decode cX0_keepsFound 92 = .ok (.invokevirtual 99, 3) := dk_182 0 99 (dk_at dksX0_keepsFound_4 0 rfl rfl)
theorem dX0_keepsFound_95 : decode cX0_keepsFound 95 = .ok (.ireturn, 1) := dk_172 (dk_at dksX0_keepsFound_4 3 rfl rfl)
abbrev cX0_isPlainOf : ByteArray := prog_1_method_48_code
def yX0_isPlainOf : MethodName := ⟨RX0, "isPlainOf", "(II)Z"⟩
def dkwX0_isPlainOf_1 : List UInt8 := [160, 0, 22, 42, 180, 0, 46, 28, 182, 0, 204, 182, 1, 51, 4, 160, 0, 7, 4, 167, 0, 4, 3, 172]
abbrev dktX0_isPlainOf_1 : List UInt8 := dkwX0_isPlainOf_1 ++ []
def dkwX0_isPlainOf_0 : List UInt8 := [42, 180, 0, 46, 28, 182, 0, 179, 153, 0, 37, 42, 180, 0, 46, 28, 182, 0, 204, 180, 0, 208, 27]
abbrev dktX0_isPlainOf_0 : List UInt8 := dkwX0_isPlainOf_0 ++ dktX0_isPlainOf_1
theorem dksX0_isPlainOf_0 : cX0_isPlainOf.data.toList.drop 0 = dktX0_isPlainOf_0 := by decide +kernel
theorem dksX0_isPlainOf_1 : cX0_isPlainOf.data.toList.drop 23 = dktX0_isPlainOf_1 := dk_seg dksX0_isPlainOf_0 23 rfl rfl
theorem dX0_isPlainOf_0 : decode cX0_isPlainOf 0 = .ok (.aload_n 0, 1) := dk_42 (dk_at dksX0_isPlainOf_0 0 rfl rfl)
theorem dX0_isPlainOf_1 : decode cX0_isPlainOf 1 = .ok (.getfield 46, 3) := dk_180 0 46 (dk_at dksX0_isPlainOf_0 1 rfl rfl)
theorem dX0_isPlainOf_4 : decode cX0_isPlainOf 4 = .ok (.iload_n 2, 1) := dk_28 (dk_at dksX0_isPlainOf_0 4 rfl rfl)
theorem dX0_isPlainOf_5 : decode cX0_isPlainOf 5 = .ok (.invokevirtual 179, 3) := dk_182 0 179 (dk_at dksX0_isPlainOf_0 5 rfl rfl)
theorem dX0_isPlainOf_8 : decode cX0_isPlainOf 8 = .ok (.ifCond .eq 37, 3) := dk_153 0 37 (dk_at dksX0_isPlainOf_0 8 rfl rfl)
theorem dX0_isPlainOf_11 : decode cX0_isPlainOf 11 = .ok (.aload_n 0, 1) := dk_42 (dk_at dksX0_isPlainOf_0 11 rfl rfl)
theorem dX0_isPlainOf_12 : decode cX0_isPlainOf 12 = .ok (.getfield 46, 3) := dk_180 0 46 (dk_at dksX0_isPlainOf_0 12 rfl rfl)
theorem dX0_isPlainOf_15 : decode cX0_isPlainOf 15 = .ok (.iload_n 2, 1) := dk_28 (dk_at dksX0_isPlainOf_0 15 rfl rfl)
theorem dX0_isPlainOf_16 : decode cX0_isPlainOf 16 = .ok (.invokevirtual 204, 3) := dk_182 0 204 (dk_at dksX0_isPlainOf_0 16 rfl rfl)
theorem dX0_isPlainOf_19 : decode cX0_isPlainOf 19 = .ok (.getfield 208, 3) := dk_180 0 208 (dk_at dksX0_isPlainOf_0 19 rfl rfl)
theorem dX0_isPlainOf_22 : decode cX0_isPlainOf 22 = .ok (.iload_n 1, 1) := dk_27 (dk_at dksX0_isPlainOf_0 22 rfl rfl)
theorem dX0_isPlainOf_23 : decode cX0_isPlainOf 23 = .ok (.if_icmp .ne 22, 3) := dk_160 0 22 (dk_at dksX0_isPlainOf_1 0 rfl rfl)
theorem dX0_isPlainOf_26 : decode cX0_isPlainOf 26 = .ok (.aload_n 0, 1) := dk_42 (dk_at dksX0_isPlainOf_1 3 rfl rfl)
theorem dX0_isPlainOf_27 : decode cX0_isPlainOf 27 = .ok (.getfield 46, 3) := dk_180 0 46 (dk_at dksX0_isPlainOf_1 4 rfl rfl)
theorem dX0_isPlainOf_30 : decode cX0_isPlainOf 30 = .ok (.iload_n 2, 1) := dk_28 (dk_at dksX0_isPlainOf_1 7 rfl rfl)
theorem dX0_isPlainOf_31 : decode cX0_isPlainOf 31 = .ok (.invokevirtual 204, 3) := dk_182 0 204 (dk_at dksX0_isPlainOf_1 8 rfl rfl)
theorem dX0_isPlainOf_34 : decode cX0_isPlainOf 34 = .ok (.invokevirtual 307, 3) := dk_182 1 51 (dk_at dksX0_isPlainOf_1 11 rfl rfl)
theorem dX0_isPlainOf_37 : decode cX0_isPlainOf 37 = .ok (.iconst 1, 1) := dk_4 (dk_at dksX0_isPlainOf_1 14 rfl rfl)
theorem dX0_isPlainOf_38 : decode cX0_isPlainOf 38 = .ok (.if_icmp .ne 7, 3) := dk_160 0 7 (dk_at dksX0_isPlainOf_1 15 rfl rfl)
theorem dX0_isPlainOf_41 : decode cX0_isPlainOf 41 = .ok (.iconst 1, 1) := dk_4 (dk_at dksX0_isPlainOf_1 18 rfl rfl)
theorem dX0_isPlainOf_42 : decode cX0_isPlainOf 42 = .ok (.goto 4, 3) := dk_167 0 4 (dk_at dksX0_isPlainOf_1 19 rfl rfl)
theorem dX0_isPlainOf_45 : decode cX0_isPlainOf 45 = .ok (.iconst 0, 1) := dk_3 (dk_at dksX0_isPlainOf_1 22 rfl rfl)
theorem dX0_isPlainOf_46 : decode cX0_isPlainOf 46 = .ok (.ireturn, 1) := dk_172 (dk_at dksX0_isPlainOf_1 23 rfl rfl)
abbrev cX0_keepsBy : ByteArray := prog_1_method_49_code
def yX0_keepsBy : MethodName := ⟨RX0, "keepsBy", "(I[I)I"⟩
def dkwX0_keepsBy_4 : List UInt8 := [21, 4, 120, 167, 0, 4, 3, 128, 62, 132, 4, 1, 167, 255, 154, 29, 172]
abbrev dktX0_keepsBy_4 : List UInt8 := dkwX0_keepsBy_4 ++ []
def dkwX0_keepsBy_3 : List UInt8 := [167, 0, 4, 3, 126, 54, 5, 132, 6, 1, 132, 7, 1, 167, 255, 192, 29, 21, 5, 153, 0, 10, 4]
abbrev dktX0_keepsBy_3 : List UInt8 := dkwX0_keepsBy_3 ++ dktX0_keepsBy_4
def dkwX0_keepsBy_2 : List UInt8 := [42, 180, 0, 46, 21, 7, 182, 0, 204, 21, 4, 18, 241, 182, 1, 8, 44, 21, 6, 46, 160, 0, 7, 4]
abbrev dktX0_keepsBy_2 : List UInt8 := dkwX0_keepsBy_2 ++ dktX0_keepsBy_3
def dkwX0_keepsBy_1 : List UInt8 := [180, 0, 46, 182, 0, 164, 162, 0, 58, 42, 27, 21, 7, 182, 1, 53, 154, 0, 6, 167, 0, 39, 21, 5]
abbrev dktX0_keepsBy_1 : List UInt8 := dkwX0_keepsBy_1 ++ dktX0_keepsBy_2
def dkwX0_keepsBy_0 : List UInt8 := [3, 62, 3, 54, 4, 21, 4, 16, 10, 163, 0, 101, 4, 54, 5, 3, 54, 6, 3, 54, 7, 21, 7, 42]
abbrev dktX0_keepsBy_0 : List UInt8 := dkwX0_keepsBy_0 ++ dktX0_keepsBy_1
theorem dksX0_keepsBy_0 : cX0_keepsBy.data.toList.drop 0 = dktX0_keepsBy_0 := by decide +kernel
theorem dksX0_keepsBy_1 : cX0_keepsBy.data.toList.drop 24 = dktX0_keepsBy_1 := dk_seg dksX0_keepsBy_0 24 rfl rfl
theorem dksX0_keepsBy_2 : cX0_keepsBy.data.toList.drop 48 = dktX0_keepsBy_2 := dk_seg dksX0_keepsBy_1 24 rfl rfl
theorem dksX0_keepsBy_3 : cX0_keepsBy.data.toList.drop 72 = dktX0_keepsBy_3 := dk_seg dksX0_keepsBy_2 24 rfl rfl
theorem dksX0_keepsBy_4 : cX0_keepsBy.data.toList.drop 95 = dktX0_keepsBy_4 := dk_seg dksX0_keepsBy_3 23 rfl rfl
theorem dX0_keepsBy_0 : decode cX0_keepsBy 0 = .ok (.iconst 0, 1) := dk_3 (dk_at dksX0_keepsBy_0 0 rfl rfl)
theorem dX0_keepsBy_1 : decode cX0_keepsBy 1 = .ok (.istore_n 3, 1) := dk_62 (dk_at dksX0_keepsBy_0 1 rfl rfl)
theorem dX0_keepsBy_2 : decode cX0_keepsBy 2 = .ok (.iconst 0, 1) := dk_3 (dk_at dksX0_keepsBy_0 2 rfl rfl)
theorem dX0_keepsBy_3 : decode cX0_keepsBy 3 = .ok (.istore 4, 2) := dk_54 4 (dk_at dksX0_keepsBy_0 3 rfl rfl)
theorem dX0_keepsBy_5 : decode cX0_keepsBy 5 = .ok (.iload 4, 2) := dk_21 4 (dk_at dksX0_keepsBy_0 5 rfl rfl)
theorem dX0_keepsBy_7 : decode cX0_keepsBy 7 = .ok (.bipush 10, 2) := dk_16 10 (dk_at dksX0_keepsBy_0 7 rfl rfl)
theorem dX0_keepsBy_9 : decode cX0_keepsBy 9 = .ok (.if_icmp .gt 101, 3) := dk_163 0 101 (dk_at dksX0_keepsBy_0 9 rfl rfl)
theorem dX0_keepsBy_12 : decode cX0_keepsBy 12 = .ok (.iconst 1, 1) := dk_4 (dk_at dksX0_keepsBy_0 12 rfl rfl)
theorem dX0_keepsBy_13 : decode cX0_keepsBy 13 = .ok (.istore 5, 2) := dk_54 5 (dk_at dksX0_keepsBy_0 13 rfl rfl)
theorem dX0_keepsBy_15 : decode cX0_keepsBy 15 = .ok (.iconst 0, 1) := dk_3 (dk_at dksX0_keepsBy_0 15 rfl rfl)
theorem dX0_keepsBy_16 : decode cX0_keepsBy 16 = .ok (.istore 6, 2) := dk_54 6 (dk_at dksX0_keepsBy_0 16 rfl rfl)
theorem dX0_keepsBy_18 : decode cX0_keepsBy 18 = .ok (.iconst 0, 1) := dk_3 (dk_at dksX0_keepsBy_0 18 rfl rfl)
theorem dX0_keepsBy_19 : decode cX0_keepsBy 19 = .ok (.istore 7, 2) := dk_54 7 (dk_at dksX0_keepsBy_0 19 rfl rfl)
theorem dX0_keepsBy_21 : decode cX0_keepsBy 21 = .ok (.iload 7, 2) := dk_21 7 (dk_at dksX0_keepsBy_0 21 rfl rfl)
theorem dX0_keepsBy_23 : decode cX0_keepsBy 23 = .ok (.aload_n 0, 1) := dk_42 (dk_at dksX0_keepsBy_0 23 rfl rfl)
theorem dX0_keepsBy_24 : decode cX0_keepsBy 24 = .ok (.getfield 46, 3) := dk_180 0 46 (dk_at dksX0_keepsBy_1 0 rfl rfl)
theorem dX0_keepsBy_27 : decode cX0_keepsBy 27 = .ok (.invokevirtual 164, 3) := dk_182 0 164 (dk_at dksX0_keepsBy_1 3 rfl rfl)
theorem dX0_keepsBy_30 : decode cX0_keepsBy 30 = .ok (.if_icmp .ge 58, 3) := dk_162 0 58 (dk_at dksX0_keepsBy_1 6 rfl rfl)
theorem dX0_keepsBy_33 : decode cX0_keepsBy 33 = .ok (.aload_n 0, 1) := dk_42 (dk_at dksX0_keepsBy_1 9 rfl rfl)
theorem dX0_keepsBy_34 : decode cX0_keepsBy 34 = .ok (.iload_n 1, 1) := dk_27 (dk_at dksX0_keepsBy_1 10 rfl rfl)
theorem dX0_keepsBy_35 : decode cX0_keepsBy 35 = .ok (.iload 7, 2) := dk_21 7 (dk_at dksX0_keepsBy_1 11 rfl rfl)
theorem dX0_keepsBy_37 : decode cX0_keepsBy 37 = .ok (.invokevirtual 309, 3) := dk_182 1 53 (dk_at dksX0_keepsBy_1 13 rfl rfl)
theorem dX0_keepsBy_40 : decode cX0_keepsBy 40 = .ok (.ifCond .ne 6, 3) := dk_154 0 6 (dk_at dksX0_keepsBy_1 16 rfl rfl)
theorem dX0_keepsBy_43 : decode cX0_keepsBy 43 = .ok (.goto 39, 3) := dk_167 0 39 (dk_at dksX0_keepsBy_1 19 rfl rfl)
theorem dX0_keepsBy_46 : decode cX0_keepsBy 46 = .ok (.iload 5, 2) := dk_21 5 (dk_at dksX0_keepsBy_1 22 rfl rfl)
theorem dX0_keepsBy_48 : decode cX0_keepsBy 48 = .ok (.aload_n 0, 1) := dk_42 (dk_at dksX0_keepsBy_2 0 rfl rfl)
theorem dX0_keepsBy_49 : decode cX0_keepsBy 49 = .ok (.getfield 46, 3) := dk_180 0 46 (dk_at dksX0_keepsBy_2 1 rfl rfl)
theorem dX0_keepsBy_52 : decode cX0_keepsBy 52 = .ok (.iload 7, 2) := dk_21 7 (dk_at dksX0_keepsBy_2 4 rfl rfl)
theorem dX0_keepsBy_54 : decode cX0_keepsBy 54 = .ok (.invokevirtual 204, 3) := dk_182 0 204 (dk_at dksX0_keepsBy_2 6 rfl rfl)
theorem dX0_keepsBy_57 : decode cX0_keepsBy 57 = .ok (.iload 4, 2) := dk_21 4 (dk_at dksX0_keepsBy_2 9 rfl rfl)
theorem dX0_keepsBy_59 : decode cX0_keepsBy 59 = .ok (.ldc 241, 2) := dk_18 241 (dk_at dksX0_keepsBy_2 11 rfl rfl)
theorem dX0_keepsBy_61 : decode cX0_keepsBy 61 = .ok (.invokevirtual 264, 3) := dk_182 1 8 (dk_at dksX0_keepsBy_2 13 rfl rfl)
theorem dX0_keepsBy_64 : decode cX0_keepsBy 64 = .ok (.aload_n 2, 1) := dk_44 (dk_at dksX0_keepsBy_2 16 rfl rfl)
theorem dX0_keepsBy_65 : decode cX0_keepsBy 65 = .ok (.iload 6, 2) := dk_21 6 (dk_at dksX0_keepsBy_2 17 rfl rfl)
theorem dX0_keepsBy_67 : decode cX0_keepsBy 67 = .ok (.iaload, 1) := dk_46 (dk_at dksX0_keepsBy_2 19 rfl rfl)
theorem dX0_keepsBy_68 : decode cX0_keepsBy 68 = .ok (.if_icmp .ne 7, 3) := dk_160 0 7 (dk_at dksX0_keepsBy_2 20 rfl rfl)
theorem dX0_keepsBy_71 : decode cX0_keepsBy 71 = .ok (.iconst 1, 1) := dk_4 (dk_at dksX0_keepsBy_2 23 rfl rfl)
theorem dX0_keepsBy_72 : decode cX0_keepsBy 72 = .ok (.goto 4, 3) := dk_167 0 4 (dk_at dksX0_keepsBy_3 0 rfl rfl)
theorem dX0_keepsBy_75 : decode cX0_keepsBy 75 = .ok (.iconst 0, 1) := dk_3 (dk_at dksX0_keepsBy_3 3 rfl rfl)
theorem dX0_keepsBy_76 : decode cX0_keepsBy 76 = .ok (.iand, 1) := dk_126 (dk_at dksX0_keepsBy_3 4 rfl rfl)
theorem dX0_keepsBy_77 : decode cX0_keepsBy 77 = .ok (.istore 5, 2) := dk_54 5 (dk_at dksX0_keepsBy_3 5 rfl rfl)
theorem dX0_keepsBy_79 : decode cX0_keepsBy 79 = .ok (.iinc 6 1, 3) := dk_132 6 1 (dk_at dksX0_keepsBy_3 7 rfl rfl)
theorem dX0_keepsBy_82 : decode cX0_keepsBy 82 = .ok (.iinc 7 1, 3) := dk_132 7 1 (dk_at dksX0_keepsBy_3 10 rfl rfl)
theorem dX0_keepsBy_85 : decode cX0_keepsBy 85 = .ok (.goto (-64), 3) := dk_167 255 192 (dk_at dksX0_keepsBy_3 13 rfl rfl)
theorem dX0_keepsBy_88 : decode cX0_keepsBy 88 = .ok (.iload_n 3, 1) := dk_29 (dk_at dksX0_keepsBy_3 16 rfl rfl)
theorem dX0_keepsBy_89 : decode cX0_keepsBy 89 = .ok (.iload 5, 2) := dk_21 5 (dk_at dksX0_keepsBy_3 17 rfl rfl)
theorem dX0_keepsBy_91 : decode cX0_keepsBy 91 = .ok (.ifCond .eq 10, 3) := dk_153 0 10 (dk_at dksX0_keepsBy_3 19 rfl rfl)
theorem dX0_keepsBy_94 : decode cX0_keepsBy 94 = .ok (.iconst 1, 1) := dk_4 (dk_at dksX0_keepsBy_3 22 rfl rfl)
theorem dX0_keepsBy_95 : decode cX0_keepsBy 95 = .ok (.iload 4, 2) := dk_21 4 (dk_at dksX0_keepsBy_4 0 rfl rfl)
theorem dX0_keepsBy_97 : decode cX0_keepsBy 97 = .ok (.ishl, 1) := dk_120 (dk_at dksX0_keepsBy_4 2 rfl rfl)
theorem dX0_keepsBy_98 : decode cX0_keepsBy 98 = .ok (.goto 4, 3) := dk_167 0 4 (dk_at dksX0_keepsBy_4 3 rfl rfl)
theorem dX0_keepsBy_101 : decode cX0_keepsBy 101 = .ok (.iconst 0, 1) := dk_3 (dk_at dksX0_keepsBy_4 6 rfl rfl)
theorem dX0_keepsBy_102 : decode cX0_keepsBy 102 = .ok (.ior, 1) := dk_128 (dk_at dksX0_keepsBy_4 7 rfl rfl)
theorem dX0_keepsBy_103 : decode cX0_keepsBy 103 = .ok (.istore_n 3, 1) := dk_62 (dk_at dksX0_keepsBy_4 8 rfl rfl)
theorem dX0_keepsBy_104 : decode cX0_keepsBy 104 = .ok (.iinc 4 1, 3) := dk_132 4 1 (dk_at dksX0_keepsBy_4 9 rfl rfl)
theorem dX0_keepsBy_107 : decode cX0_keepsBy 107 = .ok (.goto (-102), 3) := dk_167 255 154 (dk_at dksX0_keepsBy_4 12 rfl rfl)
theorem dX0_keepsBy_110 : decode cX0_keepsBy 110 = .ok (.iload_n 3, 1) := dk_29 (dk_at dksX0_keepsBy_4 15 rfl rfl)
theorem dX0_keepsBy_111 : decode cX0_keepsBy 111 = .ok (.ireturn, 1) := dk_172 (dk_at dksX0_keepsBy_4 16 rfl rfl)
abbrev cX0_free : ByteArray := prog_1_method_52_code
def yX0_free : MethodName := ⟨RX0, "free", "(III)I"⟩
def dkwX0_free_4 : List UInt8 := [21, 6, 108, 172]
abbrev dktX0_free_4 : List UInt8 := dkwX0_free_4 ++ []
def dkwX0_free_3 : List UInt8 := [21, 5, 100, 21, 4, 184, 1, 62, 54, 6, 29, 154, 0, 11, 21, 4, 21, 5, 100, 167, 0, 5, 21, 4]
abbrev dktX0_free_3 : List UInt8 := dkwX0_free_3 ++ dktX0_free_4
def dkwX0_free_2 : List UInt8 := [162, 0, 22, 21, 4, 16, 10, 104, 54, 4, 21, 5, 27, 104, 54, 5, 132, 6, 1, 167, 255, 234, 21, 4]
abbrev dktX0_free_2 : List UInt8 := dkwX0_free_2 ++ dktX0_free_3
def dkwX0_free_1 : List UInt8 := [29, 184, 0, 176, 154, 0, 6, 18, 84, 172, 4, 54, 4, 4, 54, 5, 3, 54, 6, 21, 6, 28]
abbrev dktX0_free_1 : List UInt8 := dkwX0_free_1 ++ dktX0_free_2
def dkwX0_free_0 : List UInt8 := [27, 133, 9, 20, 1, 60, 184, 0, 74, 153, 0, 22, 28, 133, 9, 20, 1, 2, 184, 0, 74, 153, 0, 10]
abbrev dktX0_free_0 : List UInt8 := dkwX0_free_0 ++ dktX0_free_1
theorem dksX0_free_0 : cX0_free.data.toList.drop 0 = dktX0_free_0 := by decide +kernel
theorem dksX0_free_1 : cX0_free.data.toList.drop 24 = dktX0_free_1 := dk_seg dksX0_free_0 24 rfl rfl
theorem dksX0_free_2 : cX0_free.data.toList.drop 46 = dktX0_free_2 := dk_seg dksX0_free_1 22 rfl rfl
theorem dksX0_free_3 : cX0_free.data.toList.drop 70 = dktX0_free_3 := dk_seg dksX0_free_2 24 rfl rfl
theorem dksX0_free_4 : cX0_free.data.toList.drop 94 = dktX0_free_4 := dk_seg dksX0_free_3 24 rfl rfl
theorem dX0_free_0 : decode cX0_free 0 = .ok (.iload_n 1, 1) := dk_27 (dk_at dksX0_free_0 0 rfl rfl)
theorem dX0_free_1 : decode cX0_free 1 = .ok (.i2l, 1) := dk_133 (dk_at dksX0_free_0 1 rfl rfl)
theorem dX0_free_2 : decode cX0_free 2 = .ok (.lconst 0, 1) := dk_9 (dk_at dksX0_free_0 2 rfl rfl)
theorem dX0_free_3 : decode cX0_free 3 = .ok (.ldc2_w 316, 3) := dk_20 1 60 (dk_at dksX0_free_0 3 rfl rfl)
theorem dX0_free_6 : decode cX0_free 6 = .ok (.invokestatic 74, 3) := dk_184 0 74 (dk_at dksX0_free_0 6 rfl rfl)
theorem dX0_free_9 : decode cX0_free 9 = .ok (.ifCond .eq 22, 3) := dk_153 0 22 (dk_at dksX0_free_0 9 rfl rfl)
theorem dX0_free_12 : decode cX0_free 12 = .ok (.iload_n 2, 1) := dk_28 (dk_at dksX0_free_0 12 rfl rfl)
theorem dX0_free_13 : decode cX0_free 13 = .ok (.i2l, 1) := dk_133 (dk_at dksX0_free_0 13 rfl rfl)
theorem dX0_free_14 : decode cX0_free 14 = .ok (.lconst 0, 1) := dk_9 (dk_at dksX0_free_0 14 rfl rfl)
theorem dX0_free_15 : decode cX0_free 15 = .ok (.ldc2_w 258, 3) := dk_20 1 2 (dk_at dksX0_free_0 15 rfl rfl)
theorem dX0_free_18 : decode cX0_free 18 = .ok (.invokestatic 74, 3) := dk_184 0 74 (dk_at dksX0_free_0 18 rfl rfl)
theorem dX0_free_21 : decode cX0_free 21 = .ok (.ifCond .eq 10, 3) := dk_153 0 10 (dk_at dksX0_free_0 21 rfl rfl)
theorem dX0_free_24 : decode cX0_free 24 = .ok (.iload_n 3, 1) := dk_29 (dk_at dksX0_free_1 0 rfl rfl)
theorem dX0_free_25 : decode cX0_free 25 = .ok (.invokestatic 176, 3) := dk_184 0 176 (dk_at dksX0_free_1 1 rfl rfl)
theorem dX0_free_28 : decode cX0_free 28 = .ok (.ifCond .ne 6, 3) := dk_154 0 6 (dk_at dksX0_free_1 4 rfl rfl)
theorem dX0_free_31 : decode cX0_free 31 = .ok (.ldc 84, 2) := dk_18 84 (dk_at dksX0_free_1 7 rfl rfl)
theorem dX0_free_33 : decode cX0_free 33 = .ok (.ireturn, 1) := dk_172 (dk_at dksX0_free_1 9 rfl rfl)
theorem dX0_free_34 : decode cX0_free 34 = .ok (.iconst 1, 1) := dk_4 (dk_at dksX0_free_1 10 rfl rfl)
theorem dX0_free_35 : decode cX0_free 35 = .ok (.istore 4, 2) := dk_54 4 (dk_at dksX0_free_1 11 rfl rfl)
theorem dX0_free_37 : decode cX0_free 37 = .ok (.iconst 1, 1) := dk_4 (dk_at dksX0_free_1 13 rfl rfl)
theorem dX0_free_38 : decode cX0_free 38 = .ok (.istore 5, 2) := dk_54 5 (dk_at dksX0_free_1 14 rfl rfl)
theorem dX0_free_40 : decode cX0_free 40 = .ok (.iconst 0, 1) := dk_3 (dk_at dksX0_free_1 16 rfl rfl)
theorem dX0_free_41 : decode cX0_free 41 = .ok (.istore 6, 2) := dk_54 6 (dk_at dksX0_free_1 17 rfl rfl)
theorem dX0_free_43 : decode cX0_free 43 = .ok (.iload 6, 2) := dk_21 6 (dk_at dksX0_free_1 19 rfl rfl)
theorem dX0_free_45 : decode cX0_free 45 = .ok (.iload_n 2, 1) := dk_28 (dk_at dksX0_free_1 21 rfl rfl)
theorem dX0_free_46 : decode cX0_free 46 = .ok (.if_icmp .ge 22, 3) := dk_162 0 22 (dk_at dksX0_free_2 0 rfl rfl)
theorem dX0_free_49 : decode cX0_free 49 = .ok (.iload 4, 2) := dk_21 4 (dk_at dksX0_free_2 3 rfl rfl)
theorem dX0_free_51 : decode cX0_free 51 = .ok (.bipush 10, 2) := dk_16 10 (dk_at dksX0_free_2 5 rfl rfl)
theorem dX0_free_53 : decode cX0_free 53 = .ok (.imul, 1) := dk_104 (dk_at dksX0_free_2 7 rfl rfl)
theorem dX0_free_54 : decode cX0_free 54 = .ok (.istore 4, 2) := dk_54 4 (dk_at dksX0_free_2 8 rfl rfl)
theorem dX0_free_56 : decode cX0_free 56 = .ok (.iload 5, 2) := dk_21 5 (dk_at dksX0_free_2 10 rfl rfl)
theorem dX0_free_58 : decode cX0_free 58 = .ok (.iload_n 1, 1) := dk_27 (dk_at dksX0_free_2 12 rfl rfl)
theorem dX0_free_59 : decode cX0_free 59 = .ok (.imul, 1) := dk_104 (dk_at dksX0_free_2 13 rfl rfl)
theorem dX0_free_60 : decode cX0_free 60 = .ok (.istore 5, 2) := dk_54 5 (dk_at dksX0_free_2 14 rfl rfl)
theorem dX0_free_62 : decode cX0_free 62 = .ok (.iinc 6 1, 3) := dk_132 6 1 (dk_at dksX0_free_2 16 rfl rfl)
theorem dX0_free_65 : decode cX0_free 65 = .ok (.goto (-22), 3) := dk_167 255 234 (dk_at dksX0_free_2 19 rfl rfl)
theorem dX0_free_68 : decode cX0_free 68 = .ok (.iload 4, 2) := dk_21 4 (dk_at dksX0_free_2 22 rfl rfl)
theorem dX0_free_70 : decode cX0_free 70 = .ok (.iload 5, 2) := dk_21 5 (dk_at dksX0_free_3 0 rfl rfl)
theorem dX0_free_72 : decode cX0_free 72 = .ok (.isub, 1) := dk_100 (dk_at dksX0_free_3 2 rfl rfl)
theorem dX0_free_73 : decode cX0_free 73 = .ok (.iload 4, 2) := dk_21 4 (dk_at dksX0_free_3 3 rfl rfl)
theorem dX0_free_75 : decode cX0_free 75 = .ok (.invokestatic 318, 3) := dk_184 1 62 (dk_at dksX0_free_3 5 rfl rfl)
theorem dX0_free_78 : decode cX0_free 78 = .ok (.istore 6, 2) := dk_54 6 (dk_at dksX0_free_3 8 rfl rfl)
theorem dX0_free_80 : decode cX0_free 80 = .ok (.iload_n 3, 1) := dk_29 (dk_at dksX0_free_3 10 rfl rfl)
theorem dX0_free_81 : decode cX0_free 81 = .ok (.ifCond .ne 11, 3) := dk_154 0 11 (dk_at dksX0_free_3 11 rfl rfl)
theorem dX0_free_84 : decode cX0_free 84 = .ok (.iload 4, 2) := dk_21 4 (dk_at dksX0_free_3 14 rfl rfl)
theorem dX0_free_86 : decode cX0_free 86 = .ok (.iload 5, 2) := dk_21 5 (dk_at dksX0_free_3 16 rfl rfl)
theorem dX0_free_88 : decode cX0_free 88 = .ok (.isub, 1) := dk_100 (dk_at dksX0_free_3 18 rfl rfl)
theorem dX0_free_89 : decode cX0_free 89 = .ok (.goto 5, 3) := dk_167 0 5 (dk_at dksX0_free_3 19 rfl rfl)
theorem dX0_free_92 : decode cX0_free 92 = .ok (.iload 4, 2) := dk_21 4 (dk_at dksX0_free_3 22 rfl rfl)
theorem dX0_free_94 : decode cX0_free 94 = .ok (.iload 6, 2) := dk_21 6 (dk_at dksX0_free_4 0 rfl rfl)
theorem dX0_free_96 : decode cX0_free 96 = .ok (.idiv, 1) := dk_108 (dk_at dksX0_free_4 2 rfl rfl)
theorem dX0_free_97 : decode cX0_free 97 = .ok (.ireturn, 1) := dk_172 (dk_at dksX0_free_4 3 rfl rfl)
abbrev cX0_common : ByteArray := prog_1_method_51_code
def yX0_common : MethodName := ⟨RX0, "common", "(II)I"⟩
def dkwX0_common_0 : List UInt8 := [26, 61, 27, 62, 29, 153, 0, 16, 28, 29, 112, 54, 4, 29, 61, 21, 4, 62, 167, 255, 242, 28, 172]
abbrev dktX0_common_0 : List UInt8 := dkwX0_common_0 ++ []
theorem dksX0_common_0 : cX0_common.data.toList.drop 0 = dktX0_common_0 := by decide +kernel
theorem dX0_common_0 : decode cX0_common 0 = .ok (.iload_n 0, 1) := dk_26 (dk_at dksX0_common_0 0 rfl rfl)
theorem dX0_common_1 : decode cX0_common 1 = .ok (.istore_n 2, 1) := dk_61 (dk_at dksX0_common_0 1 rfl rfl)
theorem dX0_common_2 : decode cX0_common 2 = .ok (.iload_n 1, 1) := dk_27 (dk_at dksX0_common_0 2 rfl rfl)
theorem dX0_common_3 : decode cX0_common 3 = .ok (.istore_n 3, 1) := dk_62 (dk_at dksX0_common_0 3 rfl rfl)
theorem dX0_common_4 : decode cX0_common 4 = .ok (.iload_n 3, 1) := dk_29 (dk_at dksX0_common_0 4 rfl rfl)
theorem dX0_common_5 : decode cX0_common 5 = .ok (.ifCond .eq 16, 3) := dk_153 0 16 (dk_at dksX0_common_0 5 rfl rfl)
theorem dX0_common_8 : decode cX0_common 8 = .ok (.iload_n 2, 1) := dk_28 (dk_at dksX0_common_0 8 rfl rfl)
theorem dX0_common_9 : decode cX0_common 9 = .ok (.iload_n 3, 1) := dk_29 (dk_at dksX0_common_0 9 rfl rfl)
theorem dX0_common_10 : decode cX0_common 10 = .ok (.irem, 1) := dk_112 (dk_at dksX0_common_0 10 rfl rfl)
theorem dX0_common_11 : decode cX0_common 11 = .ok (.istore 4, 2) := dk_54 4 (dk_at dksX0_common_0 11 rfl rfl)
theorem dX0_common_13 : decode cX0_common 13 = .ok (.iload_n 3, 1) := dk_29 (dk_at dksX0_common_0 13 rfl rfl)
theorem dX0_common_14 : decode cX0_common 14 = .ok (.istore_n 2, 1) := dk_61 (dk_at dksX0_common_0 14 rfl rfl)
theorem dX0_common_15 : decode cX0_common 15 = .ok (.iload 4, 2) := dk_21 4 (dk_at dksX0_common_0 15 rfl rfl)
theorem dX0_common_17 : decode cX0_common 17 = .ok (.istore_n 3, 1) := dk_62 (dk_at dksX0_common_0 17 rfl rfl)
theorem dX0_common_18 : decode cX0_common 18 = .ok (.goto (-14), 3) := dk_167 255 242 (dk_at dksX0_common_0 18 rfl rfl)
theorem dX0_common_21 : decode cX0_common 21 = .ok (.iload_n 2, 1) := dk_28 (dk_at dksX0_common_0 21 rfl rfl)
theorem dX0_common_22 : decode cX0_common 22 = .ok (.ireturn, 1) := dk_172 (dk_at dksX0_common_0 22 rfl rfl)
abbrev cX0_image : ByteArray := prog_1_method_53_code
def yX0_image : MethodName := ⟨RX0, "image", "(I)I"⟩
def dkwX0_image_2 : List UInt8 := [180, 0, 57, 27, 50, 42, 180, 0, 46, 182, 0, 157, 4, 172]
abbrev dktX0_image_2 : List UInt8 := dkwX0_image_2 ++ []
def dkwX0_image_1 : List UInt8 := [180, 0, 57, 27, 50, 199, 0, 16, 42, 180, 0, 57, 27, 187, 0, 43, 89, 183, 0, 45, 83, 42]
abbrev dktX0_image_1 : List UInt8 := dkwX0_image_1 ++ dktX0_image_2
def dkwX0_image_0 : List UInt8 := [27, 133, 9, 10, 184, 0, 74, 154, 0, 6, 18, 84, 172, 42, 182, 0, 211, 154, 0, 6, 18, 189, 172, 42]
abbrev dktX0_image_0 : List UInt8 := dkwX0_image_0 ++ dktX0_image_1
theorem dksX0_image_0 : cX0_image.data.toList.drop 0 = dktX0_image_0 := by decide +kernel
theorem dksX0_image_1 : cX0_image.data.toList.drop 24 = dktX0_image_1 := dk_seg dksX0_image_0 24 rfl rfl
theorem dksX0_image_2 : cX0_image.data.toList.drop 46 = dktX0_image_2 := dk_seg dksX0_image_1 22 rfl rfl
theorem dX0_image_0 : decode cX0_image 0 = .ok (.iload_n 1, 1) := dk_27 (dk_at dksX0_image_0 0 rfl rfl)
theorem dX0_image_1 : decode cX0_image 1 = .ok (.i2l, 1) := dk_133 (dk_at dksX0_image_0 1 rfl rfl)
theorem dX0_image_2 : decode cX0_image 2 = .ok (.lconst 0, 1) := dk_9 (dk_at dksX0_image_0 2 rfl rfl)
theorem dX0_image_3 : decode cX0_image 3 = .ok (.lconst 1, 1) := dk_10 (dk_at dksX0_image_0 3 rfl rfl)
theorem dX0_image_4 : decode cX0_image 4 = .ok (.invokestatic 74, 3) := dk_184 0 74 (dk_at dksX0_image_0 4 rfl rfl)
theorem dX0_image_7 : decode cX0_image 7 = .ok (.ifCond .ne 6, 3) := dk_154 0 6 (dk_at dksX0_image_0 7 rfl rfl)
theorem dX0_image_10 : decode cX0_image 10 = .ok (.ldc 84, 2) := dk_18 84 (dk_at dksX0_image_0 10 rfl rfl)
theorem dX0_image_12 : decode cX0_image 12 = .ok (.ireturn, 1) := dk_172 (dk_at dksX0_image_0 12 rfl rfl)
theorem dX0_image_13 : decode cX0_image 13 = .ok (.aload_n 0, 1) := dk_42 (dk_at dksX0_image_0 13 rfl rfl)
theorem dX0_image_14 : decode cX0_image 14 = .ok (.invokevirtual 211, 3) := dk_182 0 211 (dk_at dksX0_image_0 14 rfl rfl)
theorem dX0_image_17 : decode cX0_image 17 = .ok (.ifCond .ne 6, 3) := dk_154 0 6 (dk_at dksX0_image_0 17 rfl rfl)
theorem dX0_image_20 : decode cX0_image 20 = .ok (.ldc 189, 2) := dk_18 189 (dk_at dksX0_image_0 20 rfl rfl)
theorem dX0_image_22 : decode cX0_image 22 = .ok (.ireturn, 1) := dk_172 (dk_at dksX0_image_0 22 rfl rfl)
theorem dX0_image_23 : decode cX0_image 23 = .ok (.aload_n 0, 1) := dk_42 (dk_at dksX0_image_0 23 rfl rfl)
theorem dX0_image_24 : decode cX0_image 24 = .ok (.getfield 57, 3) := dk_180 0 57 (dk_at dksX0_image_1 0 rfl rfl)
theorem dX0_image_27 : decode cX0_image 27 = .ok (.iload_n 1, 1) := dk_27 (dk_at dksX0_image_1 3 rfl rfl)
theorem dX0_image_28 : decode cX0_image 28 = .ok (.aaload, 1) := dk_50 (dk_at dksX0_image_1 4 rfl rfl)
theorem dX0_image_29 : decode cX0_image 29 = .ok (.ifnonnull 16, 3) := dk_199 0 16 (dk_at dksX0_image_1 5 rfl rfl)
theorem dX0_image_32 : decode cX0_image 32 = .ok (.aload_n 0, 1) := dk_42 (dk_at dksX0_image_1 8 rfl rfl)
theorem dX0_image_33 : decode cX0_image 33 = .ok (.getfield 57, 3) := dk_180 0 57 (dk_at dksX0_image_1 9 rfl rfl)
theorem dX0_image_36 : decode cX0_image 36 = .ok (.iload_n 1, 1) := dk_27 (dk_at dksX0_image_1 12 rfl rfl)
theorem dX0_image_37 : decode cX0_image 37 = .ok (.new 43, 3) := dk_187 0 43 (dk_at dksX0_image_1 13 rfl rfl)
theorem dX0_image_40 : decode cX0_image 40 = .ok (.dup, 1) := dk_89 (dk_at dksX0_image_1 16 rfl rfl)
theorem dX0_image_41 : decode cX0_image 41 = .ok (.invokespecial 45, 3) := dk_183 0 45 (dk_at dksX0_image_1 17 rfl rfl)
theorem dX0_image_44 : decode cX0_image 44 = .ok (.aastore, 1) := dk_83 (dk_at dksX0_image_1 20 rfl rfl)
theorem dX0_image_45 : decode cX0_image 45 = .ok (.aload_n 0, 1) := dk_42 (dk_at dksX0_image_1 21 rfl rfl)
theorem dX0_image_46 : decode cX0_image 46 = .ok (.getfield 57, 3) := dk_180 0 57 (dk_at dksX0_image_2 0 rfl rfl)
theorem dX0_image_49 : decode cX0_image 49 = .ok (.iload_n 1, 1) := dk_27 (dk_at dksX0_image_2 3 rfl rfl)
theorem dX0_image_50 : decode cX0_image 50 = .ok (.aaload, 1) := dk_50 (dk_at dksX0_image_2 4 rfl rfl)
theorem dX0_image_51 : decode cX0_image 51 = .ok (.aload_n 0, 1) := dk_42 (dk_at dksX0_image_2 5 rfl rfl)
theorem dX0_image_52 : decode cX0_image 52 = .ok (.getfield 46, 3) := dk_180 0 46 (dk_at dksX0_image_2 6 rfl rfl)
theorem dX0_image_55 : decode cX0_image 55 = .ok (.invokevirtual 157, 3) := dk_182 0 157 (dk_at dksX0_image_2 9 rfl rfl)
theorem dX0_image_58 : decode cX0_image 58 = .ok (.iconst 1, 1) := dk_4 (dk_at dksX0_image_2 12 rfl rfl)
theorem dX0_image_59 : decode cX0_image 59 = .ok (.ireturn, 1) := dk_172 (dk_at dksX0_image_2 13 rfl rfl)
abbrev cX0_restore : ByteArray := prog_1_method_54_code
def yX0_restore : MethodName := ⟨RX0, "restore", "(I)I"⟩
def dkwX0_restore_1 : List UInt8 := [172, 42, 180, 0, 46, 42, 180, 0, 57, 27, 50, 182, 0, 157, 42, 3, 181, 0, 161, 4, 172]
abbrev dktX0_restore_1 : List UInt8 := dkwX0_restore_1 ++ []
def dkwX0_restore_0 : List UInt8 := [27, 133, 9, 10, 184, 0, 74, 154, 0, 6, 18, 84, 172, 42, 180, 0, 57, 27, 50, 199, 0, 6, 18, 189]
abbrev dktX0_restore_0 : List UInt8 := dkwX0_restore_0 ++ dktX0_restore_1
theorem dksX0_restore_0 : cX0_restore.data.toList.drop 0 = dktX0_restore_0 := by decide +kernel
theorem dksX0_restore_1 : cX0_restore.data.toList.drop 24 = dktX0_restore_1 := dk_seg dksX0_restore_0 24 rfl rfl
theorem dX0_restore_0 : decode cX0_restore 0 = .ok (.iload_n 1, 1) := dk_27 (dk_at dksX0_restore_0 0 rfl rfl)
theorem dX0_restore_1 : decode cX0_restore 1 = .ok (.i2l, 1) := dk_133 (dk_at dksX0_restore_0 1 rfl rfl)
theorem dX0_restore_2 : decode cX0_restore 2 = .ok (.lconst 0, 1) := dk_9 (dk_at dksX0_restore_0 2 rfl rfl)
theorem dX0_restore_3 : decode cX0_restore 3 = .ok (.lconst 1, 1) := dk_10 (dk_at dksX0_restore_0 3 rfl rfl)
theorem dX0_restore_4 : decode cX0_restore 4 = .ok (.invokestatic 74, 3) := dk_184 0 74 (dk_at dksX0_restore_0 4 rfl rfl)
theorem dX0_restore_7 : decode cX0_restore 7 = .ok (.ifCond .ne 6, 3) := dk_154 0 6 (dk_at dksX0_restore_0 7 rfl rfl)
theorem dX0_restore_10 : decode cX0_restore 10 = .ok (.ldc 84, 2) := dk_18 84 (dk_at dksX0_restore_0 10 rfl rfl)
theorem dX0_restore_12 : decode cX0_restore 12 = .ok (.ireturn, 1) := dk_172 (dk_at dksX0_restore_0 12 rfl rfl)
theorem dX0_restore_13 : decode cX0_restore 13 = .ok (.aload_n 0, 1) := dk_42 (dk_at dksX0_restore_0 13 rfl rfl)
theorem dX0_restore_14 : decode cX0_restore 14 = .ok (.getfield 57, 3) := dk_180 0 57 (dk_at dksX0_restore_0 14 rfl rfl)
theorem dX0_restore_17 : decode cX0_restore 17 = .ok (.iload_n 1, 1) := dk_27 (dk_at dksX0_restore_0 17 rfl rfl)
theorem dX0_restore_18 : decode cX0_restore 18 = .ok (.aaload, 1) := dk_50 (dk_at dksX0_restore_0 18 rfl rfl)
theorem dX0_restore_19 : decode cX0_restore 19 = .ok (.ifnonnull 6, 3) := dk_199 0 6 (dk_at dksX0_restore_0 19 rfl rfl)
theorem dX0_restore_22 : decode cX0_restore 22 = .ok (.ldc 189, 2) := dk_18 189 (dk_at dksX0_restore_0 22 rfl rfl)
theorem dX0_restore_24 : decode cX0_restore 24 = .ok (.ireturn, 1) := dk_172 (dk_at dksX0_restore_1 0 rfl rfl)
theorem dX0_restore_25 : decode cX0_restore 25 = .ok (.aload_n 0, 1) := dk_42 (dk_at dksX0_restore_1 1 rfl rfl)
theorem dX0_restore_26 : decode cX0_restore 26 = .ok (.getfield 46, 3) := dk_180 0 46 (dk_at dksX0_restore_1 2 rfl rfl)
theorem dX0_restore_29 : decode cX0_restore 29 = .ok (.aload_n 0, 1) := dk_42 (dk_at dksX0_restore_1 5 rfl rfl)
theorem dX0_restore_30 : decode cX0_restore 30 = .ok (.getfield 57, 3) := dk_180 0 57 (dk_at dksX0_restore_1 6 rfl rfl)
theorem dX0_restore_33 : decode cX0_restore 33 = .ok (.iload_n 1, 1) := dk_27 (dk_at dksX0_restore_1 9 rfl rfl)
theorem dX0_restore_34 : decode cX0_restore 34 = .ok (.aaload, 1) := dk_50 (dk_at dksX0_restore_1 10 rfl rfl)
theorem dX0_restore_35 : decode cX0_restore 35 = .ok (.invokevirtual 157, 3) := dk_182 0 157 (dk_at dksX0_restore_1 11 rfl rfl)
theorem dX0_restore_38 : decode cX0_restore 38 = .ok (.aload_n 0, 1) := dk_42 (dk_at dksX0_restore_1 14 rfl rfl)
theorem dX0_restore_39 : decode cX0_restore 39 = .ok (.iconst 0, 1) := dk_3 (dk_at dksX0_restore_1 15 rfl rfl)
theorem dX0_restore_40 : decode cX0_restore 40 = .ok (.putfield 161, 3) := dk_181 0 161 (dk_at dksX0_restore_1 16 rfl rfl)
theorem dX0_restore_43 : decode cX0_restore 43 = .ok (.iconst 1, 1) := dk_4 (dk_at dksX0_restore_1 19 rfl rfl)
theorem dX0_restore_44 : decode cX0_restore 44 = .ok (.ireturn, 1) := dk_172 (dk_at dksX0_restore_1 20 rfl rfl)
abbrev cX0_kind : ByteArray := prog_1_method_55_code
def yX0_kind : MethodName := ⟨RX0, "kind", "(I)I"⟩
def dkwX0_kind_1 : List UInt8 := [172]
abbrev dktX0_kind_1 : List UInt8 := dkwX0_kind_1 ++ []
def dkwX0_kind_0 : List UInt8 := [42, 27, 182, 0, 173, 153, 0, 17, 42, 180, 0, 46, 27, 182, 0, 204, 182, 1, 51, 167, 0, 5, 18, 84]
abbrev dktX0_kind_0 : List UInt8 := dkwX0_kind_0 ++ dktX0_kind_1
theorem dksX0_kind_0 : cX0_kind.data.toList.drop 0 = dktX0_kind_0 := by decide +kernel
theorem dksX0_kind_1 : cX0_kind.data.toList.drop 24 = dktX0_kind_1 := dk_seg dksX0_kind_0 24 rfl rfl
theorem dX0_kind_0 : decode cX0_kind 0 = .ok (.aload_n 0, 1) := dk_42 (dk_at dksX0_kind_0 0 rfl rfl)
theorem dX0_kind_1 : decode cX0_kind 1 = .ok (.iload_n 1, 1) := dk_27 (dk_at dksX0_kind_0 1 rfl rfl)
theorem dX0_kind_2 : decode cX0_kind 2 = .ok (.invokevirtual 173, 3) := dk_182 0 173 (dk_at dksX0_kind_0 2 rfl rfl)
theorem dX0_kind_5 : decode cX0_kind 5 = .ok (.ifCond .eq 17, 3) := dk_153 0 17 (dk_at dksX0_kind_0 5 rfl rfl)
theorem dX0_kind_8 : decode cX0_kind 8 = .ok (.aload_n 0, 1) := dk_42 (dk_at dksX0_kind_0 8 rfl rfl)
theorem dX0_kind_9 : decode cX0_kind 9 = .ok (.getfield 46, 3) := dk_180 0 46 (dk_at dksX0_kind_0 9 rfl rfl)
theorem dX0_kind_12 : decode cX0_kind 12 = .ok (.iload_n 1, 1) := dk_27 (dk_at dksX0_kind_0 12 rfl rfl)
theorem dX0_kind_13 : decode cX0_kind 13 = .ok (.invokevirtual 204, 3) := dk_182 0 204 (dk_at dksX0_kind_0 13 rfl rfl)
theorem dX0_kind_16 : decode cX0_kind 16 = .ok (.invokevirtual 307, 3) := dk_182 1 51 (dk_at dksX0_kind_0 16 rfl rfl)
theorem dX0_kind_19 : decode cX0_kind 19 = .ok (.goto 5, 3) := dk_167 0 5 (dk_at dksX0_kind_0 19 rfl rfl)
theorem dX0_kind_22 : decode cX0_kind 22 = .ok (.ldc 84, 2) := dk_18 84 (dk_at dksX0_kind_0 22 rfl rfl)
theorem dX0_kind_24 : decode cX0_kind 24 = .ok (.ireturn, 1) := dk_172 (dk_at dksX0_kind_1 0 rfl rfl)
abbrev cX0_as : ByteArray := prog_1_method_56_code
def yX0_as : MethodName := ⟨RX0, "as", "(II)I"⟩
def dkwX0_as_2 : List UInt8 := [182, 0, 99, 172]
abbrev dktX0_as_2 : List UInt8 := dkwX0_as_2 ++ []
def dkwX0_as_1 : List UInt8 := [42, 180, 0, 46, 27, 182, 0, 204, 28, 184, 1, 65, 182, 1, 69, 182, 0, 93, 172, 78, 42, 6]
abbrev dktX0_as_1 : List UInt8 := dkwX0_as_1 ++ dktX0_as_2
def dkwX0_as_0 : List UInt8 := [42, 27, 182, 0, 173, 153, 0, 15, 28, 133, 9, 20, 1, 11, 184, 0, 74, 154, 0, 6, 18, 84, 172, 42]
abbrev dktX0_as_0 : List UInt8 := dkwX0_as_0 ++ dktX0_as_1
theorem dksX0_as_0 : cX0_as.data.toList.drop 0 = dktX0_as_0 := by decide +kernel
theorem dksX0_as_1 : cX0_as.data.toList.drop 24 = dktX0_as_1 := dk_seg dksX0_as_0 24 rfl rfl
theorem dksX0_as_2 : cX0_as.data.toList.drop 46 = dktX0_as_2 := dk_seg dksX0_as_1 22 rfl rfl
theorem dX0_as_0 : decode cX0_as 0 = .ok (.aload_n 0, 1) := dk_42 (dk_at dksX0_as_0 0 rfl rfl)
theorem dX0_as_1 : decode cX0_as 1 = .ok (.iload_n 1, 1) := dk_27 (dk_at dksX0_as_0 1 rfl rfl)
theorem dX0_as_2 : decode cX0_as 2 = .ok (.invokevirtual 173, 3) := dk_182 0 173 (dk_at dksX0_as_0 2 rfl rfl)
theorem dX0_as_5 : decode cX0_as 5 = .ok (.ifCond .eq 15, 3) := dk_153 0 15 (dk_at dksX0_as_0 5 rfl rfl)
theorem dX0_as_8 : decode cX0_as 8 = .ok (.iload_n 2, 1) := dk_28 (dk_at dksX0_as_0 8 rfl rfl)
theorem dX0_as_9 : decode cX0_as 9 = .ok (.i2l, 1) := dk_133 (dk_at dksX0_as_0 9 rfl rfl)
theorem dX0_as_10 : decode cX0_as 10 = .ok (.lconst 0, 1) := dk_9 (dk_at dksX0_as_0 10 rfl rfl)
theorem dX0_as_11 : decode cX0_as 11 = .ok (.ldc2_w 267, 3) := dk_20 1 11 (dk_at dksX0_as_0 11 rfl rfl)
theorem dX0_as_14 : decode cX0_as 14 = .ok (.invokestatic 74, 3) := dk_184 0 74 (dk_at dksX0_as_0 14 rfl rfl)
theorem dX0_as_17 : decode cX0_as 17 = .ok (.ifCond .ne 6, 3) := dk_154 0 6 (dk_at dksX0_as_0 17 rfl rfl)
theorem dX0_as_20 : decode cX0_as 20 = .ok (.ldc 84, 2) := dk_18 84 (dk_at dksX0_as_0 20 rfl rfl)
theorem dX0_as_22 : decode cX0_as 22 = .ok (.ireturn, 1) := dk_172 (dk_at dksX0_as_0 22 rfl rfl)
theorem dX0_as_23 : decode cX0_as 23 = .ok (.aload_n 0, 1) := dk_42 (dk_at dksX0_as_0 23 rfl rfl)
theorem dX0_as_24 : decode cX0_as 24 = .ok (.aload_n 0, 1) := dk_42 (dk_at dksX0_as_1 0 rfl rfl)
theorem dX0_as_25 : decode cX0_as 25 = .ok (.getfield 46, 3) := dk_180 0 46 (dk_at dksX0_as_1 1 rfl rfl)
theorem dX0_as_28 : decode cX0_as 28 = .ok (.iload_n 1, 1) := dk_27 (dk_at dksX0_as_1 4 rfl rfl)
theorem dX0_as_29 : decode cX0_as 29 = .ok (.invokevirtual 204, 3) := dk_182 0 204 (dk_at dksX0_as_1 5 rfl rfl)
theorem dX0_as_32 : decode cX0_as 32 = .ok (.iload_n 2, 1) := dk_28 (dk_at dksX0_as_1 8 rfl rfl)
theorem dX0_as_33 : decode cX0_as 33 = .ok (.invokestatic 321, 3) := dk_184 1 65 (dk_at dksX0_as_1 9 rfl rfl)
theorem dX0_as_36 : decode cX0_as 36 = .ok (.invokevirtual 325, 3) := dk_182 1 69 (dk_at dksX0_as_1 12 rfl rfl)
theorem dX0_as_39 : decode cX0_as 39 = .ok (.invokevirtual 93, 3) := dk_182 0 93 (dk_at dksX0_as_1 15 rfl rfl)
theorem dX0_as_42 : decode cX0_as 42 = .ok (.ireturn, 1) := dk_172 (dk_at dksX0_as_1 18 rfl rfl)
theorem dX0_as_43 : decode cX0_as 43 = .ok (.astore_n 3, 1) := dk_78 (dk_at dksX0_as_1 19 rfl rfl)
theorem dX0_as_44 : decode cX0_as 44 = .ok (.aload_n 0, 1) := dk_42 (dk_at dksX0_as_1 20 rfl rfl)
theorem dX0_as_45 : decode cX0_as 45 = .ok (.iconst 3, 1) := dk_6 (dk_at dksX0_as_1 21 rfl rfl)
theorem dX0_as_46 : decode cX0_as 46 = .ok (.invokevirtual 99, 3) := dk_182 0 99 (dk_at dksX0_as_2 0 rfl rfl)
theorem dX0_as_49 : decode cX0_as 49 = .ok (.ireturn, 1) := dk_172 (dk_at dksX0_as_2 3 rfl rfl)
abbrev cX0_taken : ByteArray := prog_1_method_4_code
def yX0_taken : MethodName := ⟨RX0, "taken", "(Ljava/lang/Object;I)LPromiseScales$Promise;"⟩
def dkwX0_taken_3 : List UInt8 := [176, 42, 192, 0, 16, 176]
abbrev dktX0_taken_3 : List UInt8 := dkwX0_taken_3 ++ []
def dkwX0_taken_2 : List UInt8 := [42, 192, 0, 19, 176, 42, 192, 0, 1, 176, 42, 192, 0, 7, 176, 42, 192, 0, 10, 176, 42, 192, 0, 13]
abbrev dktX0_taken_2 : List UInt8 := dkwX0_taken_2 ++ dktX0_taken_3
def dkwX0_taken_1 : List UInt8 := [170, 0, 0, 0, 0, 0, 60, 0, 0, 0, 0, 0, 0, 0, 4, 0, 0, 0, 35, 0, 0, 0, 40, 0, 0, 0, 45, 0, 0, 0, 50, 0, 0, 0, 55]
abbrev dktX0_taken_1 : List UInt8 := dkwX0_taken_1 ++ dktX0_taken_2
def dkwX0_taken_0 : List UInt8 := [27]
abbrev dktX0_taken_0 : List UInt8 := dkwX0_taken_0 ++ dktX0_taken_1
theorem dksX0_taken_0 : cX0_taken.data.toList.drop 0 = dktX0_taken_0 := by decide +kernel
theorem dksX0_taken_1 : cX0_taken.data.toList.drop 1 = dktX0_taken_1 := dk_seg dksX0_taken_0 1 rfl rfl
theorem dksX0_taken_2 : cX0_taken.data.toList.drop 36 = dktX0_taken_2 := dk_seg dksX0_taken_1 35 rfl rfl
theorem dksX0_taken_3 : cX0_taken.data.toList.drop 60 = dktX0_taken_3 := dk_seg dksX0_taken_2 24 rfl rfl
theorem dX0_taken_0 : decode cX0_taken 0 = .ok (.iload_n 1, 1) := dk_27 (dk_at dksX0_taken_0 0 rfl rfl)
theorem dX0_taken_1 : decode cX0_taken 1 = .ok (.tableswitch 60 0 4 #[35, 40, 45, 50, 55], 35) := by decide +kernel
theorem dX0_taken_36 : decode cX0_taken 36 = .ok (.aload_n 0, 1) := dk_42 (dk_at dksX0_taken_2 0 rfl rfl)
theorem dX0_taken_37 : decode cX0_taken 37 = .ok (.checkcast 19, 3) := dk_192 0 19 (dk_at dksX0_taken_2 1 rfl rfl)
theorem dX0_taken_40 : decode cX0_taken 40 = .ok (.areturn, 1) := dk_176 (dk_at dksX0_taken_2 4 rfl rfl)
theorem dX0_taken_41 : decode cX0_taken 41 = .ok (.aload_n 0, 1) := dk_42 (dk_at dksX0_taken_2 5 rfl rfl)
theorem dX0_taken_42 : decode cX0_taken 42 = .ok (.checkcast 1, 3) := dk_192 0 1 (dk_at dksX0_taken_2 6 rfl rfl)
theorem dX0_taken_45 : decode cX0_taken 45 = .ok (.areturn, 1) := dk_176 (dk_at dksX0_taken_2 9 rfl rfl)
theorem dX0_taken_46 : decode cX0_taken 46 = .ok (.aload_n 0, 1) := dk_42 (dk_at dksX0_taken_2 10 rfl rfl)
theorem dX0_taken_47 : decode cX0_taken 47 = .ok (.checkcast 7, 3) := dk_192 0 7 (dk_at dksX0_taken_2 11 rfl rfl)
theorem dX0_taken_50 : decode cX0_taken 50 = .ok (.areturn, 1) := dk_176 (dk_at dksX0_taken_2 14 rfl rfl)
theorem dX0_taken_51 : decode cX0_taken 51 = .ok (.aload_n 0, 1) := dk_42 (dk_at dksX0_taken_2 15 rfl rfl)
theorem dX0_taken_52 : decode cX0_taken 52 = .ok (.checkcast 10, 3) := dk_192 0 10 (dk_at dksX0_taken_2 16 rfl rfl)
theorem dX0_taken_55 : decode cX0_taken 55 = .ok (.areturn, 1) := dk_176 (dk_at dksX0_taken_2 19 rfl rfl)
theorem dX0_taken_56 : decode cX0_taken 56 = .ok (.aload_n 0, 1) := dk_42 (dk_at dksX0_taken_2 20 rfl rfl)
theorem dX0_taken_57 : decode cX0_taken 57 = .ok (.checkcast 13, 3) := dk_192 0 13 (dk_at dksX0_taken_2 21 rfl rfl)
theorem dX0_taken_60 : decode cX0_taken 60 = .ok (.areturn, 1) := dk_176 (dk_at dksX0_taken_3 0 rfl rfl)
theorem dX0_taken_61 : decode cX0_taken 61 = .ok (.aload_n 0, 1) := dk_42 (dk_at dksX0_taken_3 1 rfl rfl)
theorem dX0_taken_62 : decode cX0_taken 62 = .ok (.checkcast 16, 3) := dk_192 0 16 (dk_at dksX0_taken_3 2 rfl rfl)
theorem dX0_taken_65 : decode cX0_taken 65 = .ok (.areturn, 1) := dk_176 (dk_at dksX0_taken_3 5 rfl rfl)
abbrev cX0_ask : ByteArray := prog_1_method_57_code
def yX0_ask : MethodName := ⟨RX0, "ask", "(II)I"⟩
def dkwX0_ask_3 : List UInt8 := [25, 4, 182, 1, 83, 172]
abbrev dktX0_ask_3 : List UInt8 := dkwX0_ask_3 ++ []
def dkwX0_ask_2 : List UInt8 := [58, 4, 28, 154, 0, 16, 45, 42, 180, 0, 63, 25, 4, 182, 1, 79, 167, 0, 13, 45, 42, 180, 0, 63]
abbrev dktX0_ask_2 : List UInt8 := dkwX0_ask_2 ++ dktX0_ask_3
def dkwX0_ask_1 : List UInt8 := [183, 0, 62, 181, 0, 63, 42, 180, 0, 46, 27, 182, 0, 204, 78, 187, 1, 74, 89, 42, 27, 183, 1, 76]
abbrev dktX0_ask_1 : List UInt8 := dkwX0_ask_1 ++ dktX0_ask_2
def dkwX0_ask_0 : List UInt8 := [42, 27, 182, 0, 173, 153, 0, 10, 28, 184, 0, 176, 154, 0, 6, 18, 84, 172, 42, 187, 0, 60, 89]
abbrev dktX0_ask_0 : List UInt8 := dkwX0_ask_0 ++ dktX0_ask_1
theorem dksX0_ask_0 : cX0_ask.data.toList.drop 0 = dktX0_ask_0 := by decide +kernel
theorem dksX0_ask_1 : cX0_ask.data.toList.drop 23 = dktX0_ask_1 := dk_seg dksX0_ask_0 23 rfl rfl
theorem dksX0_ask_2 : cX0_ask.data.toList.drop 47 = dktX0_ask_2 := dk_seg dksX0_ask_1 24 rfl rfl
theorem dksX0_ask_3 : cX0_ask.data.toList.drop 71 = dktX0_ask_3 := dk_seg dksX0_ask_2 24 rfl rfl
theorem dX0_ask_0 : decode cX0_ask 0 = .ok (.aload_n 0, 1) := dk_42 (dk_at dksX0_ask_0 0 rfl rfl)
theorem dX0_ask_1 : decode cX0_ask 1 = .ok (.iload_n 1, 1) := dk_27 (dk_at dksX0_ask_0 1 rfl rfl)
theorem dX0_ask_2 : decode cX0_ask 2 = .ok (.invokevirtual 173, 3) := dk_182 0 173 (dk_at dksX0_ask_0 2 rfl rfl)
theorem dX0_ask_5 : decode cX0_ask 5 = .ok (.ifCond .eq 10, 3) := dk_153 0 10 (dk_at dksX0_ask_0 5 rfl rfl)
theorem dX0_ask_8 : decode cX0_ask 8 = .ok (.iload_n 2, 1) := dk_28 (dk_at dksX0_ask_0 8 rfl rfl)
theorem dX0_ask_9 : decode cX0_ask 9 = .ok (.invokestatic 176, 3) := dk_184 0 176 (dk_at dksX0_ask_0 9 rfl rfl)
theorem dX0_ask_12 : decode cX0_ask 12 = .ok (.ifCond .ne 6, 3) := dk_154 0 6 (dk_at dksX0_ask_0 12 rfl rfl)
theorem dX0_ask_15 : decode cX0_ask 15 = .ok (.ldc 84, 2) := dk_18 84 (dk_at dksX0_ask_0 15 rfl rfl)
theorem dX0_ask_17 : decode cX0_ask 17 = .ok (.ireturn, 1) := dk_172 (dk_at dksX0_ask_0 17 rfl rfl)
theorem dX0_ask_18 : decode cX0_ask 18 = .ok (.aload_n 0, 1) := dk_42 (dk_at dksX0_ask_0 18 rfl rfl)
theorem dX0_ask_19 : decode cX0_ask 19 = .ok (.new 60, 3) := dk_187 0 60 (dk_at dksX0_ask_0 19 rfl rfl)
theorem dX0_ask_22 : decode cX0_ask 22 = .ok (.dup, 1) := dk_89 (dk_at dksX0_ask_0 22 rfl rfl)
theorem dX0_ask_23 : decode cX0_ask 23 = .ok (.invokespecial 62, 3) := dk_183 0 62 (dk_at dksX0_ask_1 0 rfl rfl)
theorem dX0_ask_26 : decode cX0_ask 26 = .ok (.putfield 63, 3) := dk_181 0 63 (dk_at dksX0_ask_1 3 rfl rfl)
theorem dX0_ask_29 : decode cX0_ask 29 = .ok (.aload_n 0, 1) := dk_42 (dk_at dksX0_ask_1 6 rfl rfl)
theorem dX0_ask_30 : decode cX0_ask 30 = .ok (.getfield 46, 3) := dk_180 0 46 (dk_at dksX0_ask_1 7 rfl rfl)
theorem dX0_ask_33 : decode cX0_ask 33 = .ok (.iload_n 1, 1) := dk_27 (dk_at dksX0_ask_1 10 rfl rfl)
theorem dX0_ask_34 : decode cX0_ask 34 = .ok (.invokevirtual 204, 3) := dk_182 0 204 (dk_at dksX0_ask_1 11 rfl rfl)
theorem dX0_ask_37 : decode cX0_ask 37 = .ok (.astore_n 3, 1) := dk_78 (dk_at dksX0_ask_1 14 rfl rfl)
theorem dX0_ask_38 : decode cX0_ask 38 = .ok (.new 330, 3) := dk_187 1 74 (dk_at dksX0_ask_1 15 rfl rfl)
theorem dX0_ask_41 : decode cX0_ask 41 = .ok (.dup, 1) := dk_89 (dk_at dksX0_ask_1 18 rfl rfl)
theorem dX0_ask_42 : decode cX0_ask 42 = .ok (.aload_n 0, 1) := dk_42 (dk_at dksX0_ask_1 19 rfl rfl)
theorem dX0_ask_43 : decode cX0_ask 43 = .ok (.iload_n 1, 1) := dk_27 (dk_at dksX0_ask_1 20 rfl rfl)
theorem dX0_ask_44 : decode cX0_ask 44 = .ok (.invokespecial 332, 3) := dk_183 1 76 (dk_at dksX0_ask_1 21 rfl rfl)
theorem dX0_ask_47 : decode cX0_ask 47 = .ok (.astore 4, 2) := dk_58 4 (dk_at dksX0_ask_2 0 rfl rfl)
theorem dX0_ask_49 : decode cX0_ask 49 = .ok (.iload_n 2, 1) := dk_28 (dk_at dksX0_ask_2 2 rfl rfl)
theorem dX0_ask_50 : decode cX0_ask 50 = .ok (.ifCond .ne 16, 3) := dk_154 0 16 (dk_at dksX0_ask_2 3 rfl rfl)
theorem dX0_ask_53 : decode cX0_ask 53 = .ok (.aload_n 3, 1) := dk_45 (dk_at dksX0_ask_2 6 rfl rfl)
theorem dX0_ask_54 : decode cX0_ask 54 = .ok (.aload_n 0, 1) := dk_42 (dk_at dksX0_ask_2 7 rfl rfl)
theorem dX0_ask_55 : decode cX0_ask 55 = .ok (.getfield 63, 3) := dk_180 0 63 (dk_at dksX0_ask_2 8 rfl rfl)
theorem dX0_ask_58 : decode cX0_ask 58 = .ok (.aload 4, 2) := dk_25 4 (dk_at dksX0_ask_2 11 rfl rfl)
theorem dX0_ask_60 : decode cX0_ask 60 = .ok (.invokevirtual 335, 3) := dk_182 1 79 (dk_at dksX0_ask_2 13 rfl rfl)
theorem dX0_ask_63 : decode cX0_ask 63 = .ok (.goto 13, 3) := dk_167 0 13 (dk_at dksX0_ask_2 16 rfl rfl)
theorem dX0_ask_66 : decode cX0_ask 66 = .ok (.aload_n 3, 1) := dk_45 (dk_at dksX0_ask_2 19 rfl rfl)
theorem dX0_ask_67 : decode cX0_ask 67 = .ok (.aload_n 0, 1) := dk_42 (dk_at dksX0_ask_2 20 rfl rfl)
theorem dX0_ask_68 : decode cX0_ask 68 = .ok (.getfield 63, 3) := dk_180 0 63 (dk_at dksX0_ask_2 21 rfl rfl)
theorem dX0_ask_71 : decode cX0_ask 71 = .ok (.aload 4, 2) := dk_25 4 (dk_at dksX0_ask_3 0 rfl rfl)
theorem dX0_ask_73 : decode cX0_ask 73 = .ok (.invokevirtual 339, 3) := dk_182 1 83 (dk_at dksX0_ask_3 2 rfl rfl)
theorem dX0_ask_76 : decode cX0_ask 76 = .ok (.ireturn, 1) := dk_172 (dk_at dksX0_ask_3 5 rfl rfl)
abbrev cX0_trace : ByteArray := prog_1_method_58_code
def yX0_trace : MethodName := ⟨RX0, "trace", "(I)I"⟩
def dkwX0_trace_1 : List UInt8 := [180, 1, 88, 27, 46, 167, 0, 5, 18, 241, 172]
abbrev dktX0_trace_1 : List UInt8 := dkwX0_trace_1 ++ []
def dkwX0_trace_0 : List UInt8 := [27, 133, 9, 42, 180, 0, 63, 180, 1, 86, 4, 100, 133, 184, 0, 74, 153, 0, 15, 42, 180, 0, 63]
abbrev dktX0_trace_0 : List UInt8 := dkwX0_trace_0 ++ dktX0_trace_1
theorem dksX0_trace_0 : cX0_trace.data.toList.drop 0 = dktX0_trace_0 := by decide +kernel
theorem dksX0_trace_1 : cX0_trace.data.toList.drop 23 = dktX0_trace_1 := dk_seg dksX0_trace_0 23 rfl rfl
theorem dX0_trace_0 : decode cX0_trace 0 = .ok (.iload_n 1, 1) := dk_27 (dk_at dksX0_trace_0 0 rfl rfl)
theorem dX0_trace_1 : decode cX0_trace 1 = .ok (.i2l, 1) := dk_133 (dk_at dksX0_trace_0 1 rfl rfl)
theorem dX0_trace_2 : decode cX0_trace 2 = .ok (.lconst 0, 1) := dk_9 (dk_at dksX0_trace_0 2 rfl rfl)
theorem dX0_trace_3 : decode cX0_trace 3 = .ok (.aload_n 0, 1) := dk_42 (dk_at dksX0_trace_0 3 rfl rfl)
theorem dX0_trace_4 : decode cX0_trace 4 = .ok (.getfield 63, 3) := dk_180 0 63 (dk_at dksX0_trace_0 4 rfl rfl)
theorem dX0_trace_7 : decode cX0_trace 7 = .ok (.getfield 342, 3) := dk_180 1 86 (dk_at dksX0_trace_0 7 rfl rfl)
theorem dX0_trace_10 : decode cX0_trace 10 = .ok (.iconst 1, 1) := dk_4 (dk_at dksX0_trace_0 10 rfl rfl)
theorem dX0_trace_11 : decode cX0_trace 11 = .ok (.isub, 1) := dk_100 (dk_at dksX0_trace_0 11 rfl rfl)
theorem dX0_trace_12 : decode cX0_trace 12 = .ok (.i2l, 1) := dk_133 (dk_at dksX0_trace_0 12 rfl rfl)
theorem dX0_trace_13 : decode cX0_trace 13 = .ok (.invokestatic 74, 3) := dk_184 0 74 (dk_at dksX0_trace_0 13 rfl rfl)
theorem dX0_trace_16 : decode cX0_trace 16 = .ok (.ifCond .eq 15, 3) := dk_153 0 15 (dk_at dksX0_trace_0 16 rfl rfl)
theorem dX0_trace_19 : decode cX0_trace 19 = .ok (.aload_n 0, 1) := dk_42 (dk_at dksX0_trace_0 19 rfl rfl)
theorem dX0_trace_20 : decode cX0_trace 20 = .ok (.getfield 63, 3) := dk_180 0 63 (dk_at dksX0_trace_0 20 rfl rfl)
theorem dX0_trace_23 : decode cX0_trace 23 = .ok (.getfield 344, 3) := dk_180 1 88 (dk_at dksX0_trace_1 0 rfl rfl)
theorem dX0_trace_26 : decode cX0_trace 26 = .ok (.iload_n 1, 1) := dk_27 (dk_at dksX0_trace_1 3 rfl rfl)
theorem dX0_trace_27 : decode cX0_trace 27 = .ok (.iaload, 1) := dk_46 (dk_at dksX0_trace_1 4 rfl rfl)
theorem dX0_trace_28 : decode cX0_trace 28 = .ok (.goto 5, 3) := dk_167 0 5 (dk_at dksX0_trace_1 5 rfl rfl)
theorem dX0_trace_31 : decode cX0_trace 31 = .ok (.ldc 241, 2) := dk_18 241 (dk_at dksX0_trace_1 8 rfl rfl)
theorem dX0_trace_33 : decode cX0_trace 33 = .ok (.ireturn, 1) := dk_172 (dk_at dksX0_trace_1 10 rfl rfl)
abbrev cX0_count : ByteArray := prog_1_method_59_code
def yX0_count : MethodName := ⟨RX0, "count", "(I)I"⟩
def dkwX0_count_7 : List UInt8 := [172]
abbrev dktX0_count_7 : List UInt8 := dkwX0_count_7 ++ []
def dkwX0_count_6 : List UInt8 := [180, 0, 217, 172, 42, 180, 0, 46, 180, 0, 165, 172, 42, 180, 0, 161, 172, 42, 180, 0, 130, 172, 18, 84]
abbrev dktX0_count_6 : List UInt8 := dkwX0_count_6 ++ dktX0_count_7
def dkwX0_count_5 : List UInt8 := [180, 0, 46, 42, 180, 0, 46, 180, 0, 182, 182, 0, 193, 167, 0, 4, 3, 172, 42, 180, 0, 46]
abbrev dktX0_count_5 : List UInt8 := dkwX0_count_5 ++ dktX0_count_6
def dkwX0_count_4 : List UInt8 := [180, 0, 46, 180, 0, 168, 172, 42, 180, 0, 46, 180, 0, 182, 172, 42, 182, 0, 211, 153, 0, 20, 42]
abbrev dktX0_count_4 : List UInt8 := dkwX0_count_4 ++ dktX0_count_5
def dkwX0_count_3 : List UInt8 := [167, 0, 4, 4, 96, 61, 132, 3, 1, 167, 255, 227, 28, 172, 42, 180, 0, 46, 182, 0, 164, 172, 42]
abbrev dktX0_count_3 : List UInt8 := dkwX0_count_3 ++ dktX0_count_4
def dkwX0_count_2 : List UInt8 := [3, 62, 29, 16, 8, 162, 0, 29, 28, 42, 180, 0, 35, 29, 50, 180, 0, 89, 199, 0, 7, 3]
abbrev dktX0_count_2 : List UInt8 := dkwX0_count_2 ++ dktX0_count_3
def dkwX0_count_1 : List UInt8 := [170, 0, 0, 0, 161, 0, 0, 0, 0, 0, 0, 0, 8, 0, 0, 0, 49, 0, 0, 0, 85, 0, 0, 0, 93, 0, 0, 0, 101, 0, 0, 0, 109, 0, 0, 0, 135, 0, 0, 0, 143, 0, 0, 0, 151, 0, 0, 0, 156]
abbrev dktX0_count_1 : List UInt8 := dkwX0_count_1 ++ dktX0_count_2
def dkwX0_count_0 : List UInt8 := [3, 61, 27]
abbrev dktX0_count_0 : List UInt8 := dkwX0_count_0 ++ dktX0_count_1
theorem dksX0_count_0 : cX0_count.data.toList.drop 0 = dktX0_count_0 := by decide +kernel
theorem dksX0_count_1 : cX0_count.data.toList.drop 3 = dktX0_count_1 := dk_seg dksX0_count_0 3 rfl rfl
theorem dksX0_count_2 : cX0_count.data.toList.drop 52 = dktX0_count_2 := dk_seg dksX0_count_1 49 rfl rfl
theorem dksX0_count_3 : cX0_count.data.toList.drop 74 = dktX0_count_3 := dk_seg dksX0_count_2 22 rfl rfl
theorem dksX0_count_4 : cX0_count.data.toList.drop 97 = dktX0_count_4 := dk_seg dksX0_count_3 23 rfl rfl
theorem dksX0_count_5 : cX0_count.data.toList.drop 120 = dktX0_count_5 := dk_seg dksX0_count_4 23 rfl rfl
theorem dksX0_count_6 : cX0_count.data.toList.drop 142 = dktX0_count_6 := dk_seg dksX0_count_5 22 rfl rfl
theorem dksX0_count_7 : cX0_count.data.toList.drop 166 = dktX0_count_7 := dk_seg dksX0_count_6 24 rfl rfl
theorem dX0_count_0 : decode cX0_count 0 = .ok (.iconst 0, 1) := dk_3 (dk_at dksX0_count_0 0 rfl rfl)
theorem dX0_count_1 : decode cX0_count 1 = .ok (.istore_n 2, 1) := dk_61 (dk_at dksX0_count_0 1 rfl rfl)
theorem dX0_count_2 : decode cX0_count 2 = .ok (.iload_n 1, 1) := dk_27 (dk_at dksX0_count_0 2 rfl rfl)
theorem dX0_count_3 : decode cX0_count 3 = .ok (.tableswitch 161 0 8 #[49, 85, 93, 101, 109, 135, 143, 151, 156], 49) := by decide +kernel
theorem dX0_count_52 : decode cX0_count 52 = .ok (.iconst 0, 1) := dk_3 (dk_at dksX0_count_2 0 rfl rfl)
theorem dX0_count_53 : decode cX0_count 53 = .ok (.istore_n 3, 1) := dk_62 (dk_at dksX0_count_2 1 rfl rfl)
theorem dX0_count_54 : decode cX0_count 54 = .ok (.iload_n 3, 1) := dk_29 (dk_at dksX0_count_2 2 rfl rfl)
theorem dX0_count_55 : decode cX0_count 55 = .ok (.bipush 8, 2) := dk_16 8 (dk_at dksX0_count_2 3 rfl rfl)
theorem dX0_count_57 : decode cX0_count 57 = .ok (.if_icmp .ge 29, 3) := dk_162 0 29 (dk_at dksX0_count_2 5 rfl rfl)
theorem dX0_count_60 : decode cX0_count 60 = .ok (.iload_n 2, 1) := dk_28 (dk_at dksX0_count_2 8 rfl rfl)
theorem dX0_count_61 : decode cX0_count 61 = .ok (.aload_n 0, 1) := dk_42 (dk_at dksX0_count_2 9 rfl rfl)
theorem dX0_count_62 : decode cX0_count 62 = .ok (.getfield 35, 3) := dk_180 0 35 (dk_at dksX0_count_2 10 rfl rfl)
theorem dX0_count_65 : decode cX0_count 65 = .ok (.iload_n 3, 1) := dk_29 (dk_at dksX0_count_2 13 rfl rfl)
theorem dX0_count_66 : decode cX0_count 66 = .ok (.aaload, 1) := dk_50 (dk_at dksX0_count_2 14 rfl rfl)
theorem dX0_count_67 : decode cX0_count 67 = .ok (.getfield 89, 3) := dk_180 0 89 (dk_at dksX0_count_2 15 rfl rfl)
theorem dX0_count_70 : decode cX0_count 70 = .ok (.ifnonnull 7, 3) := dk_199 0 7 (dk_at dksX0_count_2 18 rfl rfl)
theorem dX0_count_73 : decode cX0_count 73 = .ok (.iconst 0, 1) := dk_3 (dk_at dksX0_count_2 21 rfl rfl)
theorem dX0_count_74 : decode cX0_count 74 = .ok (.goto 4, 3) := dk_167 0 4 (dk_at dksX0_count_3 0 rfl rfl)
theorem dX0_count_77 : decode cX0_count 77 = .ok (.iconst 1, 1) := dk_4 (dk_at dksX0_count_3 3 rfl rfl)
theorem dX0_count_78 : decode cX0_count 78 = .ok (.iadd, 1) := dk_96 (dk_at dksX0_count_3 4 rfl rfl)
theorem dX0_count_79 : decode cX0_count 79 = .ok (.istore_n 2, 1) := dk_61 (dk_at dksX0_count_3 5 rfl rfl)
theorem dX0_count_80 : decode cX0_count 80 = .ok (.iinc 3 1, 3) := dk_132 3 1 (dk_at dksX0_count_3 6 rfl rfl)
theorem dX0_count_83 : decode cX0_count 83 = .ok (.goto (-29), 3) := dk_167 255 227 (dk_at dksX0_count_3 9 rfl rfl)
theorem dX0_count_86 : decode cX0_count 86 = .ok (.iload_n 2, 1) := dk_28 (dk_at dksX0_count_3 12 rfl rfl)
theorem dX0_count_87 : decode cX0_count 87 = .ok (.ireturn, 1) := dk_172 (dk_at dksX0_count_3 13 rfl rfl)
theorem dX0_count_88 : decode cX0_count 88 = .ok (.aload_n 0, 1) := dk_42 (dk_at dksX0_count_3 14 rfl rfl)
theorem dX0_count_89 : decode cX0_count 89 = .ok (.getfield 46, 3) := dk_180 0 46 (dk_at dksX0_count_3 15 rfl rfl)
theorem dX0_count_92 : decode cX0_count 92 = .ok (.invokevirtual 164, 3) := dk_182 0 164 (dk_at dksX0_count_3 18 rfl rfl)
theorem dX0_count_95 : decode cX0_count 95 = .ok (.ireturn, 1) := dk_172 (dk_at dksX0_count_3 21 rfl rfl)
theorem dX0_count_96 : decode cX0_count 96 = .ok (.aload_n 0, 1) := dk_42 (dk_at dksX0_count_3 22 rfl rfl)
theorem dX0_count_97 : decode cX0_count 97 = .ok (.getfield 46, 3) := dk_180 0 46 (dk_at dksX0_count_4 0 rfl rfl)
theorem dX0_count_100 : decode cX0_count 100 = .ok (.getfield 168, 3) := dk_180 0 168 (dk_at dksX0_count_4 3 rfl rfl)
theorem dX0_count_103 : decode cX0_count 103 = .ok (.ireturn, 1) := dk_172 (dk_at dksX0_count_4 6 rfl rfl)
theorem dX0_count_104 : decode cX0_count 104 = .ok (.aload_n 0, 1) := dk_42 (dk_at dksX0_count_4 7 rfl rfl)
theorem dX0_count_105 : decode cX0_count 105 = .ok (.getfield 46, 3) := dk_180 0 46 (dk_at dksX0_count_4 8 rfl rfl)
theorem dX0_count_108 : decode cX0_count 108 = .ok (.getfield 182, 3) := dk_180 0 182 (dk_at dksX0_count_4 11 rfl rfl)
theorem dX0_count_111 : decode cX0_count 111 = .ok (.ireturn, 1) := dk_172 (dk_at dksX0_count_4 14 rfl rfl)
theorem dX0_count_112 : decode cX0_count 112 = .ok (.aload_n 0, 1) := dk_42 (dk_at dksX0_count_4 15 rfl rfl)
theorem dX0_count_113 : decode cX0_count 113 = .ok (.invokevirtual 211, 3) := dk_182 0 211 (dk_at dksX0_count_4 16 rfl rfl)
theorem dX0_count_116 : decode cX0_count 116 = .ok (.ifCond .eq 20, 3) := dk_153 0 20 (dk_at dksX0_count_4 19 rfl rfl)
theorem dX0_count_119 : decode cX0_count 119 = .ok (.aload_n 0, 1) := dk_42 (dk_at dksX0_count_4 22 rfl rfl)
theorem dX0_count_120 : decode cX0_count 120 = .ok (.getfield 46, 3) := dk_180 0 46 (dk_at dksX0_count_5 0 rfl rfl)
theorem dX0_count_123 : decode cX0_count 123 = .ok (.aload_n 0, 1) := dk_42 (dk_at dksX0_count_5 3 rfl rfl)
theorem dX0_count_124 : decode cX0_count 124 = .ok (.getfield 46, 3) := dk_180 0 46 (dk_at dksX0_count_5 4 rfl rfl)
theorem dX0_count_127 : decode cX0_count 127 = .ok (.getfield 182, 3) := dk_180 0 182 (dk_at dksX0_count_5 7 rfl rfl)
theorem dX0_count_130 : decode cX0_count 130 = .ok (.invokevirtual 193, 3) := dk_182 0 193 (dk_at dksX0_count_5 10 rfl rfl)
theorem dX0_count_133 : decode cX0_count 133 = .ok (.goto 4, 3) := dk_167 0 4 (dk_at dksX0_count_5 13 rfl rfl)
theorem dX0_count_136 : decode cX0_count 136 = .ok (.iconst 0, 1) := dk_3 (dk_at dksX0_count_5 16 rfl rfl)
theorem dX0_count_137 : decode cX0_count 137 = .ok (.ireturn, 1) := dk_172 (dk_at dksX0_count_5 17 rfl rfl)
theorem dX0_count_138 : decode cX0_count 138 = .ok (.aload_n 0, 1) := dk_42 (dk_at dksX0_count_5 18 rfl rfl)
theorem dX0_count_139 : decode cX0_count 139 = .ok (.getfield 46, 3) := dk_180 0 46 (dk_at dksX0_count_5 19 rfl rfl)
theorem dX0_count_142 : decode cX0_count 142 = .ok (.getfield 217, 3) := dk_180 0 217 (dk_at dksX0_count_6 0 rfl rfl)
theorem dX0_count_145 : decode cX0_count 145 = .ok (.ireturn, 1) := dk_172 (dk_at dksX0_count_6 3 rfl rfl)
theorem dX0_count_146 : decode cX0_count 146 = .ok (.aload_n 0, 1) := dk_42 (dk_at dksX0_count_6 4 rfl rfl)
theorem dX0_count_147 : decode cX0_count 147 = .ok (.getfield 46, 3) := dk_180 0 46 (dk_at dksX0_count_6 5 rfl rfl)
theorem dX0_count_150 : decode cX0_count 150 = .ok (.getfield 165, 3) := dk_180 0 165 (dk_at dksX0_count_6 8 rfl rfl)
theorem dX0_count_153 : decode cX0_count 153 = .ok (.ireturn, 1) := dk_172 (dk_at dksX0_count_6 11 rfl rfl)
theorem dX0_count_154 : decode cX0_count 154 = .ok (.aload_n 0, 1) := dk_42 (dk_at dksX0_count_6 12 rfl rfl)
theorem dX0_count_155 : decode cX0_count 155 = .ok (.getfield 161, 3) := dk_180 0 161 (dk_at dksX0_count_6 13 rfl rfl)
theorem dX0_count_158 : decode cX0_count 158 = .ok (.ireturn, 1) := dk_172 (dk_at dksX0_count_6 16 rfl rfl)
theorem dX0_count_159 : decode cX0_count 159 = .ok (.aload_n 0, 1) := dk_42 (dk_at dksX0_count_6 17 rfl rfl)
theorem dX0_count_160 : decode cX0_count 160 = .ok (.getfield 130, 3) := dk_180 0 130 (dk_at dksX0_count_6 18 rfl rfl)
theorem dX0_count_163 : decode cX0_count 163 = .ok (.ireturn, 1) := dk_172 (dk_at dksX0_count_6 21 rfl rfl)
theorem dX0_count_164 : decode cX0_count 164 = .ok (.ldc 84, 2) := dk_18 84 (dk_at dksX0_count_6 22 rfl rfl)
theorem dX0_count_166 : decode cX0_count 166 = .ok (.ireturn, 1) := dk_172 (dk_at dksX0_count_7 0 rfl rfl)
abbrev cX0_status : ByteArray := prog_1_method_60_code
def yX0_status : MethodName := ⟨RX0, "status", "()I"⟩
theorem dX0_status_0 : decode cX0_status 0 = .ok (.aload_n 0, 1) := by decide +kernel
theorem dX0_status_1 : decode cX0_status 1 = .ok (.getfield 67, 3) := by decide +kernel
theorem dX0_status_4 : decode cX0_status 4 = .ok (.ireturn, 1) := by decide +kernel
theorem q68 : (Jvm.Cond.initialized "PromiseScales") ∈ lw_all := lw_g (lw_at lw_m1 1 rfl) rfl
theorem q106 : (Jvm.Cond.instantiable "PromiseScales" (11 : Nat)) ∈ lw_all := lw_g (lw_at lw_m1 39 rfl) rfl
theorem q108 : (Jvm.Cond.instanceMethod ({ cls := "PromiseScales", name := "<init>", desc := "()V" } : Jvm.MethodName)) ∈ lw_all := lw_g (lw_at lw_m1 41 rfl) rfl
theorem q109 : (Jvm.Cond.code ({ cls := "PromiseScales", name := "<init>", desc := "()V" } : Jvm.MethodName) prog_1_method_7_code (1 : Nat) (Option.none : Option Jvm.ClassFile.FieldType)) ∈ lw_all := lw_g (lw_at lw_m1 42 rfl) rfl
theorem q110 : (Jvm.Cond.methodLink "PromiseScales" (28 : Nat) ({ cls := "java/lang/Object", name := "<init>", desc := "()V" } : Jvm.MethodName)) ∈ lw_all := lw_g (lw_at lw_m1 43 rfl) rfl
theorem q113 : (Jvm.Cond.methodLink "PromiseScales" (31 : Nat) ({ cls := "PromiseScales", name := "shelves", desc := "()[LPromiseScales$Shelf;" } : Jvm.MethodName)) ∈ lw_all := lw_g (lw_at lw_m1 46 rfl) rfl
theorem q114 : (Jvm.Cond.static ({ cls := "PromiseScales", name := "shelves", desc := "()[LPromiseScales$Shelf;" } : Jvm.MethodName)) ∈ lw_all := lw_g (lw_at lw_m1 47 rfl) rfl
theorem q115 : (Jvm.Cond.code ({ cls := "PromiseScales", name := "shelves", desc := "()[LPromiseScales$Shelf;" } : Jvm.MethodName) prog_1_method_6_code (2 : Nat) (Option.some (Jvm.ClassFile.FieldType.array (Jvm.ClassFile.FieldType.object "PromiseScales$Shelf")))) ∈ lw_all := lw_g (lw_at lw_m1 48 rfl) rfl
theorem q116 : (Jvm.Cond.classLink "PromiseScales" (23 : Nat) "PromiseScales$Shelf") ∈ lw_all := lw_g (lw_at lw_m1 49 rfl) rfl
theorem q119 : (Jvm.Cond.methodLinkNest "PromiseScales" (25 : Nat) ({ cls := "PromiseScales$Shelf", name := "<init>", desc := "()V" } : Jvm.MethodName) "PromiseScales") ∈ lw_tbl := lw_at lw_m1 52 rfl
theorem q124 : (Jvm.Cond.fieldLinkNest "PromiseScales" (89 : Nat) "PromiseScales$Shelf" "held" "Ljava/lang/Object;" "PromiseScales") ∈ lw_tbl := lw_at lw_m1 57 rfl
theorem q128 : (Jvm.Cond.classLink "PromiseScales" (43 : Nat) "PromiseScales$Scales") ∈ lw_all := lw_g (lw_at lw_m1 61 rfl) rfl
theorem q130 : (Jvm.Cond.methodLinkNest "PromiseScales" (45 : Nat) ({ cls := "PromiseScales$Scales", name := "<init>", desc := "()V" } : Jvm.MethodName) "PromiseScales") ∈ lw_tbl := lw_at lw_m1 63 rfl
theorem q164 : (Jvm.Cond.fieldLink "PromiseScales" (217 : Nat) "PromiseScales$Scales" "wax" "I") ∈ lw_all := lw_g (lw_at lw_m1 97 rfl) rfl
theorem q167 : (Jvm.Cond.fieldLink "PromiseScales" (165 : Nat) "PromiseScales$Scales" "stick" "I") ∈ lw_all := lw_g (lw_at lw_m1 100 rfl) rfl
theorem q170 : (Jvm.Cond.fieldLink "PromiseScales" (168 : Nat) "PromiseScales$Scales" "givers" "I") ∈ lw_all := lw_g (lw_at lw_m1 103 rfl) rfl
theorem q173 : (Jvm.Cond.fieldLink "PromiseScales" (200 : Nat) "PromiseScales$Scales" "keeps" "[I") ∈ lw_all := lw_g (lw_at lw_m1 106 rfl) rfl
theorem q177 : (Jvm.Cond.fieldLink "PromiseScales" (232 : Nat) "PromiseScales$Scales" "state" "[I") ∈ lw_all := lw_g (lw_at lw_m1 110 rfl) rfl
theorem q179 : (Jvm.Cond.fieldLink "PromiseScales" (182 : Nat) "PromiseScales$Scales" "pan" "I") ∈ lw_all := lw_g (lw_at lw_m1 112 rfl) rfl
theorem q196 : (Jvm.Cond.classLink "PromiseScales" (60 : Nat) "PromiseScales$Trail") ∈ lw_all := lw_g (lw_at lw_m1 129 rfl) rfl
theorem q198 : (Jvm.Cond.methodLinkNest "PromiseScales" (62 : Nat) ({ cls := "PromiseScales$Trail", name := "<init>", desc := "()V" } : Jvm.MethodName) "PromiseScales") ∈ lw_tbl := lw_at lw_m1 131 rfl
theorem q203 : (Jvm.Cond.fieldLinkNest "PromiseScales" (344 : Nat) "PromiseScales$Trail" "body" "[I" "PromiseScales") ∈ lw_tbl := lw_at lw_m1 136 rfl
theorem q205 : (Jvm.Cond.fieldLinkNest "PromiseScales" (342 : Nat) "PromiseScales$Trail" "many" "I" "PromiseScales") ∈ lw_tbl := lw_at lw_m1 138 rfl
theorem q211 : (Jvm.Cond.fieldLink "PromiseScales" (35 : Nat) "PromiseScales" "rows" "[LPromiseScales$Shelf;") ∈ lw_all := lw_g (lw_at lw_m1 144 rfl) rfl
theorem q212 : (Jvm.Cond.fieldLink "PromiseScales" (39 : Nat) "PromiseScales" "tape" "[B") ∈ lw_all := lw_g (lw_at lw_m1 145 rfl) rfl
theorem q213 : (Jvm.Cond.fieldLink "PromiseScales" (130 : Nat) "PromiseScales" "taped" "I") ∈ lw_all := lw_g (lw_at lw_m1 146 rfl) rfl
theorem q214 : (Jvm.Cond.fieldLink "PromiseScales" (147 : Nat) "PromiseScales" "faultKind" "I") ∈ lw_all := lw_g (lw_at lw_m1 147 rfl) rfl
theorem q216 : (Jvm.Cond.fieldLink "PromiseScales" (46 : Nat) "PromiseScales" "scales" "LPromiseScales$Scales;") ∈ lw_all := lw_g (lw_at lw_m1 149 rfl) rfl
theorem q217 : (Jvm.Cond.fieldLink "PromiseScales" (50 : Nat) "PromiseScales" "then" "LPromiseScales$Scales;") ∈ lw_all := lw_g (lw_at lw_m1 150 rfl) rfl
theorem q218 : (Jvm.Cond.fieldLink "PromiseScales" (53 : Nat) "PromiseScales" "past" "[LPromiseScales$Scales;") ∈ lw_all := lw_g (lw_at lw_m1 151 rfl) rfl
theorem q219 : (Jvm.Cond.fieldLink "PromiseScales" (161 : Nat) "PromiseScales" "acts" "I") ∈ lw_all := lw_g (lw_at lw_m1 152 rfl) rfl
theorem q220 : (Jvm.Cond.fieldLink "PromiseScales" (57 : Nat) "PromiseScales" "images" "[LPromiseScales$Scales;") ∈ lw_all := lw_g (lw_at lw_m1 153 rfl) rfl
theorem q221 : (Jvm.Cond.fieldLink "PromiseScales" (63 : Nat) "PromiseScales" "trail" "LPromiseScales$Trail;") ∈ lw_all := lw_g (lw_at lw_m1 154 rfl) rfl
theorem q222 : (Jvm.Cond.fieldLink "PromiseScales" (67 : Nat) "PromiseScales" "status" "I") ∈ lw_all := lw_g (lw_at lw_m1 155 rfl) rfl
theorem q223 : (Jvm.Cond.laysFinal "PromiseScales" "PromiseScales" "rows" "[LPromiseScales$Shelf;") ∈ lw_all := lw_g (lw_at lw_m1 156 rfl) rfl
theorem q224 : (Jvm.Cond.soleField "PromiseScales" "rows") ∈ lw_all := lw_g (lw_at lw_m1 157 rfl) rfl
theorem q225 : (Jvm.Cond.laysFinal "PromiseScales" "PromiseScales" "tape" "[B") ∈ lw_all := lw_g (lw_at lw_m1 158 rfl) rfl
theorem q226 : (Jvm.Cond.soleField "PromiseScales" "tape") ∈ lw_all := lw_g (lw_at lw_m1 159 rfl) rfl
theorem q227 : (Jvm.Cond.lays "PromiseScales" "PromiseScales" "taped" "I") ∈ lw_all := lw_g (lw_at lw_m1 160 rfl) rfl
theorem q228 : (Jvm.Cond.soleField "PromiseScales" "taped") ∈ lw_all := lw_g (lw_at lw_m1 161 rfl) rfl
theorem q229 : (Jvm.Cond.lays "PromiseScales" "PromiseScales" "faultKind" "I") ∈ lw_all := lw_g (lw_at lw_m1 162 rfl) rfl
theorem q230 : (Jvm.Cond.soleField "PromiseScales" "faultKind") ∈ lw_all := lw_g (lw_at lw_m1 163 rfl) rfl
theorem q231 : (Jvm.Cond.laysFinal "PromiseScales" "PromiseScales" "scales" "LPromiseScales$Scales;") ∈ lw_all := lw_g (lw_at lw_m1 164 rfl) rfl
theorem q232 : (Jvm.Cond.soleField "PromiseScales" "scales") ∈ lw_all := lw_g (lw_at lw_m1 165 rfl) rfl
theorem q233 : (Jvm.Cond.laysFinal "PromiseScales" "PromiseScales" "then" "LPromiseScales$Scales;") ∈ lw_all := lw_g (lw_at lw_m1 166 rfl) rfl
theorem q234 : (Jvm.Cond.soleField "PromiseScales" "then") ∈ lw_all := lw_g (lw_at lw_m1 167 rfl) rfl
theorem q235 : (Jvm.Cond.laysFinal "PromiseScales" "PromiseScales" "past" "[LPromiseScales$Scales;") ∈ lw_all := lw_g (lw_at lw_m1 168 rfl) rfl
theorem q236 : (Jvm.Cond.soleField "PromiseScales" "past") ∈ lw_all := lw_g (lw_at lw_m1 169 rfl) rfl
theorem q237 : (Jvm.Cond.lays "PromiseScales" "PromiseScales" "acts" "I") ∈ lw_all := lw_g (lw_at lw_m1 170 rfl) rfl
theorem q238 : (Jvm.Cond.soleField "PromiseScales" "acts") ∈ lw_all := lw_g (lw_at lw_m1 171 rfl) rfl
theorem q239 : (Jvm.Cond.laysFinal "PromiseScales" "PromiseScales" "images" "[LPromiseScales$Scales;") ∈ lw_all := lw_g (lw_at lw_m1 172 rfl) rfl
theorem q240 : (Jvm.Cond.soleField "PromiseScales" "images") ∈ lw_all := lw_g (lw_at lw_m1 173 rfl) rfl
theorem q241 : (Jvm.Cond.lays "PromiseScales" "PromiseScales" "trail" "LPromiseScales$Trail;") ∈ lw_all := lw_g (lw_at lw_m1 174 rfl) rfl
theorem q242 : (Jvm.Cond.soleField "PromiseScales" "trail") ∈ lw_all := lw_g (lw_at lw_m1 175 rfl) rfl
theorem q243 : (Jvm.Cond.lays "PromiseScales" "PromiseScales" "status" "I") ∈ lw_all := lw_g (lw_at lw_m1 176 rfl) rfl
theorem q244 : (Jvm.Cond.soleField "PromiseScales" "status") ∈ lw_all := lw_g (lw_at lw_m1 177 rfl) rfl
theorem q245 : (Jvm.Cond.superclass "PromiseScales" "java/lang/Object") ∈ lw_all := lw_g (lw_at lw_m1 178 rfl) rfl
theorem q247 : (Jvm.Cond.instanceMethod ({ cls := "PromiseScales", name := "row", desc := "(III)I" } : Jvm.MethodName)) ∈ lw_all := lw_g (lw_at lw_m1 180 rfl) rfl
theorem q248 : (Jvm.Cond.selects "PromiseScales" ({ cls := "PromiseScales", name := "row", desc := "(III)I" } : Jvm.MethodName) ({ cls := "PromiseScales", name := "row", desc := "(III)I" } : Jvm.MethodName)) ∈ lw_all := lw_g (lw_at lw_m1 181 rfl) rfl
theorem q249 : (Jvm.Cond.codeWith ({ cls := "PromiseScales", name := "row", desc := "(III)I" } : Jvm.MethodName) prog_1_method_12_code (5 : Nat) (Option.some Jvm.ClassFile.FieldType.int) [((28 : Nat), (47 : Nat), (48 : Nat), (97 : Nat))]) ∈ lw_all := lw_g (lw_at lw_m1 182 rfl) rfl
theorem q250 : (Jvm.Cond.classLink "PromiseScales" (97 : Nat) "java/lang/NegativeArraySizeException") ∈ lw_all := lw_g (lw_at lw_m1 183 rfl) rfl
theorem q336 : (Jvm.Cond.methodLink "PromiseScales" (78 : Nat) ({ cls := "PromiseScales", name := "isRow", desc := "(I)Z" } : Jvm.MethodName)) ∈ lw_all := lw_g (lw_at lw_m2 29 rfl) rfl
theorem q337 : (Jvm.Cond.static ({ cls := "PromiseScales", name := "isRow", desc := "(I)Z" } : Jvm.MethodName)) ∈ lw_all := lw_g (lw_at lw_m2 30 rfl) rfl
theorem q338 : (Jvm.Cond.code ({ cls := "PromiseScales", name := "isRow", desc := "(I)Z" } : Jvm.MethodName) prog_1_method_10_code (1 : Nat) (Option.some Jvm.ClassFile.FieldType.boolean)) ∈ lw_all := lw_g (lw_at lw_m2 31 rfl) rfl
theorem q339 : (Jvm.Cond.constantLong "PromiseScales" (72 : Nat) (7 : Int64)) ∈ lw_all := lw_g (lw_at lw_m2 32 rfl) rfl
theorem q340 : (Jvm.Cond.methodLink "PromiseScales" (74 : Nat) ({ cls := "PromiseScales", name := "isIn", desc := "(JJJ)Z" } : Jvm.MethodName)) ∈ lw_all := lw_g (lw_at lw_m2 33 rfl) rfl
theorem q341 : (Jvm.Cond.static ({ cls := "PromiseScales", name := "isIn", desc := "(JJJ)Z" } : Jvm.MethodName)) ∈ lw_all := lw_g (lw_at lw_m2 34 rfl) rfl
theorem q342 : (Jvm.Cond.code ({ cls := "PromiseScales", name := "isIn", desc := "(JJJ)Z" } : Jvm.MethodName) prog_1_method_1_code (6 : Nat) (Option.some Jvm.ClassFile.FieldType.boolean)) ∈ lw_all := lw_g (lw_at lw_m2 35 rfl) rfl
theorem q343 : (Jvm.Cond.constantLong "PromiseScales" (82 : Nat) (2 : Int64)) ∈ lw_all := lw_g (lw_at lw_m2 36 rfl) rfl
theorem q344 : (Jvm.Cond.constant "PromiseScales" (84 : Nat) (-1000001 : Int32)) ∈ lw_all := lw_g (lw_at lw_m2 37 rfl) rfl
theorem q345 : (Jvm.Cond.methodLink "PromiseScales" (85 : Nat) ({ cls := "PromiseScales", name := "newLane", desc := "(II)Ljava/lang/Object;" } : Jvm.MethodName)) ∈ lw_all := lw_g (lw_at lw_m2 38 rfl) rfl
theorem q346 : (Jvm.Cond.static ({ cls := "PromiseScales", name := "newLane", desc := "(II)Ljava/lang/Object;" } : Jvm.MethodName)) ∈ lw_all := lw_g (lw_at lw_m2 39 rfl) rfl
theorem q347 : (Jvm.Cond.code ({ cls := "PromiseScales", name := "newLane", desc := "(II)Ljava/lang/Object;" } : Jvm.MethodName) prog_1_method_11_code (2 : Nat) (Option.some (Jvm.ClassFile.FieldType.object "java/lang/Object"))) ∈ lw_all := lw_g (lw_at lw_m2 40 rfl) rfl
theorem q348 : (Jvm.Cond.methodLink "PromiseScales" (93 : Nat) ({ cls := "PromiseScales", name := "well", desc := "(I)I" } : Jvm.MethodName)) ∈ lw_all := lw_g (lw_at lw_m2 41 rfl) rfl
theorem q349 : (Jvm.Cond.privateMethod ({ cls := "PromiseScales", name := "well", desc := "(I)I" } : Jvm.MethodName)) ∈ lw_tbl := lw_at lw_m2 42 rfl
theorem q350 : (Jvm.Cond.instanceMethod ({ cls := "PromiseScales", name := "well", desc := "(I)I" } : Jvm.MethodName)) ∈ lw_all := lw_g (lw_at lw_m2 43 rfl) rfl
theorem q351 : (Jvm.Cond.code ({ cls := "PromiseScales", name := "well", desc := "(I)I" } : Jvm.MethodName) prog_1_method_9_code (2 : Nat) (Option.some Jvm.ClassFile.FieldType.int)) ∈ lw_all := lw_g (lw_at lw_m2 44 rfl) rfl
theorem q352 : (Jvm.Cond.methodLink "PromiseScales" (99 : Nat) ({ cls := "PromiseScales", name := "finds", desc := "(I)I" } : Jvm.MethodName)) ∈ lw_all := lw_g (lw_at lw_m2 45 rfl) rfl
theorem q353 : (Jvm.Cond.privateMethod ({ cls := "PromiseScales", name := "finds", desc := "(I)I" } : Jvm.MethodName)) ∈ lw_tbl := lw_at lw_m2 46 rfl
theorem q354 : (Jvm.Cond.instanceMethod ({ cls := "PromiseScales", name := "finds", desc := "(I)I" } : Jvm.MethodName)) ∈ lw_all := lw_g (lw_at lw_m2 47 rfl) rfl
theorem q355 : (Jvm.Cond.code ({ cls := "PromiseScales", name := "finds", desc := "(I)I" } : Jvm.MethodName) prog_1_method_8_code (2 : Nat) (Option.some Jvm.ClassFile.FieldType.int)) ∈ lw_all := lw_g (lw_at lw_m2 48 rfl) rfl
theorem q356 : (Jvm.Cond.constant "PromiseScales" (71 : Nat) (-1000010 : Int32)) ∈ lw_all := lw_g (lw_at lw_m2 49 rfl) rfl
theorem q359 : (Jvm.Cond.instanceMethod ({ cls := "PromiseScales", name := "set", desc := "(III)I" } : Jvm.MethodName)) ∈ lw_all := lw_g (lw_at lw_m2 52 rfl) rfl
theorem q360 : (Jvm.Cond.selects "PromiseScales" ({ cls := "PromiseScales", name := "set", desc := "(III)I" } : Jvm.MethodName) ({ cls := "PromiseScales", name := "set", desc := "(III)I" } : Jvm.MethodName)) ∈ lw_all := lw_g (lw_at lw_m2 53 rfl) rfl
theorem q361 : (Jvm.Cond.codeWith ({ cls := "PromiseScales", name := "set", desc := "(III)I" } : Jvm.MethodName) prog_1_method_13_code (5 : Nat) (Option.some Jvm.ClassFile.FieldType.int) [((10 : Nat), (25 : Nat), (26 : Nat), (106 : Nat)), ((10 : Nat), (25 : Nat), (34 : Nat), (108 : Nat))]) ∈ lw_all := lw_g (lw_at lw_m2 54 rfl) rfl
theorem q362 : (Jvm.Cond.classLink "PromiseScales" (106 : Nat) "java/lang/NullPointerException") ∈ lw_all := lw_g (lw_at lw_m2 55 rfl) rfl
theorem q387 : (Jvm.Cond.classLink "PromiseScales" (108 : Nat) "java/lang/ArrayIndexOutOfBoundsException") ∈ lw_all := lw_g (lw_at lw_m2 80 rfl) rfl
theorem q406 : (Jvm.Cond.methodLinkNest "PromiseScales" (102 : Nat) ({ cls := "PromiseScales$Shelf", name := "put", desc := "(II)I" } : Jvm.MethodName) "PromiseScales") ∈ lw_tbl := lw_at lw_m2 99 rfl
theorem q418 : (Jvm.Cond.instanceMethod ({ cls := "PromiseScales", name := "copy", desc := "(IIIII)I" } : Jvm.MethodName)) ∈ lw_all := lw_g (lw_at lw_m2 111 rfl) rfl
theorem q419 : (Jvm.Cond.selects "PromiseScales" ({ cls := "PromiseScales", name := "copy", desc := "(IIIII)I" } : Jvm.MethodName) ({ cls := "PromiseScales", name := "copy", desc := "(IIIII)I" } : Jvm.MethodName)) ∈ lw_all := lw_g (lw_at lw_m2 112 rfl) rfl
theorem q420 : (Jvm.Cond.codeWith ({ cls := "PromiseScales", name := "copy", desc := "(IIIII)I" } : Jvm.MethodName) prog_1_method_14_code (7 : Nat) (Option.some Jvm.ClassFile.FieldType.int) [((17 : Nat), (49 : Nat), (50 : Nat), (106 : Nat)), ((17 : Nat), (49 : Nat), (58 : Nat), (116 : Nat)), ((17 : Nat), (49 : Nat), (66 : Nat), (118 : Nat))]) ∈ lw_all := lw_g (lw_at lw_m2 113 rfl) rfl
theorem q421 : (Jvm.Cond.classLink "PromiseScales" (116 : Nat) "java/lang/ArrayStoreException") ∈ lw_all := lw_g (lw_at lw_m2 114 rfl) rfl
theorem q435 : (Jvm.Cond.classLink "PromiseScales" (118 : Nat) "java/lang/IndexOutOfBoundsException") ∈ lw_all := lw_g (lw_at lw_m2 128 rfl) rfl
theorem q436 : (Jvm.Cond.methodLink "PromiseScales" (110 : Nat) ({ cls := "java/lang/System", name := "arraycopy", desc := "(Ljava/lang/Object;ILjava/lang/Object;II)V" } : Jvm.MethodName)) ∈ lw_all := lw_g (lw_at lw_m2 129 rfl) rfl
theorem q440 : (Jvm.Cond.instanceMethod ({ cls := "PromiseScales", name := "drop", desc := "(I)I" } : Jvm.MethodName)) ∈ lw_all := lw_g (lw_at lw_m2 133 rfl) rfl
theorem q441 : (Jvm.Cond.selects "PromiseScales" ({ cls := "PromiseScales", name := "drop", desc := "(I)I" } : Jvm.MethodName) ({ cls := "PromiseScales", name := "drop", desc := "(I)I" } : Jvm.MethodName)) ∈ lw_all := lw_g (lw_at lw_m2 134 rfl) rfl
theorem q442 : (Jvm.Cond.codeWith ({ cls := "PromiseScales", name := "drop", desc := "(I)I" } : Jvm.MethodName) prog_1_method_15_code (5 : Nat) (Option.some Jvm.ClassFile.FieldType.int) [((10 : Nat), (24 : Nat), (36 : Nat), (106 : Nat)), ((10 : Nat), (24 : Nat), (55 : Nat), (0 : Nat)), ((36 : Nat), (43 : Nat), (55 : Nat), (0 : Nat)), ((55 : Nat), (57 : Nat), (55 : Nat), (0 : Nat))]) ∈ lw_all := lw_g (lw_at lw_m2 135 rfl) rfl
theorem q443 : (Jvm.Cond.methodLinkNest "PromiseScales" (120 : Nat) ({ cls := "PromiseScales$Shelf", name := "many", desc := "()I" } : Jvm.MethodName) "PromiseScales") ∈ lw_tbl := lw_at lw_m2 136 rfl
theorem q448 : (Jvm.Cond.instanceMethod ({ cls := "PromiseScales", name := "feed", desc := "(I)I" } : Jvm.MethodName)) ∈ lw_all := lw_g (lw_at lw_m2 141 rfl) rfl
theorem q449 : (Jvm.Cond.selects "PromiseScales" ({ cls := "PromiseScales", name := "feed", desc := "(I)I" } : Jvm.MethodName) ({ cls := "PromiseScales", name := "feed", desc := "(I)I" } : Jvm.MethodName)) ∈ lw_all := lw_g (lw_at lw_m2 142 rfl) rfl
theorem q450 : (Jvm.Cond.code ({ cls := "PromiseScales", name := "feed", desc := "(I)I" } : Jvm.MethodName) prog_1_method_17_code (2 : Nat) (Option.some Jvm.ClassFile.FieldType.int)) ∈ lw_all := lw_g (lw_at lw_m2 143 rfl) rfl
theorem q451 : (Jvm.Cond.constantLong "PromiseScales" (128 : Nat) (255 : Int64)) ∈ lw_all := lw_g (lw_at lw_m2 144 rfl) rfl
theorem q452 : (Jvm.Cond.constant "PromiseScales" (133 : Nat) (-1000003 : Int32)) ∈ lw_all := lw_g (lw_at lw_m2 145 rfl) rfl
theorem q454 : (Jvm.Cond.instanceMethod ({ cls := "PromiseScales", name := "scales", desc := "()I" } : Jvm.MethodName)) ∈ lw_all := lw_g (lw_at lw_m2 147 rfl) rfl
theorem q455 : (Jvm.Cond.selects "PromiseScales" ({ cls := "PromiseScales", name := "scales", desc := "()I" } : Jvm.MethodName) ({ cls := "PromiseScales", name := "scales", desc := "()I" } : Jvm.MethodName)) ∈ lw_all := lw_g (lw_at lw_m2 148 rfl) rfl
theorem q456 : (Jvm.Cond.codeWith ({ cls := "PromiseScales", name := "scales", desc := "()I" } : Jvm.MethodName) prog_1_method_18_code (5 : Nat) (Option.some Jvm.ClassFile.FieldType.int) [((16 : Nat), (20 : Nat), (28 : Nat), (142 : Nat)), ((16 : Nat), (20 : Nat), (52 : Nat), (0 : Nat)), ((28 : Nat), (45 : Nat), (52 : Nat), (0 : Nat)), ((52 : Nat), (54 : Nat), (52 : Nat), (0 : Nat))]) ∈ lw_all := lw_g (lw_at lw_m2 149 rfl) rfl
theorem q457 : (Jvm.Cond.classLink "PromiseScales" (142 : Nat) "PromiseScales$Fault") ∈ lw_all := lw_g (lw_at lw_m2 150 rfl) rfl
theorem q458 : (Jvm.Cond.classLink "PromiseScales" (134 : Nat) "PromiseScales$Reader") ∈ lw_all := lw_g (lw_at lw_m2 151 rfl) rfl
theorem q460 : (Jvm.Cond.methodLink "PromiseScales" (136 : Nat) ({ cls := "PromiseScales$Reader", name := "<init>", desc := "([BI)V" } : Jvm.MethodName)) ∈ lw_all := lw_g (lw_at lw_m2 153 rfl) rfl
theorem q473 : (Jvm.Cond.fieldLink "PromiseScales" (154 : Nat) "PromiseScales$Reader" "made" "LPromiseScales$Scales;") ∈ lw_all := lw_g (lw_at lw_m2 166 rfl) rfl
theorem q489 : (Jvm.Cond.methodLink "PromiseScales" (139 : Nat) ({ cls := "PromiseScales$Reader", name := "all", desc := "()V" } : Jvm.MethodName)) ∈ lw_all := lw_g (lw_at lw_m2 182 rfl) rfl
theorem q534 : (Jvm.Cond.fieldLink "PromiseScales" (144 : Nat) "PromiseScales$Fault" "kind" "I") ∈ lw_all := lw_g (lw_at lw_m2 227 rfl) rfl
theorem q536 : (Jvm.Cond.fieldLink "PromiseScales" (151 : Nat) "PromiseScales$Fault" "place" "I") ∈ lw_all := lw_g (lw_at lw_m2 229 rfl) rfl
theorem q661 : (Jvm.Cond.static ({ cls := "PromiseScales", name := "promiseBy", desc := "(IIIIII)LPromiseScales$Promise;" } : Jvm.MethodName)) ∈ lw_all := lw_g (lw_at lw_m3 114 rfl) rfl
theorem q662 : (Jvm.Cond.code ({ cls := "PromiseScales", name := "promiseBy", desc := "(IIIIII)LPromiseScales$Promise;" } : Jvm.MethodName) prog_1_method_3_code (6 : Nat) (Option.some (Jvm.ClassFile.FieldType.object "PromiseScales$Promise"))) ∈ lw_all := lw_g (lw_at lw_m3 115 rfl) rfl
theorem q663 : (Jvm.Cond.classLink "PromiseScales" (1 : Nat) "PromiseScales$Plain") ∈ lw_all := lw_g (lw_at lw_m3 116 rfl) rfl
theorem q665 : (Jvm.Cond.methodLink "PromiseScales" (3 : Nat) ({ cls := "PromiseScales$Plain", name := "<init>", desc := "(IIIII)V" } : Jvm.MethodName)) ∈ lw_all := lw_g (lw_at lw_m3 118 rfl) rfl
theorem q676 : (Jvm.Cond.fieldLink "PromiseScales" (208 : Nat) "PromiseScales$Promise" "giver" "I") ∈ lw_all := lw_g (lw_at lw_m3 129 rfl) rfl
theorem q679 : (Jvm.Cond.fieldLink "PromiseScales" (220 : Nat) "PromiseScales$Promise" "deed" "I") ∈ lw_all := lw_g (lw_at lw_m3 132 rfl) rfl
theorem q682 : (Jvm.Cond.fieldLink "PromiseScales" (223 : Nat) "PromiseScales$Promise" "day" "I") ∈ lw_all := lw_g (lw_at lw_m3 135 rfl) rfl
theorem q694 : (Jvm.Cond.classLink "PromiseScales" (7 : Nat) "PromiseScales$If") ∈ lw_all := lw_g (lw_at lw_m3 147 rfl) rfl
theorem q696 : (Jvm.Cond.methodLink "PromiseScales" (9 : Nat) ({ cls := "PromiseScales$If", name := "<init>", desc := "(IIIII)V" } : Jvm.MethodName)) ∈ lw_all := lw_g (lw_at lw_m3 149 rfl) rfl
theorem q706 : (Jvm.Cond.classLink "PromiseScales" (10 : Nat) "PromiseScales$Twice") ∈ lw_all := lw_g (lw_at lw_m3 159 rfl) rfl
theorem q708 : (Jvm.Cond.methodLink "PromiseScales" (12 : Nat) ({ cls := "PromiseScales$Twice", name := "<init>", desc := "(IIIII)V" } : Jvm.MethodName)) ∈ lw_all := lw_g (lw_at lw_m3 161 rfl) rfl
theorem q718 : (Jvm.Cond.classLink "PromiseScales" (13 : Nat) "PromiseScales$Oath") ∈ lw_all := lw_g (lw_at lw_m3 171 rfl) rfl
theorem q720 : (Jvm.Cond.methodLink "PromiseScales" (15 : Nat) ({ cls := "PromiseScales$Oath", name := "<init>", desc := "(IIIII)V" } : Jvm.MethodName)) ∈ lw_all := lw_g (lw_at lw_m3 173 rfl) rfl
theorem q730 : (Jvm.Cond.classLink "PromiseScales" (16 : Nat) "PromiseScales$About") ∈ lw_all := lw_g (lw_at lw_m3 183 rfl) rfl
theorem q732 : (Jvm.Cond.methodLink "PromiseScales" (18 : Nat) ({ cls := "PromiseScales$About", name := "<init>", desc := "(IIIII)V" } : Jvm.MethodName)) ∈ lw_all := lw_g (lw_at lw_m3 185 rfl) rfl
theorem q777 : (Jvm.Cond.selects "PromiseScales" ({ cls := "java/lang/Object", name := "getClass", desc := "()Ljava/lang/Class;" } : Jvm.MethodName) ({ cls := "java/lang/Object", name := "getClass", desc := "()Ljava/lang/Class;" } : Jvm.MethodName)) ∈ lw_all := lw_g (lw_at lw_m3 230 rfl) rfl
theorem q807 : (Jvm.Cond.constant "PromiseScales" (150 : Nat) (-1000100 : Int32)) ∈ lw_all := lw_g (lw_at lw_m4 20 rfl) rfl
theorem q808 : (Jvm.Cond.methodLink "PromiseScales" (157 : Nat) ({ cls := "PromiseScales$Scales", name := "become", desc := "(LPromiseScales$Scales;)V" } : Jvm.MethodName)) ∈ lw_all := lw_g (lw_at lw_m4 21 rfl) rfl
theorem q844 : (Jvm.Cond.methodLink "PromiseScales" (164 : Nat) ({ cls := "PromiseScales$Scales", name := "many", desc := "()I" } : Jvm.MethodName)) ∈ lw_all := lw_g (lw_at lw_m4 57 rfl) rfl
theorem q846 : (Jvm.Cond.instanceMethod ({ cls := "PromiseScales", name := "fault", desc := "()I" } : Jvm.MethodName)) ∈ lw_all := lw_g (lw_at lw_m4 59 rfl) rfl
theorem q847 : (Jvm.Cond.selects "PromiseScales" ({ cls := "PromiseScales", name := "fault", desc := "()I" } : Jvm.MethodName) ({ cls := "PromiseScales", name := "fault", desc := "()I" } : Jvm.MethodName)) ∈ lw_all := lw_g (lw_at lw_m4 60 rfl) rfl
theorem q848 : (Jvm.Cond.code ({ cls := "PromiseScales", name := "fault", desc := "()I" } : Jvm.MethodName) prog_1_method_19_code (1 : Nat) (Option.some Jvm.ClassFile.FieldType.int)) ∈ lw_all := lw_g (lw_at lw_m4 61 rfl) rfl
theorem q850 : (Jvm.Cond.instanceMethod ({ cls := "PromiseScales", name := "lay", desc := "(II)I" } : Jvm.MethodName)) ∈ lw_all := lw_g (lw_at lw_m4 63 rfl) rfl
theorem q851 : (Jvm.Cond.selects "PromiseScales" ({ cls := "PromiseScales", name := "lay", desc := "(II)I" } : Jvm.MethodName) ({ cls := "PromiseScales", name := "lay", desc := "(II)I" } : Jvm.MethodName)) ∈ lw_all := lw_g (lw_at lw_m4 64 rfl) rfl
theorem q852 : (Jvm.Cond.code ({ cls := "PromiseScales", name := "lay", desc := "(II)I" } : Jvm.MethodName) prog_1_method_26_code (3 : Nat) (Option.some Jvm.ClassFile.FieldType.int)) ∈ lw_all := lw_g (lw_at lw_m4 65 rfl) rfl
theorem q853 : (Jvm.Cond.methodLink "PromiseScales" (173 : Nat) ({ cls := "PromiseScales", name := "isPromise", desc := "(I)Z" } : Jvm.MethodName)) ∈ lw_all := lw_g (lw_at lw_m4 66 rfl) rfl
theorem q854 : (Jvm.Cond.privateMethod ({ cls := "PromiseScales", name := "isPromise", desc := "(I)Z" } : Jvm.MethodName)) ∈ lw_tbl := lw_at lw_m4 67 rfl
theorem q855 : (Jvm.Cond.instanceMethod ({ cls := "PromiseScales", name := "isPromise", desc := "(I)Z" } : Jvm.MethodName)) ∈ lw_all := lw_g (lw_at lw_m4 68 rfl) rfl
theorem q856 : (Jvm.Cond.code ({ cls := "PromiseScales", name := "isPromise", desc := "(I)Z" } : Jvm.MethodName) prog_1_method_21_code (2 : Nat) (Option.some Jvm.ClassFile.FieldType.boolean)) ∈ lw_all := lw_g (lw_at lw_m4 69 rfl) rfl
theorem q857 : (Jvm.Cond.methodLink "PromiseScales" (176 : Nat) ({ cls := "PromiseScales", name := "isHalf", desc := "(I)Z" } : Jvm.MethodName)) ∈ lw_all := lw_g (lw_at lw_m4 70 rfl) rfl
theorem q858 : (Jvm.Cond.static ({ cls := "PromiseScales", name := "isHalf", desc := "(I)Z" } : Jvm.MethodName)) ∈ lw_all := lw_g (lw_at lw_m4 71 rfl) rfl
theorem q859 : (Jvm.Cond.code ({ cls := "PromiseScales", name := "isHalf", desc := "(I)Z" } : Jvm.MethodName) prog_1_method_24_code (1 : Nat) (Option.some Jvm.ClassFile.FieldType.boolean)) ∈ lw_all := lw_g (lw_at lw_m4 72 rfl) rfl
theorem q860 : (Jvm.Cond.methodLink "PromiseScales" (179 : Nat) ({ cls := "PromiseScales$Scales", name := "isOpen", desc := "(I)Z" } : Jvm.MethodName)) ∈ lw_all := lw_g (lw_at lw_m4 73 rfl) rfl
theorem q864 : (Jvm.Cond.methodLink "PromiseScales" (185 : Nat) ({ cls := "PromiseScales", name := "has", desc := "(II)Z" } : Jvm.MethodName)) ∈ lw_all := lw_g (lw_at lw_m4 77 rfl) rfl
theorem q865 : (Jvm.Cond.static ({ cls := "PromiseScales", name := "has", desc := "(II)Z" } : Jvm.MethodName)) ∈ lw_all := lw_g (lw_at lw_m4 78 rfl) rfl
theorem q866 : (Jvm.Cond.code ({ cls := "PromiseScales", name := "has", desc := "(II)Z" } : Jvm.MethodName) prog_1_method_2_code (2 : Nat) (Option.some Jvm.ClassFile.FieldType.boolean)) ∈ lw_all := lw_g (lw_at lw_m4 79 rfl) rfl
theorem q867 : (Jvm.Cond.constant "PromiseScales" (189 : Nat) (-1000002 : Int32)) ∈ lw_all := lw_g (lw_at lw_m4 80 rfl) rfl
theorem q868 : (Jvm.Cond.methodLink "PromiseScales" (190 : Nat) ({ cls := "PromiseScales", name := "keep", desc := "()V" } : Jvm.MethodName)) ∈ lw_all := lw_g (lw_at lw_m4 81 rfl) rfl
theorem q869 : (Jvm.Cond.privateMethod ({ cls := "PromiseScales", name := "keep", desc := "()V" } : Jvm.MethodName)) ∈ lw_tbl := lw_at lw_m4 82 rfl
theorem q870 : (Jvm.Cond.instanceMethod ({ cls := "PromiseScales", name := "keep", desc := "()V" } : Jvm.MethodName)) ∈ lw_all := lw_g (lw_at lw_m4 83 rfl) rfl
theorem q871 : (Jvm.Cond.code ({ cls := "PromiseScales", name := "keep", desc := "()V" } : Jvm.MethodName) prog_1_method_25_code (3 : Nat) (Option.none : Option Jvm.ClassFile.FieldType)) ∈ lw_all := lw_g (lw_at lw_m4 84 rfl) rfl
theorem q872 : (Jvm.Cond.methodLink "PromiseScales" (193 : Nat) ({ cls := "PromiseScales$Scales", name := "reads", desc := "(I)I" } : Jvm.MethodName)) ∈ lw_all := lw_g (lw_at lw_m4 85 rfl) rfl
theorem q918 : (Jvm.Cond.static ({ cls := "PromiseScales", name := "readsBy", desc := "(III)I" } : Jvm.MethodName)) ∈ lw_all := lw_g (lw_at lw_m4 131 rfl) rfl
theorem q919 : (Jvm.Cond.code ({ cls := "PromiseScales", name := "readsBy", desc := "(III)I" } : Jvm.MethodName) prog_1_method_5_code (3 : Nat) (Option.some Jvm.ClassFile.FieldType.int)) ∈ lw_all := lw_g (lw_at lw_m4 132 rfl) rfl
theorem q921 : (Jvm.Cond.instanceMethod ({ cls := "PromiseScales", name := "settle", desc := "(II)I" } : Jvm.MethodName)) ∈ lw_all := lw_g (lw_at lw_m4 134 rfl) rfl
theorem q922 : (Jvm.Cond.selects "PromiseScales" ({ cls := "PromiseScales", name := "settle", desc := "(II)I" } : Jvm.MethodName) ({ cls := "PromiseScales", name := "settle", desc := "(II)I" } : Jvm.MethodName)) ∈ lw_all := lw_g (lw_at lw_m4 135 rfl) rfl
theorem q923 : (Jvm.Cond.code ({ cls := "PromiseScales", name := "settle", desc := "(II)I" } : Jvm.MethodName) prog_1_method_27_code (3 : Nat) (Option.some Jvm.ClassFile.FieldType.int)) ∈ lw_all := lw_g (lw_at lw_m4 136 rfl) rfl
theorem q924 : (Jvm.Cond.methodLink "PromiseScales" (196 : Nat) ({ cls := "PromiseScales$Scales", name := "settle", desc := "(IZ)V" } : Jvm.MethodName)) ∈ lw_all := lw_g (lw_at lw_m4 137 rfl) rfl
theorem q930 : (Jvm.Cond.methodLink "PromiseScales" (204 : Nat) ({ cls := "PromiseScales$Scales", name := "promise", desc := "(I)LPromiseScales$Promise;" } : Jvm.MethodName)) ∈ lw_all := lw_g (lw_at lw_m4 143 rfl) rfl
theorem q932 : (Jvm.Cond.instanceMethod ({ cls := "PromiseScales", name := "wax", desc := "(I)I" } : Jvm.MethodName)) ∈ lw_all := lw_g (lw_at lw_m4 145 rfl) rfl
theorem q933 : (Jvm.Cond.selects "PromiseScales" ({ cls := "PromiseScales", name := "wax", desc := "(I)I" } : Jvm.MethodName) ({ cls := "PromiseScales", name := "wax", desc := "(I)I" } : Jvm.MethodName)) ∈ lw_all := lw_g (lw_at lw_m4 146 rfl) rfl
theorem q934 : (Jvm.Cond.code ({ cls := "PromiseScales", name := "wax", desc := "(I)I" } : Jvm.MethodName) prog_1_method_28_code (3 : Nat) (Option.some Jvm.ClassFile.FieldType.int)) ∈ lw_all := lw_g (lw_at lw_m4 147 rfl) rfl
theorem q935 : (Jvm.Cond.methodLink "PromiseScales" (211 : Nat) ({ cls := "PromiseScales", name := "isThere", desc := "()Z" } : Jvm.MethodName)) ∈ lw_all := lw_g (lw_at lw_m4 148 rfl) rfl
theorem q936 : (Jvm.Cond.privateMethod ({ cls := "PromiseScales", name := "isThere", desc := "()Z" } : Jvm.MethodName)) ∈ lw_tbl := lw_at lw_m4 149 rfl
theorem q937 : (Jvm.Cond.instanceMethod ({ cls := "PromiseScales", name := "isThere", desc := "()Z" } : Jvm.MethodName)) ∈ lw_all := lw_g (lw_at lw_m4 150 rfl) rfl
theorem q938 : (Jvm.Cond.code ({ cls := "PromiseScales", name := "isThere", desc := "()Z" } : Jvm.MethodName) prog_1_method_20_code (1 : Nat) (Option.some Jvm.ClassFile.FieldType.boolean)) ∈ lw_all := lw_g (lw_at lw_m4 151 rfl) rfl
theorem q939 : (Jvm.Cond.constantLong "PromiseScales" (215 : Nat) (9 : Int64)) ∈ lw_all := lw_g (lw_at lw_m4 152 rfl) rfl
theorem q941 : (Jvm.Cond.instanceMethod ({ cls := "PromiseScales", name := "undo", desc := "()I" } : Jvm.MethodName)) ∈ lw_all := lw_g (lw_at lw_m4 154 rfl) rfl
theorem q942 : (Jvm.Cond.selects "PromiseScales" ({ cls := "PromiseScales", name := "undo", desc := "()I" } : Jvm.MethodName) ({ cls := "PromiseScales", name := "undo", desc := "()I" } : Jvm.MethodName)) ∈ lw_all := lw_g (lw_at lw_m4 155 rfl) rfl
theorem q943 : (Jvm.Cond.code ({ cls := "PromiseScales", name := "undo", desc := "()I" } : Jvm.MethodName) prog_1_method_29_code (1 : Nat) (Option.some Jvm.ClassFile.FieldType.int)) ∈ lw_all := lw_g (lw_at lw_m4 156 rfl) rfl
theorem q945 : (Jvm.Cond.instanceMethod ({ cls := "PromiseScales", name := "promise", desc := "(II)I" } : Jvm.MethodName)) ∈ lw_all := lw_g (lw_at lw_m4 158 rfl) rfl
theorem q946 : (Jvm.Cond.selects "PromiseScales" ({ cls := "PromiseScales", name := "promise", desc := "(II)I" } : Jvm.MethodName) ({ cls := "PromiseScales", name := "promise", desc := "(II)I" } : Jvm.MethodName)) ∈ lw_all := lw_g (lw_at lw_m4 159 rfl) rfl
theorem q947 : (Jvm.Cond.code ({ cls := "PromiseScales", name := "promise", desc := "(II)I" } : Jvm.MethodName) prog_1_method_30_code (4 : Nat) (Option.some Jvm.ClassFile.FieldType.int)) ∈ lw_all := lw_g (lw_at lw_m4 160 rfl) rfl
theorem q948 : (Jvm.Cond.methodLink "PromiseScales" (226 : Nat) ({ cls := "PromiseScales$Promise", name := "likely", desc := "()I" } : Jvm.MethodName)) ∈ lw_all := lw_g (lw_at lw_m4 161 rfl) rfl
theorem q957 : (Jvm.Cond.methodLink "PromiseScales" (229 : Nat) ({ cls := "PromiseScales$Scales", name := "weight", desc := "(I)I" } : Jvm.MethodName)) ∈ lw_all := lw_g (lw_at lw_m4 170 rfl) rfl
theorem q959 : (Jvm.Cond.instanceMethod ({ cls := "PromiseScales", name := "keeps", desc := "(I)I" } : Jvm.MethodName)) ∈ lw_all := lw_g (lw_at lw_m4 172 rfl) rfl
theorem q960 : (Jvm.Cond.selects "PromiseScales" ({ cls := "PromiseScales", name := "keeps", desc := "(I)I" } : Jvm.MethodName) ({ cls := "PromiseScales", name := "keeps", desc := "(I)I" } : Jvm.MethodName)) ∈ lw_all := lw_g (lw_at lw_m4 173 rfl) rfl
theorem q961 : (Jvm.Cond.code ({ cls := "PromiseScales", name := "keeps", desc := "(I)I" } : Jvm.MethodName) prog_1_method_31_code (2 : Nat) (Option.some Jvm.ClassFile.FieldType.int)) ∈ lw_all := lw_g (lw_at lw_m4 174 rfl) rfl
theorem q962 : (Jvm.Cond.methodLink "PromiseScales" (235 : Nat) ({ cls := "PromiseScales", name := "isGiver", desc := "(I)Z" } : Jvm.MethodName)) ∈ lw_all := lw_g (lw_at lw_m4 175 rfl) rfl
theorem q963 : (Jvm.Cond.privateMethod ({ cls := "PromiseScales", name := "isGiver", desc := "(I)Z" } : Jvm.MethodName)) ∈ lw_tbl := lw_at lw_m4 176 rfl
theorem q964 : (Jvm.Cond.instanceMethod ({ cls := "PromiseScales", name := "isGiver", desc := "(I)Z" } : Jvm.MethodName)) ∈ lw_all := lw_g (lw_at lw_m4 177 rfl) rfl
theorem q965 : (Jvm.Cond.code ({ cls := "PromiseScales", name := "isGiver", desc := "(I)Z" } : Jvm.MethodName) prog_1_method_22_code (2 : Nat) (Option.some Jvm.ClassFile.FieldType.boolean)) ∈ lw_all := lw_g (lw_at lw_m4 178 rfl) rfl
theorem q967 : (Jvm.Cond.instanceMethod ({ cls := "PromiseScales", name := "reads", desc := "(I)I" } : Jvm.MethodName)) ∈ lw_all := lw_g (lw_at lw_m4 180 rfl) rfl
theorem q968 : (Jvm.Cond.selects "PromiseScales" ({ cls := "PromiseScales", name := "reads", desc := "(I)I" } : Jvm.MethodName) ({ cls := "PromiseScales", name := "reads", desc := "(I)I" } : Jvm.MethodName)) ∈ lw_all := lw_g (lw_at lw_m4 181 rfl) rfl
theorem q969 : (Jvm.Cond.code ({ cls := "PromiseScales", name := "reads", desc := "(I)I" } : Jvm.MethodName) prog_1_method_32_code (2 : Nat) (Option.some Jvm.ClassFile.FieldType.int)) ∈ lw_all := lw_g (lw_at lw_m4 182 rfl) rfl
theorem q970 : (Jvm.Cond.methodLink "PromiseScales" (238 : Nat) ({ cls := "PromiseScales", name := "isSet", desc := "(I)Z" } : Jvm.MethodName)) ∈ lw_all := lw_g (lw_at lw_m4 183 rfl) rfl
theorem q971 : (Jvm.Cond.privateMethod ({ cls := "PromiseScales", name := "isSet", desc := "(I)Z" } : Jvm.MethodName)) ∈ lw_tbl := lw_at lw_m4 184 rfl
theorem q972 : (Jvm.Cond.instanceMethod ({ cls := "PromiseScales", name := "isSet", desc := "(I)Z" } : Jvm.MethodName)) ∈ lw_all := lw_g (lw_at lw_m4 185 rfl) rfl
theorem q973 : (Jvm.Cond.code ({ cls := "PromiseScales", name := "isSet", desc := "(I)Z" } : Jvm.MethodName) prog_1_method_23_code (2 : Nat) (Option.some Jvm.ClassFile.FieldType.boolean)) ∈ lw_all := lw_g (lw_at lw_m4 186 rfl) rfl
theorem q974 : (Jvm.Cond.methodLink "PromiseScales" (171 : Nat) ({ cls := "PromiseScales$Scales", name := "all", desc := "()I" } : Jvm.MethodName)) ∈ lw_all := lw_g (lw_at lw_m4 187 rfl) rfl
theorem q979 : (Jvm.Cond.instanceMethod ({ cls := "PromiseScales", name := "clash", desc := "(I)I" } : Jvm.MethodName)) ∈ lw_all := lw_g (lw_at lw_m4 192 rfl) rfl
theorem q980 : (Jvm.Cond.selects "PromiseScales" ({ cls := "PromiseScales", name := "clash", desc := "(I)I" } : Jvm.MethodName) ({ cls := "PromiseScales", name := "clash", desc := "(I)I" } : Jvm.MethodName)) ∈ lw_all := lw_g (lw_at lw_m4 193 rfl) rfl
theorem q981 : (Jvm.Cond.code ({ cls := "PromiseScales", name := "clash", desc := "(I)I" } : Jvm.MethodName) prog_1_method_33_code (6 : Nat) (Option.some Jvm.ClassFile.FieldType.int)) ∈ lw_all := lw_g (lw_at lw_m4 194 rfl) rfl
theorem q982 : (Jvm.Cond.constant "PromiseScales" (241 : Nat) (-1000000 : Int32)) ∈ lw_all := lw_g (lw_at lw_m4 195 rfl) rfl
theorem q983 : (Jvm.Cond.methodLink "PromiseScales" (242 : Nat) ({ cls := "PromiseScales$Scales", name := "isClash", desc := "(II)Z" } : Jvm.MethodName)) ∈ lw_all := lw_g (lw_at lw_m4 196 rfl) rfl
theorem q988 : (Jvm.Cond.instanceMethod ({ cls := "PromiseScales", name := "bags", desc := "(II)I" } : Jvm.MethodName)) ∈ lw_all := lw_g (lw_at lw_m4 201 rfl) rfl
theorem q989 : (Jvm.Cond.selects "PromiseScales" ({ cls := "PromiseScales", name := "bags", desc := "(II)I" } : Jvm.MethodName) ({ cls := "PromiseScales", name := "bags", desc := "(II)I" } : Jvm.MethodName)) ∈ lw_all := lw_g (lw_at lw_m4 202 rfl) rfl
theorem q990 : (Jvm.Cond.code ({ cls := "PromiseScales", name := "bags", desc := "(II)I" } : Jvm.MethodName) prog_1_method_35_code (6 : Nat) (Option.some Jvm.ClassFile.FieldType.int)) ∈ lw_all := lw_g (lw_at lw_m4 203 rfl) rfl
theorem q991 : (Jvm.Cond.constantLong "PromiseScales" (248 : Nat) (200 : Int64)) ∈ lw_all := lw_g (lw_at lw_m4 204 rfl) rfl
theorem q992 : (Jvm.Cond.methodLink "PromiseScales" (250 : Nat) ({ cls := "PromiseScales", name := "isBag", desc := "(I)Z" } : Jvm.MethodName)) ∈ lw_all := lw_g (lw_at lw_m4 205 rfl) rfl
theorem q993 : (Jvm.Cond.privateMethod ({ cls := "PromiseScales", name := "isBag", desc := "(I)Z" } : Jvm.MethodName)) ∈ lw_tbl := lw_at lw_m4 206 rfl
theorem q994 : (Jvm.Cond.instanceMethod ({ cls := "PromiseScales", name := "isBag", desc := "(I)Z" } : Jvm.MethodName)) ∈ lw_all := lw_g (lw_at lw_m4 207 rfl) rfl
theorem q995 : (Jvm.Cond.code ({ cls := "PromiseScales", name := "isBag", desc := "(I)Z" } : Jvm.MethodName) prog_1_method_34_code (4 : Nat) (Option.some Jvm.ClassFile.FieldType.boolean)) ∈ lw_all := lw_g (lw_at lw_m4 208 rfl) rfl
theorem q996 : (Jvm.Cond.methodLink "PromiseScales" (245 : Nat) ({ cls := "PromiseScales$Scales", name := "open", desc := "()I" } : Jvm.MethodName)) ∈ lw_all := lw_g (lw_at lw_m4 209 rfl) rfl
theorem q1000 : (Jvm.Cond.methodLink "PromiseScales" (253 : Nat) ({ cls := "java/lang/Integer", name := "bitCount", desc := "(I)I" } : Jvm.MethodName)) ∈ lw_all := lw_g (lw_at lw_m4 213 rfl) rfl
theorem q1007 : (Jvm.Cond.instanceMethod ({ cls := "PromiseScales", name := "heaviest", desc := "(II)I" } : Jvm.MethodName)) ∈ lw_all := lw_g (lw_at lw_m4 220 rfl) rfl
theorem q1008 : (Jvm.Cond.selects "PromiseScales" ({ cls := "PromiseScales", name := "heaviest", desc := "(II)I" } : Jvm.MethodName) ({ cls := "PromiseScales", name := "heaviest", desc := "(II)I" } : Jvm.MethodName)) ∈ lw_all := lw_g (lw_at lw_m4 221 rfl) rfl
theorem q1009 : (Jvm.Cond.code ({ cls := "PromiseScales", name := "heaviest", desc := "(II)I" } : Jvm.MethodName) prog_1_method_36_code (6 : Nat) (Option.some Jvm.ClassFile.FieldType.int)) ∈ lw_all := lw_g (lw_at lw_m4 222 rfl) rfl
theorem q1010 : (Jvm.Cond.constantLong "PromiseScales" (258 : Nat) (8 : Int64)) ∈ lw_all := lw_g (lw_at lw_m4 223 rfl) rfl
theorem q1012 : (Jvm.Cond.instanceMethod ({ cls := "PromiseScales", name := "worded", desc := "(II)I" } : Jvm.MethodName)) ∈ lw_all := lw_g (lw_at lw_m4 225 rfl) rfl
theorem q1013 : (Jvm.Cond.selects "PromiseScales" ({ cls := "PromiseScales", name := "worded", desc := "(II)I" } : Jvm.MethodName) ({ cls := "PromiseScales", name := "worded", desc := "(II)I" } : Jvm.MethodName)) ∈ lw_all := lw_g (lw_at lw_m4 226 rfl) rfl
theorem q1014 : (Jvm.Cond.code ({ cls := "PromiseScales", name := "worded", desc := "(II)I" } : Jvm.MethodName) prog_1_method_38_code (7 : Nat) (Option.some Jvm.ClassFile.FieldType.int)) ∈ lw_all := lw_g (lw_at lw_m4 227 rfl) rfl
theorem q1015 : (Jvm.Cond.constantLong "PromiseScales" (267 : Nat) (5 : Int64)) ∈ lw_all := lw_g (lw_at lw_m4 228 rfl) rfl
theorem q1016 : (Jvm.Cond.methodLink "PromiseScales" (269 : Nat) ({ cls := "PromiseScales", name := "wordedAs", desc := "(II)I" } : Jvm.MethodName)) ∈ lw_all := lw_g (lw_at lw_m4 229 rfl) rfl
theorem q1017 : (Jvm.Cond.privateMethod ({ cls := "PromiseScales", name := "wordedAs", desc := "(II)I" } : Jvm.MethodName)) ∈ lw_tbl := lw_at lw_m4 230 rfl
theorem q1018 : (Jvm.Cond.instanceMethod ({ cls := "PromiseScales", name := "wordedAs", desc := "(II)I" } : Jvm.MethodName)) ∈ lw_all := lw_g (lw_at lw_m4 231 rfl) rfl
theorem q1019 : (Jvm.Cond.code ({ cls := "PromiseScales", name := "wordedAs", desc := "(II)I" } : Jvm.MethodName) prog_1_method_37_code (5 : Nat) (Option.some Jvm.ClassFile.FieldType.int)) ∈ lw_all := lw_g (lw_at lw_m4 232 rfl) rfl
theorem q1020 : (Jvm.Cond.methodLink "PromiseScales" (260 : Nat) ({ cls := "PromiseScales", name := "promiseBy", desc := "(IIIIII)LPromiseScales$Promise;" } : Jvm.MethodName)) ∈ lw_all := lw_g (lw_at lw_m4 233 rfl) rfl
theorem q1021 : (Jvm.Cond.methodLink "PromiseScales" (264 : Nat) ({ cls := "PromiseScales$Promise", name := "weighs", desc := "(II)I" } : Jvm.MethodName)) ∈ lw_all := lw_g (lw_at lw_m4 234 rfl) rfl
theorem q1022 : (Jvm.Cond.methodLink "PromiseScales" (272 : Nat) ({ cls := "java/lang/Math", name := "max", desc := "(II)I" } : Jvm.MethodName)) ∈ lw_all := lw_g (lw_at lw_m4 235 rfl) rfl
theorem q1024 : (Jvm.Cond.instanceMethod ({ cls := "PromiseScales", name := "price", desc := "(II)I" } : Jvm.MethodName)) ∈ lw_all := lw_g (lw_at lw_m4 237 rfl) rfl
theorem q1025 : (Jvm.Cond.selects "PromiseScales" ({ cls := "PromiseScales", name := "price", desc := "(II)I" } : Jvm.MethodName) ({ cls := "PromiseScales", name := "price", desc := "(II)I" } : Jvm.MethodName)) ∈ lw_all := lw_g (lw_at lw_m4 238 rfl) rfl
theorem q1026 : (Jvm.Cond.code ({ cls := "PromiseScales", name := "price", desc := "(II)I" } : Jvm.MethodName) prog_1_method_40_code (3 : Nat) (Option.some Jvm.ClassFile.FieldType.int)) ∈ lw_all := lw_g (lw_at lw_m4 239 rfl) rfl
theorem q1027 : (Jvm.Cond.constantLong "PromiseScales" (277 : Nat) (999 : Int64)) ∈ lw_all := lw_g (lw_at lw_m5 0 rfl) rfl
theorem q1028 : (Jvm.Cond.methodLink "PromiseScales" (279 : Nat) ({ cls := "PromiseScales", name := "priceOf", desc := "(II)I" } : Jvm.MethodName)) ∈ lw_all := lw_g (lw_at lw_m5 1 rfl) rfl
theorem q1029 : (Jvm.Cond.privateMethod ({ cls := "PromiseScales", name := "priceOf", desc := "(II)I" } : Jvm.MethodName)) ∈ lw_tbl := lw_at lw_m5 2 rfl
theorem q1030 : (Jvm.Cond.instanceMethod ({ cls := "PromiseScales", name := "priceOf", desc := "(II)I" } : Jvm.MethodName)) ∈ lw_all := lw_g (lw_at lw_m5 3 rfl) rfl
theorem q1031 : (Jvm.Cond.code ({ cls := "PromiseScales", name := "priceOf", desc := "(II)I" } : Jvm.MethodName) prog_1_method_39_code (3 : Nat) (Option.some Jvm.ClassFile.FieldType.int)) ∈ lw_all := lw_g (lw_at lw_m5 4 rfl) rfl
theorem q1033 : (Jvm.Cond.instanceMethod ({ cls := "PromiseScales", name := "prices", desc := "(II)I" } : Jvm.MethodName)) ∈ lw_all := lw_g (lw_at lw_m5 6 rfl) rfl
theorem q1034 : (Jvm.Cond.selects "PromiseScales" ({ cls := "PromiseScales", name := "prices", desc := "(II)I" } : Jvm.MethodName) ({ cls := "PromiseScales", name := "prices", desc := "(II)I" } : Jvm.MethodName)) ∈ lw_all := lw_g (lw_at lw_m5 7 rfl) rfl
theorem q1035 : (Jvm.Cond.code ({ cls := "PromiseScales", name := "prices", desc := "(II)I" } : Jvm.MethodName) prog_1_method_41_code (5 : Nat) (Option.some Jvm.ClassFile.FieldType.int)) ∈ lw_all := lw_g (lw_at lw_m5 8 rfl) rfl
theorem q1037 : (Jvm.Cond.instanceMethod ({ cls := "PromiseScales", name := "settles", desc := "(III)I" } : Jvm.MethodName)) ∈ lw_all := lw_g (lw_at lw_m5 10 rfl) rfl
theorem q1038 : (Jvm.Cond.selects "PromiseScales" ({ cls := "PromiseScales", name := "settles", desc := "(III)I" } : Jvm.MethodName) ({ cls := "PromiseScales", name := "settles", desc := "(III)I" } : Jvm.MethodName)) ∈ lw_all := lw_g (lw_at lw_m5 11 rfl) rfl
theorem q1039 : (Jvm.Cond.code ({ cls := "PromiseScales", name := "settles", desc := "(III)I" } : Jvm.MethodName) prog_1_method_43_code (6 : Nat) (Option.some Jvm.ClassFile.FieldType.int)) ∈ lw_all := lw_g (lw_at lw_m5 12 rfl) rfl
theorem q1040 : (Jvm.Cond.constantLong "PromiseScales" (282 : Nat) (20 : Int64)) ∈ lw_all := lw_g (lw_at lw_m5 13 rfl) rfl
theorem q1041 : (Jvm.Cond.methodLink "PromiseScales" (284 : Nat) ({ cls := "PromiseScales", name := "goOn", desc := "(I)V" } : Jvm.MethodName)) ∈ lw_all := lw_g (lw_at lw_m5 14 rfl) rfl
theorem q1042 : (Jvm.Cond.privateMethod ({ cls := "PromiseScales", name := "goOn", desc := "(I)V" } : Jvm.MethodName)) ∈ lw_tbl := lw_at lw_m5 15 rfl
theorem q1043 : (Jvm.Cond.instanceMethod ({ cls := "PromiseScales", name := "goOn", desc := "(I)V" } : Jvm.MethodName)) ∈ lw_all := lw_g (lw_at lw_m5 16 rfl) rfl
theorem q1044 : (Jvm.Cond.code ({ cls := "PromiseScales", name := "goOn", desc := "(I)V" } : Jvm.MethodName) prog_1_method_42_code (4 : Nat) (Option.none : Option Jvm.ClassFile.FieldType)) ∈ lw_all := lw_g (lw_at lw_m5 17 rfl) rfl
theorem q1046 : (Jvm.Cond.instanceMethod ({ cls := "PromiseScales", name := "bestHeavy", desc := "(I)I" } : Jvm.MethodName)) ∈ lw_all := lw_g (lw_at lw_m5 19 rfl) rfl
theorem q1047 : (Jvm.Cond.selects "PromiseScales" ({ cls := "PromiseScales", name := "bestHeavy", desc := "(I)I" } : Jvm.MethodName) ({ cls := "PromiseScales", name := "bestHeavy", desc := "(I)I" } : Jvm.MethodName)) ∈ lw_all := lw_g (lw_at lw_m5 20 rfl) rfl
theorem q1048 : (Jvm.Cond.code ({ cls := "PromiseScales", name := "bestHeavy", desc := "(I)I" } : Jvm.MethodName) prog_1_method_44_code (5 : Nat) (Option.some Jvm.ClassFile.FieldType.int)) ∈ lw_all := lw_g (lw_at lw_m5 21 rfl) rfl
theorem q1050 : (Jvm.Cond.instanceMethod ({ cls := "PromiseScales", name := "found", desc := "(IIII)I" } : Jvm.MethodName)) ∈ lw_all := lw_g (lw_at lw_m5 23 rfl) rfl
theorem q1051 : (Jvm.Cond.selects "PromiseScales" ({ cls := "PromiseScales", name := "found", desc := "(IIII)I" } : Jvm.MethodName) ({ cls := "PromiseScales", name := "found", desc := "(IIII)I" } : Jvm.MethodName)) ∈ lw_all := lw_g (lw_at lw_m5 24 rfl) rfl
theorem q1052 : (Jvm.Cond.codeWith ({ cls := "PromiseScales", name := "found", desc := "(IIII)I" } : Jvm.MethodName) prog_1_method_47_code (7 : Nat) (Option.some Jvm.ClassFile.FieldType.int) [((40 : Nat), (76 : Nat), (96 : Nat), (106 : Nat)), ((77 : Nat), (95 : Nat), (96 : Nat), (106 : Nat)), ((40 : Nat), (76 : Nat), (104 : Nat), (108 : Nat)), ((77 : Nat), (95 : Nat), (104 : Nat), (108 : Nat))]) ∈ lw_all := lw_g (lw_at lw_m5 25 rfl) rfl
theorem q1053 : (Jvm.Cond.methodLink "PromiseScales" (299 : Nat) ({ cls := "PromiseScales", name := "items", desc := "(III)[I" } : Jvm.MethodName)) ∈ lw_all := lw_g (lw_at lw_m5 26 rfl) rfl
theorem q1054 : (Jvm.Cond.privateMethod ({ cls := "PromiseScales", name := "items", desc := "(III)[I" } : Jvm.MethodName)) ∈ lw_tbl := lw_at lw_m5 27 rfl
theorem q1055 : (Jvm.Cond.instanceMethod ({ cls := "PromiseScales", name := "items", desc := "(III)[I" } : Jvm.MethodName)) ∈ lw_all := lw_g (lw_at lw_m5 28 rfl) rfl
theorem q1056 : (Jvm.Cond.code ({ cls := "PromiseScales", name := "items", desc := "(III)[I" } : Jvm.MethodName) prog_1_method_16_code (7 : Nat) (Option.some (Jvm.ClassFile.FieldType.array Jvm.ClassFile.FieldType.int))) ∈ lw_all := lw_g (lw_at lw_m5 29 rfl) rfl
theorem q1057 : (Jvm.Cond.methodLink "PromiseScales" (124 : Nat) ({ cls := "java/lang/ArrayIndexOutOfBoundsException", name := "<init>", desc := "()V" } : Jvm.MethodName)) ∈ lw_all := lw_g (lw_at lw_m5 30 rfl) rfl
theorem q1064 : (Jvm.Cond.methodLinkNest "PromiseScales" (125 : Nat) ({ cls := "PromiseScales$Shelf", name := "at", desc := "(I)I" } : Jvm.MethodName) "PromiseScales") ∈ lw_tbl := lw_at lw_m5 37 rfl
theorem q1065 : (Jvm.Cond.methodLink "PromiseScales" (303 : Nat) ({ cls := "PromiseScales", name := "foundBy", desc := "([II)I" } : Jvm.MethodName)) ∈ lw_all := lw_g (lw_at lw_m5 38 rfl) rfl
theorem q1066 : (Jvm.Cond.privateMethod ({ cls := "PromiseScales", name := "foundBy", desc := "([II)I" } : Jvm.MethodName)) ∈ lw_tbl := lw_at lw_m5 39 rfl
theorem q1067 : (Jvm.Cond.instanceMethod ({ cls := "PromiseScales", name := "foundBy", desc := "([II)I" } : Jvm.MethodName)) ∈ lw_all := lw_g (lw_at lw_m5 40 rfl) rfl
theorem q1068 : (Jvm.Cond.code ({ cls := "PromiseScales", name := "foundBy", desc := "([II)I" } : Jvm.MethodName) prog_1_method_46_code (5 : Nat) (Option.some Jvm.ClassFile.FieldType.int)) ∈ lw_all := lw_g (lw_at lw_m5 41 rfl) rfl
theorem q1069 : (Jvm.Cond.methodLink "PromiseScales" (295 : Nat) ({ cls := "PromiseScales", name := "isSo", desc := "([III)Z" } : Jvm.MethodName)) ∈ lw_all := lw_g (lw_at lw_m5 42 rfl) rfl
theorem q1070 : (Jvm.Cond.privateMethod ({ cls := "PromiseScales", name := "isSo", desc := "([III)Z" } : Jvm.MethodName)) ∈ lw_tbl := lw_at lw_m5 43 rfl
theorem q1071 : (Jvm.Cond.instanceMethod ({ cls := "PromiseScales", name := "isSo", desc := "([III)Z" } : Jvm.MethodName)) ∈ lw_all := lw_g (lw_at lw_m5 44 rfl) rfl
theorem q1072 : (Jvm.Cond.code ({ cls := "PromiseScales", name := "isSo", desc := "([III)Z" } : Jvm.MethodName) prog_1_method_45_code (5 : Nat) (Option.some Jvm.ClassFile.FieldType.boolean)) ∈ lw_all := lw_g (lw_at lw_m5 45 rfl) rfl
theorem q1073 : (Jvm.Cond.methodLink "PromiseScales" (288 : Nat) ({ cls := "PromiseScales$Scales", name := "weightOf", desc := "(I)I" } : Jvm.MethodName)) ∈ lw_all := lw_g (lw_at lw_m5 46 rfl) rfl
theorem q1074 : (Jvm.Cond.methodLink "PromiseScales" (291 : Nat) ({ cls := "PromiseScales", name := "readsBy", desc := "(III)I" } : Jvm.MethodName)) ∈ lw_all := lw_g (lw_at lw_m5 47 rfl) rfl
theorem q1076 : (Jvm.Cond.instanceMethod ({ cls := "PromiseScales", name := "keepsFound", desc := "(III)I" } : Jvm.MethodName)) ∈ lw_all := lw_g (lw_at lw_m5 49 rfl) rfl
theorem q1077 : (Jvm.Cond.selects "PromiseScales" ({ cls := "PromiseScales", name := "keepsFound", desc := "(III)I" } : Jvm.MethodName) ({ cls := "PromiseScales", name := "keepsFound", desc := "(III)I" } : Jvm.MethodName)) ∈ lw_all := lw_g (lw_at lw_m5 50 rfl) rfl
theorem q1078 : (Jvm.Cond.codeWith ({ cls := "PromiseScales", name := "keepsFound", desc := "(III)I" } : Jvm.MethodName) prog_1_method_50_code (6 : Nat) (Option.some Jvm.ClassFile.FieldType.int) [((62 : Nat), (79 : Nat), (80 : Nat), (106 : Nat)), ((62 : Nat), (79 : Nat), (88 : Nat), (108 : Nat))]) ∈ lw_all := lw_g (lw_at lw_m5 51 rfl) rfl
theorem q1079 : (Jvm.Cond.methodLink "PromiseScales" (309 : Nat) ({ cls := "PromiseScales", name := "isPlainOf", desc := "(II)Z" } : Jvm.MethodName)) ∈ lw_all := lw_g (lw_at lw_m5 52 rfl) rfl
theorem q1080 : (Jvm.Cond.privateMethod ({ cls := "PromiseScales", name := "isPlainOf", desc := "(II)Z" } : Jvm.MethodName)) ∈ lw_tbl := lw_at lw_m5 53 rfl
theorem q1081 : (Jvm.Cond.instanceMethod ({ cls := "PromiseScales", name := "isPlainOf", desc := "(II)Z" } : Jvm.MethodName)) ∈ lw_all := lw_g (lw_at lw_m5 54 rfl) rfl
theorem q1082 : (Jvm.Cond.code ({ cls := "PromiseScales", name := "isPlainOf", desc := "(II)Z" } : Jvm.MethodName) prog_1_method_48_code (3 : Nat) (Option.some Jvm.ClassFile.FieldType.boolean)) ∈ lw_all := lw_g (lw_at lw_m5 55 rfl) rfl
theorem q1083 : (Jvm.Cond.methodLink "PromiseScales" (307 : Nat) ({ cls := "PromiseScales$Promise", name := "kind", desc := "()I" } : Jvm.MethodName)) ∈ lw_all := lw_g (lw_at lw_m5 56 rfl) rfl
theorem q1101 : (Jvm.Cond.methodLink "PromiseScales" (312 : Nat) ({ cls := "PromiseScales", name := "keepsBy", desc := "(I[I)I" } : Jvm.MethodName)) ∈ lw_all := lw_g (lw_at lw_m5 74 rfl) rfl
theorem q1102 : (Jvm.Cond.privateMethod ({ cls := "PromiseScales", name := "keepsBy", desc := "(I[I)I" } : Jvm.MethodName)) ∈ lw_tbl := lw_at lw_m5 75 rfl
theorem q1103 : (Jvm.Cond.instanceMethod ({ cls := "PromiseScales", name := "keepsBy", desc := "(I[I)I" } : Jvm.MethodName)) ∈ lw_all := lw_g (lw_at lw_m5 76 rfl) rfl
theorem q1104 : (Jvm.Cond.code ({ cls := "PromiseScales", name := "keepsBy", desc := "(I[I)I" } : Jvm.MethodName) prog_1_method_49_code (8 : Nat) (Option.some Jvm.ClassFile.FieldType.int)) ∈ lw_all := lw_g (lw_at lw_m5 77 rfl) rfl
theorem q1106 : (Jvm.Cond.instanceMethod ({ cls := "PromiseScales", name := "free", desc := "(III)I" } : Jvm.MethodName)) ∈ lw_all := lw_g (lw_at lw_m5 79 rfl) rfl
theorem q1107 : (Jvm.Cond.selects "PromiseScales" ({ cls := "PromiseScales", name := "free", desc := "(III)I" } : Jvm.MethodName) ({ cls := "PromiseScales", name := "free", desc := "(III)I" } : Jvm.MethodName)) ∈ lw_all := lw_g (lw_at lw_m5 80 rfl) rfl
theorem q1108 : (Jvm.Cond.code ({ cls := "PromiseScales", name := "free", desc := "(III)I" } : Jvm.MethodName) prog_1_method_52_code (7 : Nat) (Option.some Jvm.ClassFile.FieldType.int)) ∈ lw_all := lw_g (lw_at lw_m5 81 rfl) rfl
theorem q1109 : (Jvm.Cond.constantLong "PromiseScales" (316 : Nat) (10 : Int64)) ∈ lw_all := lw_g (lw_at lw_m5 82 rfl) rfl
theorem q1110 : (Jvm.Cond.methodLink "PromiseScales" (318 : Nat) ({ cls := "PromiseScales", name := "common", desc := "(II)I" } : Jvm.MethodName)) ∈ lw_all := lw_g (lw_at lw_m5 83 rfl) rfl
theorem q1111 : (Jvm.Cond.static ({ cls := "PromiseScales", name := "common", desc := "(II)I" } : Jvm.MethodName)) ∈ lw_all := lw_g (lw_at lw_m5 84 rfl) rfl
theorem q1112 : (Jvm.Cond.code ({ cls := "PromiseScales", name := "common", desc := "(II)I" } : Jvm.MethodName) prog_1_method_51_code (5 : Nat) (Option.some Jvm.ClassFile.FieldType.int)) ∈ lw_all := lw_g (lw_at lw_m5 85 rfl) rfl
theorem q1114 : (Jvm.Cond.instanceMethod ({ cls := "PromiseScales", name := "image", desc := "(I)I" } : Jvm.MethodName)) ∈ lw_all := lw_g (lw_at lw_m5 87 rfl) rfl
theorem q1115 : (Jvm.Cond.selects "PromiseScales" ({ cls := "PromiseScales", name := "image", desc := "(I)I" } : Jvm.MethodName) ({ cls := "PromiseScales", name := "image", desc := "(I)I" } : Jvm.MethodName)) ∈ lw_all := lw_g (lw_at lw_m5 88 rfl) rfl
theorem q1116 : (Jvm.Cond.code ({ cls := "PromiseScales", name := "image", desc := "(I)I" } : Jvm.MethodName) prog_1_method_53_code (2 : Nat) (Option.some Jvm.ClassFile.FieldType.int)) ∈ lw_all := lw_g (lw_at lw_m5 89 rfl) rfl
theorem q1118 : (Jvm.Cond.instanceMethod ({ cls := "PromiseScales", name := "restore", desc := "(I)I" } : Jvm.MethodName)) ∈ lw_all := lw_g (lw_at lw_m5 91 rfl) rfl
theorem q1119 : (Jvm.Cond.selects "PromiseScales" ({ cls := "PromiseScales", name := "restore", desc := "(I)I" } : Jvm.MethodName) ({ cls := "PromiseScales", name := "restore", desc := "(I)I" } : Jvm.MethodName)) ∈ lw_all := lw_g (lw_at lw_m5 92 rfl) rfl
theorem q1120 : (Jvm.Cond.code ({ cls := "PromiseScales", name := "restore", desc := "(I)I" } : Jvm.MethodName) prog_1_method_54_code (2 : Nat) (Option.some Jvm.ClassFile.FieldType.int)) ∈ lw_all := lw_g (lw_at lw_m5 93 rfl) rfl
theorem q1122 : (Jvm.Cond.instanceMethod ({ cls := "PromiseScales", name := "kind", desc := "(I)I" } : Jvm.MethodName)) ∈ lw_all := lw_g (lw_at lw_m5 95 rfl) rfl
theorem q1123 : (Jvm.Cond.selects "PromiseScales" ({ cls := "PromiseScales", name := "kind", desc := "(I)I" } : Jvm.MethodName) ({ cls := "PromiseScales", name := "kind", desc := "(I)I" } : Jvm.MethodName)) ∈ lw_all := lw_g (lw_at lw_m5 96 rfl) rfl
theorem q1124 : (Jvm.Cond.code ({ cls := "PromiseScales", name := "kind", desc := "(I)I" } : Jvm.MethodName) prog_1_method_55_code (2 : Nat) (Option.some Jvm.ClassFile.FieldType.int)) ∈ lw_all := lw_g (lw_at lw_m5 97 rfl) rfl
theorem q1126 : (Jvm.Cond.instanceMethod ({ cls := "PromiseScales", name := "as", desc := "(II)I" } : Jvm.MethodName)) ∈ lw_all := lw_g (lw_at lw_m5 99 rfl) rfl
theorem q1127 : (Jvm.Cond.selects "PromiseScales" ({ cls := "PromiseScales", name := "as", desc := "(II)I" } : Jvm.MethodName) ({ cls := "PromiseScales", name := "as", desc := "(II)I" } : Jvm.MethodName)) ∈ lw_all := lw_g (lw_at lw_m5 100 rfl) rfl
theorem q1128 : (Jvm.Cond.codeWith ({ cls := "PromiseScales", name := "as", desc := "(II)I" } : Jvm.MethodName) prog_1_method_56_code (4 : Nat) (Option.some Jvm.ClassFile.FieldType.int) [((23 : Nat), (42 : Nat), (43 : Nat), (328 : Nat))]) ∈ lw_all := lw_g (lw_at lw_m5 101 rfl) rfl
theorem q1129 : (Jvm.Cond.classLink "PromiseScales" (328 : Nat) "java/lang/ClassCastException") ∈ lw_all := lw_g (lw_at lw_m5 102 rfl) rfl
theorem q1143 : (Jvm.Cond.methodLink "PromiseScales" (321 : Nat) ({ cls := "PromiseScales", name := "taken", desc := "(Ljava/lang/Object;I)LPromiseScales$Promise;" } : Jvm.MethodName)) ∈ lw_all := lw_g (lw_at lw_m5 116 rfl) rfl
theorem q1144 : (Jvm.Cond.static ({ cls := "PromiseScales", name := "taken", desc := "(Ljava/lang/Object;I)LPromiseScales$Promise;" } : Jvm.MethodName)) ∈ lw_all := lw_g (lw_at lw_m5 117 rfl) rfl
theorem q1145 : (Jvm.Cond.code ({ cls := "PromiseScales", name := "taken", desc := "(Ljava/lang/Object;I)LPromiseScales$Promise;" } : Jvm.MethodName) prog_1_method_4_code (2 : Nat) (Option.some (Jvm.ClassFile.FieldType.object "PromiseScales$Promise"))) ∈ lw_all := lw_g (lw_at lw_m5 118 rfl) rfl
theorem q1146 : (Jvm.Cond.classLink "PromiseScales" (19 : Nat) "PromiseScales$Promise") ∈ lw_all := lw_g (lw_at lw_m5 119 rfl) rfl
theorem q1147 : (Jvm.Cond.methodLink "PromiseScales" (325 : Nat) ({ cls := "PromiseScales$Promise", name := "number", desc := "()I" } : Jvm.MethodName)) ∈ lw_all := lw_g (lw_at lw_m5 120 rfl) rfl
theorem q1157 : (Jvm.Cond.instanceMethod ({ cls := "PromiseScales", name := "ask", desc := "(II)I" } : Jvm.MethodName)) ∈ lw_all := lw_g (lw_at lw_m5 130 rfl) rfl
theorem q1158 : (Jvm.Cond.selects "PromiseScales" ({ cls := "PromiseScales", name := "ask", desc := "(II)I" } : Jvm.MethodName) ({ cls := "PromiseScales", name := "ask", desc := "(II)I" } : Jvm.MethodName)) ∈ lw_all := lw_g (lw_at lw_m5 131 rfl) rfl
theorem q1159 : (Jvm.Cond.code ({ cls := "PromiseScales", name := "ask", desc := "(II)I" } : Jvm.MethodName) prog_1_method_57_code (5 : Nat) (Option.some Jvm.ClassFile.FieldType.int)) ∈ lw_all := lw_g (lw_at lw_m5 132 rfl) rfl
theorem q1160 : (Jvm.Cond.classLink "PromiseScales" (330 : Nat) "PromiseScales$Has") ∈ lw_all := lw_g (lw_at lw_m5 133 rfl) rfl
theorem q1162 : (Jvm.Cond.methodLink "PromiseScales" (332 : Nat) ({ cls := "PromiseScales$Has", name := "<init>", desc := "(LPromiseScales;I)V" } : Jvm.MethodName)) ∈ lw_all := lw_g (lw_at lw_m5 135 rfl) rfl
theorem q1272 : (Jvm.Cond.instanceMethod ({ cls := "PromiseScales", name := "trace", desc := "(I)I" } : Jvm.MethodName)) ∈ lw_all := lw_g (lw_at lw_m6 5 rfl) rfl
theorem q1273 : (Jvm.Cond.selects "PromiseScales" ({ cls := "PromiseScales", name := "trace", desc := "(I)I" } : Jvm.MethodName) ({ cls := "PromiseScales", name := "trace", desc := "(I)I" } : Jvm.MethodName)) ∈ lw_all := lw_g (lw_at lw_m6 6 rfl) rfl
theorem q1274 : (Jvm.Cond.code ({ cls := "PromiseScales", name := "trace", desc := "(I)I" } : Jvm.MethodName) prog_1_method_58_code (2 : Nat) (Option.some Jvm.ClassFile.FieldType.int)) ∈ lw_all := lw_g (lw_at lw_m6 7 rfl) rfl
theorem q1276 : (Jvm.Cond.instanceMethod ({ cls := "PromiseScales", name := "count", desc := "(I)I" } : Jvm.MethodName)) ∈ lw_all := lw_g (lw_at lw_m6 9 rfl) rfl
theorem q1277 : (Jvm.Cond.selects "PromiseScales" ({ cls := "PromiseScales", name := "count", desc := "(I)I" } : Jvm.MethodName) ({ cls := "PromiseScales", name := "count", desc := "(I)I" } : Jvm.MethodName)) ∈ lw_all := lw_g (lw_at lw_m6 10 rfl) rfl
theorem q1278 : (Jvm.Cond.code ({ cls := "PromiseScales", name := "count", desc := "(I)I" } : Jvm.MethodName) prog_1_method_59_code (4 : Nat) (Option.some Jvm.ClassFile.FieldType.int)) ∈ lw_all := lw_g (lw_at lw_m6 11 rfl) rfl
theorem q1280 : (Jvm.Cond.instanceMethod ({ cls := "PromiseScales", name := "status", desc := "()I" } : Jvm.MethodName)) ∈ lw_all := lw_g (lw_at lw_m6 13 rfl) rfl
theorem q1281 : (Jvm.Cond.selects "PromiseScales" ({ cls := "PromiseScales", name := "status", desc := "()I" } : Jvm.MethodName) ({ cls := "PromiseScales", name := "status", desc := "()I" } : Jvm.MethodName)) ∈ lw_all := lw_g (lw_at lw_m6 14 rfl) rfl
theorem q1282 : (Jvm.Cond.code ({ cls := "PromiseScales", name := "status", desc := "()I" } : Jvm.MethodName) prog_1_method_60_code (1 : Nat) (Option.some Jvm.ClassFile.FieldType.int)) ∈ lw_all := lw_g (lw_at lw_m6 15 rfl) rfl
theorem q1694 : (Jvm.Cond.castable "PromiseScales" "java/lang/Object") ∈ lw_tbl := lw_at lw_m7 187 rfl
theorem in_X0 : ∀ w ∈ wsX00, w ∈ lw_all := lw_in wsX00 [223, 225, 227, 229, 231, 233, 235, 237, 239, 241, 243] (by decide +kernel) (by decide +kernel)
