/-! DECODE ROWS BY BYTES: one lemma an opcode; a method's code is cut into short pieces once, and a row reads its own piece alone. -/
set_option maxRecDepth 100000
/-- the code has just these bytes from pc on -/
def DkAt (code : ByteArray) (pc : Nat) (bs : List UInt8) : Prop := ∀ (j : Nat) (b : UInt8), bs[j]? = some b → code.data.toList[pc + j]? = some b
/-- the piece W has the bytes bs from its place j on -/
def dkIn (W : List UInt8) (j : Nat) (bs : List UInt8) : Bool := decide ((W.drop j).take bs.length = bs)
theorem dk_seg {l W T : List UInt8} {o o2 : Nat} (h : l.drop o = W ++ T) (n : Nat) (hn : W.length = n) (ho : o + n = o2) : l.drop o2 = T := by
  subst ho
  rw [← List.drop_drop, h, List.drop_left' hn]
theorem dk_at {code : ByteArray} {W T bs : List UInt8} {o pc : Nat} (h : code.data.toList.drop o = W ++ T) (j : Nat) (hp : o + j = pc) (hw : dkIn W j bs = true) : DkAt code pc bs := by
  subst hp
  intro i b e
  have h1 := of_decide_eq_true hw
  have h2 : i < bs.length := (List.getElem?_eq_some_iff.mp e).1
  have h3 : W[j + i]? = some b := by
    rw [← h1, List.getElem?_take, if_pos h2, List.getElem?_drop] at e
    exact e
  have h4 : j + i < W.length := (List.getElem?_eq_some_iff.mp h3).1
  have h5 : (code.data.toList.drop o)[j + i]? = some b := by
    rw [h, List.getElem?_append_left h4]
    exact h3
  rw [List.getElem?_drop, ← Nat.add_assoc] at h5
  exact h5
theorem dk_u1 {A : ByteArray} {p : Nat} {b : UInt8} (h : A.data.toList[p]? = some b) : (Reader.u1 : Reader DecodeError Nat) A p = .ok (b.toNat, p + 1) := by
  obtain ⟨h1, h2⟩ := List.getElem?_eq_some_iff.mp h
  have h3 : p < A.size := by simpa using h1
  have h4 : A[p]'h3 = b := h2
  have e : (Reader.u1 : Reader DecodeError Nat) A p = (if h : p < A.size then .ok (A[p].toNat, p + 1) else .error (HasTruncated.truncated p)) := by
    show (do if h : p < A.size then do set (p + 1); Pure.pure A[p].toNat else MonadExcept.throw (HasTruncated.truncated p) : Reader DecodeError Nat) A p = _
    by_cases hi : p < A.size
    · rw [dif_pos hi, dif_pos hi]; rfl
    · rw [dif_neg hi, dif_neg hi]; rfl
  rw [e, dif_pos h3, h4]
theorem dk_bind {α β : Type} {r : Reader DecodeError α} {f : α → Reader DecodeError β} {A : ByteArray} {p s : Nat} {a : α} (h : r A p = .ok (a, s)) : (r >>= f) A p = f a A s := by
  show (do let (a, s) ← r A p; f a A s : Except DecodeError (β × Nat)) = _
  rw [h]
  rfl
theorem dk_map {α β : Type} {r : Reader DecodeError α} {g : α → β} {A : ByteArray} {p s : Nat} {a : α} (h : r A p = .ok (a, s)) : (g <$> r) A p = .ok (g a, s) := by
  show (do let (a, s) ← r A p; .ok (g a, s) : Except DecodeError (β × Nat)) = _
  rw [h]
  rfl
theorem dk_u2 {A : ByteArray} {p : Nat} {a b : UInt8} (h : A.data.toList[p]? = some a) (h2 : A.data.toList[p + 1]? = some b) : (Reader.u2 : Reader DecodeError Nat) A p = .ok (a.toNat * 256 + b.toNat, p + 2) := by
  show (Reader.u1 >>= fun hi => Reader.u1 >>= fun lo => Pure.pure (hi * 256 + lo) : Reader DecodeError Nat) A p = _
  rw [dk_bind (dk_u1 h), dk_bind (dk_u1 h2)]
  rfl
theorem dk_of {code : ByteArray} {pc n : Nat} {i : Instr} (h : Decoder.instr pc code pc = .ok (i, pc + n)) : decode code pc = .ok (i, n) := by
  have e : decode code pc = (match Decoder.instr pc code pc with | .error x => .error x | .ok (j, s) => .ok (j, s - pc)) := by
    show (do let (j, s) ← Decoder.instr pc code pc; Pure.pure (j, s - pc) : Except DecodeError (Instr × Nat)) = _
    cases Decoder.instr pc code pc <;> rfl
  rw [e, h]
  show Except.ok (i, pc + n - pc) = _
  rw [Nat.add_sub_cancel_left]
theorem dk_1 {code : ByteArray} {pc : Nat} (h : DkAt code pc [1]) : decode code pc = .ok (.aconst_null, 1) := dk_of ((dk_bind (dk_u1 (h 0 _ rfl))).trans rfl)
theorem dk_2 {code : ByteArray} {pc : Nat} (h : DkAt code pc [2]) : decode code pc = .ok (.iconst (-1), 1) := dk_of ((dk_bind (dk_u1 (h 0 _ rfl))).trans rfl)
theorem dk_3 {code : ByteArray} {pc : Nat} (h : DkAt code pc [3]) : decode code pc = .ok (.iconst 0, 1) := dk_of ((dk_bind (dk_u1 (h 0 _ rfl))).trans rfl)
theorem dk_4 {code : ByteArray} {pc : Nat} (h : DkAt code pc [4]) : decode code pc = .ok (.iconst 1, 1) := dk_of ((dk_bind (dk_u1 (h 0 _ rfl))).trans rfl)
theorem dk_5 {code : ByteArray} {pc : Nat} (h : DkAt code pc [5]) : decode code pc = .ok (.iconst 2, 1) := dk_of ((dk_bind (dk_u1 (h 0 _ rfl))).trans rfl)
theorem dk_6 {code : ByteArray} {pc : Nat} (h : DkAt code pc [6]) : decode code pc = .ok (.iconst 3, 1) := dk_of ((dk_bind (dk_u1 (h 0 _ rfl))).trans rfl)
theorem dk_7 {code : ByteArray} {pc : Nat} (h : DkAt code pc [7]) : decode code pc = .ok (.iconst 4, 1) := dk_of ((dk_bind (dk_u1 (h 0 _ rfl))).trans rfl)
theorem dk_8 {code : ByteArray} {pc : Nat} (h : DkAt code pc [8]) : decode code pc = .ok (.iconst 5, 1) := dk_of ((dk_bind (dk_u1 (h 0 _ rfl))).trans rfl)
theorem dk_9 {code : ByteArray} {pc : Nat} (h : DkAt code pc [9]) : decode code pc = .ok (.lconst 0, 1) := dk_of ((dk_bind (dk_u1 (h 0 _ rfl))).trans rfl)
theorem dk_10 {code : ByteArray} {pc : Nat} (h : DkAt code pc [10]) : decode code pc = .ok (.lconst 1, 1) := dk_of ((dk_bind (dk_u1 (h 0 _ rfl))).trans rfl)
theorem dk_16 {code : ByteArray} {pc : Nat} (a : UInt8) (h : DkAt code pc [16, a]) : decode code pc = .ok (.bipush (Reader.signed 8 a.toNat), 2) := dk_of ((dk_bind (dk_u1 (h 0 _ rfl))).trans ((dk_bind (dk_map (dk_u1 (h 1 _ rfl)))).trans rfl))
theorem dk_17 {code : ByteArray} {pc : Nat} (a b : UInt8) (h : DkAt code pc [17, a, b]) : decode code pc = .ok (.sipush (Reader.signed 16 (a.toNat * 256 + b.toNat)), 3) := dk_of ((dk_bind (dk_u1 (h 0 _ rfl))).trans ((dk_bind (dk_map (dk_u2 (h 1 _ rfl) (h 2 _ rfl)))).trans rfl))
theorem dk_18 {code : ByteArray} {pc : Nat} (a : UInt8) (h : DkAt code pc [18, a]) : decode code pc = .ok (.ldc a.toNat, 2) := dk_of ((dk_bind (dk_u1 (h 0 _ rfl))).trans ((dk_bind (dk_u1 (h 1 _ rfl))).trans rfl))
theorem dk_19 {code : ByteArray} {pc : Nat} (a b : UInt8) (h : DkAt code pc [19, a, b]) : decode code pc = .ok (.ldc_w (a.toNat * 256 + b.toNat), 3) := dk_of ((dk_bind (dk_u1 (h 0 _ rfl))).trans ((dk_bind (dk_u2 (h 1 _ rfl) (h 2 _ rfl))).trans rfl))
theorem dk_20 {code : ByteArray} {pc : Nat} (a b : UInt8) (h : DkAt code pc [20, a, b]) : decode code pc = .ok (.ldc2_w (a.toNat * 256 + b.toNat), 3) := dk_of ((dk_bind (dk_u1 (h 0 _ rfl))).trans ((dk_bind (dk_u2 (h 1 _ rfl) (h 2 _ rfl))).trans rfl))
theorem dk_21 {code : ByteArray} {pc : Nat} (a : UInt8) (h : DkAt code pc [21, a]) : decode code pc = .ok (.iload a.toNat, 2) := dk_of ((dk_bind (dk_u1 (h 0 _ rfl))).trans ((dk_bind (dk_u1 (h 1 _ rfl))).trans rfl))
theorem dk_22 {code : ByteArray} {pc : Nat} (a : UInt8) (h : DkAt code pc [22, a]) : decode code pc = .ok (.lload a.toNat, 2) := dk_of ((dk_bind (dk_u1 (h 0 _ rfl))).trans ((dk_bind (dk_u1 (h 1 _ rfl))).trans rfl))
theorem dk_25 {code : ByteArray} {pc : Nat} (a : UInt8) (h : DkAt code pc [25, a]) : decode code pc = .ok (.aload a.toNat, 2) := dk_of ((dk_bind (dk_u1 (h 0 _ rfl))).trans ((dk_bind (dk_u1 (h 1 _ rfl))).trans rfl))
theorem dk_26 {code : ByteArray} {pc : Nat} (h : DkAt code pc [26]) : decode code pc = .ok (.iload_n 0, 1) := dk_of ((dk_bind (dk_u1 (h 0 _ rfl))).trans rfl)
theorem dk_27 {code : ByteArray} {pc : Nat} (h : DkAt code pc [27]) : decode code pc = .ok (.iload_n 1, 1) := dk_of ((dk_bind (dk_u1 (h 0 _ rfl))).trans rfl)
theorem dk_28 {code : ByteArray} {pc : Nat} (h : DkAt code pc [28]) : decode code pc = .ok (.iload_n 2, 1) := dk_of ((dk_bind (dk_u1 (h 0 _ rfl))).trans rfl)
theorem dk_29 {code : ByteArray} {pc : Nat} (h : DkAt code pc [29]) : decode code pc = .ok (.iload_n 3, 1) := dk_of ((dk_bind (dk_u1 (h 0 _ rfl))).trans rfl)
theorem dk_30 {code : ByteArray} {pc : Nat} (h : DkAt code pc [30]) : decode code pc = .ok (.lload_n 0, 1) := dk_of ((dk_bind (dk_u1 (h 0 _ rfl))).trans rfl)
theorem dk_32 {code : ByteArray} {pc : Nat} (h : DkAt code pc [32]) : decode code pc = .ok (.lload_n 2, 1) := dk_of ((dk_bind (dk_u1 (h 0 _ rfl))).trans rfl)
theorem dk_42 {code : ByteArray} {pc : Nat} (h : DkAt code pc [42]) : decode code pc = .ok (.aload_n 0, 1) := dk_of ((dk_bind (dk_u1 (h 0 _ rfl))).trans rfl)
theorem dk_43 {code : ByteArray} {pc : Nat} (h : DkAt code pc [43]) : decode code pc = .ok (.aload_n 1, 1) := dk_of ((dk_bind (dk_u1 (h 0 _ rfl))).trans rfl)
theorem dk_44 {code : ByteArray} {pc : Nat} (h : DkAt code pc [44]) : decode code pc = .ok (.aload_n 2, 1) := dk_of ((dk_bind (dk_u1 (h 0 _ rfl))).trans rfl)
theorem dk_45 {code : ByteArray} {pc : Nat} (h : DkAt code pc [45]) : decode code pc = .ok (.aload_n 3, 1) := dk_of ((dk_bind (dk_u1 (h 0 _ rfl))).trans rfl)
theorem dk_46 {code : ByteArray} {pc : Nat} (h : DkAt code pc [46]) : decode code pc = .ok (.iaload, 1) := dk_of ((dk_bind (dk_u1 (h 0 _ rfl))).trans rfl)
theorem dk_50 {code : ByteArray} {pc : Nat} (h : DkAt code pc [50]) : decode code pc = .ok (.aaload, 1) := dk_of ((dk_bind (dk_u1 (h 0 _ rfl))).trans rfl)
theorem dk_51 {code : ByteArray} {pc : Nat} (h : DkAt code pc [51]) : decode code pc = .ok (.baload, 1) := dk_of ((dk_bind (dk_u1 (h 0 _ rfl))).trans rfl)
theorem dk_53 {code : ByteArray} {pc : Nat} (h : DkAt code pc [53]) : decode code pc = .ok (.saload, 1) := dk_of ((dk_bind (dk_u1 (h 0 _ rfl))).trans rfl)
theorem dk_54 {code : ByteArray} {pc : Nat} (a : UInt8) (h : DkAt code pc [54, a]) : decode code pc = .ok (.istore a.toNat, 2) := dk_of ((dk_bind (dk_u1 (h 0 _ rfl))).trans ((dk_bind (dk_u1 (h 1 _ rfl))).trans rfl))
theorem dk_58 {code : ByteArray} {pc : Nat} (a : UInt8) (h : DkAt code pc [58, a]) : decode code pc = .ok (.astore a.toNat, 2) := dk_of ((dk_bind (dk_u1 (h 0 _ rfl))).trans ((dk_bind (dk_u1 (h 1 _ rfl))).trans rfl))
theorem dk_59 {code : ByteArray} {pc : Nat} (h : DkAt code pc [59]) : decode code pc = .ok (.istore_n 0, 1) := dk_of ((dk_bind (dk_u1 (h 0 _ rfl))).trans rfl)
theorem dk_60 {code : ByteArray} {pc : Nat} (h : DkAt code pc [60]) : decode code pc = .ok (.istore_n 1, 1) := dk_of ((dk_bind (dk_u1 (h 0 _ rfl))).trans rfl)
theorem dk_61 {code : ByteArray} {pc : Nat} (h : DkAt code pc [61]) : decode code pc = .ok (.istore_n 2, 1) := dk_of ((dk_bind (dk_u1 (h 0 _ rfl))).trans rfl)
theorem dk_62 {code : ByteArray} {pc : Nat} (h : DkAt code pc [62]) : decode code pc = .ok (.istore_n 3, 1) := dk_of ((dk_bind (dk_u1 (h 0 _ rfl))).trans rfl)
theorem dk_75 {code : ByteArray} {pc : Nat} (h : DkAt code pc [75]) : decode code pc = .ok (.astore_n 0, 1) := dk_of ((dk_bind (dk_u1 (h 0 _ rfl))).trans rfl)
theorem dk_76 {code : ByteArray} {pc : Nat} (h : DkAt code pc [76]) : decode code pc = .ok (.astore_n 1, 1) := dk_of ((dk_bind (dk_u1 (h 0 _ rfl))).trans rfl)
theorem dk_77 {code : ByteArray} {pc : Nat} (h : DkAt code pc [77]) : decode code pc = .ok (.astore_n 2, 1) := dk_of ((dk_bind (dk_u1 (h 0 _ rfl))).trans rfl)
theorem dk_78 {code : ByteArray} {pc : Nat} (h : DkAt code pc [78]) : decode code pc = .ok (.astore_n 3, 1) := dk_of ((dk_bind (dk_u1 (h 0 _ rfl))).trans rfl)
theorem dk_79 {code : ByteArray} {pc : Nat} (h : DkAt code pc [79]) : decode code pc = .ok (.iastore, 1) := dk_of ((dk_bind (dk_u1 (h 0 _ rfl))).trans rfl)
theorem dk_83 {code : ByteArray} {pc : Nat} (h : DkAt code pc [83]) : decode code pc = .ok (.aastore, 1) := dk_of ((dk_bind (dk_u1 (h 0 _ rfl))).trans rfl)
theorem dk_84 {code : ByteArray} {pc : Nat} (h : DkAt code pc [84]) : decode code pc = .ok (.bastore, 1) := dk_of ((dk_bind (dk_u1 (h 0 _ rfl))).trans rfl)
theorem dk_86 {code : ByteArray} {pc : Nat} (h : DkAt code pc [86]) : decode code pc = .ok (.sastore, 1) := dk_of ((dk_bind (dk_u1 (h 0 _ rfl))).trans rfl)
theorem dk_87 {code : ByteArray} {pc : Nat} (h : DkAt code pc [87]) : decode code pc = .ok (.pop, 1) := dk_of ((dk_bind (dk_u1 (h 0 _ rfl))).trans rfl)
theorem dk_89 {code : ByteArray} {pc : Nat} (h : DkAt code pc [89]) : decode code pc = .ok (.dup, 1) := dk_of ((dk_bind (dk_u1 (h 0 _ rfl))).trans rfl)
theorem dk_90 {code : ByteArray} {pc : Nat} (h : DkAt code pc [90]) : decode code pc = .ok (.dup_x1, 1) := dk_of ((dk_bind (dk_u1 (h 0 _ rfl))).trans rfl)
theorem dk_92 {code : ByteArray} {pc : Nat} (h : DkAt code pc [92]) : decode code pc = .ok (.dup2, 1) := dk_of ((dk_bind (dk_u1 (h 0 _ rfl))).trans rfl)
theorem dk_96 {code : ByteArray} {pc : Nat} (h : DkAt code pc [96]) : decode code pc = .ok (.iadd, 1) := dk_of ((dk_bind (dk_u1 (h 0 _ rfl))).trans rfl)
theorem dk_97 {code : ByteArray} {pc : Nat} (h : DkAt code pc [97]) : decode code pc = .ok (.ladd, 1) := dk_of ((dk_bind (dk_u1 (h 0 _ rfl))).trans rfl)
theorem dk_100 {code : ByteArray} {pc : Nat} (h : DkAt code pc [100]) : decode code pc = .ok (.isub, 1) := dk_of ((dk_bind (dk_u1 (h 0 _ rfl))).trans rfl)
theorem dk_101 {code : ByteArray} {pc : Nat} (h : DkAt code pc [101]) : decode code pc = .ok (.lsub, 1) := dk_of ((dk_bind (dk_u1 (h 0 _ rfl))).trans rfl)
theorem dk_104 {code : ByteArray} {pc : Nat} (h : DkAt code pc [104]) : decode code pc = .ok (.imul, 1) := dk_of ((dk_bind (dk_u1 (h 0 _ rfl))).trans rfl)
theorem dk_108 {code : ByteArray} {pc : Nat} (h : DkAt code pc [108]) : decode code pc = .ok (.idiv, 1) := dk_of ((dk_bind (dk_u1 (h 0 _ rfl))).trans rfl)
theorem dk_112 {code : ByteArray} {pc : Nat} (h : DkAt code pc [112]) : decode code pc = .ok (.irem, 1) := dk_of ((dk_bind (dk_u1 (h 0 _ rfl))).trans rfl)
theorem dk_116 {code : ByteArray} {pc : Nat} (h : DkAt code pc [116]) : decode code pc = .ok (.ineg, 1) := dk_of ((dk_bind (dk_u1 (h 0 _ rfl))).trans rfl)
theorem dk_120 {code : ByteArray} {pc : Nat} (h : DkAt code pc [120]) : decode code pc = .ok (.ishl, 1) := dk_of ((dk_bind (dk_u1 (h 0 _ rfl))).trans rfl)
theorem dk_122 {code : ByteArray} {pc : Nat} (h : DkAt code pc [122]) : decode code pc = .ok (.ishr, 1) := dk_of ((dk_bind (dk_u1 (h 0 _ rfl))).trans rfl)
theorem dk_124 {code : ByteArray} {pc : Nat} (h : DkAt code pc [124]) : decode code pc = .ok (.iushr, 1) := dk_of ((dk_bind (dk_u1 (h 0 _ rfl))).trans rfl)
theorem dk_126 {code : ByteArray} {pc : Nat} (h : DkAt code pc [126]) : decode code pc = .ok (.iand, 1) := dk_of ((dk_bind (dk_u1 (h 0 _ rfl))).trans rfl)
theorem dk_128 {code : ByteArray} {pc : Nat} (h : DkAt code pc [128]) : decode code pc = .ok (.ior, 1) := dk_of ((dk_bind (dk_u1 (h 0 _ rfl))).trans rfl)
theorem dk_130 {code : ByteArray} {pc : Nat} (h : DkAt code pc [130]) : decode code pc = .ok (.ixor, 1) := dk_of ((dk_bind (dk_u1 (h 0 _ rfl))).trans rfl)
theorem dk_132 {code : ByteArray} {pc : Nat} (a b : UInt8) (h : DkAt code pc [132, a, b]) : decode code pc = .ok (.iinc a.toNat (Reader.signed 8 b.toNat), 3) := dk_of ((dk_bind (dk_u1 (h 0 _ rfl))).trans ((dk_bind (dk_u1 (h 1 _ rfl))).trans ((dk_bind (dk_map (dk_u1 (h 2 _ rfl)))).trans rfl)))
theorem dk_133 {code : ByteArray} {pc : Nat} (h : DkAt code pc [133]) : decode code pc = .ok (.i2l, 1) := dk_of ((dk_bind (dk_u1 (h 0 _ rfl))).trans rfl)
theorem dk_145 {code : ByteArray} {pc : Nat} (h : DkAt code pc [145]) : decode code pc = .ok (.i2b, 1) := dk_of ((dk_bind (dk_u1 (h 0 _ rfl))).trans rfl)
theorem dk_146 {code : ByteArray} {pc : Nat} (h : DkAt code pc [146]) : decode code pc = .ok (.i2c, 1) := dk_of ((dk_bind (dk_u1 (h 0 _ rfl))).trans rfl)
theorem dk_147 {code : ByteArray} {pc : Nat} (h : DkAt code pc [147]) : decode code pc = .ok (.i2s, 1) := dk_of ((dk_bind (dk_u1 (h 0 _ rfl))).trans rfl)
theorem dk_148 {code : ByteArray} {pc : Nat} (h : DkAt code pc [148]) : decode code pc = .ok (.lcmp, 1) := dk_of ((dk_bind (dk_u1 (h 0 _ rfl))).trans rfl)
theorem dk_153 {code : ByteArray} {pc : Nat} (a b : UInt8) (h : DkAt code pc [153, a, b]) : decode code pc = .ok (.ifCond .eq (Reader.signed 16 (a.toNat * 256 + b.toNat)), 3) := dk_of ((dk_bind (dk_u1 (h 0 _ rfl))).trans ((dk_bind (dk_map (dk_u2 (h 1 _ rfl) (h 2 _ rfl)))).trans rfl))
theorem dk_154 {code : ByteArray} {pc : Nat} (a b : UInt8) (h : DkAt code pc [154, a, b]) : decode code pc = .ok (.ifCond .ne (Reader.signed 16 (a.toNat * 256 + b.toNat)), 3) := dk_of ((dk_bind (dk_u1 (h 0 _ rfl))).trans ((dk_bind (dk_map (dk_u2 (h 1 _ rfl) (h 2 _ rfl)))).trans rfl))
theorem dk_155 {code : ByteArray} {pc : Nat} (a b : UInt8) (h : DkAt code pc [155, a, b]) : decode code pc = .ok (.ifCond .lt (Reader.signed 16 (a.toNat * 256 + b.toNat)), 3) := dk_of ((dk_bind (dk_u1 (h 0 _ rfl))).trans ((dk_bind (dk_map (dk_u2 (h 1 _ rfl) (h 2 _ rfl)))).trans rfl))
theorem dk_156 {code : ByteArray} {pc : Nat} (a b : UInt8) (h : DkAt code pc [156, a, b]) : decode code pc = .ok (.ifCond .ge (Reader.signed 16 (a.toNat * 256 + b.toNat)), 3) := dk_of ((dk_bind (dk_u1 (h 0 _ rfl))).trans ((dk_bind (dk_map (dk_u2 (h 1 _ rfl) (h 2 _ rfl)))).trans rfl))
theorem dk_157 {code : ByteArray} {pc : Nat} (a b : UInt8) (h : DkAt code pc [157, a, b]) : decode code pc = .ok (.ifCond .gt (Reader.signed 16 (a.toNat * 256 + b.toNat)), 3) := dk_of ((dk_bind (dk_u1 (h 0 _ rfl))).trans ((dk_bind (dk_map (dk_u2 (h 1 _ rfl) (h 2 _ rfl)))).trans rfl))
theorem dk_158 {code : ByteArray} {pc : Nat} (a b : UInt8) (h : DkAt code pc [158, a, b]) : decode code pc = .ok (.ifCond .le (Reader.signed 16 (a.toNat * 256 + b.toNat)), 3) := dk_of ((dk_bind (dk_u1 (h 0 _ rfl))).trans ((dk_bind (dk_map (dk_u2 (h 1 _ rfl) (h 2 _ rfl)))).trans rfl))
theorem dk_159 {code : ByteArray} {pc : Nat} (a b : UInt8) (h : DkAt code pc [159, a, b]) : decode code pc = .ok (.if_icmp .eq (Reader.signed 16 (a.toNat * 256 + b.toNat)), 3) := dk_of ((dk_bind (dk_u1 (h 0 _ rfl))).trans ((dk_bind (dk_map (dk_u2 (h 1 _ rfl) (h 2 _ rfl)))).trans rfl))
theorem dk_160 {code : ByteArray} {pc : Nat} (a b : UInt8) (h : DkAt code pc [160, a, b]) : decode code pc = .ok (.if_icmp .ne (Reader.signed 16 (a.toNat * 256 + b.toNat)), 3) := dk_of ((dk_bind (dk_u1 (h 0 _ rfl))).trans ((dk_bind (dk_map (dk_u2 (h 1 _ rfl) (h 2 _ rfl)))).trans rfl))
theorem dk_161 {code : ByteArray} {pc : Nat} (a b : UInt8) (h : DkAt code pc [161, a, b]) : decode code pc = .ok (.if_icmp .lt (Reader.signed 16 (a.toNat * 256 + b.toNat)), 3) := dk_of ((dk_bind (dk_u1 (h 0 _ rfl))).trans ((dk_bind (dk_map (dk_u2 (h 1 _ rfl) (h 2 _ rfl)))).trans rfl))
theorem dk_162 {code : ByteArray} {pc : Nat} (a b : UInt8) (h : DkAt code pc [162, a, b]) : decode code pc = .ok (.if_icmp .ge (Reader.signed 16 (a.toNat * 256 + b.toNat)), 3) := dk_of ((dk_bind (dk_u1 (h 0 _ rfl))).trans ((dk_bind (dk_map (dk_u2 (h 1 _ rfl) (h 2 _ rfl)))).trans rfl))
theorem dk_163 {code : ByteArray} {pc : Nat} (a b : UInt8) (h : DkAt code pc [163, a, b]) : decode code pc = .ok (.if_icmp .gt (Reader.signed 16 (a.toNat * 256 + b.toNat)), 3) := dk_of ((dk_bind (dk_u1 (h 0 _ rfl))).trans ((dk_bind (dk_map (dk_u2 (h 1 _ rfl) (h 2 _ rfl)))).trans rfl))
theorem dk_164 {code : ByteArray} {pc : Nat} (a b : UInt8) (h : DkAt code pc [164, a, b]) : decode code pc = .ok (.if_icmp .le (Reader.signed 16 (a.toNat * 256 + b.toNat)), 3) := dk_of ((dk_bind (dk_u1 (h 0 _ rfl))).trans ((dk_bind (dk_map (dk_u2 (h 1 _ rfl) (h 2 _ rfl)))).trans rfl))
theorem dk_165 {code : ByteArray} {pc : Nat} (a b : UInt8) (h : DkAt code pc [165, a, b]) : decode code pc = .ok (.if_acmp .eq (Reader.signed 16 (a.toNat * 256 + b.toNat)), 3) := dk_of ((dk_bind (dk_u1 (h 0 _ rfl))).trans ((dk_bind (dk_map (dk_u2 (h 1 _ rfl) (h 2 _ rfl)))).trans rfl))
theorem dk_166 {code : ByteArray} {pc : Nat} (a b : UInt8) (h : DkAt code pc [166, a, b]) : decode code pc = .ok (.if_acmp .ne (Reader.signed 16 (a.toNat * 256 + b.toNat)), 3) := dk_of ((dk_bind (dk_u1 (h 0 _ rfl))).trans ((dk_bind (dk_map (dk_u2 (h 1 _ rfl) (h 2 _ rfl)))).trans rfl))
theorem dk_167 {code : ByteArray} {pc : Nat} (a b : UInt8) (h : DkAt code pc [167, a, b]) : decode code pc = .ok (.goto (Reader.signed 16 (a.toNat * 256 + b.toNat)), 3) := dk_of ((dk_bind (dk_u1 (h 0 _ rfl))).trans ((dk_bind (dk_map (dk_u2 (h 1 _ rfl) (h 2 _ rfl)))).trans rfl))
theorem dk_172 {code : ByteArray} {pc : Nat} (h : DkAt code pc [172]) : decode code pc = .ok (.ireturn, 1) := dk_of ((dk_bind (dk_u1 (h 0 _ rfl))).trans rfl)
theorem dk_176 {code : ByteArray} {pc : Nat} (h : DkAt code pc [176]) : decode code pc = .ok (.areturn, 1) := dk_of ((dk_bind (dk_u1 (h 0 _ rfl))).trans rfl)
theorem dk_177 {code : ByteArray} {pc : Nat} (h : DkAt code pc [177]) : decode code pc = .ok (.return_, 1) := dk_of ((dk_bind (dk_u1 (h 0 _ rfl))).trans rfl)
theorem dk_178 {code : ByteArray} {pc : Nat} (a b : UInt8) (h : DkAt code pc [178, a, b]) : decode code pc = .ok (.getstatic (a.toNat * 256 + b.toNat), 3) := dk_of ((dk_bind (dk_u1 (h 0 _ rfl))).trans ((dk_bind (dk_u2 (h 1 _ rfl) (h 2 _ rfl))).trans rfl))
theorem dk_180 {code : ByteArray} {pc : Nat} (a b : UInt8) (h : DkAt code pc [180, a, b]) : decode code pc = .ok (.getfield (a.toNat * 256 + b.toNat), 3) := dk_of ((dk_bind (dk_u1 (h 0 _ rfl))).trans ((dk_bind (dk_u2 (h 1 _ rfl) (h 2 _ rfl))).trans rfl))
theorem dk_181 {code : ByteArray} {pc : Nat} (a b : UInt8) (h : DkAt code pc [181, a, b]) : decode code pc = .ok (.putfield (a.toNat * 256 + b.toNat), 3) := dk_of ((dk_bind (dk_u1 (h 0 _ rfl))).trans ((dk_bind (dk_u2 (h 1 _ rfl) (h 2 _ rfl))).trans rfl))
theorem dk_182 {code : ByteArray} {pc : Nat} (a b : UInt8) (h : DkAt code pc [182, a, b]) : decode code pc = .ok (.invokevirtual (a.toNat * 256 + b.toNat), 3) := dk_of ((dk_bind (dk_u1 (h 0 _ rfl))).trans ((dk_bind (dk_u2 (h 1 _ rfl) (h 2 _ rfl))).trans rfl))
theorem dk_183 {code : ByteArray} {pc : Nat} (a b : UInt8) (h : DkAt code pc [183, a, b]) : decode code pc = .ok (.invokespecial (a.toNat * 256 + b.toNat), 3) := dk_of ((dk_bind (dk_u1 (h 0 _ rfl))).trans ((dk_bind (dk_u2 (h 1 _ rfl) (h 2 _ rfl))).trans rfl))
theorem dk_184 {code : ByteArray} {pc : Nat} (a b : UInt8) (h : DkAt code pc [184, a, b]) : decode code pc = .ok (.invokestatic (a.toNat * 256 + b.toNat), 3) := dk_of ((dk_bind (dk_u1 (h 0 _ rfl))).trans ((dk_bind (dk_u2 (h 1 _ rfl) (h 2 _ rfl))).trans rfl))
theorem dk_187 {code : ByteArray} {pc : Nat} (a b : UInt8) (h : DkAt code pc [187, a, b]) : decode code pc = .ok (.new (a.toNat * 256 + b.toNat), 3) := dk_of ((dk_bind (dk_u1 (h 0 _ rfl))).trans ((dk_bind (dk_u2 (h 1 _ rfl) (h 2 _ rfl))).trans rfl))
theorem dk_188_4 {code : ByteArray} {pc : Nat} (h : DkAt code pc [188, 4]) : decode code pc = .ok (.newarray .boolean, 2) := dk_of ((dk_bind (dk_u1 (h 0 _ rfl))).trans ((dk_bind (dk_u1 (h 1 _ rfl))).trans rfl))
theorem dk_188_8 {code : ByteArray} {pc : Nat} (h : DkAt code pc [188, 8]) : decode code pc = .ok (.newarray .byte, 2) := dk_of ((dk_bind (dk_u1 (h 0 _ rfl))).trans ((dk_bind (dk_u1 (h 1 _ rfl))).trans rfl))
theorem dk_188_9 {code : ByteArray} {pc : Nat} (h : DkAt code pc [188, 9]) : decode code pc = .ok (.newarray .short, 2) := dk_of ((dk_bind (dk_u1 (h 0 _ rfl))).trans ((dk_bind (dk_u1 (h 1 _ rfl))).trans rfl))
theorem dk_188_10 {code : ByteArray} {pc : Nat} (h : DkAt code pc [188, 10]) : decode code pc = .ok (.newarray .int, 2) := dk_of ((dk_bind (dk_u1 (h 0 _ rfl))).trans ((dk_bind (dk_u1 (h 1 _ rfl))).trans rfl))
theorem dk_189 {code : ByteArray} {pc : Nat} (a b : UInt8) (h : DkAt code pc [189, a, b]) : decode code pc = .ok (.anewarray (a.toNat * 256 + b.toNat), 3) := dk_of ((dk_bind (dk_u1 (h 0 _ rfl))).trans ((dk_bind (dk_u2 (h 1 _ rfl) (h 2 _ rfl))).trans rfl))
theorem dk_190 {code : ByteArray} {pc : Nat} (h : DkAt code pc [190]) : decode code pc = .ok (.arraylength, 1) := dk_of ((dk_bind (dk_u1 (h 0 _ rfl))).trans rfl)
theorem dk_191 {code : ByteArray} {pc : Nat} (h : DkAt code pc [191]) : decode code pc = .ok (.athrow, 1) := dk_of ((dk_bind (dk_u1 (h 0 _ rfl))).trans rfl)
theorem dk_192 {code : ByteArray} {pc : Nat} (a b : UInt8) (h : DkAt code pc [192, a, b]) : decode code pc = .ok (.checkcast (a.toNat * 256 + b.toNat), 3) := dk_of ((dk_bind (dk_u1 (h 0 _ rfl))).trans ((dk_bind (dk_u2 (h 1 _ rfl) (h 2 _ rfl))).trans rfl))
theorem dk_193 {code : ByteArray} {pc : Nat} (a b : UInt8) (h : DkAt code pc [193, a, b]) : decode code pc = .ok (.instanceof (a.toNat * 256 + b.toNat), 3) := dk_of ((dk_bind (dk_u1 (h 0 _ rfl))).trans ((dk_bind (dk_u2 (h 1 _ rfl) (h 2 _ rfl))).trans rfl))
theorem dk_199 {code : ByteArray} {pc : Nat} (a b : UInt8) (h : DkAt code pc [199, a, b]) : decode code pc = .ok (.ifnonnull (Reader.signed 16 (a.toNat * 256 + b.toNat)), 3) := dk_of ((dk_bind (dk_u1 (h 0 _ rfl))).trans ((dk_bind (dk_map (dk_u2 (h 1 _ rfl) (h 2 _ rfl)))).trans rfl))
/-! PromiseScalesModel -/
set_option maxRecDepth 100000
def RX4 : String := "PromiseScalesModel"
def TX4 : u_T := fun k => match k with
  | 0 => ("PromiseScalesModel", "lanes", "[I", true)
  | 1 => ("PromiseScalesModel", "sizes", "[I", true)
  | 2 => ("PromiseScalesModel", "items", "[I", true)
  | 3 => ("PromiseScalesModel", "status", "I", false)
  | 4 => ("PromiseScalesModel", "isThere", "Z", false)
  | 5 => ("PromiseScalesModel", "st", "[I", true)
  | 6 => ("PromiseScalesModel", "moved", "[I", true)
  | 7 => ("PromiseScalesModel", "tape", "[I", true)
  | 8 => ("PromiseScalesModel", "bytes", "I", false)
  | 9 => ("PromiseScalesModel", "latest", "I", false)
  | 10 => ("PromiseScalesModel", "place", "I", false)
  | 11 => ("PromiseScalesModel", "token", "I", false)
  | 12 => ("PromiseScalesModel", "value", "I", false)
  | 13 => ("PromiseScalesModel", "begins", "I", false)
  | 14 => ("PromiseScalesModel", "wrong", "I", false)
  | 15 => ("PromiseScalesModel", "read", "[I", true)
  | 16 => ("PromiseScalesModel", "acts", "[I", true)
  | 17 => ("PromiseScalesModel", "actMany", "I", false)
  | 18 => ("PromiseScalesModel", "aside", "[I", true)
  | 19 => ("PromiseScalesModel", "keptMany", "I", false)
  | 20 => ("PromiseScalesModel", "isKept", "[Z", true)
  | 21 => ("PromiseScalesModel", "kept", "[I", true)
  | 22 => ("PromiseScalesModel", "trace", "[I", true)
  | _ => ("PromiseScalesModel", "traced", "I", false)
def tyX4 : Nat → FieldType := fun k => match k with
  | 0 => .array .int
  | 1 => .array .int
  | 2 => .array .int
  | 3 => .int
  | 4 => .boolean
  | 5 => .array .int
  | 6 => .array .int
  | 7 => .array .int
  | 8 => .int
  | 9 => .int
  | 10 => .int
  | 11 => .int
  | 12 => .int
  | 13 => .int
  | 14 => .int
  | 15 => .array .int
  | 16 => .array .int
  | 17 => .int
  | 18 => .array .int
  | 19 => .int
  | 20 => .array .boolean
  | 21 => .array .int
  | 22 => .array .int
  | _ => .int
abbrev wsX40 : List Cond := u_ws RX4 TX4 24
set_option maxRecDepth 100000 in
theorem nmX4 : ∀ a, a < 24 → ∀ b, b < 24 → a ≠ b → (TX4 a).2.1 ≠ (TX4 b).2.1 := by decide +kernel
set_option maxRecDepth 100000 in
theorem tyX4_ok : ∀ k, k < 24 → parseFieldDescriptor (TX4 k).2.2.1 = some (tyX4 k) := by decide +kernel
abbrev cX4_init : ByteArray := prog_17_method_1_code
def yX4_init : MethodName := ⟨RX4, "<init>", "()V"⟩
def dkwX4_init_5 : List UInt8 := [132, 1, 1, 167, 255, 240, 177]
abbrev dktX4_init_5 : List UInt8 := dkwX4_init_5 ++ []
def dkwX4_init_4 : List UInt8 := [16, 16, 188, 10, 181, 0, 44, 3, 60, 27, 16, 8, 162, 0, 16, 42, 180, 0, 13, 27, 2, 79]
abbrev dktX4_init_4 : List UInt8 := dkwX4_init_4 ++ dktX4_init_5
def dkwX4_init_3 : List UInt8 := [16, 57, 188, 10, 181, 0, 34, 42, 5, 188, 4, 181, 0, 37, 42, 16, 114, 188, 10, 181, 0, 41, 42]
abbrev dktX4_init_3 : List UInt8 := dkwX4_init_3 ++ dktX4_init_4
def dkwX4_init_2 : List UInt8 := [188, 10, 181, 0, 25, 42, 16, 57, 188, 10, 181, 0, 28, 42, 17, 5, 88, 188, 10, 181, 0, 31, 42]
abbrev dktX4_init_2 : List UInt8 := dkwX4_init_2 ++ dktX4_init_3
def dkwX4_init_1 : List UInt8 := [188, 10, 181, 0, 16, 42, 16, 57, 188, 10, 181, 0, 19, 42, 16, 40, 188, 10, 181, 0, 22, 42, 16, 120]
abbrev dktX4_init_1 : List UInt8 := dkwX4_init_1 ++ dktX4_init_2
def dkwX4_init_0 : List UInt8 := [42, 183, 0, 1, 42, 16, 8, 188, 10, 181, 0, 7, 42, 16, 8, 188, 10, 181, 0, 13, 42, 17, 1, 64]
abbrev dktX4_init_0 : List UInt8 := dkwX4_init_0 ++ dktX4_init_1
theorem dksX4_init_0 : cX4_init.data.toList.drop 0 = dktX4_init_0 := by decide +kernel
theorem dksX4_init_1 : cX4_init.data.toList.drop 24 = dktX4_init_1 := dk_seg dksX4_init_0 24 rfl rfl
theorem dksX4_init_2 : cX4_init.data.toList.drop 48 = dktX4_init_2 := dk_seg dksX4_init_1 24 rfl rfl
theorem dksX4_init_3 : cX4_init.data.toList.drop 71 = dktX4_init_3 := dk_seg dksX4_init_2 23 rfl rfl
theorem dksX4_init_4 : cX4_init.data.toList.drop 94 = dktX4_init_4 := dk_seg dksX4_init_3 23 rfl rfl
theorem dksX4_init_5 : cX4_init.data.toList.drop 116 = dktX4_init_5 := dk_seg dksX4_init_4 22 rfl rfl
theorem dX4_init_0 : decode cX4_init 0 = .ok (.aload_n 0, 1) := dk_42 (dk_at dksX4_init_0 0 rfl rfl)
theorem dX4_init_1 : decode cX4_init 1 = .ok (.invokespecial 1, 3) := dk_183 0 1 (dk_at dksX4_init_0 1 rfl rfl)
theorem dX4_init_4 : decode cX4_init 4 = .ok (.aload_n 0, 1) := dk_42 (dk_at dksX4_init_0 4 rfl rfl)
theorem dX4_init_5 : decode cX4_init 5 = .ok (.bipush 8, 2) := dk_16 8 (dk_at dksX4_init_0 5 rfl rfl)
theorem dX4_init_7 : decode cX4_init 7 = .ok (.newarray .int, 2) := dk_188_10 (dk_at dksX4_init_0 7 rfl rfl)
theorem dX4_init_9 : decode cX4_init 9 = .ok (.putfield 7, 3) := dk_181 0 7 (dk_at dksX4_init_0 9 rfl rfl)
theorem dX4_init_12 : decode cX4_init 12 = .ok (.aload_n 0, 1) := dk_42 (dk_at dksX4_init_0 12 rfl rfl)
theorem dX4_init_13 : decode cX4_init 13 = .ok (.bipush 8, 2) := dk_16 8 (dk_at dksX4_init_0 13 rfl rfl)
theorem dX4_init_15 : decode cX4_init 15 = .ok (.newarray .int, 2) := dk_188_10 (dk_at dksX4_init_0 15 rfl rfl)
theorem dX4_init_17 : decode cX4_init 17 = .ok (.putfield 13, 3) := dk_181 0 13 (dk_at dksX4_init_0 17 rfl rfl)
theorem dX4_init_20 : decode cX4_init 20 = .ok (.aload_n 0, 1) := dk_42 (dk_at dksX4_init_0 20 rfl rfl)
theorem dX4_init_21 : decode cX4_init 21 = .ok (.sipush 320, 3) := dk_17 1 64 (dk_at dksX4_init_0 21 rfl rfl)
theorem dX4_init_24 : decode cX4_init 24 = .ok (.newarray .int, 2) := dk_188_10 (dk_at dksX4_init_1 0 rfl rfl)
theorem dX4_init_26 : decode cX4_init 26 = .ok (.putfield 16, 3) := dk_181 0 16 (dk_at dksX4_init_1 2 rfl rfl)
theorem dX4_init_29 : decode cX4_init 29 = .ok (.aload_n 0, 1) := dk_42 (dk_at dksX4_init_1 5 rfl rfl)
theorem dX4_init_30 : decode cX4_init 30 = .ok (.bipush 57, 2) := dk_16 57 (dk_at dksX4_init_1 6 rfl rfl)
theorem dX4_init_32 : decode cX4_init 32 = .ok (.newarray .int, 2) := dk_188_10 (dk_at dksX4_init_1 8 rfl rfl)
theorem dX4_init_34 : decode cX4_init 34 = .ok (.putfield 19, 3) := dk_181 0 19 (dk_at dksX4_init_1 10 rfl rfl)
theorem dX4_init_37 : decode cX4_init 37 = .ok (.aload_n 0, 1) := dk_42 (dk_at dksX4_init_1 13 rfl rfl)
theorem dX4_init_38 : decode cX4_init 38 = .ok (.bipush 40, 2) := dk_16 40 (dk_at dksX4_init_1 14 rfl rfl)
theorem dX4_init_40 : decode cX4_init 40 = .ok (.newarray .int, 2) := dk_188_10 (dk_at dksX4_init_1 16 rfl rfl)
theorem dX4_init_42 : decode cX4_init 42 = .ok (.putfield 22, 3) := dk_181 0 22 (dk_at dksX4_init_1 18 rfl rfl)
theorem dX4_init_45 : decode cX4_init 45 = .ok (.aload_n 0, 1) := dk_42 (dk_at dksX4_init_1 21 rfl rfl)
theorem dX4_init_46 : decode cX4_init 46 = .ok (.bipush 120, 2) := dk_16 120 (dk_at dksX4_init_1 22 rfl rfl)
theorem dX4_init_48 : decode cX4_init 48 = .ok (.newarray .int, 2) := dk_188_10 (dk_at dksX4_init_2 0 rfl rfl)
theorem dX4_init_50 : decode cX4_init 50 = .ok (.putfield 25, 3) := dk_181 0 25 (dk_at dksX4_init_2 2 rfl rfl)
theorem dX4_init_53 : decode cX4_init 53 = .ok (.aload_n 0, 1) := dk_42 (dk_at dksX4_init_2 5 rfl rfl)
theorem dX4_init_54 : decode cX4_init 54 = .ok (.bipush 57, 2) := dk_16 57 (dk_at dksX4_init_2 6 rfl rfl)
theorem dX4_init_56 : decode cX4_init 56 = .ok (.newarray .int, 2) := dk_188_10 (dk_at dksX4_init_2 8 rfl rfl)
theorem dX4_init_58 : decode cX4_init 58 = .ok (.putfield 28, 3) := dk_181 0 28 (dk_at dksX4_init_2 10 rfl rfl)
theorem dX4_init_61 : decode cX4_init 61 = .ok (.aload_n 0, 1) := dk_42 (dk_at dksX4_init_2 13 rfl rfl)
theorem dX4_init_62 : decode cX4_init 62 = .ok (.sipush 1368, 3) := dk_17 5 88 (dk_at dksX4_init_2 14 rfl rfl)
theorem dX4_init_65 : decode cX4_init 65 = .ok (.newarray .int, 2) := dk_188_10 (dk_at dksX4_init_2 17 rfl rfl)
theorem dX4_init_67 : decode cX4_init 67 = .ok (.putfield 31, 3) := dk_181 0 31 (dk_at dksX4_init_2 19 rfl rfl)
theorem dX4_init_70 : decode cX4_init 70 = .ok (.aload_n 0, 1) := dk_42 (dk_at dksX4_init_2 22 rfl rfl)
theorem dX4_init_71 : decode cX4_init 71 = .ok (.bipush 57, 2) := dk_16 57 (dk_at dksX4_init_3 0 rfl rfl)
theorem dX4_init_73 : decode cX4_init 73 = .ok (.newarray .int, 2) := dk_188_10 (dk_at dksX4_init_3 2 rfl rfl)
theorem dX4_init_75 : decode cX4_init 75 = .ok (.putfield 34, 3) := dk_181 0 34 (dk_at dksX4_init_3 4 rfl rfl)
theorem dX4_init_78 : decode cX4_init 78 = .ok (.aload_n 0, 1) := dk_42 (dk_at dksX4_init_3 7 rfl rfl)
theorem dX4_init_79 : decode cX4_init 79 = .ok (.iconst 2, 1) := dk_5 (dk_at dksX4_init_3 8 rfl rfl)
theorem dX4_init_80 : decode cX4_init 80 = .ok (.newarray .boolean, 2) := dk_188_4 (dk_at dksX4_init_3 9 rfl rfl)
theorem dX4_init_82 : decode cX4_init 82 = .ok (.putfield 37, 3) := dk_181 0 37 (dk_at dksX4_init_3 11 rfl rfl)
theorem dX4_init_85 : decode cX4_init 85 = .ok (.aload_n 0, 1) := dk_42 (dk_at dksX4_init_3 14 rfl rfl)
theorem dX4_init_86 : decode cX4_init 86 = .ok (.bipush 114, 2) := dk_16 114 (dk_at dksX4_init_3 15 rfl rfl)
theorem dX4_init_88 : decode cX4_init 88 = .ok (.newarray .int, 2) := dk_188_10 (dk_at dksX4_init_3 17 rfl rfl)
theorem dX4_init_90 : decode cX4_init 90 = .ok (.putfield 41, 3) := dk_181 0 41 (dk_at dksX4_init_3 19 rfl rfl)
theorem dX4_init_93 : decode cX4_init 93 = .ok (.aload_n 0, 1) := dk_42 (dk_at dksX4_init_3 22 rfl rfl)
theorem dX4_init_94 : decode cX4_init 94 = .ok (.bipush 16, 2) := dk_16 16 (dk_at dksX4_init_4 0 rfl rfl)
theorem dX4_init_96 : decode cX4_init 96 = .ok (.newarray .int, 2) := dk_188_10 (dk_at dksX4_init_4 2 rfl rfl)
theorem dX4_init_98 : decode cX4_init 98 = .ok (.putfield 44, 3) := dk_181 0 44 (dk_at dksX4_init_4 4 rfl rfl)
theorem dX4_init_101 : decode cX4_init 101 = .ok (.iconst 0, 1) := dk_3 (dk_at dksX4_init_4 7 rfl rfl)
theorem dX4_init_102 : decode cX4_init 102 = .ok (.istore_n 1, 1) := dk_60 (dk_at dksX4_init_4 8 rfl rfl)
theorem dX4_init_103 : decode cX4_init 103 = .ok (.iload_n 1, 1) := dk_27 (dk_at dksX4_init_4 9 rfl rfl)
theorem dX4_init_104 : decode cX4_init 104 = .ok (.bipush 8, 2) := dk_16 8 (dk_at dksX4_init_4 10 rfl rfl)
theorem dX4_init_106 : decode cX4_init 106 = .ok (.if_icmp .ge 16, 3) := dk_162 0 16 (dk_at dksX4_init_4 12 rfl rfl)
theorem dX4_init_109 : decode cX4_init 109 = .ok (.aload_n 0, 1) := dk_42 (dk_at dksX4_init_4 15 rfl rfl)
theorem dX4_init_110 : decode cX4_init 110 = .ok (.getfield 13, 3) := dk_180 0 13 (dk_at dksX4_init_4 16 rfl rfl)
theorem dX4_init_113 : decode cX4_init 113 = .ok (.iload_n 1, 1) := dk_27 (dk_at dksX4_init_4 19 rfl rfl)
theorem dX4_init_114 : decode cX4_init 114 = .ok (.iconst (-1), 1) := dk_2 (dk_at dksX4_init_4 20 rfl rfl)
theorem dX4_init_115 : decode cX4_init 115 = .ok (.iastore, 1) := dk_79 (dk_at dksX4_init_4 21 rfl rfl)
theorem dX4_init_116 : decode cX4_init 116 = .ok (.iinc 1 1, 3) := dk_132 1 1 (dk_at dksX4_init_5 0 rfl rfl)
theorem dX4_init_119 : decode cX4_init 119 = .ok (.goto (-16), 3) := dk_167 255 240 (dk_at dksX4_init_5 3 rfl rfl)
theorem dX4_init_122 : decode cX4_init 122 = .ok (.return_, 1) := dk_177 (dk_at dksX4_init_5 6 rfl rfl)
abbrev cX4_row : ByteArray := prog_17_method_8_code
def yX4_row : MethodName := ⟨RX4, "row", "(III)I"⟩
def dkwX4_row_3 : List UInt8 := [21, 4, 96, 3, 79, 132, 4, 1, 167, 255, 233, 42, 29, 182, 0, 69, 172]
abbrev dktX4_row_3 : List UInt8 := dkwX4_row_3 ++ []
def dkwX4_row_2 : List UInt8 := [180, 0, 13, 27, 29, 79, 3, 54, 4, 21, 4, 16, 40, 162, 0, 22, 42, 180, 0, 16, 16, 40, 27, 104]
abbrev dktX4_row_2 : List UInt8 := dkwX4_row_2 ++ dktX4_row_3
def dkwX4_row_1 : List UInt8 := [164, 0, 6, 18, 64, 172, 29, 156, 0, 9, 42, 7, 182, 0, 65, 172, 42, 180, 0, 7, 27, 28, 79, 42]
abbrev dktX4_row_1 : List UInt8 := dkwX4_row_1 ++ dktX4_row_2
def dkwX4_row_0 : List UInt8 := [27, 184, 0, 58, 153, 0, 21, 28, 133, 9, 20, 0, 62, 184, 0, 54, 153, 0, 9, 29, 16, 40]
abbrev dktX4_row_0 : List UInt8 := dkwX4_row_0 ++ dktX4_row_1
theorem dksX4_row_0 : cX4_row.data.toList.drop 0 = dktX4_row_0 := by decide +kernel
theorem dksX4_row_1 : cX4_row.data.toList.drop 22 = dktX4_row_1 := dk_seg dksX4_row_0 22 rfl rfl
theorem dksX4_row_2 : cX4_row.data.toList.drop 46 = dktX4_row_2 := dk_seg dksX4_row_1 24 rfl rfl
theorem dksX4_row_3 : cX4_row.data.toList.drop 70 = dktX4_row_3 := dk_seg dksX4_row_2 24 rfl rfl
theorem dX4_row_0 : decode cX4_row 0 = .ok (.iload_n 1, 1) := dk_27 (dk_at dksX4_row_0 0 rfl rfl)
theorem dX4_row_1 : decode cX4_row 1 = .ok (.invokestatic 58, 3) := dk_184 0 58 (dk_at dksX4_row_0 1 rfl rfl)
theorem dX4_row_4 : decode cX4_row 4 = .ok (.ifCond .eq 21, 3) := dk_153 0 21 (dk_at dksX4_row_0 4 rfl rfl)
theorem dX4_row_7 : decode cX4_row 7 = .ok (.iload_n 2, 1) := dk_28 (dk_at dksX4_row_0 7 rfl rfl)
theorem dX4_row_8 : decode cX4_row 8 = .ok (.i2l, 1) := dk_133 (dk_at dksX4_row_0 8 rfl rfl)
theorem dX4_row_9 : decode cX4_row 9 = .ok (.lconst 0, 1) := dk_9 (dk_at dksX4_row_0 9 rfl rfl)
theorem dX4_row_10 : decode cX4_row 10 = .ok (.ldc2_w 62, 3) := dk_20 0 62 (dk_at dksX4_row_0 10 rfl rfl)
theorem dX4_row_13 : decode cX4_row 13 = .ok (.invokestatic 54, 3) := dk_184 0 54 (dk_at dksX4_row_0 13 rfl rfl)
theorem dX4_row_16 : decode cX4_row 16 = .ok (.ifCond .eq 9, 3) := dk_153 0 9 (dk_at dksX4_row_0 16 rfl rfl)
theorem dX4_row_19 : decode cX4_row 19 = .ok (.iload_n 3, 1) := dk_29 (dk_at dksX4_row_0 19 rfl rfl)
theorem dX4_row_20 : decode cX4_row 20 = .ok (.bipush 40, 2) := dk_16 40 (dk_at dksX4_row_0 20 rfl rfl)
theorem dX4_row_22 : decode cX4_row 22 = .ok (.if_icmp .le 6, 3) := dk_164 0 6 (dk_at dksX4_row_1 0 rfl rfl)
theorem dX4_row_25 : decode cX4_row 25 = .ok (.ldc 64, 2) := dk_18 64 (dk_at dksX4_row_1 3 rfl rfl)
theorem dX4_row_27 : decode cX4_row 27 = .ok (.ireturn, 1) := dk_172 (dk_at dksX4_row_1 5 rfl rfl)
theorem dX4_row_28 : decode cX4_row 28 = .ok (.iload_n 3, 1) := dk_29 (dk_at dksX4_row_1 6 rfl rfl)
theorem dX4_row_29 : decode cX4_row 29 = .ok (.ifCond .ge 9, 3) := dk_156 0 9 (dk_at dksX4_row_1 7 rfl rfl)
theorem dX4_row_32 : decode cX4_row 32 = .ok (.aload_n 0, 1) := dk_42 (dk_at dksX4_row_1 10 rfl rfl)
theorem dX4_row_33 : decode cX4_row 33 = .ok (.iconst 4, 1) := dk_7 (dk_at dksX4_row_1 11 rfl rfl)
theorem dX4_row_34 : decode cX4_row 34 = .ok (.invokevirtual 65, 3) := dk_182 0 65 (dk_at dksX4_row_1 12 rfl rfl)
theorem dX4_row_37 : decode cX4_row 37 = .ok (.ireturn, 1) := dk_172 (dk_at dksX4_row_1 15 rfl rfl)
theorem dX4_row_38 : decode cX4_row 38 = .ok (.aload_n 0, 1) := dk_42 (dk_at dksX4_row_1 16 rfl rfl)
theorem dX4_row_39 : decode cX4_row 39 = .ok (.getfield 7, 3) := dk_180 0 7 (dk_at dksX4_row_1 17 rfl rfl)
theorem dX4_row_42 : decode cX4_row 42 = .ok (.iload_n 1, 1) := dk_27 (dk_at dksX4_row_1 20 rfl rfl)
theorem dX4_row_43 : decode cX4_row 43 = .ok (.iload_n 2, 1) := dk_28 (dk_at dksX4_row_1 21 rfl rfl)
theorem dX4_row_44 : decode cX4_row 44 = .ok (.iastore, 1) := dk_79 (dk_at dksX4_row_1 22 rfl rfl)
theorem dX4_row_45 : decode cX4_row 45 = .ok (.aload_n 0, 1) := dk_42 (dk_at dksX4_row_1 23 rfl rfl)
theorem dX4_row_46 : decode cX4_row 46 = .ok (.getfield 13, 3) := dk_180 0 13 (dk_at dksX4_row_2 0 rfl rfl)
theorem dX4_row_49 : decode cX4_row 49 = .ok (.iload_n 1, 1) := dk_27 (dk_at dksX4_row_2 3 rfl rfl)
theorem dX4_row_50 : decode cX4_row 50 = .ok (.iload_n 3, 1) := dk_29 (dk_at dksX4_row_2 4 rfl rfl)
theorem dX4_row_51 : decode cX4_row 51 = .ok (.iastore, 1) := dk_79 (dk_at dksX4_row_2 5 rfl rfl)
theorem dX4_row_52 : decode cX4_row 52 = .ok (.iconst 0, 1) := dk_3 (dk_at dksX4_row_2 6 rfl rfl)
theorem dX4_row_53 : decode cX4_row 53 = .ok (.istore 4, 2) := dk_54 4 (dk_at dksX4_row_2 7 rfl rfl)
theorem dX4_row_55 : decode cX4_row 55 = .ok (.iload 4, 2) := dk_21 4 (dk_at dksX4_row_2 9 rfl rfl)
theorem dX4_row_57 : decode cX4_row 57 = .ok (.bipush 40, 2) := dk_16 40 (dk_at dksX4_row_2 11 rfl rfl)
theorem dX4_row_59 : decode cX4_row 59 = .ok (.if_icmp .ge 22, 3) := dk_162 0 22 (dk_at dksX4_row_2 13 rfl rfl)
theorem dX4_row_62 : decode cX4_row 62 = .ok (.aload_n 0, 1) := dk_42 (dk_at dksX4_row_2 16 rfl rfl)
theorem dX4_row_63 : decode cX4_row 63 = .ok (.getfield 16, 3) := dk_180 0 16 (dk_at dksX4_row_2 17 rfl rfl)
theorem dX4_row_66 : decode cX4_row 66 = .ok (.bipush 40, 2) := dk_16 40 (dk_at dksX4_row_2 20 rfl rfl)
theorem dX4_row_68 : decode cX4_row 68 = .ok (.iload_n 1, 1) := dk_27 (dk_at dksX4_row_2 22 rfl rfl)
theorem dX4_row_69 : decode cX4_row 69 = .ok (.imul, 1) := dk_104 (dk_at dksX4_row_2 23 rfl rfl)
theorem dX4_row_70 : decode cX4_row 70 = .ok (.iload 4, 2) := dk_21 4 (dk_at dksX4_row_3 0 rfl rfl)
theorem dX4_row_72 : decode cX4_row 72 = .ok (.iadd, 1) := dk_96 (dk_at dksX4_row_3 2 rfl rfl)
theorem dX4_row_73 : decode cX4_row 73 = .ok (.iconst 0, 1) := dk_3 (dk_at dksX4_row_3 3 rfl rfl)
theorem dX4_row_74 : decode cX4_row 74 = .ok (.iastore, 1) := dk_79 (dk_at dksX4_row_3 4 rfl rfl)
theorem dX4_row_75 : decode cX4_row 75 = .ok (.iinc 4 1, 3) := dk_132 4 1 (dk_at dksX4_row_3 5 rfl rfl)
theorem dX4_row_78 : decode cX4_row 78 = .ok (.goto (-23), 3) := dk_167 255 233 (dk_at dksX4_row_3 8 rfl rfl)
theorem dX4_row_81 : decode cX4_row 81 = .ok (.aload_n 0, 1) := dk_42 (dk_at dksX4_row_3 11 rfl rfl)
theorem dX4_row_82 : decode cX4_row 82 = .ok (.iload_n 3, 1) := dk_29 (dk_at dksX4_row_3 12 rfl rfl)
theorem dX4_row_83 : decode cX4_row 83 = .ok (.invokevirtual 69, 3) := dk_182 0 69 (dk_at dksX4_row_3 13 rfl rfl)
theorem dX4_row_86 : decode cX4_row 86 = .ok (.ireturn, 1) := dk_172 (dk_at dksX4_row_3 16 rfl rfl)
abbrev cX4_isRow : ByteArray := prog_17_method_7_code
def yX4_isRow : MethodName := ⟨RX4, "isRow", "(I)Z"⟩
def dkwX4_isRow_0 : List UInt8 := [26, 133, 9, 20, 0, 52, 184, 0, 54, 172]
abbrev dktX4_isRow_0 : List UInt8 := dkwX4_isRow_0 ++ []
theorem dksX4_isRow_0 : cX4_isRow.data.toList.drop 0 = dktX4_isRow_0 := by decide +kernel
theorem dX4_isRow_0 : decode cX4_isRow 0 = .ok (.iload_n 0, 1) := dk_26 (dk_at dksX4_isRow_0 0 rfl rfl)
theorem dX4_isRow_1 : decode cX4_isRow 1 = .ok (.i2l, 1) := dk_133 (dk_at dksX4_isRow_0 1 rfl rfl)
theorem dX4_isRow_2 : decode cX4_isRow 2 = .ok (.lconst 0, 1) := dk_9 (dk_at dksX4_isRow_0 2 rfl rfl)
theorem dX4_isRow_3 : decode cX4_isRow 3 = .ok (.ldc2_w 52, 3) := dk_20 0 52 (dk_at dksX4_isRow_0 3 rfl rfl)
theorem dX4_isRow_6 : decode cX4_isRow 6 = .ok (.invokestatic 54, 3) := dk_184 0 54 (dk_at dksX4_isRow_0 6 rfl rfl)
theorem dX4_isRow_9 : decode cX4_isRow 9 = .ok (.ireturn, 1) := dk_172 (dk_at dksX4_isRow_0 9 rfl rfl)
abbrev cX4_in : ByteArray := prog_17_method_2_code
def yX4_in : MethodName := ⟨RX4, "in", "(JJJ)Z"⟩
def dkwX4_in_0 : List UInt8 := [30, 32, 148, 155, 0, 14, 30, 22, 4, 148, 157, 0, 7, 4, 167, 0, 4, 3, 172]
abbrev dktX4_in_0 : List UInt8 := dkwX4_in_0 ++ []
theorem dksX4_in_0 : cX4_in.data.toList.drop 0 = dktX4_in_0 := by decide +kernel
theorem dX4_in_0 : decode cX4_in 0 = .ok (.lload_n 0, 1) := dk_30 (dk_at dksX4_in_0 0 rfl rfl)
theorem dX4_in_1 : decode cX4_in 1 = .ok (.lload_n 2, 1) := dk_32 (dk_at dksX4_in_0 1 rfl rfl)
theorem dX4_in_2 : decode cX4_in 2 = .ok (.lcmp, 1) := dk_148 (dk_at dksX4_in_0 2 rfl rfl)
theorem dX4_in_3 : decode cX4_in 3 = .ok (.ifCond .lt 14, 3) := dk_155 0 14 (dk_at dksX4_in_0 3 rfl rfl)
theorem dX4_in_6 : decode cX4_in 6 = .ok (.lload_n 0, 1) := dk_30 (dk_at dksX4_in_0 6 rfl rfl)
theorem dX4_in_7 : decode cX4_in 7 = .ok (.lload 4, 2) := dk_22 4 (dk_at dksX4_in_0 7 rfl rfl)
theorem dX4_in_9 : decode cX4_in 9 = .ok (.lcmp, 1) := dk_148 (dk_at dksX4_in_0 9 rfl rfl)
theorem dX4_in_10 : decode cX4_in 10 = .ok (.ifCond .gt 7, 3) := dk_157 0 7 (dk_at dksX4_in_0 10 rfl rfl)
theorem dX4_in_13 : decode cX4_in 13 = .ok (.iconst 1, 1) := dk_4 (dk_at dksX4_in_0 13 rfl rfl)
theorem dX4_in_14 : decode cX4_in 14 = .ok (.goto 4, 3) := dk_167 0 4 (dk_at dksX4_in_0 14 rfl rfl)
theorem dX4_in_17 : decode cX4_in 17 = .ok (.iconst 0, 1) := dk_3 (dk_at dksX4_in_0 17 rfl rfl)
theorem dX4_in_18 : decode cX4_in 18 = .ok (.ireturn, 1) := dk_172 (dk_at dksX4_in_0 18 rfl rfl)
abbrev cX4_find : ByteArray := prog_17_method_5_code
def yX4_find : MethodName := ⟨RX4, "find", "(I)I"⟩
def dkwX4_find_0 : List UInt8 := [42, 27, 181, 0, 47, 18, 51, 27, 100, 172]
abbrev dktX4_find_0 : List UInt8 := dkwX4_find_0 ++ []
theorem dksX4_find_0 : cX4_find.data.toList.drop 0 = dktX4_find_0 := by decide +kernel
theorem dX4_find_0 : decode cX4_find 0 = .ok (.aload_n 0, 1) := dk_42 (dk_at dksX4_find_0 0 rfl rfl)
theorem dX4_find_1 : decode cX4_find 1 = .ok (.iload_n 1, 1) := dk_27 (dk_at dksX4_find_0 1 rfl rfl)
theorem dX4_find_2 : decode cX4_find 2 = .ok (.putfield 47, 3) := dk_181 0 47 (dk_at dksX4_find_0 2 rfl rfl)
theorem dX4_find_5 : decode cX4_find 5 = .ok (.ldc 51, 2) := dk_18 51 (dk_at dksX4_find_0 5 rfl rfl)
theorem dX4_find_7 : decode cX4_find 7 = .ok (.iload_n 1, 1) := dk_27 (dk_at dksX4_find_0 7 rfl rfl)
theorem dX4_find_8 : decode cX4_find 8 = .ok (.isub, 1) := dk_100 (dk_at dksX4_find_0 8 rfl rfl)
theorem dX4_find_9 : decode cX4_find 9 = .ok (.ireturn, 1) := dk_172 (dk_at dksX4_find_0 9 rfl rfl)
abbrev cX4_well : ByteArray := prog_17_method_6_code
def yX4_well : MethodName := ⟨RX4, "well", "(I)I"⟩
def dkwX4_well_0 : List UInt8 := [42, 3, 181, 0, 47, 27, 172]
abbrev dktX4_well_0 : List UInt8 := dkwX4_well_0 ++ []
theorem dksX4_well_0 : cX4_well.data.toList.drop 0 = dktX4_well_0 := by decide +kernel
theorem dX4_well_0 : decode cX4_well 0 = .ok (.aload_n 0, 1) := dk_42 (dk_at dksX4_well_0 0 rfl rfl)
theorem dX4_well_1 : decode cX4_well 1 = .ok (.iconst 0, 1) := dk_3 (dk_at dksX4_well_0 1 rfl rfl)
theorem dX4_well_2 : decode cX4_well 2 = .ok (.putfield 47, 3) := dk_181 0 47 (dk_at dksX4_well_0 2 rfl rfl)
theorem dX4_well_5 : decode cX4_well 5 = .ok (.iload_n 1, 1) := dk_27 (dk_at dksX4_well_0 5 rfl rfl)
theorem dX4_well_6 : decode cX4_well 6 = .ok (.ireturn, 1) := dk_172 (dk_at dksX4_well_0 6 rfl rfl)
abbrev cX4_set : ByteArray := prog_17_method_10_code
def yX4_set : MethodName := ⟨RX4, "set", "(III)I"⟩
def dkwX4_set_3 : List UInt8 := [180, 0, 16, 16, 40, 27, 104, 28, 96, 46, 182, 0, 69, 172]
abbrev dktX4_set_3 : List UInt8 := dkwX4_set_3 ++ []
def dkwX4_set_2 : List UInt8 := [172, 42, 180, 0, 16, 16, 40, 27, 104, 28, 96, 42, 180, 0, 7, 27, 46, 29, 184, 0, 72, 79, 42, 42]
abbrev dktX4_set_2 : List UInt8 := dkwX4_set_2 ++ dktX4_set_3
def dkwX4_set_1 : List UInt8 := [172, 28, 133, 9, 42, 180, 0, 13, 27, 46, 4, 100, 133, 184, 0, 54, 154, 0, 9, 42, 5, 182, 0, 65]
abbrev dktX4_set_1 : List UInt8 := dkwX4_set_1 ++ dktX4_set_2
def dkwX4_set_0 : List UInt8 := [27, 184, 0, 58, 154, 0, 6, 18, 64, 172, 42, 180, 0, 13, 27, 46, 156, 0, 9, 42, 4, 182, 0, 65]
abbrev dktX4_set_0 : List UInt8 := dkwX4_set_0 ++ dktX4_set_1
theorem dksX4_set_0 : cX4_set.data.toList.drop 0 = dktX4_set_0 := by decide +kernel
theorem dksX4_set_1 : cX4_set.data.toList.drop 24 = dktX4_set_1 := dk_seg dksX4_set_0 24 rfl rfl
theorem dksX4_set_2 : cX4_set.data.toList.drop 48 = dktX4_set_2 := dk_seg dksX4_set_1 24 rfl rfl
theorem dksX4_set_3 : cX4_set.data.toList.drop 72 = dktX4_set_3 := dk_seg dksX4_set_2 24 rfl rfl
theorem dX4_set_0 : decode cX4_set 0 = .ok (.iload_n 1, 1) := dk_27 (dk_at dksX4_set_0 0 rfl rfl)
theorem dX4_set_1 : decode cX4_set 1 = .ok (.invokestatic 58, 3) := dk_184 0 58 (dk_at dksX4_set_0 1 rfl rfl)
theorem dX4_set_4 : decode cX4_set 4 = .ok (.ifCond .ne 6, 3) := dk_154 0 6 (dk_at dksX4_set_0 4 rfl rfl)
theorem dX4_set_7 : decode cX4_set 7 = .ok (.ldc 64, 2) := dk_18 64 (dk_at dksX4_set_0 7 rfl rfl)
theorem dX4_set_9 : decode cX4_set 9 = .ok (.ireturn, 1) := dk_172 (dk_at dksX4_set_0 9 rfl rfl)
theorem dX4_set_10 : decode cX4_set 10 = .ok (.aload_n 0, 1) := dk_42 (dk_at dksX4_set_0 10 rfl rfl)
theorem dX4_set_11 : decode cX4_set 11 = .ok (.getfield 13, 3) := dk_180 0 13 (dk_at dksX4_set_0 11 rfl rfl)
theorem dX4_set_14 : decode cX4_set 14 = .ok (.iload_n 1, 1) := dk_27 (dk_at dksX4_set_0 14 rfl rfl)
theorem dX4_set_15 : decode cX4_set 15 = .ok (.iaload, 1) := dk_46 (dk_at dksX4_set_0 15 rfl rfl)
theorem dX4_set_16 : decode cX4_set 16 = .ok (.ifCond .ge 9, 3) := dk_156 0 9 (dk_at dksX4_set_0 16 rfl rfl)
theorem dX4_set_19 : decode cX4_set 19 = .ok (.aload_n 0, 1) := dk_42 (dk_at dksX4_set_0 19 rfl rfl)
theorem dX4_set_20 : decode cX4_set 20 = .ok (.iconst 1, 1) := dk_4 (dk_at dksX4_set_0 20 rfl rfl)
theorem dX4_set_21 : decode cX4_set 21 = .ok (.invokevirtual 65, 3) := dk_182 0 65 (dk_at dksX4_set_0 21 rfl rfl)
theorem dX4_set_24 : decode cX4_set 24 = .ok (.ireturn, 1) := dk_172 (dk_at dksX4_set_1 0 rfl rfl)
theorem dX4_set_25 : decode cX4_set 25 = .ok (.iload_n 2, 1) := dk_28 (dk_at dksX4_set_1 1 rfl rfl)
theorem dX4_set_26 : decode cX4_set 26 = .ok (.i2l, 1) := dk_133 (dk_at dksX4_set_1 2 rfl rfl)
theorem dX4_set_27 : decode cX4_set 27 = .ok (.lconst 0, 1) := dk_9 (dk_at dksX4_set_1 3 rfl rfl)
theorem dX4_set_28 : decode cX4_set 28 = .ok (.aload_n 0, 1) := dk_42 (dk_at dksX4_set_1 4 rfl rfl)
theorem dX4_set_29 : decode cX4_set 29 = .ok (.getfield 13, 3) := dk_180 0 13 (dk_at dksX4_set_1 5 rfl rfl)
theorem dX4_set_32 : decode cX4_set 32 = .ok (.iload_n 1, 1) := dk_27 (dk_at dksX4_set_1 8 rfl rfl)
theorem dX4_set_33 : decode cX4_set 33 = .ok (.iaload, 1) := dk_46 (dk_at dksX4_set_1 9 rfl rfl)
theorem dX4_set_34 : decode cX4_set 34 = .ok (.iconst 1, 1) := dk_4 (dk_at dksX4_set_1 10 rfl rfl)
theorem dX4_set_35 : decode cX4_set 35 = .ok (.isub, 1) := dk_100 (dk_at dksX4_set_1 11 rfl rfl)
theorem dX4_set_36 : decode cX4_set 36 = .ok (.i2l, 1) := dk_133 (dk_at dksX4_set_1 12 rfl rfl)
theorem dX4_set_37 : decode cX4_set 37 = .ok (.invokestatic 54, 3) := dk_184 0 54 (dk_at dksX4_set_1 13 rfl rfl)
theorem dX4_set_40 : decode cX4_set 40 = .ok (.ifCond .ne 9, 3) := dk_154 0 9 (dk_at dksX4_set_1 16 rfl rfl)
theorem dX4_set_43 : decode cX4_set 43 = .ok (.aload_n 0, 1) := dk_42 (dk_at dksX4_set_1 19 rfl rfl)
theorem dX4_set_44 : decode cX4_set 44 = .ok (.iconst 2, 1) := dk_5 (dk_at dksX4_set_1 20 rfl rfl)
theorem dX4_set_45 : decode cX4_set 45 = .ok (.invokevirtual 65, 3) := dk_182 0 65 (dk_at dksX4_set_1 21 rfl rfl)
theorem dX4_set_48 : decode cX4_set 48 = .ok (.ireturn, 1) := dk_172 (dk_at dksX4_set_2 0 rfl rfl)
theorem dX4_set_49 : decode cX4_set 49 = .ok (.aload_n 0, 1) := dk_42 (dk_at dksX4_set_2 1 rfl rfl)
theorem dX4_set_50 : decode cX4_set 50 = .ok (.getfield 16, 3) := dk_180 0 16 (dk_at dksX4_set_2 2 rfl rfl)
theorem dX4_set_53 : decode cX4_set 53 = .ok (.bipush 40, 2) := dk_16 40 (dk_at dksX4_set_2 5 rfl rfl)
theorem dX4_set_55 : decode cX4_set 55 = .ok (.iload_n 1, 1) := dk_27 (dk_at dksX4_set_2 7 rfl rfl)
theorem dX4_set_56 : decode cX4_set 56 = .ok (.imul, 1) := dk_104 (dk_at dksX4_set_2 8 rfl rfl)
theorem dX4_set_57 : decode cX4_set 57 = .ok (.iload_n 2, 1) := dk_28 (dk_at dksX4_set_2 9 rfl rfl)
theorem dX4_set_58 : decode cX4_set 58 = .ok (.iadd, 1) := dk_96 (dk_at dksX4_set_2 10 rfl rfl)
theorem dX4_set_59 : decode cX4_set 59 = .ok (.aload_n 0, 1) := dk_42 (dk_at dksX4_set_2 11 rfl rfl)
theorem dX4_set_60 : decode cX4_set 60 = .ok (.getfield 7, 3) := dk_180 0 7 (dk_at dksX4_set_2 12 rfl rfl)
theorem dX4_set_63 : decode cX4_set 63 = .ok (.iload_n 1, 1) := dk_27 (dk_at dksX4_set_2 15 rfl rfl)
theorem dX4_set_64 : decode cX4_set 64 = .ok (.iaload, 1) := dk_46 (dk_at dksX4_set_2 16 rfl rfl)
theorem dX4_set_65 : decode cX4_set 65 = .ok (.iload_n 3, 1) := dk_29 (dk_at dksX4_set_2 17 rfl rfl)
theorem dX4_set_66 : decode cX4_set 66 = .ok (.invokestatic 72, 3) := dk_184 0 72 (dk_at dksX4_set_2 18 rfl rfl)
theorem dX4_set_69 : decode cX4_set 69 = .ok (.iastore, 1) := dk_79 (dk_at dksX4_set_2 21 rfl rfl)
theorem dX4_set_70 : decode cX4_set 70 = .ok (.aload_n 0, 1) := dk_42 (dk_at dksX4_set_2 22 rfl rfl)
theorem dX4_set_71 : decode cX4_set 71 = .ok (.aload_n 0, 1) := dk_42 (dk_at dksX4_set_2 23 rfl rfl)
theorem dX4_set_72 : decode cX4_set 72 = .ok (.getfield 16, 3) := dk_180 0 16 (dk_at dksX4_set_3 0 rfl rfl)
theorem dX4_set_75 : decode cX4_set 75 = .ok (.bipush 40, 2) := dk_16 40 (dk_at dksX4_set_3 3 rfl rfl)
theorem dX4_set_77 : decode cX4_set 77 = .ok (.iload_n 1, 1) := dk_27 (dk_at dksX4_set_3 5 rfl rfl)
theorem dX4_set_78 : decode cX4_set 78 = .ok (.imul, 1) := dk_104 (dk_at dksX4_set_3 6 rfl rfl)
theorem dX4_set_79 : decode cX4_set 79 = .ok (.iload_n 2, 1) := dk_28 (dk_at dksX4_set_3 7 rfl rfl)
theorem dX4_set_80 : decode cX4_set 80 = .ok (.iadd, 1) := dk_96 (dk_at dksX4_set_3 8 rfl rfl)
theorem dX4_set_81 : decode cX4_set 81 = .ok (.iaload, 1) := dk_46 (dk_at dksX4_set_3 9 rfl rfl)
theorem dX4_set_82 : decode cX4_set 82 = .ok (.invokevirtual 69, 3) := dk_182 0 69 (dk_at dksX4_set_3 10 rfl rfl)
theorem dX4_set_85 : decode cX4_set 85 = .ok (.ireturn, 1) := dk_172 (dk_at dksX4_set_3 13 rfl rfl)
abbrev cX4_asLane : ByteArray := prog_17_method_9_code
def yX4_asLane : MethodName := ⟨RX4, "asLane", "(II)I"⟩
def dkwX4_asLane_1 : List UInt8 := [16, 16, 122, 167, 0, 4, 27, 172]
abbrev dktX4_asLane_1 : List UInt8 := dkwX4_asLane_1 ++ []
def dkwX4_asLane_0 : List UInt8 := [26, 154, 0, 13, 27, 16, 24, 120, 16, 24, 122, 167, 0, 19, 26, 4, 160, 0, 13, 27, 16, 16, 120]
abbrev dktX4_asLane_0 : List UInt8 := dkwX4_asLane_0 ++ dktX4_asLane_1
theorem dksX4_asLane_0 : cX4_asLane.data.toList.drop 0 = dktX4_asLane_0 := by decide +kernel
theorem dksX4_asLane_1 : cX4_asLane.data.toList.drop 23 = dktX4_asLane_1 := dk_seg dksX4_asLane_0 23 rfl rfl
theorem dX4_asLane_0 : decode cX4_asLane 0 = .ok (.iload_n 0, 1) := dk_26 (dk_at dksX4_asLane_0 0 rfl rfl)
theorem dX4_asLane_1 : decode cX4_asLane 1 = .ok (.ifCond .ne 13, 3) := dk_154 0 13 (dk_at dksX4_asLane_0 1 rfl rfl)
theorem dX4_asLane_4 : decode cX4_asLane 4 = .ok (.iload_n 1, 1) := dk_27 (dk_at dksX4_asLane_0 4 rfl rfl)
theorem dX4_asLane_5 : decode cX4_asLane 5 = .ok (.bipush 24, 2) := dk_16 24 (dk_at dksX4_asLane_0 5 rfl rfl)
theorem dX4_asLane_7 : decode cX4_asLane 7 = .ok (.ishl, 1) := dk_120 (dk_at dksX4_asLane_0 7 rfl rfl)
theorem dX4_asLane_8 : decode cX4_asLane 8 = .ok (.bipush 24, 2) := dk_16 24 (dk_at dksX4_asLane_0 8 rfl rfl)
theorem dX4_asLane_10 : decode cX4_asLane 10 = .ok (.ishr, 1) := dk_122 (dk_at dksX4_asLane_0 10 rfl rfl)
theorem dX4_asLane_11 : decode cX4_asLane 11 = .ok (.goto 19, 3) := dk_167 0 19 (dk_at dksX4_asLane_0 11 rfl rfl)
theorem dX4_asLane_14 : decode cX4_asLane 14 = .ok (.iload_n 0, 1) := dk_26 (dk_at dksX4_asLane_0 14 rfl rfl)
theorem dX4_asLane_15 : decode cX4_asLane 15 = .ok (.iconst 1, 1) := dk_4 (dk_at dksX4_asLane_0 15 rfl rfl)
theorem dX4_asLane_16 : decode cX4_asLane 16 = .ok (.if_icmp .ne 13, 3) := dk_160 0 13 (dk_at dksX4_asLane_0 16 rfl rfl)
theorem dX4_asLane_19 : decode cX4_asLane 19 = .ok (.iload_n 1, 1) := dk_27 (dk_at dksX4_asLane_0 19 rfl rfl)
theorem dX4_asLane_20 : decode cX4_asLane 20 = .ok (.bipush 16, 2) := dk_16 16 (dk_at dksX4_asLane_0 20 rfl rfl)
theorem dX4_asLane_22 : decode cX4_asLane 22 = .ok (.ishl, 1) := dk_120 (dk_at dksX4_asLane_0 22 rfl rfl)
theorem dX4_asLane_23 : decode cX4_asLane 23 = .ok (.bipush 16, 2) := dk_16 16 (dk_at dksX4_asLane_1 0 rfl rfl)
theorem dX4_asLane_25 : decode cX4_asLane 25 = .ok (.ishr, 1) := dk_122 (dk_at dksX4_asLane_1 2 rfl rfl)
theorem dX4_asLane_26 : decode cX4_asLane 26 = .ok (.goto 4, 3) := dk_167 0 4 (dk_at dksX4_asLane_1 3 rfl rfl)
theorem dX4_asLane_29 : decode cX4_asLane 29 = .ok (.iload_n 1, 1) := dk_27 (dk_at dksX4_asLane_1 6 rfl rfl)
theorem dX4_asLane_30 : decode cX4_asLane 30 = .ok (.ireturn, 1) := dk_172 (dk_at dksX4_asLane_1 7 rfl rfl)
abbrev cX4_copy : ByteArray := prog_17_method_11_code
def yX4_copy : MethodName := ⟨RX4, "copy", "(IIIII)I"⟩
def dkwX4_copy_8 : List UInt8 := [21, 5, 182, 0, 69, 172]
abbrev dktX4_copy_8 : List UInt8 := dkwX4_copy_8 ++ []
def dkwX4_copy_7 : List UInt8 := [29, 104, 21, 4, 96, 21, 6, 96, 42, 180, 0, 22, 21, 6, 46, 79, 132, 6, 1, 167, 255, 224, 42]
abbrev dktX4_copy_7 : List UInt8 := dkwX4_copy_7 ++ dktX4_copy_8
def dkwX4_copy_6 : List UInt8 := [46, 79, 132, 6, 1, 167, 255, 225, 3, 54, 6, 21, 6, 21, 5, 162, 0, 31, 42, 180, 0, 16, 16, 40]
abbrev dktX4_copy_6 : List UInt8 := dkwX4_copy_6 ++ dktX4_copy_7
def dkwX4_copy_5 : List UInt8 := [21, 5, 162, 0, 30, 42, 180, 0, 22, 21, 6, 42, 180, 0, 16, 16, 40, 27, 104, 28, 96, 21, 6, 96]
abbrev dktX4_copy_5 : List UInt8 := dkwX4_copy_5 ++ dktX4_copy_6
def dkwX4_copy_4 : List UInt8 := [29, 46, 133, 21, 5, 133, 101, 184, 0, 54, 154, 0, 9, 42, 5, 182, 0, 65, 172, 3, 54, 6, 21, 6]
abbrev dktX4_copy_4 : List UInt8 := dkwX4_copy_4 ++ dktX4_copy_5
def dkwX4_copy_3 : List UInt8 := [180, 0, 13, 27, 46, 133, 21, 5, 133, 101, 184, 0, 54, 153, 0, 24, 21, 4, 133, 9, 42, 180, 0, 13]
abbrev dktX4_copy_3 : List UInt8 := dkwX4_copy_3 ++ dktX4_copy_4
def dkwX4_copy_2 : List UInt8 := [42, 180, 0, 7, 29, 46, 159, 0, 9, 42, 8, 182, 0, 65, 172, 21, 5, 155, 0, 44, 28, 133, 9, 42]
abbrev dktX4_copy_2 : List UInt8 := dkwX4_copy_2 ++ dktX4_copy_3
def dkwX4_copy_1 : List UInt8 := [155, 0, 12, 42, 180, 0, 13, 29, 46, 156, 0, 9, 42, 4, 182, 0, 65, 172, 42, 180, 0, 7, 27, 46]
abbrev dktX4_copy_1 : List UInt8 := dkwX4_copy_1 ++ dktX4_copy_2
def dkwX4_copy_0 : List UInt8 := [27, 184, 0, 58, 153, 0, 10, 29, 184, 0, 58, 154, 0, 6, 18, 64, 172, 42, 180, 0, 13, 27, 46]
abbrev dktX4_copy_0 : List UInt8 := dkwX4_copy_0 ++ dktX4_copy_1
theorem dksX4_copy_0 : cX4_copy.data.toList.drop 0 = dktX4_copy_0 := by decide +kernel
theorem dksX4_copy_1 : cX4_copy.data.toList.drop 23 = dktX4_copy_1 := dk_seg dksX4_copy_0 23 rfl rfl
theorem dksX4_copy_2 : cX4_copy.data.toList.drop 47 = dktX4_copy_2 := dk_seg dksX4_copy_1 24 rfl rfl
theorem dksX4_copy_3 : cX4_copy.data.toList.drop 71 = dktX4_copy_3 := dk_seg dksX4_copy_2 24 rfl rfl
theorem dksX4_copy_4 : cX4_copy.data.toList.drop 95 = dktX4_copy_4 := dk_seg dksX4_copy_3 24 rfl rfl
theorem dksX4_copy_5 : cX4_copy.data.toList.drop 119 = dktX4_copy_5 := dk_seg dksX4_copy_4 24 rfl rfl
theorem dksX4_copy_6 : cX4_copy.data.toList.drop 143 = dktX4_copy_6 := dk_seg dksX4_copy_5 24 rfl rfl
theorem dksX4_copy_7 : cX4_copy.data.toList.drop 167 = dktX4_copy_7 := dk_seg dksX4_copy_6 24 rfl rfl
theorem dksX4_copy_8 : cX4_copy.data.toList.drop 190 = dktX4_copy_8 := dk_seg dksX4_copy_7 23 rfl rfl
theorem dX4_copy_0 : decode cX4_copy 0 = .ok (.iload_n 1, 1) := dk_27 (dk_at dksX4_copy_0 0 rfl rfl)
theorem dX4_copy_1 : decode cX4_copy 1 = .ok (.invokestatic 58, 3) := dk_184 0 58 (dk_at dksX4_copy_0 1 rfl rfl)
theorem dX4_copy_4 : decode cX4_copy 4 = .ok (.ifCond .eq 10, 3) := dk_153 0 10 (dk_at dksX4_copy_0 4 rfl rfl)
theorem dX4_copy_7 : decode cX4_copy 7 = .ok (.iload_n 3, 1) := dk_29 (dk_at dksX4_copy_0 7 rfl rfl)
theorem dX4_copy_8 : decode cX4_copy 8 = .ok (.invokestatic 58, 3) := dk_184 0 58 (dk_at dksX4_copy_0 8 rfl rfl)
theorem dX4_copy_11 : decode cX4_copy 11 = .ok (.ifCond .ne 6, 3) := dk_154 0 6 (dk_at dksX4_copy_0 11 rfl rfl)
theorem dX4_copy_14 : decode cX4_copy 14 = .ok (.ldc 64, 2) := dk_18 64 (dk_at dksX4_copy_0 14 rfl rfl)
theorem dX4_copy_16 : decode cX4_copy 16 = .ok (.ireturn, 1) := dk_172 (dk_at dksX4_copy_0 16 rfl rfl)
theorem dX4_copy_17 : decode cX4_copy 17 = .ok (.aload_n 0, 1) := dk_42 (dk_at dksX4_copy_0 17 rfl rfl)
theorem dX4_copy_18 : decode cX4_copy 18 = .ok (.getfield 13, 3) := dk_180 0 13 (dk_at dksX4_copy_0 18 rfl rfl)
theorem dX4_copy_21 : decode cX4_copy 21 = .ok (.iload_n 1, 1) := dk_27 (dk_at dksX4_copy_0 21 rfl rfl)
theorem dX4_copy_22 : decode cX4_copy 22 = .ok (.iaload, 1) := dk_46 (dk_at dksX4_copy_0 22 rfl rfl)
theorem dX4_copy_23 : decode cX4_copy 23 = .ok (.ifCond .lt 12, 3) := dk_155 0 12 (dk_at dksX4_copy_1 0 rfl rfl)
theorem dX4_copy_26 : decode cX4_copy 26 = .ok (.aload_n 0, 1) := dk_42 (dk_at dksX4_copy_1 3 rfl rfl)
theorem dX4_copy_27 : decode cX4_copy 27 = .ok (.getfield 13, 3) := dk_180 0 13 (dk_at dksX4_copy_1 4 rfl rfl)
theorem dX4_copy_30 : decode cX4_copy 30 = .ok (.iload_n 3, 1) := dk_29 (dk_at dksX4_copy_1 7 rfl rfl)
theorem dX4_copy_31 : decode cX4_copy 31 = .ok (.iaload, 1) := dk_46 (dk_at dksX4_copy_1 8 rfl rfl)
theorem dX4_copy_32 : decode cX4_copy 32 = .ok (.ifCond .ge 9, 3) := dk_156 0 9 (dk_at dksX4_copy_1 9 rfl rfl)
theorem dX4_copy_35 : decode cX4_copy 35 = .ok (.aload_n 0, 1) := dk_42 (dk_at dksX4_copy_1 12 rfl rfl)
theorem dX4_copy_36 : decode cX4_copy 36 = .ok (.iconst 1, 1) := dk_4 (dk_at dksX4_copy_1 13 rfl rfl)
theorem dX4_copy_37 : decode cX4_copy 37 = .ok (.invokevirtual 65, 3) := dk_182 0 65 (dk_at dksX4_copy_1 14 rfl rfl)
theorem dX4_copy_40 : decode cX4_copy 40 = .ok (.ireturn, 1) := dk_172 (dk_at dksX4_copy_1 17 rfl rfl)
theorem dX4_copy_41 : decode cX4_copy 41 = .ok (.aload_n 0, 1) := dk_42 (dk_at dksX4_copy_1 18 rfl rfl)
theorem dX4_copy_42 : decode cX4_copy 42 = .ok (.getfield 7, 3) := dk_180 0 7 (dk_at dksX4_copy_1 19 rfl rfl)
theorem dX4_copy_45 : decode cX4_copy 45 = .ok (.iload_n 1, 1) := dk_27 (dk_at dksX4_copy_1 22 rfl rfl)
theorem dX4_copy_46 : decode cX4_copy 46 = .ok (.iaload, 1) := dk_46 (dk_at dksX4_copy_1 23 rfl rfl)
theorem dX4_copy_47 : decode cX4_copy 47 = .ok (.aload_n 0, 1) := dk_42 (dk_at dksX4_copy_2 0 rfl rfl)
theorem dX4_copy_48 : decode cX4_copy 48 = .ok (.getfield 7, 3) := dk_180 0 7 (dk_at dksX4_copy_2 1 rfl rfl)
theorem dX4_copy_51 : decode cX4_copy 51 = .ok (.iload_n 3, 1) := dk_29 (dk_at dksX4_copy_2 4 rfl rfl)
theorem dX4_copy_52 : decode cX4_copy 52 = .ok (.iaload, 1) := dk_46 (dk_at dksX4_copy_2 5 rfl rfl)
theorem dX4_copy_53 : decode cX4_copy 53 = .ok (.if_icmp .eq 9, 3) := dk_159 0 9 (dk_at dksX4_copy_2 6 rfl rfl)
theorem dX4_copy_56 : decode cX4_copy 56 = .ok (.aload_n 0, 1) := dk_42 (dk_at dksX4_copy_2 9 rfl rfl)
theorem dX4_copy_57 : decode cX4_copy 57 = .ok (.iconst 5, 1) := dk_8 (dk_at dksX4_copy_2 10 rfl rfl)
theorem dX4_copy_58 : decode cX4_copy 58 = .ok (.invokevirtual 65, 3) := dk_182 0 65 (dk_at dksX4_copy_2 11 rfl rfl)
theorem dX4_copy_61 : decode cX4_copy 61 = .ok (.ireturn, 1) := dk_172 (dk_at dksX4_copy_2 14 rfl rfl)
theorem dX4_copy_62 : decode cX4_copy 62 = .ok (.iload 5, 2) := dk_21 5 (dk_at dksX4_copy_2 15 rfl rfl)
theorem dX4_copy_64 : decode cX4_copy 64 = .ok (.ifCond .lt 44, 3) := dk_155 0 44 (dk_at dksX4_copy_2 17 rfl rfl)
theorem dX4_copy_67 : decode cX4_copy 67 = .ok (.iload_n 2, 1) := dk_28 (dk_at dksX4_copy_2 20 rfl rfl)
theorem dX4_copy_68 : decode cX4_copy 68 = .ok (.i2l, 1) := dk_133 (dk_at dksX4_copy_2 21 rfl rfl)
theorem dX4_copy_69 : decode cX4_copy 69 = .ok (.lconst 0, 1) := dk_9 (dk_at dksX4_copy_2 22 rfl rfl)
theorem dX4_copy_70 : decode cX4_copy 70 = .ok (.aload_n 0, 1) := dk_42 (dk_at dksX4_copy_2 23 rfl rfl)
theorem dX4_copy_71 : decode cX4_copy 71 = .ok (.getfield 13, 3) := dk_180 0 13 (dk_at dksX4_copy_3 0 rfl rfl)
theorem dX4_copy_74 : decode cX4_copy 74 = .ok (.iload_n 1, 1) := dk_27 (dk_at dksX4_copy_3 3 rfl rfl)
theorem dX4_copy_75 : decode cX4_copy 75 = .ok (.iaload, 1) := dk_46 (dk_at dksX4_copy_3 4 rfl rfl)
theorem dX4_copy_76 : decode cX4_copy 76 = .ok (.i2l, 1) := dk_133 (dk_at dksX4_copy_3 5 rfl rfl)
theorem dX4_copy_77 : decode cX4_copy 77 = .ok (.iload 5, 2) := dk_21 5 (dk_at dksX4_copy_3 6 rfl rfl)
theorem dX4_copy_79 : decode cX4_copy 79 = .ok (.i2l, 1) := dk_133 (dk_at dksX4_copy_3 8 rfl rfl)
theorem dX4_copy_80 : decode cX4_copy 80 = .ok (.lsub, 1) := dk_101 (dk_at dksX4_copy_3 9 rfl rfl)
theorem dX4_copy_81 : decode cX4_copy 81 = .ok (.invokestatic 54, 3) := dk_184 0 54 (dk_at dksX4_copy_3 10 rfl rfl)
theorem dX4_copy_84 : decode cX4_copy 84 = .ok (.ifCond .eq 24, 3) := dk_153 0 24 (dk_at dksX4_copy_3 13 rfl rfl)
theorem dX4_copy_87 : decode cX4_copy 87 = .ok (.iload 4, 2) := dk_21 4 (dk_at dksX4_copy_3 16 rfl rfl)
theorem dX4_copy_89 : decode cX4_copy 89 = .ok (.i2l, 1) := dk_133 (dk_at dksX4_copy_3 18 rfl rfl)
theorem dX4_copy_90 : decode cX4_copy 90 = .ok (.lconst 0, 1) := dk_9 (dk_at dksX4_copy_3 19 rfl rfl)
theorem dX4_copy_91 : decode cX4_copy 91 = .ok (.aload_n 0, 1) := dk_42 (dk_at dksX4_copy_3 20 rfl rfl)
theorem dX4_copy_92 : decode cX4_copy 92 = .ok (.getfield 13, 3) := dk_180 0 13 (dk_at dksX4_copy_3 21 rfl rfl)
theorem dX4_copy_95 : decode cX4_copy 95 = .ok (.iload_n 3, 1) := dk_29 (dk_at dksX4_copy_4 0 rfl rfl)
theorem dX4_copy_96 : decode cX4_copy 96 = .ok (.iaload, 1) := dk_46 (dk_at dksX4_copy_4 1 rfl rfl)
theorem dX4_copy_97 : decode cX4_copy 97 = .ok (.i2l, 1) := dk_133 (dk_at dksX4_copy_4 2 rfl rfl)
theorem dX4_copy_98 : decode cX4_copy 98 = .ok (.iload 5, 2) := dk_21 5 (dk_at dksX4_copy_4 3 rfl rfl)
theorem dX4_copy_100 : decode cX4_copy 100 = .ok (.i2l, 1) := dk_133 (dk_at dksX4_copy_4 5 rfl rfl)
theorem dX4_copy_101 : decode cX4_copy 101 = .ok (.lsub, 1) := dk_101 (dk_at dksX4_copy_4 6 rfl rfl)
theorem dX4_copy_102 : decode cX4_copy 102 = .ok (.invokestatic 54, 3) := dk_184 0 54 (dk_at dksX4_copy_4 7 rfl rfl)
theorem dX4_copy_105 : decode cX4_copy 105 = .ok (.ifCond .ne 9, 3) := dk_154 0 9 (dk_at dksX4_copy_4 10 rfl rfl)
theorem dX4_copy_108 : decode cX4_copy 108 = .ok (.aload_n 0, 1) := dk_42 (dk_at dksX4_copy_4 13 rfl rfl)
theorem dX4_copy_109 : decode cX4_copy 109 = .ok (.iconst 2, 1) := dk_5 (dk_at dksX4_copy_4 14 rfl rfl)
theorem dX4_copy_110 : decode cX4_copy 110 = .ok (.invokevirtual 65, 3) := dk_182 0 65 (dk_at dksX4_copy_4 15 rfl rfl)
theorem dX4_copy_113 : decode cX4_copy 113 = .ok (.ireturn, 1) := dk_172 (dk_at dksX4_copy_4 18 rfl rfl)
theorem dX4_copy_114 : decode cX4_copy 114 = .ok (.iconst 0, 1) := dk_3 (dk_at dksX4_copy_4 19 rfl rfl)
theorem dX4_copy_115 : decode cX4_copy 115 = .ok (.istore 6, 2) := dk_54 6 (dk_at dksX4_copy_4 20 rfl rfl)
theorem dX4_copy_117 : decode cX4_copy 117 = .ok (.iload 6, 2) := dk_21 6 (dk_at dksX4_copy_4 22 rfl rfl)
theorem dX4_copy_119 : decode cX4_copy 119 = .ok (.iload 5, 2) := dk_21 5 (dk_at dksX4_copy_5 0 rfl rfl)
theorem dX4_copy_121 : decode cX4_copy 121 = .ok (.if_icmp .ge 30, 3) := dk_162 0 30 (dk_at dksX4_copy_5 2 rfl rfl)
theorem dX4_copy_124 : decode cX4_copy 124 = .ok (.aload_n 0, 1) := dk_42 (dk_at dksX4_copy_5 5 rfl rfl)
theorem dX4_copy_125 : decode cX4_copy 125 = .ok (.getfield 22, 3) := dk_180 0 22 (dk_at dksX4_copy_5 6 rfl rfl)
theorem dX4_copy_128 : decode cX4_copy 128 = .ok (.iload 6, 2) := dk_21 6 (dk_at dksX4_copy_5 9 rfl rfl)
theorem dX4_copy_130 : decode cX4_copy 130 = .ok (.aload_n 0, 1) := dk_42 (dk_at dksX4_copy_5 11 rfl rfl)
theorem dX4_copy_131 : decode cX4_copy 131 = .ok (.getfield 16, 3) := dk_180 0 16 (dk_at dksX4_copy_5 12 rfl rfl)
theorem dX4_copy_134 : decode cX4_copy 134 = .ok (.bipush 40, 2) := dk_16 40 (dk_at dksX4_copy_5 15 rfl rfl)
theorem dX4_copy_136 : decode cX4_copy 136 = .ok (.iload_n 1, 1) := dk_27 (dk_at dksX4_copy_5 17 rfl rfl)
theorem dX4_copy_137 : decode cX4_copy 137 = .ok (.imul, 1) := dk_104 (dk_at dksX4_copy_5 18 rfl rfl)
theorem dX4_copy_138 : decode cX4_copy 138 = .ok (.iload_n 2, 1) := dk_28 (dk_at dksX4_copy_5 19 rfl rfl)
theorem dX4_copy_139 : decode cX4_copy 139 = .ok (.iadd, 1) := dk_96 (dk_at dksX4_copy_5 20 rfl rfl)
theorem dX4_copy_140 : decode cX4_copy 140 = .ok (.iload 6, 2) := dk_21 6 (dk_at dksX4_copy_5 21 rfl rfl)
theorem dX4_copy_142 : decode cX4_copy 142 = .ok (.iadd, 1) := dk_96 (dk_at dksX4_copy_5 23 rfl rfl)
theorem dX4_copy_143 : decode cX4_copy 143 = .ok (.iaload, 1) := dk_46 (dk_at dksX4_copy_6 0 rfl rfl)
theorem dX4_copy_144 : decode cX4_copy 144 = .ok (.iastore, 1) := dk_79 (dk_at dksX4_copy_6 1 rfl rfl)
theorem dX4_copy_145 : decode cX4_copy 145 = .ok (.iinc 6 1, 3) := dk_132 6 1 (dk_at dksX4_copy_6 2 rfl rfl)
theorem dX4_copy_148 : decode cX4_copy 148 = .ok (.goto (-31), 3) := dk_167 255 225 (dk_at dksX4_copy_6 5 rfl rfl)
theorem dX4_copy_151 : decode cX4_copy 151 = .ok (.iconst 0, 1) := dk_3 (dk_at dksX4_copy_6 8 rfl rfl)
theorem dX4_copy_152 : decode cX4_copy 152 = .ok (.istore 6, 2) := dk_54 6 (dk_at dksX4_copy_6 9 rfl rfl)
theorem dX4_copy_154 : decode cX4_copy 154 = .ok (.iload 6, 2) := dk_21 6 (dk_at dksX4_copy_6 11 rfl rfl)
theorem dX4_copy_156 : decode cX4_copy 156 = .ok (.iload 5, 2) := dk_21 5 (dk_at dksX4_copy_6 13 rfl rfl)
theorem dX4_copy_158 : decode cX4_copy 158 = .ok (.if_icmp .ge 31, 3) := dk_162 0 31 (dk_at dksX4_copy_6 15 rfl rfl)
theorem dX4_copy_161 : decode cX4_copy 161 = .ok (.aload_n 0, 1) := dk_42 (dk_at dksX4_copy_6 18 rfl rfl)
theorem dX4_copy_162 : decode cX4_copy 162 = .ok (.getfield 16, 3) := dk_180 0 16 (dk_at dksX4_copy_6 19 rfl rfl)
theorem dX4_copy_165 : decode cX4_copy 165 = .ok (.bipush 40, 2) := dk_16 40 (dk_at dksX4_copy_6 22 rfl rfl)
theorem dX4_copy_167 : decode cX4_copy 167 = .ok (.iload_n 3, 1) := dk_29 (dk_at dksX4_copy_7 0 rfl rfl)
theorem dX4_copy_168 : decode cX4_copy 168 = .ok (.imul, 1) := dk_104 (dk_at dksX4_copy_7 1 rfl rfl)
theorem dX4_copy_169 : decode cX4_copy 169 = .ok (.iload 4, 2) := dk_21 4 (dk_at dksX4_copy_7 2 rfl rfl)
theorem dX4_copy_171 : decode cX4_copy 171 = .ok (.iadd, 1) := dk_96 (dk_at dksX4_copy_7 4 rfl rfl)
theorem dX4_copy_172 : decode cX4_copy 172 = .ok (.iload 6, 2) := dk_21 6 (dk_at dksX4_copy_7 5 rfl rfl)
theorem dX4_copy_174 : decode cX4_copy 174 = .ok (.iadd, 1) := dk_96 (dk_at dksX4_copy_7 7 rfl rfl)
theorem dX4_copy_175 : decode cX4_copy 175 = .ok (.aload_n 0, 1) := dk_42 (dk_at dksX4_copy_7 8 rfl rfl)
theorem dX4_copy_176 : decode cX4_copy 176 = .ok (.getfield 22, 3) := dk_180 0 22 (dk_at dksX4_copy_7 9 rfl rfl)
theorem dX4_copy_179 : decode cX4_copy 179 = .ok (.iload 6, 2) := dk_21 6 (dk_at dksX4_copy_7 12 rfl rfl)
theorem dX4_copy_181 : decode cX4_copy 181 = .ok (.iaload, 1) := dk_46 (dk_at dksX4_copy_7 14 rfl rfl)
theorem dX4_copy_182 : decode cX4_copy 182 = .ok (.iastore, 1) := dk_79 (dk_at dksX4_copy_7 15 rfl rfl)
theorem dX4_copy_183 : decode cX4_copy 183 = .ok (.iinc 6 1, 3) := dk_132 6 1 (dk_at dksX4_copy_7 16 rfl rfl)
theorem dX4_copy_186 : decode cX4_copy 186 = .ok (.goto (-32), 3) := dk_167 255 224 (dk_at dksX4_copy_7 19 rfl rfl)
theorem dX4_copy_189 : decode cX4_copy 189 = .ok (.aload_n 0, 1) := dk_42 (dk_at dksX4_copy_7 22 rfl rfl)
theorem dX4_copy_190 : decode cX4_copy 190 = .ok (.iload 5, 2) := dk_21 5 (dk_at dksX4_copy_8 0 rfl rfl)
theorem dX4_copy_192 : decode cX4_copy 192 = .ok (.invokevirtual 69, 3) := dk_182 0 69 (dk_at dksX4_copy_8 2 rfl rfl)
theorem dX4_copy_195 : decode cX4_copy 195 = .ok (.ireturn, 1) := dk_172 (dk_at dksX4_copy_8 5 rfl rfl)
abbrev cX4_drop : ByteArray := prog_17_method_12_code
def yX4_drop : MethodName := ⟨RX4, "drop", "(I)I"⟩
def dkwX4_drop_1 : List UInt8 := [172, 42, 180, 0, 13, 27, 46, 61, 42, 180, 0, 13, 27, 2, 79, 42, 28, 182, 0, 69, 172]
abbrev dktX4_drop_1 : List UInt8 := dkwX4_drop_1 ++ []
def dkwX4_drop_0 : List UInt8 := [27, 184, 0, 58, 154, 0, 6, 18, 64, 172, 42, 180, 0, 13, 27, 46, 156, 0, 9, 42, 4, 182, 0, 65]
abbrev dktX4_drop_0 : List UInt8 := dkwX4_drop_0 ++ dktX4_drop_1
theorem dksX4_drop_0 : cX4_drop.data.toList.drop 0 = dktX4_drop_0 := by decide +kernel
theorem dksX4_drop_1 : cX4_drop.data.toList.drop 24 = dktX4_drop_1 := dk_seg dksX4_drop_0 24 rfl rfl
theorem dX4_drop_0 : decode cX4_drop 0 = .ok (.iload_n 1, 1) := dk_27 (dk_at dksX4_drop_0 0 rfl rfl)
theorem dX4_drop_1 : decode cX4_drop 1 = .ok (.invokestatic 58, 3) := dk_184 0 58 (dk_at dksX4_drop_0 1 rfl rfl)
theorem dX4_drop_4 : decode cX4_drop 4 = .ok (.ifCond .ne 6, 3) := dk_154 0 6 (dk_at dksX4_drop_0 4 rfl rfl)
theorem dX4_drop_7 : decode cX4_drop 7 = .ok (.ldc 64, 2) := dk_18 64 (dk_at dksX4_drop_0 7 rfl rfl)
theorem dX4_drop_9 : decode cX4_drop 9 = .ok (.ireturn, 1) := dk_172 (dk_at dksX4_drop_0 9 rfl rfl)
theorem dX4_drop_10 : decode cX4_drop 10 = .ok (.aload_n 0, 1) := dk_42 (dk_at dksX4_drop_0 10 rfl rfl)
theorem dX4_drop_11 : decode cX4_drop 11 = .ok (.getfield 13, 3) := dk_180 0 13 (dk_at dksX4_drop_0 11 rfl rfl)
theorem dX4_drop_14 : decode cX4_drop 14 = .ok (.iload_n 1, 1) := dk_27 (dk_at dksX4_drop_0 14 rfl rfl)
theorem dX4_drop_15 : decode cX4_drop 15 = .ok (.iaload, 1) := dk_46 (dk_at dksX4_drop_0 15 rfl rfl)
theorem dX4_drop_16 : decode cX4_drop 16 = .ok (.ifCond .ge 9, 3) := dk_156 0 9 (dk_at dksX4_drop_0 16 rfl rfl)
theorem dX4_drop_19 : decode cX4_drop 19 = .ok (.aload_n 0, 1) := dk_42 (dk_at dksX4_drop_0 19 rfl rfl)
theorem dX4_drop_20 : decode cX4_drop 20 = .ok (.iconst 1, 1) := dk_4 (dk_at dksX4_drop_0 20 rfl rfl)
theorem dX4_drop_21 : decode cX4_drop 21 = .ok (.invokevirtual 65, 3) := dk_182 0 65 (dk_at dksX4_drop_0 21 rfl rfl)
theorem dX4_drop_24 : decode cX4_drop 24 = .ok (.ireturn, 1) := dk_172 (dk_at dksX4_drop_1 0 rfl rfl)
theorem dX4_drop_25 : decode cX4_drop 25 = .ok (.aload_n 0, 1) := dk_42 (dk_at dksX4_drop_1 1 rfl rfl)
theorem dX4_drop_26 : decode cX4_drop 26 = .ok (.getfield 13, 3) := dk_180 0 13 (dk_at dksX4_drop_1 2 rfl rfl)
theorem dX4_drop_29 : decode cX4_drop 29 = .ok (.iload_n 1, 1) := dk_27 (dk_at dksX4_drop_1 5 rfl rfl)
theorem dX4_drop_30 : decode cX4_drop 30 = .ok (.iaload, 1) := dk_46 (dk_at dksX4_drop_1 6 rfl rfl)
theorem dX4_drop_31 : decode cX4_drop 31 = .ok (.istore_n 2, 1) := dk_61 (dk_at dksX4_drop_1 7 rfl rfl)
theorem dX4_drop_32 : decode cX4_drop 32 = .ok (.aload_n 0, 1) := dk_42 (dk_at dksX4_drop_1 8 rfl rfl)
theorem dX4_drop_33 : decode cX4_drop 33 = .ok (.getfield 13, 3) := dk_180 0 13 (dk_at dksX4_drop_1 9 rfl rfl)
theorem dX4_drop_36 : decode cX4_drop 36 = .ok (.iload_n 1, 1) := dk_27 (dk_at dksX4_drop_1 12 rfl rfl)
theorem dX4_drop_37 : decode cX4_drop 37 = .ok (.iconst (-1), 1) := dk_2 (dk_at dksX4_drop_1 13 rfl rfl)
theorem dX4_drop_38 : decode cX4_drop 38 = .ok (.iastore, 1) := dk_79 (dk_at dksX4_drop_1 14 rfl rfl)
theorem dX4_drop_39 : decode cX4_drop 39 = .ok (.aload_n 0, 1) := dk_42 (dk_at dksX4_drop_1 15 rfl rfl)
theorem dX4_drop_40 : decode cX4_drop 40 = .ok (.iload_n 2, 1) := dk_28 (dk_at dksX4_drop_1 16 rfl rfl)
theorem dX4_drop_41 : decode cX4_drop 41 = .ok (.invokevirtual 69, 3) := dk_182 0 69 (dk_at dksX4_drop_1 17 rfl rfl)
theorem dX4_drop_44 : decode cX4_drop 44 = .ok (.ireturn, 1) := dk_172 (dk_at dksX4_drop_1 20 rfl rfl)
abbrev cX4_feed : ByteArray := prog_17_method_13_code
def yX4_feed : MethodName := ⟨RX4, "feed", "(I)I"⟩
def dkwX4_feed_2 : List UInt8 := [180, 0, 78, 172]
abbrev dktX4_feed_2 : List UInt8 := dkwX4_feed_2 ++ []
def dkwX4_feed_1 : List UInt8 := [18, 81, 172, 42, 180, 0, 25, 42, 180, 0, 78, 27, 79, 42, 89, 180, 0, 78, 4, 96, 181, 0, 78, 42]
abbrev dktX4_feed_1 : List UInt8 := dkwX4_feed_1 ++ dktX4_feed_2
def dkwX4_feed_0 : List UInt8 := [27, 133, 9, 20, 0, 76, 184, 0, 54, 154, 0, 6, 18, 64, 172, 42, 180, 0, 78, 16, 120, 160, 0, 6]
abbrev dktX4_feed_0 : List UInt8 := dkwX4_feed_0 ++ dktX4_feed_1
theorem dksX4_feed_0 : cX4_feed.data.toList.drop 0 = dktX4_feed_0 := by decide +kernel
theorem dksX4_feed_1 : cX4_feed.data.toList.drop 24 = dktX4_feed_1 := dk_seg dksX4_feed_0 24 rfl rfl
theorem dksX4_feed_2 : cX4_feed.data.toList.drop 48 = dktX4_feed_2 := dk_seg dksX4_feed_1 24 rfl rfl
theorem dX4_feed_0 : decode cX4_feed 0 = .ok (.iload_n 1, 1) := dk_27 (dk_at dksX4_feed_0 0 rfl rfl)
theorem dX4_feed_1 : decode cX4_feed 1 = .ok (.i2l, 1) := dk_133 (dk_at dksX4_feed_0 1 rfl rfl)
theorem dX4_feed_2 : decode cX4_feed 2 = .ok (.lconst 0, 1) := dk_9 (dk_at dksX4_feed_0 2 rfl rfl)
theorem dX4_feed_3 : decode cX4_feed 3 = .ok (.ldc2_w 76, 3) := dk_20 0 76 (dk_at dksX4_feed_0 3 rfl rfl)
theorem dX4_feed_6 : decode cX4_feed 6 = .ok (.invokestatic 54, 3) := dk_184 0 54 (dk_at dksX4_feed_0 6 rfl rfl)
theorem dX4_feed_9 : decode cX4_feed 9 = .ok (.ifCond .ne 6, 3) := dk_154 0 6 (dk_at dksX4_feed_0 9 rfl rfl)
theorem dX4_feed_12 : decode cX4_feed 12 = .ok (.ldc 64, 2) := dk_18 64 (dk_at dksX4_feed_0 12 rfl rfl)
theorem dX4_feed_14 : decode cX4_feed 14 = .ok (.ireturn, 1) := dk_172 (dk_at dksX4_feed_0 14 rfl rfl)
theorem dX4_feed_15 : decode cX4_feed 15 = .ok (.aload_n 0, 1) := dk_42 (dk_at dksX4_feed_0 15 rfl rfl)
theorem dX4_feed_16 : decode cX4_feed 16 = .ok (.getfield 78, 3) := dk_180 0 78 (dk_at dksX4_feed_0 16 rfl rfl)
theorem dX4_feed_19 : decode cX4_feed 19 = .ok (.bipush 120, 2) := dk_16 120 (dk_at dksX4_feed_0 19 rfl rfl)
theorem dX4_feed_21 : decode cX4_feed 21 = .ok (.if_icmp .ne 6, 3) := dk_160 0 6 (dk_at dksX4_feed_0 21 rfl rfl)
theorem dX4_feed_24 : decode cX4_feed 24 = .ok (.ldc 81, 2) := dk_18 81 (dk_at dksX4_feed_1 0 rfl rfl)
theorem dX4_feed_26 : decode cX4_feed 26 = .ok (.ireturn, 1) := dk_172 (dk_at dksX4_feed_1 2 rfl rfl)
theorem dX4_feed_27 : decode cX4_feed 27 = .ok (.aload_n 0, 1) := dk_42 (dk_at dksX4_feed_1 3 rfl rfl)
theorem dX4_feed_28 : decode cX4_feed 28 = .ok (.getfield 25, 3) := dk_180 0 25 (dk_at dksX4_feed_1 4 rfl rfl)
theorem dX4_feed_31 : decode cX4_feed 31 = .ok (.aload_n 0, 1) := dk_42 (dk_at dksX4_feed_1 7 rfl rfl)
theorem dX4_feed_32 : decode cX4_feed 32 = .ok (.getfield 78, 3) := dk_180 0 78 (dk_at dksX4_feed_1 8 rfl rfl)
theorem dX4_feed_35 : decode cX4_feed 35 = .ok (.iload_n 1, 1) := dk_27 (dk_at dksX4_feed_1 11 rfl rfl)
theorem dX4_feed_36 : decode cX4_feed 36 = .ok (.iastore, 1) := dk_79 (dk_at dksX4_feed_1 12 rfl rfl)
theorem dX4_feed_37 : decode cX4_feed 37 = .ok (.aload_n 0, 1) := dk_42 (dk_at dksX4_feed_1 13 rfl rfl)
theorem dX4_feed_38 : decode cX4_feed 38 = .ok (.dup, 1) := dk_89 (dk_at dksX4_feed_1 14 rfl rfl)
theorem dX4_feed_39 : decode cX4_feed 39 = .ok (.getfield 78, 3) := dk_180 0 78 (dk_at dksX4_feed_1 15 rfl rfl)
theorem dX4_feed_42 : decode cX4_feed 42 = .ok (.iconst 1, 1) := dk_4 (dk_at dksX4_feed_1 18 rfl rfl)
theorem dX4_feed_43 : decode cX4_feed 43 = .ok (.iadd, 1) := dk_96 (dk_at dksX4_feed_1 19 rfl rfl)
theorem dX4_feed_44 : decode cX4_feed 44 = .ok (.putfield 78, 3) := dk_181 0 78 (dk_at dksX4_feed_1 20 rfl rfl)
theorem dX4_feed_47 : decode cX4_feed 47 = .ok (.aload_n 0, 1) := dk_42 (dk_at dksX4_feed_1 23 rfl rfl)
theorem dX4_feed_48 : decode cX4_feed 48 = .ok (.getfield 78, 3) := dk_180 0 78 (dk_at dksX4_feed_2 0 rfl rfl)
theorem dX4_feed_51 : decode cX4_feed 51 = .ok (.ireturn, 1) := dk_172 (dk_at dksX4_feed_2 3 rfl rfl)
abbrev cX4_scales : ByteArray := prog_17_method_22_code
def yX4_scales : MethodName := ⟨RX4, "scales", "()I"⟩
def dkwX4_scales_3 : List UInt8 := [172]
abbrev dktX4_scales_3 : List UInt8 := dkwX4_scales_3 ++ []
def dkwX4_scales_2 : List UInt8 := [46, 79, 132, 2, 1, 167, 255, 235, 42, 4, 181, 0, 135, 42, 3, 181, 0, 139, 42, 180, 0, 19, 6, 46]
abbrev dktX4_scales_2 : List UInt8 := dkwX4_scales_2 ++ dktX4_scales_3
def dkwX4_scales_1 : List UInt8 := [42, 180, 0, 85, 100, 172, 3, 61, 28, 16, 57, 162, 0, 21, 42, 180, 0, 19, 28, 42, 180, 0, 28, 28]
abbrev dktX4_scales_1 : List UInt8 := dkwX4_scales_1 ++ dktX4_scales_2
def dkwX4_scales_0 : List UInt8 := [42, 182, 0, 128, 60, 42, 3, 181, 0, 78, 27, 154, 0, 19, 42, 42, 180, 0, 102, 181, 0, 131, 18, 134]
abbrev dktX4_scales_0 : List UInt8 := dkwX4_scales_0 ++ dktX4_scales_1
theorem dksX4_scales_0 : cX4_scales.data.toList.drop 0 = dktX4_scales_0 := by decide +kernel
theorem dksX4_scales_1 : cX4_scales.data.toList.drop 24 = dktX4_scales_1 := dk_seg dksX4_scales_0 24 rfl rfl
theorem dksX4_scales_2 : cX4_scales.data.toList.drop 48 = dktX4_scales_2 := dk_seg dksX4_scales_1 24 rfl rfl
theorem dksX4_scales_3 : cX4_scales.data.toList.drop 72 = dktX4_scales_3 := dk_seg dksX4_scales_2 24 rfl rfl
theorem dX4_scales_0 : decode cX4_scales 0 = .ok (.aload_n 0, 1) := dk_42 (dk_at dksX4_scales_0 0 rfl rfl)
theorem dX4_scales_1 : decode cX4_scales 1 = .ok (.invokevirtual 128, 3) := dk_182 0 128 (dk_at dksX4_scales_0 1 rfl rfl)
theorem dX4_scales_4 : decode cX4_scales 4 = .ok (.istore_n 1, 1) := dk_60 (dk_at dksX4_scales_0 4 rfl rfl)
theorem dX4_scales_5 : decode cX4_scales 5 = .ok (.aload_n 0, 1) := dk_42 (dk_at dksX4_scales_0 5 rfl rfl)
theorem dX4_scales_6 : decode cX4_scales 6 = .ok (.iconst 0, 1) := dk_3 (dk_at dksX4_scales_0 6 rfl rfl)
theorem dX4_scales_7 : decode cX4_scales 7 = .ok (.putfield 78, 3) := dk_181 0 78 (dk_at dksX4_scales_0 7 rfl rfl)
theorem dX4_scales_10 : decode cX4_scales 10 = .ok (.iload_n 1, 1) := dk_27 (dk_at dksX4_scales_0 10 rfl rfl)
theorem dX4_scales_11 : decode cX4_scales 11 = .ok (.ifCond .ne 19, 3) := dk_154 0 19 (dk_at dksX4_scales_0 11 rfl rfl)
theorem dX4_scales_14 : decode cX4_scales 14 = .ok (.aload_n 0, 1) := dk_42 (dk_at dksX4_scales_0 14 rfl rfl)
theorem dX4_scales_15 : decode cX4_scales 15 = .ok (.aload_n 0, 1) := dk_42 (dk_at dksX4_scales_0 15 rfl rfl)
theorem dX4_scales_16 : decode cX4_scales 16 = .ok (.getfield 102, 3) := dk_180 0 102 (dk_at dksX4_scales_0 16 rfl rfl)
theorem dX4_scales_19 : decode cX4_scales 19 = .ok (.putfield 131, 3) := dk_181 0 131 (dk_at dksX4_scales_0 19 rfl rfl)
theorem dX4_scales_22 : decode cX4_scales 22 = .ok (.ldc 134, 2) := dk_18 134 (dk_at dksX4_scales_0 22 rfl rfl)
theorem dX4_scales_24 : decode cX4_scales 24 = .ok (.aload_n 0, 1) := dk_42 (dk_at dksX4_scales_1 0 rfl rfl)
theorem dX4_scales_25 : decode cX4_scales 25 = .ok (.getfield 85, 3) := dk_180 0 85 (dk_at dksX4_scales_1 1 rfl rfl)
theorem dX4_scales_28 : decode cX4_scales 28 = .ok (.isub, 1) := dk_100 (dk_at dksX4_scales_1 4 rfl rfl)
theorem dX4_scales_29 : decode cX4_scales 29 = .ok (.ireturn, 1) := dk_172 (dk_at dksX4_scales_1 5 rfl rfl)
theorem dX4_scales_30 : decode cX4_scales 30 = .ok (.iconst 0, 1) := dk_3 (dk_at dksX4_scales_1 6 rfl rfl)
theorem dX4_scales_31 : decode cX4_scales 31 = .ok (.istore_n 2, 1) := dk_61 (dk_at dksX4_scales_1 7 rfl rfl)
theorem dX4_scales_32 : decode cX4_scales 32 = .ok (.iload_n 2, 1) := dk_28 (dk_at dksX4_scales_1 8 rfl rfl)
theorem dX4_scales_33 : decode cX4_scales 33 = .ok (.bipush 57, 2) := dk_16 57 (dk_at dksX4_scales_1 9 rfl rfl)
theorem dX4_scales_35 : decode cX4_scales 35 = .ok (.if_icmp .ge 21, 3) := dk_162 0 21 (dk_at dksX4_scales_1 11 rfl rfl)
theorem dX4_scales_38 : decode cX4_scales 38 = .ok (.aload_n 0, 1) := dk_42 (dk_at dksX4_scales_1 14 rfl rfl)
theorem dX4_scales_39 : decode cX4_scales 39 = .ok (.getfield 19, 3) := dk_180 0 19 (dk_at dksX4_scales_1 15 rfl rfl)
theorem dX4_scales_42 : decode cX4_scales 42 = .ok (.iload_n 2, 1) := dk_28 (dk_at dksX4_scales_1 18 rfl rfl)
theorem dX4_scales_43 : decode cX4_scales 43 = .ok (.aload_n 0, 1) := dk_42 (dk_at dksX4_scales_1 19 rfl rfl)
theorem dX4_scales_44 : decode cX4_scales 44 = .ok (.getfield 28, 3) := dk_180 0 28 (dk_at dksX4_scales_1 20 rfl rfl)
theorem dX4_scales_47 : decode cX4_scales 47 = .ok (.iload_n 2, 1) := dk_28 (dk_at dksX4_scales_1 23 rfl rfl)
theorem dX4_scales_48 : decode cX4_scales 48 = .ok (.iaload, 1) := dk_46 (dk_at dksX4_scales_2 0 rfl rfl)
theorem dX4_scales_49 : decode cX4_scales 49 = .ok (.iastore, 1) := dk_79 (dk_at dksX4_scales_2 1 rfl rfl)
theorem dX4_scales_50 : decode cX4_scales 50 = .ok (.iinc 2 1, 3) := dk_132 2 1 (dk_at dksX4_scales_2 2 rfl rfl)
theorem dX4_scales_53 : decode cX4_scales 53 = .ok (.goto (-21), 3) := dk_167 255 235 (dk_at dksX4_scales_2 5 rfl rfl)
theorem dX4_scales_56 : decode cX4_scales 56 = .ok (.aload_n 0, 1) := dk_42 (dk_at dksX4_scales_2 8 rfl rfl)
theorem dX4_scales_57 : decode cX4_scales 57 = .ok (.iconst 1, 1) := dk_4 (dk_at dksX4_scales_2 9 rfl rfl)
theorem dX4_scales_58 : decode cX4_scales 58 = .ok (.putfield 135, 3) := dk_181 0 135 (dk_at dksX4_scales_2 10 rfl rfl)
theorem dX4_scales_61 : decode cX4_scales 61 = .ok (.aload_n 0, 1) := dk_42 (dk_at dksX4_scales_2 13 rfl rfl)
theorem dX4_scales_62 : decode cX4_scales 62 = .ok (.iconst 0, 1) := dk_3 (dk_at dksX4_scales_2 14 rfl rfl)
theorem dX4_scales_63 : decode cX4_scales 63 = .ok (.putfield 139, 3) := dk_181 0 139 (dk_at dksX4_scales_2 15 rfl rfl)
theorem dX4_scales_66 : decode cX4_scales 66 = .ok (.aload_n 0, 1) := dk_42 (dk_at dksX4_scales_2 18 rfl rfl)
theorem dX4_scales_67 : decode cX4_scales 67 = .ok (.getfield 19, 3) := dk_180 0 19 (dk_at dksX4_scales_2 19 rfl rfl)
theorem dX4_scales_70 : decode cX4_scales 70 = .ok (.iconst 3, 1) := dk_6 (dk_at dksX4_scales_2 22 rfl rfl)
theorem dX4_scales_71 : decode cX4_scales 71 = .ok (.iaload, 1) := dk_46 (dk_at dksX4_scales_2 23 rfl rfl)
theorem dX4_scales_72 : decode cX4_scales 72 = .ok (.ireturn, 1) := dk_172 (dk_at dksX4_scales_3 0 rfl rfl)
abbrev cX4_readScales : ByteArray := prog_17_method_21_code
def yX4_readScales : MethodName := ⟨RX4, "readScales", "()Z"⟩
def dkwX4_readScales_7 : List UInt8 := [182, 0, 105, 153, 0, 10, 42, 182, 0, 124, 167, 0, 8, 42, 4, 182, 0, 108, 60, 167, 255, 143, 27, 172]
abbrev dktX4_readScales_7 : List UInt8 := dkwX4_readScales_7 ++ []
def dkwX4_readScales_6 : List UInt8 := [153, 0, 7, 8, 167, 0, 4, 3, 61, 28, 158, 0, 11, 42, 28, 182, 0, 121, 167, 0, 24, 42, 16, 103]
abbrev dktX4_readScales_6 : List UInt8 := dkwX4_readScales_6 ++ dktX4_readScales_7
def dkwX4_readScales_5 : List UInt8 := [167, 0, 30, 42, 16, 111, 182, 0, 105, 153, 0, 7, 7, 167, 0, 17, 42, 16, 109, 182, 0, 105]
abbrev dktX4_readScales_5 : List UInt8 := dkwX4_readScales_5 ++ dktX4_readScales_6
def dkwX4_readScales_4 : List UInt8 := [42, 16, 105, 182, 0, 105, 153, 0, 7, 5, 167, 0, 43, 42, 16, 116, 182, 0, 105, 153, 0, 7, 6]
abbrev dktX4_readScales_4 : List UInt8 := dkwX4_readScales_4 ++ dktX4_readScales_5
def dkwX4_readScales_3 : List UInt8 := [153, 0, 115, 42, 180, 0, 88, 6, 159, 0, 107, 42, 16, 112, 182, 0, 105, 153, 0, 7, 4, 167, 0, 56]
abbrev dktX4_readScales_3 : List UInt8 := dkwX4_readScales_3 ++ dktX4_readScales_4
def dkwX4_readScales_2 : List UInt8 := [182, 0, 117, 153, 0, 15, 42, 4, 8, 4, 16, 59, 182, 0, 117, 154, 0, 5, 3, 172, 4, 60, 27]
abbrev dktX4_readScales_2 : List UInt8 := dkwX4_readScales_2 ++ dktX4_readScales_3
def dkwX4_readScales_1 : List UInt8 := [167, 255, 240, 42, 182, 0, 111, 42, 16, 115, 182, 0, 114, 153, 0, 28, 42, 3, 16, 9, 3, 16, 44]
abbrev dktX4_readScales_1 : List UInt8 := dkwX4_readScales_1 ++ dktX4_readScales_2
def dkwX4_readScales_0 : List UInt8 := [42, 3, 181, 0, 82, 3, 60, 27, 16, 57, 162, 0, 16, 42, 180, 0, 28, 27, 3, 79, 132, 1, 1]
abbrev dktX4_readScales_0 : List UInt8 := dkwX4_readScales_0 ++ dktX4_readScales_1
theorem dksX4_readScales_0 : cX4_readScales.data.toList.drop 0 = dktX4_readScales_0 := by decide +kernel
theorem dksX4_readScales_1 : cX4_readScales.data.toList.drop 23 = dktX4_readScales_1 := dk_seg dksX4_readScales_0 23 rfl rfl
theorem dksX4_readScales_2 : cX4_readScales.data.toList.drop 46 = dktX4_readScales_2 := dk_seg dksX4_readScales_1 23 rfl rfl
theorem dksX4_readScales_3 : cX4_readScales.data.toList.drop 69 = dktX4_readScales_3 := dk_seg dksX4_readScales_2 23 rfl rfl
theorem dksX4_readScales_4 : cX4_readScales.data.toList.drop 93 = dktX4_readScales_4 := dk_seg dksX4_readScales_3 24 rfl rfl
theorem dksX4_readScales_5 : cX4_readScales.data.toList.drop 116 = dktX4_readScales_5 := dk_seg dksX4_readScales_4 23 rfl rfl
theorem dksX4_readScales_6 : cX4_readScales.data.toList.drop 138 = dktX4_readScales_6 := dk_seg dksX4_readScales_5 22 rfl rfl
theorem dksX4_readScales_7 : cX4_readScales.data.toList.drop 162 = dktX4_readScales_7 := dk_seg dksX4_readScales_6 24 rfl rfl
theorem dX4_readScales_0 : decode cX4_readScales 0 = .ok (.aload_n 0, 1) := dk_42 (dk_at dksX4_readScales_0 0 rfl rfl)
theorem dX4_readScales_1 : decode cX4_readScales 1 = .ok (.iconst 0, 1) := dk_3 (dk_at dksX4_readScales_0 1 rfl rfl)
theorem dX4_readScales_2 : decode cX4_readScales 2 = .ok (.putfield 82, 3) := dk_181 0 82 (dk_at dksX4_readScales_0 2 rfl rfl)
theorem dX4_readScales_5 : decode cX4_readScales 5 = .ok (.iconst 0, 1) := dk_3 (dk_at dksX4_readScales_0 5 rfl rfl)
theorem dX4_readScales_6 : decode cX4_readScales 6 = .ok (.istore_n 1, 1) := dk_60 (dk_at dksX4_readScales_0 6 rfl rfl)
theorem dX4_readScales_7 : decode cX4_readScales 7 = .ok (.iload_n 1, 1) := dk_27 (dk_at dksX4_readScales_0 7 rfl rfl)
theorem dX4_readScales_8 : decode cX4_readScales 8 = .ok (.bipush 57, 2) := dk_16 57 (dk_at dksX4_readScales_0 8 rfl rfl)
theorem dX4_readScales_10 : decode cX4_readScales 10 = .ok (.if_icmp .ge 16, 3) := dk_162 0 16 (dk_at dksX4_readScales_0 10 rfl rfl)
theorem dX4_readScales_13 : decode cX4_readScales 13 = .ok (.aload_n 0, 1) := dk_42 (dk_at dksX4_readScales_0 13 rfl rfl)
theorem dX4_readScales_14 : decode cX4_readScales 14 = .ok (.getfield 28, 3) := dk_180 0 28 (dk_at dksX4_readScales_0 14 rfl rfl)
theorem dX4_readScales_17 : decode cX4_readScales 17 = .ok (.iload_n 1, 1) := dk_27 (dk_at dksX4_readScales_0 17 rfl rfl)
theorem dX4_readScales_18 : decode cX4_readScales 18 = .ok (.iconst 0, 1) := dk_3 (dk_at dksX4_readScales_0 18 rfl rfl)
theorem dX4_readScales_19 : decode cX4_readScales 19 = .ok (.iastore, 1) := dk_79 (dk_at dksX4_readScales_0 19 rfl rfl)
theorem dX4_readScales_20 : decode cX4_readScales 20 = .ok (.iinc 1 1, 3) := dk_132 1 1 (dk_at dksX4_readScales_0 20 rfl rfl)
theorem dX4_readScales_23 : decode cX4_readScales 23 = .ok (.goto (-16), 3) := dk_167 255 240 (dk_at dksX4_readScales_1 0 rfl rfl)
theorem dX4_readScales_26 : decode cX4_readScales 26 = .ok (.aload_n 0, 1) := dk_42 (dk_at dksX4_readScales_1 3 rfl rfl)
theorem dX4_readScales_27 : decode cX4_readScales 27 = .ok (.invokevirtual 111, 3) := dk_182 0 111 (dk_at dksX4_readScales_1 4 rfl rfl)
theorem dX4_readScales_30 : decode cX4_readScales 30 = .ok (.aload_n 0, 1) := dk_42 (dk_at dksX4_readScales_1 7 rfl rfl)
theorem dX4_readScales_31 : decode cX4_readScales 31 = .ok (.bipush 115, 2) := dk_16 115 (dk_at dksX4_readScales_1 8 rfl rfl)
theorem dX4_readScales_33 : decode cX4_readScales 33 = .ok (.invokevirtual 114, 3) := dk_182 0 114 (dk_at dksX4_readScales_1 10 rfl rfl)
theorem dX4_readScales_36 : decode cX4_readScales 36 = .ok (.ifCond .eq 28, 3) := dk_153 0 28 (dk_at dksX4_readScales_1 13 rfl rfl)
theorem dX4_readScales_39 : decode cX4_readScales 39 = .ok (.aload_n 0, 1) := dk_42 (dk_at dksX4_readScales_1 16 rfl rfl)
theorem dX4_readScales_40 : decode cX4_readScales 40 = .ok (.iconst 0, 1) := dk_3 (dk_at dksX4_readScales_1 17 rfl rfl)
theorem dX4_readScales_41 : decode cX4_readScales 41 = .ok (.bipush 9, 2) := dk_16 9 (dk_at dksX4_readScales_1 18 rfl rfl)
theorem dX4_readScales_43 : decode cX4_readScales 43 = .ok (.iconst 0, 1) := dk_3 (dk_at dksX4_readScales_1 20 rfl rfl)
theorem dX4_readScales_44 : decode cX4_readScales 44 = .ok (.bipush 44, 2) := dk_16 44 (dk_at dksX4_readScales_1 21 rfl rfl)
theorem dX4_readScales_46 : decode cX4_readScales 46 = .ok (.invokevirtual 117, 3) := dk_182 0 117 (dk_at dksX4_readScales_2 0 rfl rfl)
theorem dX4_readScales_49 : decode cX4_readScales 49 = .ok (.ifCond .eq 15, 3) := dk_153 0 15 (dk_at dksX4_readScales_2 3 rfl rfl)
theorem dX4_readScales_52 : decode cX4_readScales 52 = .ok (.aload_n 0, 1) := dk_42 (dk_at dksX4_readScales_2 6 rfl rfl)
theorem dX4_readScales_53 : decode cX4_readScales 53 = .ok (.iconst 1, 1) := dk_4 (dk_at dksX4_readScales_2 7 rfl rfl)
theorem dX4_readScales_54 : decode cX4_readScales 54 = .ok (.iconst 5, 1) := dk_8 (dk_at dksX4_readScales_2 8 rfl rfl)
theorem dX4_readScales_55 : decode cX4_readScales 55 = .ok (.iconst 1, 1) := dk_4 (dk_at dksX4_readScales_2 9 rfl rfl)
theorem dX4_readScales_56 : decode cX4_readScales 56 = .ok (.bipush 59, 2) := dk_16 59 (dk_at dksX4_readScales_2 10 rfl rfl)
theorem dX4_readScales_58 : decode cX4_readScales 58 = .ok (.invokevirtual 117, 3) := dk_182 0 117 (dk_at dksX4_readScales_2 12 rfl rfl)
theorem dX4_readScales_61 : decode cX4_readScales 61 = .ok (.ifCond .ne 5, 3) := dk_154 0 5 (dk_at dksX4_readScales_2 15 rfl rfl)
theorem dX4_readScales_64 : decode cX4_readScales 64 = .ok (.iconst 0, 1) := dk_3 (dk_at dksX4_readScales_2 18 rfl rfl)
theorem dX4_readScales_65 : decode cX4_readScales 65 = .ok (.ireturn, 1) := dk_172 (dk_at dksX4_readScales_2 19 rfl rfl)
theorem dX4_readScales_66 : decode cX4_readScales 66 = .ok (.iconst 1, 1) := dk_4 (dk_at dksX4_readScales_2 20 rfl rfl)
theorem dX4_readScales_67 : decode cX4_readScales 67 = .ok (.istore_n 1, 1) := dk_60 (dk_at dksX4_readScales_2 21 rfl rfl)
theorem dX4_readScales_68 : decode cX4_readScales 68 = .ok (.iload_n 1, 1) := dk_27 (dk_at dksX4_readScales_2 22 rfl rfl)
theorem dX4_readScales_69 : decode cX4_readScales 69 = .ok (.ifCond .eq 115, 3) := dk_153 0 115 (dk_at dksX4_readScales_3 0 rfl rfl)
theorem dX4_readScales_72 : decode cX4_readScales 72 = .ok (.aload_n 0, 1) := dk_42 (dk_at dksX4_readScales_3 3 rfl rfl)
theorem dX4_readScales_73 : decode cX4_readScales 73 = .ok (.getfield 88, 3) := dk_180 0 88 (dk_at dksX4_readScales_3 4 rfl rfl)
theorem dX4_readScales_76 : decode cX4_readScales 76 = .ok (.iconst 3, 1) := dk_6 (dk_at dksX4_readScales_3 7 rfl rfl)
theorem dX4_readScales_77 : decode cX4_readScales 77 = .ok (.if_icmp .eq 107, 3) := dk_159 0 107 (dk_at dksX4_readScales_3 8 rfl rfl)
theorem dX4_readScales_80 : decode cX4_readScales 80 = .ok (.aload_n 0, 1) := dk_42 (dk_at dksX4_readScales_3 11 rfl rfl)
theorem dX4_readScales_81 : decode cX4_readScales 81 = .ok (.bipush 112, 2) := dk_16 112 (dk_at dksX4_readScales_3 12 rfl rfl)
theorem dX4_readScales_83 : decode cX4_readScales 83 = .ok (.invokevirtual 105, 3) := dk_182 0 105 (dk_at dksX4_readScales_3 14 rfl rfl)
theorem dX4_readScales_86 : decode cX4_readScales 86 = .ok (.ifCond .eq 7, 3) := dk_153 0 7 (dk_at dksX4_readScales_3 17 rfl rfl)
theorem dX4_readScales_89 : decode cX4_readScales 89 = .ok (.iconst 1, 1) := dk_4 (dk_at dksX4_readScales_3 20 rfl rfl)
theorem dX4_readScales_90 : decode cX4_readScales 90 = .ok (.goto 56, 3) := dk_167 0 56 (dk_at dksX4_readScales_3 21 rfl rfl)
theorem dX4_readScales_93 : decode cX4_readScales 93 = .ok (.aload_n 0, 1) := dk_42 (dk_at dksX4_readScales_4 0 rfl rfl)
theorem dX4_readScales_94 : decode cX4_readScales 94 = .ok (.bipush 105, 2) := dk_16 105 (dk_at dksX4_readScales_4 1 rfl rfl)
theorem dX4_readScales_96 : decode cX4_readScales 96 = .ok (.invokevirtual 105, 3) := dk_182 0 105 (dk_at dksX4_readScales_4 3 rfl rfl)
theorem dX4_readScales_99 : decode cX4_readScales 99 = .ok (.ifCond .eq 7, 3) := dk_153 0 7 (dk_at dksX4_readScales_4 6 rfl rfl)
theorem dX4_readScales_102 : decode cX4_readScales 102 = .ok (.iconst 2, 1) := dk_5 (dk_at dksX4_readScales_4 9 rfl rfl)
theorem dX4_readScales_103 : decode cX4_readScales 103 = .ok (.goto 43, 3) := dk_167 0 43 (dk_at dksX4_readScales_4 10 rfl rfl)
theorem dX4_readScales_106 : decode cX4_readScales 106 = .ok (.aload_n 0, 1) := dk_42 (dk_at dksX4_readScales_4 13 rfl rfl)
theorem dX4_readScales_107 : decode cX4_readScales 107 = .ok (.bipush 116, 2) := dk_16 116 (dk_at dksX4_readScales_4 14 rfl rfl)
theorem dX4_readScales_109 : decode cX4_readScales 109 = .ok (.invokevirtual 105, 3) := dk_182 0 105 (dk_at dksX4_readScales_4 16 rfl rfl)
theorem dX4_readScales_112 : decode cX4_readScales 112 = .ok (.ifCond .eq 7, 3) := dk_153 0 7 (dk_at dksX4_readScales_4 19 rfl rfl)
theorem dX4_readScales_115 : decode cX4_readScales 115 = .ok (.iconst 3, 1) := dk_6 (dk_at dksX4_readScales_4 22 rfl rfl)
theorem dX4_readScales_116 : decode cX4_readScales 116 = .ok (.goto 30, 3) := dk_167 0 30 (dk_at dksX4_readScales_5 0 rfl rfl)
theorem dX4_readScales_119 : decode cX4_readScales 119 = .ok (.aload_n 0, 1) := dk_42 (dk_at dksX4_readScales_5 3 rfl rfl)
theorem dX4_readScales_120 : decode cX4_readScales 120 = .ok (.bipush 111, 2) := dk_16 111 (dk_at dksX4_readScales_5 4 rfl rfl)
theorem dX4_readScales_122 : decode cX4_readScales 122 = .ok (.invokevirtual 105, 3) := dk_182 0 105 (dk_at dksX4_readScales_5 6 rfl rfl)
theorem dX4_readScales_125 : decode cX4_readScales 125 = .ok (.ifCond .eq 7, 3) := dk_153 0 7 (dk_at dksX4_readScales_5 9 rfl rfl)
theorem dX4_readScales_128 : decode cX4_readScales 128 = .ok (.iconst 4, 1) := dk_7 (dk_at dksX4_readScales_5 12 rfl rfl)
theorem dX4_readScales_129 : decode cX4_readScales 129 = .ok (.goto 17, 3) := dk_167 0 17 (dk_at dksX4_readScales_5 13 rfl rfl)
theorem dX4_readScales_132 : decode cX4_readScales 132 = .ok (.aload_n 0, 1) := dk_42 (dk_at dksX4_readScales_5 16 rfl rfl)
theorem dX4_readScales_133 : decode cX4_readScales 133 = .ok (.bipush 109, 2) := dk_16 109 (dk_at dksX4_readScales_5 17 rfl rfl)
theorem dX4_readScales_135 : decode cX4_readScales 135 = .ok (.invokevirtual 105, 3) := dk_182 0 105 (dk_at dksX4_readScales_5 19 rfl rfl)
theorem dX4_readScales_138 : decode cX4_readScales 138 = .ok (.ifCond .eq 7, 3) := dk_153 0 7 (dk_at dksX4_readScales_6 0 rfl rfl)
theorem dX4_readScales_141 : decode cX4_readScales 141 = .ok (.iconst 5, 1) := dk_8 (dk_at dksX4_readScales_6 3 rfl rfl)
theorem dX4_readScales_142 : decode cX4_readScales 142 = .ok (.goto 4, 3) := dk_167 0 4 (dk_at dksX4_readScales_6 4 rfl rfl)
theorem dX4_readScales_145 : decode cX4_readScales 145 = .ok (.iconst 0, 1) := dk_3 (dk_at dksX4_readScales_6 7 rfl rfl)
theorem dX4_readScales_146 : decode cX4_readScales 146 = .ok (.istore_n 2, 1) := dk_61 (dk_at dksX4_readScales_6 8 rfl rfl)
theorem dX4_readScales_147 : decode cX4_readScales 147 = .ok (.iload_n 2, 1) := dk_28 (dk_at dksX4_readScales_6 9 rfl rfl)
theorem dX4_readScales_148 : decode cX4_readScales 148 = .ok (.ifCond .le 11, 3) := dk_158 0 11 (dk_at dksX4_readScales_6 10 rfl rfl)
theorem dX4_readScales_151 : decode cX4_readScales 151 = .ok (.aload_n 0, 1) := dk_42 (dk_at dksX4_readScales_6 13 rfl rfl)
theorem dX4_readScales_152 : decode cX4_readScales 152 = .ok (.iload_n 2, 1) := dk_28 (dk_at dksX4_readScales_6 14 rfl rfl)
theorem dX4_readScales_153 : decode cX4_readScales 153 = .ok (.invokevirtual 121, 3) := dk_182 0 121 (dk_at dksX4_readScales_6 15 rfl rfl)
theorem dX4_readScales_156 : decode cX4_readScales 156 = .ok (.goto 24, 3) := dk_167 0 24 (dk_at dksX4_readScales_6 18 rfl rfl)
theorem dX4_readScales_159 : decode cX4_readScales 159 = .ok (.aload_n 0, 1) := dk_42 (dk_at dksX4_readScales_6 21 rfl rfl)
theorem dX4_readScales_160 : decode cX4_readScales 160 = .ok (.bipush 103, 2) := dk_16 103 (dk_at dksX4_readScales_6 22 rfl rfl)
theorem dX4_readScales_162 : decode cX4_readScales 162 = .ok (.invokevirtual 105, 3) := dk_182 0 105 (dk_at dksX4_readScales_7 0 rfl rfl)
theorem dX4_readScales_165 : decode cX4_readScales 165 = .ok (.ifCond .eq 10, 3) := dk_153 0 10 (dk_at dksX4_readScales_7 3 rfl rfl)
theorem dX4_readScales_168 : decode cX4_readScales 168 = .ok (.aload_n 0, 1) := dk_42 (dk_at dksX4_readScales_7 6 rfl rfl)
theorem dX4_readScales_169 : decode cX4_readScales 169 = .ok (.invokevirtual 124, 3) := dk_182 0 124 (dk_at dksX4_readScales_7 7 rfl rfl)
theorem dX4_readScales_172 : decode cX4_readScales 172 = .ok (.goto 8, 3) := dk_167 0 8 (dk_at dksX4_readScales_7 10 rfl rfl)
theorem dX4_readScales_175 : decode cX4_readScales 175 = .ok (.aload_n 0, 1) := dk_42 (dk_at dksX4_readScales_7 13 rfl rfl)
theorem dX4_readScales_176 : decode cX4_readScales 176 = .ok (.iconst 1, 1) := dk_4 (dk_at dksX4_readScales_7 14 rfl rfl)
theorem dX4_readScales_177 : decode cX4_readScales 177 = .ok (.invokevirtual 108, 3) := dk_182 0 108 (dk_at dksX4_readScales_7 15 rfl rfl)
theorem dX4_readScales_180 : decode cX4_readScales 180 = .ok (.istore_n 1, 1) := dk_60 (dk_at dksX4_readScales_7 18 rfl rfl)
theorem dX4_readScales_181 : decode cX4_readScales 181 = .ok (.goto (-113), 3) := dk_167 255 143 (dk_at dksX4_readScales_7 19 rfl rfl)
theorem dX4_readScales_184 : decode cX4_readScales 184 = .ok (.iload_n 1, 1) := dk_27 (dk_at dksX4_readScales_7 22 rfl rfl)
theorem dX4_readScales_185 : decode cX4_readScales 185 = .ok (.ireturn, 1) := dk_172 (dk_at dksX4_readScales_7 23 rfl rfl)
abbrev cX4_nextToken : ByteArray := prog_17_method_14_code
def yX4_nextToken : MethodName := ⟨RX4, "nextToken", "()V"⟩
def dkwX4_nextToken_9 : List UInt8 := [4, 167, 0, 4, 3, 181, 0, 88, 42, 89, 180, 0, 82, 4, 96, 181, 0, 82, 177]
abbrev dktX4_nextToken_9 : List UInt8 := dkwX4_nextToken_9 ++ []
def dkwX4_nextToken_8 : List UInt8 := [184, 0, 54, 154, 0, 21, 42, 180, 0, 91, 16, 44, 159, 0, 12, 42, 180, 0, 91, 16, 59, 160, 0, 7]
abbrev dktX4_nextToken_8 : List UInt8 := dkwX4_nextToken_8 ++ dktX4_nextToken_9
def dkwX4_nextToken_7 : List UInt8 := [180, 0, 25, 42, 180, 0, 82, 46, 181, 0, 91, 42, 42, 180, 0, 91, 133, 20, 0, 98, 20, 0, 100]
abbrev dktX4_nextToken_7 : List UInt8 := dkwX4_nextToken_7 ++ dktX4_nextToken_8
def dkwX4_nextToken_6 : List UInt8 := [164, 0, 7, 3, 167, 0, 4, 5, 181, 0, 88, 167, 0, 77, 42, 180, 0, 88, 154, 0, 70, 42, 42]
abbrev dktX4_nextToken_6 : List UInt8 := dkwX4_nextToken_6 ++ dktX4_nextToken_7
def dkwX4_nextToken_5 : List UInt8 := [42, 180, 0, 82, 42, 180, 0, 85, 164, 0, 28, 42, 42, 180, 0, 82, 42, 180, 0, 85, 100, 5]
abbrev dktX4_nextToken_5 : List UInt8 := dkwX4_nextToken_5 ++ dktX4_nextToken_6
def dkwX4_nextToken_4 : List UInt8 := [180, 0, 82, 46, 96, 16, 48, 100, 181, 0, 91, 42, 89, 180, 0, 82, 4, 96, 181, 0, 82, 167, 255, 173]
abbrev dktX4_nextToken_4 : List UInt8 := dkwX4_nextToken_4 ++ dktX4_nextToken_5
def dkwX4_nextToken_3 : List UInt8 := [16, 99, 164, 0, 10, 42, 180, 0, 91, 167, 0, 23, 16, 10, 42, 180, 0, 91, 104, 42, 180, 0, 25, 42]
abbrev dktX4_nextToken_3 : List UInt8 := dkwX4_nextToken_3 ++ dktX4_nextToken_4
def dkwX4_nextToken_2 : List UInt8 := [42, 180, 0, 82, 46, 133, 20, 0, 94, 20, 0, 96, 184, 0, 54, 153, 0, 56, 42, 42, 180, 0, 91]
abbrev dktX4_nextToken_2 : List UInt8 := dkwX4_nextToken_2 ++ dktX4_nextToken_3
def dkwX4_nextToken_1 : List UInt8 := [3, 181, 0, 88, 42, 3, 181, 0, 91, 42, 180, 0, 82, 42, 180, 0, 78, 162, 0, 78, 42, 180, 0, 25]
abbrev dktX4_nextToken_1 : List UInt8 := dkwX4_nextToken_1 ++ dktX4_nextToken_2
def dkwX4_nextToken_0 : List UInt8 := [42, 42, 180, 0, 82, 181, 0, 85, 42, 42, 180, 0, 82, 42, 180, 0, 78, 160, 0, 7, 6, 167, 0, 4]
abbrev dktX4_nextToken_0 : List UInt8 := dkwX4_nextToken_0 ++ dktX4_nextToken_1
theorem dksX4_nextToken_0 : cX4_nextToken.data.toList.drop 0 = dktX4_nextToken_0 := by decide +kernel
theorem dksX4_nextToken_1 : cX4_nextToken.data.toList.drop 24 = dktX4_nextToken_1 := dk_seg dksX4_nextToken_0 24 rfl rfl
theorem dksX4_nextToken_2 : cX4_nextToken.data.toList.drop 48 = dktX4_nextToken_2 := dk_seg dksX4_nextToken_1 24 rfl rfl
theorem dksX4_nextToken_3 : cX4_nextToken.data.toList.drop 71 = dktX4_nextToken_3 := dk_seg dksX4_nextToken_2 23 rfl rfl
theorem dksX4_nextToken_4 : cX4_nextToken.data.toList.drop 95 = dktX4_nextToken_4 := dk_seg dksX4_nextToken_3 24 rfl rfl
theorem dksX4_nextToken_5 : cX4_nextToken.data.toList.drop 119 = dktX4_nextToken_5 := dk_seg dksX4_nextToken_4 24 rfl rfl
theorem dksX4_nextToken_6 : cX4_nextToken.data.toList.drop 141 = dktX4_nextToken_6 := dk_seg dksX4_nextToken_5 22 rfl rfl
theorem dksX4_nextToken_7 : cX4_nextToken.data.toList.drop 164 = dktX4_nextToken_7 := dk_seg dksX4_nextToken_6 23 rfl rfl
theorem dksX4_nextToken_8 : cX4_nextToken.data.toList.drop 187 = dktX4_nextToken_8 := dk_seg dksX4_nextToken_7 23 rfl rfl
theorem dksX4_nextToken_9 : cX4_nextToken.data.toList.drop 211 = dktX4_nextToken_9 := dk_seg dksX4_nextToken_8 24 rfl rfl
theorem dX4_nextToken_0 : decode cX4_nextToken 0 = .ok (.aload_n 0, 1) := dk_42 (dk_at dksX4_nextToken_0 0 rfl rfl)
theorem dX4_nextToken_1 : decode cX4_nextToken 1 = .ok (.aload_n 0, 1) := dk_42 (dk_at dksX4_nextToken_0 1 rfl rfl)
theorem dX4_nextToken_2 : decode cX4_nextToken 2 = .ok (.getfield 82, 3) := dk_180 0 82 (dk_at dksX4_nextToken_0 2 rfl rfl)
theorem dX4_nextToken_5 : decode cX4_nextToken 5 = .ok (.putfield 85, 3) := dk_181 0 85 (dk_at dksX4_nextToken_0 5 rfl rfl)
theorem dX4_nextToken_8 : decode cX4_nextToken 8 = .ok (.aload_n 0, 1) := dk_42 (dk_at dksX4_nextToken_0 8 rfl rfl)
theorem dX4_nextToken_9 : decode cX4_nextToken 9 = .ok (.aload_n 0, 1) := dk_42 (dk_at dksX4_nextToken_0 9 rfl rfl)
theorem dX4_nextToken_10 : decode cX4_nextToken 10 = .ok (.getfield 82, 3) := dk_180 0 82 (dk_at dksX4_nextToken_0 10 rfl rfl)
theorem dX4_nextToken_13 : decode cX4_nextToken 13 = .ok (.aload_n 0, 1) := dk_42 (dk_at dksX4_nextToken_0 13 rfl rfl)
theorem dX4_nextToken_14 : decode cX4_nextToken 14 = .ok (.getfield 78, 3) := dk_180 0 78 (dk_at dksX4_nextToken_0 14 rfl rfl)
theorem dX4_nextToken_17 : decode cX4_nextToken 17 = .ok (.if_icmp .ne 7, 3) := dk_160 0 7 (dk_at dksX4_nextToken_0 17 rfl rfl)
theorem dX4_nextToken_20 : decode cX4_nextToken 20 = .ok (.iconst 3, 1) := dk_6 (dk_at dksX4_nextToken_0 20 rfl rfl)
theorem dX4_nextToken_21 : decode cX4_nextToken 21 = .ok (.goto 4, 3) := dk_167 0 4 (dk_at dksX4_nextToken_0 21 rfl rfl)
theorem dX4_nextToken_24 : decode cX4_nextToken 24 = .ok (.iconst 0, 1) := dk_3 (dk_at dksX4_nextToken_1 0 rfl rfl)
theorem dX4_nextToken_25 : decode cX4_nextToken 25 = .ok (.putfield 88, 3) := dk_181 0 88 (dk_at dksX4_nextToken_1 1 rfl rfl)
theorem dX4_nextToken_28 : decode cX4_nextToken 28 = .ok (.aload_n 0, 1) := dk_42 (dk_at dksX4_nextToken_1 4 rfl rfl)
theorem dX4_nextToken_29 : decode cX4_nextToken 29 = .ok (.iconst 0, 1) := dk_3 (dk_at dksX4_nextToken_1 5 rfl rfl)
theorem dX4_nextToken_30 : decode cX4_nextToken 30 = .ok (.putfield 91, 3) := dk_181 0 91 (dk_at dksX4_nextToken_1 6 rfl rfl)
theorem dX4_nextToken_33 : decode cX4_nextToken 33 = .ok (.aload_n 0, 1) := dk_42 (dk_at dksX4_nextToken_1 9 rfl rfl)
theorem dX4_nextToken_34 : decode cX4_nextToken 34 = .ok (.getfield 82, 3) := dk_180 0 82 (dk_at dksX4_nextToken_1 10 rfl rfl)
theorem dX4_nextToken_37 : decode cX4_nextToken 37 = .ok (.aload_n 0, 1) := dk_42 (dk_at dksX4_nextToken_1 13 rfl rfl)
theorem dX4_nextToken_38 : decode cX4_nextToken 38 = .ok (.getfield 78, 3) := dk_180 0 78 (dk_at dksX4_nextToken_1 14 rfl rfl)
theorem dX4_nextToken_41 : decode cX4_nextToken 41 = .ok (.if_icmp .ge 78, 3) := dk_162 0 78 (dk_at dksX4_nextToken_1 17 rfl rfl)
theorem dX4_nextToken_44 : decode cX4_nextToken 44 = .ok (.aload_n 0, 1) := dk_42 (dk_at dksX4_nextToken_1 20 rfl rfl)
theorem dX4_nextToken_45 : decode cX4_nextToken 45 = .ok (.getfield 25, 3) := dk_180 0 25 (dk_at dksX4_nextToken_1 21 rfl rfl)
theorem dX4_nextToken_48 : decode cX4_nextToken 48 = .ok (.aload_n 0, 1) := dk_42 (dk_at dksX4_nextToken_2 0 rfl rfl)
theorem dX4_nextToken_49 : decode cX4_nextToken 49 = .ok (.getfield 82, 3) := dk_180 0 82 (dk_at dksX4_nextToken_2 1 rfl rfl)
theorem dX4_nextToken_52 : decode cX4_nextToken 52 = .ok (.iaload, 1) := dk_46 (dk_at dksX4_nextToken_2 4 rfl rfl)
theorem dX4_nextToken_53 : decode cX4_nextToken 53 = .ok (.i2l, 1) := dk_133 (dk_at dksX4_nextToken_2 5 rfl rfl)
theorem dX4_nextToken_54 : decode cX4_nextToken 54 = .ok (.ldc2_w 94, 3) := dk_20 0 94 (dk_at dksX4_nextToken_2 6 rfl rfl)
theorem dX4_nextToken_57 : decode cX4_nextToken 57 = .ok (.ldc2_w 96, 3) := dk_20 0 96 (dk_at dksX4_nextToken_2 9 rfl rfl)
theorem dX4_nextToken_60 : decode cX4_nextToken 60 = .ok (.invokestatic 54, 3) := dk_184 0 54 (dk_at dksX4_nextToken_2 12 rfl rfl)
theorem dX4_nextToken_63 : decode cX4_nextToken 63 = .ok (.ifCond .eq 56, 3) := dk_153 0 56 (dk_at dksX4_nextToken_2 15 rfl rfl)
theorem dX4_nextToken_66 : decode cX4_nextToken 66 = .ok (.aload_n 0, 1) := dk_42 (dk_at dksX4_nextToken_2 18 rfl rfl)
theorem dX4_nextToken_67 : decode cX4_nextToken 67 = .ok (.aload_n 0, 1) := dk_42 (dk_at dksX4_nextToken_2 19 rfl rfl)
theorem dX4_nextToken_68 : decode cX4_nextToken 68 = .ok (.getfield 91, 3) := dk_180 0 91 (dk_at dksX4_nextToken_2 20 rfl rfl)
theorem dX4_nextToken_71 : decode cX4_nextToken 71 = .ok (.bipush 99, 2) := dk_16 99 (dk_at dksX4_nextToken_3 0 rfl rfl)
theorem dX4_nextToken_73 : decode cX4_nextToken 73 = .ok (.if_icmp .le 10, 3) := dk_164 0 10 (dk_at dksX4_nextToken_3 2 rfl rfl)
theorem dX4_nextToken_76 : decode cX4_nextToken 76 = .ok (.aload_n 0, 1) := dk_42 (dk_at dksX4_nextToken_3 5 rfl rfl)
theorem dX4_nextToken_77 : decode cX4_nextToken 77 = .ok (.getfield 91, 3) := dk_180 0 91 (dk_at dksX4_nextToken_3 6 rfl rfl)
theorem dX4_nextToken_80 : decode cX4_nextToken 80 = .ok (.goto 23, 3) := dk_167 0 23 (dk_at dksX4_nextToken_3 9 rfl rfl)
theorem dX4_nextToken_83 : decode cX4_nextToken 83 = .ok (.bipush 10, 2) := dk_16 10 (dk_at dksX4_nextToken_3 12 rfl rfl)
theorem dX4_nextToken_85 : decode cX4_nextToken 85 = .ok (.aload_n 0, 1) := dk_42 (dk_at dksX4_nextToken_3 14 rfl rfl)
theorem dX4_nextToken_86 : decode cX4_nextToken 86 = .ok (.getfield 91, 3) := dk_180 0 91 (dk_at dksX4_nextToken_3 15 rfl rfl)
theorem dX4_nextToken_89 : decode cX4_nextToken 89 = .ok (.imul, 1) := dk_104 (dk_at dksX4_nextToken_3 18 rfl rfl)
theorem dX4_nextToken_90 : decode cX4_nextToken 90 = .ok (.aload_n 0, 1) := dk_42 (dk_at dksX4_nextToken_3 19 rfl rfl)
theorem dX4_nextToken_91 : decode cX4_nextToken 91 = .ok (.getfield 25, 3) := dk_180 0 25 (dk_at dksX4_nextToken_3 20 rfl rfl)
theorem dX4_nextToken_94 : decode cX4_nextToken 94 = .ok (.aload_n 0, 1) := dk_42 (dk_at dksX4_nextToken_3 23 rfl rfl)
theorem dX4_nextToken_95 : decode cX4_nextToken 95 = .ok (.getfield 82, 3) := dk_180 0 82 (dk_at dksX4_nextToken_4 0 rfl rfl)
theorem dX4_nextToken_98 : decode cX4_nextToken 98 = .ok (.iaload, 1) := dk_46 (dk_at dksX4_nextToken_4 3 rfl rfl)
theorem dX4_nextToken_99 : decode cX4_nextToken 99 = .ok (.iadd, 1) := dk_96 (dk_at dksX4_nextToken_4 4 rfl rfl)
theorem dX4_nextToken_100 : decode cX4_nextToken 100 = .ok (.bipush 48, 2) := dk_16 48 (dk_at dksX4_nextToken_4 5 rfl rfl)
theorem dX4_nextToken_102 : decode cX4_nextToken 102 = .ok (.isub, 1) := dk_100 (dk_at dksX4_nextToken_4 7 rfl rfl)
theorem dX4_nextToken_103 : decode cX4_nextToken 103 = .ok (.putfield 91, 3) := dk_181 0 91 (dk_at dksX4_nextToken_4 8 rfl rfl)
theorem dX4_nextToken_106 : decode cX4_nextToken 106 = .ok (.aload_n 0, 1) := dk_42 (dk_at dksX4_nextToken_4 11 rfl rfl)
theorem dX4_nextToken_107 : decode cX4_nextToken 107 = .ok (.dup, 1) := dk_89 (dk_at dksX4_nextToken_4 12 rfl rfl)
theorem dX4_nextToken_108 : decode cX4_nextToken 108 = .ok (.getfield 82, 3) := dk_180 0 82 (dk_at dksX4_nextToken_4 13 rfl rfl)
theorem dX4_nextToken_111 : decode cX4_nextToken 111 = .ok (.iconst 1, 1) := dk_4 (dk_at dksX4_nextToken_4 16 rfl rfl)
theorem dX4_nextToken_112 : decode cX4_nextToken 112 = .ok (.iadd, 1) := dk_96 (dk_at dksX4_nextToken_4 17 rfl rfl)
theorem dX4_nextToken_113 : decode cX4_nextToken 113 = .ok (.putfield 82, 3) := dk_181 0 82 (dk_at dksX4_nextToken_4 18 rfl rfl)
theorem dX4_nextToken_116 : decode cX4_nextToken 116 = .ok (.goto (-83), 3) := dk_167 255 173 (dk_at dksX4_nextToken_4 21 rfl rfl)
theorem dX4_nextToken_119 : decode cX4_nextToken 119 = .ok (.aload_n 0, 1) := dk_42 (dk_at dksX4_nextToken_5 0 rfl rfl)
theorem dX4_nextToken_120 : decode cX4_nextToken 120 = .ok (.getfield 82, 3) := dk_180 0 82 (dk_at dksX4_nextToken_5 1 rfl rfl)
theorem dX4_nextToken_123 : decode cX4_nextToken 123 = .ok (.aload_n 0, 1) := dk_42 (dk_at dksX4_nextToken_5 4 rfl rfl)
theorem dX4_nextToken_124 : decode cX4_nextToken 124 = .ok (.getfield 85, 3) := dk_180 0 85 (dk_at dksX4_nextToken_5 5 rfl rfl)
theorem dX4_nextToken_127 : decode cX4_nextToken 127 = .ok (.if_icmp .le 28, 3) := dk_164 0 28 (dk_at dksX4_nextToken_5 8 rfl rfl)
theorem dX4_nextToken_130 : decode cX4_nextToken 130 = .ok (.aload_n 0, 1) := dk_42 (dk_at dksX4_nextToken_5 11 rfl rfl)
theorem dX4_nextToken_131 : decode cX4_nextToken 131 = .ok (.aload_n 0, 1) := dk_42 (dk_at dksX4_nextToken_5 12 rfl rfl)
theorem dX4_nextToken_132 : decode cX4_nextToken 132 = .ok (.getfield 82, 3) := dk_180 0 82 (dk_at dksX4_nextToken_5 13 rfl rfl)
theorem dX4_nextToken_135 : decode cX4_nextToken 135 = .ok (.aload_n 0, 1) := dk_42 (dk_at dksX4_nextToken_5 16 rfl rfl)
theorem dX4_nextToken_136 : decode cX4_nextToken 136 = .ok (.getfield 85, 3) := dk_180 0 85 (dk_at dksX4_nextToken_5 17 rfl rfl)
theorem dX4_nextToken_139 : decode cX4_nextToken 139 = .ok (.isub, 1) := dk_100 (dk_at dksX4_nextToken_5 20 rfl rfl)
theorem dX4_nextToken_140 : decode cX4_nextToken 140 = .ok (.iconst 2, 1) := dk_5 (dk_at dksX4_nextToken_5 21 rfl rfl)
theorem dX4_nextToken_141 : decode cX4_nextToken 141 = .ok (.if_icmp .le 7, 3) := dk_164 0 7 (dk_at dksX4_nextToken_6 0 rfl rfl)
theorem dX4_nextToken_144 : decode cX4_nextToken 144 = .ok (.iconst 0, 1) := dk_3 (dk_at dksX4_nextToken_6 3 rfl rfl)
theorem dX4_nextToken_145 : decode cX4_nextToken 145 = .ok (.goto 4, 3) := dk_167 0 4 (dk_at dksX4_nextToken_6 4 rfl rfl)
theorem dX4_nextToken_148 : decode cX4_nextToken 148 = .ok (.iconst 2, 1) := dk_5 (dk_at dksX4_nextToken_6 7 rfl rfl)
theorem dX4_nextToken_149 : decode cX4_nextToken 149 = .ok (.putfield 88, 3) := dk_181 0 88 (dk_at dksX4_nextToken_6 8 rfl rfl)
theorem dX4_nextToken_152 : decode cX4_nextToken 152 = .ok (.goto 77, 3) := dk_167 0 77 (dk_at dksX4_nextToken_6 11 rfl rfl)
theorem dX4_nextToken_155 : decode cX4_nextToken 155 = .ok (.aload_n 0, 1) := dk_42 (dk_at dksX4_nextToken_6 14 rfl rfl)
theorem dX4_nextToken_156 : decode cX4_nextToken 156 = .ok (.getfield 88, 3) := dk_180 0 88 (dk_at dksX4_nextToken_6 15 rfl rfl)
theorem dX4_nextToken_159 : decode cX4_nextToken 159 = .ok (.ifCond .ne 70, 3) := dk_154 0 70 (dk_at dksX4_nextToken_6 18 rfl rfl)
theorem dX4_nextToken_162 : decode cX4_nextToken 162 = .ok (.aload_n 0, 1) := dk_42 (dk_at dksX4_nextToken_6 21 rfl rfl)
theorem dX4_nextToken_163 : decode cX4_nextToken 163 = .ok (.aload_n 0, 1) := dk_42 (dk_at dksX4_nextToken_6 22 rfl rfl)
theorem dX4_nextToken_164 : decode cX4_nextToken 164 = .ok (.getfield 25, 3) := dk_180 0 25 (dk_at dksX4_nextToken_7 0 rfl rfl)
theorem dX4_nextToken_167 : decode cX4_nextToken 167 = .ok (.aload_n 0, 1) := dk_42 (dk_at dksX4_nextToken_7 3 rfl rfl)
theorem dX4_nextToken_168 : decode cX4_nextToken 168 = .ok (.getfield 82, 3) := dk_180 0 82 (dk_at dksX4_nextToken_7 4 rfl rfl)
theorem dX4_nextToken_171 : decode cX4_nextToken 171 = .ok (.iaload, 1) := dk_46 (dk_at dksX4_nextToken_7 7 rfl rfl)
theorem dX4_nextToken_172 : decode cX4_nextToken 172 = .ok (.putfield 91, 3) := dk_181 0 91 (dk_at dksX4_nextToken_7 8 rfl rfl)
theorem dX4_nextToken_175 : decode cX4_nextToken 175 = .ok (.aload_n 0, 1) := dk_42 (dk_at dksX4_nextToken_7 11 rfl rfl)
theorem dX4_nextToken_176 : decode cX4_nextToken 176 = .ok (.aload_n 0, 1) := dk_42 (dk_at dksX4_nextToken_7 12 rfl rfl)
theorem dX4_nextToken_177 : decode cX4_nextToken 177 = .ok (.getfield 91, 3) := dk_180 0 91 (dk_at dksX4_nextToken_7 13 rfl rfl)
theorem dX4_nextToken_180 : decode cX4_nextToken 180 = .ok (.i2l, 1) := dk_133 (dk_at dksX4_nextToken_7 16 rfl rfl)
theorem dX4_nextToken_181 : decode cX4_nextToken 181 = .ok (.ldc2_w 98, 3) := dk_20 0 98 (dk_at dksX4_nextToken_7 17 rfl rfl)
theorem dX4_nextToken_184 : decode cX4_nextToken 184 = .ok (.ldc2_w 100, 3) := dk_20 0 100 (dk_at dksX4_nextToken_7 20 rfl rfl)
theorem dX4_nextToken_187 : decode cX4_nextToken 187 = .ok (.invokestatic 54, 3) := dk_184 0 54 (dk_at dksX4_nextToken_8 0 rfl rfl)
theorem dX4_nextToken_190 : decode cX4_nextToken 190 = .ok (.ifCond .ne 21, 3) := dk_154 0 21 (dk_at dksX4_nextToken_8 3 rfl rfl)
theorem dX4_nextToken_193 : decode cX4_nextToken 193 = .ok (.aload_n 0, 1) := dk_42 (dk_at dksX4_nextToken_8 6 rfl rfl)
theorem dX4_nextToken_194 : decode cX4_nextToken 194 = .ok (.getfield 91, 3) := dk_180 0 91 (dk_at dksX4_nextToken_8 7 rfl rfl)
theorem dX4_nextToken_197 : decode cX4_nextToken 197 = .ok (.bipush 44, 2) := dk_16 44 (dk_at dksX4_nextToken_8 10 rfl rfl)
theorem dX4_nextToken_199 : decode cX4_nextToken 199 = .ok (.if_icmp .eq 12, 3) := dk_159 0 12 (dk_at dksX4_nextToken_8 12 rfl rfl)
theorem dX4_nextToken_202 : decode cX4_nextToken 202 = .ok (.aload_n 0, 1) := dk_42 (dk_at dksX4_nextToken_8 15 rfl rfl)
theorem dX4_nextToken_203 : decode cX4_nextToken 203 = .ok (.getfield 91, 3) := dk_180 0 91 (dk_at dksX4_nextToken_8 16 rfl rfl)
theorem dX4_nextToken_206 : decode cX4_nextToken 206 = .ok (.bipush 59, 2) := dk_16 59 (dk_at dksX4_nextToken_8 19 rfl rfl)
theorem dX4_nextToken_208 : decode cX4_nextToken 208 = .ok (.if_icmp .ne 7, 3) := dk_160 0 7 (dk_at dksX4_nextToken_8 21 rfl rfl)
theorem dX4_nextToken_211 : decode cX4_nextToken 211 = .ok (.iconst 1, 1) := dk_4 (dk_at dksX4_nextToken_9 0 rfl rfl)
theorem dX4_nextToken_212 : decode cX4_nextToken 212 = .ok (.goto 4, 3) := dk_167 0 4 (dk_at dksX4_nextToken_9 1 rfl rfl)
theorem dX4_nextToken_215 : decode cX4_nextToken 215 = .ok (.iconst 0, 1) := dk_3 (dk_at dksX4_nextToken_9 4 rfl rfl)
theorem dX4_nextToken_216 : decode cX4_nextToken 216 = .ok (.putfield 88, 3) := dk_181 0 88 (dk_at dksX4_nextToken_9 5 rfl rfl)
theorem dX4_nextToken_219 : decode cX4_nextToken 219 = .ok (.aload_n 0, 1) := dk_42 (dk_at dksX4_nextToken_9 8 rfl rfl)
theorem dX4_nextToken_220 : decode cX4_nextToken 220 = .ok (.dup, 1) := dk_89 (dk_at dksX4_nextToken_9 9 rfl rfl)
theorem dX4_nextToken_221 : decode cX4_nextToken 221 = .ok (.getfield 82, 3) := dk_180 0 82 (dk_at dksX4_nextToken_9 10 rfl rfl)
theorem dX4_nextToken_224 : decode cX4_nextToken 224 = .ok (.iconst 1, 1) := dk_4 (dk_at dksX4_nextToken_9 13 rfl rfl)
theorem dX4_nextToken_225 : decode cX4_nextToken 225 = .ok (.iadd, 1) := dk_96 (dk_at dksX4_nextToken_9 14 rfl rfl)
theorem dX4_nextToken_226 : decode cX4_nextToken 226 = .ok (.putfield 82, 3) := dk_181 0 82 (dk_at dksX4_nextToken_9 15 rfl rfl)
theorem dX4_nextToken_229 : decode cX4_nextToken 229 = .ok (.return_, 1) := dk_177 (dk_at dksX4_nextToken_9 18 rfl rfl)
abbrev cX4_takes : ByteArray := prog_17_method_17_code
def yX4_takes : MethodName := ⟨RX4, "takes", "(I)Z"⟩
def dkwX4_takes_0 : List UInt8 := [42, 27, 182, 0, 105, 154, 0, 9, 42, 4, 182, 0, 108, 172, 42, 182, 0, 111, 4, 172]
abbrev dktX4_takes_0 : List UInt8 := dkwX4_takes_0 ++ []
theorem dksX4_takes_0 : cX4_takes.data.toList.drop 0 = dktX4_takes_0 := by decide +kernel
theorem dX4_takes_0 : decode cX4_takes 0 = .ok (.aload_n 0, 1) := dk_42 (dk_at dksX4_takes_0 0 rfl rfl)
theorem dX4_takes_1 : decode cX4_takes 1 = .ok (.iload_n 1, 1) := dk_27 (dk_at dksX4_takes_0 1 rfl rfl)
theorem dX4_takes_2 : decode cX4_takes 2 = .ok (.invokevirtual 105, 3) := dk_182 0 105 (dk_at dksX4_takes_0 2 rfl rfl)
theorem dX4_takes_5 : decode cX4_takes 5 = .ok (.ifCond .ne 9, 3) := dk_154 0 9 (dk_at dksX4_takes_0 5 rfl rfl)
theorem dX4_takes_8 : decode cX4_takes 8 = .ok (.aload_n 0, 1) := dk_42 (dk_at dksX4_takes_0 8 rfl rfl)
theorem dX4_takes_9 : decode cX4_takes 9 = .ok (.iconst 1, 1) := dk_4 (dk_at dksX4_takes_0 9 rfl rfl)
theorem dX4_takes_10 : decode cX4_takes 10 = .ok (.invokevirtual 108, 3) := dk_182 0 108 (dk_at dksX4_takes_0 10 rfl rfl)
theorem dX4_takes_13 : decode cX4_takes 13 = .ok (.ireturn, 1) := dk_172 (dk_at dksX4_takes_0 13 rfl rfl)
theorem dX4_takes_14 : decode cX4_takes 14 = .ok (.aload_n 0, 1) := dk_42 (dk_at dksX4_takes_0 14 rfl rfl)
theorem dX4_takes_15 : decode cX4_takes 15 = .ok (.invokevirtual 111, 3) := dk_182 0 111 (dk_at dksX4_takes_0 15 rfl rfl)
theorem dX4_takes_18 : decode cX4_takes 18 = .ok (.iconst 1, 1) := dk_4 (dk_at dksX4_takes_0 18 rfl rfl)
theorem dX4_takes_19 : decode cX4_takes 19 = .ok (.ireturn, 1) := dk_172 (dk_at dksX4_takes_0 19 rfl rfl)
abbrev cX4_isLetter : ByteArray := prog_17_method_16_code
def yX4_isLetter : MethodName := ⟨RX4, "isLetter", "(I)Z"⟩
def dkwX4_isLetter_0 : List UInt8 := [42, 180, 0, 88, 4, 160, 0, 15, 42, 180, 0, 91, 27, 160, 0, 7, 4, 167, 0, 4, 3, 172]
abbrev dktX4_isLetter_0 : List UInt8 := dkwX4_isLetter_0 ++ []
theorem dksX4_isLetter_0 : cX4_isLetter.data.toList.drop 0 = dktX4_isLetter_0 := by decide +kernel
theorem dX4_isLetter_0 : decode cX4_isLetter 0 = .ok (.aload_n 0, 1) := dk_42 (dk_at dksX4_isLetter_0 0 rfl rfl)
theorem dX4_isLetter_1 : decode cX4_isLetter 1 = .ok (.getfield 88, 3) := dk_180 0 88 (dk_at dksX4_isLetter_0 1 rfl rfl)
theorem dX4_isLetter_4 : decode cX4_isLetter 4 = .ok (.iconst 1, 1) := dk_4 (dk_at dksX4_isLetter_0 4 rfl rfl)
theorem dX4_isLetter_5 : decode cX4_isLetter 5 = .ok (.if_icmp .ne 15, 3) := dk_160 0 15 (dk_at dksX4_isLetter_0 5 rfl rfl)
theorem dX4_isLetter_8 : decode cX4_isLetter 8 = .ok (.aload_n 0, 1) := dk_42 (dk_at dksX4_isLetter_0 8 rfl rfl)
theorem dX4_isLetter_9 : decode cX4_isLetter 9 = .ok (.getfield 91, 3) := dk_180 0 91 (dk_at dksX4_isLetter_0 9 rfl rfl)
theorem dX4_isLetter_12 : decode cX4_isLetter 12 = .ok (.iload_n 1, 1) := dk_27 (dk_at dksX4_isLetter_0 12 rfl rfl)
theorem dX4_isLetter_13 : decode cX4_isLetter 13 = .ok (.if_icmp .ne 7, 3) := dk_160 0 7 (dk_at dksX4_isLetter_0 13 rfl rfl)
theorem dX4_isLetter_16 : decode cX4_isLetter 16 = .ok (.iconst 1, 1) := dk_4 (dk_at dksX4_isLetter_0 16 rfl rfl)
theorem dX4_isLetter_17 : decode cX4_isLetter 17 = .ok (.goto 4, 3) := dk_167 0 4 (dk_at dksX4_isLetter_0 17 rfl rfl)
theorem dX4_isLetter_20 : decode cX4_isLetter 20 = .ok (.iconst 0, 1) := dk_3 (dk_at dksX4_isLetter_0 20 rfl rfl)
theorem dX4_isLetter_21 : decode cX4_isLetter 21 = .ok (.ireturn, 1) := dk_172 (dk_at dksX4_isLetter_0 21 rfl rfl)
abbrev cX4_faults : ByteArray := prog_17_method_15_code
def yX4_faults : MethodName := ⟨RX4, "faults", "(I)Z"⟩
def dkwX4_faults_0 : List UInt8 := [42, 27, 181, 0, 102, 3, 172]
abbrev dktX4_faults_0 : List UInt8 := dkwX4_faults_0 ++ []
theorem dksX4_faults_0 : cX4_faults.data.toList.drop 0 = dktX4_faults_0 := by decide +kernel
theorem dX4_faults_0 : decode cX4_faults 0 = .ok (.aload_n 0, 1) := dk_42 (dk_at dksX4_faults_0 0 rfl rfl)
theorem dX4_faults_1 : decode cX4_faults 1 = .ok (.iload_n 1, 1) := dk_27 (dk_at dksX4_faults_0 1 rfl rfl)
theorem dX4_faults_2 : decode cX4_faults 2 = .ok (.putfield 102, 3) := dk_181 0 102 (dk_at dksX4_faults_0 2 rfl rfl)
theorem dX4_faults_5 : decode cX4_faults 5 = .ok (.iconst 0, 1) := dk_3 (dk_at dksX4_faults_0 5 rfl rfl)
theorem dX4_faults_6 : decode cX4_faults 6 = .ok (.ireturn, 1) := dk_172 (dk_at dksX4_faults_0 6 rfl rfl)
abbrev cX4_takesNumber : ByteArray := prog_17_method_18_code
def yX4_takesNumber : MethodName := ⟨RX4, "takesNumber", "(IIII)Z"⟩
def dkwX4_takesNumber_2 : List UInt8 := [180, 0, 91, 79, 42, 182, 0, 111, 42, 21, 4, 182, 0, 114, 172]
abbrev dktX4_takesNumber_2 : List UInt8 := dkwX4_takesNumber_2 ++ []
def dkwX4_takesNumber_1 : List UInt8 := [42, 180, 0, 88, 5, 160, 0, 7, 5, 167, 0, 4, 4, 182, 0, 108, 172, 42, 180, 0, 28, 29, 42]
abbrev dktX4_takesNumber_1 : List UInt8 := dkwX4_takesNumber_1 ++ dktX4_takesNumber_2
def dkwX4_takesNumber_0 : List UInt8 := [42, 180, 0, 88, 5, 160, 0, 18, 42, 180, 0, 91, 133, 27, 133, 28, 133, 184, 0, 54, 154, 0, 21, 42]
abbrev dktX4_takesNumber_0 : List UInt8 := dkwX4_takesNumber_0 ++ dktX4_takesNumber_1
theorem dksX4_takesNumber_0 : cX4_takesNumber.data.toList.drop 0 = dktX4_takesNumber_0 := by decide +kernel
theorem dksX4_takesNumber_1 : cX4_takesNumber.data.toList.drop 24 = dktX4_takesNumber_1 := dk_seg dksX4_takesNumber_0 24 rfl rfl
theorem dksX4_takesNumber_2 : cX4_takesNumber.data.toList.drop 47 = dktX4_takesNumber_2 := dk_seg dksX4_takesNumber_1 23 rfl rfl
theorem dX4_takesNumber_0 : decode cX4_takesNumber 0 = .ok (.aload_n 0, 1) := dk_42 (dk_at dksX4_takesNumber_0 0 rfl rfl)
theorem dX4_takesNumber_1 : decode cX4_takesNumber 1 = .ok (.getfield 88, 3) := dk_180 0 88 (dk_at dksX4_takesNumber_0 1 rfl rfl)
theorem dX4_takesNumber_4 : decode cX4_takesNumber 4 = .ok (.iconst 2, 1) := dk_5 (dk_at dksX4_takesNumber_0 4 rfl rfl)
theorem dX4_takesNumber_5 : decode cX4_takesNumber 5 = .ok (.if_icmp .ne 18, 3) := dk_160 0 18 (dk_at dksX4_takesNumber_0 5 rfl rfl)
theorem dX4_takesNumber_8 : decode cX4_takesNumber 8 = .ok (.aload_n 0, 1) := dk_42 (dk_at dksX4_takesNumber_0 8 rfl rfl)
theorem dX4_takesNumber_9 : decode cX4_takesNumber 9 = .ok (.getfield 91, 3) := dk_180 0 91 (dk_at dksX4_takesNumber_0 9 rfl rfl)
theorem dX4_takesNumber_12 : decode cX4_takesNumber 12 = .ok (.i2l, 1) := dk_133 (dk_at dksX4_takesNumber_0 12 rfl rfl)
theorem dX4_takesNumber_13 : decode cX4_takesNumber 13 = .ok (.iload_n 1, 1) := dk_27 (dk_at dksX4_takesNumber_0 13 rfl rfl)
theorem dX4_takesNumber_14 : decode cX4_takesNumber 14 = .ok (.i2l, 1) := dk_133 (dk_at dksX4_takesNumber_0 14 rfl rfl)
theorem dX4_takesNumber_15 : decode cX4_takesNumber 15 = .ok (.iload_n 2, 1) := dk_28 (dk_at dksX4_takesNumber_0 15 rfl rfl)
theorem dX4_takesNumber_16 : decode cX4_takesNumber 16 = .ok (.i2l, 1) := dk_133 (dk_at dksX4_takesNumber_0 16 rfl rfl)
theorem dX4_takesNumber_17 : decode cX4_takesNumber 17 = .ok (.invokestatic 54, 3) := dk_184 0 54 (dk_at dksX4_takesNumber_0 17 rfl rfl)
theorem dX4_takesNumber_20 : decode cX4_takesNumber 20 = .ok (.ifCond .ne 21, 3) := dk_154 0 21 (dk_at dksX4_takesNumber_0 20 rfl rfl)
theorem dX4_takesNumber_23 : decode cX4_takesNumber 23 = .ok (.aload_n 0, 1) := dk_42 (dk_at dksX4_takesNumber_0 23 rfl rfl)
theorem dX4_takesNumber_24 : decode cX4_takesNumber 24 = .ok (.aload_n 0, 1) := dk_42 (dk_at dksX4_takesNumber_1 0 rfl rfl)
theorem dX4_takesNumber_25 : decode cX4_takesNumber 25 = .ok (.getfield 88, 3) := dk_180 0 88 (dk_at dksX4_takesNumber_1 1 rfl rfl)
theorem dX4_takesNumber_28 : decode cX4_takesNumber 28 = .ok (.iconst 2, 1) := dk_5 (dk_at dksX4_takesNumber_1 4 rfl rfl)
theorem dX4_takesNumber_29 : decode cX4_takesNumber 29 = .ok (.if_icmp .ne 7, 3) := dk_160 0 7 (dk_at dksX4_takesNumber_1 5 rfl rfl)
theorem dX4_takesNumber_32 : decode cX4_takesNumber 32 = .ok (.iconst 2, 1) := dk_5 (dk_at dksX4_takesNumber_1 8 rfl rfl)
theorem dX4_takesNumber_33 : decode cX4_takesNumber 33 = .ok (.goto 4, 3) := dk_167 0 4 (dk_at dksX4_takesNumber_1 9 rfl rfl)
theorem dX4_takesNumber_36 : decode cX4_takesNumber 36 = .ok (.iconst 1, 1) := dk_4 (dk_at dksX4_takesNumber_1 12 rfl rfl)
theorem dX4_takesNumber_37 : decode cX4_takesNumber 37 = .ok (.invokevirtual 108, 3) := dk_182 0 108 (dk_at dksX4_takesNumber_1 13 rfl rfl)
theorem dX4_takesNumber_40 : decode cX4_takesNumber 40 = .ok (.ireturn, 1) := dk_172 (dk_at dksX4_takesNumber_1 16 rfl rfl)
theorem dX4_takesNumber_41 : decode cX4_takesNumber 41 = .ok (.aload_n 0, 1) := dk_42 (dk_at dksX4_takesNumber_1 17 rfl rfl)
theorem dX4_takesNumber_42 : decode cX4_takesNumber 42 = .ok (.getfield 28, 3) := dk_180 0 28 (dk_at dksX4_takesNumber_1 18 rfl rfl)
theorem dX4_takesNumber_45 : decode cX4_takesNumber 45 = .ok (.iload_n 3, 1) := dk_29 (dk_at dksX4_takesNumber_1 21 rfl rfl)
theorem dX4_takesNumber_46 : decode cX4_takesNumber 46 = .ok (.aload_n 0, 1) := dk_42 (dk_at dksX4_takesNumber_1 22 rfl rfl)
theorem dX4_takesNumber_47 : decode cX4_takesNumber 47 = .ok (.getfield 91, 3) := dk_180 0 91 (dk_at dksX4_takesNumber_2 0 rfl rfl)
theorem dX4_takesNumber_50 : decode cX4_takesNumber 50 = .ok (.iastore, 1) := dk_79 (dk_at dksX4_takesNumber_2 3 rfl rfl)
theorem dX4_takesNumber_51 : decode cX4_takesNumber 51 = .ok (.aload_n 0, 1) := dk_42 (dk_at dksX4_takesNumber_2 4 rfl rfl)
theorem dX4_takesNumber_52 : decode cX4_takesNumber 52 = .ok (.invokevirtual 111, 3) := dk_182 0 111 (dk_at dksX4_takesNumber_2 5 rfl rfl)
theorem dX4_takesNumber_55 : decode cX4_takesNumber 55 = .ok (.aload_n 0, 1) := dk_42 (dk_at dksX4_takesNumber_2 8 rfl rfl)
theorem dX4_takesNumber_56 : decode cX4_takesNumber 56 = .ok (.iload 4, 2) := dk_21 4 (dk_at dksX4_takesNumber_2 9 rfl rfl)
theorem dX4_takesNumber_58 : decode cX4_takesNumber 58 = .ok (.invokevirtual 114, 3) := dk_182 0 114 (dk_at dksX4_takesNumber_2 11 rfl rfl)
theorem dX4_takesNumber_61 : decode cX4_takesNumber 61 = .ok (.ireturn, 1) := dk_172 (dk_at dksX4_takesNumber_2 14 rfl rfl)
abbrev cX4_readPromise : ByteArray := prog_17_method_20_code
def yX4_readPromise : MethodName := ⟨RX4, "readPromise", "(I)Z"⟩
def dkwX4_readPromise_5 : List UInt8 := [172]
abbrev dktX4_readPromise_5 : List UInt8 := dkwX4_readPromise_5 ++ []
def dkwX4_readPromise_4 : List UInt8 := [153, 0, 23, 42, 3, 16, 20, 16, 41, 28, 96, 16, 59, 182, 0, 117, 153, 0, 7, 4, 167, 0, 4, 3]
abbrev dktX4_readPromise_4 : List UInt8 := dkwX4_readPromise_4 ++ dktX4_readPromise_5
def dkwX4_readPromise_3 : List UInt8 := [28, 96, 16, 44, 182, 0, 117, 153, 0, 39, 42, 3, 16, 9, 16, 33, 28, 96, 16, 44, 182, 0, 117]
abbrev dktX4_readPromise_3 : List UInt8 := dkwX4_readPromise_3 ++ dktX4_readPromise_4
def dkwX4_readPromise_2 : List UInt8 := [180, 0, 28, 5, 46, 4, 100, 16, 17, 28, 96, 16, 44, 182, 0, 117, 153, 0, 54, 42, 3, 8, 16, 25]
abbrev dktX4_readPromise_2 : List UInt8 := dkwX4_readPromise_2 ++ dktX4_readPromise_3
def dkwX4_readPromise_1 : List UInt8 := [180, 0, 28, 16, 9, 28, 96, 27, 79, 42, 180, 0, 28, 6, 92, 46, 4, 96, 79, 42, 3, 42]
abbrev dktX4_readPromise_1 : List UInt8 := dkwX4_readPromise_1 ++ dktX4_readPromise_2
def dkwX4_readPromise_0 : List UInt8 := [42, 180, 0, 28, 6, 46, 61, 28, 16, 8, 160, 0, 9, 42, 6, 182, 0, 108, 172, 42, 182, 0, 111, 42]
abbrev dktX4_readPromise_0 : List UInt8 := dkwX4_readPromise_0 ++ dktX4_readPromise_1
theorem dksX4_readPromise_0 : cX4_readPromise.data.toList.drop 0 = dktX4_readPromise_0 := by decide +kernel
theorem dksX4_readPromise_1 : cX4_readPromise.data.toList.drop 24 = dktX4_readPromise_1 := dk_seg dksX4_readPromise_0 24 rfl rfl
theorem dksX4_readPromise_2 : cX4_readPromise.data.toList.drop 46 = dktX4_readPromise_2 := dk_seg dksX4_readPromise_1 22 rfl rfl
theorem dksX4_readPromise_3 : cX4_readPromise.data.toList.drop 70 = dktX4_readPromise_3 := dk_seg dksX4_readPromise_2 24 rfl rfl
theorem dksX4_readPromise_4 : cX4_readPromise.data.toList.drop 93 = dktX4_readPromise_4 := dk_seg dksX4_readPromise_3 23 rfl rfl
theorem dksX4_readPromise_5 : cX4_readPromise.data.toList.drop 117 = dktX4_readPromise_5 := dk_seg dksX4_readPromise_4 24 rfl rfl
theorem dX4_readPromise_0 : decode cX4_readPromise 0 = .ok (.aload_n 0, 1) := dk_42 (dk_at dksX4_readPromise_0 0 rfl rfl)
theorem dX4_readPromise_1 : decode cX4_readPromise 1 = .ok (.getfield 28, 3) := dk_180 0 28 (dk_at dksX4_readPromise_0 1 rfl rfl)
theorem dX4_readPromise_4 : decode cX4_readPromise 4 = .ok (.iconst 3, 1) := dk_6 (dk_at dksX4_readPromise_0 4 rfl rfl)
theorem dX4_readPromise_5 : decode cX4_readPromise 5 = .ok (.iaload, 1) := dk_46 (dk_at dksX4_readPromise_0 5 rfl rfl)
theorem dX4_readPromise_6 : decode cX4_readPromise 6 = .ok (.istore_n 2, 1) := dk_61 (dk_at dksX4_readPromise_0 6 rfl rfl)
theorem dX4_readPromise_7 : decode cX4_readPromise 7 = .ok (.iload_n 2, 1) := dk_28 (dk_at dksX4_readPromise_0 7 rfl rfl)
theorem dX4_readPromise_8 : decode cX4_readPromise 8 = .ok (.bipush 8, 2) := dk_16 8 (dk_at dksX4_readPromise_0 8 rfl rfl)
theorem dX4_readPromise_10 : decode cX4_readPromise 10 = .ok (.if_icmp .ne 9, 3) := dk_160 0 9 (dk_at dksX4_readPromise_0 10 rfl rfl)
theorem dX4_readPromise_13 : decode cX4_readPromise 13 = .ok (.aload_n 0, 1) := dk_42 (dk_at dksX4_readPromise_0 13 rfl rfl)
theorem dX4_readPromise_14 : decode cX4_readPromise 14 = .ok (.iconst 3, 1) := dk_6 (dk_at dksX4_readPromise_0 14 rfl rfl)
theorem dX4_readPromise_15 : decode cX4_readPromise 15 = .ok (.invokevirtual 108, 3) := dk_182 0 108 (dk_at dksX4_readPromise_0 15 rfl rfl)
theorem dX4_readPromise_18 : decode cX4_readPromise 18 = .ok (.ireturn, 1) := dk_172 (dk_at dksX4_readPromise_0 18 rfl rfl)
theorem dX4_readPromise_19 : decode cX4_readPromise 19 = .ok (.aload_n 0, 1) := dk_42 (dk_at dksX4_readPromise_0 19 rfl rfl)
theorem dX4_readPromise_20 : decode cX4_readPromise 20 = .ok (.invokevirtual 111, 3) := dk_182 0 111 (dk_at dksX4_readPromise_0 20 rfl rfl)
theorem dX4_readPromise_23 : decode cX4_readPromise 23 = .ok (.aload_n 0, 1) := dk_42 (dk_at dksX4_readPromise_0 23 rfl rfl)
theorem dX4_readPromise_24 : decode cX4_readPromise 24 = .ok (.getfield 28, 3) := dk_180 0 28 (dk_at dksX4_readPromise_1 0 rfl rfl)
theorem dX4_readPromise_27 : decode cX4_readPromise 27 = .ok (.bipush 9, 2) := dk_16 9 (dk_at dksX4_readPromise_1 3 rfl rfl)
theorem dX4_readPromise_29 : decode cX4_readPromise 29 = .ok (.iload_n 2, 1) := dk_28 (dk_at dksX4_readPromise_1 5 rfl rfl)
theorem dX4_readPromise_30 : decode cX4_readPromise 30 = .ok (.iadd, 1) := dk_96 (dk_at dksX4_readPromise_1 6 rfl rfl)
theorem dX4_readPromise_31 : decode cX4_readPromise 31 = .ok (.iload_n 1, 1) := dk_27 (dk_at dksX4_readPromise_1 7 rfl rfl)
theorem dX4_readPromise_32 : decode cX4_readPromise 32 = .ok (.iastore, 1) := dk_79 (dk_at dksX4_readPromise_1 8 rfl rfl)
theorem dX4_readPromise_33 : decode cX4_readPromise 33 = .ok (.aload_n 0, 1) := dk_42 (dk_at dksX4_readPromise_1 9 rfl rfl)
theorem dX4_readPromise_34 : decode cX4_readPromise 34 = .ok (.getfield 28, 3) := dk_180 0 28 (dk_at dksX4_readPromise_1 10 rfl rfl)
theorem dX4_readPromise_37 : decode cX4_readPromise 37 = .ok (.iconst 3, 1) := dk_6 (dk_at dksX4_readPromise_1 13 rfl rfl)
theorem dX4_readPromise_38 : decode cX4_readPromise 38 = .ok (.dup2, 1) := dk_92 (dk_at dksX4_readPromise_1 14 rfl rfl)
theorem dX4_readPromise_39 : decode cX4_readPromise 39 = .ok (.iaload, 1) := dk_46 (dk_at dksX4_readPromise_1 15 rfl rfl)
theorem dX4_readPromise_40 : decode cX4_readPromise 40 = .ok (.iconst 1, 1) := dk_4 (dk_at dksX4_readPromise_1 16 rfl rfl)
theorem dX4_readPromise_41 : decode cX4_readPromise 41 = .ok (.iadd, 1) := dk_96 (dk_at dksX4_readPromise_1 17 rfl rfl)
theorem dX4_readPromise_42 : decode cX4_readPromise 42 = .ok (.iastore, 1) := dk_79 (dk_at dksX4_readPromise_1 18 rfl rfl)
theorem dX4_readPromise_43 : decode cX4_readPromise 43 = .ok (.aload_n 0, 1) := dk_42 (dk_at dksX4_readPromise_1 19 rfl rfl)
theorem dX4_readPromise_44 : decode cX4_readPromise 44 = .ok (.iconst 0, 1) := dk_3 (dk_at dksX4_readPromise_1 20 rfl rfl)
theorem dX4_readPromise_45 : decode cX4_readPromise 45 = .ok (.aload_n 0, 1) := dk_42 (dk_at dksX4_readPromise_1 21 rfl rfl)
theorem dX4_readPromise_46 : decode cX4_readPromise 46 = .ok (.getfield 28, 3) := dk_180 0 28 (dk_at dksX4_readPromise_2 0 rfl rfl)
theorem dX4_readPromise_49 : decode cX4_readPromise 49 = .ok (.iconst 2, 1) := dk_5 (dk_at dksX4_readPromise_2 3 rfl rfl)
theorem dX4_readPromise_50 : decode cX4_readPromise 50 = .ok (.iaload, 1) := dk_46 (dk_at dksX4_readPromise_2 4 rfl rfl)
theorem dX4_readPromise_51 : decode cX4_readPromise 51 = .ok (.iconst 1, 1) := dk_4 (dk_at dksX4_readPromise_2 5 rfl rfl)
theorem dX4_readPromise_52 : decode cX4_readPromise 52 = .ok (.isub, 1) := dk_100 (dk_at dksX4_readPromise_2 6 rfl rfl)
theorem dX4_readPromise_53 : decode cX4_readPromise 53 = .ok (.bipush 17, 2) := dk_16 17 (dk_at dksX4_readPromise_2 7 rfl rfl)
theorem dX4_readPromise_55 : decode cX4_readPromise 55 = .ok (.iload_n 2, 1) := dk_28 (dk_at dksX4_readPromise_2 9 rfl rfl)
theorem dX4_readPromise_56 : decode cX4_readPromise 56 = .ok (.iadd, 1) := dk_96 (dk_at dksX4_readPromise_2 10 rfl rfl)
theorem dX4_readPromise_57 : decode cX4_readPromise 57 = .ok (.bipush 44, 2) := dk_16 44 (dk_at dksX4_readPromise_2 11 rfl rfl)
theorem dX4_readPromise_59 : decode cX4_readPromise 59 = .ok (.invokevirtual 117, 3) := dk_182 0 117 (dk_at dksX4_readPromise_2 13 rfl rfl)
theorem dX4_readPromise_62 : decode cX4_readPromise 62 = .ok (.ifCond .eq 54, 3) := dk_153 0 54 (dk_at dksX4_readPromise_2 16 rfl rfl)
theorem dX4_readPromise_65 : decode cX4_readPromise 65 = .ok (.aload_n 0, 1) := dk_42 (dk_at dksX4_readPromise_2 19 rfl rfl)
theorem dX4_readPromise_66 : decode cX4_readPromise 66 = .ok (.iconst 0, 1) := dk_3 (dk_at dksX4_readPromise_2 20 rfl rfl)
theorem dX4_readPromise_67 : decode cX4_readPromise 67 = .ok (.iconst 5, 1) := dk_8 (dk_at dksX4_readPromise_2 21 rfl rfl)
theorem dX4_readPromise_68 : decode cX4_readPromise 68 = .ok (.bipush 25, 2) := dk_16 25 (dk_at dksX4_readPromise_2 22 rfl rfl)
theorem dX4_readPromise_70 : decode cX4_readPromise 70 = .ok (.iload_n 2, 1) := dk_28 (dk_at dksX4_readPromise_3 0 rfl rfl)
theorem dX4_readPromise_71 : decode cX4_readPromise 71 = .ok (.iadd, 1) := dk_96 (dk_at dksX4_readPromise_3 1 rfl rfl)
theorem dX4_readPromise_72 : decode cX4_readPromise 72 = .ok (.bipush 44, 2) := dk_16 44 (dk_at dksX4_readPromise_3 2 rfl rfl)
theorem dX4_readPromise_74 : decode cX4_readPromise 74 = .ok (.invokevirtual 117, 3) := dk_182 0 117 (dk_at dksX4_readPromise_3 4 rfl rfl)
theorem dX4_readPromise_77 : decode cX4_readPromise 77 = .ok (.ifCond .eq 39, 3) := dk_153 0 39 (dk_at dksX4_readPromise_3 7 rfl rfl)
theorem dX4_readPromise_80 : decode cX4_readPromise 80 = .ok (.aload_n 0, 1) := dk_42 (dk_at dksX4_readPromise_3 10 rfl rfl)
theorem dX4_readPromise_81 : decode cX4_readPromise 81 = .ok (.iconst 0, 1) := dk_3 (dk_at dksX4_readPromise_3 11 rfl rfl)
theorem dX4_readPromise_82 : decode cX4_readPromise 82 = .ok (.bipush 9, 2) := dk_16 9 (dk_at dksX4_readPromise_3 12 rfl rfl)
theorem dX4_readPromise_84 : decode cX4_readPromise 84 = .ok (.bipush 33, 2) := dk_16 33 (dk_at dksX4_readPromise_3 14 rfl rfl)
theorem dX4_readPromise_86 : decode cX4_readPromise 86 = .ok (.iload_n 2, 1) := dk_28 (dk_at dksX4_readPromise_3 16 rfl rfl)
theorem dX4_readPromise_87 : decode cX4_readPromise 87 = .ok (.iadd, 1) := dk_96 (dk_at dksX4_readPromise_3 17 rfl rfl)
theorem dX4_readPromise_88 : decode cX4_readPromise 88 = .ok (.bipush 44, 2) := dk_16 44 (dk_at dksX4_readPromise_3 18 rfl rfl)
theorem dX4_readPromise_90 : decode cX4_readPromise 90 = .ok (.invokevirtual 117, 3) := dk_182 0 117 (dk_at dksX4_readPromise_3 20 rfl rfl)
theorem dX4_readPromise_93 : decode cX4_readPromise 93 = .ok (.ifCond .eq 23, 3) := dk_153 0 23 (dk_at dksX4_readPromise_4 0 rfl rfl)
theorem dX4_readPromise_96 : decode cX4_readPromise 96 = .ok (.aload_n 0, 1) := dk_42 (dk_at dksX4_readPromise_4 3 rfl rfl)
theorem dX4_readPromise_97 : decode cX4_readPromise 97 = .ok (.iconst 0, 1) := dk_3 (dk_at dksX4_readPromise_4 4 rfl rfl)
theorem dX4_readPromise_98 : decode cX4_readPromise 98 = .ok (.bipush 20, 2) := dk_16 20 (dk_at dksX4_readPromise_4 5 rfl rfl)
theorem dX4_readPromise_100 : decode cX4_readPromise 100 = .ok (.bipush 41, 2) := dk_16 41 (dk_at dksX4_readPromise_4 7 rfl rfl)
theorem dX4_readPromise_102 : decode cX4_readPromise 102 = .ok (.iload_n 2, 1) := dk_28 (dk_at dksX4_readPromise_4 9 rfl rfl)
theorem dX4_readPromise_103 : decode cX4_readPromise 103 = .ok (.iadd, 1) := dk_96 (dk_at dksX4_readPromise_4 10 rfl rfl)
theorem dX4_readPromise_104 : decode cX4_readPromise 104 = .ok (.bipush 59, 2) := dk_16 59 (dk_at dksX4_readPromise_4 11 rfl rfl)
theorem dX4_readPromise_106 : decode cX4_readPromise 106 = .ok (.invokevirtual 117, 3) := dk_182 0 117 (dk_at dksX4_readPromise_4 13 rfl rfl)
theorem dX4_readPromise_109 : decode cX4_readPromise 109 = .ok (.ifCond .eq 7, 3) := dk_153 0 7 (dk_at dksX4_readPromise_4 16 rfl rfl)
theorem dX4_readPromise_112 : decode cX4_readPromise 112 = .ok (.iconst 1, 1) := dk_4 (dk_at dksX4_readPromise_4 19 rfl rfl)
theorem dX4_readPromise_113 : decode cX4_readPromise 113 = .ok (.goto 4, 3) := dk_167 0 4 (dk_at dksX4_readPromise_4 20 rfl rfl)
theorem dX4_readPromise_116 : decode cX4_readPromise 116 = .ok (.iconst 0, 1) := dk_3 (dk_at dksX4_readPromise_4 23 rfl rfl)
theorem dX4_readPromise_117 : decode cX4_readPromise 117 = .ok (.ireturn, 1) := dk_172 (dk_at dksX4_readPromise_5 0 rfl rfl)
abbrev cX4_readGiver : ByteArray := prog_17_method_19_code
def yX4_readGiver : MethodName := ⟨RX4, "readGiver", "()Z"⟩
def dkwX4_readGiver_2 : List UInt8 := [46, 4, 96, 79, 42, 3, 16, 10, 8, 42, 180, 0, 28, 5, 46, 96, 4, 100, 16, 59, 182, 0, 117, 172]
abbrev dktX4_readGiver_2 : List UInt8 := dkwX4_readGiver_2 ++ []
def dkwX4_readGiver_1 : List UInt8 := [6, 46, 158, 0, 7, 4, 167, 0, 4, 6, 182, 0, 108, 172, 42, 182, 0, 111, 42, 180, 0, 28, 5, 92]
abbrev dktX4_readGiver_1 : List UInt8 := dkwX4_readGiver_1 ++ dktX4_readGiver_2
def dkwX4_readGiver_0 : List UInt8 := [42, 180, 0, 28, 5, 46, 7, 159, 0, 12, 42, 180, 0, 28, 6, 46, 158, 0, 22, 42, 42, 180, 0, 28]
abbrev dktX4_readGiver_0 : List UInt8 := dkwX4_readGiver_0 ++ dktX4_readGiver_1
theorem dksX4_readGiver_0 : cX4_readGiver.data.toList.drop 0 = dktX4_readGiver_0 := by decide +kernel
theorem dksX4_readGiver_1 : cX4_readGiver.data.toList.drop 24 = dktX4_readGiver_1 := dk_seg dksX4_readGiver_0 24 rfl rfl
theorem dksX4_readGiver_2 : cX4_readGiver.data.toList.drop 48 = dktX4_readGiver_2 := dk_seg dksX4_readGiver_1 24 rfl rfl
theorem dX4_readGiver_0 : decode cX4_readGiver 0 = .ok (.aload_n 0, 1) := dk_42 (dk_at dksX4_readGiver_0 0 rfl rfl)
theorem dX4_readGiver_1 : decode cX4_readGiver 1 = .ok (.getfield 28, 3) := dk_180 0 28 (dk_at dksX4_readGiver_0 1 rfl rfl)
theorem dX4_readGiver_4 : decode cX4_readGiver 4 = .ok (.iconst 2, 1) := dk_5 (dk_at dksX4_readGiver_0 4 rfl rfl)
theorem dX4_readGiver_5 : decode cX4_readGiver 5 = .ok (.iaload, 1) := dk_46 (dk_at dksX4_readGiver_0 5 rfl rfl)
theorem dX4_readGiver_6 : decode cX4_readGiver 6 = .ok (.iconst 4, 1) := dk_7 (dk_at dksX4_readGiver_0 6 rfl rfl)
theorem dX4_readGiver_7 : decode cX4_readGiver 7 = .ok (.if_icmp .eq 12, 3) := dk_159 0 12 (dk_at dksX4_readGiver_0 7 rfl rfl)
theorem dX4_readGiver_10 : decode cX4_readGiver 10 = .ok (.aload_n 0, 1) := dk_42 (dk_at dksX4_readGiver_0 10 rfl rfl)
theorem dX4_readGiver_11 : decode cX4_readGiver 11 = .ok (.getfield 28, 3) := dk_180 0 28 (dk_at dksX4_readGiver_0 11 rfl rfl)
theorem dX4_readGiver_14 : decode cX4_readGiver 14 = .ok (.iconst 3, 1) := dk_6 (dk_at dksX4_readGiver_0 14 rfl rfl)
theorem dX4_readGiver_15 : decode cX4_readGiver 15 = .ok (.iaload, 1) := dk_46 (dk_at dksX4_readGiver_0 15 rfl rfl)
theorem dX4_readGiver_16 : decode cX4_readGiver 16 = .ok (.ifCond .le 22, 3) := dk_158 0 22 (dk_at dksX4_readGiver_0 16 rfl rfl)
theorem dX4_readGiver_19 : decode cX4_readGiver 19 = .ok (.aload_n 0, 1) := dk_42 (dk_at dksX4_readGiver_0 19 rfl rfl)
theorem dX4_readGiver_20 : decode cX4_readGiver 20 = .ok (.aload_n 0, 1) := dk_42 (dk_at dksX4_readGiver_0 20 rfl rfl)
theorem dX4_readGiver_21 : decode cX4_readGiver 21 = .ok (.getfield 28, 3) := dk_180 0 28 (dk_at dksX4_readGiver_0 21 rfl rfl)
theorem dX4_readGiver_24 : decode cX4_readGiver 24 = .ok (.iconst 3, 1) := dk_6 (dk_at dksX4_readGiver_1 0 rfl rfl)
theorem dX4_readGiver_25 : decode cX4_readGiver 25 = .ok (.iaload, 1) := dk_46 (dk_at dksX4_readGiver_1 1 rfl rfl)
theorem dX4_readGiver_26 : decode cX4_readGiver 26 = .ok (.ifCond .le 7, 3) := dk_158 0 7 (dk_at dksX4_readGiver_1 2 rfl rfl)
theorem dX4_readGiver_29 : decode cX4_readGiver 29 = .ok (.iconst 1, 1) := dk_4 (dk_at dksX4_readGiver_1 5 rfl rfl)
theorem dX4_readGiver_30 : decode cX4_readGiver 30 = .ok (.goto 4, 3) := dk_167 0 4 (dk_at dksX4_readGiver_1 6 rfl rfl)
theorem dX4_readGiver_33 : decode cX4_readGiver 33 = .ok (.iconst 3, 1) := dk_6 (dk_at dksX4_readGiver_1 9 rfl rfl)
theorem dX4_readGiver_34 : decode cX4_readGiver 34 = .ok (.invokevirtual 108, 3) := dk_182 0 108 (dk_at dksX4_readGiver_1 10 rfl rfl)
theorem dX4_readGiver_37 : decode cX4_readGiver 37 = .ok (.ireturn, 1) := dk_172 (dk_at dksX4_readGiver_1 13 rfl rfl)
theorem dX4_readGiver_38 : decode cX4_readGiver 38 = .ok (.aload_n 0, 1) := dk_42 (dk_at dksX4_readGiver_1 14 rfl rfl)
theorem dX4_readGiver_39 : decode cX4_readGiver 39 = .ok (.invokevirtual 111, 3) := dk_182 0 111 (dk_at dksX4_readGiver_1 15 rfl rfl)
theorem dX4_readGiver_42 : decode cX4_readGiver 42 = .ok (.aload_n 0, 1) := dk_42 (dk_at dksX4_readGiver_1 18 rfl rfl)
theorem dX4_readGiver_43 : decode cX4_readGiver 43 = .ok (.getfield 28, 3) := dk_180 0 28 (dk_at dksX4_readGiver_1 19 rfl rfl)
theorem dX4_readGiver_46 : decode cX4_readGiver 46 = .ok (.iconst 2, 1) := dk_5 (dk_at dksX4_readGiver_1 22 rfl rfl)
theorem dX4_readGiver_47 : decode cX4_readGiver 47 = .ok (.dup2, 1) := dk_92 (dk_at dksX4_readGiver_1 23 rfl rfl)
theorem dX4_readGiver_48 : decode cX4_readGiver 48 = .ok (.iaload, 1) := dk_46 (dk_at dksX4_readGiver_2 0 rfl rfl)
theorem dX4_readGiver_49 : decode cX4_readGiver 49 = .ok (.iconst 1, 1) := dk_4 (dk_at dksX4_readGiver_2 1 rfl rfl)
theorem dX4_readGiver_50 : decode cX4_readGiver 50 = .ok (.iadd, 1) := dk_96 (dk_at dksX4_readGiver_2 2 rfl rfl)
theorem dX4_readGiver_51 : decode cX4_readGiver 51 = .ok (.iastore, 1) := dk_79 (dk_at dksX4_readGiver_2 3 rfl rfl)
theorem dX4_readGiver_52 : decode cX4_readGiver 52 = .ok (.aload_n 0, 1) := dk_42 (dk_at dksX4_readGiver_2 4 rfl rfl)
theorem dX4_readGiver_53 : decode cX4_readGiver 53 = .ok (.iconst 0, 1) := dk_3 (dk_at dksX4_readGiver_2 5 rfl rfl)
theorem dX4_readGiver_54 : decode cX4_readGiver 54 = .ok (.bipush 10, 2) := dk_16 10 (dk_at dksX4_readGiver_2 6 rfl rfl)
theorem dX4_readGiver_56 : decode cX4_readGiver 56 = .ok (.iconst 5, 1) := dk_8 (dk_at dksX4_readGiver_2 8 rfl rfl)
theorem dX4_readGiver_57 : decode cX4_readGiver 57 = .ok (.aload_n 0, 1) := dk_42 (dk_at dksX4_readGiver_2 9 rfl rfl)
theorem dX4_readGiver_58 : decode cX4_readGiver 58 = .ok (.getfield 28, 3) := dk_180 0 28 (dk_at dksX4_readGiver_2 10 rfl rfl)
theorem dX4_readGiver_61 : decode cX4_readGiver 61 = .ok (.iconst 2, 1) := dk_5 (dk_at dksX4_readGiver_2 13 rfl rfl)
theorem dX4_readGiver_62 : decode cX4_readGiver 62 = .ok (.iaload, 1) := dk_46 (dk_at dksX4_readGiver_2 14 rfl rfl)
theorem dX4_readGiver_63 : decode cX4_readGiver 63 = .ok (.iadd, 1) := dk_96 (dk_at dksX4_readGiver_2 15 rfl rfl)
theorem dX4_readGiver_64 : decode cX4_readGiver 64 = .ok (.iconst 1, 1) := dk_4 (dk_at dksX4_readGiver_2 16 rfl rfl)
theorem dX4_readGiver_65 : decode cX4_readGiver 65 = .ok (.isub, 1) := dk_100 (dk_at dksX4_readGiver_2 17 rfl rfl)
theorem dX4_readGiver_66 : decode cX4_readGiver 66 = .ok (.bipush 59, 2) := dk_16 59 (dk_at dksX4_readGiver_2 18 rfl rfl)
theorem dX4_readGiver_68 : decode cX4_readGiver 68 = .ok (.invokevirtual 117, 3) := dk_182 0 117 (dk_at dksX4_readGiver_2 20 rfl rfl)
theorem dX4_readGiver_71 : decode cX4_readGiver 71 = .ok (.ireturn, 1) := dk_172 (dk_at dksX4_readGiver_2 23 rfl rfl)
abbrev cX4_fault : ByteArray := prog_17_method_23_code
def yX4_fault : MethodName := ⟨RX4, "fault", "()I"⟩
theorem dX4_fault_0 : decode cX4_fault 0 = .ok (.aload_n 0, 1) := by decide +kernel
theorem dX4_fault_1 : decode cX4_fault 1 = .ok (.getfield 131, 3) := by decide +kernel
theorem dX4_fault_4 : decode cX4_fault 4 = .ok (.ireturn, 1) := by decide +kernel
abbrev cX4_lay : ByteArray := prog_17_method_33_code
def yX4_lay : MethodName := ⟨RX4, "lay", "(II)I"⟩
def dkwX4_lay_3 : List UInt8 := [182, 0, 172, 172]
abbrev dktX4_lay_3 : List UInt8 := dkwX4_lay_3 ++ []
def dkwX4_lay_2 : List UInt8 := [182, 0, 169, 42, 180, 0, 19, 7, 92, 46, 4, 27, 120, 130, 79, 42, 42, 180, 0, 19, 7, 46]
abbrev dktX4_lay_2 : List UInt8 := dkwX4_lay_2 ++ dktX4_lay_3
def dkwX4_lay_1 : List UInt8 := [182, 0, 145, 153, 0, 17, 42, 180, 0, 19, 7, 46, 27, 122, 4, 126, 28, 160, 0, 6, 18, 168, 172, 42]
abbrev dktX4_lay_1 : List UInt8 := dkwX4_lay_1 ++ dktX4_lay_2
def dkwX4_lay_0 : List UInt8 := [42, 27, 182, 0, 165, 153, 0, 13, 28, 133, 9, 10, 184, 0, 54, 154, 0, 6, 18, 64, 172, 42, 27]
abbrev dktX4_lay_0 : List UInt8 := dkwX4_lay_0 ++ dktX4_lay_1
theorem dksX4_lay_0 : cX4_lay.data.toList.drop 0 = dktX4_lay_0 := by decide +kernel
theorem dksX4_lay_1 : cX4_lay.data.toList.drop 23 = dktX4_lay_1 := dk_seg dksX4_lay_0 23 rfl rfl
theorem dksX4_lay_2 : cX4_lay.data.toList.drop 47 = dktX4_lay_2 := dk_seg dksX4_lay_1 24 rfl rfl
theorem dksX4_lay_3 : cX4_lay.data.toList.drop 69 = dktX4_lay_3 := dk_seg dksX4_lay_2 22 rfl rfl
theorem dX4_lay_0 : decode cX4_lay 0 = .ok (.aload_n 0, 1) := dk_42 (dk_at dksX4_lay_0 0 rfl rfl)
theorem dX4_lay_1 : decode cX4_lay 1 = .ok (.iload_n 1, 1) := dk_27 (dk_at dksX4_lay_0 1 rfl rfl)
theorem dX4_lay_2 : decode cX4_lay 2 = .ok (.invokevirtual 165, 3) := dk_182 0 165 (dk_at dksX4_lay_0 2 rfl rfl)
theorem dX4_lay_5 : decode cX4_lay 5 = .ok (.ifCond .eq 13, 3) := dk_153 0 13 (dk_at dksX4_lay_0 5 rfl rfl)
theorem dX4_lay_8 : decode cX4_lay 8 = .ok (.iload_n 2, 1) := dk_28 (dk_at dksX4_lay_0 8 rfl rfl)
theorem dX4_lay_9 : decode cX4_lay 9 = .ok (.i2l, 1) := dk_133 (dk_at dksX4_lay_0 9 rfl rfl)
theorem dX4_lay_10 : decode cX4_lay 10 = .ok (.lconst 0, 1) := dk_9 (dk_at dksX4_lay_0 10 rfl rfl)
theorem dX4_lay_11 : decode cX4_lay 11 = .ok (.lconst 1, 1) := dk_10 (dk_at dksX4_lay_0 11 rfl rfl)
theorem dX4_lay_12 : decode cX4_lay 12 = .ok (.invokestatic 54, 3) := dk_184 0 54 (dk_at dksX4_lay_0 12 rfl rfl)
theorem dX4_lay_15 : decode cX4_lay 15 = .ok (.ifCond .ne 6, 3) := dk_154 0 6 (dk_at dksX4_lay_0 15 rfl rfl)
theorem dX4_lay_18 : decode cX4_lay 18 = .ok (.ldc 64, 2) := dk_18 64 (dk_at dksX4_lay_0 18 rfl rfl)
theorem dX4_lay_20 : decode cX4_lay 20 = .ok (.ireturn, 1) := dk_172 (dk_at dksX4_lay_0 20 rfl rfl)
theorem dX4_lay_21 : decode cX4_lay 21 = .ok (.aload_n 0, 1) := dk_42 (dk_at dksX4_lay_0 21 rfl rfl)
theorem dX4_lay_22 : decode cX4_lay 22 = .ok (.iload_n 1, 1) := dk_27 (dk_at dksX4_lay_0 22 rfl rfl)
theorem dX4_lay_23 : decode cX4_lay 23 = .ok (.invokevirtual 145, 3) := dk_182 0 145 (dk_at dksX4_lay_1 0 rfl rfl)
theorem dX4_lay_26 : decode cX4_lay 26 = .ok (.ifCond .eq 17, 3) := dk_153 0 17 (dk_at dksX4_lay_1 3 rfl rfl)
theorem dX4_lay_29 : decode cX4_lay 29 = .ok (.aload_n 0, 1) := dk_42 (dk_at dksX4_lay_1 6 rfl rfl)
theorem dX4_lay_30 : decode cX4_lay 30 = .ok (.getfield 19, 3) := dk_180 0 19 (dk_at dksX4_lay_1 7 rfl rfl)
theorem dX4_lay_33 : decode cX4_lay 33 = .ok (.iconst 4, 1) := dk_7 (dk_at dksX4_lay_1 10 rfl rfl)
theorem dX4_lay_34 : decode cX4_lay 34 = .ok (.iaload, 1) := dk_46 (dk_at dksX4_lay_1 11 rfl rfl)
theorem dX4_lay_35 : decode cX4_lay 35 = .ok (.iload_n 1, 1) := dk_27 (dk_at dksX4_lay_1 12 rfl rfl)
theorem dX4_lay_36 : decode cX4_lay 36 = .ok (.ishr, 1) := dk_122 (dk_at dksX4_lay_1 13 rfl rfl)
theorem dX4_lay_37 : decode cX4_lay 37 = .ok (.iconst 1, 1) := dk_4 (dk_at dksX4_lay_1 14 rfl rfl)
theorem dX4_lay_38 : decode cX4_lay 38 = .ok (.iand, 1) := dk_126 (dk_at dksX4_lay_1 15 rfl rfl)
theorem dX4_lay_39 : decode cX4_lay 39 = .ok (.iload_n 2, 1) := dk_28 (dk_at dksX4_lay_1 16 rfl rfl)
theorem dX4_lay_40 : decode cX4_lay 40 = .ok (.if_icmp .ne 6, 3) := dk_160 0 6 (dk_at dksX4_lay_1 17 rfl rfl)
theorem dX4_lay_43 : decode cX4_lay 43 = .ok (.ldc 168, 2) := dk_18 168 (dk_at dksX4_lay_1 20 rfl rfl)
theorem dX4_lay_45 : decode cX4_lay 45 = .ok (.ireturn, 1) := dk_172 (dk_at dksX4_lay_1 22 rfl rfl)
theorem dX4_lay_46 : decode cX4_lay 46 = .ok (.aload_n 0, 1) := dk_42 (dk_at dksX4_lay_1 23 rfl rfl)
theorem dX4_lay_47 : decode cX4_lay 47 = .ok (.invokevirtual 169, 3) := dk_182 0 169 (dk_at dksX4_lay_2 0 rfl rfl)
theorem dX4_lay_50 : decode cX4_lay 50 = .ok (.aload_n 0, 1) := dk_42 (dk_at dksX4_lay_2 3 rfl rfl)
theorem dX4_lay_51 : decode cX4_lay 51 = .ok (.getfield 19, 3) := dk_180 0 19 (dk_at dksX4_lay_2 4 rfl rfl)
theorem dX4_lay_54 : decode cX4_lay 54 = .ok (.iconst 4, 1) := dk_7 (dk_at dksX4_lay_2 7 rfl rfl)
theorem dX4_lay_55 : decode cX4_lay 55 = .ok (.dup2, 1) := dk_92 (dk_at dksX4_lay_2 8 rfl rfl)
theorem dX4_lay_56 : decode cX4_lay 56 = .ok (.iaload, 1) := dk_46 (dk_at dksX4_lay_2 9 rfl rfl)
theorem dX4_lay_57 : decode cX4_lay 57 = .ok (.iconst 1, 1) := dk_4 (dk_at dksX4_lay_2 10 rfl rfl)
theorem dX4_lay_58 : decode cX4_lay 58 = .ok (.iload_n 1, 1) := dk_27 (dk_at dksX4_lay_2 11 rfl rfl)
theorem dX4_lay_59 : decode cX4_lay 59 = .ok (.ishl, 1) := dk_120 (dk_at dksX4_lay_2 12 rfl rfl)
theorem dX4_lay_60 : decode cX4_lay 60 = .ok (.ixor, 1) := dk_130 (dk_at dksX4_lay_2 13 rfl rfl)
theorem dX4_lay_61 : decode cX4_lay 61 = .ok (.iastore, 1) := dk_79 (dk_at dksX4_lay_2 14 rfl rfl)
theorem dX4_lay_62 : decode cX4_lay 62 = .ok (.aload_n 0, 1) := dk_42 (dk_at dksX4_lay_2 15 rfl rfl)
theorem dX4_lay_63 : decode cX4_lay 63 = .ok (.aload_n 0, 1) := dk_42 (dk_at dksX4_lay_2 16 rfl rfl)
theorem dX4_lay_64 : decode cX4_lay 64 = .ok (.getfield 19, 3) := dk_180 0 19 (dk_at dksX4_lay_2 17 rfl rfl)
theorem dX4_lay_67 : decode cX4_lay 67 = .ok (.iconst 4, 1) := dk_7 (dk_at dksX4_lay_2 20 rfl rfl)
theorem dX4_lay_68 : decode cX4_lay 68 = .ok (.iaload, 1) := dk_46 (dk_at dksX4_lay_2 21 rfl rfl)
theorem dX4_lay_69 : decode cX4_lay 69 = .ok (.invokevirtual 172, 3) := dk_182 0 172 (dk_at dksX4_lay_3 0 rfl rfl)
theorem dX4_lay_72 : decode cX4_lay 72 = .ok (.ireturn, 1) := dk_172 (dk_at dksX4_lay_3 3 rfl rfl)
abbrev cX4_isPromise : ByteArray := prog_17_method_24_code
def yX4_isPromise : MethodName := ⟨RX4, "isPromise", "(I)Z"⟩
def dkwX4_isPromise_0 : List UInt8 := [27, 133, 9, 42, 180, 0, 19, 6, 46, 4, 100, 133, 184, 0, 54, 172]
abbrev dktX4_isPromise_0 : List UInt8 := dkwX4_isPromise_0 ++ []
theorem dksX4_isPromise_0 : cX4_isPromise.data.toList.drop 0 = dktX4_isPromise_0 := by decide +kernel
theorem dX4_isPromise_0 : decode cX4_isPromise 0 = .ok (.iload_n 1, 1) := dk_27 (dk_at dksX4_isPromise_0 0 rfl rfl)
theorem dX4_isPromise_1 : decode cX4_isPromise 1 = .ok (.i2l, 1) := dk_133 (dk_at dksX4_isPromise_0 1 rfl rfl)
theorem dX4_isPromise_2 : decode cX4_isPromise 2 = .ok (.lconst 0, 1) := dk_9 (dk_at dksX4_isPromise_0 2 rfl rfl)
theorem dX4_isPromise_3 : decode cX4_isPromise 3 = .ok (.aload_n 0, 1) := dk_42 (dk_at dksX4_isPromise_0 3 rfl rfl)
theorem dX4_isPromise_4 : decode cX4_isPromise 4 = .ok (.getfield 19, 3) := dk_180 0 19 (dk_at dksX4_isPromise_0 4 rfl rfl)
theorem dX4_isPromise_7 : decode cX4_isPromise 7 = .ok (.iconst 3, 1) := dk_6 (dk_at dksX4_isPromise_0 7 rfl rfl)
theorem dX4_isPromise_8 : decode cX4_isPromise 8 = .ok (.iaload, 1) := dk_46 (dk_at dksX4_isPromise_0 8 rfl rfl)
theorem dX4_isPromise_9 : decode cX4_isPromise 9 = .ok (.iconst 1, 1) := dk_4 (dk_at dksX4_isPromise_0 9 rfl rfl)
theorem dX4_isPromise_10 : decode cX4_isPromise 10 = .ok (.isub, 1) := dk_100 (dk_at dksX4_isPromise_0 10 rfl rfl)
theorem dX4_isPromise_11 : decode cX4_isPromise 11 = .ok (.i2l, 1) := dk_133 (dk_at dksX4_isPromise_0 11 rfl rfl)
theorem dX4_isPromise_12 : decode cX4_isPromise 12 = .ok (.invokestatic 54, 3) := dk_184 0 54 (dk_at dksX4_isPromise_0 12 rfl rfl)
theorem dX4_isPromise_15 : decode cX4_isPromise 15 = .ok (.ireturn, 1) := dk_172 (dk_at dksX4_isPromise_0 15 rfl rfl)
abbrev cX4_isOpen : ByteArray := prog_17_method_25_code
def yX4_isOpen : MethodName := ⟨RX4, "isOpen", "(I)Z"⟩
def dkwX4_isOpen_0 : List UInt8 := [42, 180, 0, 19, 16, 49, 27, 96, 46, 154, 0, 7, 4, 167, 0, 4, 3, 172]
abbrev dktX4_isOpen_0 : List UInt8 := dkwX4_isOpen_0 ++ []
theorem dksX4_isOpen_0 : cX4_isOpen.data.toList.drop 0 = dktX4_isOpen_0 := by decide +kernel
theorem dX4_isOpen_0 : decode cX4_isOpen 0 = .ok (.aload_n 0, 1) := dk_42 (dk_at dksX4_isOpen_0 0 rfl rfl)
theorem dX4_isOpen_1 : decode cX4_isOpen 1 = .ok (.getfield 19, 3) := dk_180 0 19 (dk_at dksX4_isOpen_0 1 rfl rfl)
theorem dX4_isOpen_4 : decode cX4_isOpen 4 = .ok (.bipush 49, 2) := dk_16 49 (dk_at dksX4_isOpen_0 4 rfl rfl)
theorem dX4_isOpen_6 : decode cX4_isOpen 6 = .ok (.iload_n 1, 1) := dk_27 (dk_at dksX4_isOpen_0 6 rfl rfl)
theorem dX4_isOpen_7 : decode cX4_isOpen 7 = .ok (.iadd, 1) := dk_96 (dk_at dksX4_isOpen_0 7 rfl rfl)
theorem dX4_isOpen_8 : decode cX4_isOpen 8 = .ok (.iaload, 1) := dk_46 (dk_at dksX4_isOpen_0 8 rfl rfl)
theorem dX4_isOpen_9 : decode cX4_isOpen 9 = .ok (.ifCond .ne 7, 3) := dk_154 0 7 (dk_at dksX4_isOpen_0 9 rfl rfl)
theorem dX4_isOpen_12 : decode cX4_isOpen 12 = .ok (.iconst 1, 1) := dk_4 (dk_at dksX4_isOpen_0 12 rfl rfl)
theorem dX4_isOpen_13 : decode cX4_isOpen 13 = .ok (.goto 4, 3) := dk_167 0 4 (dk_at dksX4_isOpen_0 13 rfl rfl)
theorem dX4_isOpen_16 : decode cX4_isOpen 16 = .ok (.iconst 0, 1) := dk_3 (dk_at dksX4_isOpen_0 16 rfl rfl)
theorem dX4_isOpen_17 : decode cX4_isOpen 17 = .ok (.ireturn, 1) := dk_172 (dk_at dksX4_isOpen_0 17 rfl rfl)
abbrev cX4_note : ByteArray := prog_17_method_32_code
def yX4_note : MethodName := ⟨RX4, "note", "()V"⟩
def dkwX4_note_3 : List UInt8 := [42, 180, 0, 19, 27, 46, 79, 132, 1, 1, 167, 255, 227, 42, 89, 180, 0, 139, 4, 96, 181, 0, 139, 177]
abbrev dktX4_note_3 : List UInt8 := dkwX4_note_3 ++ []
def dkwX4_note_2 : List UInt8 := [181, 0, 139, 3, 60, 27, 16, 57, 162, 0, 29, 42, 180, 0, 31, 16, 57, 42, 180, 0, 139, 104, 27, 96]
abbrev dktX4_note_2 : List UInt8 := dkwX4_note_2 ++ dktX4_note_3
def dkwX4_note_1 : List UInt8 := [180, 0, 31, 27, 16, 57, 96, 46, 79, 132, 1, 1, 167, 255, 231, 42, 89, 180, 0, 139, 4, 100]
abbrev dktX4_note_1 : List UInt8 := dkwX4_note_1 ++ dktX4_note_2
def dkwX4_note_0 : List UInt8 := [42, 180, 0, 139, 16, 24, 160, 0, 43, 3, 60, 27, 17, 5, 31, 162, 0, 24, 42, 180, 0, 31, 27, 42]
abbrev dktX4_note_0 : List UInt8 := dkwX4_note_0 ++ dktX4_note_1
theorem dksX4_note_0 : cX4_note.data.toList.drop 0 = dktX4_note_0 := by decide +kernel
theorem dksX4_note_1 : cX4_note.data.toList.drop 24 = dktX4_note_1 := dk_seg dksX4_note_0 24 rfl rfl
theorem dksX4_note_2 : cX4_note.data.toList.drop 46 = dktX4_note_2 := dk_seg dksX4_note_1 22 rfl rfl
theorem dksX4_note_3 : cX4_note.data.toList.drop 70 = dktX4_note_3 := dk_seg dksX4_note_2 24 rfl rfl
theorem dX4_note_0 : decode cX4_note 0 = .ok (.aload_n 0, 1) := dk_42 (dk_at dksX4_note_0 0 rfl rfl)
theorem dX4_note_1 : decode cX4_note 1 = .ok (.getfield 139, 3) := dk_180 0 139 (dk_at dksX4_note_0 1 rfl rfl)
theorem dX4_note_4 : decode cX4_note 4 = .ok (.bipush 24, 2) := dk_16 24 (dk_at dksX4_note_0 4 rfl rfl)
theorem dX4_note_6 : decode cX4_note 6 = .ok (.if_icmp .ne 43, 3) := dk_160 0 43 (dk_at dksX4_note_0 6 rfl rfl)
theorem dX4_note_9 : decode cX4_note 9 = .ok (.iconst 0, 1) := dk_3 (dk_at dksX4_note_0 9 rfl rfl)
theorem dX4_note_10 : decode cX4_note 10 = .ok (.istore_n 1, 1) := dk_60 (dk_at dksX4_note_0 10 rfl rfl)
theorem dX4_note_11 : decode cX4_note 11 = .ok (.iload_n 1, 1) := dk_27 (dk_at dksX4_note_0 11 rfl rfl)
theorem dX4_note_12 : decode cX4_note 12 = .ok (.sipush 1311, 3) := dk_17 5 31 (dk_at dksX4_note_0 12 rfl rfl)
theorem dX4_note_15 : decode cX4_note 15 = .ok (.if_icmp .ge 24, 3) := dk_162 0 24 (dk_at dksX4_note_0 15 rfl rfl)
theorem dX4_note_18 : decode cX4_note 18 = .ok (.aload_n 0, 1) := dk_42 (dk_at dksX4_note_0 18 rfl rfl)
theorem dX4_note_19 : decode cX4_note 19 = .ok (.getfield 31, 3) := dk_180 0 31 (dk_at dksX4_note_0 19 rfl rfl)
theorem dX4_note_22 : decode cX4_note 22 = .ok (.iload_n 1, 1) := dk_27 (dk_at dksX4_note_0 22 rfl rfl)
theorem dX4_note_23 : decode cX4_note 23 = .ok (.aload_n 0, 1) := dk_42 (dk_at dksX4_note_0 23 rfl rfl)
theorem dX4_note_24 : decode cX4_note 24 = .ok (.getfield 31, 3) := dk_180 0 31 (dk_at dksX4_note_1 0 rfl rfl)
theorem dX4_note_27 : decode cX4_note 27 = .ok (.iload_n 1, 1) := dk_27 (dk_at dksX4_note_1 3 rfl rfl)
theorem dX4_note_28 : decode cX4_note 28 = .ok (.bipush 57, 2) := dk_16 57 (dk_at dksX4_note_1 4 rfl rfl)
theorem dX4_note_30 : decode cX4_note 30 = .ok (.iadd, 1) := dk_96 (dk_at dksX4_note_1 6 rfl rfl)
theorem dX4_note_31 : decode cX4_note 31 = .ok (.iaload, 1) := dk_46 (dk_at dksX4_note_1 7 rfl rfl)
theorem dX4_note_32 : decode cX4_note 32 = .ok (.iastore, 1) := dk_79 (dk_at dksX4_note_1 8 rfl rfl)
theorem dX4_note_33 : decode cX4_note 33 = .ok (.iinc 1 1, 3) := dk_132 1 1 (dk_at dksX4_note_1 9 rfl rfl)
theorem dX4_note_36 : decode cX4_note 36 = .ok (.goto (-25), 3) := dk_167 255 231 (dk_at dksX4_note_1 12 rfl rfl)
theorem dX4_note_39 : decode cX4_note 39 = .ok (.aload_n 0, 1) := dk_42 (dk_at dksX4_note_1 15 rfl rfl)
theorem dX4_note_40 : decode cX4_note 40 = .ok (.dup, 1) := dk_89 (dk_at dksX4_note_1 16 rfl rfl)
theorem dX4_note_41 : decode cX4_note 41 = .ok (.getfield 139, 3) := dk_180 0 139 (dk_at dksX4_note_1 17 rfl rfl)
theorem dX4_note_44 : decode cX4_note 44 = .ok (.iconst 1, 1) := dk_4 (dk_at dksX4_note_1 20 rfl rfl)
theorem dX4_note_45 : decode cX4_note 45 = .ok (.isub, 1) := dk_100 (dk_at dksX4_note_1 21 rfl rfl)
theorem dX4_note_46 : decode cX4_note 46 = .ok (.putfield 139, 3) := dk_181 0 139 (dk_at dksX4_note_2 0 rfl rfl)
theorem dX4_note_49 : decode cX4_note 49 = .ok (.iconst 0, 1) := dk_3 (dk_at dksX4_note_2 3 rfl rfl)
theorem dX4_note_50 : decode cX4_note 50 = .ok (.istore_n 1, 1) := dk_60 (dk_at dksX4_note_2 4 rfl rfl)
theorem dX4_note_51 : decode cX4_note 51 = .ok (.iload_n 1, 1) := dk_27 (dk_at dksX4_note_2 5 rfl rfl)
theorem dX4_note_52 : decode cX4_note 52 = .ok (.bipush 57, 2) := dk_16 57 (dk_at dksX4_note_2 6 rfl rfl)
theorem dX4_note_54 : decode cX4_note 54 = .ok (.if_icmp .ge 29, 3) := dk_162 0 29 (dk_at dksX4_note_2 8 rfl rfl)
theorem dX4_note_57 : decode cX4_note 57 = .ok (.aload_n 0, 1) := dk_42 (dk_at dksX4_note_2 11 rfl rfl)
theorem dX4_note_58 : decode cX4_note 58 = .ok (.getfield 31, 3) := dk_180 0 31 (dk_at dksX4_note_2 12 rfl rfl)
theorem dX4_note_61 : decode cX4_note 61 = .ok (.bipush 57, 2) := dk_16 57 (dk_at dksX4_note_2 15 rfl rfl)
theorem dX4_note_63 : decode cX4_note 63 = .ok (.aload_n 0, 1) := dk_42 (dk_at dksX4_note_2 17 rfl rfl)
theorem dX4_note_64 : decode cX4_note 64 = .ok (.getfield 139, 3) := dk_180 0 139 (dk_at dksX4_note_2 18 rfl rfl)
theorem dX4_note_67 : decode cX4_note 67 = .ok (.imul, 1) := dk_104 (dk_at dksX4_note_2 21 rfl rfl)
theorem dX4_note_68 : decode cX4_note 68 = .ok (.iload_n 1, 1) := dk_27 (dk_at dksX4_note_2 22 rfl rfl)
theorem dX4_note_69 : decode cX4_note 69 = .ok (.iadd, 1) := dk_96 (dk_at dksX4_note_2 23 rfl rfl)
theorem dX4_note_70 : decode cX4_note 70 = .ok (.aload_n 0, 1) := dk_42 (dk_at dksX4_note_3 0 rfl rfl)
theorem dX4_note_71 : decode cX4_note 71 = .ok (.getfield 19, 3) := dk_180 0 19 (dk_at dksX4_note_3 1 rfl rfl)
theorem dX4_note_74 : decode cX4_note 74 = .ok (.iload_n 1, 1) := dk_27 (dk_at dksX4_note_3 4 rfl rfl)
theorem dX4_note_75 : decode cX4_note 75 = .ok (.iaload, 1) := dk_46 (dk_at dksX4_note_3 5 rfl rfl)
theorem dX4_note_76 : decode cX4_note 76 = .ok (.iastore, 1) := dk_79 (dk_at dksX4_note_3 6 rfl rfl)
theorem dX4_note_77 : decode cX4_note 77 = .ok (.iinc 1 1, 3) := dk_132 1 1 (dk_at dksX4_note_3 7 rfl rfl)
theorem dX4_note_80 : decode cX4_note 80 = .ok (.goto (-29), 3) := dk_167 255 227 (dk_at dksX4_note_3 10 rfl rfl)
theorem dX4_note_83 : decode cX4_note 83 = .ok (.aload_n 0, 1) := dk_42 (dk_at dksX4_note_3 13 rfl rfl)
theorem dX4_note_84 : decode cX4_note 84 = .ok (.dup, 1) := dk_89 (dk_at dksX4_note_3 14 rfl rfl)
theorem dX4_note_85 : decode cX4_note 85 = .ok (.getfield 139, 3) := dk_180 0 139 (dk_at dksX4_note_3 15 rfl rfl)
theorem dX4_note_88 : decode cX4_note 88 = .ok (.iconst 1, 1) := dk_4 (dk_at dksX4_note_3 18 rfl rfl)
theorem dX4_note_89 : decode cX4_note 89 = .ok (.iadd, 1) := dk_96 (dk_at dksX4_note_3 19 rfl rfl)
theorem dX4_note_90 : decode cX4_note 90 = .ok (.putfield 139, 3) := dk_181 0 139 (dk_at dksX4_note_3 20 rfl rfl)
theorem dX4_note_93 : decode cX4_note 93 = .ok (.return_, 1) := dk_177 (dk_at dksX4_note_3 23 rfl rfl)
abbrev cX4_readOf : ByteArray := prog_17_method_31_code
def yX4_readOf : MethodName := ⟨RX4, "readOf", "(I)I"⟩
def dkwX4_readOf_0 : List UInt8 := [42, 27, 182, 0, 159, 42, 180, 0, 19, 3, 46, 42, 180, 0, 19, 4, 46, 184, 0, 162, 172]
abbrev dktX4_readOf_0 : List UInt8 := dkwX4_readOf_0 ++ []
theorem dksX4_readOf_0 : cX4_readOf.data.toList.drop 0 = dktX4_readOf_0 := by decide +kernel
theorem dX4_readOf_0 : decode cX4_readOf 0 = .ok (.aload_n 0, 1) := dk_42 (dk_at dksX4_readOf_0 0 rfl rfl)
theorem dX4_readOf_1 : decode cX4_readOf 1 = .ok (.iload_n 1, 1) := dk_27 (dk_at dksX4_readOf_0 1 rfl rfl)
theorem dX4_readOf_2 : decode cX4_readOf 2 = .ok (.invokevirtual 159, 3) := dk_182 0 159 (dk_at dksX4_readOf_0 2 rfl rfl)
theorem dX4_readOf_5 : decode cX4_readOf 5 = .ok (.aload_n 0, 1) := dk_42 (dk_at dksX4_readOf_0 5 rfl rfl)
theorem dX4_readOf_6 : decode cX4_readOf 6 = .ok (.getfield 19, 3) := dk_180 0 19 (dk_at dksX4_readOf_0 6 rfl rfl)
theorem dX4_readOf_9 : decode cX4_readOf 9 = .ok (.iconst 0, 1) := dk_3 (dk_at dksX4_readOf_0 9 rfl rfl)
theorem dX4_readOf_10 : decode cX4_readOf 10 = .ok (.iaload, 1) := dk_46 (dk_at dksX4_readOf_0 10 rfl rfl)
theorem dX4_readOf_11 : decode cX4_readOf 11 = .ok (.aload_n 0, 1) := dk_42 (dk_at dksX4_readOf_0 11 rfl rfl)
theorem dX4_readOf_12 : decode cX4_readOf 12 = .ok (.getfield 19, 3) := dk_180 0 19 (dk_at dksX4_readOf_0 12 rfl rfl)
theorem dX4_readOf_15 : decode cX4_readOf 15 = .ok (.iconst 1, 1) := dk_4 (dk_at dksX4_readOf_0 15 rfl rfl)
theorem dX4_readOf_16 : decode cX4_readOf 16 = .ok (.iaload, 1) := dk_46 (dk_at dksX4_readOf_0 16 rfl rfl)
theorem dX4_readOf_17 : decode cX4_readOf 17 = .ok (.invokestatic 162, 3) := dk_184 0 162 (dk_at dksX4_readOf_0 17 rfl rfl)
theorem dX4_readOf_20 : decode cX4_readOf 20 = .ok (.ireturn, 1) := dk_172 (dk_at dksX4_readOf_0 20 rfl rfl)
abbrev cX4_sumOf : ByteArray := prog_17_method_29_code
def yX4_sumOf : MethodName := ⟨RX4, "sumOf", "(I)I"⟩
def dkwX4_sumOf_1 : List UInt8 := [29, 182, 0, 156, 167, 0, 4, 3, 96, 61, 132, 3, 1, 167, 255, 223, 28, 172]
abbrev dktX4_sumOf_1 : List UInt8 := dkwX4_sumOf_1 ++ []
def dkwX4_sumOf_0 : List UInt8 := [3, 61, 3, 62, 29, 42, 180, 0, 19, 6, 46, 162, 0, 29, 28, 27, 29, 184, 0, 152, 153, 0, 11, 42]
abbrev dktX4_sumOf_0 : List UInt8 := dkwX4_sumOf_0 ++ dktX4_sumOf_1
theorem dksX4_sumOf_0 : cX4_sumOf.data.toList.drop 0 = dktX4_sumOf_0 := by decide +kernel
theorem dksX4_sumOf_1 : cX4_sumOf.data.toList.drop 24 = dktX4_sumOf_1 := dk_seg dksX4_sumOf_0 24 rfl rfl
theorem dX4_sumOf_0 : decode cX4_sumOf 0 = .ok (.iconst 0, 1) := dk_3 (dk_at dksX4_sumOf_0 0 rfl rfl)
theorem dX4_sumOf_1 : decode cX4_sumOf 1 = .ok (.istore_n 2, 1) := dk_61 (dk_at dksX4_sumOf_0 1 rfl rfl)
theorem dX4_sumOf_2 : decode cX4_sumOf 2 = .ok (.iconst 0, 1) := dk_3 (dk_at dksX4_sumOf_0 2 rfl rfl)
theorem dX4_sumOf_3 : decode cX4_sumOf 3 = .ok (.istore_n 3, 1) := dk_62 (dk_at dksX4_sumOf_0 3 rfl rfl)
theorem dX4_sumOf_4 : decode cX4_sumOf 4 = .ok (.iload_n 3, 1) := dk_29 (dk_at dksX4_sumOf_0 4 rfl rfl)
theorem dX4_sumOf_5 : decode cX4_sumOf 5 = .ok (.aload_n 0, 1) := dk_42 (dk_at dksX4_sumOf_0 5 rfl rfl)
theorem dX4_sumOf_6 : decode cX4_sumOf 6 = .ok (.getfield 19, 3) := dk_180 0 19 (dk_at dksX4_sumOf_0 6 rfl rfl)
theorem dX4_sumOf_9 : decode cX4_sumOf 9 = .ok (.iconst 3, 1) := dk_6 (dk_at dksX4_sumOf_0 9 rfl rfl)
theorem dX4_sumOf_10 : decode cX4_sumOf 10 = .ok (.iaload, 1) := dk_46 (dk_at dksX4_sumOf_0 10 rfl rfl)
theorem dX4_sumOf_11 : decode cX4_sumOf 11 = .ok (.if_icmp .ge 29, 3) := dk_162 0 29 (dk_at dksX4_sumOf_0 11 rfl rfl)
theorem dX4_sumOf_14 : decode cX4_sumOf 14 = .ok (.iload_n 2, 1) := dk_28 (dk_at dksX4_sumOf_0 14 rfl rfl)
theorem dX4_sumOf_15 : decode cX4_sumOf 15 = .ok (.iload_n 1, 1) := dk_27 (dk_at dksX4_sumOf_0 15 rfl rfl)
theorem dX4_sumOf_16 : decode cX4_sumOf 16 = .ok (.iload_n 3, 1) := dk_29 (dk_at dksX4_sumOf_0 16 rfl rfl)
theorem dX4_sumOf_17 : decode cX4_sumOf 17 = .ok (.invokestatic 152, 3) := dk_184 0 152 (dk_at dksX4_sumOf_0 17 rfl rfl)
theorem dX4_sumOf_20 : decode cX4_sumOf 20 = .ok (.ifCond .eq 11, 3) := dk_153 0 11 (dk_at dksX4_sumOf_0 20 rfl rfl)
theorem dX4_sumOf_23 : decode cX4_sumOf 23 = .ok (.aload_n 0, 1) := dk_42 (dk_at dksX4_sumOf_0 23 rfl rfl)
theorem dX4_sumOf_24 : decode cX4_sumOf 24 = .ok (.iload_n 3, 1) := dk_29 (dk_at dksX4_sumOf_1 0 rfl rfl)
theorem dX4_sumOf_25 : decode cX4_sumOf 25 = .ok (.invokevirtual 156, 3) := dk_182 0 156 (dk_at dksX4_sumOf_1 1 rfl rfl)
theorem dX4_sumOf_28 : decode cX4_sumOf 28 = .ok (.goto 4, 3) := dk_167 0 4 (dk_at dksX4_sumOf_1 4 rfl rfl)
theorem dX4_sumOf_31 : decode cX4_sumOf 31 = .ok (.iconst 0, 1) := dk_3 (dk_at dksX4_sumOf_1 7 rfl rfl)
theorem dX4_sumOf_32 : decode cX4_sumOf 32 = .ok (.iadd, 1) := dk_96 (dk_at dksX4_sumOf_1 8 rfl rfl)
theorem dX4_sumOf_33 : decode cX4_sumOf 33 = .ok (.istore_n 2, 1) := dk_61 (dk_at dksX4_sumOf_1 9 rfl rfl)
theorem dX4_sumOf_34 : decode cX4_sumOf 34 = .ok (.iinc 3 1, 3) := dk_132 3 1 (dk_at dksX4_sumOf_1 10 rfl rfl)
theorem dX4_sumOf_37 : decode cX4_sumOf 37 = .ok (.goto (-33), 3) := dk_167 255 223 (dk_at dksX4_sumOf_1 13 rfl rfl)
theorem dX4_sumOf_40 : decode cX4_sumOf 40 = .ok (.iload_n 2, 1) := dk_28 (dk_at dksX4_sumOf_1 16 rfl rfl)
theorem dX4_sumOf_41 : decode cX4_sumOf 41 = .ok (.ireturn, 1) := dk_172 (dk_at dksX4_sumOf_1 17 rfl rfl)
abbrev cX4_has : ByteArray := prog_17_method_3_code
def yX4_has : MethodName := ⟨RX4, "has", "(II)Z"⟩
def dkwX4_has_0 : List UInt8 := [26, 27, 122, 4, 126, 4, 160, 0, 7, 4, 167, 0, 4, 3, 172]
abbrev dktX4_has_0 : List UInt8 := dkwX4_has_0 ++ []
theorem dksX4_has_0 : cX4_has.data.toList.drop 0 = dktX4_has_0 := by decide +kernel
theorem dX4_has_0 : decode cX4_has 0 = .ok (.iload_n 0, 1) := dk_26 (dk_at dksX4_has_0 0 rfl rfl)
theorem dX4_has_1 : decode cX4_has 1 = .ok (.iload_n 1, 1) := dk_27 (dk_at dksX4_has_0 1 rfl rfl)
theorem dX4_has_2 : decode cX4_has 2 = .ok (.ishr, 1) := dk_122 (dk_at dksX4_has_0 2 rfl rfl)
theorem dX4_has_3 : decode cX4_has 3 = .ok (.iconst 1, 1) := dk_4 (dk_at dksX4_has_0 3 rfl rfl)
theorem dX4_has_4 : decode cX4_has 4 = .ok (.iand, 1) := dk_126 (dk_at dksX4_has_0 4 rfl rfl)
theorem dX4_has_5 : decode cX4_has 5 = .ok (.iconst 1, 1) := dk_4 (dk_at dksX4_has_0 5 rfl rfl)
theorem dX4_has_6 : decode cX4_has 6 = .ok (.if_icmp .ne 7, 3) := dk_160 0 7 (dk_at dksX4_has_0 6 rfl rfl)
theorem dX4_has_9 : decode cX4_has 9 = .ok (.iconst 1, 1) := dk_4 (dk_at dksX4_has_0 9 rfl rfl)
theorem dX4_has_10 : decode cX4_has 10 = .ok (.goto 4, 3) := dk_167 0 4 (dk_at dksX4_has_0 10 rfl rfl)
theorem dX4_has_13 : decode cX4_has 13 = .ok (.iconst 0, 1) := dk_3 (dk_at dksX4_has_0 13 rfl rfl)
theorem dX4_has_14 : decode cX4_has 14 = .ok (.ireturn, 1) := dk_172 (dk_at dksX4_has_0 14 rfl rfl)
abbrev cX4_weightOf : ByteArray := prog_17_method_28_code
def yX4_weightOf : MethodName := ⟨RX4, "weightOf", "(I)I"⟩
def dkwX4_weightOf_2 : List UInt8 := [160, 0, 8, 16, 20, 167, 0, 4, 3, 61, 132, 3, 1, 167, 255, 202, 28, 172]
abbrev dktX4_weightOf_2 : List UInt8 := dkwX4_weightOf_2 ++ []
def dkwX4_weightOf_1 : List UInt8 := [16, 9, 29, 96, 46, 28, 182, 0, 148, 167, 0, 22, 42, 180, 0, 19, 16, 49, 29, 96, 46, 4]
abbrev dktX4_weightOf_1 : List UInt8 := dkwX4_weightOf_1 ++ dktX4_weightOf_2
def dkwX4_weightOf_0 : List UInt8 := [3, 61, 3, 62, 29, 27, 163, 0, 55, 42, 29, 182, 0, 145, 153, 0, 21, 42, 29, 42, 180, 0, 19]
abbrev dktX4_weightOf_0 : List UInt8 := dkwX4_weightOf_0 ++ dktX4_weightOf_1
theorem dksX4_weightOf_0 : cX4_weightOf.data.toList.drop 0 = dktX4_weightOf_0 := by decide +kernel
theorem dksX4_weightOf_1 : cX4_weightOf.data.toList.drop 23 = dktX4_weightOf_1 := dk_seg dksX4_weightOf_0 23 rfl rfl
theorem dksX4_weightOf_2 : cX4_weightOf.data.toList.drop 45 = dktX4_weightOf_2 := dk_seg dksX4_weightOf_1 22 rfl rfl
theorem dX4_weightOf_0 : decode cX4_weightOf 0 = .ok (.iconst 0, 1) := dk_3 (dk_at dksX4_weightOf_0 0 rfl rfl)
theorem dX4_weightOf_1 : decode cX4_weightOf 1 = .ok (.istore_n 2, 1) := dk_61 (dk_at dksX4_weightOf_0 1 rfl rfl)
theorem dX4_weightOf_2 : decode cX4_weightOf 2 = .ok (.iconst 0, 1) := dk_3 (dk_at dksX4_weightOf_0 2 rfl rfl)
theorem dX4_weightOf_3 : decode cX4_weightOf 3 = .ok (.istore_n 3, 1) := dk_62 (dk_at dksX4_weightOf_0 3 rfl rfl)
theorem dX4_weightOf_4 : decode cX4_weightOf 4 = .ok (.iload_n 3, 1) := dk_29 (dk_at dksX4_weightOf_0 4 rfl rfl)
theorem dX4_weightOf_5 : decode cX4_weightOf 5 = .ok (.iload_n 1, 1) := dk_27 (dk_at dksX4_weightOf_0 5 rfl rfl)
theorem dX4_weightOf_6 : decode cX4_weightOf 6 = .ok (.if_icmp .gt 55, 3) := dk_163 0 55 (dk_at dksX4_weightOf_0 6 rfl rfl)
theorem dX4_weightOf_9 : decode cX4_weightOf 9 = .ok (.aload_n 0, 1) := dk_42 (dk_at dksX4_weightOf_0 9 rfl rfl)
theorem dX4_weightOf_10 : decode cX4_weightOf 10 = .ok (.iload_n 3, 1) := dk_29 (dk_at dksX4_weightOf_0 10 rfl rfl)
theorem dX4_weightOf_11 : decode cX4_weightOf 11 = .ok (.invokevirtual 145, 3) := dk_182 0 145 (dk_at dksX4_weightOf_0 11 rfl rfl)
theorem dX4_weightOf_14 : decode cX4_weightOf 14 = .ok (.ifCond .eq 21, 3) := dk_153 0 21 (dk_at dksX4_weightOf_0 14 rfl rfl)
theorem dX4_weightOf_17 : decode cX4_weightOf 17 = .ok (.aload_n 0, 1) := dk_42 (dk_at dksX4_weightOf_0 17 rfl rfl)
theorem dX4_weightOf_18 : decode cX4_weightOf 18 = .ok (.iload_n 3, 1) := dk_29 (dk_at dksX4_weightOf_0 18 rfl rfl)
theorem dX4_weightOf_19 : decode cX4_weightOf 19 = .ok (.aload_n 0, 1) := dk_42 (dk_at dksX4_weightOf_0 19 rfl rfl)
theorem dX4_weightOf_20 : decode cX4_weightOf 20 = .ok (.getfield 19, 3) := dk_180 0 19 (dk_at dksX4_weightOf_0 20 rfl rfl)
theorem dX4_weightOf_23 : decode cX4_weightOf 23 = .ok (.bipush 9, 2) := dk_16 9 (dk_at dksX4_weightOf_1 0 rfl rfl)
theorem dX4_weightOf_25 : decode cX4_weightOf 25 = .ok (.iload_n 3, 1) := dk_29 (dk_at dksX4_weightOf_1 2 rfl rfl)
theorem dX4_weightOf_26 : decode cX4_weightOf 26 = .ok (.iadd, 1) := dk_96 (dk_at dksX4_weightOf_1 3 rfl rfl)
theorem dX4_weightOf_27 : decode cX4_weightOf 27 = .ok (.iaload, 1) := dk_46 (dk_at dksX4_weightOf_1 4 rfl rfl)
theorem dX4_weightOf_28 : decode cX4_weightOf 28 = .ok (.iload_n 2, 1) := dk_28 (dk_at dksX4_weightOf_1 5 rfl rfl)
theorem dX4_weightOf_29 : decode cX4_weightOf 29 = .ok (.invokevirtual 148, 3) := dk_182 0 148 (dk_at dksX4_weightOf_1 6 rfl rfl)
theorem dX4_weightOf_32 : decode cX4_weightOf 32 = .ok (.goto 22, 3) := dk_167 0 22 (dk_at dksX4_weightOf_1 9 rfl rfl)
theorem dX4_weightOf_35 : decode cX4_weightOf 35 = .ok (.aload_n 0, 1) := dk_42 (dk_at dksX4_weightOf_1 12 rfl rfl)
theorem dX4_weightOf_36 : decode cX4_weightOf 36 = .ok (.getfield 19, 3) := dk_180 0 19 (dk_at dksX4_weightOf_1 13 rfl rfl)
theorem dX4_weightOf_39 : decode cX4_weightOf 39 = .ok (.bipush 49, 2) := dk_16 49 (dk_at dksX4_weightOf_1 16 rfl rfl)
theorem dX4_weightOf_41 : decode cX4_weightOf 41 = .ok (.iload_n 3, 1) := dk_29 (dk_at dksX4_weightOf_1 18 rfl rfl)
theorem dX4_weightOf_42 : decode cX4_weightOf 42 = .ok (.iadd, 1) := dk_96 (dk_at dksX4_weightOf_1 19 rfl rfl)
theorem dX4_weightOf_43 : decode cX4_weightOf 43 = .ok (.iaload, 1) := dk_46 (dk_at dksX4_weightOf_1 20 rfl rfl)
theorem dX4_weightOf_44 : decode cX4_weightOf 44 = .ok (.iconst 1, 1) := dk_4 (dk_at dksX4_weightOf_1 21 rfl rfl)
theorem dX4_weightOf_45 : decode cX4_weightOf 45 = .ok (.if_icmp .ne 8, 3) := dk_160 0 8 (dk_at dksX4_weightOf_2 0 rfl rfl)
theorem dX4_weightOf_48 : decode cX4_weightOf 48 = .ok (.bipush 20, 2) := dk_16 20 (dk_at dksX4_weightOf_2 3 rfl rfl)
theorem dX4_weightOf_50 : decode cX4_weightOf 50 = .ok (.goto 4, 3) := dk_167 0 4 (dk_at dksX4_weightOf_2 5 rfl rfl)
theorem dX4_weightOf_53 : decode cX4_weightOf 53 = .ok (.iconst 0, 1) := dk_3 (dk_at dksX4_weightOf_2 8 rfl rfl)
theorem dX4_weightOf_54 : decode cX4_weightOf 54 = .ok (.istore_n 2, 1) := dk_61 (dk_at dksX4_weightOf_2 9 rfl rfl)
theorem dX4_weightOf_55 : decode cX4_weightOf 55 = .ok (.iinc 3 1, 3) := dk_132 3 1 (dk_at dksX4_weightOf_2 10 rfl rfl)
theorem dX4_weightOf_58 : decode cX4_weightOf 58 = .ok (.goto (-54), 3) := dk_167 255 202 (dk_at dksX4_weightOf_2 13 rfl rfl)
theorem dX4_weightOf_61 : decode cX4_weightOf 61 = .ok (.iload_n 2, 1) := dk_28 (dk_at dksX4_weightOf_2 16 rfl rfl)
theorem dX4_weightOf_62 : decode cX4_weightOf 62 = .ok (.ireturn, 1) := dk_172 (dk_at dksX4_weightOf_2 17 rfl rfl)
abbrev cX4_weightAs : ByteArray := prog_17_method_27_code
def yX4_weightAs : MethodName := ⟨RX4, "weightAs", "(III)I"⟩
def dkwX4_weightAs_3 : List UInt8 := [16, 20, 167, 0, 12, 16, 20, 29, 100, 167, 0, 5, 21, 4, 172]
abbrev dktX4_weightAs_3 : List UInt8 := dkwX4_weightAs_3 ++ []
def dkwX4_weightAs_2 : List UInt8 := [16, 10, 164, 0, 8, 16, 20, 167, 0, 7, 5, 21, 4, 104, 172, 28, 8, 160, 0, 19, 27, 154, 0, 8]
abbrev dktX4_weightAs_2 : List UInt8 := dkwX4_weightAs_2 ++ dktX4_weightAs_3
def dkwX4_weightAs_1 : List UInt8 := [104, 16, 20, 108, 172, 28, 6, 160, 0, 10, 21, 4, 4, 96, 5, 108, 172, 28, 7, 160, 0, 20, 21, 4]
abbrev dktX4_weightAs_1 : List UInt8 := dkwX4_weightAs_1 ++ dktX4_weightAs_2
def dkwX4_weightAs_0 : List UInt8 := [42, 27, 182, 0, 142, 54, 4, 28, 5, 160, 0, 20, 27, 154, 0, 8, 21, 4, 167, 0, 10, 21, 4, 29]
abbrev dktX4_weightAs_0 : List UInt8 := dkwX4_weightAs_0 ++ dktX4_weightAs_1
theorem dksX4_weightAs_0 : cX4_weightAs.data.toList.drop 0 = dktX4_weightAs_0 := by decide +kernel
theorem dksX4_weightAs_1 : cX4_weightAs.data.toList.drop 24 = dktX4_weightAs_1 := dk_seg dksX4_weightAs_0 24 rfl rfl
theorem dksX4_weightAs_2 : cX4_weightAs.data.toList.drop 48 = dktX4_weightAs_2 := dk_seg dksX4_weightAs_1 24 rfl rfl
theorem dksX4_weightAs_3 : cX4_weightAs.data.toList.drop 72 = dktX4_weightAs_3 := dk_seg dksX4_weightAs_2 24 rfl rfl
theorem dX4_weightAs_0 : decode cX4_weightAs 0 = .ok (.aload_n 0, 1) := dk_42 (dk_at dksX4_weightAs_0 0 rfl rfl)
theorem dX4_weightAs_1 : decode cX4_weightAs 1 = .ok (.iload_n 1, 1) := dk_27 (dk_at dksX4_weightAs_0 1 rfl rfl)
theorem dX4_weightAs_2 : decode cX4_weightAs 2 = .ok (.invokevirtual 142, 3) := dk_182 0 142 (dk_at dksX4_weightAs_0 2 rfl rfl)
theorem dX4_weightAs_5 : decode cX4_weightAs 5 = .ok (.istore 4, 2) := dk_54 4 (dk_at dksX4_weightAs_0 5 rfl rfl)
theorem dX4_weightAs_7 : decode cX4_weightAs 7 = .ok (.iload_n 2, 1) := dk_28 (dk_at dksX4_weightAs_0 7 rfl rfl)
theorem dX4_weightAs_8 : decode cX4_weightAs 8 = .ok (.iconst 2, 1) := dk_5 (dk_at dksX4_weightAs_0 8 rfl rfl)
theorem dX4_weightAs_9 : decode cX4_weightAs 9 = .ok (.if_icmp .ne 20, 3) := dk_160 0 20 (dk_at dksX4_weightAs_0 9 rfl rfl)
theorem dX4_weightAs_12 : decode cX4_weightAs 12 = .ok (.iload_n 1, 1) := dk_27 (dk_at dksX4_weightAs_0 12 rfl rfl)
theorem dX4_weightAs_13 : decode cX4_weightAs 13 = .ok (.ifCond .ne 8, 3) := dk_154 0 8 (dk_at dksX4_weightAs_0 13 rfl rfl)
theorem dX4_weightAs_16 : decode cX4_weightAs 16 = .ok (.iload 4, 2) := dk_21 4 (dk_at dksX4_weightAs_0 16 rfl rfl)
theorem dX4_weightAs_18 : decode cX4_weightAs 18 = .ok (.goto 10, 3) := dk_167 0 10 (dk_at dksX4_weightAs_0 18 rfl rfl)
theorem dX4_weightAs_21 : decode cX4_weightAs 21 = .ok (.iload 4, 2) := dk_21 4 (dk_at dksX4_weightAs_0 21 rfl rfl)
theorem dX4_weightAs_23 : decode cX4_weightAs 23 = .ok (.iload_n 3, 1) := dk_29 (dk_at dksX4_weightAs_0 23 rfl rfl)
theorem dX4_weightAs_24 : decode cX4_weightAs 24 = .ok (.imul, 1) := dk_104 (dk_at dksX4_weightAs_1 0 rfl rfl)
theorem dX4_weightAs_25 : decode cX4_weightAs 25 = .ok (.bipush 20, 2) := dk_16 20 (dk_at dksX4_weightAs_1 1 rfl rfl)
theorem dX4_weightAs_27 : decode cX4_weightAs 27 = .ok (.idiv, 1) := dk_108 (dk_at dksX4_weightAs_1 3 rfl rfl)
theorem dX4_weightAs_28 : decode cX4_weightAs 28 = .ok (.ireturn, 1) := dk_172 (dk_at dksX4_weightAs_1 4 rfl rfl)
theorem dX4_weightAs_29 : decode cX4_weightAs 29 = .ok (.iload_n 2, 1) := dk_28 (dk_at dksX4_weightAs_1 5 rfl rfl)
theorem dX4_weightAs_30 : decode cX4_weightAs 30 = .ok (.iconst 3, 1) := dk_6 (dk_at dksX4_weightAs_1 6 rfl rfl)
theorem dX4_weightAs_31 : decode cX4_weightAs 31 = .ok (.if_icmp .ne 10, 3) := dk_160 0 10 (dk_at dksX4_weightAs_1 7 rfl rfl)
theorem dX4_weightAs_34 : decode cX4_weightAs 34 = .ok (.iload 4, 2) := dk_21 4 (dk_at dksX4_weightAs_1 10 rfl rfl)
theorem dX4_weightAs_36 : decode cX4_weightAs 36 = .ok (.iconst 1, 1) := dk_4 (dk_at dksX4_weightAs_1 12 rfl rfl)
theorem dX4_weightAs_37 : decode cX4_weightAs 37 = .ok (.iadd, 1) := dk_96 (dk_at dksX4_weightAs_1 13 rfl rfl)
theorem dX4_weightAs_38 : decode cX4_weightAs 38 = .ok (.iconst 2, 1) := dk_5 (dk_at dksX4_weightAs_1 14 rfl rfl)
theorem dX4_weightAs_39 : decode cX4_weightAs 39 = .ok (.idiv, 1) := dk_108 (dk_at dksX4_weightAs_1 15 rfl rfl)
theorem dX4_weightAs_40 : decode cX4_weightAs 40 = .ok (.ireturn, 1) := dk_172 (dk_at dksX4_weightAs_1 16 rfl rfl)
theorem dX4_weightAs_41 : decode cX4_weightAs 41 = .ok (.iload_n 2, 1) := dk_28 (dk_at dksX4_weightAs_1 17 rfl rfl)
theorem dX4_weightAs_42 : decode cX4_weightAs 42 = .ok (.iconst 4, 1) := dk_7 (dk_at dksX4_weightAs_1 18 rfl rfl)
theorem dX4_weightAs_43 : decode cX4_weightAs 43 = .ok (.if_icmp .ne 20, 3) := dk_160 0 20 (dk_at dksX4_weightAs_1 19 rfl rfl)
theorem dX4_weightAs_46 : decode cX4_weightAs 46 = .ok (.iload 4, 2) := dk_21 4 (dk_at dksX4_weightAs_1 22 rfl rfl)
theorem dX4_weightAs_48 : decode cX4_weightAs 48 = .ok (.bipush 10, 2) := dk_16 10 (dk_at dksX4_weightAs_2 0 rfl rfl)
theorem dX4_weightAs_50 : decode cX4_weightAs 50 = .ok (.if_icmp .le 8, 3) := dk_164 0 8 (dk_at dksX4_weightAs_2 2 rfl rfl)
theorem dX4_weightAs_53 : decode cX4_weightAs 53 = .ok (.bipush 20, 2) := dk_16 20 (dk_at dksX4_weightAs_2 5 rfl rfl)
theorem dX4_weightAs_55 : decode cX4_weightAs 55 = .ok (.goto 7, 3) := dk_167 0 7 (dk_at dksX4_weightAs_2 7 rfl rfl)
theorem dX4_weightAs_58 : decode cX4_weightAs 58 = .ok (.iconst 2, 1) := dk_5 (dk_at dksX4_weightAs_2 10 rfl rfl)
theorem dX4_weightAs_59 : decode cX4_weightAs 59 = .ok (.iload 4, 2) := dk_21 4 (dk_at dksX4_weightAs_2 11 rfl rfl)
theorem dX4_weightAs_61 : decode cX4_weightAs 61 = .ok (.imul, 1) := dk_104 (dk_at dksX4_weightAs_2 13 rfl rfl)
theorem dX4_weightAs_62 : decode cX4_weightAs 62 = .ok (.ireturn, 1) := dk_172 (dk_at dksX4_weightAs_2 14 rfl rfl)
theorem dX4_weightAs_63 : decode cX4_weightAs 63 = .ok (.iload_n 2, 1) := dk_28 (dk_at dksX4_weightAs_2 15 rfl rfl)
theorem dX4_weightAs_64 : decode cX4_weightAs 64 = .ok (.iconst 5, 1) := dk_8 (dk_at dksX4_weightAs_2 16 rfl rfl)
theorem dX4_weightAs_65 : decode cX4_weightAs 65 = .ok (.if_icmp .ne 19, 3) := dk_160 0 19 (dk_at dksX4_weightAs_2 17 rfl rfl)
theorem dX4_weightAs_68 : decode cX4_weightAs 68 = .ok (.iload_n 1, 1) := dk_27 (dk_at dksX4_weightAs_2 20 rfl rfl)
theorem dX4_weightAs_69 : decode cX4_weightAs 69 = .ok (.ifCond .ne 8, 3) := dk_154 0 8 (dk_at dksX4_weightAs_2 21 rfl rfl)
theorem dX4_weightAs_72 : decode cX4_weightAs 72 = .ok (.bipush 20, 2) := dk_16 20 (dk_at dksX4_weightAs_3 0 rfl rfl)
theorem dX4_weightAs_74 : decode cX4_weightAs 74 = .ok (.goto 12, 3) := dk_167 0 12 (dk_at dksX4_weightAs_3 2 rfl rfl)
theorem dX4_weightAs_77 : decode cX4_weightAs 77 = .ok (.bipush 20, 2) := dk_16 20 (dk_at dksX4_weightAs_3 5 rfl rfl)
theorem dX4_weightAs_79 : decode cX4_weightAs 79 = .ok (.iload_n 3, 1) := dk_29 (dk_at dksX4_weightAs_3 7 rfl rfl)
theorem dX4_weightAs_80 : decode cX4_weightAs 80 = .ok (.isub, 1) := dk_100 (dk_at dksX4_weightAs_3 8 rfl rfl)
theorem dX4_weightAs_81 : decode cX4_weightAs 81 = .ok (.goto 5, 3) := dk_167 0 5 (dk_at dksX4_weightAs_3 9 rfl rfl)
theorem dX4_weightAs_84 : decode cX4_weightAs 84 = .ok (.iload 4, 2) := dk_21 4 (dk_at dksX4_weightAs_3 12 rfl rfl)
theorem dX4_weightAs_86 : decode cX4_weightAs 86 = .ok (.ireturn, 1) := dk_172 (dk_at dksX4_weightAs_3 14 rfl rfl)
abbrev cX4_plainOf : ByteArray := prog_17_method_26_code
def yX4_plainOf : MethodName := ⟨RX4, "plainOf", "(I)I"⟩
def dkwX4_plainOf_1 : List UInt8 := [46, 104, 16, 10, 108, 172]
abbrev dktX4_plainOf_1 : List UInt8 := dkwX4_plainOf_1 ++ []
def dkwX4_plainOf_0 : List UInt8 := [42, 180, 0, 19, 16, 41, 27, 96, 46, 42, 180, 0, 19, 8, 42, 180, 0, 19, 16, 17, 27, 96, 46, 96]
abbrev dktX4_plainOf_0 : List UInt8 := dkwX4_plainOf_0 ++ dktX4_plainOf_1
theorem dksX4_plainOf_0 : cX4_plainOf.data.toList.drop 0 = dktX4_plainOf_0 := by decide +kernel
theorem dksX4_plainOf_1 : cX4_plainOf.data.toList.drop 24 = dktX4_plainOf_1 := dk_seg dksX4_plainOf_0 24 rfl rfl
theorem dX4_plainOf_0 : decode cX4_plainOf 0 = .ok (.aload_n 0, 1) := dk_42 (dk_at dksX4_plainOf_0 0 rfl rfl)
theorem dX4_plainOf_1 : decode cX4_plainOf 1 = .ok (.getfield 19, 3) := dk_180 0 19 (dk_at dksX4_plainOf_0 1 rfl rfl)
theorem dX4_plainOf_4 : decode cX4_plainOf 4 = .ok (.bipush 41, 2) := dk_16 41 (dk_at dksX4_plainOf_0 4 rfl rfl)
theorem dX4_plainOf_6 : decode cX4_plainOf 6 = .ok (.iload_n 1, 1) := dk_27 (dk_at dksX4_plainOf_0 6 rfl rfl)
theorem dX4_plainOf_7 : decode cX4_plainOf 7 = .ok (.iadd, 1) := dk_96 (dk_at dksX4_plainOf_0 7 rfl rfl)
theorem dX4_plainOf_8 : decode cX4_plainOf 8 = .ok (.iaload, 1) := dk_46 (dk_at dksX4_plainOf_0 8 rfl rfl)
theorem dX4_plainOf_9 : decode cX4_plainOf 9 = .ok (.aload_n 0, 1) := dk_42 (dk_at dksX4_plainOf_0 9 rfl rfl)
theorem dX4_plainOf_10 : decode cX4_plainOf 10 = .ok (.getfield 19, 3) := dk_180 0 19 (dk_at dksX4_plainOf_0 10 rfl rfl)
theorem dX4_plainOf_13 : decode cX4_plainOf 13 = .ok (.iconst 5, 1) := dk_8 (dk_at dksX4_plainOf_0 13 rfl rfl)
theorem dX4_plainOf_14 : decode cX4_plainOf 14 = .ok (.aload_n 0, 1) := dk_42 (dk_at dksX4_plainOf_0 14 rfl rfl)
theorem dX4_plainOf_15 : decode cX4_plainOf 15 = .ok (.getfield 19, 3) := dk_180 0 19 (dk_at dksX4_plainOf_0 15 rfl rfl)
theorem dX4_plainOf_18 : decode cX4_plainOf 18 = .ok (.bipush 17, 2) := dk_16 17 (dk_at dksX4_plainOf_0 18 rfl rfl)
theorem dX4_plainOf_20 : decode cX4_plainOf 20 = .ok (.iload_n 1, 1) := dk_27 (dk_at dksX4_plainOf_0 20 rfl rfl)
theorem dX4_plainOf_21 : decode cX4_plainOf 21 = .ok (.iadd, 1) := dk_96 (dk_at dksX4_plainOf_0 21 rfl rfl)
theorem dX4_plainOf_22 : decode cX4_plainOf 22 = .ok (.iaload, 1) := dk_46 (dk_at dksX4_plainOf_0 22 rfl rfl)
theorem dX4_plainOf_23 : decode cX4_plainOf 23 = .ok (.iadd, 1) := dk_96 (dk_at dksX4_plainOf_0 23 rfl rfl)
theorem dX4_plainOf_24 : decode cX4_plainOf 24 = .ok (.iaload, 1) := dk_46 (dk_at dksX4_plainOf_1 0 rfl rfl)
theorem dX4_plainOf_25 : decode cX4_plainOf 25 = .ok (.imul, 1) := dk_104 (dk_at dksX4_plainOf_1 1 rfl rfl)
theorem dX4_plainOf_26 : decode cX4_plainOf 26 = .ok (.bipush 10, 2) := dk_16 10 (dk_at dksX4_plainOf_1 2 rfl rfl)
theorem dX4_plainOf_28 : decode cX4_plainOf 28 = .ok (.idiv, 1) := dk_108 (dk_at dksX4_plainOf_1 4 rfl rfl)
theorem dX4_plainOf_29 : decode cX4_plainOf 29 = .ok (.ireturn, 1) := dk_172 (dk_at dksX4_plainOf_1 5 rfl rfl)
abbrev cX4_readBy : ByteArray := prog_17_method_30_code
def yX4_readBy : MethodName := ⟨RX4, "readBy", "(III)I"⟩
def dkwX4_readBy_0 : List UInt8 := [26, 27, 96, 62, 29, 29, 28, 112, 100, 172]
abbrev dktX4_readBy_0 : List UInt8 := dkwX4_readBy_0 ++ []
theorem dksX4_readBy_0 : cX4_readBy.data.toList.drop 0 = dktX4_readBy_0 := by decide +kernel
theorem dX4_readBy_0 : decode cX4_readBy 0 = .ok (.iload_n 0, 1) := dk_26 (dk_at dksX4_readBy_0 0 rfl rfl)
theorem dX4_readBy_1 : decode cX4_readBy 1 = .ok (.iload_n 1, 1) := dk_27 (dk_at dksX4_readBy_0 1 rfl rfl)
theorem dX4_readBy_2 : decode cX4_readBy 2 = .ok (.iadd, 1) := dk_96 (dk_at dksX4_readBy_0 2 rfl rfl)
theorem dX4_readBy_3 : decode cX4_readBy 3 = .ok (.istore_n 3, 1) := dk_62 (dk_at dksX4_readBy_0 3 rfl rfl)
theorem dX4_readBy_4 : decode cX4_readBy 4 = .ok (.iload_n 3, 1) := dk_29 (dk_at dksX4_readBy_0 4 rfl rfl)
theorem dX4_readBy_5 : decode cX4_readBy 5 = .ok (.iload_n 3, 1) := dk_29 (dk_at dksX4_readBy_0 5 rfl rfl)
theorem dX4_readBy_6 : decode cX4_readBy 6 = .ok (.iload_n 2, 1) := dk_28 (dk_at dksX4_readBy_0 6 rfl rfl)
theorem dX4_readBy_7 : decode cX4_readBy 7 = .ok (.irem, 1) := dk_112 (dk_at dksX4_readBy_0 7 rfl rfl)
theorem dX4_readBy_8 : decode cX4_readBy 8 = .ok (.isub, 1) := dk_100 (dk_at dksX4_readBy_0 8 rfl rfl)
theorem dX4_readBy_9 : decode cX4_readBy 9 = .ok (.ireturn, 1) := dk_172 (dk_at dksX4_readBy_0 9 rfl rfl)
abbrev cX4_settle : ByteArray := prog_17_method_35_code
def yX4_settle : MethodName := ⟨RX4, "settle", "(II)I"⟩
def dkwX4_settle_2 : List UInt8 := [3, 182, 0, 175, 42, 180, 0, 19, 8, 42, 180, 0, 19, 16, 17, 27, 96, 46, 96, 46, 172]
abbrev dktX4_settle_2 : List UInt8 := dkwX4_settle_2 ++ []
def dkwX4_settle_1 : List UInt8 := [182, 0, 145, 154, 0, 6, 18, 168, 172, 42, 182, 0, 169, 42, 27, 28, 4, 160, 0, 7, 4, 167, 0, 4]
abbrev dktX4_settle_1 : List UInt8 := dkwX4_settle_1 ++ dktX4_settle_2
def dkwX4_settle_0 : List UInt8 := [42, 27, 182, 0, 165, 153, 0, 13, 28, 133, 9, 10, 184, 0, 54, 154, 0, 6, 18, 64, 172, 42, 27]
abbrev dktX4_settle_0 : List UInt8 := dkwX4_settle_0 ++ dktX4_settle_1
theorem dksX4_settle_0 : cX4_settle.data.toList.drop 0 = dktX4_settle_0 := by decide +kernel
theorem dksX4_settle_1 : cX4_settle.data.toList.drop 23 = dktX4_settle_1 := dk_seg dksX4_settle_0 23 rfl rfl
theorem dksX4_settle_2 : cX4_settle.data.toList.drop 47 = dktX4_settle_2 := dk_seg dksX4_settle_1 24 rfl rfl
theorem dX4_settle_0 : decode cX4_settle 0 = .ok (.aload_n 0, 1) := dk_42 (dk_at dksX4_settle_0 0 rfl rfl)
theorem dX4_settle_1 : decode cX4_settle 1 = .ok (.iload_n 1, 1) := dk_27 (dk_at dksX4_settle_0 1 rfl rfl)
theorem dX4_settle_2 : decode cX4_settle 2 = .ok (.invokevirtual 165, 3) := dk_182 0 165 (dk_at dksX4_settle_0 2 rfl rfl)
theorem dX4_settle_5 : decode cX4_settle 5 = .ok (.ifCond .eq 13, 3) := dk_153 0 13 (dk_at dksX4_settle_0 5 rfl rfl)
theorem dX4_settle_8 : decode cX4_settle 8 = .ok (.iload_n 2, 1) := dk_28 (dk_at dksX4_settle_0 8 rfl rfl)
theorem dX4_settle_9 : decode cX4_settle 9 = .ok (.i2l, 1) := dk_133 (dk_at dksX4_settle_0 9 rfl rfl)
theorem dX4_settle_10 : decode cX4_settle 10 = .ok (.lconst 0, 1) := dk_9 (dk_at dksX4_settle_0 10 rfl rfl)
theorem dX4_settle_11 : decode cX4_settle 11 = .ok (.lconst 1, 1) := dk_10 (dk_at dksX4_settle_0 11 rfl rfl)
theorem dX4_settle_12 : decode cX4_settle 12 = .ok (.invokestatic 54, 3) := dk_184 0 54 (dk_at dksX4_settle_0 12 rfl rfl)
theorem dX4_settle_15 : decode cX4_settle 15 = .ok (.ifCond .ne 6, 3) := dk_154 0 6 (dk_at dksX4_settle_0 15 rfl rfl)
theorem dX4_settle_18 : decode cX4_settle 18 = .ok (.ldc 64, 2) := dk_18 64 (dk_at dksX4_settle_0 18 rfl rfl)
theorem dX4_settle_20 : decode cX4_settle 20 = .ok (.ireturn, 1) := dk_172 (dk_at dksX4_settle_0 20 rfl rfl)
theorem dX4_settle_21 : decode cX4_settle 21 = .ok (.aload_n 0, 1) := dk_42 (dk_at dksX4_settle_0 21 rfl rfl)
theorem dX4_settle_22 : decode cX4_settle 22 = .ok (.iload_n 1, 1) := dk_27 (dk_at dksX4_settle_0 22 rfl rfl)
theorem dX4_settle_23 : decode cX4_settle 23 = .ok (.invokevirtual 145, 3) := dk_182 0 145 (dk_at dksX4_settle_1 0 rfl rfl)
theorem dX4_settle_26 : decode cX4_settle 26 = .ok (.ifCond .ne 6, 3) := dk_154 0 6 (dk_at dksX4_settle_1 3 rfl rfl)
theorem dX4_settle_29 : decode cX4_settle 29 = .ok (.ldc 168, 2) := dk_18 168 (dk_at dksX4_settle_1 6 rfl rfl)
theorem dX4_settle_31 : decode cX4_settle 31 = .ok (.ireturn, 1) := dk_172 (dk_at dksX4_settle_1 8 rfl rfl)
theorem dX4_settle_32 : decode cX4_settle 32 = .ok (.aload_n 0, 1) := dk_42 (dk_at dksX4_settle_1 9 rfl rfl)
theorem dX4_settle_33 : decode cX4_settle 33 = .ok (.invokevirtual 169, 3) := dk_182 0 169 (dk_at dksX4_settle_1 10 rfl rfl)
theorem dX4_settle_36 : decode cX4_settle 36 = .ok (.aload_n 0, 1) := dk_42 (dk_at dksX4_settle_1 13 rfl rfl)
theorem dX4_settle_37 : decode cX4_settle 37 = .ok (.iload_n 1, 1) := dk_27 (dk_at dksX4_settle_1 14 rfl rfl)
theorem dX4_settle_38 : decode cX4_settle 38 = .ok (.iload_n 2, 1) := dk_28 (dk_at dksX4_settle_1 15 rfl rfl)
theorem dX4_settle_39 : decode cX4_settle 39 = .ok (.iconst 1, 1) := dk_4 (dk_at dksX4_settle_1 16 rfl rfl)
theorem dX4_settle_40 : decode cX4_settle 40 = .ok (.if_icmp .ne 7, 3) := dk_160 0 7 (dk_at dksX4_settle_1 17 rfl rfl)
theorem dX4_settle_43 : decode cX4_settle 43 = .ok (.iconst 1, 1) := dk_4 (dk_at dksX4_settle_1 20 rfl rfl)
theorem dX4_settle_44 : decode cX4_settle 44 = .ok (.goto 4, 3) := dk_167 0 4 (dk_at dksX4_settle_1 21 rfl rfl)
theorem dX4_settle_47 : decode cX4_settle 47 = .ok (.iconst 0, 1) := dk_3 (dk_at dksX4_settle_2 0 rfl rfl)
theorem dX4_settle_48 : decode cX4_settle 48 = .ok (.invokevirtual 175, 3) := dk_182 0 175 (dk_at dksX4_settle_2 1 rfl rfl)
theorem dX4_settle_51 : decode cX4_settle 51 = .ok (.aload_n 0, 1) := dk_42 (dk_at dksX4_settle_2 4 rfl rfl)
theorem dX4_settle_52 : decode cX4_settle 52 = .ok (.getfield 19, 3) := dk_180 0 19 (dk_at dksX4_settle_2 5 rfl rfl)
theorem dX4_settle_55 : decode cX4_settle 55 = .ok (.iconst 5, 1) := dk_8 (dk_at dksX4_settle_2 8 rfl rfl)
theorem dX4_settle_56 : decode cX4_settle 56 = .ok (.aload_n 0, 1) := dk_42 (dk_at dksX4_settle_2 9 rfl rfl)
theorem dX4_settle_57 : decode cX4_settle 57 = .ok (.getfield 19, 3) := dk_180 0 19 (dk_at dksX4_settle_2 10 rfl rfl)
theorem dX4_settle_60 : decode cX4_settle 60 = .ok (.bipush 17, 2) := dk_16 17 (dk_at dksX4_settle_2 13 rfl rfl)
theorem dX4_settle_62 : decode cX4_settle 62 = .ok (.iload_n 1, 1) := dk_27 (dk_at dksX4_settle_2 15 rfl rfl)
theorem dX4_settle_63 : decode cX4_settle 63 = .ok (.iadd, 1) := dk_96 (dk_at dksX4_settle_2 16 rfl rfl)
theorem dX4_settle_64 : decode cX4_settle 64 = .ok (.iaload, 1) := dk_46 (dk_at dksX4_settle_2 17 rfl rfl)
theorem dX4_settle_65 : decode cX4_settle 65 = .ok (.iadd, 1) := dk_96 (dk_at dksX4_settle_2 18 rfl rfl)
theorem dX4_settle_66 : decode cX4_settle 66 = .ok (.iaload, 1) := dk_46 (dk_at dksX4_settle_2 19 rfl rfl)
theorem dX4_settle_67 : decode cX4_settle 67 = .ok (.ireturn, 1) := dk_172 (dk_at dksX4_settle_2 20 rfl rfl)
abbrev cX4_settleNow : ByteArray := prog_17_method_34_code
def yX4_settleNow : MethodName := ⟨RX4, "settleNow", "(IZ)V"⟩
def dkwX4_settleNow_4 : List UInt8 := [167, 0, 5, 21, 4, 79, 177]
abbrev dktX4_settleNow_4 : List UInt8 := dkwX4_settleNow_4 ++ []
def dkwX4_settleNow_3 : List UInt8 := [180, 0, 19, 29, 21, 4, 156, 0, 7, 3, 167, 0, 17, 21, 4, 16, 10, 164, 0, 8, 16, 10]
abbrev dktX4_settleNow_3 : List UInt8 := dkwX4_settleNow_3 ++ dktX4_settleNow_4
def dkwX4_settleNow_2 : List UInt8 := [42, 180, 0, 19, 29, 46, 4, 96, 167, 0, 11, 42, 180, 0, 19, 29, 46, 4, 100, 54, 4, 42]
abbrev dktX4_settleNow_2 : List UInt8 := dkwX4_settleNow_2 ++ dktX4_settleNow_3
def dkwX4_settleNow_1 : List UInt8 := [4, 167, 0, 4, 5, 79, 42, 180, 0, 19, 7, 92, 46, 4, 27, 120, 2, 130, 126, 79, 28, 153, 0, 14]
abbrev dktX4_settleNow_1 : List UInt8 := dkwX4_settleNow_1 ++ dktX4_settleNow_2
def dkwX4_settleNow_0 : List UInt8 := [8, 42, 180, 0, 19, 16, 17, 27, 96, 46, 96, 62, 42, 180, 0, 19, 16, 49, 27, 96, 28, 153, 0, 7]
abbrev dktX4_settleNow_0 : List UInt8 := dkwX4_settleNow_0 ++ dktX4_settleNow_1
theorem dksX4_settleNow_0 : cX4_settleNow.data.toList.drop 0 = dktX4_settleNow_0 := by decide +kernel
theorem dksX4_settleNow_1 : cX4_settleNow.data.toList.drop 24 = dktX4_settleNow_1 := dk_seg dksX4_settleNow_0 24 rfl rfl
theorem dksX4_settleNow_2 : cX4_settleNow.data.toList.drop 48 = dktX4_settleNow_2 := dk_seg dksX4_settleNow_1 24 rfl rfl
theorem dksX4_settleNow_3 : cX4_settleNow.data.toList.drop 70 = dktX4_settleNow_3 := dk_seg dksX4_settleNow_2 22 rfl rfl
theorem dksX4_settleNow_4 : cX4_settleNow.data.toList.drop 92 = dktX4_settleNow_4 := dk_seg dksX4_settleNow_3 22 rfl rfl
theorem dX4_settleNow_0 : decode cX4_settleNow 0 = .ok (.iconst 5, 1) := dk_8 (dk_at dksX4_settleNow_0 0 rfl rfl)
theorem dX4_settleNow_1 : decode cX4_settleNow 1 = .ok (.aload_n 0, 1) := dk_42 (dk_at dksX4_settleNow_0 1 rfl rfl)
theorem dX4_settleNow_2 : decode cX4_settleNow 2 = .ok (.getfield 19, 3) := dk_180 0 19 (dk_at dksX4_settleNow_0 2 rfl rfl)
theorem dX4_settleNow_5 : decode cX4_settleNow 5 = .ok (.bipush 17, 2) := dk_16 17 (dk_at dksX4_settleNow_0 5 rfl rfl)
theorem dX4_settleNow_7 : decode cX4_settleNow 7 = .ok (.iload_n 1, 1) := dk_27 (dk_at dksX4_settleNow_0 7 rfl rfl)
theorem dX4_settleNow_8 : decode cX4_settleNow 8 = .ok (.iadd, 1) := dk_96 (dk_at dksX4_settleNow_0 8 rfl rfl)
theorem dX4_settleNow_9 : decode cX4_settleNow 9 = .ok (.iaload, 1) := dk_46 (dk_at dksX4_settleNow_0 9 rfl rfl)
theorem dX4_settleNow_10 : decode cX4_settleNow 10 = .ok (.iadd, 1) := dk_96 (dk_at dksX4_settleNow_0 10 rfl rfl)
theorem dX4_settleNow_11 : decode cX4_settleNow 11 = .ok (.istore_n 3, 1) := dk_62 (dk_at dksX4_settleNow_0 11 rfl rfl)
theorem dX4_settleNow_12 : decode cX4_settleNow 12 = .ok (.aload_n 0, 1) := dk_42 (dk_at dksX4_settleNow_0 12 rfl rfl)
theorem dX4_settleNow_13 : decode cX4_settleNow 13 = .ok (.getfield 19, 3) := dk_180 0 19 (dk_at dksX4_settleNow_0 13 rfl rfl)
theorem dX4_settleNow_16 : decode cX4_settleNow 16 = .ok (.bipush 49, 2) := dk_16 49 (dk_at dksX4_settleNow_0 16 rfl rfl)
theorem dX4_settleNow_18 : decode cX4_settleNow 18 = .ok (.iload_n 1, 1) := dk_27 (dk_at dksX4_settleNow_0 18 rfl rfl)
theorem dX4_settleNow_19 : decode cX4_settleNow 19 = .ok (.iadd, 1) := dk_96 (dk_at dksX4_settleNow_0 19 rfl rfl)
theorem dX4_settleNow_20 : decode cX4_settleNow 20 = .ok (.iload_n 2, 1) := dk_28 (dk_at dksX4_settleNow_0 20 rfl rfl)
theorem dX4_settleNow_21 : decode cX4_settleNow 21 = .ok (.ifCond .eq 7, 3) := dk_153 0 7 (dk_at dksX4_settleNow_0 21 rfl rfl)
theorem dX4_settleNow_24 : decode cX4_settleNow 24 = .ok (.iconst 1, 1) := dk_4 (dk_at dksX4_settleNow_1 0 rfl rfl)
theorem dX4_settleNow_25 : decode cX4_settleNow 25 = .ok (.goto 4, 3) := dk_167 0 4 (dk_at dksX4_settleNow_1 1 rfl rfl)
theorem dX4_settleNow_28 : decode cX4_settleNow 28 = .ok (.iconst 2, 1) := dk_5 (dk_at dksX4_settleNow_1 4 rfl rfl)
theorem dX4_settleNow_29 : decode cX4_settleNow 29 = .ok (.iastore, 1) := dk_79 (dk_at dksX4_settleNow_1 5 rfl rfl)
theorem dX4_settleNow_30 : decode cX4_settleNow 30 = .ok (.aload_n 0, 1) := dk_42 (dk_at dksX4_settleNow_1 6 rfl rfl)
theorem dX4_settleNow_31 : decode cX4_settleNow 31 = .ok (.getfield 19, 3) := dk_180 0 19 (dk_at dksX4_settleNow_1 7 rfl rfl)
theorem dX4_settleNow_34 : decode cX4_settleNow 34 = .ok (.iconst 4, 1) := dk_7 (dk_at dksX4_settleNow_1 10 rfl rfl)
theorem dX4_settleNow_35 : decode cX4_settleNow 35 = .ok (.dup2, 1) := dk_92 (dk_at dksX4_settleNow_1 11 rfl rfl)
theorem dX4_settleNow_36 : decode cX4_settleNow 36 = .ok (.iaload, 1) := dk_46 (dk_at dksX4_settleNow_1 12 rfl rfl)
theorem dX4_settleNow_37 : decode cX4_settleNow 37 = .ok (.iconst 1, 1) := dk_4 (dk_at dksX4_settleNow_1 13 rfl rfl)
theorem dX4_settleNow_38 : decode cX4_settleNow 38 = .ok (.iload_n 1, 1) := dk_27 (dk_at dksX4_settleNow_1 14 rfl rfl)
theorem dX4_settleNow_39 : decode cX4_settleNow 39 = .ok (.ishl, 1) := dk_120 (dk_at dksX4_settleNow_1 15 rfl rfl)
theorem dX4_settleNow_40 : decode cX4_settleNow 40 = .ok (.iconst (-1), 1) := dk_2 (dk_at dksX4_settleNow_1 16 rfl rfl)
theorem dX4_settleNow_41 : decode cX4_settleNow 41 = .ok (.ixor, 1) := dk_130 (dk_at dksX4_settleNow_1 17 rfl rfl)
theorem dX4_settleNow_42 : decode cX4_settleNow 42 = .ok (.iand, 1) := dk_126 (dk_at dksX4_settleNow_1 18 rfl rfl)
theorem dX4_settleNow_43 : decode cX4_settleNow 43 = .ok (.iastore, 1) := dk_79 (dk_at dksX4_settleNow_1 19 rfl rfl)
theorem dX4_settleNow_44 : decode cX4_settleNow 44 = .ok (.iload_n 2, 1) := dk_28 (dk_at dksX4_settleNow_1 20 rfl rfl)
theorem dX4_settleNow_45 : decode cX4_settleNow 45 = .ok (.ifCond .eq 14, 3) := dk_153 0 14 (dk_at dksX4_settleNow_1 21 rfl rfl)
theorem dX4_settleNow_48 : decode cX4_settleNow 48 = .ok (.aload_n 0, 1) := dk_42 (dk_at dksX4_settleNow_2 0 rfl rfl)
theorem dX4_settleNow_49 : decode cX4_settleNow 49 = .ok (.getfield 19, 3) := dk_180 0 19 (dk_at dksX4_settleNow_2 1 rfl rfl)
theorem dX4_settleNow_52 : decode cX4_settleNow 52 = .ok (.iload_n 3, 1) := dk_29 (dk_at dksX4_settleNow_2 4 rfl rfl)
theorem dX4_settleNow_53 : decode cX4_settleNow 53 = .ok (.iaload, 1) := dk_46 (dk_at dksX4_settleNow_2 5 rfl rfl)
theorem dX4_settleNow_54 : decode cX4_settleNow 54 = .ok (.iconst 1, 1) := dk_4 (dk_at dksX4_settleNow_2 6 rfl rfl)
theorem dX4_settleNow_55 : decode cX4_settleNow 55 = .ok (.iadd, 1) := dk_96 (dk_at dksX4_settleNow_2 7 rfl rfl)
theorem dX4_settleNow_56 : decode cX4_settleNow 56 = .ok (.goto 11, 3) := dk_167 0 11 (dk_at dksX4_settleNow_2 8 rfl rfl)
theorem dX4_settleNow_59 : decode cX4_settleNow 59 = .ok (.aload_n 0, 1) := dk_42 (dk_at dksX4_settleNow_2 11 rfl rfl)
theorem dX4_settleNow_60 : decode cX4_settleNow 60 = .ok (.getfield 19, 3) := dk_180 0 19 (dk_at dksX4_settleNow_2 12 rfl rfl)
theorem dX4_settleNow_63 : decode cX4_settleNow 63 = .ok (.iload_n 3, 1) := dk_29 (dk_at dksX4_settleNow_2 15 rfl rfl)
theorem dX4_settleNow_64 : decode cX4_settleNow 64 = .ok (.iaload, 1) := dk_46 (dk_at dksX4_settleNow_2 16 rfl rfl)
theorem dX4_settleNow_65 : decode cX4_settleNow 65 = .ok (.iconst 1, 1) := dk_4 (dk_at dksX4_settleNow_2 17 rfl rfl)
theorem dX4_settleNow_66 : decode cX4_settleNow 66 = .ok (.isub, 1) := dk_100 (dk_at dksX4_settleNow_2 18 rfl rfl)
theorem dX4_settleNow_67 : decode cX4_settleNow 67 = .ok (.istore 4, 2) := dk_54 4 (dk_at dksX4_settleNow_2 19 rfl rfl)
theorem dX4_settleNow_69 : decode cX4_settleNow 69 = .ok (.aload_n 0, 1) := dk_42 (dk_at dksX4_settleNow_2 21 rfl rfl)
theorem dX4_settleNow_70 : decode cX4_settleNow 70 = .ok (.getfield 19, 3) := dk_180 0 19 (dk_at dksX4_settleNow_3 0 rfl rfl)
theorem dX4_settleNow_73 : decode cX4_settleNow 73 = .ok (.iload_n 3, 1) := dk_29 (dk_at dksX4_settleNow_3 3 rfl rfl)
theorem dX4_settleNow_74 : decode cX4_settleNow 74 = .ok (.iload 4, 2) := dk_21 4 (dk_at dksX4_settleNow_3 4 rfl rfl)
theorem dX4_settleNow_76 : decode cX4_settleNow 76 = .ok (.ifCond .ge 7, 3) := dk_156 0 7 (dk_at dksX4_settleNow_3 6 rfl rfl)
theorem dX4_settleNow_79 : decode cX4_settleNow 79 = .ok (.iconst 0, 1) := dk_3 (dk_at dksX4_settleNow_3 9 rfl rfl)
theorem dX4_settleNow_80 : decode cX4_settleNow 80 = .ok (.goto 17, 3) := dk_167 0 17 (dk_at dksX4_settleNow_3 10 rfl rfl)
theorem dX4_settleNow_83 : decode cX4_settleNow 83 = .ok (.iload 4, 2) := dk_21 4 (dk_at dksX4_settleNow_3 13 rfl rfl)
theorem dX4_settleNow_85 : decode cX4_settleNow 85 = .ok (.bipush 10, 2) := dk_16 10 (dk_at dksX4_settleNow_3 15 rfl rfl)
theorem dX4_settleNow_87 : decode cX4_settleNow 87 = .ok (.if_icmp .le 8, 3) := dk_164 0 8 (dk_at dksX4_settleNow_3 17 rfl rfl)
theorem dX4_settleNow_90 : decode cX4_settleNow 90 = .ok (.bipush 10, 2) := dk_16 10 (dk_at dksX4_settleNow_3 20 rfl rfl)
theorem dX4_settleNow_92 : decode cX4_settleNow 92 = .ok (.goto 5, 3) := dk_167 0 5 (dk_at dksX4_settleNow_4 0 rfl rfl)
theorem dX4_settleNow_95 : decode cX4_settleNow 95 = .ok (.iload 4, 2) := dk_21 4 (dk_at dksX4_settleNow_4 3 rfl rfl)
theorem dX4_settleNow_97 : decode cX4_settleNow 97 = .ok (.iastore, 1) := dk_79 (dk_at dksX4_settleNow_4 5 rfl rfl)
theorem dX4_settleNow_98 : decode cX4_settleNow 98 = .ok (.return_, 1) := dk_177 (dk_at dksX4_settleNow_4 6 rfl rfl)
abbrev cX4_wax : ByteArray := prog_17_method_36_code
def yX4_wax : MethodName := ⟨RX4, "wax", "(I)I"⟩
def dkwX4_wax_1 : List UInt8 := [172, 42, 182, 0, 169, 42, 180, 0, 19, 3, 46, 61, 42, 180, 0, 19, 3, 27, 79, 28, 172]
abbrev dktX4_wax_1 : List UInt8 := dkwX4_wax_1 ++ []
def dkwX4_wax_0 : List UInt8 := [42, 180, 0, 135, 154, 0, 6, 18, 168, 172, 27, 133, 9, 20, 0, 179, 184, 0, 54, 154, 0, 6, 18, 64]
abbrev dktX4_wax_0 : List UInt8 := dkwX4_wax_0 ++ dktX4_wax_1
theorem dksX4_wax_0 : cX4_wax.data.toList.drop 0 = dktX4_wax_0 := by decide +kernel
theorem dksX4_wax_1 : cX4_wax.data.toList.drop 24 = dktX4_wax_1 := dk_seg dksX4_wax_0 24 rfl rfl
theorem dX4_wax_0 : decode cX4_wax 0 = .ok (.aload_n 0, 1) := dk_42 (dk_at dksX4_wax_0 0 rfl rfl)
theorem dX4_wax_1 : decode cX4_wax 1 = .ok (.getfield 135, 3) := dk_180 0 135 (dk_at dksX4_wax_0 1 rfl rfl)
theorem dX4_wax_4 : decode cX4_wax 4 = .ok (.ifCond .ne 6, 3) := dk_154 0 6 (dk_at dksX4_wax_0 4 rfl rfl)
theorem dX4_wax_7 : decode cX4_wax 7 = .ok (.ldc 168, 2) := dk_18 168 (dk_at dksX4_wax_0 7 rfl rfl)
theorem dX4_wax_9 : decode cX4_wax 9 = .ok (.ireturn, 1) := dk_172 (dk_at dksX4_wax_0 9 rfl rfl)
theorem dX4_wax_10 : decode cX4_wax 10 = .ok (.iload_n 1, 1) := dk_27 (dk_at dksX4_wax_0 10 rfl rfl)
theorem dX4_wax_11 : decode cX4_wax 11 = .ok (.i2l, 1) := dk_133 (dk_at dksX4_wax_0 11 rfl rfl)
theorem dX4_wax_12 : decode cX4_wax 12 = .ok (.lconst 0, 1) := dk_9 (dk_at dksX4_wax_0 12 rfl rfl)
theorem dX4_wax_13 : decode cX4_wax 13 = .ok (.ldc2_w 179, 3) := dk_20 0 179 (dk_at dksX4_wax_0 13 rfl rfl)
theorem dX4_wax_16 : decode cX4_wax 16 = .ok (.invokestatic 54, 3) := dk_184 0 54 (dk_at dksX4_wax_0 16 rfl rfl)
theorem dX4_wax_19 : decode cX4_wax 19 = .ok (.ifCond .ne 6, 3) := dk_154 0 6 (dk_at dksX4_wax_0 19 rfl rfl)
theorem dX4_wax_22 : decode cX4_wax 22 = .ok (.ldc 64, 2) := dk_18 64 (dk_at dksX4_wax_0 22 rfl rfl)
theorem dX4_wax_24 : decode cX4_wax 24 = .ok (.ireturn, 1) := dk_172 (dk_at dksX4_wax_1 0 rfl rfl)
theorem dX4_wax_25 : decode cX4_wax 25 = .ok (.aload_n 0, 1) := dk_42 (dk_at dksX4_wax_1 1 rfl rfl)
theorem dX4_wax_26 : decode cX4_wax 26 = .ok (.invokevirtual 169, 3) := dk_182 0 169 (dk_at dksX4_wax_1 2 rfl rfl)
theorem dX4_wax_29 : decode cX4_wax 29 = .ok (.aload_n 0, 1) := dk_42 (dk_at dksX4_wax_1 5 rfl rfl)
theorem dX4_wax_30 : decode cX4_wax 30 = .ok (.getfield 19, 3) := dk_180 0 19 (dk_at dksX4_wax_1 6 rfl rfl)
theorem dX4_wax_33 : decode cX4_wax 33 = .ok (.iconst 0, 1) := dk_3 (dk_at dksX4_wax_1 9 rfl rfl)
theorem dX4_wax_34 : decode cX4_wax 34 = .ok (.iaload, 1) := dk_46 (dk_at dksX4_wax_1 10 rfl rfl)
theorem dX4_wax_35 : decode cX4_wax 35 = .ok (.istore_n 2, 1) := dk_61 (dk_at dksX4_wax_1 11 rfl rfl)
theorem dX4_wax_36 : decode cX4_wax 36 = .ok (.aload_n 0, 1) := dk_42 (dk_at dksX4_wax_1 12 rfl rfl)
theorem dX4_wax_37 : decode cX4_wax 37 = .ok (.getfield 19, 3) := dk_180 0 19 (dk_at dksX4_wax_1 13 rfl rfl)
theorem dX4_wax_40 : decode cX4_wax 40 = .ok (.iconst 0, 1) := dk_3 (dk_at dksX4_wax_1 16 rfl rfl)
theorem dX4_wax_41 : decode cX4_wax 41 = .ok (.iload_n 1, 1) := dk_27 (dk_at dksX4_wax_1 17 rfl rfl)
theorem dX4_wax_42 : decode cX4_wax 42 = .ok (.iastore, 1) := dk_79 (dk_at dksX4_wax_1 18 rfl rfl)
theorem dX4_wax_43 : decode cX4_wax 43 = .ok (.iload_n 2, 1) := dk_28 (dk_at dksX4_wax_1 19 rfl rfl)
theorem dX4_wax_44 : decode cX4_wax 44 = .ok (.ireturn, 1) := dk_172 (dk_at dksX4_wax_1 20 rfl rfl)
abbrev cX4_undo : ByteArray := prog_17_method_37_code
def yX4_undo : MethodName := ⟨RX4, "undo", "()I"⟩
def dkwX4_undo_2 : List UInt8 := [79, 132, 1, 1, 167, 255, 227, 42, 180, 0, 139, 172]
abbrev dktX4_undo_2 : List UInt8 := dkwX4_undo_2 ++ []
def dkwX4_undo_1 : List UInt8 := [16, 57, 162, 0, 29, 42, 180, 0, 19, 27, 42, 180, 0, 31, 16, 57, 42, 180, 0, 139, 104, 27, 96, 46]
abbrev dktX4_undo_1 : List UInt8 := dkwX4_undo_1 ++ dktX4_undo_2
def dkwX4_undo_0 : List UInt8 := [42, 180, 0, 139, 154, 0, 6, 18, 168, 172, 42, 89, 180, 0, 139, 4, 100, 181, 0, 139, 3, 60, 27]
abbrev dktX4_undo_0 : List UInt8 := dkwX4_undo_0 ++ dktX4_undo_1
theorem dksX4_undo_0 : cX4_undo.data.toList.drop 0 = dktX4_undo_0 := by decide +kernel
theorem dksX4_undo_1 : cX4_undo.data.toList.drop 23 = dktX4_undo_1 := dk_seg dksX4_undo_0 23 rfl rfl
theorem dksX4_undo_2 : cX4_undo.data.toList.drop 47 = dktX4_undo_2 := dk_seg dksX4_undo_1 24 rfl rfl
theorem dX4_undo_0 : decode cX4_undo 0 = .ok (.aload_n 0, 1) := dk_42 (dk_at dksX4_undo_0 0 rfl rfl)
theorem dX4_undo_1 : decode cX4_undo 1 = .ok (.getfield 139, 3) := dk_180 0 139 (dk_at dksX4_undo_0 1 rfl rfl)
theorem dX4_undo_4 : decode cX4_undo 4 = .ok (.ifCond .ne 6, 3) := dk_154 0 6 (dk_at dksX4_undo_0 4 rfl rfl)
theorem dX4_undo_7 : decode cX4_undo 7 = .ok (.ldc 168, 2) := dk_18 168 (dk_at dksX4_undo_0 7 rfl rfl)
theorem dX4_undo_9 : decode cX4_undo 9 = .ok (.ireturn, 1) := dk_172 (dk_at dksX4_undo_0 9 rfl rfl)
theorem dX4_undo_10 : decode cX4_undo 10 = .ok (.aload_n 0, 1) := dk_42 (dk_at dksX4_undo_0 10 rfl rfl)
theorem dX4_undo_11 : decode cX4_undo 11 = .ok (.dup, 1) := dk_89 (dk_at dksX4_undo_0 11 rfl rfl)
theorem dX4_undo_12 : decode cX4_undo 12 = .ok (.getfield 139, 3) := dk_180 0 139 (dk_at dksX4_undo_0 12 rfl rfl)
theorem dX4_undo_15 : decode cX4_undo 15 = .ok (.iconst 1, 1) := dk_4 (dk_at dksX4_undo_0 15 rfl rfl)
theorem dX4_undo_16 : decode cX4_undo 16 = .ok (.isub, 1) := dk_100 (dk_at dksX4_undo_0 16 rfl rfl)
theorem dX4_undo_17 : decode cX4_undo 17 = .ok (.putfield 139, 3) := dk_181 0 139 (dk_at dksX4_undo_0 17 rfl rfl)
theorem dX4_undo_20 : decode cX4_undo 20 = .ok (.iconst 0, 1) := dk_3 (dk_at dksX4_undo_0 20 rfl rfl)
theorem dX4_undo_21 : decode cX4_undo 21 = .ok (.istore_n 1, 1) := dk_60 (dk_at dksX4_undo_0 21 rfl rfl)
theorem dX4_undo_22 : decode cX4_undo 22 = .ok (.iload_n 1, 1) := dk_27 (dk_at dksX4_undo_0 22 rfl rfl)
theorem dX4_undo_23 : decode cX4_undo 23 = .ok (.bipush 57, 2) := dk_16 57 (dk_at dksX4_undo_1 0 rfl rfl)
theorem dX4_undo_25 : decode cX4_undo 25 = .ok (.if_icmp .ge 29, 3) := dk_162 0 29 (dk_at dksX4_undo_1 2 rfl rfl)
theorem dX4_undo_28 : decode cX4_undo 28 = .ok (.aload_n 0, 1) := dk_42 (dk_at dksX4_undo_1 5 rfl rfl)
theorem dX4_undo_29 : decode cX4_undo 29 = .ok (.getfield 19, 3) := dk_180 0 19 (dk_at dksX4_undo_1 6 rfl rfl)
theorem dX4_undo_32 : decode cX4_undo 32 = .ok (.iload_n 1, 1) := dk_27 (dk_at dksX4_undo_1 9 rfl rfl)
theorem dX4_undo_33 : decode cX4_undo 33 = .ok (.aload_n 0, 1) := dk_42 (dk_at dksX4_undo_1 10 rfl rfl)
theorem dX4_undo_34 : decode cX4_undo 34 = .ok (.getfield 31, 3) := dk_180 0 31 (dk_at dksX4_undo_1 11 rfl rfl)
theorem dX4_undo_37 : decode cX4_undo 37 = .ok (.bipush 57, 2) := dk_16 57 (dk_at dksX4_undo_1 14 rfl rfl)
theorem dX4_undo_39 : decode cX4_undo 39 = .ok (.aload_n 0, 1) := dk_42 (dk_at dksX4_undo_1 16 rfl rfl)
theorem dX4_undo_40 : decode cX4_undo 40 = .ok (.getfield 139, 3) := dk_180 0 139 (dk_at dksX4_undo_1 17 rfl rfl)
theorem dX4_undo_43 : decode cX4_undo 43 = .ok (.imul, 1) := dk_104 (dk_at dksX4_undo_1 20 rfl rfl)
theorem dX4_undo_44 : decode cX4_undo 44 = .ok (.iload_n 1, 1) := dk_27 (dk_at dksX4_undo_1 21 rfl rfl)
theorem dX4_undo_45 : decode cX4_undo 45 = .ok (.iadd, 1) := dk_96 (dk_at dksX4_undo_1 22 rfl rfl)
theorem dX4_undo_46 : decode cX4_undo 46 = .ok (.iaload, 1) := dk_46 (dk_at dksX4_undo_1 23 rfl rfl)
theorem dX4_undo_47 : decode cX4_undo 47 = .ok (.iastore, 1) := dk_79 (dk_at dksX4_undo_2 0 rfl rfl)
theorem dX4_undo_48 : decode cX4_undo 48 = .ok (.iinc 1 1, 3) := dk_132 1 1 (dk_at dksX4_undo_2 1 rfl rfl)
theorem dX4_undo_51 : decode cX4_undo 51 = .ok (.goto (-29), 3) := dk_167 255 227 (dk_at dksX4_undo_2 4 rfl rfl)
theorem dX4_undo_54 : decode cX4_undo 54 = .ok (.aload_n 0, 1) := dk_42 (dk_at dksX4_undo_2 7 rfl rfl)
theorem dX4_undo_55 : decode cX4_undo 55 = .ok (.getfield 139, 3) := dk_180 0 139 (dk_at dksX4_undo_2 8 rfl rfl)
theorem dX4_undo_58 : decode cX4_undo 58 = .ok (.ireturn, 1) := dk_172 (dk_at dksX4_undo_2 11 rfl rfl)
abbrev cX4_promise : ByteArray := prog_17_method_38_code
def yX4_promise : MethodName := ⟨RX4, "promise", "(II)I"⟩
def dkwX4_promise_4 : List UInt8 := [180, 0, 19, 16, 49, 27, 96, 46, 172, 42, 180, 0, 19, 7, 46, 27, 122, 4, 126, 172, 18, 64, 172]
abbrev dktX4_promise_4 : List UInt8 := dkwX4_promise_4 ++ []
def dkwX4_promise_3 : List UInt8 := [16, 33, 27, 96, 46, 172, 42, 180, 0, 19, 16, 41, 27, 96, 46, 172, 42, 27, 182, 0, 156, 172, 42]
abbrev dktX4_promise_3 : List UInt8 := dkwX4_promise_3 ++ dktX4_promise_4
def dkwX4_promise_2 : List UInt8 := [42, 180, 0, 19, 16, 17, 27, 96, 46, 172, 42, 180, 0, 19, 16, 25, 27, 96, 46, 172, 42, 180, 0, 19]
abbrev dktX4_promise_2 : List UInt8 := dkwX4_promise_2 ++ dktX4_promise_3
def dkwX4_promise_1 : List UInt8 := [170, 0, 0, 0, 0, 0, 0, 111, 0, 0, 0, 0, 0, 0, 0, 6, 0, 0, 0, 44, 0, 0, 0, 54, 0, 0, 0, 64, 0, 0, 0, 74, 0, 0, 0, 84, 0, 0, 0, 90, 0, 0, 0, 100]
abbrev dktX4_promise_1 : List UInt8 := dkwX4_promise_1 ++ dktX4_promise_2
def dkwX4_promise_0 : List UInt8 := [42, 27, 182, 0, 165, 154, 0, 6, 18, 64, 172, 28]
abbrev dktX4_promise_0 : List UInt8 := dkwX4_promise_0 ++ dktX4_promise_1
theorem dksX4_promise_0 : cX4_promise.data.toList.drop 0 = dktX4_promise_0 := by decide +kernel
theorem dksX4_promise_1 : cX4_promise.data.toList.drop 12 = dktX4_promise_1 := dk_seg dksX4_promise_0 12 rfl rfl
theorem dksX4_promise_2 : cX4_promise.data.toList.drop 56 = dktX4_promise_2 := dk_seg dksX4_promise_1 44 rfl rfl
theorem dksX4_promise_3 : cX4_promise.data.toList.drop 80 = dktX4_promise_3 := dk_seg dksX4_promise_2 24 rfl rfl
theorem dksX4_promise_4 : cX4_promise.data.toList.drop 103 = dktX4_promise_4 := dk_seg dksX4_promise_3 23 rfl rfl
theorem dX4_promise_0 : decode cX4_promise 0 = .ok (.aload_n 0, 1) := dk_42 (dk_at dksX4_promise_0 0 rfl rfl)
theorem dX4_promise_1 : decode cX4_promise 1 = .ok (.iload_n 1, 1) := dk_27 (dk_at dksX4_promise_0 1 rfl rfl)
theorem dX4_promise_2 : decode cX4_promise 2 = .ok (.invokevirtual 165, 3) := dk_182 0 165 (dk_at dksX4_promise_0 2 rfl rfl)
theorem dX4_promise_5 : decode cX4_promise 5 = .ok (.ifCond .ne 6, 3) := dk_154 0 6 (dk_at dksX4_promise_0 5 rfl rfl)
theorem dX4_promise_8 : decode cX4_promise 8 = .ok (.ldc 64, 2) := dk_18 64 (dk_at dksX4_promise_0 8 rfl rfl)
theorem dX4_promise_10 : decode cX4_promise 10 = .ok (.ireturn, 1) := dk_172 (dk_at dksX4_promise_0 10 rfl rfl)
theorem dX4_promise_11 : decode cX4_promise 11 = .ok (.iload_n 2, 1) := dk_28 (dk_at dksX4_promise_0 11 rfl rfl)
theorem dX4_promise_12 : decode cX4_promise 12 = .ok (.tableswitch 111 0 6 #[44, 54, 64, 74, 84, 90, 100], 44) := by decide +kernel
theorem dX4_promise_56 : decode cX4_promise 56 = .ok (.aload_n 0, 1) := dk_42 (dk_at dksX4_promise_2 0 rfl rfl)
theorem dX4_promise_57 : decode cX4_promise 57 = .ok (.getfield 19, 3) := dk_180 0 19 (dk_at dksX4_promise_2 1 rfl rfl)
theorem dX4_promise_60 : decode cX4_promise 60 = .ok (.bipush 17, 2) := dk_16 17 (dk_at dksX4_promise_2 4 rfl rfl)
theorem dX4_promise_62 : decode cX4_promise 62 = .ok (.iload_n 1, 1) := dk_27 (dk_at dksX4_promise_2 6 rfl rfl)
theorem dX4_promise_63 : decode cX4_promise 63 = .ok (.iadd, 1) := dk_96 (dk_at dksX4_promise_2 7 rfl rfl)
theorem dX4_promise_64 : decode cX4_promise 64 = .ok (.iaload, 1) := dk_46 (dk_at dksX4_promise_2 8 rfl rfl)
theorem dX4_promise_65 : decode cX4_promise 65 = .ok (.ireturn, 1) := dk_172 (dk_at dksX4_promise_2 9 rfl rfl)
theorem dX4_promise_66 : decode cX4_promise 66 = .ok (.aload_n 0, 1) := dk_42 (dk_at dksX4_promise_2 10 rfl rfl)
theorem dX4_promise_67 : decode cX4_promise 67 = .ok (.getfield 19, 3) := dk_180 0 19 (dk_at dksX4_promise_2 11 rfl rfl)
theorem dX4_promise_70 : decode cX4_promise 70 = .ok (.bipush 25, 2) := dk_16 25 (dk_at dksX4_promise_2 14 rfl rfl)
theorem dX4_promise_72 : decode cX4_promise 72 = .ok (.iload_n 1, 1) := dk_27 (dk_at dksX4_promise_2 16 rfl rfl)
theorem dX4_promise_73 : decode cX4_promise 73 = .ok (.iadd, 1) := dk_96 (dk_at dksX4_promise_2 17 rfl rfl)
theorem dX4_promise_74 : decode cX4_promise 74 = .ok (.iaload, 1) := dk_46 (dk_at dksX4_promise_2 18 rfl rfl)
theorem dX4_promise_75 : decode cX4_promise 75 = .ok (.ireturn, 1) := dk_172 (dk_at dksX4_promise_2 19 rfl rfl)
theorem dX4_promise_76 : decode cX4_promise 76 = .ok (.aload_n 0, 1) := dk_42 (dk_at dksX4_promise_2 20 rfl rfl)
theorem dX4_promise_77 : decode cX4_promise 77 = .ok (.getfield 19, 3) := dk_180 0 19 (dk_at dksX4_promise_2 21 rfl rfl)
theorem dX4_promise_80 : decode cX4_promise 80 = .ok (.bipush 33, 2) := dk_16 33 (dk_at dksX4_promise_3 0 rfl rfl)
theorem dX4_promise_82 : decode cX4_promise 82 = .ok (.iload_n 1, 1) := dk_27 (dk_at dksX4_promise_3 2 rfl rfl)
theorem dX4_promise_83 : decode cX4_promise 83 = .ok (.iadd, 1) := dk_96 (dk_at dksX4_promise_3 3 rfl rfl)
theorem dX4_promise_84 : decode cX4_promise 84 = .ok (.iaload, 1) := dk_46 (dk_at dksX4_promise_3 4 rfl rfl)
theorem dX4_promise_85 : decode cX4_promise 85 = .ok (.ireturn, 1) := dk_172 (dk_at dksX4_promise_3 5 rfl rfl)
theorem dX4_promise_86 : decode cX4_promise 86 = .ok (.aload_n 0, 1) := dk_42 (dk_at dksX4_promise_3 6 rfl rfl)
theorem dX4_promise_87 : decode cX4_promise 87 = .ok (.getfield 19, 3) := dk_180 0 19 (dk_at dksX4_promise_3 7 rfl rfl)
theorem dX4_promise_90 : decode cX4_promise 90 = .ok (.bipush 41, 2) := dk_16 41 (dk_at dksX4_promise_3 10 rfl rfl)
theorem dX4_promise_92 : decode cX4_promise 92 = .ok (.iload_n 1, 1) := dk_27 (dk_at dksX4_promise_3 12 rfl rfl)
theorem dX4_promise_93 : decode cX4_promise 93 = .ok (.iadd, 1) := dk_96 (dk_at dksX4_promise_3 13 rfl rfl)
theorem dX4_promise_94 : decode cX4_promise 94 = .ok (.iaload, 1) := dk_46 (dk_at dksX4_promise_3 14 rfl rfl)
theorem dX4_promise_95 : decode cX4_promise 95 = .ok (.ireturn, 1) := dk_172 (dk_at dksX4_promise_3 15 rfl rfl)
theorem dX4_promise_96 : decode cX4_promise 96 = .ok (.aload_n 0, 1) := dk_42 (dk_at dksX4_promise_3 16 rfl rfl)
theorem dX4_promise_97 : decode cX4_promise 97 = .ok (.iload_n 1, 1) := dk_27 (dk_at dksX4_promise_3 17 rfl rfl)
theorem dX4_promise_98 : decode cX4_promise 98 = .ok (.invokevirtual 156, 3) := dk_182 0 156 (dk_at dksX4_promise_3 18 rfl rfl)
theorem dX4_promise_101 : decode cX4_promise 101 = .ok (.ireturn, 1) := dk_172 (dk_at dksX4_promise_3 21 rfl rfl)
theorem dX4_promise_102 : decode cX4_promise 102 = .ok (.aload_n 0, 1) := dk_42 (dk_at dksX4_promise_3 22 rfl rfl)
theorem dX4_promise_103 : decode cX4_promise 103 = .ok (.getfield 19, 3) := dk_180 0 19 (dk_at dksX4_promise_4 0 rfl rfl)
theorem dX4_promise_106 : decode cX4_promise 106 = .ok (.bipush 49, 2) := dk_16 49 (dk_at dksX4_promise_4 3 rfl rfl)
theorem dX4_promise_108 : decode cX4_promise 108 = .ok (.iload_n 1, 1) := dk_27 (dk_at dksX4_promise_4 5 rfl rfl)
theorem dX4_promise_109 : decode cX4_promise 109 = .ok (.iadd, 1) := dk_96 (dk_at dksX4_promise_4 6 rfl rfl)
theorem dX4_promise_110 : decode cX4_promise 110 = .ok (.iaload, 1) := dk_46 (dk_at dksX4_promise_4 7 rfl rfl)
theorem dX4_promise_111 : decode cX4_promise 111 = .ok (.ireturn, 1) := dk_172 (dk_at dksX4_promise_4 8 rfl rfl)
theorem dX4_promise_112 : decode cX4_promise 112 = .ok (.aload_n 0, 1) := dk_42 (dk_at dksX4_promise_4 9 rfl rfl)
theorem dX4_promise_113 : decode cX4_promise 113 = .ok (.getfield 19, 3) := dk_180 0 19 (dk_at dksX4_promise_4 10 rfl rfl)
theorem dX4_promise_116 : decode cX4_promise 116 = .ok (.iconst 4, 1) := dk_7 (dk_at dksX4_promise_4 13 rfl rfl)
theorem dX4_promise_117 : decode cX4_promise 117 = .ok (.iaload, 1) := dk_46 (dk_at dksX4_promise_4 14 rfl rfl)
theorem dX4_promise_118 : decode cX4_promise 118 = .ok (.iload_n 1, 1) := dk_27 (dk_at dksX4_promise_4 15 rfl rfl)
theorem dX4_promise_119 : decode cX4_promise 119 = .ok (.ishr, 1) := dk_122 (dk_at dksX4_promise_4 16 rfl rfl)
theorem dX4_promise_120 : decode cX4_promise 120 = .ok (.iconst 1, 1) := dk_4 (dk_at dksX4_promise_4 17 rfl rfl)
theorem dX4_promise_121 : decode cX4_promise 121 = .ok (.iand, 1) := dk_126 (dk_at dksX4_promise_4 18 rfl rfl)
theorem dX4_promise_122 : decode cX4_promise 122 = .ok (.ireturn, 1) := dk_172 (dk_at dksX4_promise_4 19 rfl rfl)
theorem dX4_promise_123 : decode cX4_promise 123 = .ok (.ldc 64, 2) := dk_18 64 (dk_at dksX4_promise_4 20 rfl rfl)
theorem dX4_promise_125 : decode cX4_promise 125 = .ok (.ireturn, 1) := dk_172 (dk_at dksX4_promise_4 22 rfl rfl)
abbrev cX4_keeps : ByteArray := prog_17_method_40_code
def yX4_keeps : MethodName := ⟨RX4, "keeps", "(I)I"⟩
def dkwX4_keeps_0 : List UInt8 := [42, 27, 182, 0, 181, 153, 0, 14, 42, 180, 0, 19, 8, 27, 96, 46, 167, 0, 5, 18, 64, 172]
abbrev dktX4_keeps_0 : List UInt8 := dkwX4_keeps_0 ++ []
theorem dksX4_keeps_0 : cX4_keeps.data.toList.drop 0 = dktX4_keeps_0 := by decide +kernel
theorem dX4_keeps_0 : decode cX4_keeps 0 = .ok (.aload_n 0, 1) := dk_42 (dk_at dksX4_keeps_0 0 rfl rfl)
theorem dX4_keeps_1 : decode cX4_keeps 1 = .ok (.iload_n 1, 1) := dk_27 (dk_at dksX4_keeps_0 1 rfl rfl)
theorem dX4_keeps_2 : decode cX4_keeps 2 = .ok (.invokevirtual 181, 3) := dk_182 0 181 (dk_at dksX4_keeps_0 2 rfl rfl)
theorem dX4_keeps_5 : decode cX4_keeps 5 = .ok (.ifCond .eq 14, 3) := dk_153 0 14 (dk_at dksX4_keeps_0 5 rfl rfl)
theorem dX4_keeps_8 : decode cX4_keeps 8 = .ok (.aload_n 0, 1) := dk_42 (dk_at dksX4_keeps_0 8 rfl rfl)
theorem dX4_keeps_9 : decode cX4_keeps 9 = .ok (.getfield 19, 3) := dk_180 0 19 (dk_at dksX4_keeps_0 9 rfl rfl)
theorem dX4_keeps_12 : decode cX4_keeps 12 = .ok (.iconst 5, 1) := dk_8 (dk_at dksX4_keeps_0 12 rfl rfl)
theorem dX4_keeps_13 : decode cX4_keeps 13 = .ok (.iload_n 1, 1) := dk_27 (dk_at dksX4_keeps_0 13 rfl rfl)
theorem dX4_keeps_14 : decode cX4_keeps 14 = .ok (.iadd, 1) := dk_96 (dk_at dksX4_keeps_0 14 rfl rfl)
theorem dX4_keeps_15 : decode cX4_keeps 15 = .ok (.iaload, 1) := dk_46 (dk_at dksX4_keeps_0 15 rfl rfl)
theorem dX4_keeps_16 : decode cX4_keeps 16 = .ok (.goto 5, 3) := dk_167 0 5 (dk_at dksX4_keeps_0 16 rfl rfl)
theorem dX4_keeps_19 : decode cX4_keeps 19 = .ok (.ldc 64, 2) := dk_18 64 (dk_at dksX4_keeps_0 19 rfl rfl)
theorem dX4_keeps_21 : decode cX4_keeps 21 = .ok (.ireturn, 1) := dk_172 (dk_at dksX4_keeps_0 21 rfl rfl)
abbrev cX4_isGiver : ByteArray := prog_17_method_39_code
def yX4_isGiver : MethodName := ⟨RX4, "isGiver", "(I)Z"⟩
def dkwX4_isGiver_0 : List UInt8 := [27, 133, 9, 42, 180, 0, 19, 5, 46, 4, 100, 133, 184, 0, 54, 172]
abbrev dktX4_isGiver_0 : List UInt8 := dkwX4_isGiver_0 ++ []
theorem dksX4_isGiver_0 : cX4_isGiver.data.toList.drop 0 = dktX4_isGiver_0 := by decide +kernel
theorem dX4_isGiver_0 : decode cX4_isGiver 0 = .ok (.iload_n 1, 1) := dk_27 (dk_at dksX4_isGiver_0 0 rfl rfl)
theorem dX4_isGiver_1 : decode cX4_isGiver 1 = .ok (.i2l, 1) := dk_133 (dk_at dksX4_isGiver_0 1 rfl rfl)
theorem dX4_isGiver_2 : decode cX4_isGiver 2 = .ok (.lconst 0, 1) := dk_9 (dk_at dksX4_isGiver_0 2 rfl rfl)
theorem dX4_isGiver_3 : decode cX4_isGiver 3 = .ok (.aload_n 0, 1) := dk_42 (dk_at dksX4_isGiver_0 3 rfl rfl)
theorem dX4_isGiver_4 : decode cX4_isGiver 4 = .ok (.getfield 19, 3) := dk_180 0 19 (dk_at dksX4_isGiver_0 4 rfl rfl)
theorem dX4_isGiver_7 : decode cX4_isGiver 7 = .ok (.iconst 2, 1) := dk_5 (dk_at dksX4_isGiver_0 7 rfl rfl)
theorem dX4_isGiver_8 : decode cX4_isGiver 8 = .ok (.iaload, 1) := dk_46 (dk_at dksX4_isGiver_0 8 rfl rfl)
theorem dX4_isGiver_9 : decode cX4_isGiver 9 = .ok (.iconst 1, 1) := dk_4 (dk_at dksX4_isGiver_0 9 rfl rfl)
theorem dX4_isGiver_10 : decode cX4_isGiver 10 = .ok (.isub, 1) := dk_100 (dk_at dksX4_isGiver_0 10 rfl rfl)
theorem dX4_isGiver_11 : decode cX4_isGiver 11 = .ok (.i2l, 1) := dk_133 (dk_at dksX4_isGiver_0 11 rfl rfl)
theorem dX4_isGiver_12 : decode cX4_isGiver 12 = .ok (.invokestatic 54, 3) := dk_184 0 54 (dk_at dksX4_isGiver_0 12 rfl rfl)
theorem dX4_isGiver_15 : decode cX4_isGiver 15 = .ok (.ireturn, 1) := dk_172 (dk_at dksX4_isGiver_0 15 rfl rfl)
abbrev cX4_reads : ByteArray := prog_17_method_42_code
def yX4_reads : MethodName := ⟨RX4, "reads", "(I)I"⟩
def dkwX4_reads_1 : List UInt8 := [167, 0, 5, 18, 64, 172]
abbrev dktX4_reads_1 : List UInt8 := dkwX4_reads_1 ++ []
def dkwX4_reads_0 : List UInt8 := [42, 180, 0, 135, 154, 0, 6, 18, 168, 172, 42, 27, 182, 0, 184, 153, 0, 11, 42, 27, 182, 0, 172]
abbrev dktX4_reads_0 : List UInt8 := dkwX4_reads_0 ++ dktX4_reads_1
theorem dksX4_reads_0 : cX4_reads.data.toList.drop 0 = dktX4_reads_0 := by decide +kernel
theorem dksX4_reads_1 : cX4_reads.data.toList.drop 23 = dktX4_reads_1 := dk_seg dksX4_reads_0 23 rfl rfl
theorem dX4_reads_0 : decode cX4_reads 0 = .ok (.aload_n 0, 1) := dk_42 (dk_at dksX4_reads_0 0 rfl rfl)
theorem dX4_reads_1 : decode cX4_reads 1 = .ok (.getfield 135, 3) := dk_180 0 135 (dk_at dksX4_reads_0 1 rfl rfl)
theorem dX4_reads_4 : decode cX4_reads 4 = .ok (.ifCond .ne 6, 3) := dk_154 0 6 (dk_at dksX4_reads_0 4 rfl rfl)
theorem dX4_reads_7 : decode cX4_reads 7 = .ok (.ldc 168, 2) := dk_18 168 (dk_at dksX4_reads_0 7 rfl rfl)
theorem dX4_reads_9 : decode cX4_reads 9 = .ok (.ireturn, 1) := dk_172 (dk_at dksX4_reads_0 9 rfl rfl)
theorem dX4_reads_10 : decode cX4_reads 10 = .ok (.aload_n 0, 1) := dk_42 (dk_at dksX4_reads_0 10 rfl rfl)
theorem dX4_reads_11 : decode cX4_reads 11 = .ok (.iload_n 1, 1) := dk_27 (dk_at dksX4_reads_0 11 rfl rfl)
theorem dX4_reads_12 : decode cX4_reads 12 = .ok (.invokevirtual 184, 3) := dk_182 0 184 (dk_at dksX4_reads_0 12 rfl rfl)
theorem dX4_reads_15 : decode cX4_reads 15 = .ok (.ifCond .eq 11, 3) := dk_153 0 11 (dk_at dksX4_reads_0 15 rfl rfl)
theorem dX4_reads_18 : decode cX4_reads 18 = .ok (.aload_n 0, 1) := dk_42 (dk_at dksX4_reads_0 18 rfl rfl)
theorem dX4_reads_19 : decode cX4_reads 19 = .ok (.iload_n 1, 1) := dk_27 (dk_at dksX4_reads_0 19 rfl rfl)
theorem dX4_reads_20 : decode cX4_reads 20 = .ok (.invokevirtual 172, 3) := dk_182 0 172 (dk_at dksX4_reads_0 20 rfl rfl)
theorem dX4_reads_23 : decode cX4_reads 23 = .ok (.goto 5, 3) := dk_167 0 5 (dk_at dksX4_reads_1 0 rfl rfl)
theorem dX4_reads_26 : decode cX4_reads 26 = .ok (.ldc 64, 2) := dk_18 64 (dk_at dksX4_reads_1 3 rfl rfl)
theorem dX4_reads_28 : decode cX4_reads 28 = .ok (.ireturn, 1) := dk_172 (dk_at dksX4_reads_1 5 rfl rfl)
abbrev cX4_isSet : ByteArray := prog_17_method_41_code
def yX4_isSet : MethodName := ⟨RX4, "isSet", "(I)Z"⟩
def dkwX4_isSet_0 : List UInt8 := [27, 133, 9, 4, 42, 180, 0, 19, 6, 46, 120, 4, 100, 133, 184, 0, 54, 172]
abbrev dktX4_isSet_0 : List UInt8 := dkwX4_isSet_0 ++ []
theorem dksX4_isSet_0 : cX4_isSet.data.toList.drop 0 = dktX4_isSet_0 := by decide +kernel
theorem dX4_isSet_0 : decode cX4_isSet 0 = .ok (.iload_n 1, 1) := dk_27 (dk_at dksX4_isSet_0 0 rfl rfl)
theorem dX4_isSet_1 : decode cX4_isSet 1 = .ok (.i2l, 1) := dk_133 (dk_at dksX4_isSet_0 1 rfl rfl)
theorem dX4_isSet_2 : decode cX4_isSet 2 = .ok (.lconst 0, 1) := dk_9 (dk_at dksX4_isSet_0 2 rfl rfl)
theorem dX4_isSet_3 : decode cX4_isSet 3 = .ok (.iconst 1, 1) := dk_4 (dk_at dksX4_isSet_0 3 rfl rfl)
theorem dX4_isSet_4 : decode cX4_isSet 4 = .ok (.aload_n 0, 1) := dk_42 (dk_at dksX4_isSet_0 4 rfl rfl)
theorem dX4_isSet_5 : decode cX4_isSet 5 = .ok (.getfield 19, 3) := dk_180 0 19 (dk_at dksX4_isSet_0 5 rfl rfl)
theorem dX4_isSet_8 : decode cX4_isSet 8 = .ok (.iconst 3, 1) := dk_6 (dk_at dksX4_isSet_0 8 rfl rfl)
theorem dX4_isSet_9 : decode cX4_isSet 9 = .ok (.iaload, 1) := dk_46 (dk_at dksX4_isSet_0 9 rfl rfl)
theorem dX4_isSet_10 : decode cX4_isSet 10 = .ok (.ishl, 1) := dk_120 (dk_at dksX4_isSet_0 10 rfl rfl)
theorem dX4_isSet_11 : decode cX4_isSet 11 = .ok (.iconst 1, 1) := dk_4 (dk_at dksX4_isSet_0 11 rfl rfl)
theorem dX4_isSet_12 : decode cX4_isSet 12 = .ok (.isub, 1) := dk_100 (dk_at dksX4_isSet_0 12 rfl rfl)
theorem dX4_isSet_13 : decode cX4_isSet 13 = .ok (.i2l, 1) := dk_133 (dk_at dksX4_isSet_0 13 rfl rfl)
theorem dX4_isSet_14 : decode cX4_isSet 14 = .ok (.invokestatic 54, 3) := dk_184 0 54 (dk_at dksX4_isSet_0 14 rfl rfl)
theorem dX4_isSet_17 : decode cX4_isSet 17 = .ok (.ireturn, 1) := dk_172 (dk_at dksX4_isSet_0 17 rfl rfl)
abbrev cX4_clash : ByteArray := prog_17_method_44_code
def yX4_clash : MethodName := ⟨RX4, "clash", "(I)I"⟩
def dkwX4_clash_5 : List UInt8 := [28, 167, 0, 4, 29, 172]
abbrev dktX4_clash_5 : List UInt8 := dkwX4_clash_5 ++ []
def dkwX4_clash_4 : List UInt8 := [21, 5, 96, 167, 0, 4, 29, 62, 132, 5, 255, 167, 255, 203, 132, 4, 255, 167, 255, 182, 27, 154, 0, 7]
abbrev dktX4_clash_4 : List UInt8 := dkwX4_clash_4 ++ dktX4_clash_5
def dkwX4_clash_3 : List UInt8 := [4, 167, 0, 4, 3, 96, 61, 42, 21, 4, 21, 5, 182, 0, 188, 153, 0, 14, 16, 8, 21, 4, 104]
abbrev dktX4_clash_3 : List UInt8 := dkwX4_clash_3 ++ dktX4_clash_4
def dkwX4_clash_2 : List UInt8 := [46, 4, 100, 54, 5, 21, 5, 21, 4, 164, 0, 52, 28, 42, 21, 4, 21, 5, 182, 0, 188, 153, 0, 7]
abbrev dktX4_clash_2 : List UInt8 := dkwX4_clash_2 ++ dktX4_clash_3
def dkwX4_clash_1 : List UInt8 := [61, 18, 187, 62, 42, 180, 0, 19, 6, 46, 4, 100, 54, 4, 21, 4, 155, 0, 75, 42, 180, 0, 19, 6]
abbrev dktX4_clash_1 : List UInt8 := dkwX4_clash_1 ++ dktX4_clash_2
def dkwX4_clash_0 : List UInt8 := [42, 180, 0, 135, 154, 0, 6, 18, 168, 172, 27, 133, 9, 10, 184, 0, 54, 154, 0, 6, 18, 64, 172, 3]
abbrev dktX4_clash_0 : List UInt8 := dkwX4_clash_0 ++ dktX4_clash_1
theorem dksX4_clash_0 : cX4_clash.data.toList.drop 0 = dktX4_clash_0 := by decide +kernel
theorem dksX4_clash_1 : cX4_clash.data.toList.drop 24 = dktX4_clash_1 := dk_seg dksX4_clash_0 24 rfl rfl
theorem dksX4_clash_2 : cX4_clash.data.toList.drop 48 = dktX4_clash_2 := dk_seg dksX4_clash_1 24 rfl rfl
theorem dksX4_clash_3 : cX4_clash.data.toList.drop 72 = dktX4_clash_3 := dk_seg dksX4_clash_2 24 rfl rfl
theorem dksX4_clash_4 : cX4_clash.data.toList.drop 95 = dktX4_clash_4 := dk_seg dksX4_clash_3 23 rfl rfl
theorem dksX4_clash_5 : cX4_clash.data.toList.drop 119 = dktX4_clash_5 := dk_seg dksX4_clash_4 24 rfl rfl
theorem dX4_clash_0 : decode cX4_clash 0 = .ok (.aload_n 0, 1) := dk_42 (dk_at dksX4_clash_0 0 rfl rfl)
theorem dX4_clash_1 : decode cX4_clash 1 = .ok (.getfield 135, 3) := dk_180 0 135 (dk_at dksX4_clash_0 1 rfl rfl)
theorem dX4_clash_4 : decode cX4_clash 4 = .ok (.ifCond .ne 6, 3) := dk_154 0 6 (dk_at dksX4_clash_0 4 rfl rfl)
theorem dX4_clash_7 : decode cX4_clash 7 = .ok (.ldc 168, 2) := dk_18 168 (dk_at dksX4_clash_0 7 rfl rfl)
theorem dX4_clash_9 : decode cX4_clash 9 = .ok (.ireturn, 1) := dk_172 (dk_at dksX4_clash_0 9 rfl rfl)
theorem dX4_clash_10 : decode cX4_clash 10 = .ok (.iload_n 1, 1) := dk_27 (dk_at dksX4_clash_0 10 rfl rfl)
theorem dX4_clash_11 : decode cX4_clash 11 = .ok (.i2l, 1) := dk_133 (dk_at dksX4_clash_0 11 rfl rfl)
theorem dX4_clash_12 : decode cX4_clash 12 = .ok (.lconst 0, 1) := dk_9 (dk_at dksX4_clash_0 12 rfl rfl)
theorem dX4_clash_13 : decode cX4_clash 13 = .ok (.lconst 1, 1) := dk_10 (dk_at dksX4_clash_0 13 rfl rfl)
theorem dX4_clash_14 : decode cX4_clash 14 = .ok (.invokestatic 54, 3) := dk_184 0 54 (dk_at dksX4_clash_0 14 rfl rfl)
theorem dX4_clash_17 : decode cX4_clash 17 = .ok (.ifCond .ne 6, 3) := dk_154 0 6 (dk_at dksX4_clash_0 17 rfl rfl)
theorem dX4_clash_20 : decode cX4_clash 20 = .ok (.ldc 64, 2) := dk_18 64 (dk_at dksX4_clash_0 20 rfl rfl)
theorem dX4_clash_22 : decode cX4_clash 22 = .ok (.ireturn, 1) := dk_172 (dk_at dksX4_clash_0 22 rfl rfl)
theorem dX4_clash_23 : decode cX4_clash 23 = .ok (.iconst 0, 1) := dk_3 (dk_at dksX4_clash_0 23 rfl rfl)
theorem dX4_clash_24 : decode cX4_clash 24 = .ok (.istore_n 2, 1) := dk_61 (dk_at dksX4_clash_1 0 rfl rfl)
theorem dX4_clash_25 : decode cX4_clash 25 = .ok (.ldc 187, 2) := dk_18 187 (dk_at dksX4_clash_1 1 rfl rfl)
theorem dX4_clash_27 : decode cX4_clash 27 = .ok (.istore_n 3, 1) := dk_62 (dk_at dksX4_clash_1 3 rfl rfl)
theorem dX4_clash_28 : decode cX4_clash 28 = .ok (.aload_n 0, 1) := dk_42 (dk_at dksX4_clash_1 4 rfl rfl)
theorem dX4_clash_29 : decode cX4_clash 29 = .ok (.getfield 19, 3) := dk_180 0 19 (dk_at dksX4_clash_1 5 rfl rfl)
theorem dX4_clash_32 : decode cX4_clash 32 = .ok (.iconst 3, 1) := dk_6 (dk_at dksX4_clash_1 8 rfl rfl)
theorem dX4_clash_33 : decode cX4_clash 33 = .ok (.iaload, 1) := dk_46 (dk_at dksX4_clash_1 9 rfl rfl)
theorem dX4_clash_34 : decode cX4_clash 34 = .ok (.iconst 1, 1) := dk_4 (dk_at dksX4_clash_1 10 rfl rfl)
theorem dX4_clash_35 : decode cX4_clash 35 = .ok (.isub, 1) := dk_100 (dk_at dksX4_clash_1 11 rfl rfl)
theorem dX4_clash_36 : decode cX4_clash 36 = .ok (.istore 4, 2) := dk_54 4 (dk_at dksX4_clash_1 12 rfl rfl)
theorem dX4_clash_38 : decode cX4_clash 38 = .ok (.iload 4, 2) := dk_21 4 (dk_at dksX4_clash_1 14 rfl rfl)
theorem dX4_clash_40 : decode cX4_clash 40 = .ok (.ifCond .lt 75, 3) := dk_155 0 75 (dk_at dksX4_clash_1 16 rfl rfl)
theorem dX4_clash_43 : decode cX4_clash 43 = .ok (.aload_n 0, 1) := dk_42 (dk_at dksX4_clash_1 19 rfl rfl)
theorem dX4_clash_44 : decode cX4_clash 44 = .ok (.getfield 19, 3) := dk_180 0 19 (dk_at dksX4_clash_1 20 rfl rfl)
theorem dX4_clash_47 : decode cX4_clash 47 = .ok (.iconst 3, 1) := dk_6 (dk_at dksX4_clash_1 23 rfl rfl)
theorem dX4_clash_48 : decode cX4_clash 48 = .ok (.iaload, 1) := dk_46 (dk_at dksX4_clash_2 0 rfl rfl)
theorem dX4_clash_49 : decode cX4_clash 49 = .ok (.iconst 1, 1) := dk_4 (dk_at dksX4_clash_2 1 rfl rfl)
theorem dX4_clash_50 : decode cX4_clash 50 = .ok (.isub, 1) := dk_100 (dk_at dksX4_clash_2 2 rfl rfl)
theorem dX4_clash_51 : decode cX4_clash 51 = .ok (.istore 5, 2) := dk_54 5 (dk_at dksX4_clash_2 3 rfl rfl)
theorem dX4_clash_53 : decode cX4_clash 53 = .ok (.iload 5, 2) := dk_21 5 (dk_at dksX4_clash_2 5 rfl rfl)
theorem dX4_clash_55 : decode cX4_clash 55 = .ok (.iload 4, 2) := dk_21 4 (dk_at dksX4_clash_2 7 rfl rfl)
theorem dX4_clash_57 : decode cX4_clash 57 = .ok (.if_icmp .le 52, 3) := dk_164 0 52 (dk_at dksX4_clash_2 9 rfl rfl)
theorem dX4_clash_60 : decode cX4_clash 60 = .ok (.iload_n 2, 1) := dk_28 (dk_at dksX4_clash_2 12 rfl rfl)
theorem dX4_clash_61 : decode cX4_clash 61 = .ok (.aload_n 0, 1) := dk_42 (dk_at dksX4_clash_2 13 rfl rfl)
theorem dX4_clash_62 : decode cX4_clash 62 = .ok (.iload 4, 2) := dk_21 4 (dk_at dksX4_clash_2 14 rfl rfl)
theorem dX4_clash_64 : decode cX4_clash 64 = .ok (.iload 5, 2) := dk_21 5 (dk_at dksX4_clash_2 16 rfl rfl)
theorem dX4_clash_66 : decode cX4_clash 66 = .ok (.invokevirtual 188, 3) := dk_182 0 188 (dk_at dksX4_clash_2 18 rfl rfl)
theorem dX4_clash_69 : decode cX4_clash 69 = .ok (.ifCond .eq 7, 3) := dk_153 0 7 (dk_at dksX4_clash_2 21 rfl rfl)
theorem dX4_clash_72 : decode cX4_clash 72 = .ok (.iconst 1, 1) := dk_4 (dk_at dksX4_clash_3 0 rfl rfl)
theorem dX4_clash_73 : decode cX4_clash 73 = .ok (.goto 4, 3) := dk_167 0 4 (dk_at dksX4_clash_3 1 rfl rfl)
theorem dX4_clash_76 : decode cX4_clash 76 = .ok (.iconst 0, 1) := dk_3 (dk_at dksX4_clash_3 4 rfl rfl)
theorem dX4_clash_77 : decode cX4_clash 77 = .ok (.iadd, 1) := dk_96 (dk_at dksX4_clash_3 5 rfl rfl)
theorem dX4_clash_78 : decode cX4_clash 78 = .ok (.istore_n 2, 1) := dk_61 (dk_at dksX4_clash_3 6 rfl rfl)
theorem dX4_clash_79 : decode cX4_clash 79 = .ok (.aload_n 0, 1) := dk_42 (dk_at dksX4_clash_3 7 rfl rfl)
theorem dX4_clash_80 : decode cX4_clash 80 = .ok (.iload 4, 2) := dk_21 4 (dk_at dksX4_clash_3 8 rfl rfl)
theorem dX4_clash_82 : decode cX4_clash 82 = .ok (.iload 5, 2) := dk_21 5 (dk_at dksX4_clash_3 10 rfl rfl)
theorem dX4_clash_84 : decode cX4_clash 84 = .ok (.invokevirtual 188, 3) := dk_182 0 188 (dk_at dksX4_clash_3 12 rfl rfl)
theorem dX4_clash_87 : decode cX4_clash 87 = .ok (.ifCond .eq 14, 3) := dk_153 0 14 (dk_at dksX4_clash_3 15 rfl rfl)
theorem dX4_clash_90 : decode cX4_clash 90 = .ok (.bipush 8, 2) := dk_16 8 (dk_at dksX4_clash_3 18 rfl rfl)
theorem dX4_clash_92 : decode cX4_clash 92 = .ok (.iload 4, 2) := dk_21 4 (dk_at dksX4_clash_3 20 rfl rfl)
theorem dX4_clash_94 : decode cX4_clash 94 = .ok (.imul, 1) := dk_104 (dk_at dksX4_clash_3 22 rfl rfl)
theorem dX4_clash_95 : decode cX4_clash 95 = .ok (.iload 5, 2) := dk_21 5 (dk_at dksX4_clash_4 0 rfl rfl)
theorem dX4_clash_97 : decode cX4_clash 97 = .ok (.iadd, 1) := dk_96 (dk_at dksX4_clash_4 2 rfl rfl)
theorem dX4_clash_98 : decode cX4_clash 98 = .ok (.goto 4, 3) := dk_167 0 4 (dk_at dksX4_clash_4 3 rfl rfl)
theorem dX4_clash_101 : decode cX4_clash 101 = .ok (.iload_n 3, 1) := dk_29 (dk_at dksX4_clash_4 6 rfl rfl)
theorem dX4_clash_102 : decode cX4_clash 102 = .ok (.istore_n 3, 1) := dk_62 (dk_at dksX4_clash_4 7 rfl rfl)
theorem dX4_clash_103 : decode cX4_clash 103 = .ok (.iinc 5 (-1), 3) := dk_132 5 255 (dk_at dksX4_clash_4 8 rfl rfl)
theorem dX4_clash_106 : decode cX4_clash 106 = .ok (.goto (-53), 3) := dk_167 255 203 (dk_at dksX4_clash_4 11 rfl rfl)
theorem dX4_clash_109 : decode cX4_clash 109 = .ok (.iinc 4 (-1), 3) := dk_132 4 255 (dk_at dksX4_clash_4 14 rfl rfl)
theorem dX4_clash_112 : decode cX4_clash 112 = .ok (.goto (-74), 3) := dk_167 255 182 (dk_at dksX4_clash_4 17 rfl rfl)
theorem dX4_clash_115 : decode cX4_clash 115 = .ok (.iload_n 1, 1) := dk_27 (dk_at dksX4_clash_4 20 rfl rfl)
theorem dX4_clash_116 : decode cX4_clash 116 = .ok (.ifCond .ne 7, 3) := dk_154 0 7 (dk_at dksX4_clash_4 21 rfl rfl)
theorem dX4_clash_119 : decode cX4_clash 119 = .ok (.iload_n 2, 1) := dk_28 (dk_at dksX4_clash_5 0 rfl rfl)
theorem dX4_clash_120 : decode cX4_clash 120 = .ok (.goto 4, 3) := dk_167 0 4 (dk_at dksX4_clash_5 1 rfl rfl)
theorem dX4_clash_123 : decode cX4_clash 123 = .ok (.iload_n 3, 1) := dk_29 (dk_at dksX4_clash_5 4 rfl rfl)
theorem dX4_clash_124 : decode cX4_clash 124 = .ok (.ireturn, 1) := dk_172 (dk_at dksX4_clash_5 5 rfl rfl)
abbrev cX4_clashes : ByteArray := prog_17_method_43_code
def yX4_clashes : MethodName := ⟨RX4, "clashes", "(II)Z"⟩
def dkwX4_clashes_3 : List UInt8 := [16, 25, 28, 96, 46, 159, 0, 7, 4, 167, 0, 4, 3, 172]
abbrev dktX4_clashes_3 : List UInt8 := dkwX4_clashes_3 ++ []
def dkwX4_clashes_2 : List UInt8 := [180, 0, 19, 16, 33, 28, 96, 46, 160, 0, 28, 42, 180, 0, 19, 16, 25, 27, 96, 46, 42, 180, 0, 19]
abbrev dktX4_clashes_2 : List UInt8 := dkwX4_clashes_2 ++ dktX4_clashes_3
def dkwX4_clashes_1 : List UInt8 := [46, 42, 180, 0, 19, 16, 17, 28, 96, 46, 160, 0, 49, 42, 180, 0, 19, 16, 33, 27, 96, 46, 42]
abbrev dktX4_clashes_1 : List UInt8 := dkwX4_clashes_1 ++ dktX4_clashes_2
def dkwX4_clashes_0 : List UInt8 := [42, 27, 182, 0, 145, 153, 0, 78, 42, 28, 182, 0, 145, 153, 0, 70, 42, 180, 0, 19, 16, 17, 27, 96]
abbrev dktX4_clashes_0 : List UInt8 := dkwX4_clashes_0 ++ dktX4_clashes_1
theorem dksX4_clashes_0 : cX4_clashes.data.toList.drop 0 = dktX4_clashes_0 := by decide +kernel
theorem dksX4_clashes_1 : cX4_clashes.data.toList.drop 24 = dktX4_clashes_1 := dk_seg dksX4_clashes_0 24 rfl rfl
theorem dksX4_clashes_2 : cX4_clashes.data.toList.drop 47 = dktX4_clashes_2 := dk_seg dksX4_clashes_1 23 rfl rfl
theorem dksX4_clashes_3 : cX4_clashes.data.toList.drop 71 = dktX4_clashes_3 := dk_seg dksX4_clashes_2 24 rfl rfl
theorem dX4_clashes_0 : decode cX4_clashes 0 = .ok (.aload_n 0, 1) := dk_42 (dk_at dksX4_clashes_0 0 rfl rfl)
theorem dX4_clashes_1 : decode cX4_clashes 1 = .ok (.iload_n 1, 1) := dk_27 (dk_at dksX4_clashes_0 1 rfl rfl)
theorem dX4_clashes_2 : decode cX4_clashes 2 = .ok (.invokevirtual 145, 3) := dk_182 0 145 (dk_at dksX4_clashes_0 2 rfl rfl)
theorem dX4_clashes_5 : decode cX4_clashes 5 = .ok (.ifCond .eq 78, 3) := dk_153 0 78 (dk_at dksX4_clashes_0 5 rfl rfl)
theorem dX4_clashes_8 : decode cX4_clashes 8 = .ok (.aload_n 0, 1) := dk_42 (dk_at dksX4_clashes_0 8 rfl rfl)
theorem dX4_clashes_9 : decode cX4_clashes 9 = .ok (.iload_n 2, 1) := dk_28 (dk_at dksX4_clashes_0 9 rfl rfl)
theorem dX4_clashes_10 : decode cX4_clashes 10 = .ok (.invokevirtual 145, 3) := dk_182 0 145 (dk_at dksX4_clashes_0 10 rfl rfl)
theorem dX4_clashes_13 : decode cX4_clashes 13 = .ok (.ifCond .eq 70, 3) := dk_153 0 70 (dk_at dksX4_clashes_0 13 rfl rfl)
theorem dX4_clashes_16 : decode cX4_clashes 16 = .ok (.aload_n 0, 1) := dk_42 (dk_at dksX4_clashes_0 16 rfl rfl)
theorem dX4_clashes_17 : decode cX4_clashes 17 = .ok (.getfield 19, 3) := dk_180 0 19 (dk_at dksX4_clashes_0 17 rfl rfl)
theorem dX4_clashes_20 : decode cX4_clashes 20 = .ok (.bipush 17, 2) := dk_16 17 (dk_at dksX4_clashes_0 20 rfl rfl)
theorem dX4_clashes_22 : decode cX4_clashes 22 = .ok (.iload_n 1, 1) := dk_27 (dk_at dksX4_clashes_0 22 rfl rfl)
theorem dX4_clashes_23 : decode cX4_clashes 23 = .ok (.iadd, 1) := dk_96 (dk_at dksX4_clashes_0 23 rfl rfl)
theorem dX4_clashes_24 : decode cX4_clashes 24 = .ok (.iaload, 1) := dk_46 (dk_at dksX4_clashes_1 0 rfl rfl)
theorem dX4_clashes_25 : decode cX4_clashes 25 = .ok (.aload_n 0, 1) := dk_42 (dk_at dksX4_clashes_1 1 rfl rfl)
theorem dX4_clashes_26 : decode cX4_clashes 26 = .ok (.getfield 19, 3) := dk_180 0 19 (dk_at dksX4_clashes_1 2 rfl rfl)
theorem dX4_clashes_29 : decode cX4_clashes 29 = .ok (.bipush 17, 2) := dk_16 17 (dk_at dksX4_clashes_1 5 rfl rfl)
theorem dX4_clashes_31 : decode cX4_clashes 31 = .ok (.iload_n 2, 1) := dk_28 (dk_at dksX4_clashes_1 7 rfl rfl)
theorem dX4_clashes_32 : decode cX4_clashes 32 = .ok (.iadd, 1) := dk_96 (dk_at dksX4_clashes_1 8 rfl rfl)
theorem dX4_clashes_33 : decode cX4_clashes 33 = .ok (.iaload, 1) := dk_46 (dk_at dksX4_clashes_1 9 rfl rfl)
theorem dX4_clashes_34 : decode cX4_clashes 34 = .ok (.if_icmp .ne 49, 3) := dk_160 0 49 (dk_at dksX4_clashes_1 10 rfl rfl)
theorem dX4_clashes_37 : decode cX4_clashes 37 = .ok (.aload_n 0, 1) := dk_42 (dk_at dksX4_clashes_1 13 rfl rfl)
theorem dX4_clashes_38 : decode cX4_clashes 38 = .ok (.getfield 19, 3) := dk_180 0 19 (dk_at dksX4_clashes_1 14 rfl rfl)
theorem dX4_clashes_41 : decode cX4_clashes 41 = .ok (.bipush 33, 2) := dk_16 33 (dk_at dksX4_clashes_1 17 rfl rfl)
theorem dX4_clashes_43 : decode cX4_clashes 43 = .ok (.iload_n 1, 1) := dk_27 (dk_at dksX4_clashes_1 19 rfl rfl)
theorem dX4_clashes_44 : decode cX4_clashes 44 = .ok (.iadd, 1) := dk_96 (dk_at dksX4_clashes_1 20 rfl rfl)
theorem dX4_clashes_45 : decode cX4_clashes 45 = .ok (.iaload, 1) := dk_46 (dk_at dksX4_clashes_1 21 rfl rfl)
theorem dX4_clashes_46 : decode cX4_clashes 46 = .ok (.aload_n 0, 1) := dk_42 (dk_at dksX4_clashes_1 22 rfl rfl)
theorem dX4_clashes_47 : decode cX4_clashes 47 = .ok (.getfield 19, 3) := dk_180 0 19 (dk_at dksX4_clashes_2 0 rfl rfl)
theorem dX4_clashes_50 : decode cX4_clashes 50 = .ok (.bipush 33, 2) := dk_16 33 (dk_at dksX4_clashes_2 3 rfl rfl)
theorem dX4_clashes_52 : decode cX4_clashes 52 = .ok (.iload_n 2, 1) := dk_28 (dk_at dksX4_clashes_2 5 rfl rfl)
theorem dX4_clashes_53 : decode cX4_clashes 53 = .ok (.iadd, 1) := dk_96 (dk_at dksX4_clashes_2 6 rfl rfl)
theorem dX4_clashes_54 : decode cX4_clashes 54 = .ok (.iaload, 1) := dk_46 (dk_at dksX4_clashes_2 7 rfl rfl)
theorem dX4_clashes_55 : decode cX4_clashes 55 = .ok (.if_icmp .ne 28, 3) := dk_160 0 28 (dk_at dksX4_clashes_2 8 rfl rfl)
theorem dX4_clashes_58 : decode cX4_clashes 58 = .ok (.aload_n 0, 1) := dk_42 (dk_at dksX4_clashes_2 11 rfl rfl)
theorem dX4_clashes_59 : decode cX4_clashes 59 = .ok (.getfield 19, 3) := dk_180 0 19 (dk_at dksX4_clashes_2 12 rfl rfl)
theorem dX4_clashes_62 : decode cX4_clashes 62 = .ok (.bipush 25, 2) := dk_16 25 (dk_at dksX4_clashes_2 15 rfl rfl)
theorem dX4_clashes_64 : decode cX4_clashes 64 = .ok (.iload_n 1, 1) := dk_27 (dk_at dksX4_clashes_2 17 rfl rfl)
theorem dX4_clashes_65 : decode cX4_clashes 65 = .ok (.iadd, 1) := dk_96 (dk_at dksX4_clashes_2 18 rfl rfl)
theorem dX4_clashes_66 : decode cX4_clashes 66 = .ok (.iaload, 1) := dk_46 (dk_at dksX4_clashes_2 19 rfl rfl)
theorem dX4_clashes_67 : decode cX4_clashes 67 = .ok (.aload_n 0, 1) := dk_42 (dk_at dksX4_clashes_2 20 rfl rfl)
theorem dX4_clashes_68 : decode cX4_clashes 68 = .ok (.getfield 19, 3) := dk_180 0 19 (dk_at dksX4_clashes_2 21 rfl rfl)
theorem dX4_clashes_71 : decode cX4_clashes 71 = .ok (.bipush 25, 2) := dk_16 25 (dk_at dksX4_clashes_3 0 rfl rfl)
theorem dX4_clashes_73 : decode cX4_clashes 73 = .ok (.iload_n 2, 1) := dk_28 (dk_at dksX4_clashes_3 2 rfl rfl)
theorem dX4_clashes_74 : decode cX4_clashes 74 = .ok (.iadd, 1) := dk_96 (dk_at dksX4_clashes_3 3 rfl rfl)
theorem dX4_clashes_75 : decode cX4_clashes 75 = .ok (.iaload, 1) := dk_46 (dk_at dksX4_clashes_3 4 rfl rfl)
theorem dX4_clashes_76 : decode cX4_clashes 76 = .ok (.if_icmp .eq 7, 3) := dk_159 0 7 (dk_at dksX4_clashes_3 5 rfl rfl)
theorem dX4_clashes_79 : decode cX4_clashes 79 = .ok (.iconst 1, 1) := dk_4 (dk_at dksX4_clashes_3 8 rfl rfl)
theorem dX4_clashes_80 : decode cX4_clashes 80 = .ok (.goto 4, 3) := dk_167 0 4 (dk_at dksX4_clashes_3 9 rfl rfl)
theorem dX4_clashes_83 : decode cX4_clashes 83 = .ok (.iconst 0, 1) := dk_3 (dk_at dksX4_clashes_3 12 rfl rfl)
theorem dX4_clashes_84 : decode cX4_clashes 84 = .ok (.ireturn, 1) := dk_172 (dk_at dksX4_clashes_3 13 rfl rfl)
abbrev cX4_bags : ByteArray := prog_17_method_46_code
def yX4_bags : MethodName := ⟨RX4, "bags", "(II)I"⟩
def dkwX4_bags_5 : List UInt8 := [167, 0, 5, 21, 4, 172]
abbrev dktX4_bags_5 : List UInt8 := dkwX4_bags_5 ++ []
def dkwX4_bags_4 : List UInt8 := [162, 0, 8, 21, 5, 167, 0, 5, 21, 4, 54, 4, 132, 5, 1, 167, 255, 191, 28, 154, 0, 7, 29]
abbrev dktX4_bags_4 : List UInt8 := dkwX4_bags_4 ++ dktX4_bags_5
def dkwX4_bags_3 : List UInt8 := [182, 0, 193, 153, 0, 33, 132, 3, 1, 21, 4, 155, 0, 16, 21, 5, 184, 0, 196, 21, 4, 184, 0, 196]
abbrev dktX4_bags_3 : List UInt8 := dkwX4_bags_3 ++ dktX4_bags_4
def dkwX4_bags_2 : List UInt8 := [180, 0, 19, 6, 46, 120, 162, 0, 58, 42, 21, 5, 182, 0, 172, 27, 160, 0, 42, 42, 21, 5]
abbrev dktX4_bags_2 : List UInt8 := dkwX4_bags_2 ++ dktX4_bags_3
def dkwX4_bags_1 : List UInt8 := [9, 10, 184, 0, 54, 154, 0, 6, 18, 64, 172, 3, 62, 18, 187, 54, 4, 3, 54, 5, 21, 5, 4, 42]
abbrev dktX4_bags_1 : List UInt8 := dkwX4_bags_1 ++ dktX4_bags_2
def dkwX4_bags_0 : List UInt8 := [42, 180, 0, 135, 154, 0, 6, 18, 168, 172, 27, 133, 9, 20, 0, 191, 184, 0, 54, 153, 0, 13, 28, 133]
abbrev dktX4_bags_0 : List UInt8 := dkwX4_bags_0 ++ dktX4_bags_1
theorem dksX4_bags_0 : cX4_bags.data.toList.drop 0 = dktX4_bags_0 := by decide +kernel
theorem dksX4_bags_1 : cX4_bags.data.toList.drop 24 = dktX4_bags_1 := dk_seg dksX4_bags_0 24 rfl rfl
theorem dksX4_bags_2 : cX4_bags.data.toList.drop 48 = dktX4_bags_2 := dk_seg dksX4_bags_1 24 rfl rfl
theorem dksX4_bags_3 : cX4_bags.data.toList.drop 70 = dktX4_bags_3 := dk_seg dksX4_bags_2 22 rfl rfl
theorem dksX4_bags_4 : cX4_bags.data.toList.drop 94 = dktX4_bags_4 := dk_seg dksX4_bags_3 24 rfl rfl
theorem dksX4_bags_5 : cX4_bags.data.toList.drop 117 = dktX4_bags_5 := dk_seg dksX4_bags_4 23 rfl rfl
theorem dX4_bags_0 : decode cX4_bags 0 = .ok (.aload_n 0, 1) := dk_42 (dk_at dksX4_bags_0 0 rfl rfl)
theorem dX4_bags_1 : decode cX4_bags 1 = .ok (.getfield 135, 3) := dk_180 0 135 (dk_at dksX4_bags_0 1 rfl rfl)
theorem dX4_bags_4 : decode cX4_bags 4 = .ok (.ifCond .ne 6, 3) := dk_154 0 6 (dk_at dksX4_bags_0 4 rfl rfl)
theorem dX4_bags_7 : decode cX4_bags 7 = .ok (.ldc 168, 2) := dk_18 168 (dk_at dksX4_bags_0 7 rfl rfl)
theorem dX4_bags_9 : decode cX4_bags 9 = .ok (.ireturn, 1) := dk_172 (dk_at dksX4_bags_0 9 rfl rfl)
theorem dX4_bags_10 : decode cX4_bags 10 = .ok (.iload_n 1, 1) := dk_27 (dk_at dksX4_bags_0 10 rfl rfl)
theorem dX4_bags_11 : decode cX4_bags 11 = .ok (.i2l, 1) := dk_133 (dk_at dksX4_bags_0 11 rfl rfl)
theorem dX4_bags_12 : decode cX4_bags 12 = .ok (.lconst 0, 1) := dk_9 (dk_at dksX4_bags_0 12 rfl rfl)
theorem dX4_bags_13 : decode cX4_bags 13 = .ok (.ldc2_w 191, 3) := dk_20 0 191 (dk_at dksX4_bags_0 13 rfl rfl)
theorem dX4_bags_16 : decode cX4_bags 16 = .ok (.invokestatic 54, 3) := dk_184 0 54 (dk_at dksX4_bags_0 16 rfl rfl)
theorem dX4_bags_19 : decode cX4_bags 19 = .ok (.ifCond .eq 13, 3) := dk_153 0 13 (dk_at dksX4_bags_0 19 rfl rfl)
theorem dX4_bags_22 : decode cX4_bags 22 = .ok (.iload_n 2, 1) := dk_28 (dk_at dksX4_bags_0 22 rfl rfl)
theorem dX4_bags_23 : decode cX4_bags 23 = .ok (.i2l, 1) := dk_133 (dk_at dksX4_bags_0 23 rfl rfl)
theorem dX4_bags_24 : decode cX4_bags 24 = .ok (.lconst 0, 1) := dk_9 (dk_at dksX4_bags_1 0 rfl rfl)
theorem dX4_bags_25 : decode cX4_bags 25 = .ok (.lconst 1, 1) := dk_10 (dk_at dksX4_bags_1 1 rfl rfl)
theorem dX4_bags_26 : decode cX4_bags 26 = .ok (.invokestatic 54, 3) := dk_184 0 54 (dk_at dksX4_bags_1 2 rfl rfl)
theorem dX4_bags_29 : decode cX4_bags 29 = .ok (.ifCond .ne 6, 3) := dk_154 0 6 (dk_at dksX4_bags_1 5 rfl rfl)
theorem dX4_bags_32 : decode cX4_bags 32 = .ok (.ldc 64, 2) := dk_18 64 (dk_at dksX4_bags_1 8 rfl rfl)
theorem dX4_bags_34 : decode cX4_bags 34 = .ok (.ireturn, 1) := dk_172 (dk_at dksX4_bags_1 10 rfl rfl)
theorem dX4_bags_35 : decode cX4_bags 35 = .ok (.iconst 0, 1) := dk_3 (dk_at dksX4_bags_1 11 rfl rfl)
theorem dX4_bags_36 : decode cX4_bags 36 = .ok (.istore_n 3, 1) := dk_62 (dk_at dksX4_bags_1 12 rfl rfl)
theorem dX4_bags_37 : decode cX4_bags 37 = .ok (.ldc 187, 2) := dk_18 187 (dk_at dksX4_bags_1 13 rfl rfl)
theorem dX4_bags_39 : decode cX4_bags 39 = .ok (.istore 4, 2) := dk_54 4 (dk_at dksX4_bags_1 15 rfl rfl)
theorem dX4_bags_41 : decode cX4_bags 41 = .ok (.iconst 0, 1) := dk_3 (dk_at dksX4_bags_1 17 rfl rfl)
theorem dX4_bags_42 : decode cX4_bags 42 = .ok (.istore 5, 2) := dk_54 5 (dk_at dksX4_bags_1 18 rfl rfl)
theorem dX4_bags_44 : decode cX4_bags 44 = .ok (.iload 5, 2) := dk_21 5 (dk_at dksX4_bags_1 20 rfl rfl)
theorem dX4_bags_46 : decode cX4_bags 46 = .ok (.iconst 1, 1) := dk_4 (dk_at dksX4_bags_1 22 rfl rfl)
theorem dX4_bags_47 : decode cX4_bags 47 = .ok (.aload_n 0, 1) := dk_42 (dk_at dksX4_bags_1 23 rfl rfl)
theorem dX4_bags_48 : decode cX4_bags 48 = .ok (.getfield 19, 3) := dk_180 0 19 (dk_at dksX4_bags_2 0 rfl rfl)
theorem dX4_bags_51 : decode cX4_bags 51 = .ok (.iconst 3, 1) := dk_6 (dk_at dksX4_bags_2 3 rfl rfl)
theorem dX4_bags_52 : decode cX4_bags 52 = .ok (.iaload, 1) := dk_46 (dk_at dksX4_bags_2 4 rfl rfl)
theorem dX4_bags_53 : decode cX4_bags 53 = .ok (.ishl, 1) := dk_120 (dk_at dksX4_bags_2 5 rfl rfl)
theorem dX4_bags_54 : decode cX4_bags 54 = .ok (.if_icmp .ge 58, 3) := dk_162 0 58 (dk_at dksX4_bags_2 6 rfl rfl)
theorem dX4_bags_57 : decode cX4_bags 57 = .ok (.aload_n 0, 1) := dk_42 (dk_at dksX4_bags_2 9 rfl rfl)
theorem dX4_bags_58 : decode cX4_bags 58 = .ok (.iload 5, 2) := dk_21 5 (dk_at dksX4_bags_2 10 rfl rfl)
theorem dX4_bags_60 : decode cX4_bags 60 = .ok (.invokevirtual 172, 3) := dk_182 0 172 (dk_at dksX4_bags_2 12 rfl rfl)
theorem dX4_bags_63 : decode cX4_bags 63 = .ok (.iload_n 1, 1) := dk_27 (dk_at dksX4_bags_2 15 rfl rfl)
theorem dX4_bags_64 : decode cX4_bags 64 = .ok (.if_icmp .ne 42, 3) := dk_160 0 42 (dk_at dksX4_bags_2 16 rfl rfl)
theorem dX4_bags_67 : decode cX4_bags 67 = .ok (.aload_n 0, 1) := dk_42 (dk_at dksX4_bags_2 19 rfl rfl)
theorem dX4_bags_68 : decode cX4_bags 68 = .ok (.iload 5, 2) := dk_21 5 (dk_at dksX4_bags_2 20 rfl rfl)
theorem dX4_bags_70 : decode cX4_bags 70 = .ok (.invokevirtual 193, 3) := dk_182 0 193 (dk_at dksX4_bags_3 0 rfl rfl)
theorem dX4_bags_73 : decode cX4_bags 73 = .ok (.ifCond .eq 33, 3) := dk_153 0 33 (dk_at dksX4_bags_3 3 rfl rfl)
theorem dX4_bags_76 : decode cX4_bags 76 = .ok (.iinc 3 1, 3) := dk_132 3 1 (dk_at dksX4_bags_3 6 rfl rfl)
theorem dX4_bags_79 : decode cX4_bags 79 = .ok (.iload 4, 2) := dk_21 4 (dk_at dksX4_bags_3 9 rfl rfl)
theorem dX4_bags_81 : decode cX4_bags 81 = .ok (.ifCond .lt 16, 3) := dk_155 0 16 (dk_at dksX4_bags_3 11 rfl rfl)
theorem dX4_bags_84 : decode cX4_bags 84 = .ok (.iload 5, 2) := dk_21 5 (dk_at dksX4_bags_3 14 rfl rfl)
theorem dX4_bags_86 : decode cX4_bags 86 = .ok (.invokestatic 196, 3) := dk_184 0 196 (dk_at dksX4_bags_3 16 rfl rfl)
theorem dX4_bags_89 : decode cX4_bags 89 = .ok (.iload 4, 2) := dk_21 4 (dk_at dksX4_bags_3 19 rfl rfl)
theorem dX4_bags_91 : decode cX4_bags 91 = .ok (.invokestatic 196, 3) := dk_184 0 196 (dk_at dksX4_bags_3 21 rfl rfl)
theorem dX4_bags_94 : decode cX4_bags 94 = .ok (.if_icmp .ge 8, 3) := dk_162 0 8 (dk_at dksX4_bags_4 0 rfl rfl)
theorem dX4_bags_97 : decode cX4_bags 97 = .ok (.iload 5, 2) := dk_21 5 (dk_at dksX4_bags_4 3 rfl rfl)
theorem dX4_bags_99 : decode cX4_bags 99 = .ok (.goto 5, 3) := dk_167 0 5 (dk_at dksX4_bags_4 5 rfl rfl)
theorem dX4_bags_102 : decode cX4_bags 102 = .ok (.iload 4, 2) := dk_21 4 (dk_at dksX4_bags_4 8 rfl rfl)
theorem dX4_bags_104 : decode cX4_bags 104 = .ok (.istore 4, 2) := dk_54 4 (dk_at dksX4_bags_4 10 rfl rfl)
theorem dX4_bags_106 : decode cX4_bags 106 = .ok (.iinc 5 1, 3) := dk_132 5 1 (dk_at dksX4_bags_4 12 rfl rfl)
theorem dX4_bags_109 : decode cX4_bags 109 = .ok (.goto (-65), 3) := dk_167 255 191 (dk_at dksX4_bags_4 15 rfl rfl)
theorem dX4_bags_112 : decode cX4_bags 112 = .ok (.iload_n 2, 1) := dk_28 (dk_at dksX4_bags_4 18 rfl rfl)
theorem dX4_bags_113 : decode cX4_bags 113 = .ok (.ifCond .ne 7, 3) := dk_154 0 7 (dk_at dksX4_bags_4 19 rfl rfl)
theorem dX4_bags_116 : decode cX4_bags 116 = .ok (.iload_n 3, 1) := dk_29 (dk_at dksX4_bags_4 22 rfl rfl)
theorem dX4_bags_117 : decode cX4_bags 117 = .ok (.goto 5, 3) := dk_167 0 5 (dk_at dksX4_bags_5 0 rfl rfl)
theorem dX4_bags_120 : decode cX4_bags 120 = .ok (.iload 4, 2) := dk_21 4 (dk_at dksX4_bags_5 3 rfl rfl)
theorem dX4_bags_122 : decode cX4_bags 122 = .ok (.ireturn, 1) := dk_172 (dk_at dksX4_bags_5 5 rfl rfl)
abbrev cX4_isBag : ByteArray := prog_17_method_45_code
def yX4_isBag : MethodName := ⟨RX4, "isBag", "(I)Z"⟩
def dkwX4_isBag_4 : List UInt8 := [132, 4, 1, 167, 255, 205, 132, 3, 1, 167, 255, 158, 28, 172]
abbrev dktX4_isBag_4 : List UInt8 := dkwX4_isBag_4 ++ []
def dkwX4_isBag_3 : List UInt8 := [184, 0, 152, 153, 0, 13, 42, 29, 21, 4, 182, 0, 188, 154, 0, 7, 4, 167, 0, 4, 3, 61]
abbrev dktX4_isBag_3 : List UInt8 := dkwX4_isBag_3 ++ dktX4_isBag_4
def dkwX4_isBag_2 : List UInt8 := [42, 180, 0, 19, 6, 46, 162, 0, 46, 28, 153, 0, 34, 27, 29, 184, 0, 152, 153, 0, 22, 27, 21, 4]
abbrev dktX4_isBag_2 : List UInt8 := dkwX4_isBag_2 ++ dktX4_isBag_3
def dkwX4_isBag_1 : List UInt8 := [153, 0, 11, 42, 29, 182, 0, 145, 153, 0, 7, 4, 167, 0, 4, 3, 61, 29, 4, 96, 54, 4, 21, 4]
abbrev dktX4_isBag_1 : List UInt8 := dkwX4_isBag_1 ++ dktX4_isBag_2
def dkwX4_isBag_0 : List UInt8 := [4, 61, 3, 62, 29, 42, 180, 0, 19, 6, 46, 162, 0, 94, 28, 153, 0, 23, 27, 29, 184, 0, 152]
abbrev dktX4_isBag_0 : List UInt8 := dkwX4_isBag_0 ++ dktX4_isBag_1
theorem dksX4_isBag_0 : cX4_isBag.data.toList.drop 0 = dktX4_isBag_0 := by decide +kernel
theorem dksX4_isBag_1 : cX4_isBag.data.toList.drop 23 = dktX4_isBag_1 := dk_seg dksX4_isBag_0 23 rfl rfl
theorem dksX4_isBag_2 : cX4_isBag.data.toList.drop 47 = dktX4_isBag_2 := dk_seg dksX4_isBag_1 24 rfl rfl
theorem dksX4_isBag_3 : cX4_isBag.data.toList.drop 71 = dktX4_isBag_3 := dk_seg dksX4_isBag_2 24 rfl rfl
theorem dksX4_isBag_4 : cX4_isBag.data.toList.drop 93 = dktX4_isBag_4 := dk_seg dksX4_isBag_3 22 rfl rfl
theorem dX4_isBag_0 : decode cX4_isBag 0 = .ok (.iconst 1, 1) := dk_4 (dk_at dksX4_isBag_0 0 rfl rfl)
theorem dX4_isBag_1 : decode cX4_isBag 1 = .ok (.istore_n 2, 1) := dk_61 (dk_at dksX4_isBag_0 1 rfl rfl)
theorem dX4_isBag_2 : decode cX4_isBag 2 = .ok (.iconst 0, 1) := dk_3 (dk_at dksX4_isBag_0 2 rfl rfl)
theorem dX4_isBag_3 : decode cX4_isBag 3 = .ok (.istore_n 3, 1) := dk_62 (dk_at dksX4_isBag_0 3 rfl rfl)
theorem dX4_isBag_4 : decode cX4_isBag 4 = .ok (.iload_n 3, 1) := dk_29 (dk_at dksX4_isBag_0 4 rfl rfl)
theorem dX4_isBag_5 : decode cX4_isBag 5 = .ok (.aload_n 0, 1) := dk_42 (dk_at dksX4_isBag_0 5 rfl rfl)
theorem dX4_isBag_6 : decode cX4_isBag 6 = .ok (.getfield 19, 3) := dk_180 0 19 (dk_at dksX4_isBag_0 6 rfl rfl)
theorem dX4_isBag_9 : decode cX4_isBag 9 = .ok (.iconst 3, 1) := dk_6 (dk_at dksX4_isBag_0 9 rfl rfl)
theorem dX4_isBag_10 : decode cX4_isBag 10 = .ok (.iaload, 1) := dk_46 (dk_at dksX4_isBag_0 10 rfl rfl)
theorem dX4_isBag_11 : decode cX4_isBag 11 = .ok (.if_icmp .ge 94, 3) := dk_162 0 94 (dk_at dksX4_isBag_0 11 rfl rfl)
theorem dX4_isBag_14 : decode cX4_isBag 14 = .ok (.iload_n 2, 1) := dk_28 (dk_at dksX4_isBag_0 14 rfl rfl)
theorem dX4_isBag_15 : decode cX4_isBag 15 = .ok (.ifCond .eq 23, 3) := dk_153 0 23 (dk_at dksX4_isBag_0 15 rfl rfl)
theorem dX4_isBag_18 : decode cX4_isBag 18 = .ok (.iload_n 1, 1) := dk_27 (dk_at dksX4_isBag_0 18 rfl rfl)
theorem dX4_isBag_19 : decode cX4_isBag 19 = .ok (.iload_n 3, 1) := dk_29 (dk_at dksX4_isBag_0 19 rfl rfl)
theorem dX4_isBag_20 : decode cX4_isBag 20 = .ok (.invokestatic 152, 3) := dk_184 0 152 (dk_at dksX4_isBag_0 20 rfl rfl)
theorem dX4_isBag_23 : decode cX4_isBag 23 = .ok (.ifCond .eq 11, 3) := dk_153 0 11 (dk_at dksX4_isBag_1 0 rfl rfl)
theorem dX4_isBag_26 : decode cX4_isBag 26 = .ok (.aload_n 0, 1) := dk_42 (dk_at dksX4_isBag_1 3 rfl rfl)
theorem dX4_isBag_27 : decode cX4_isBag 27 = .ok (.iload_n 3, 1) := dk_29 (dk_at dksX4_isBag_1 4 rfl rfl)
theorem dX4_isBag_28 : decode cX4_isBag 28 = .ok (.invokevirtual 145, 3) := dk_182 0 145 (dk_at dksX4_isBag_1 5 rfl rfl)
theorem dX4_isBag_31 : decode cX4_isBag 31 = .ok (.ifCond .eq 7, 3) := dk_153 0 7 (dk_at dksX4_isBag_1 8 rfl rfl)
theorem dX4_isBag_34 : decode cX4_isBag 34 = .ok (.iconst 1, 1) := dk_4 (dk_at dksX4_isBag_1 11 rfl rfl)
theorem dX4_isBag_35 : decode cX4_isBag 35 = .ok (.goto 4, 3) := dk_167 0 4 (dk_at dksX4_isBag_1 12 rfl rfl)
theorem dX4_isBag_38 : decode cX4_isBag 38 = .ok (.iconst 0, 1) := dk_3 (dk_at dksX4_isBag_1 15 rfl rfl)
theorem dX4_isBag_39 : decode cX4_isBag 39 = .ok (.istore_n 2, 1) := dk_61 (dk_at dksX4_isBag_1 16 rfl rfl)
theorem dX4_isBag_40 : decode cX4_isBag 40 = .ok (.iload_n 3, 1) := dk_29 (dk_at dksX4_isBag_1 17 rfl rfl)
theorem dX4_isBag_41 : decode cX4_isBag 41 = .ok (.iconst 1, 1) := dk_4 (dk_at dksX4_isBag_1 18 rfl rfl)
theorem dX4_isBag_42 : decode cX4_isBag 42 = .ok (.iadd, 1) := dk_96 (dk_at dksX4_isBag_1 19 rfl rfl)
theorem dX4_isBag_43 : decode cX4_isBag 43 = .ok (.istore 4, 2) := dk_54 4 (dk_at dksX4_isBag_1 20 rfl rfl)
theorem dX4_isBag_45 : decode cX4_isBag 45 = .ok (.iload 4, 2) := dk_21 4 (dk_at dksX4_isBag_1 22 rfl rfl)
theorem dX4_isBag_47 : decode cX4_isBag 47 = .ok (.aload_n 0, 1) := dk_42 (dk_at dksX4_isBag_2 0 rfl rfl)
theorem dX4_isBag_48 : decode cX4_isBag 48 = .ok (.getfield 19, 3) := dk_180 0 19 (dk_at dksX4_isBag_2 1 rfl rfl)
theorem dX4_isBag_51 : decode cX4_isBag 51 = .ok (.iconst 3, 1) := dk_6 (dk_at dksX4_isBag_2 4 rfl rfl)
theorem dX4_isBag_52 : decode cX4_isBag 52 = .ok (.iaload, 1) := dk_46 (dk_at dksX4_isBag_2 5 rfl rfl)
theorem dX4_isBag_53 : decode cX4_isBag 53 = .ok (.if_icmp .ge 46, 3) := dk_162 0 46 (dk_at dksX4_isBag_2 6 rfl rfl)
theorem dX4_isBag_56 : decode cX4_isBag 56 = .ok (.iload_n 2, 1) := dk_28 (dk_at dksX4_isBag_2 9 rfl rfl)
theorem dX4_isBag_57 : decode cX4_isBag 57 = .ok (.ifCond .eq 34, 3) := dk_153 0 34 (dk_at dksX4_isBag_2 10 rfl rfl)
theorem dX4_isBag_60 : decode cX4_isBag 60 = .ok (.iload_n 1, 1) := dk_27 (dk_at dksX4_isBag_2 13 rfl rfl)
theorem dX4_isBag_61 : decode cX4_isBag 61 = .ok (.iload_n 3, 1) := dk_29 (dk_at dksX4_isBag_2 14 rfl rfl)
theorem dX4_isBag_62 : decode cX4_isBag 62 = .ok (.invokestatic 152, 3) := dk_184 0 152 (dk_at dksX4_isBag_2 15 rfl rfl)
theorem dX4_isBag_65 : decode cX4_isBag 65 = .ok (.ifCond .eq 22, 3) := dk_153 0 22 (dk_at dksX4_isBag_2 18 rfl rfl)
theorem dX4_isBag_68 : decode cX4_isBag 68 = .ok (.iload_n 1, 1) := dk_27 (dk_at dksX4_isBag_2 21 rfl rfl)
theorem dX4_isBag_69 : decode cX4_isBag 69 = .ok (.iload 4, 2) := dk_21 4 (dk_at dksX4_isBag_2 22 rfl rfl)
theorem dX4_isBag_71 : decode cX4_isBag 71 = .ok (.invokestatic 152, 3) := dk_184 0 152 (dk_at dksX4_isBag_3 0 rfl rfl)
theorem dX4_isBag_74 : decode cX4_isBag 74 = .ok (.ifCond .eq 13, 3) := dk_153 0 13 (dk_at dksX4_isBag_3 3 rfl rfl)
theorem dX4_isBag_77 : decode cX4_isBag 77 = .ok (.aload_n 0, 1) := dk_42 (dk_at dksX4_isBag_3 6 rfl rfl)
theorem dX4_isBag_78 : decode cX4_isBag 78 = .ok (.iload_n 3, 1) := dk_29 (dk_at dksX4_isBag_3 7 rfl rfl)
theorem dX4_isBag_79 : decode cX4_isBag 79 = .ok (.iload 4, 2) := dk_21 4 (dk_at dksX4_isBag_3 8 rfl rfl)
theorem dX4_isBag_81 : decode cX4_isBag 81 = .ok (.invokevirtual 188, 3) := dk_182 0 188 (dk_at dksX4_isBag_3 10 rfl rfl)
theorem dX4_isBag_84 : decode cX4_isBag 84 = .ok (.ifCond .ne 7, 3) := dk_154 0 7 (dk_at dksX4_isBag_3 13 rfl rfl)
theorem dX4_isBag_87 : decode cX4_isBag 87 = .ok (.iconst 1, 1) := dk_4 (dk_at dksX4_isBag_3 16 rfl rfl)
theorem dX4_isBag_88 : decode cX4_isBag 88 = .ok (.goto 4, 3) := dk_167 0 4 (dk_at dksX4_isBag_3 17 rfl rfl)
theorem dX4_isBag_91 : decode cX4_isBag 91 = .ok (.iconst 0, 1) := dk_3 (dk_at dksX4_isBag_3 20 rfl rfl)
theorem dX4_isBag_92 : decode cX4_isBag 92 = .ok (.istore_n 2, 1) := dk_61 (dk_at dksX4_isBag_3 21 rfl rfl)
theorem dX4_isBag_93 : decode cX4_isBag 93 = .ok (.iinc 4 1, 3) := dk_132 4 1 (dk_at dksX4_isBag_4 0 rfl rfl)
theorem dX4_isBag_96 : decode cX4_isBag 96 = .ok (.goto (-51), 3) := dk_167 255 205 (dk_at dksX4_isBag_4 3 rfl rfl)
theorem dX4_isBag_99 : decode cX4_isBag 99 = .ok (.iinc 3 1, 3) := dk_132 3 1 (dk_at dksX4_isBag_4 6 rfl rfl)
theorem dX4_isBag_102 : decode cX4_isBag 102 = .ok (.goto (-98), 3) := dk_167 255 158 (dk_at dksX4_isBag_4 9 rfl rfl)
theorem dX4_isBag_105 : decode cX4_isBag 105 = .ok (.iload_n 2, 1) := dk_28 (dk_at dksX4_isBag_4 12 rfl rfl)
theorem dX4_isBag_106 : decode cX4_isBag 106 = .ok (.ireturn, 1) := dk_172 (dk_at dksX4_isBag_4 13 rfl rfl)
abbrev cX4_ones : ByteArray := prog_17_method_4_code
def yX4_ones : MethodName := ⟨RX4, "ones", "(I)I"⟩
def dkwX4_ones_0 : List UInt8 := [3, 60, 26, 61, 28, 153, 0, 15, 132, 1, 1, 28, 28, 4, 100, 126, 61, 167, 255, 243, 27, 172]
abbrev dktX4_ones_0 : List UInt8 := dkwX4_ones_0 ++ []
theorem dksX4_ones_0 : cX4_ones.data.toList.drop 0 = dktX4_ones_0 := by decide +kernel
theorem dX4_ones_0 : decode cX4_ones 0 = .ok (.iconst 0, 1) := dk_3 (dk_at dksX4_ones_0 0 rfl rfl)
theorem dX4_ones_1 : decode cX4_ones 1 = .ok (.istore_n 1, 1) := dk_60 (dk_at dksX4_ones_0 1 rfl rfl)
theorem dX4_ones_2 : decode cX4_ones 2 = .ok (.iload_n 0, 1) := dk_26 (dk_at dksX4_ones_0 2 rfl rfl)
theorem dX4_ones_3 : decode cX4_ones 3 = .ok (.istore_n 2, 1) := dk_61 (dk_at dksX4_ones_0 3 rfl rfl)
theorem dX4_ones_4 : decode cX4_ones 4 = .ok (.iload_n 2, 1) := dk_28 (dk_at dksX4_ones_0 4 rfl rfl)
theorem dX4_ones_5 : decode cX4_ones 5 = .ok (.ifCond .eq 15, 3) := dk_153 0 15 (dk_at dksX4_ones_0 5 rfl rfl)
theorem dX4_ones_8 : decode cX4_ones 8 = .ok (.iinc 1 1, 3) := dk_132 1 1 (dk_at dksX4_ones_0 8 rfl rfl)
theorem dX4_ones_11 : decode cX4_ones 11 = .ok (.iload_n 2, 1) := dk_28 (dk_at dksX4_ones_0 11 rfl rfl)
theorem dX4_ones_12 : decode cX4_ones 12 = .ok (.iload_n 2, 1) := dk_28 (dk_at dksX4_ones_0 12 rfl rfl)
theorem dX4_ones_13 : decode cX4_ones 13 = .ok (.iconst 1, 1) := dk_4 (dk_at dksX4_ones_0 13 rfl rfl)
theorem dX4_ones_14 : decode cX4_ones 14 = .ok (.isub, 1) := dk_100 (dk_at dksX4_ones_0 14 rfl rfl)
theorem dX4_ones_15 : decode cX4_ones 15 = .ok (.iand, 1) := dk_126 (dk_at dksX4_ones_0 15 rfl rfl)
theorem dX4_ones_16 : decode cX4_ones 16 = .ok (.istore_n 2, 1) := dk_61 (dk_at dksX4_ones_0 16 rfl rfl)
theorem dX4_ones_17 : decode cX4_ones 17 = .ok (.goto (-13), 3) := dk_167 255 243 (dk_at dksX4_ones_0 17 rfl rfl)
theorem dX4_ones_20 : decode cX4_ones 20 = .ok (.iload_n 1, 1) := dk_27 (dk_at dksX4_ones_0 20 rfl rfl)
theorem dX4_ones_21 : decode cX4_ones 21 = .ok (.ireturn, 1) := dk_172 (dk_at dksX4_ones_0 21 rfl rfl)
abbrev cX4_heaviest : ByteArray := prog_17_method_47_code
def yX4_heaviest : MethodName := ⟨RX4, "heaviest", "(II)I"⟩
def dkwX4_heaviest_4 : List UInt8 := [21, 5, 182, 0, 172, 54, 4, 132, 5, 1, 167, 255, 200, 28, 154, 0, 8, 21, 4, 167, 0, 4, 29, 172]
abbrev dktX4_heaviest_4 : List UInt8 := dkwX4_heaviest_4 ++ []
def dkwX4_heaviest_3 : List UInt8 := [21, 5, 182, 0, 172, 21, 4, 164, 0, 23, 42, 21, 5, 182, 0, 193, 153, 0, 14, 21, 5, 62, 42]
abbrev dktX4_heaviest_3 : List UInt8 := dkwX4_heaviest_3 ++ dktX4_heaviest_4
def dkwX4_heaviest_2 : List UInt8 := [21, 5, 4, 42, 180, 0, 19, 6, 46, 120, 162, 0, 49, 21, 5, 184, 0, 196, 27, 163, 0, 34, 42]
abbrev dktX4_heaviest_2 : List UInt8 := dkwX4_heaviest_2 ++ dktX4_heaviest_3
def dkwX4_heaviest_1 : List UInt8 := [9, 10, 184, 0, 54, 154, 0, 6, 18, 64, 172, 3, 62, 42, 3, 182, 0, 172, 54, 4, 4, 54, 5]
abbrev dktX4_heaviest_1 : List UInt8 := dkwX4_heaviest_1 ++ dktX4_heaviest_2
def dkwX4_heaviest_0 : List UInt8 := [42, 180, 0, 135, 154, 0, 6, 18, 168, 172, 27, 133, 9, 20, 0, 199, 184, 0, 54, 153, 0, 13, 28, 133]
abbrev dktX4_heaviest_0 : List UInt8 := dkwX4_heaviest_0 ++ dktX4_heaviest_1
theorem dksX4_heaviest_0 : cX4_heaviest.data.toList.drop 0 = dktX4_heaviest_0 := by decide +kernel
theorem dksX4_heaviest_1 : cX4_heaviest.data.toList.drop 24 = dktX4_heaviest_1 := dk_seg dksX4_heaviest_0 24 rfl rfl
theorem dksX4_heaviest_2 : cX4_heaviest.data.toList.drop 47 = dktX4_heaviest_2 := dk_seg dksX4_heaviest_1 23 rfl rfl
theorem dksX4_heaviest_3 : cX4_heaviest.data.toList.drop 70 = dktX4_heaviest_3 := dk_seg dksX4_heaviest_2 23 rfl rfl
theorem dksX4_heaviest_4 : cX4_heaviest.data.toList.drop 93 = dktX4_heaviest_4 := dk_seg dksX4_heaviest_3 23 rfl rfl
theorem dX4_heaviest_0 : decode cX4_heaviest 0 = .ok (.aload_n 0, 1) := dk_42 (dk_at dksX4_heaviest_0 0 rfl rfl)
theorem dX4_heaviest_1 : decode cX4_heaviest 1 = .ok (.getfield 135, 3) := dk_180 0 135 (dk_at dksX4_heaviest_0 1 rfl rfl)
theorem dX4_heaviest_4 : decode cX4_heaviest 4 = .ok (.ifCond .ne 6, 3) := dk_154 0 6 (dk_at dksX4_heaviest_0 4 rfl rfl)
theorem dX4_heaviest_7 : decode cX4_heaviest 7 = .ok (.ldc 168, 2) := dk_18 168 (dk_at dksX4_heaviest_0 7 rfl rfl)
theorem dX4_heaviest_9 : decode cX4_heaviest 9 = .ok (.ireturn, 1) := dk_172 (dk_at dksX4_heaviest_0 9 rfl rfl)
theorem dX4_heaviest_10 : decode cX4_heaviest 10 = .ok (.iload_n 1, 1) := dk_27 (dk_at dksX4_heaviest_0 10 rfl rfl)
theorem dX4_heaviest_11 : decode cX4_heaviest 11 = .ok (.i2l, 1) := dk_133 (dk_at dksX4_heaviest_0 11 rfl rfl)
theorem dX4_heaviest_12 : decode cX4_heaviest 12 = .ok (.lconst 0, 1) := dk_9 (dk_at dksX4_heaviest_0 12 rfl rfl)
theorem dX4_heaviest_13 : decode cX4_heaviest 13 = .ok (.ldc2_w 199, 3) := dk_20 0 199 (dk_at dksX4_heaviest_0 13 rfl rfl)
theorem dX4_heaviest_16 : decode cX4_heaviest 16 = .ok (.invokestatic 54, 3) := dk_184 0 54 (dk_at dksX4_heaviest_0 16 rfl rfl)
theorem dX4_heaviest_19 : decode cX4_heaviest 19 = .ok (.ifCond .eq 13, 3) := dk_153 0 13 (dk_at dksX4_heaviest_0 19 rfl rfl)
theorem dX4_heaviest_22 : decode cX4_heaviest 22 = .ok (.iload_n 2, 1) := dk_28 (dk_at dksX4_heaviest_0 22 rfl rfl)
theorem dX4_heaviest_23 : decode cX4_heaviest 23 = .ok (.i2l, 1) := dk_133 (dk_at dksX4_heaviest_0 23 rfl rfl)
theorem dX4_heaviest_24 : decode cX4_heaviest 24 = .ok (.lconst 0, 1) := dk_9 (dk_at dksX4_heaviest_1 0 rfl rfl)
theorem dX4_heaviest_25 : decode cX4_heaviest 25 = .ok (.lconst 1, 1) := dk_10 (dk_at dksX4_heaviest_1 1 rfl rfl)
theorem dX4_heaviest_26 : decode cX4_heaviest 26 = .ok (.invokestatic 54, 3) := dk_184 0 54 (dk_at dksX4_heaviest_1 2 rfl rfl)
theorem dX4_heaviest_29 : decode cX4_heaviest 29 = .ok (.ifCond .ne 6, 3) := dk_154 0 6 (dk_at dksX4_heaviest_1 5 rfl rfl)
theorem dX4_heaviest_32 : decode cX4_heaviest 32 = .ok (.ldc 64, 2) := dk_18 64 (dk_at dksX4_heaviest_1 8 rfl rfl)
theorem dX4_heaviest_34 : decode cX4_heaviest 34 = .ok (.ireturn, 1) := dk_172 (dk_at dksX4_heaviest_1 10 rfl rfl)
theorem dX4_heaviest_35 : decode cX4_heaviest 35 = .ok (.iconst 0, 1) := dk_3 (dk_at dksX4_heaviest_1 11 rfl rfl)
theorem dX4_heaviest_36 : decode cX4_heaviest 36 = .ok (.istore_n 3, 1) := dk_62 (dk_at dksX4_heaviest_1 12 rfl rfl)
theorem dX4_heaviest_37 : decode cX4_heaviest 37 = .ok (.aload_n 0, 1) := dk_42 (dk_at dksX4_heaviest_1 13 rfl rfl)
theorem dX4_heaviest_38 : decode cX4_heaviest 38 = .ok (.iconst 0, 1) := dk_3 (dk_at dksX4_heaviest_1 14 rfl rfl)
theorem dX4_heaviest_39 : decode cX4_heaviest 39 = .ok (.invokevirtual 172, 3) := dk_182 0 172 (dk_at dksX4_heaviest_1 15 rfl rfl)
theorem dX4_heaviest_42 : decode cX4_heaviest 42 = .ok (.istore 4, 2) := dk_54 4 (dk_at dksX4_heaviest_1 18 rfl rfl)
theorem dX4_heaviest_44 : decode cX4_heaviest 44 = .ok (.iconst 1, 1) := dk_4 (dk_at dksX4_heaviest_1 20 rfl rfl)
theorem dX4_heaviest_45 : decode cX4_heaviest 45 = .ok (.istore 5, 2) := dk_54 5 (dk_at dksX4_heaviest_1 21 rfl rfl)
theorem dX4_heaviest_47 : decode cX4_heaviest 47 = .ok (.iload 5, 2) := dk_21 5 (dk_at dksX4_heaviest_2 0 rfl rfl)
theorem dX4_heaviest_49 : decode cX4_heaviest 49 = .ok (.iconst 1, 1) := dk_4 (dk_at dksX4_heaviest_2 2 rfl rfl)
theorem dX4_heaviest_50 : decode cX4_heaviest 50 = .ok (.aload_n 0, 1) := dk_42 (dk_at dksX4_heaviest_2 3 rfl rfl)
theorem dX4_heaviest_51 : decode cX4_heaviest 51 = .ok (.getfield 19, 3) := dk_180 0 19 (dk_at dksX4_heaviest_2 4 rfl rfl)
theorem dX4_heaviest_54 : decode cX4_heaviest 54 = .ok (.iconst 3, 1) := dk_6 (dk_at dksX4_heaviest_2 7 rfl rfl)
theorem dX4_heaviest_55 : decode cX4_heaviest 55 = .ok (.iaload, 1) := dk_46 (dk_at dksX4_heaviest_2 8 rfl rfl)
theorem dX4_heaviest_56 : decode cX4_heaviest 56 = .ok (.ishl, 1) := dk_120 (dk_at dksX4_heaviest_2 9 rfl rfl)
theorem dX4_heaviest_57 : decode cX4_heaviest 57 = .ok (.if_icmp .ge 49, 3) := dk_162 0 49 (dk_at dksX4_heaviest_2 10 rfl rfl)
theorem dX4_heaviest_60 : decode cX4_heaviest 60 = .ok (.iload 5, 2) := dk_21 5 (dk_at dksX4_heaviest_2 13 rfl rfl)
theorem dX4_heaviest_62 : decode cX4_heaviest 62 = .ok (.invokestatic 196, 3) := dk_184 0 196 (dk_at dksX4_heaviest_2 15 rfl rfl)
theorem dX4_heaviest_65 : decode cX4_heaviest 65 = .ok (.iload_n 1, 1) := dk_27 (dk_at dksX4_heaviest_2 18 rfl rfl)
theorem dX4_heaviest_66 : decode cX4_heaviest 66 = .ok (.if_icmp .gt 34, 3) := dk_163 0 34 (dk_at dksX4_heaviest_2 19 rfl rfl)
theorem dX4_heaviest_69 : decode cX4_heaviest 69 = .ok (.aload_n 0, 1) := dk_42 (dk_at dksX4_heaviest_2 22 rfl rfl)
theorem dX4_heaviest_70 : decode cX4_heaviest 70 = .ok (.iload 5, 2) := dk_21 5 (dk_at dksX4_heaviest_3 0 rfl rfl)
theorem dX4_heaviest_72 : decode cX4_heaviest 72 = .ok (.invokevirtual 172, 3) := dk_182 0 172 (dk_at dksX4_heaviest_3 2 rfl rfl)
theorem dX4_heaviest_75 : decode cX4_heaviest 75 = .ok (.iload 4, 2) := dk_21 4 (dk_at dksX4_heaviest_3 5 rfl rfl)
theorem dX4_heaviest_77 : decode cX4_heaviest 77 = .ok (.if_icmp .le 23, 3) := dk_164 0 23 (dk_at dksX4_heaviest_3 7 rfl rfl)
theorem dX4_heaviest_80 : decode cX4_heaviest 80 = .ok (.aload_n 0, 1) := dk_42 (dk_at dksX4_heaviest_3 10 rfl rfl)
theorem dX4_heaviest_81 : decode cX4_heaviest 81 = .ok (.iload 5, 2) := dk_21 5 (dk_at dksX4_heaviest_3 11 rfl rfl)
theorem dX4_heaviest_83 : decode cX4_heaviest 83 = .ok (.invokevirtual 193, 3) := dk_182 0 193 (dk_at dksX4_heaviest_3 13 rfl rfl)
theorem dX4_heaviest_86 : decode cX4_heaviest 86 = .ok (.ifCond .eq 14, 3) := dk_153 0 14 (dk_at dksX4_heaviest_3 16 rfl rfl)
theorem dX4_heaviest_89 : decode cX4_heaviest 89 = .ok (.iload 5, 2) := dk_21 5 (dk_at dksX4_heaviest_3 19 rfl rfl)
theorem dX4_heaviest_91 : decode cX4_heaviest 91 = .ok (.istore_n 3, 1) := dk_62 (dk_at dksX4_heaviest_3 21 rfl rfl)
theorem dX4_heaviest_92 : decode cX4_heaviest 92 = .ok (.aload_n 0, 1) := dk_42 (dk_at dksX4_heaviest_3 22 rfl rfl)
theorem dX4_heaviest_93 : decode cX4_heaviest 93 = .ok (.iload 5, 2) := dk_21 5 (dk_at dksX4_heaviest_4 0 rfl rfl)
theorem dX4_heaviest_95 : decode cX4_heaviest 95 = .ok (.invokevirtual 172, 3) := dk_182 0 172 (dk_at dksX4_heaviest_4 2 rfl rfl)
theorem dX4_heaviest_98 : decode cX4_heaviest 98 = .ok (.istore 4, 2) := dk_54 4 (dk_at dksX4_heaviest_4 5 rfl rfl)
theorem dX4_heaviest_100 : decode cX4_heaviest 100 = .ok (.iinc 5 1, 3) := dk_132 5 1 (dk_at dksX4_heaviest_4 7 rfl rfl)
theorem dX4_heaviest_103 : decode cX4_heaviest 103 = .ok (.goto (-56), 3) := dk_167 255 200 (dk_at dksX4_heaviest_4 10 rfl rfl)
theorem dX4_heaviest_106 : decode cX4_heaviest 106 = .ok (.iload_n 2, 1) := dk_28 (dk_at dksX4_heaviest_4 13 rfl rfl)
theorem dX4_heaviest_107 : decode cX4_heaviest 107 = .ok (.ifCond .ne 8, 3) := dk_154 0 8 (dk_at dksX4_heaviest_4 14 rfl rfl)
theorem dX4_heaviest_110 : decode cX4_heaviest 110 = .ok (.iload 4, 2) := dk_21 4 (dk_at dksX4_heaviest_4 17 rfl rfl)
theorem dX4_heaviest_112 : decode cX4_heaviest 112 = .ok (.goto 4, 3) := dk_167 0 4 (dk_at dksX4_heaviest_4 19 rfl rfl)
theorem dX4_heaviest_115 : decode cX4_heaviest 115 = .ok (.iload_n 3, 1) := dk_29 (dk_at dksX4_heaviest_4 22 rfl rfl)
theorem dX4_heaviest_116 : decode cX4_heaviest 116 = .ok (.ireturn, 1) := dk_172 (dk_at dksX4_heaviest_4 23 rfl rfl)
abbrev cX4_worded : ByteArray := prog_17_method_48_code
def yX4_worded : MethodName := ⟨RX4, "worded", "(II)I"⟩
def dkwX4_worded_4 : List UInt8 := [21, 5, 167, 0, 5, 21, 4, 54, 4, 132, 5, 1, 167, 255, 219, 21, 4, 172]
abbrev dktX4_worded_4 : List UInt8 := dkwX4_worded_4 ++ []
def dkwX4_worded_3 : List UInt8 := [8, 163, 0, 37, 42, 27, 21, 5, 29, 182, 0, 148, 42, 27, 21, 4, 29, 182, 0, 148, 164, 0, 8]
abbrev dktX4_worded_3 : List UInt8 := dkwX4_worded_3 ++ dktX4_worded_4
def dkwX4_worded_2 : List UInt8 := [182, 0, 156, 62, 28, 158, 0, 11, 42, 27, 28, 29, 182, 0, 148, 172, 4, 54, 4, 5, 54, 5, 21, 5]
abbrev dktX4_worded_2 : List UInt8 := dkwX4_worded_2 ++ dktX4_worded_3
def dkwX4_worded_1 : List UInt8 := [27, 182, 0, 145, 154, 0, 6, 18, 168, 172, 27, 154, 0, 7, 3, 167, 0, 10, 42, 27, 4, 100]
abbrev dktX4_worded_1 : List UInt8 := dkwX4_worded_1 ++ dktX4_worded_2
def dkwX4_worded_0 : List UInt8 := [42, 27, 182, 0, 165, 153, 0, 15, 28, 133, 9, 20, 0, 201, 184, 0, 54, 154, 0, 6, 18, 64, 172, 42]
abbrev dktX4_worded_0 : List UInt8 := dkwX4_worded_0 ++ dktX4_worded_1
theorem dksX4_worded_0 : cX4_worded.data.toList.drop 0 = dktX4_worded_0 := by decide +kernel
theorem dksX4_worded_1 : cX4_worded.data.toList.drop 24 = dktX4_worded_1 := dk_seg dksX4_worded_0 24 rfl rfl
theorem dksX4_worded_2 : cX4_worded.data.toList.drop 46 = dktX4_worded_2 := dk_seg dksX4_worded_1 22 rfl rfl
theorem dksX4_worded_3 : cX4_worded.data.toList.drop 70 = dktX4_worded_3 := dk_seg dksX4_worded_2 24 rfl rfl
theorem dksX4_worded_4 : cX4_worded.data.toList.drop 93 = dktX4_worded_4 := dk_seg dksX4_worded_3 23 rfl rfl
theorem dX4_worded_0 : decode cX4_worded 0 = .ok (.aload_n 0, 1) := dk_42 (dk_at dksX4_worded_0 0 rfl rfl)
theorem dX4_worded_1 : decode cX4_worded 1 = .ok (.iload_n 1, 1) := dk_27 (dk_at dksX4_worded_0 1 rfl rfl)
theorem dX4_worded_2 : decode cX4_worded 2 = .ok (.invokevirtual 165, 3) := dk_182 0 165 (dk_at dksX4_worded_0 2 rfl rfl)
theorem dX4_worded_5 : decode cX4_worded 5 = .ok (.ifCond .eq 15, 3) := dk_153 0 15 (dk_at dksX4_worded_0 5 rfl rfl)
theorem dX4_worded_8 : decode cX4_worded 8 = .ok (.iload_n 2, 1) := dk_28 (dk_at dksX4_worded_0 8 rfl rfl)
theorem dX4_worded_9 : decode cX4_worded 9 = .ok (.i2l, 1) := dk_133 (dk_at dksX4_worded_0 9 rfl rfl)
theorem dX4_worded_10 : decode cX4_worded 10 = .ok (.lconst 0, 1) := dk_9 (dk_at dksX4_worded_0 10 rfl rfl)
theorem dX4_worded_11 : decode cX4_worded 11 = .ok (.ldc2_w 201, 3) := dk_20 0 201 (dk_at dksX4_worded_0 11 rfl rfl)
theorem dX4_worded_14 : decode cX4_worded 14 = .ok (.invokestatic 54, 3) := dk_184 0 54 (dk_at dksX4_worded_0 14 rfl rfl)
theorem dX4_worded_17 : decode cX4_worded 17 = .ok (.ifCond .ne 6, 3) := dk_154 0 6 (dk_at dksX4_worded_0 17 rfl rfl)
theorem dX4_worded_20 : decode cX4_worded 20 = .ok (.ldc 64, 2) := dk_18 64 (dk_at dksX4_worded_0 20 rfl rfl)
theorem dX4_worded_22 : decode cX4_worded 22 = .ok (.ireturn, 1) := dk_172 (dk_at dksX4_worded_0 22 rfl rfl)
theorem dX4_worded_23 : decode cX4_worded 23 = .ok (.aload_n 0, 1) := dk_42 (dk_at dksX4_worded_0 23 rfl rfl)
theorem dX4_worded_24 : decode cX4_worded 24 = .ok (.iload_n 1, 1) := dk_27 (dk_at dksX4_worded_1 0 rfl rfl)
theorem dX4_worded_25 : decode cX4_worded 25 = .ok (.invokevirtual 145, 3) := dk_182 0 145 (dk_at dksX4_worded_1 1 rfl rfl)
theorem dX4_worded_28 : decode cX4_worded 28 = .ok (.ifCond .ne 6, 3) := dk_154 0 6 (dk_at dksX4_worded_1 4 rfl rfl)
theorem dX4_worded_31 : decode cX4_worded 31 = .ok (.ldc 168, 2) := dk_18 168 (dk_at dksX4_worded_1 7 rfl rfl)
theorem dX4_worded_33 : decode cX4_worded 33 = .ok (.ireturn, 1) := dk_172 (dk_at dksX4_worded_1 9 rfl rfl)
theorem dX4_worded_34 : decode cX4_worded 34 = .ok (.iload_n 1, 1) := dk_27 (dk_at dksX4_worded_1 10 rfl rfl)
theorem dX4_worded_35 : decode cX4_worded 35 = .ok (.ifCond .ne 7, 3) := dk_154 0 7 (dk_at dksX4_worded_1 11 rfl rfl)
theorem dX4_worded_38 : decode cX4_worded 38 = .ok (.iconst 0, 1) := dk_3 (dk_at dksX4_worded_1 14 rfl rfl)
theorem dX4_worded_39 : decode cX4_worded 39 = .ok (.goto 10, 3) := dk_167 0 10 (dk_at dksX4_worded_1 15 rfl rfl)
theorem dX4_worded_42 : decode cX4_worded 42 = .ok (.aload_n 0, 1) := dk_42 (dk_at dksX4_worded_1 18 rfl rfl)
theorem dX4_worded_43 : decode cX4_worded 43 = .ok (.iload_n 1, 1) := dk_27 (dk_at dksX4_worded_1 19 rfl rfl)
theorem dX4_worded_44 : decode cX4_worded 44 = .ok (.iconst 1, 1) := dk_4 (dk_at dksX4_worded_1 20 rfl rfl)
theorem dX4_worded_45 : decode cX4_worded 45 = .ok (.isub, 1) := dk_100 (dk_at dksX4_worded_1 21 rfl rfl)
theorem dX4_worded_46 : decode cX4_worded 46 = .ok (.invokevirtual 156, 3) := dk_182 0 156 (dk_at dksX4_worded_2 0 rfl rfl)
theorem dX4_worded_49 : decode cX4_worded 49 = .ok (.istore_n 3, 1) := dk_62 (dk_at dksX4_worded_2 3 rfl rfl)
theorem dX4_worded_50 : decode cX4_worded 50 = .ok (.iload_n 2, 1) := dk_28 (dk_at dksX4_worded_2 4 rfl rfl)
theorem dX4_worded_51 : decode cX4_worded 51 = .ok (.ifCond .le 11, 3) := dk_158 0 11 (dk_at dksX4_worded_2 5 rfl rfl)
theorem dX4_worded_54 : decode cX4_worded 54 = .ok (.aload_n 0, 1) := dk_42 (dk_at dksX4_worded_2 8 rfl rfl)
theorem dX4_worded_55 : decode cX4_worded 55 = .ok (.iload_n 1, 1) := dk_27 (dk_at dksX4_worded_2 9 rfl rfl)
theorem dX4_worded_56 : decode cX4_worded 56 = .ok (.iload_n 2, 1) := dk_28 (dk_at dksX4_worded_2 10 rfl rfl)
theorem dX4_worded_57 : decode cX4_worded 57 = .ok (.iload_n 3, 1) := dk_29 (dk_at dksX4_worded_2 11 rfl rfl)
theorem dX4_worded_58 : decode cX4_worded 58 = .ok (.invokevirtual 148, 3) := dk_182 0 148 (dk_at dksX4_worded_2 12 rfl rfl)
theorem dX4_worded_61 : decode cX4_worded 61 = .ok (.ireturn, 1) := dk_172 (dk_at dksX4_worded_2 15 rfl rfl)
theorem dX4_worded_62 : decode cX4_worded 62 = .ok (.iconst 1, 1) := dk_4 (dk_at dksX4_worded_2 16 rfl rfl)
theorem dX4_worded_63 : decode cX4_worded 63 = .ok (.istore 4, 2) := dk_54 4 (dk_at dksX4_worded_2 17 rfl rfl)
theorem dX4_worded_65 : decode cX4_worded 65 = .ok (.iconst 2, 1) := dk_5 (dk_at dksX4_worded_2 19 rfl rfl)
theorem dX4_worded_66 : decode cX4_worded 66 = .ok (.istore 5, 2) := dk_54 5 (dk_at dksX4_worded_2 20 rfl rfl)
theorem dX4_worded_68 : decode cX4_worded 68 = .ok (.iload 5, 2) := dk_21 5 (dk_at dksX4_worded_2 22 rfl rfl)
theorem dX4_worded_70 : decode cX4_worded 70 = .ok (.iconst 5, 1) := dk_8 (dk_at dksX4_worded_3 0 rfl rfl)
theorem dX4_worded_71 : decode cX4_worded 71 = .ok (.if_icmp .gt 37, 3) := dk_163 0 37 (dk_at dksX4_worded_3 1 rfl rfl)
theorem dX4_worded_74 : decode cX4_worded 74 = .ok (.aload_n 0, 1) := dk_42 (dk_at dksX4_worded_3 4 rfl rfl)
theorem dX4_worded_75 : decode cX4_worded 75 = .ok (.iload_n 1, 1) := dk_27 (dk_at dksX4_worded_3 5 rfl rfl)
theorem dX4_worded_76 : decode cX4_worded 76 = .ok (.iload 5, 2) := dk_21 5 (dk_at dksX4_worded_3 6 rfl rfl)
theorem dX4_worded_78 : decode cX4_worded 78 = .ok (.iload_n 3, 1) := dk_29 (dk_at dksX4_worded_3 8 rfl rfl)
theorem dX4_worded_79 : decode cX4_worded 79 = .ok (.invokevirtual 148, 3) := dk_182 0 148 (dk_at dksX4_worded_3 9 rfl rfl)
theorem dX4_worded_82 : decode cX4_worded 82 = .ok (.aload_n 0, 1) := dk_42 (dk_at dksX4_worded_3 12 rfl rfl)
theorem dX4_worded_83 : decode cX4_worded 83 = .ok (.iload_n 1, 1) := dk_27 (dk_at dksX4_worded_3 13 rfl rfl)
theorem dX4_worded_84 : decode cX4_worded 84 = .ok (.iload 4, 2) := dk_21 4 (dk_at dksX4_worded_3 14 rfl rfl)
theorem dX4_worded_86 : decode cX4_worded 86 = .ok (.iload_n 3, 1) := dk_29 (dk_at dksX4_worded_3 16 rfl rfl)
theorem dX4_worded_87 : decode cX4_worded 87 = .ok (.invokevirtual 148, 3) := dk_182 0 148 (dk_at dksX4_worded_3 17 rfl rfl)
theorem dX4_worded_90 : decode cX4_worded 90 = .ok (.if_icmp .le 8, 3) := dk_164 0 8 (dk_at dksX4_worded_3 20 rfl rfl)
theorem dX4_worded_93 : decode cX4_worded 93 = .ok (.iload 5, 2) := dk_21 5 (dk_at dksX4_worded_4 0 rfl rfl)
theorem dX4_worded_95 : decode cX4_worded 95 = .ok (.goto 5, 3) := dk_167 0 5 (dk_at dksX4_worded_4 2 rfl rfl)
theorem dX4_worded_98 : decode cX4_worded 98 = .ok (.iload 4, 2) := dk_21 4 (dk_at dksX4_worded_4 5 rfl rfl)
theorem dX4_worded_100 : decode cX4_worded 100 = .ok (.istore 4, 2) := dk_54 4 (dk_at dksX4_worded_4 7 rfl rfl)
theorem dX4_worded_102 : decode cX4_worded 102 = .ok (.iinc 5 1, 3) := dk_132 5 1 (dk_at dksX4_worded_4 9 rfl rfl)
theorem dX4_worded_105 : decode cX4_worded 105 = .ok (.goto (-37), 3) := dk_167 255 219 (dk_at dksX4_worded_4 12 rfl rfl)
theorem dX4_worded_108 : decode cX4_worded 108 = .ok (.iload 4, 2) := dk_21 4 (dk_at dksX4_worded_4 15 rfl rfl)
theorem dX4_worded_110 : decode cX4_worded 110 = .ok (.ireturn, 1) := dk_172 (dk_at dksX4_worded_4 17 rfl rfl)
abbrev cX4_price : ByteArray := prog_17_method_49_code
def yX4_price : MethodName := ⟨RX4, "price", "(II)I"⟩
def dkwX4_price_1 : List UInt8 := [182, 0, 156, 104, 16, 20, 108, 167, 0, 5, 18, 64, 172]
abbrev dktX4_price_1 : List UInt8 := dkwX4_price_1 ++ []
def dkwX4_price_0 : List UInt8 := [42, 27, 182, 0, 165, 153, 0, 28, 28, 133, 9, 20, 0, 203, 184, 0, 54, 153, 0, 16, 28, 42, 27]
abbrev dktX4_price_0 : List UInt8 := dkwX4_price_0 ++ dktX4_price_1
theorem dksX4_price_0 : cX4_price.data.toList.drop 0 = dktX4_price_0 := by decide +kernel
theorem dksX4_price_1 : cX4_price.data.toList.drop 23 = dktX4_price_1 := dk_seg dksX4_price_0 23 rfl rfl
theorem dX4_price_0 : decode cX4_price 0 = .ok (.aload_n 0, 1) := dk_42 (dk_at dksX4_price_0 0 rfl rfl)
theorem dX4_price_1 : decode cX4_price 1 = .ok (.iload_n 1, 1) := dk_27 (dk_at dksX4_price_0 1 rfl rfl)
theorem dX4_price_2 : decode cX4_price 2 = .ok (.invokevirtual 165, 3) := dk_182 0 165 (dk_at dksX4_price_0 2 rfl rfl)
theorem dX4_price_5 : decode cX4_price 5 = .ok (.ifCond .eq 28, 3) := dk_153 0 28 (dk_at dksX4_price_0 5 rfl rfl)
theorem dX4_price_8 : decode cX4_price 8 = .ok (.iload_n 2, 1) := dk_28 (dk_at dksX4_price_0 8 rfl rfl)
theorem dX4_price_9 : decode cX4_price 9 = .ok (.i2l, 1) := dk_133 (dk_at dksX4_price_0 9 rfl rfl)
theorem dX4_price_10 : decode cX4_price 10 = .ok (.lconst 0, 1) := dk_9 (dk_at dksX4_price_0 10 rfl rfl)
theorem dX4_price_11 : decode cX4_price 11 = .ok (.ldc2_w 203, 3) := dk_20 0 203 (dk_at dksX4_price_0 11 rfl rfl)
theorem dX4_price_14 : decode cX4_price 14 = .ok (.invokestatic 54, 3) := dk_184 0 54 (dk_at dksX4_price_0 14 rfl rfl)
theorem dX4_price_17 : decode cX4_price 17 = .ok (.ifCond .eq 16, 3) := dk_153 0 16 (dk_at dksX4_price_0 17 rfl rfl)
theorem dX4_price_20 : decode cX4_price 20 = .ok (.iload_n 2, 1) := dk_28 (dk_at dksX4_price_0 20 rfl rfl)
theorem dX4_price_21 : decode cX4_price 21 = .ok (.aload_n 0, 1) := dk_42 (dk_at dksX4_price_0 21 rfl rfl)
theorem dX4_price_22 : decode cX4_price 22 = .ok (.iload_n 1, 1) := dk_27 (dk_at dksX4_price_0 22 rfl rfl)
theorem dX4_price_23 : decode cX4_price 23 = .ok (.invokevirtual 156, 3) := dk_182 0 156 (dk_at dksX4_price_1 0 rfl rfl)
theorem dX4_price_26 : decode cX4_price 26 = .ok (.imul, 1) := dk_104 (dk_at dksX4_price_1 3 rfl rfl)
theorem dX4_price_27 : decode cX4_price 27 = .ok (.bipush 20, 2) := dk_16 20 (dk_at dksX4_price_1 4 rfl rfl)
theorem dX4_price_29 : decode cX4_price 29 = .ok (.idiv, 1) := dk_108 (dk_at dksX4_price_1 6 rfl rfl)
theorem dX4_price_30 : decode cX4_price 30 = .ok (.goto 5, 3) := dk_167 0 5 (dk_at dksX4_price_1 7 rfl rfl)
theorem dX4_price_33 : decode cX4_price 33 = .ok (.ldc 64, 2) := dk_18 64 (dk_at dksX4_price_1 10 rfl rfl)
theorem dX4_price_35 : decode cX4_price 35 = .ok (.ireturn, 1) := dk_172 (dk_at dksX4_price_1 12 rfl rfl)
abbrev cX4_prices : ByteArray := prog_17_method_50_code
def yX4_prices : MethodName := ⟨RX4, "prices", "(II)I"⟩
def dkwX4_prices_3 : List UInt8 := [104, 16, 20, 108, 167, 0, 4, 3, 96, 62, 132, 4, 1, 167, 255, 201, 29, 172]
abbrev dktX4_prices_3 : List UInt8 := dkwX4_prices_3 ++ []
def dkwX4_prices_2 : List UInt8 := [153, 0, 31, 42, 180, 0, 19, 16, 17, 21, 4, 96, 46, 27, 160, 0, 17, 28, 42, 21, 4, 182, 0, 156]
abbrev dktX4_prices_2 : List UInt8 := dkwX4_prices_2 ++ dktX4_prices_3
def dkwX4_prices_1 : List UInt8 := [62, 3, 54, 4, 21, 4, 42, 180, 0, 19, 6, 46, 162, 0, 50, 29, 42, 21, 4, 182, 0, 145]
abbrev dktX4_prices_1 : List UInt8 := dkwX4_prices_1 ++ dktX4_prices_2
def dkwX4_prices_0 : List UInt8 := [42, 27, 182, 0, 181, 153, 0, 15, 28, 133, 9, 20, 0, 203, 184, 0, 54, 154, 0, 6, 18, 64, 172, 3]
abbrev dktX4_prices_0 : List UInt8 := dkwX4_prices_0 ++ dktX4_prices_1
theorem dksX4_prices_0 : cX4_prices.data.toList.drop 0 = dktX4_prices_0 := by decide +kernel
theorem dksX4_prices_1 : cX4_prices.data.toList.drop 24 = dktX4_prices_1 := dk_seg dksX4_prices_0 24 rfl rfl
theorem dksX4_prices_2 : cX4_prices.data.toList.drop 46 = dktX4_prices_2 := dk_seg dksX4_prices_1 22 rfl rfl
theorem dksX4_prices_3 : cX4_prices.data.toList.drop 70 = dktX4_prices_3 := dk_seg dksX4_prices_2 24 rfl rfl
theorem dX4_prices_0 : decode cX4_prices 0 = .ok (.aload_n 0, 1) := dk_42 (dk_at dksX4_prices_0 0 rfl rfl)
theorem dX4_prices_1 : decode cX4_prices 1 = .ok (.iload_n 1, 1) := dk_27 (dk_at dksX4_prices_0 1 rfl rfl)
theorem dX4_prices_2 : decode cX4_prices 2 = .ok (.invokevirtual 181, 3) := dk_182 0 181 (dk_at dksX4_prices_0 2 rfl rfl)
theorem dX4_prices_5 : decode cX4_prices 5 = .ok (.ifCond .eq 15, 3) := dk_153 0 15 (dk_at dksX4_prices_0 5 rfl rfl)
theorem dX4_prices_8 : decode cX4_prices 8 = .ok (.iload_n 2, 1) := dk_28 (dk_at dksX4_prices_0 8 rfl rfl)
theorem dX4_prices_9 : decode cX4_prices 9 = .ok (.i2l, 1) := dk_133 (dk_at dksX4_prices_0 9 rfl rfl)
theorem dX4_prices_10 : decode cX4_prices 10 = .ok (.lconst 0, 1) := dk_9 (dk_at dksX4_prices_0 10 rfl rfl)
theorem dX4_prices_11 : decode cX4_prices 11 = .ok (.ldc2_w 203, 3) := dk_20 0 203 (dk_at dksX4_prices_0 11 rfl rfl)
theorem dX4_prices_14 : decode cX4_prices 14 = .ok (.invokestatic 54, 3) := dk_184 0 54 (dk_at dksX4_prices_0 14 rfl rfl)
theorem dX4_prices_17 : decode cX4_prices 17 = .ok (.ifCond .ne 6, 3) := dk_154 0 6 (dk_at dksX4_prices_0 17 rfl rfl)
theorem dX4_prices_20 : decode cX4_prices 20 = .ok (.ldc 64, 2) := dk_18 64 (dk_at dksX4_prices_0 20 rfl rfl)
theorem dX4_prices_22 : decode cX4_prices 22 = .ok (.ireturn, 1) := dk_172 (dk_at dksX4_prices_0 22 rfl rfl)
theorem dX4_prices_23 : decode cX4_prices 23 = .ok (.iconst 0, 1) := dk_3 (dk_at dksX4_prices_0 23 rfl rfl)
theorem dX4_prices_24 : decode cX4_prices 24 = .ok (.istore_n 3, 1) := dk_62 (dk_at dksX4_prices_1 0 rfl rfl)
theorem dX4_prices_25 : decode cX4_prices 25 = .ok (.iconst 0, 1) := dk_3 (dk_at dksX4_prices_1 1 rfl rfl)
theorem dX4_prices_26 : decode cX4_prices 26 = .ok (.istore 4, 2) := dk_54 4 (dk_at dksX4_prices_1 2 rfl rfl)
theorem dX4_prices_28 : decode cX4_prices 28 = .ok (.iload 4, 2) := dk_21 4 (dk_at dksX4_prices_1 4 rfl rfl)
theorem dX4_prices_30 : decode cX4_prices 30 = .ok (.aload_n 0, 1) := dk_42 (dk_at dksX4_prices_1 6 rfl rfl)
theorem dX4_prices_31 : decode cX4_prices 31 = .ok (.getfield 19, 3) := dk_180 0 19 (dk_at dksX4_prices_1 7 rfl rfl)
theorem dX4_prices_34 : decode cX4_prices 34 = .ok (.iconst 3, 1) := dk_6 (dk_at dksX4_prices_1 10 rfl rfl)
theorem dX4_prices_35 : decode cX4_prices 35 = .ok (.iaload, 1) := dk_46 (dk_at dksX4_prices_1 11 rfl rfl)
theorem dX4_prices_36 : decode cX4_prices 36 = .ok (.if_icmp .ge 50, 3) := dk_162 0 50 (dk_at dksX4_prices_1 12 rfl rfl)
theorem dX4_prices_39 : decode cX4_prices 39 = .ok (.iload_n 3, 1) := dk_29 (dk_at dksX4_prices_1 15 rfl rfl)
theorem dX4_prices_40 : decode cX4_prices 40 = .ok (.aload_n 0, 1) := dk_42 (dk_at dksX4_prices_1 16 rfl rfl)
theorem dX4_prices_41 : decode cX4_prices 41 = .ok (.iload 4, 2) := dk_21 4 (dk_at dksX4_prices_1 17 rfl rfl)
theorem dX4_prices_43 : decode cX4_prices 43 = .ok (.invokevirtual 145, 3) := dk_182 0 145 (dk_at dksX4_prices_1 19 rfl rfl)
theorem dX4_prices_46 : decode cX4_prices 46 = .ok (.ifCond .eq 31, 3) := dk_153 0 31 (dk_at dksX4_prices_2 0 rfl rfl)
theorem dX4_prices_49 : decode cX4_prices 49 = .ok (.aload_n 0, 1) := dk_42 (dk_at dksX4_prices_2 3 rfl rfl)
theorem dX4_prices_50 : decode cX4_prices 50 = .ok (.getfield 19, 3) := dk_180 0 19 (dk_at dksX4_prices_2 4 rfl rfl)
theorem dX4_prices_53 : decode cX4_prices 53 = .ok (.bipush 17, 2) := dk_16 17 (dk_at dksX4_prices_2 7 rfl rfl)
theorem dX4_prices_55 : decode cX4_prices 55 = .ok (.iload 4, 2) := dk_21 4 (dk_at dksX4_prices_2 9 rfl rfl)
theorem dX4_prices_57 : decode cX4_prices 57 = .ok (.iadd, 1) := dk_96 (dk_at dksX4_prices_2 11 rfl rfl)
theorem dX4_prices_58 : decode cX4_prices 58 = .ok (.iaload, 1) := dk_46 (dk_at dksX4_prices_2 12 rfl rfl)
theorem dX4_prices_59 : decode cX4_prices 59 = .ok (.iload_n 1, 1) := dk_27 (dk_at dksX4_prices_2 13 rfl rfl)
theorem dX4_prices_60 : decode cX4_prices 60 = .ok (.if_icmp .ne 17, 3) := dk_160 0 17 (dk_at dksX4_prices_2 14 rfl rfl)
theorem dX4_prices_63 : decode cX4_prices 63 = .ok (.iload_n 2, 1) := dk_28 (dk_at dksX4_prices_2 17 rfl rfl)
theorem dX4_prices_64 : decode cX4_prices 64 = .ok (.aload_n 0, 1) := dk_42 (dk_at dksX4_prices_2 18 rfl rfl)
theorem dX4_prices_65 : decode cX4_prices 65 = .ok (.iload 4, 2) := dk_21 4 (dk_at dksX4_prices_2 19 rfl rfl)
theorem dX4_prices_67 : decode cX4_prices 67 = .ok (.invokevirtual 156, 3) := dk_182 0 156 (dk_at dksX4_prices_2 21 rfl rfl)
theorem dX4_prices_70 : decode cX4_prices 70 = .ok (.imul, 1) := dk_104 (dk_at dksX4_prices_3 0 rfl rfl)
theorem dX4_prices_71 : decode cX4_prices 71 = .ok (.bipush 20, 2) := dk_16 20 (dk_at dksX4_prices_3 1 rfl rfl)
theorem dX4_prices_73 : decode cX4_prices 73 = .ok (.idiv, 1) := dk_108 (dk_at dksX4_prices_3 3 rfl rfl)
theorem dX4_prices_74 : decode cX4_prices 74 = .ok (.goto 4, 3) := dk_167 0 4 (dk_at dksX4_prices_3 4 rfl rfl)
theorem dX4_prices_77 : decode cX4_prices 77 = .ok (.iconst 0, 1) := dk_3 (dk_at dksX4_prices_3 7 rfl rfl)
theorem dX4_prices_78 : decode cX4_prices 78 = .ok (.iadd, 1) := dk_96 (dk_at dksX4_prices_3 8 rfl rfl)
theorem dX4_prices_79 : decode cX4_prices 79 = .ok (.istore_n 3, 1) := dk_62 (dk_at dksX4_prices_3 9 rfl rfl)
theorem dX4_prices_80 : decode cX4_prices 80 = .ok (.iinc 4 1, 3) := dk_132 4 1 (dk_at dksX4_prices_3 10 rfl rfl)
theorem dX4_prices_83 : decode cX4_prices 83 = .ok (.goto (-55), 3) := dk_167 255 201 (dk_at dksX4_prices_3 13 rfl rfl)
theorem dX4_prices_86 : decode cX4_prices 86 = .ok (.iload_n 3, 1) := dk_29 (dk_at dksX4_prices_3 16 rfl rfl)
theorem dX4_prices_87 : decode cX4_prices 87 = .ok (.ireturn, 1) := dk_172 (dk_at dksX4_prices_3 17 rfl rfl)
abbrev cX4_settles : ByteArray := prog_17_method_52_code
def yX4_settles : MethodName := ⟨RX4, "settles", "(III)I"⟩
def dkwX4_settles_2 : List UInt8 := [167, 0, 7, 42, 180, 0, 205, 172]
abbrev dktX4_settles_2 : List UInt8 := dkwX4_settles_2 ++ []
def dkwX4_settles_1 : List UInt8 := [184, 0, 54, 154, 0, 6, 18, 64, 172, 42, 27, 28, 182, 0, 210, 54, 4, 29, 154, 0, 8, 21, 4]
abbrev dktX4_settles_1 : List UInt8 := dkwX4_settles_1 ++ dktX4_settles_2
def dkwX4_settles_0 : List UInt8 := [42, 27, 182, 0, 181, 153, 0, 25, 28, 133, 9, 20, 0, 208, 184, 0, 54, 153, 0, 13, 29, 133, 9, 10]
abbrev dktX4_settles_0 : List UInt8 := dkwX4_settles_0 ++ dktX4_settles_1
theorem dksX4_settles_0 : cX4_settles.data.toList.drop 0 = dktX4_settles_0 := by decide +kernel
theorem dksX4_settles_1 : cX4_settles.data.toList.drop 24 = dktX4_settles_1 := dk_seg dksX4_settles_0 24 rfl rfl
theorem dksX4_settles_2 : cX4_settles.data.toList.drop 47 = dktX4_settles_2 := dk_seg dksX4_settles_1 23 rfl rfl
theorem dX4_settles_0 : decode cX4_settles 0 = .ok (.aload_n 0, 1) := dk_42 (dk_at dksX4_settles_0 0 rfl rfl)
theorem dX4_settles_1 : decode cX4_settles 1 = .ok (.iload_n 1, 1) := dk_27 (dk_at dksX4_settles_0 1 rfl rfl)
theorem dX4_settles_2 : decode cX4_settles 2 = .ok (.invokevirtual 181, 3) := dk_182 0 181 (dk_at dksX4_settles_0 2 rfl rfl)
theorem dX4_settles_5 : decode cX4_settles 5 = .ok (.ifCond .eq 25, 3) := dk_153 0 25 (dk_at dksX4_settles_0 5 rfl rfl)
theorem dX4_settles_8 : decode cX4_settles 8 = .ok (.iload_n 2, 1) := dk_28 (dk_at dksX4_settles_0 8 rfl rfl)
theorem dX4_settles_9 : decode cX4_settles 9 = .ok (.i2l, 1) := dk_133 (dk_at dksX4_settles_0 9 rfl rfl)
theorem dX4_settles_10 : decode cX4_settles 10 = .ok (.lconst 0, 1) := dk_9 (dk_at dksX4_settles_0 10 rfl rfl)
theorem dX4_settles_11 : decode cX4_settles 11 = .ok (.ldc2_w 208, 3) := dk_20 0 208 (dk_at dksX4_settles_0 11 rfl rfl)
theorem dX4_settles_14 : decode cX4_settles 14 = .ok (.invokestatic 54, 3) := dk_184 0 54 (dk_at dksX4_settles_0 14 rfl rfl)
theorem dX4_settles_17 : decode cX4_settles 17 = .ok (.ifCond .eq 13, 3) := dk_153 0 13 (dk_at dksX4_settles_0 17 rfl rfl)
theorem dX4_settles_20 : decode cX4_settles 20 = .ok (.iload_n 3, 1) := dk_29 (dk_at dksX4_settles_0 20 rfl rfl)
theorem dX4_settles_21 : decode cX4_settles 21 = .ok (.i2l, 1) := dk_133 (dk_at dksX4_settles_0 21 rfl rfl)
theorem dX4_settles_22 : decode cX4_settles 22 = .ok (.lconst 0, 1) := dk_9 (dk_at dksX4_settles_0 22 rfl rfl)
theorem dX4_settles_23 : decode cX4_settles 23 = .ok (.lconst 1, 1) := dk_10 (dk_at dksX4_settles_0 23 rfl rfl)
theorem dX4_settles_24 : decode cX4_settles 24 = .ok (.invokestatic 54, 3) := dk_184 0 54 (dk_at dksX4_settles_1 0 rfl rfl)
theorem dX4_settles_27 : decode cX4_settles 27 = .ok (.ifCond .ne 6, 3) := dk_154 0 6 (dk_at dksX4_settles_1 3 rfl rfl)
theorem dX4_settles_30 : decode cX4_settles 30 = .ok (.ldc 64, 2) := dk_18 64 (dk_at dksX4_settles_1 6 rfl rfl)
theorem dX4_settles_32 : decode cX4_settles 32 = .ok (.ireturn, 1) := dk_172 (dk_at dksX4_settles_1 8 rfl rfl)
theorem dX4_settles_33 : decode cX4_settles 33 = .ok (.aload_n 0, 1) := dk_42 (dk_at dksX4_settles_1 9 rfl rfl)
theorem dX4_settles_34 : decode cX4_settles 34 = .ok (.iload_n 1, 1) := dk_27 (dk_at dksX4_settles_1 10 rfl rfl)
theorem dX4_settles_35 : decode cX4_settles 35 = .ok (.iload_n 2, 1) := dk_28 (dk_at dksX4_settles_1 11 rfl rfl)
theorem dX4_settles_36 : decode cX4_settles 36 = .ok (.invokevirtual 210, 3) := dk_182 0 210 (dk_at dksX4_settles_1 12 rfl rfl)
theorem dX4_settles_39 : decode cX4_settles 39 = .ok (.istore 4, 2) := dk_54 4 (dk_at dksX4_settles_1 15 rfl rfl)
theorem dX4_settles_41 : decode cX4_settles 41 = .ok (.iload_n 3, 1) := dk_29 (dk_at dksX4_settles_1 17 rfl rfl)
theorem dX4_settles_42 : decode cX4_settles 42 = .ok (.ifCond .ne 8, 3) := dk_154 0 8 (dk_at dksX4_settles_1 18 rfl rfl)
theorem dX4_settles_45 : decode cX4_settles 45 = .ok (.iload 4, 2) := dk_21 4 (dk_at dksX4_settles_1 21 rfl rfl)
theorem dX4_settles_47 : decode cX4_settles 47 = .ok (.goto 7, 3) := dk_167 0 7 (dk_at dksX4_settles_2 0 rfl rfl)
theorem dX4_settles_50 : decode cX4_settles 50 = .ok (.aload_n 0, 1) := dk_42 (dk_at dksX4_settles_2 3 rfl rfl)
theorem dX4_settles_51 : decode cX4_settles 51 = .ok (.getfield 205, 3) := dk_180 0 205 (dk_at dksX4_settles_2 4 rfl rfl)
theorem dX4_settles_54 : decode cX4_settles 54 = .ok (.ireturn, 1) := dk_172 (dk_at dksX4_settles_2 7 rfl rfl)
abbrev cX4_settleAll : ByteArray := prog_17_method_51_code
def yX4_settleAll : MethodName := ⟨RX4, "settleAll", "(II)I"⟩
def dkwX4_settleAll_9 : List UInt8 := [167, 255, 232, 29, 172]
abbrev dktX4_settleAll_9 : List UInt8 := dkwX4_settleAll_9 ++ []
def dkwX4_settleAll_8 : List UInt8 := [16, 57, 162, 0, 23, 42, 180, 0, 19, 21, 4, 42, 180, 0, 34, 21, 4, 46, 79, 132, 4, 1]
abbrev dktX4_settleAll_8 : List UInt8 := dkwX4_settleAll_8 ++ dktX4_settleAll_9
def dkwX4_settleAll_7 : List UInt8 := [160, 0, 7, 4, 167, 0, 4, 3, 96, 181, 0, 205, 132, 4, 1, 167, 255, 200, 3, 54, 4, 21, 4]
abbrev dktX4_settleAll_7 : List UInt8 := dkwX4_settleAll_7 ++ dktX4_settleAll_8
def dkwX4_settleAll_6 : List UInt8 := [180, 0, 19, 16, 17, 21, 4, 96, 46, 27, 160, 0, 21, 42, 180, 0, 19, 16, 49, 21, 4, 96, 46, 4]
abbrev dktX4_settleAll_6 : List UInt8 := dkwX4_settleAll_6 ++ dktX4_settleAll_7
def dkwX4_settleAll_5 : List UInt8 := [181, 0, 205, 3, 54, 4, 21, 4, 42, 180, 0, 19, 6, 46, 162, 0, 51, 42, 89, 180, 0, 205, 42]
abbrev dktX4_settleAll_5 : List UInt8 := dkwX4_settleAll_5 ++ dktX4_settleAll_6
def dkwX4_settleAll_4 : List UInt8 := [132, 4, 1, 167, 255, 198, 132, 3, 1, 167, 255, 183, 42, 180, 0, 19, 8, 27, 96, 46, 62, 42, 3]
abbrev dktX4_settleAll_4 : List UInt8 := dkwX4_settleAll_4 ++ dktX4_settleAll_5
def dkwX4_settleAll_3 : List UInt8 := [160, 0, 24, 42, 21, 4, 42, 21, 4, 182, 0, 156, 28, 161, 0, 7, 4, 167, 0, 4, 3, 182, 0, 175]
abbrev dktX4_settleAll_3 : List UInt8 := dkwX4_settleAll_3 ++ dktX4_settleAll_4
def dkwX4_settleAll_2 : List UInt8 := [162, 0, 53, 42, 21, 4, 182, 0, 145, 153, 0, 38, 42, 180, 0, 19, 16, 33, 21, 4, 96, 46, 29]
abbrev dktX4_settleAll_2 : List UInt8 := dkwX4_settleAll_2 ++ dktX4_settleAll_3
def dkwX4_settleAll_1 : List UInt8 := [167, 255, 235, 3, 62, 29, 16, 9, 163, 0, 73, 3, 54, 4, 21, 4, 42, 180, 0, 19, 6, 46]
abbrev dktX4_settleAll_1 : List UInt8 := dkwX4_settleAll_1 ++ dktX4_settleAll_2
def dkwX4_settleAll_0 : List UInt8 := [3, 62, 29, 16, 57, 162, 0, 21, 42, 180, 0, 34, 29, 42, 180, 0, 19, 29, 46, 79, 132, 3, 1]
abbrev dktX4_settleAll_0 : List UInt8 := dkwX4_settleAll_0 ++ dktX4_settleAll_1
theorem dksX4_settleAll_0 : cX4_settleAll.data.toList.drop 0 = dktX4_settleAll_0 := by decide +kernel
theorem dksX4_settleAll_1 : cX4_settleAll.data.toList.drop 23 = dktX4_settleAll_1 := dk_seg dksX4_settleAll_0 23 rfl rfl
theorem dksX4_settleAll_2 : cX4_settleAll.data.toList.drop 45 = dktX4_settleAll_2 := dk_seg dksX4_settleAll_1 22 rfl rfl
theorem dksX4_settleAll_3 : cX4_settleAll.data.toList.drop 68 = dktX4_settleAll_3 := dk_seg dksX4_settleAll_2 23 rfl rfl
theorem dksX4_settleAll_4 : cX4_settleAll.data.toList.drop 92 = dktX4_settleAll_4 := dk_seg dksX4_settleAll_3 24 rfl rfl
theorem dksX4_settleAll_5 : cX4_settleAll.data.toList.drop 115 = dktX4_settleAll_5 := dk_seg dksX4_settleAll_4 23 rfl rfl
theorem dksX4_settleAll_6 : cX4_settleAll.data.toList.drop 138 = dktX4_settleAll_6 := dk_seg dksX4_settleAll_5 23 rfl rfl
theorem dksX4_settleAll_7 : cX4_settleAll.data.toList.drop 162 = dktX4_settleAll_7 := dk_seg dksX4_settleAll_6 24 rfl rfl
theorem dksX4_settleAll_8 : cX4_settleAll.data.toList.drop 185 = dktX4_settleAll_8 := dk_seg dksX4_settleAll_7 23 rfl rfl
theorem dksX4_settleAll_9 : cX4_settleAll.data.toList.drop 207 = dktX4_settleAll_9 := dk_seg dksX4_settleAll_8 22 rfl rfl
theorem dX4_settleAll_0 : decode cX4_settleAll 0 = .ok (.iconst 0, 1) := dk_3 (dk_at dksX4_settleAll_0 0 rfl rfl)
theorem dX4_settleAll_1 : decode cX4_settleAll 1 = .ok (.istore_n 3, 1) := dk_62 (dk_at dksX4_settleAll_0 1 rfl rfl)
theorem dX4_settleAll_2 : decode cX4_settleAll 2 = .ok (.iload_n 3, 1) := dk_29 (dk_at dksX4_settleAll_0 2 rfl rfl)
theorem dX4_settleAll_3 : decode cX4_settleAll 3 = .ok (.bipush 57, 2) := dk_16 57 (dk_at dksX4_settleAll_0 3 rfl rfl)
theorem dX4_settleAll_5 : decode cX4_settleAll 5 = .ok (.if_icmp .ge 21, 3) := dk_162 0 21 (dk_at dksX4_settleAll_0 5 rfl rfl)
theorem dX4_settleAll_8 : decode cX4_settleAll 8 = .ok (.aload_n 0, 1) := dk_42 (dk_at dksX4_settleAll_0 8 rfl rfl)
theorem dX4_settleAll_9 : decode cX4_settleAll 9 = .ok (.getfield 34, 3) := dk_180 0 34 (dk_at dksX4_settleAll_0 9 rfl rfl)
theorem dX4_settleAll_12 : decode cX4_settleAll 12 = .ok (.iload_n 3, 1) := dk_29 (dk_at dksX4_settleAll_0 12 rfl rfl)
theorem dX4_settleAll_13 : decode cX4_settleAll 13 = .ok (.aload_n 0, 1) := dk_42 (dk_at dksX4_settleAll_0 13 rfl rfl)
theorem dX4_settleAll_14 : decode cX4_settleAll 14 = .ok (.getfield 19, 3) := dk_180 0 19 (dk_at dksX4_settleAll_0 14 rfl rfl)
theorem dX4_settleAll_17 : decode cX4_settleAll 17 = .ok (.iload_n 3, 1) := dk_29 (dk_at dksX4_settleAll_0 17 rfl rfl)
theorem dX4_settleAll_18 : decode cX4_settleAll 18 = .ok (.iaload, 1) := dk_46 (dk_at dksX4_settleAll_0 18 rfl rfl)
theorem dX4_settleAll_19 : decode cX4_settleAll 19 = .ok (.iastore, 1) := dk_79 (dk_at dksX4_settleAll_0 19 rfl rfl)
theorem dX4_settleAll_20 : decode cX4_settleAll 20 = .ok (.iinc 3 1, 3) := dk_132 3 1 (dk_at dksX4_settleAll_0 20 rfl rfl)
theorem dX4_settleAll_23 : decode cX4_settleAll 23 = .ok (.goto (-21), 3) := dk_167 255 235 (dk_at dksX4_settleAll_1 0 rfl rfl)
theorem dX4_settleAll_26 : decode cX4_settleAll 26 = .ok (.iconst 0, 1) := dk_3 (dk_at dksX4_settleAll_1 3 rfl rfl)
theorem dX4_settleAll_27 : decode cX4_settleAll 27 = .ok (.istore_n 3, 1) := dk_62 (dk_at dksX4_settleAll_1 4 rfl rfl)
theorem dX4_settleAll_28 : decode cX4_settleAll 28 = .ok (.iload_n 3, 1) := dk_29 (dk_at dksX4_settleAll_1 5 rfl rfl)
theorem dX4_settleAll_29 : decode cX4_settleAll 29 = .ok (.bipush 9, 2) := dk_16 9 (dk_at dksX4_settleAll_1 6 rfl rfl)
theorem dX4_settleAll_31 : decode cX4_settleAll 31 = .ok (.if_icmp .gt 73, 3) := dk_163 0 73 (dk_at dksX4_settleAll_1 8 rfl rfl)
theorem dX4_settleAll_34 : decode cX4_settleAll 34 = .ok (.iconst 0, 1) := dk_3 (dk_at dksX4_settleAll_1 11 rfl rfl)
theorem dX4_settleAll_35 : decode cX4_settleAll 35 = .ok (.istore 4, 2) := dk_54 4 (dk_at dksX4_settleAll_1 12 rfl rfl)
theorem dX4_settleAll_37 : decode cX4_settleAll 37 = .ok (.iload 4, 2) := dk_21 4 (dk_at dksX4_settleAll_1 14 rfl rfl)
theorem dX4_settleAll_39 : decode cX4_settleAll 39 = .ok (.aload_n 0, 1) := dk_42 (dk_at dksX4_settleAll_1 16 rfl rfl)
theorem dX4_settleAll_40 : decode cX4_settleAll 40 = .ok (.getfield 19, 3) := dk_180 0 19 (dk_at dksX4_settleAll_1 17 rfl rfl)
theorem dX4_settleAll_43 : decode cX4_settleAll 43 = .ok (.iconst 3, 1) := dk_6 (dk_at dksX4_settleAll_1 20 rfl rfl)
theorem dX4_settleAll_44 : decode cX4_settleAll 44 = .ok (.iaload, 1) := dk_46 (dk_at dksX4_settleAll_1 21 rfl rfl)
theorem dX4_settleAll_45 : decode cX4_settleAll 45 = .ok (.if_icmp .ge 53, 3) := dk_162 0 53 (dk_at dksX4_settleAll_2 0 rfl rfl)
theorem dX4_settleAll_48 : decode cX4_settleAll 48 = .ok (.aload_n 0, 1) := dk_42 (dk_at dksX4_settleAll_2 3 rfl rfl)
theorem dX4_settleAll_49 : decode cX4_settleAll 49 = .ok (.iload 4, 2) := dk_21 4 (dk_at dksX4_settleAll_2 4 rfl rfl)
theorem dX4_settleAll_51 : decode cX4_settleAll 51 = .ok (.invokevirtual 145, 3) := dk_182 0 145 (dk_at dksX4_settleAll_2 6 rfl rfl)
theorem dX4_settleAll_54 : decode cX4_settleAll 54 = .ok (.ifCond .eq 38, 3) := dk_153 0 38 (dk_at dksX4_settleAll_2 9 rfl rfl)
theorem dX4_settleAll_57 : decode cX4_settleAll 57 = .ok (.aload_n 0, 1) := dk_42 (dk_at dksX4_settleAll_2 12 rfl rfl)
theorem dX4_settleAll_58 : decode cX4_settleAll 58 = .ok (.getfield 19, 3) := dk_180 0 19 (dk_at dksX4_settleAll_2 13 rfl rfl)
theorem dX4_settleAll_61 : decode cX4_settleAll 61 = .ok (.bipush 33, 2) := dk_16 33 (dk_at dksX4_settleAll_2 16 rfl rfl)
theorem dX4_settleAll_63 : decode cX4_settleAll 63 = .ok (.iload 4, 2) := dk_21 4 (dk_at dksX4_settleAll_2 18 rfl rfl)
theorem dX4_settleAll_65 : decode cX4_settleAll 65 = .ok (.iadd, 1) := dk_96 (dk_at dksX4_settleAll_2 20 rfl rfl)
theorem dX4_settleAll_66 : decode cX4_settleAll 66 = .ok (.iaload, 1) := dk_46 (dk_at dksX4_settleAll_2 21 rfl rfl)
theorem dX4_settleAll_67 : decode cX4_settleAll 67 = .ok (.iload_n 3, 1) := dk_29 (dk_at dksX4_settleAll_2 22 rfl rfl)
theorem dX4_settleAll_68 : decode cX4_settleAll 68 = .ok (.if_icmp .ne 24, 3) := dk_160 0 24 (dk_at dksX4_settleAll_3 0 rfl rfl)
theorem dX4_settleAll_71 : decode cX4_settleAll 71 = .ok (.aload_n 0, 1) := dk_42 (dk_at dksX4_settleAll_3 3 rfl rfl)
theorem dX4_settleAll_72 : decode cX4_settleAll 72 = .ok (.iload 4, 2) := dk_21 4 (dk_at dksX4_settleAll_3 4 rfl rfl)
theorem dX4_settleAll_74 : decode cX4_settleAll 74 = .ok (.aload_n 0, 1) := dk_42 (dk_at dksX4_settleAll_3 6 rfl rfl)
theorem dX4_settleAll_75 : decode cX4_settleAll 75 = .ok (.iload 4, 2) := dk_21 4 (dk_at dksX4_settleAll_3 7 rfl rfl)
theorem dX4_settleAll_77 : decode cX4_settleAll 77 = .ok (.invokevirtual 156, 3) := dk_182 0 156 (dk_at dksX4_settleAll_3 9 rfl rfl)
theorem dX4_settleAll_80 : decode cX4_settleAll 80 = .ok (.iload_n 2, 1) := dk_28 (dk_at dksX4_settleAll_3 12 rfl rfl)
theorem dX4_settleAll_81 : decode cX4_settleAll 81 = .ok (.if_icmp .lt 7, 3) := dk_161 0 7 (dk_at dksX4_settleAll_3 13 rfl rfl)
theorem dX4_settleAll_84 : decode cX4_settleAll 84 = .ok (.iconst 1, 1) := dk_4 (dk_at dksX4_settleAll_3 16 rfl rfl)
theorem dX4_settleAll_85 : decode cX4_settleAll 85 = .ok (.goto 4, 3) := dk_167 0 4 (dk_at dksX4_settleAll_3 17 rfl rfl)
theorem dX4_settleAll_88 : decode cX4_settleAll 88 = .ok (.iconst 0, 1) := dk_3 (dk_at dksX4_settleAll_3 20 rfl rfl)
theorem dX4_settleAll_89 : decode cX4_settleAll 89 = .ok (.invokevirtual 175, 3) := dk_182 0 175 (dk_at dksX4_settleAll_3 21 rfl rfl)
theorem dX4_settleAll_92 : decode cX4_settleAll 92 = .ok (.iinc 4 1, 3) := dk_132 4 1 (dk_at dksX4_settleAll_4 0 rfl rfl)
theorem dX4_settleAll_95 : decode cX4_settleAll 95 = .ok (.goto (-58), 3) := dk_167 255 198 (dk_at dksX4_settleAll_4 3 rfl rfl)
theorem dX4_settleAll_98 : decode cX4_settleAll 98 = .ok (.iinc 3 1, 3) := dk_132 3 1 (dk_at dksX4_settleAll_4 6 rfl rfl)
theorem dX4_settleAll_101 : decode cX4_settleAll 101 = .ok (.goto (-73), 3) := dk_167 255 183 (dk_at dksX4_settleAll_4 9 rfl rfl)
theorem dX4_settleAll_104 : decode cX4_settleAll 104 = .ok (.aload_n 0, 1) := dk_42 (dk_at dksX4_settleAll_4 12 rfl rfl)
theorem dX4_settleAll_105 : decode cX4_settleAll 105 = .ok (.getfield 19, 3) := dk_180 0 19 (dk_at dksX4_settleAll_4 13 rfl rfl)
theorem dX4_settleAll_108 : decode cX4_settleAll 108 = .ok (.iconst 5, 1) := dk_8 (dk_at dksX4_settleAll_4 16 rfl rfl)
theorem dX4_settleAll_109 : decode cX4_settleAll 109 = .ok (.iload_n 1, 1) := dk_27 (dk_at dksX4_settleAll_4 17 rfl rfl)
theorem dX4_settleAll_110 : decode cX4_settleAll 110 = .ok (.iadd, 1) := dk_96 (dk_at dksX4_settleAll_4 18 rfl rfl)
theorem dX4_settleAll_111 : decode cX4_settleAll 111 = .ok (.iaload, 1) := dk_46 (dk_at dksX4_settleAll_4 19 rfl rfl)
theorem dX4_settleAll_112 : decode cX4_settleAll 112 = .ok (.istore_n 3, 1) := dk_62 (dk_at dksX4_settleAll_4 20 rfl rfl)
theorem dX4_settleAll_113 : decode cX4_settleAll 113 = .ok (.aload_n 0, 1) := dk_42 (dk_at dksX4_settleAll_4 21 rfl rfl)
theorem dX4_settleAll_114 : decode cX4_settleAll 114 = .ok (.iconst 0, 1) := dk_3 (dk_at dksX4_settleAll_4 22 rfl rfl)
theorem dX4_settleAll_115 : decode cX4_settleAll 115 = .ok (.putfield 205, 3) := dk_181 0 205 (dk_at dksX4_settleAll_5 0 rfl rfl)
theorem dX4_settleAll_118 : decode cX4_settleAll 118 = .ok (.iconst 0, 1) := dk_3 (dk_at dksX4_settleAll_5 3 rfl rfl)
theorem dX4_settleAll_119 : decode cX4_settleAll 119 = .ok (.istore 4, 2) := dk_54 4 (dk_at dksX4_settleAll_5 4 rfl rfl)
theorem dX4_settleAll_121 : decode cX4_settleAll 121 = .ok (.iload 4, 2) := dk_21 4 (dk_at dksX4_settleAll_5 6 rfl rfl)
theorem dX4_settleAll_123 : decode cX4_settleAll 123 = .ok (.aload_n 0, 1) := dk_42 (dk_at dksX4_settleAll_5 8 rfl rfl)
theorem dX4_settleAll_124 : decode cX4_settleAll 124 = .ok (.getfield 19, 3) := dk_180 0 19 (dk_at dksX4_settleAll_5 9 rfl rfl)
theorem dX4_settleAll_127 : decode cX4_settleAll 127 = .ok (.iconst 3, 1) := dk_6 (dk_at dksX4_settleAll_5 12 rfl rfl)
theorem dX4_settleAll_128 : decode cX4_settleAll 128 = .ok (.iaload, 1) := dk_46 (dk_at dksX4_settleAll_5 13 rfl rfl)
theorem dX4_settleAll_129 : decode cX4_settleAll 129 = .ok (.if_icmp .ge 51, 3) := dk_162 0 51 (dk_at dksX4_settleAll_5 14 rfl rfl)
theorem dX4_settleAll_132 : decode cX4_settleAll 132 = .ok (.aload_n 0, 1) := dk_42 (dk_at dksX4_settleAll_5 17 rfl rfl)
theorem dX4_settleAll_133 : decode cX4_settleAll 133 = .ok (.dup, 1) := dk_89 (dk_at dksX4_settleAll_5 18 rfl rfl)
theorem dX4_settleAll_134 : decode cX4_settleAll 134 = .ok (.getfield 205, 3) := dk_180 0 205 (dk_at dksX4_settleAll_5 19 rfl rfl)
theorem dX4_settleAll_137 : decode cX4_settleAll 137 = .ok (.aload_n 0, 1) := dk_42 (dk_at dksX4_settleAll_5 22 rfl rfl)
theorem dX4_settleAll_138 : decode cX4_settleAll 138 = .ok (.getfield 19, 3) := dk_180 0 19 (dk_at dksX4_settleAll_6 0 rfl rfl)
theorem dX4_settleAll_141 : decode cX4_settleAll 141 = .ok (.bipush 17, 2) := dk_16 17 (dk_at dksX4_settleAll_6 3 rfl rfl)
theorem dX4_settleAll_143 : decode cX4_settleAll 143 = .ok (.iload 4, 2) := dk_21 4 (dk_at dksX4_settleAll_6 5 rfl rfl)
theorem dX4_settleAll_145 : decode cX4_settleAll 145 = .ok (.iadd, 1) := dk_96 (dk_at dksX4_settleAll_6 7 rfl rfl)
theorem dX4_settleAll_146 : decode cX4_settleAll 146 = .ok (.iaload, 1) := dk_46 (dk_at dksX4_settleAll_6 8 rfl rfl)
theorem dX4_settleAll_147 : decode cX4_settleAll 147 = .ok (.iload_n 1, 1) := dk_27 (dk_at dksX4_settleAll_6 9 rfl rfl)
theorem dX4_settleAll_148 : decode cX4_settleAll 148 = .ok (.if_icmp .ne 21, 3) := dk_160 0 21 (dk_at dksX4_settleAll_6 10 rfl rfl)
theorem dX4_settleAll_151 : decode cX4_settleAll 151 = .ok (.aload_n 0, 1) := dk_42 (dk_at dksX4_settleAll_6 13 rfl rfl)
theorem dX4_settleAll_152 : decode cX4_settleAll 152 = .ok (.getfield 19, 3) := dk_180 0 19 (dk_at dksX4_settleAll_6 14 rfl rfl)
theorem dX4_settleAll_155 : decode cX4_settleAll 155 = .ok (.bipush 49, 2) := dk_16 49 (dk_at dksX4_settleAll_6 17 rfl rfl)
theorem dX4_settleAll_157 : decode cX4_settleAll 157 = .ok (.iload 4, 2) := dk_21 4 (dk_at dksX4_settleAll_6 19 rfl rfl)
theorem dX4_settleAll_159 : decode cX4_settleAll 159 = .ok (.iadd, 1) := dk_96 (dk_at dksX4_settleAll_6 21 rfl rfl)
theorem dX4_settleAll_160 : decode cX4_settleAll 160 = .ok (.iaload, 1) := dk_46 (dk_at dksX4_settleAll_6 22 rfl rfl)
theorem dX4_settleAll_161 : decode cX4_settleAll 161 = .ok (.iconst 1, 1) := dk_4 (dk_at dksX4_settleAll_6 23 rfl rfl)
theorem dX4_settleAll_162 : decode cX4_settleAll 162 = .ok (.if_icmp .ne 7, 3) := dk_160 0 7 (dk_at dksX4_settleAll_7 0 rfl rfl)
theorem dX4_settleAll_165 : decode cX4_settleAll 165 = .ok (.iconst 1, 1) := dk_4 (dk_at dksX4_settleAll_7 3 rfl rfl)
theorem dX4_settleAll_166 : decode cX4_settleAll 166 = .ok (.goto 4, 3) := dk_167 0 4 (dk_at dksX4_settleAll_7 4 rfl rfl)
theorem dX4_settleAll_169 : decode cX4_settleAll 169 = .ok (.iconst 0, 1) := dk_3 (dk_at dksX4_settleAll_7 7 rfl rfl)
theorem dX4_settleAll_170 : decode cX4_settleAll 170 = .ok (.iadd, 1) := dk_96 (dk_at dksX4_settleAll_7 8 rfl rfl)
theorem dX4_settleAll_171 : decode cX4_settleAll 171 = .ok (.putfield 205, 3) := dk_181 0 205 (dk_at dksX4_settleAll_7 9 rfl rfl)
theorem dX4_settleAll_174 : decode cX4_settleAll 174 = .ok (.iinc 4 1, 3) := dk_132 4 1 (dk_at dksX4_settleAll_7 12 rfl rfl)
theorem dX4_settleAll_177 : decode cX4_settleAll 177 = .ok (.goto (-56), 3) := dk_167 255 200 (dk_at dksX4_settleAll_7 15 rfl rfl)
theorem dX4_settleAll_180 : decode cX4_settleAll 180 = .ok (.iconst 0, 1) := dk_3 (dk_at dksX4_settleAll_7 18 rfl rfl)
theorem dX4_settleAll_181 : decode cX4_settleAll 181 = .ok (.istore 4, 2) := dk_54 4 (dk_at dksX4_settleAll_7 19 rfl rfl)
theorem dX4_settleAll_183 : decode cX4_settleAll 183 = .ok (.iload 4, 2) := dk_21 4 (dk_at dksX4_settleAll_7 21 rfl rfl)
theorem dX4_settleAll_185 : decode cX4_settleAll 185 = .ok (.bipush 57, 2) := dk_16 57 (dk_at dksX4_settleAll_8 0 rfl rfl)
theorem dX4_settleAll_187 : decode cX4_settleAll 187 = .ok (.if_icmp .ge 23, 3) := dk_162 0 23 (dk_at dksX4_settleAll_8 2 rfl rfl)
theorem dX4_settleAll_190 : decode cX4_settleAll 190 = .ok (.aload_n 0, 1) := dk_42 (dk_at dksX4_settleAll_8 5 rfl rfl)
theorem dX4_settleAll_191 : decode cX4_settleAll 191 = .ok (.getfield 19, 3) := dk_180 0 19 (dk_at dksX4_settleAll_8 6 rfl rfl)
theorem dX4_settleAll_194 : decode cX4_settleAll 194 = .ok (.iload 4, 2) := dk_21 4 (dk_at dksX4_settleAll_8 9 rfl rfl)
theorem dX4_settleAll_196 : decode cX4_settleAll 196 = .ok (.aload_n 0, 1) := dk_42 (dk_at dksX4_settleAll_8 11 rfl rfl)
theorem dX4_settleAll_197 : decode cX4_settleAll 197 = .ok (.getfield 34, 3) := dk_180 0 34 (dk_at dksX4_settleAll_8 12 rfl rfl)
theorem dX4_settleAll_200 : decode cX4_settleAll 200 = .ok (.iload 4, 2) := dk_21 4 (dk_at dksX4_settleAll_8 15 rfl rfl)
theorem dX4_settleAll_202 : decode cX4_settleAll 202 = .ok (.iaload, 1) := dk_46 (dk_at dksX4_settleAll_8 17 rfl rfl)
theorem dX4_settleAll_203 : decode cX4_settleAll 203 = .ok (.iastore, 1) := dk_79 (dk_at dksX4_settleAll_8 18 rfl rfl)
theorem dX4_settleAll_204 : decode cX4_settleAll 204 = .ok (.iinc 4 1, 3) := dk_132 4 1 (dk_at dksX4_settleAll_8 19 rfl rfl)
theorem dX4_settleAll_207 : decode cX4_settleAll 207 = .ok (.goto (-24), 3) := dk_167 255 232 (dk_at dksX4_settleAll_9 0 rfl rfl)
theorem dX4_settleAll_210 : decode cX4_settleAll 210 = .ok (.iload_n 3, 1) := dk_29 (dk_at dksX4_settleAll_9 3 rfl rfl)
theorem dX4_settleAll_211 : decode cX4_settleAll 211 = .ok (.ireturn, 1) := dk_172 (dk_at dksX4_settleAll_9 4 rfl rfl)
abbrev cX4_bestHeavy : ByteArray := prog_17_method_53_code
def yX4_bestHeavy : MethodName := ⟨RX4, "bestHeavy", "(I)I"⟩
def dkwX4_bestHeavy_2 : List UInt8 := [61, 21, 5, 29, 164, 0, 8, 21, 5, 167, 0, 4, 29, 62, 132, 4, 1, 167, 255, 211, 28, 172]
abbrev dktX4_bestHeavy_2 : List UInt8 := dkwX4_bestHeavy_2 ++ []
def dkwX4_bestHeavy_1 : List UInt8 := [163, 0, 44, 42, 27, 21, 4, 182, 0, 210, 54, 5, 21, 5, 29, 164, 0, 8, 21, 4, 167, 0, 4, 28]
abbrev dktX4_bestHeavy_1 : List UInt8 := dkwX4_bestHeavy_1 ++ dktX4_bestHeavy_2
def dkwX4_bestHeavy_0 : List UInt8 := [42, 27, 182, 0, 181, 154, 0, 6, 18, 64, 172, 3, 61, 2, 62, 3, 54, 4, 21, 4, 16, 20]
abbrev dktX4_bestHeavy_0 : List UInt8 := dkwX4_bestHeavy_0 ++ dktX4_bestHeavy_1
theorem dksX4_bestHeavy_0 : cX4_bestHeavy.data.toList.drop 0 = dktX4_bestHeavy_0 := by decide +kernel
theorem dksX4_bestHeavy_1 : cX4_bestHeavy.data.toList.drop 22 = dktX4_bestHeavy_1 := dk_seg dksX4_bestHeavy_0 22 rfl rfl
theorem dksX4_bestHeavy_2 : cX4_bestHeavy.data.toList.drop 46 = dktX4_bestHeavy_2 := dk_seg dksX4_bestHeavy_1 24 rfl rfl
theorem dX4_bestHeavy_0 : decode cX4_bestHeavy 0 = .ok (.aload_n 0, 1) := dk_42 (dk_at dksX4_bestHeavy_0 0 rfl rfl)
theorem dX4_bestHeavy_1 : decode cX4_bestHeavy 1 = .ok (.iload_n 1, 1) := dk_27 (dk_at dksX4_bestHeavy_0 1 rfl rfl)
theorem dX4_bestHeavy_2 : decode cX4_bestHeavy 2 = .ok (.invokevirtual 181, 3) := dk_182 0 181 (dk_at dksX4_bestHeavy_0 2 rfl rfl)
theorem dX4_bestHeavy_5 : decode cX4_bestHeavy 5 = .ok (.ifCond .ne 6, 3) := dk_154 0 6 (dk_at dksX4_bestHeavy_0 5 rfl rfl)
theorem dX4_bestHeavy_8 : decode cX4_bestHeavy 8 = .ok (.ldc 64, 2) := dk_18 64 (dk_at dksX4_bestHeavy_0 8 rfl rfl)
theorem dX4_bestHeavy_10 : decode cX4_bestHeavy 10 = .ok (.ireturn, 1) := dk_172 (dk_at dksX4_bestHeavy_0 10 rfl rfl)
theorem dX4_bestHeavy_11 : decode cX4_bestHeavy 11 = .ok (.iconst 0, 1) := dk_3 (dk_at dksX4_bestHeavy_0 11 rfl rfl)
theorem dX4_bestHeavy_12 : decode cX4_bestHeavy 12 = .ok (.istore_n 2, 1) := dk_61 (dk_at dksX4_bestHeavy_0 12 rfl rfl)
theorem dX4_bestHeavy_13 : decode cX4_bestHeavy 13 = .ok (.iconst (-1), 1) := dk_2 (dk_at dksX4_bestHeavy_0 13 rfl rfl)
theorem dX4_bestHeavy_14 : decode cX4_bestHeavy 14 = .ok (.istore_n 3, 1) := dk_62 (dk_at dksX4_bestHeavy_0 14 rfl rfl)
theorem dX4_bestHeavy_15 : decode cX4_bestHeavy 15 = .ok (.iconst 0, 1) := dk_3 (dk_at dksX4_bestHeavy_0 15 rfl rfl)
theorem dX4_bestHeavy_16 : decode cX4_bestHeavy 16 = .ok (.istore 4, 2) := dk_54 4 (dk_at dksX4_bestHeavy_0 16 rfl rfl)
theorem dX4_bestHeavy_18 : decode cX4_bestHeavy 18 = .ok (.iload 4, 2) := dk_21 4 (dk_at dksX4_bestHeavy_0 18 rfl rfl)
theorem dX4_bestHeavy_20 : decode cX4_bestHeavy 20 = .ok (.bipush 20, 2) := dk_16 20 (dk_at dksX4_bestHeavy_0 20 rfl rfl)
theorem dX4_bestHeavy_22 : decode cX4_bestHeavy 22 = .ok (.if_icmp .gt 44, 3) := dk_163 0 44 (dk_at dksX4_bestHeavy_1 0 rfl rfl)
theorem dX4_bestHeavy_25 : decode cX4_bestHeavy 25 = .ok (.aload_n 0, 1) := dk_42 (dk_at dksX4_bestHeavy_1 3 rfl rfl)
theorem dX4_bestHeavy_26 : decode cX4_bestHeavy 26 = .ok (.iload_n 1, 1) := dk_27 (dk_at dksX4_bestHeavy_1 4 rfl rfl)
theorem dX4_bestHeavy_27 : decode cX4_bestHeavy 27 = .ok (.iload 4, 2) := dk_21 4 (dk_at dksX4_bestHeavy_1 5 rfl rfl)
theorem dX4_bestHeavy_29 : decode cX4_bestHeavy 29 = .ok (.invokevirtual 210, 3) := dk_182 0 210 (dk_at dksX4_bestHeavy_1 7 rfl rfl)
theorem dX4_bestHeavy_32 : decode cX4_bestHeavy 32 = .ok (.istore 5, 2) := dk_54 5 (dk_at dksX4_bestHeavy_1 10 rfl rfl)
theorem dX4_bestHeavy_34 : decode cX4_bestHeavy 34 = .ok (.iload 5, 2) := dk_21 5 (dk_at dksX4_bestHeavy_1 12 rfl rfl)
theorem dX4_bestHeavy_36 : decode cX4_bestHeavy 36 = .ok (.iload_n 3, 1) := dk_29 (dk_at dksX4_bestHeavy_1 14 rfl rfl)
theorem dX4_bestHeavy_37 : decode cX4_bestHeavy 37 = .ok (.if_icmp .le 8, 3) := dk_164 0 8 (dk_at dksX4_bestHeavy_1 15 rfl rfl)
theorem dX4_bestHeavy_40 : decode cX4_bestHeavy 40 = .ok (.iload 4, 2) := dk_21 4 (dk_at dksX4_bestHeavy_1 18 rfl rfl)
theorem dX4_bestHeavy_42 : decode cX4_bestHeavy 42 = .ok (.goto 4, 3) := dk_167 0 4 (dk_at dksX4_bestHeavy_1 20 rfl rfl)
theorem dX4_bestHeavy_45 : decode cX4_bestHeavy 45 = .ok (.iload_n 2, 1) := dk_28 (dk_at dksX4_bestHeavy_1 23 rfl rfl)
theorem dX4_bestHeavy_46 : decode cX4_bestHeavy 46 = .ok (.istore_n 2, 1) := dk_61 (dk_at dksX4_bestHeavy_2 0 rfl rfl)
theorem dX4_bestHeavy_47 : decode cX4_bestHeavy 47 = .ok (.iload 5, 2) := dk_21 5 (dk_at dksX4_bestHeavy_2 1 rfl rfl)
theorem dX4_bestHeavy_49 : decode cX4_bestHeavy 49 = .ok (.iload_n 3, 1) := dk_29 (dk_at dksX4_bestHeavy_2 3 rfl rfl)
theorem dX4_bestHeavy_50 : decode cX4_bestHeavy 50 = .ok (.if_icmp .le 8, 3) := dk_164 0 8 (dk_at dksX4_bestHeavy_2 4 rfl rfl)
theorem dX4_bestHeavy_53 : decode cX4_bestHeavy 53 = .ok (.iload 5, 2) := dk_21 5 (dk_at dksX4_bestHeavy_2 7 rfl rfl)
theorem dX4_bestHeavy_55 : decode cX4_bestHeavy 55 = .ok (.goto 4, 3) := dk_167 0 4 (dk_at dksX4_bestHeavy_2 9 rfl rfl)
theorem dX4_bestHeavy_58 : decode cX4_bestHeavy 58 = .ok (.iload_n 3, 1) := dk_29 (dk_at dksX4_bestHeavy_2 12 rfl rfl)
theorem dX4_bestHeavy_59 : decode cX4_bestHeavy 59 = .ok (.istore_n 3, 1) := dk_62 (dk_at dksX4_bestHeavy_2 13 rfl rfl)
theorem dX4_bestHeavy_60 : decode cX4_bestHeavy 60 = .ok (.iinc 4 1, 3) := dk_132 4 1 (dk_at dksX4_bestHeavy_2 14 rfl rfl)
theorem dX4_bestHeavy_63 : decode cX4_bestHeavy 63 = .ok (.goto (-45), 3) := dk_167 255 211 (dk_at dksX4_bestHeavy_2 17 rfl rfl)
theorem dX4_bestHeavy_66 : decode cX4_bestHeavy 66 = .ok (.iload_n 2, 1) := dk_28 (dk_at dksX4_bestHeavy_2 20 rfl rfl)
theorem dX4_bestHeavy_67 : decode cX4_bestHeavy 67 = .ok (.ireturn, 1) := dk_172 (dk_at dksX4_bestHeavy_2 21 rfl rfl)
abbrev cX4_found : ByteArray := prog_17_method_56_code
def yX4_found : MethodName := ⟨RX4, "found", "(IIII)I"⟩
def dkwX4_found_8 : List UInt8 := [167, 0, 4, 3, 128, 54, 7, 132, 8, 1, 167, 255, 172, 42, 21, 7, 182, 0, 69, 172]
abbrev dktX4_found_8 : List UInt8 := dkwX4_found_8 ++ []
def dkwX4_found_7 : List UInt8 := [182, 0, 216, 153, 0, 7, 4, 167, 0, 4, 3, 54, 9, 21, 7, 21, 9, 153, 0, 10, 4, 21, 8, 120]
abbrev dktX4_found_7 : List UInt8 := dkwX4_found_7 ++ dktX4_found_8
def dkwX4_found_6 : List UInt8 := [167, 0, 34, 21, 8, 8, 162, 0, 27, 42, 21, 6, 29, 42, 180, 0, 19, 3, 46, 21, 8, 4, 96]
abbrev dktX4_found_6 : List UInt8 := dkwX4_found_6 ++ dktX4_found_7
def dkwX4_found_5 : List UInt8 := [162, 0, 83, 21, 4, 154, 0, 21, 42, 21, 6, 29, 21, 8, 42, 180, 0, 19, 4, 46, 182, 0, 216]
abbrev dktX4_found_5 : List UInt8 := dkwX4_found_5 ++ dktX4_found_6
def dkwX4_found_4 : List UInt8 := [154, 0, 6, 18, 64, 172, 132, 7, 1, 167, 255, 225, 3, 54, 7, 3, 54, 8, 21, 8, 16, 10]
abbrev dktX4_found_4 : List UInt8 := dkwX4_found_4 ++ dktX4_found_5
def dkwX4_found_3 : List UInt8 := [54, 7, 21, 7, 29, 162, 0, 31, 42, 42, 180, 0, 16, 21, 6, 5, 21, 7, 104, 96, 46, 182, 0, 184]
abbrev dktX4_found_3 : List UInt8 := dkwX4_found_3 ++ dktX4_found_4
def dkwX4_found_2 : List UInt8 := [29, 104, 182, 0, 213, 54, 5, 21, 5, 156, 0, 6, 21, 5, 172, 16, 40, 27, 104, 28, 96, 54, 6, 3]
abbrev dktX4_found_2 : List UInt8 := dkwX4_found_2 ++ dktX4_found_3
def dkwX4_found_1 : List UInt8 := [184, 0, 54, 153, 0, 14, 21, 4, 133, 9, 10, 184, 0, 54, 154, 0, 6, 18, 64, 172, 42, 27, 28, 5]
abbrev dktX4_found_1 : List UInt8 := dkwX4_found_1 ++ dktX4_found_2
def dkwX4_found_0 : List UInt8 := [42, 180, 0, 135, 154, 0, 6, 18, 168, 172, 27, 184, 0, 58, 153, 0, 26, 29, 133, 10, 20, 0, 199]
abbrev dktX4_found_0 : List UInt8 := dkwX4_found_0 ++ dktX4_found_1
theorem dksX4_found_0 : cX4_found.data.toList.drop 0 = dktX4_found_0 := by decide +kernel
theorem dksX4_found_1 : cX4_found.data.toList.drop 23 = dktX4_found_1 := dk_seg dksX4_found_0 23 rfl rfl
theorem dksX4_found_2 : cX4_found.data.toList.drop 47 = dktX4_found_2 := dk_seg dksX4_found_1 24 rfl rfl
theorem dksX4_found_3 : cX4_found.data.toList.drop 71 = dktX4_found_3 := dk_seg dksX4_found_2 24 rfl rfl
theorem dksX4_found_4 : cX4_found.data.toList.drop 95 = dktX4_found_4 := dk_seg dksX4_found_3 24 rfl rfl
theorem dksX4_found_5 : cX4_found.data.toList.drop 117 = dktX4_found_5 := dk_seg dksX4_found_4 22 rfl rfl
theorem dksX4_found_6 : cX4_found.data.toList.drop 140 = dktX4_found_6 := dk_seg dksX4_found_5 23 rfl rfl
theorem dksX4_found_7 : cX4_found.data.toList.drop 163 = dktX4_found_7 := dk_seg dksX4_found_6 23 rfl rfl
theorem dksX4_found_8 : cX4_found.data.toList.drop 187 = dktX4_found_8 := dk_seg dksX4_found_7 24 rfl rfl
theorem dX4_found_0 : decode cX4_found 0 = .ok (.aload_n 0, 1) := dk_42 (dk_at dksX4_found_0 0 rfl rfl)
theorem dX4_found_1 : decode cX4_found 1 = .ok (.getfield 135, 3) := dk_180 0 135 (dk_at dksX4_found_0 1 rfl rfl)
theorem dX4_found_4 : decode cX4_found 4 = .ok (.ifCond .ne 6, 3) := dk_154 0 6 (dk_at dksX4_found_0 4 rfl rfl)
theorem dX4_found_7 : decode cX4_found 7 = .ok (.ldc 168, 2) := dk_18 168 (dk_at dksX4_found_0 7 rfl rfl)
theorem dX4_found_9 : decode cX4_found 9 = .ok (.ireturn, 1) := dk_172 (dk_at dksX4_found_0 9 rfl rfl)
theorem dX4_found_10 : decode cX4_found 10 = .ok (.iload_n 1, 1) := dk_27 (dk_at dksX4_found_0 10 rfl rfl)
theorem dX4_found_11 : decode cX4_found 11 = .ok (.invokestatic 58, 3) := dk_184 0 58 (dk_at dksX4_found_0 11 rfl rfl)
theorem dX4_found_14 : decode cX4_found 14 = .ok (.ifCond .eq 26, 3) := dk_153 0 26 (dk_at dksX4_found_0 14 rfl rfl)
theorem dX4_found_17 : decode cX4_found 17 = .ok (.iload_n 3, 1) := dk_29 (dk_at dksX4_found_0 17 rfl rfl)
theorem dX4_found_18 : decode cX4_found 18 = .ok (.i2l, 1) := dk_133 (dk_at dksX4_found_0 18 rfl rfl)
theorem dX4_found_19 : decode cX4_found 19 = .ok (.lconst 1, 1) := dk_10 (dk_at dksX4_found_0 19 rfl rfl)
theorem dX4_found_20 : decode cX4_found 20 = .ok (.ldc2_w 199, 3) := dk_20 0 199 (dk_at dksX4_found_0 20 rfl rfl)
theorem dX4_found_23 : decode cX4_found 23 = .ok (.invokestatic 54, 3) := dk_184 0 54 (dk_at dksX4_found_1 0 rfl rfl)
theorem dX4_found_26 : decode cX4_found 26 = .ok (.ifCond .eq 14, 3) := dk_153 0 14 (dk_at dksX4_found_1 3 rfl rfl)
theorem dX4_found_29 : decode cX4_found 29 = .ok (.iload 4, 2) := dk_21 4 (dk_at dksX4_found_1 6 rfl rfl)
theorem dX4_found_31 : decode cX4_found 31 = .ok (.i2l, 1) := dk_133 (dk_at dksX4_found_1 8 rfl rfl)
theorem dX4_found_32 : decode cX4_found 32 = .ok (.lconst 0, 1) := dk_9 (dk_at dksX4_found_1 9 rfl rfl)
theorem dX4_found_33 : decode cX4_found 33 = .ok (.lconst 1, 1) := dk_10 (dk_at dksX4_found_1 10 rfl rfl)
theorem dX4_found_34 : decode cX4_found 34 = .ok (.invokestatic 54, 3) := dk_184 0 54 (dk_at dksX4_found_1 11 rfl rfl)
theorem dX4_found_37 : decode cX4_found 37 = .ok (.ifCond .ne 6, 3) := dk_154 0 6 (dk_at dksX4_found_1 14 rfl rfl)
theorem dX4_found_40 : decode cX4_found 40 = .ok (.ldc 64, 2) := dk_18 64 (dk_at dksX4_found_1 17 rfl rfl)
theorem dX4_found_42 : decode cX4_found 42 = .ok (.ireturn, 1) := dk_172 (dk_at dksX4_found_1 19 rfl rfl)
theorem dX4_found_43 : decode cX4_found 43 = .ok (.aload_n 0, 1) := dk_42 (dk_at dksX4_found_1 20 rfl rfl)
theorem dX4_found_44 : decode cX4_found 44 = .ok (.iload_n 1, 1) := dk_27 (dk_at dksX4_found_1 21 rfl rfl)
theorem dX4_found_45 : decode cX4_found 45 = .ok (.iload_n 2, 1) := dk_28 (dk_at dksX4_found_1 22 rfl rfl)
theorem dX4_found_46 : decode cX4_found 46 = .ok (.iconst 2, 1) := dk_5 (dk_at dksX4_found_1 23 rfl rfl)
theorem dX4_found_47 : decode cX4_found 47 = .ok (.iload_n 3, 1) := dk_29 (dk_at dksX4_found_2 0 rfl rfl)
theorem dX4_found_48 : decode cX4_found 48 = .ok (.imul, 1) := dk_104 (dk_at dksX4_found_2 1 rfl rfl)
theorem dX4_found_49 : decode cX4_found 49 = .ok (.invokevirtual 213, 3) := dk_182 0 213 (dk_at dksX4_found_2 2 rfl rfl)
theorem dX4_found_52 : decode cX4_found 52 = .ok (.istore 5, 2) := dk_54 5 (dk_at dksX4_found_2 5 rfl rfl)
theorem dX4_found_54 : decode cX4_found 54 = .ok (.iload 5, 2) := dk_21 5 (dk_at dksX4_found_2 7 rfl rfl)
theorem dX4_found_56 : decode cX4_found 56 = .ok (.ifCond .ge 6, 3) := dk_156 0 6 (dk_at dksX4_found_2 9 rfl rfl)
theorem dX4_found_59 : decode cX4_found 59 = .ok (.iload 5, 2) := dk_21 5 (dk_at dksX4_found_2 12 rfl rfl)
theorem dX4_found_61 : decode cX4_found 61 = .ok (.ireturn, 1) := dk_172 (dk_at dksX4_found_2 14 rfl rfl)
theorem dX4_found_62 : decode cX4_found 62 = .ok (.bipush 40, 2) := dk_16 40 (dk_at dksX4_found_2 15 rfl rfl)
theorem dX4_found_64 : decode cX4_found 64 = .ok (.iload_n 1, 1) := dk_27 (dk_at dksX4_found_2 17 rfl rfl)
theorem dX4_found_65 : decode cX4_found 65 = .ok (.imul, 1) := dk_104 (dk_at dksX4_found_2 18 rfl rfl)
theorem dX4_found_66 : decode cX4_found 66 = .ok (.iload_n 2, 1) := dk_28 (dk_at dksX4_found_2 19 rfl rfl)
theorem dX4_found_67 : decode cX4_found 67 = .ok (.iadd, 1) := dk_96 (dk_at dksX4_found_2 20 rfl rfl)
theorem dX4_found_68 : decode cX4_found 68 = .ok (.istore 6, 2) := dk_54 6 (dk_at dksX4_found_2 21 rfl rfl)
theorem dX4_found_70 : decode cX4_found 70 = .ok (.iconst 0, 1) := dk_3 (dk_at dksX4_found_2 23 rfl rfl)
theorem dX4_found_71 : decode cX4_found 71 = .ok (.istore 7, 2) := dk_54 7 (dk_at dksX4_found_3 0 rfl rfl)
theorem dX4_found_73 : decode cX4_found 73 = .ok (.iload 7, 2) := dk_21 7 (dk_at dksX4_found_3 2 rfl rfl)
theorem dX4_found_75 : decode cX4_found 75 = .ok (.iload_n 3, 1) := dk_29 (dk_at dksX4_found_3 4 rfl rfl)
theorem dX4_found_76 : decode cX4_found 76 = .ok (.if_icmp .ge 31, 3) := dk_162 0 31 (dk_at dksX4_found_3 5 rfl rfl)
theorem dX4_found_79 : decode cX4_found 79 = .ok (.aload_n 0, 1) := dk_42 (dk_at dksX4_found_3 8 rfl rfl)
theorem dX4_found_80 : decode cX4_found 80 = .ok (.aload_n 0, 1) := dk_42 (dk_at dksX4_found_3 9 rfl rfl)
theorem dX4_found_81 : decode cX4_found 81 = .ok (.getfield 16, 3) := dk_180 0 16 (dk_at dksX4_found_3 10 rfl rfl)
theorem dX4_found_84 : decode cX4_found 84 = .ok (.iload 6, 2) := dk_21 6 (dk_at dksX4_found_3 13 rfl rfl)
theorem dX4_found_86 : decode cX4_found 86 = .ok (.iconst 2, 1) := dk_5 (dk_at dksX4_found_3 15 rfl rfl)
theorem dX4_found_87 : decode cX4_found 87 = .ok (.iload 7, 2) := dk_21 7 (dk_at dksX4_found_3 16 rfl rfl)
theorem dX4_found_89 : decode cX4_found 89 = .ok (.imul, 1) := dk_104 (dk_at dksX4_found_3 18 rfl rfl)
theorem dX4_found_90 : decode cX4_found 90 = .ok (.iadd, 1) := dk_96 (dk_at dksX4_found_3 19 rfl rfl)
theorem dX4_found_91 : decode cX4_found 91 = .ok (.iaload, 1) := dk_46 (dk_at dksX4_found_3 20 rfl rfl)
theorem dX4_found_92 : decode cX4_found 92 = .ok (.invokevirtual 184, 3) := dk_182 0 184 (dk_at dksX4_found_3 21 rfl rfl)
theorem dX4_found_95 : decode cX4_found 95 = .ok (.ifCond .ne 6, 3) := dk_154 0 6 (dk_at dksX4_found_4 0 rfl rfl)
theorem dX4_found_98 : decode cX4_found 98 = .ok (.ldc 64, 2) := dk_18 64 (dk_at dksX4_found_4 3 rfl rfl)
theorem dX4_found_100 : decode cX4_found 100 = .ok (.ireturn, 1) := dk_172 (dk_at dksX4_found_4 5 rfl rfl)
theorem dX4_found_101 : decode cX4_found 101 = .ok (.iinc 7 1, 3) := dk_132 7 1 (dk_at dksX4_found_4 6 rfl rfl)
theorem dX4_found_104 : decode cX4_found 104 = .ok (.goto (-31), 3) := dk_167 255 225 (dk_at dksX4_found_4 9 rfl rfl)
theorem dX4_found_107 : decode cX4_found 107 = .ok (.iconst 0, 1) := dk_3 (dk_at dksX4_found_4 12 rfl rfl)
theorem dX4_found_108 : decode cX4_found 108 = .ok (.istore 7, 2) := dk_54 7 (dk_at dksX4_found_4 13 rfl rfl)
theorem dX4_found_110 : decode cX4_found 110 = .ok (.iconst 0, 1) := dk_3 (dk_at dksX4_found_4 15 rfl rfl)
theorem dX4_found_111 : decode cX4_found 111 = .ok (.istore 8, 2) := dk_54 8 (dk_at dksX4_found_4 16 rfl rfl)
theorem dX4_found_113 : decode cX4_found 113 = .ok (.iload 8, 2) := dk_21 8 (dk_at dksX4_found_4 18 rfl rfl)
theorem dX4_found_115 : decode cX4_found 115 = .ok (.bipush 10, 2) := dk_16 10 (dk_at dksX4_found_4 20 rfl rfl)
theorem dX4_found_117 : decode cX4_found 117 = .ok (.if_icmp .ge 83, 3) := dk_162 0 83 (dk_at dksX4_found_5 0 rfl rfl)
theorem dX4_found_120 : decode cX4_found 120 = .ok (.iload 4, 2) := dk_21 4 (dk_at dksX4_found_5 3 rfl rfl)
theorem dX4_found_122 : decode cX4_found 122 = .ok (.ifCond .ne 21, 3) := dk_154 0 21 (dk_at dksX4_found_5 5 rfl rfl)
theorem dX4_found_125 : decode cX4_found 125 = .ok (.aload_n 0, 1) := dk_42 (dk_at dksX4_found_5 8 rfl rfl)
theorem dX4_found_126 : decode cX4_found 126 = .ok (.iload 6, 2) := dk_21 6 (dk_at dksX4_found_5 9 rfl rfl)
theorem dX4_found_128 : decode cX4_found 128 = .ok (.iload_n 3, 1) := dk_29 (dk_at dksX4_found_5 11 rfl rfl)
theorem dX4_found_129 : decode cX4_found 129 = .ok (.iload 8, 2) := dk_21 8 (dk_at dksX4_found_5 12 rfl rfl)
theorem dX4_found_131 : decode cX4_found 131 = .ok (.aload_n 0, 1) := dk_42 (dk_at dksX4_found_5 14 rfl rfl)
theorem dX4_found_132 : decode cX4_found 132 = .ok (.getfield 19, 3) := dk_180 0 19 (dk_at dksX4_found_5 15 rfl rfl)
theorem dX4_found_135 : decode cX4_found 135 = .ok (.iconst 1, 1) := dk_4 (dk_at dksX4_found_5 18 rfl rfl)
theorem dX4_found_136 : decode cX4_found 136 = .ok (.iaload, 1) := dk_46 (dk_at dksX4_found_5 19 rfl rfl)
theorem dX4_found_137 : decode cX4_found 137 = .ok (.invokevirtual 216, 3) := dk_182 0 216 (dk_at dksX4_found_5 20 rfl rfl)
theorem dX4_found_140 : decode cX4_found 140 = .ok (.goto 34, 3) := dk_167 0 34 (dk_at dksX4_found_6 0 rfl rfl)
theorem dX4_found_143 : decode cX4_found 143 = .ok (.iload 8, 2) := dk_21 8 (dk_at dksX4_found_6 3 rfl rfl)
theorem dX4_found_145 : decode cX4_found 145 = .ok (.iconst 5, 1) := dk_8 (dk_at dksX4_found_6 5 rfl rfl)
theorem dX4_found_146 : decode cX4_found 146 = .ok (.if_icmp .ge 27, 3) := dk_162 0 27 (dk_at dksX4_found_6 6 rfl rfl)
theorem dX4_found_149 : decode cX4_found 149 = .ok (.aload_n 0, 1) := dk_42 (dk_at dksX4_found_6 9 rfl rfl)
theorem dX4_found_150 : decode cX4_found 150 = .ok (.iload 6, 2) := dk_21 6 (dk_at dksX4_found_6 10 rfl rfl)
theorem dX4_found_152 : decode cX4_found 152 = .ok (.iload_n 3, 1) := dk_29 (dk_at dksX4_found_6 12 rfl rfl)
theorem dX4_found_153 : decode cX4_found 153 = .ok (.aload_n 0, 1) := dk_42 (dk_at dksX4_found_6 13 rfl rfl)
theorem dX4_found_154 : decode cX4_found 154 = .ok (.getfield 19, 3) := dk_180 0 19 (dk_at dksX4_found_6 14 rfl rfl)
theorem dX4_found_157 : decode cX4_found 157 = .ok (.iconst 0, 1) := dk_3 (dk_at dksX4_found_6 17 rfl rfl)
theorem dX4_found_158 : decode cX4_found 158 = .ok (.iaload, 1) := dk_46 (dk_at dksX4_found_6 18 rfl rfl)
theorem dX4_found_159 : decode cX4_found 159 = .ok (.iload 8, 2) := dk_21 8 (dk_at dksX4_found_6 19 rfl rfl)
theorem dX4_found_161 : decode cX4_found 161 = .ok (.iconst 1, 1) := dk_4 (dk_at dksX4_found_6 21 rfl rfl)
theorem dX4_found_162 : decode cX4_found 162 = .ok (.iadd, 1) := dk_96 (dk_at dksX4_found_6 22 rfl rfl)
theorem dX4_found_163 : decode cX4_found 163 = .ok (.invokevirtual 216, 3) := dk_182 0 216 (dk_at dksX4_found_7 0 rfl rfl)
theorem dX4_found_166 : decode cX4_found 166 = .ok (.ifCond .eq 7, 3) := dk_153 0 7 (dk_at dksX4_found_7 3 rfl rfl)
theorem dX4_found_169 : decode cX4_found 169 = .ok (.iconst 1, 1) := dk_4 (dk_at dksX4_found_7 6 rfl rfl)
theorem dX4_found_170 : decode cX4_found 170 = .ok (.goto 4, 3) := dk_167 0 4 (dk_at dksX4_found_7 7 rfl rfl)
theorem dX4_found_173 : decode cX4_found 173 = .ok (.iconst 0, 1) := dk_3 (dk_at dksX4_found_7 10 rfl rfl)
theorem dX4_found_174 : decode cX4_found 174 = .ok (.istore 9, 2) := dk_54 9 (dk_at dksX4_found_7 11 rfl rfl)
theorem dX4_found_176 : decode cX4_found 176 = .ok (.iload 7, 2) := dk_21 7 (dk_at dksX4_found_7 13 rfl rfl)
theorem dX4_found_178 : decode cX4_found 178 = .ok (.iload 9, 2) := dk_21 9 (dk_at dksX4_found_7 15 rfl rfl)
theorem dX4_found_180 : decode cX4_found 180 = .ok (.ifCond .eq 10, 3) := dk_153 0 10 (dk_at dksX4_found_7 17 rfl rfl)
theorem dX4_found_183 : decode cX4_found 183 = .ok (.iconst 1, 1) := dk_4 (dk_at dksX4_found_7 20 rfl rfl)
theorem dX4_found_184 : decode cX4_found 184 = .ok (.iload 8, 2) := dk_21 8 (dk_at dksX4_found_7 21 rfl rfl)
theorem dX4_found_186 : decode cX4_found 186 = .ok (.ishl, 1) := dk_120 (dk_at dksX4_found_7 23 rfl rfl)
theorem dX4_found_187 : decode cX4_found 187 = .ok (.goto 4, 3) := dk_167 0 4 (dk_at dksX4_found_8 0 rfl rfl)
theorem dX4_found_190 : decode cX4_found 190 = .ok (.iconst 0, 1) := dk_3 (dk_at dksX4_found_8 3 rfl rfl)
theorem dX4_found_191 : decode cX4_found 191 = .ok (.ior, 1) := dk_128 (dk_at dksX4_found_8 4 rfl rfl)
theorem dX4_found_192 : decode cX4_found 192 = .ok (.istore 7, 2) := dk_54 7 (dk_at dksX4_found_8 5 rfl rfl)
theorem dX4_found_194 : decode cX4_found 194 = .ok (.iinc 8 1, 3) := dk_132 8 1 (dk_at dksX4_found_8 7 rfl rfl)
theorem dX4_found_197 : decode cX4_found 197 = .ok (.goto (-84), 3) := dk_167 255 172 (dk_at dksX4_found_8 10 rfl rfl)
theorem dX4_found_200 : decode cX4_found 200 = .ok (.aload_n 0, 1) := dk_42 (dk_at dksX4_found_8 13 rfl rfl)
theorem dX4_found_201 : decode cX4_found 201 = .ok (.iload 7, 2) := dk_21 7 (dk_at dksX4_found_8 14 rfl rfl)
theorem dX4_found_203 : decode cX4_found 203 = .ok (.invokevirtual 69, 3) := dk_182 0 69 (dk_at dksX4_found_8 16 rfl rfl)
theorem dX4_found_206 : decode cX4_found 206 = .ok (.ireturn, 1) := dk_172 (dk_at dksX4_found_8 19 rfl rfl)
abbrev cX4_lacks : ByteArray := prog_17_method_54_code
def yX4_lacks : MethodName := ⟨RX4, "lacks", "(III)I"⟩
def dkwX4_lacks_1 : List UInt8 := [29, 100, 133, 184, 0, 54, 153, 0, 7, 3, 167, 0, 8, 42, 5, 182, 0, 65, 172]
abbrev dktX4_lacks_1 : List UInt8 := dkwX4_lacks_1 ++ []
def dkwX4_lacks_0 : List UInt8 := [42, 180, 0, 13, 27, 46, 156, 0, 9, 42, 4, 182, 0, 65, 172, 28, 133, 9, 42, 180, 0, 13, 27, 46]
abbrev dktX4_lacks_0 : List UInt8 := dkwX4_lacks_0 ++ dktX4_lacks_1
theorem dksX4_lacks_0 : cX4_lacks.data.toList.drop 0 = dktX4_lacks_0 := by decide +kernel
theorem dksX4_lacks_1 : cX4_lacks.data.toList.drop 24 = dktX4_lacks_1 := dk_seg dksX4_lacks_0 24 rfl rfl
theorem dX4_lacks_0 : decode cX4_lacks 0 = .ok (.aload_n 0, 1) := dk_42 (dk_at dksX4_lacks_0 0 rfl rfl)
theorem dX4_lacks_1 : decode cX4_lacks 1 = .ok (.getfield 13, 3) := dk_180 0 13 (dk_at dksX4_lacks_0 1 rfl rfl)
theorem dX4_lacks_4 : decode cX4_lacks 4 = .ok (.iload_n 1, 1) := dk_27 (dk_at dksX4_lacks_0 4 rfl rfl)
theorem dX4_lacks_5 : decode cX4_lacks 5 = .ok (.iaload, 1) := dk_46 (dk_at dksX4_lacks_0 5 rfl rfl)
theorem dX4_lacks_6 : decode cX4_lacks 6 = .ok (.ifCond .ge 9, 3) := dk_156 0 9 (dk_at dksX4_lacks_0 6 rfl rfl)
theorem dX4_lacks_9 : decode cX4_lacks 9 = .ok (.aload_n 0, 1) := dk_42 (dk_at dksX4_lacks_0 9 rfl rfl)
theorem dX4_lacks_10 : decode cX4_lacks 10 = .ok (.iconst 1, 1) := dk_4 (dk_at dksX4_lacks_0 10 rfl rfl)
theorem dX4_lacks_11 : decode cX4_lacks 11 = .ok (.invokevirtual 65, 3) := dk_182 0 65 (dk_at dksX4_lacks_0 11 rfl rfl)
theorem dX4_lacks_14 : decode cX4_lacks 14 = .ok (.ireturn, 1) := dk_172 (dk_at dksX4_lacks_0 14 rfl rfl)
theorem dX4_lacks_15 : decode cX4_lacks 15 = .ok (.iload_n 2, 1) := dk_28 (dk_at dksX4_lacks_0 15 rfl rfl)
theorem dX4_lacks_16 : decode cX4_lacks 16 = .ok (.i2l, 1) := dk_133 (dk_at dksX4_lacks_0 16 rfl rfl)
theorem dX4_lacks_17 : decode cX4_lacks 17 = .ok (.lconst 0, 1) := dk_9 (dk_at dksX4_lacks_0 17 rfl rfl)
theorem dX4_lacks_18 : decode cX4_lacks 18 = .ok (.aload_n 0, 1) := dk_42 (dk_at dksX4_lacks_0 18 rfl rfl)
theorem dX4_lacks_19 : decode cX4_lacks 19 = .ok (.getfield 13, 3) := dk_180 0 13 (dk_at dksX4_lacks_0 19 rfl rfl)
theorem dX4_lacks_22 : decode cX4_lacks 22 = .ok (.iload_n 1, 1) := dk_27 (dk_at dksX4_lacks_0 22 rfl rfl)
theorem dX4_lacks_23 : decode cX4_lacks 23 = .ok (.iaload, 1) := dk_46 (dk_at dksX4_lacks_0 23 rfl rfl)
theorem dX4_lacks_24 : decode cX4_lacks 24 = .ok (.iload_n 3, 1) := dk_29 (dk_at dksX4_lacks_1 0 rfl rfl)
theorem dX4_lacks_25 : decode cX4_lacks 25 = .ok (.isub, 1) := dk_100 (dk_at dksX4_lacks_1 1 rfl rfl)
theorem dX4_lacks_26 : decode cX4_lacks 26 = .ok (.i2l, 1) := dk_133 (dk_at dksX4_lacks_1 2 rfl rfl)
theorem dX4_lacks_27 : decode cX4_lacks 27 = .ok (.invokestatic 54, 3) := dk_184 0 54 (dk_at dksX4_lacks_1 3 rfl rfl)
theorem dX4_lacks_30 : decode cX4_lacks 30 = .ok (.ifCond .eq 7, 3) := dk_153 0 7 (dk_at dksX4_lacks_1 6 rfl rfl)
theorem dX4_lacks_33 : decode cX4_lacks 33 = .ok (.iconst 0, 1) := dk_3 (dk_at dksX4_lacks_1 9 rfl rfl)
theorem dX4_lacks_34 : decode cX4_lacks 34 = .ok (.goto 8, 3) := dk_167 0 8 (dk_at dksX4_lacks_1 10 rfl rfl)
theorem dX4_lacks_37 : decode cX4_lacks 37 = .ok (.aload_n 0, 1) := dk_42 (dk_at dksX4_lacks_1 13 rfl rfl)
theorem dX4_lacks_38 : decode cX4_lacks 38 = .ok (.iconst 2, 1) := dk_5 (dk_at dksX4_lacks_1 14 rfl rfl)
theorem dX4_lacks_39 : decode cX4_lacks 39 = .ok (.invokevirtual 65, 3) := dk_182 0 65 (dk_at dksX4_lacks_1 15 rfl rfl)
theorem dX4_lacks_42 : decode cX4_lacks 42 = .ok (.ireturn, 1) := dk_172 (dk_at dksX4_lacks_1 18 rfl rfl)
abbrev cX4_isSo : ByteArray := prog_17_method_55_code
def yX4_isSo : MethodName := ⟨RX4, "isSo", "(IIII)Z"⟩
def dkwX4_isSo_2 : List UInt8 := [4, 96, 46, 160, 0, 7, 4, 167, 0, 4, 3, 54, 5, 132, 6, 1, 167, 255, 198, 21, 5, 172]
abbrev dktX4_isSo_2 : List UInt8 := dkwX4_isSo_2 ++ []
def dkwX4_isSo_1 : List UInt8 := [21, 6, 104, 96, 46, 182, 0, 159, 29, 21, 4, 184, 0, 162, 42, 180, 0, 16, 27, 5, 21, 6, 104, 96]
abbrev dktX4_isSo_1 : List UInt8 := dkwX4_isSo_1 ++ dktX4_isSo_2
def dkwX4_isSo_0 : List UInt8 := [4, 54, 5, 3, 54, 6, 21, 6, 28, 162, 0, 58, 21, 5, 153, 0, 44, 42, 42, 180, 0, 16, 27, 5]
abbrev dktX4_isSo_0 : List UInt8 := dkwX4_isSo_0 ++ dktX4_isSo_1
theorem dksX4_isSo_0 : cX4_isSo.data.toList.drop 0 = dktX4_isSo_0 := by decide +kernel
theorem dksX4_isSo_1 : cX4_isSo.data.toList.drop 24 = dktX4_isSo_1 := dk_seg dksX4_isSo_0 24 rfl rfl
theorem dksX4_isSo_2 : cX4_isSo.data.toList.drop 48 = dktX4_isSo_2 := dk_seg dksX4_isSo_1 24 rfl rfl
theorem dX4_isSo_0 : decode cX4_isSo 0 = .ok (.iconst 1, 1) := dk_4 (dk_at dksX4_isSo_0 0 rfl rfl)
theorem dX4_isSo_1 : decode cX4_isSo 1 = .ok (.istore 5, 2) := dk_54 5 (dk_at dksX4_isSo_0 1 rfl rfl)
theorem dX4_isSo_3 : decode cX4_isSo 3 = .ok (.iconst 0, 1) := dk_3 (dk_at dksX4_isSo_0 3 rfl rfl)
theorem dX4_isSo_4 : decode cX4_isSo 4 = .ok (.istore 6, 2) := dk_54 6 (dk_at dksX4_isSo_0 4 rfl rfl)
theorem dX4_isSo_6 : decode cX4_isSo 6 = .ok (.iload 6, 2) := dk_21 6 (dk_at dksX4_isSo_0 6 rfl rfl)
theorem dX4_isSo_8 : decode cX4_isSo 8 = .ok (.iload_n 2, 1) := dk_28 (dk_at dksX4_isSo_0 8 rfl rfl)
theorem dX4_isSo_9 : decode cX4_isSo 9 = .ok (.if_icmp .ge 58, 3) := dk_162 0 58 (dk_at dksX4_isSo_0 9 rfl rfl)
theorem dX4_isSo_12 : decode cX4_isSo 12 = .ok (.iload 5, 2) := dk_21 5 (dk_at dksX4_isSo_0 12 rfl rfl)
theorem dX4_isSo_14 : decode cX4_isSo 14 = .ok (.ifCond .eq 44, 3) := dk_153 0 44 (dk_at dksX4_isSo_0 14 rfl rfl)
theorem dX4_isSo_17 : decode cX4_isSo 17 = .ok (.aload_n 0, 1) := dk_42 (dk_at dksX4_isSo_0 17 rfl rfl)
theorem dX4_isSo_18 : decode cX4_isSo 18 = .ok (.aload_n 0, 1) := dk_42 (dk_at dksX4_isSo_0 18 rfl rfl)
theorem dX4_isSo_19 : decode cX4_isSo 19 = .ok (.getfield 16, 3) := dk_180 0 16 (dk_at dksX4_isSo_0 19 rfl rfl)
theorem dX4_isSo_22 : decode cX4_isSo 22 = .ok (.iload_n 1, 1) := dk_27 (dk_at dksX4_isSo_0 22 rfl rfl)
theorem dX4_isSo_23 : decode cX4_isSo 23 = .ok (.iconst 2, 1) := dk_5 (dk_at dksX4_isSo_0 23 rfl rfl)
theorem dX4_isSo_24 : decode cX4_isSo 24 = .ok (.iload 6, 2) := dk_21 6 (dk_at dksX4_isSo_1 0 rfl rfl)
theorem dX4_isSo_26 : decode cX4_isSo 26 = .ok (.imul, 1) := dk_104 (dk_at dksX4_isSo_1 2 rfl rfl)
theorem dX4_isSo_27 : decode cX4_isSo 27 = .ok (.iadd, 1) := dk_96 (dk_at dksX4_isSo_1 3 rfl rfl)
theorem dX4_isSo_28 : decode cX4_isSo 28 = .ok (.iaload, 1) := dk_46 (dk_at dksX4_isSo_1 4 rfl rfl)
theorem dX4_isSo_29 : decode cX4_isSo 29 = .ok (.invokevirtual 159, 3) := dk_182 0 159 (dk_at dksX4_isSo_1 5 rfl rfl)
theorem dX4_isSo_32 : decode cX4_isSo 32 = .ok (.iload_n 3, 1) := dk_29 (dk_at dksX4_isSo_1 8 rfl rfl)
theorem dX4_isSo_33 : decode cX4_isSo 33 = .ok (.iload 4, 2) := dk_21 4 (dk_at dksX4_isSo_1 9 rfl rfl)
theorem dX4_isSo_35 : decode cX4_isSo 35 = .ok (.invokestatic 162, 3) := dk_184 0 162 (dk_at dksX4_isSo_1 11 rfl rfl)
theorem dX4_isSo_38 : decode cX4_isSo 38 = .ok (.aload_n 0, 1) := dk_42 (dk_at dksX4_isSo_1 14 rfl rfl)
theorem dX4_isSo_39 : decode cX4_isSo 39 = .ok (.getfield 16, 3) := dk_180 0 16 (dk_at dksX4_isSo_1 15 rfl rfl)
theorem dX4_isSo_42 : decode cX4_isSo 42 = .ok (.iload_n 1, 1) := dk_27 (dk_at dksX4_isSo_1 18 rfl rfl)
theorem dX4_isSo_43 : decode cX4_isSo 43 = .ok (.iconst 2, 1) := dk_5 (dk_at dksX4_isSo_1 19 rfl rfl)
theorem dX4_isSo_44 : decode cX4_isSo 44 = .ok (.iload 6, 2) := dk_21 6 (dk_at dksX4_isSo_1 20 rfl rfl)
theorem dX4_isSo_46 : decode cX4_isSo 46 = .ok (.imul, 1) := dk_104 (dk_at dksX4_isSo_1 22 rfl rfl)
theorem dX4_isSo_47 : decode cX4_isSo 47 = .ok (.iadd, 1) := dk_96 (dk_at dksX4_isSo_1 23 rfl rfl)
theorem dX4_isSo_48 : decode cX4_isSo 48 = .ok (.iconst 1, 1) := dk_4 (dk_at dksX4_isSo_2 0 rfl rfl)
theorem dX4_isSo_49 : decode cX4_isSo 49 = .ok (.iadd, 1) := dk_96 (dk_at dksX4_isSo_2 1 rfl rfl)
theorem dX4_isSo_50 : decode cX4_isSo 50 = .ok (.iaload, 1) := dk_46 (dk_at dksX4_isSo_2 2 rfl rfl)
theorem dX4_isSo_51 : decode cX4_isSo 51 = .ok (.if_icmp .ne 7, 3) := dk_160 0 7 (dk_at dksX4_isSo_2 3 rfl rfl)
theorem dX4_isSo_54 : decode cX4_isSo 54 = .ok (.iconst 1, 1) := dk_4 (dk_at dksX4_isSo_2 6 rfl rfl)
theorem dX4_isSo_55 : decode cX4_isSo 55 = .ok (.goto 4, 3) := dk_167 0 4 (dk_at dksX4_isSo_2 7 rfl rfl)
theorem dX4_isSo_58 : decode cX4_isSo 58 = .ok (.iconst 0, 1) := dk_3 (dk_at dksX4_isSo_2 10 rfl rfl)
theorem dX4_isSo_59 : decode cX4_isSo 59 = .ok (.istore 5, 2) := dk_54 5 (dk_at dksX4_isSo_2 11 rfl rfl)
theorem dX4_isSo_61 : decode cX4_isSo 61 = .ok (.iinc 6 1, 3) := dk_132 6 1 (dk_at dksX4_isSo_2 13 rfl rfl)
theorem dX4_isSo_64 : decode cX4_isSo 64 = .ok (.goto (-58), 3) := dk_167 255 198 (dk_at dksX4_isSo_2 16 rfl rfl)
theorem dX4_isSo_67 : decode cX4_isSo 67 = .ok (.iload 5, 2) := dk_21 5 (dk_at dksX4_isSo_2 19 rfl rfl)
theorem dX4_isSo_69 : decode cX4_isSo 69 = .ok (.ireturn, 1) := dk_172 (dk_at dksX4_isSo_2 21 rfl rfl)
abbrev cX4_keepsFound : ByteArray := prog_17_method_57_code
def yX4_keepsFound : MethodName := ⟨RX4, "keepsFound", "(III)I"⟩
def dkwX4_keepsFound_8 : List UInt8 := [128, 54, 6, 132, 7, 1, 167, 255, 146, 42, 21, 6, 182, 0, 69, 172]
abbrev dktX4_keepsFound_8 : List UInt8 := dkwX4_keepsFound_8 ++ []
def dkwX4_keepsFound_7 : List UInt8 := [132, 9, 1, 132, 10, 1, 167, 255, 191, 21, 6, 21, 8, 153, 0, 10, 4, 21, 7, 120, 167, 0, 4, 3]
abbrev dktX4_keepsFound_7 : List UInt8 := dkwX4_keepsFound_7 ++ dktX4_keepsFound_8
def dkwX4_keepsFound_6 : List UInt8 := [21, 7, 104, 16, 10, 108, 42, 180, 0, 16, 21, 9, 46, 160, 0, 7, 4, 167, 0, 4, 3, 54, 8]
abbrev dktX4_keepsFound_6 : List UInt8 := dkwX4_keepsFound_6 ++ dktX4_keepsFound_7
def dkwX4_keepsFound_5 : List UInt8 := [21, 10, 27, 182, 0, 219, 153, 0, 44, 21, 8, 153, 0, 33, 42, 180, 0, 19, 16, 41, 21, 10, 96, 46]
abbrev dktX4_keepsFound_5 : List UInt8 := dkwX4_keepsFound_5 ++ dktX4_keepsFound_6
def dkwX4_keepsFound_4 : List UInt8 := [16, 40, 28, 104, 29, 96, 54, 9, 3, 54, 10, 21, 10, 42, 180, 0, 19, 6, 46, 162, 0, 60, 42]
abbrev dktX4_keepsFound_4 : List UInt8 := dkwX4_keepsFound_4 ++ dktX4_keepsFound_5
def dkwX4_keepsFound_3 : List UInt8 := [21, 5, 156, 0, 6, 21, 5, 172, 3, 54, 6, 3, 54, 7, 21, 7, 16, 10, 163, 0, 109, 4, 54, 8]
abbrev dktX4_keepsFound_3 : List UInt8 := dkwX4_keepsFound_3 ++ dktX4_keepsFound_4
def dkwX4_keepsFound_2 : List UInt8 := [167, 0, 4, 3, 96, 54, 4, 132, 5, 1, 167, 255, 222, 42, 28, 29, 21, 4, 182, 0, 213, 54, 5]
abbrev dktX4_keepsFound_2 : List UInt8 := dkwX4_keepsFound_2 ++ dktX4_keepsFound_3
def dkwX4_keepsFound_1 : List UInt8 := [21, 5, 42, 180, 0, 19, 6, 46, 162, 0, 29, 21, 4, 42, 21, 5, 27, 182, 0, 219, 153, 0, 7, 4]
abbrev dktX4_keepsFound_1 : List UInt8 := dkwX4_keepsFound_1 ++ dktX4_keepsFound_2
def dkwX4_keepsFound_0 : List UInt8 := [42, 27, 182, 0, 181, 153, 0, 10, 28, 184, 0, 58, 154, 0, 6, 18, 64, 172, 3, 54, 4, 3, 54, 5]
abbrev dktX4_keepsFound_0 : List UInt8 := dkwX4_keepsFound_0 ++ dktX4_keepsFound_1
theorem dksX4_keepsFound_0 : cX4_keepsFound.data.toList.drop 0 = dktX4_keepsFound_0 := by decide +kernel
theorem dksX4_keepsFound_1 : cX4_keepsFound.data.toList.drop 24 = dktX4_keepsFound_1 := dk_seg dksX4_keepsFound_0 24 rfl rfl
theorem dksX4_keepsFound_2 : cX4_keepsFound.data.toList.drop 48 = dktX4_keepsFound_2 := dk_seg dksX4_keepsFound_1 24 rfl rfl
theorem dksX4_keepsFound_3 : cX4_keepsFound.data.toList.drop 71 = dktX4_keepsFound_3 := dk_seg dksX4_keepsFound_2 23 rfl rfl
theorem dksX4_keepsFound_4 : cX4_keepsFound.data.toList.drop 95 = dktX4_keepsFound_4 := dk_seg dksX4_keepsFound_3 24 rfl rfl
theorem dksX4_keepsFound_5 : cX4_keepsFound.data.toList.drop 118 = dktX4_keepsFound_5 := dk_seg dksX4_keepsFound_4 23 rfl rfl
theorem dksX4_keepsFound_6 : cX4_keepsFound.data.toList.drop 142 = dktX4_keepsFound_6 := dk_seg dksX4_keepsFound_5 24 rfl rfl
theorem dksX4_keepsFound_7 : cX4_keepsFound.data.toList.drop 165 = dktX4_keepsFound_7 := dk_seg dksX4_keepsFound_6 23 rfl rfl
theorem dksX4_keepsFound_8 : cX4_keepsFound.data.toList.drop 189 = dktX4_keepsFound_8 := dk_seg dksX4_keepsFound_7 24 rfl rfl
theorem dX4_keepsFound_0 : decode cX4_keepsFound 0 = .ok (.aload_n 0, 1) := dk_42 (dk_at dksX4_keepsFound_0 0 rfl rfl)
theorem dX4_keepsFound_1 : decode cX4_keepsFound 1 = .ok (.iload_n 1, 1) := dk_27 (dk_at dksX4_keepsFound_0 1 rfl rfl)
theorem dX4_keepsFound_2 : decode cX4_keepsFound 2 = .ok (.invokevirtual 181, 3) := dk_182 0 181 (dk_at dksX4_keepsFound_0 2 rfl rfl)
theorem dX4_keepsFound_5 : decode cX4_keepsFound 5 = .ok (.ifCond .eq 10, 3) := dk_153 0 10 (dk_at dksX4_keepsFound_0 5 rfl rfl)
theorem dX4_keepsFound_8 : decode cX4_keepsFound 8 = .ok (.iload_n 2, 1) := dk_28 (dk_at dksX4_keepsFound_0 8 rfl rfl)
theorem dX4_keepsFound_9 : decode cX4_keepsFound 9 = .ok (.invokestatic 58, 3) := dk_184 0 58 (dk_at dksX4_keepsFound_0 9 rfl rfl)
theorem dX4_keepsFound_12 : decode cX4_keepsFound 12 = .ok (.ifCond .ne 6, 3) := dk_154 0 6 (dk_at dksX4_keepsFound_0 12 rfl rfl)
theorem dX4_keepsFound_15 : decode cX4_keepsFound 15 = .ok (.ldc 64, 2) := dk_18 64 (dk_at dksX4_keepsFound_0 15 rfl rfl)
theorem dX4_keepsFound_17 : decode cX4_keepsFound 17 = .ok (.ireturn, 1) := dk_172 (dk_at dksX4_keepsFound_0 17 rfl rfl)
theorem dX4_keepsFound_18 : decode cX4_keepsFound 18 = .ok (.iconst 0, 1) := dk_3 (dk_at dksX4_keepsFound_0 18 rfl rfl)
theorem dX4_keepsFound_19 : decode cX4_keepsFound 19 = .ok (.istore 4, 2) := dk_54 4 (dk_at dksX4_keepsFound_0 19 rfl rfl)
theorem dX4_keepsFound_21 : decode cX4_keepsFound 21 = .ok (.iconst 0, 1) := dk_3 (dk_at dksX4_keepsFound_0 21 rfl rfl)
theorem dX4_keepsFound_22 : decode cX4_keepsFound 22 = .ok (.istore 5, 2) := dk_54 5 (dk_at dksX4_keepsFound_0 22 rfl rfl)
theorem dX4_keepsFound_24 : decode cX4_keepsFound 24 = .ok (.iload 5, 2) := dk_21 5 (dk_at dksX4_keepsFound_1 0 rfl rfl)
theorem dX4_keepsFound_26 : decode cX4_keepsFound 26 = .ok (.aload_n 0, 1) := dk_42 (dk_at dksX4_keepsFound_1 2 rfl rfl)
theorem dX4_keepsFound_27 : decode cX4_keepsFound 27 = .ok (.getfield 19, 3) := dk_180 0 19 (dk_at dksX4_keepsFound_1 3 rfl rfl)
theorem dX4_keepsFound_30 : decode cX4_keepsFound 30 = .ok (.iconst 3, 1) := dk_6 (dk_at dksX4_keepsFound_1 6 rfl rfl)
theorem dX4_keepsFound_31 : decode cX4_keepsFound 31 = .ok (.iaload, 1) := dk_46 (dk_at dksX4_keepsFound_1 7 rfl rfl)
theorem dX4_keepsFound_32 : decode cX4_keepsFound 32 = .ok (.if_icmp .ge 29, 3) := dk_162 0 29 (dk_at dksX4_keepsFound_1 8 rfl rfl)
theorem dX4_keepsFound_35 : decode cX4_keepsFound 35 = .ok (.iload 4, 2) := dk_21 4 (dk_at dksX4_keepsFound_1 11 rfl rfl)
theorem dX4_keepsFound_37 : decode cX4_keepsFound 37 = .ok (.aload_n 0, 1) := dk_42 (dk_at dksX4_keepsFound_1 13 rfl rfl)
theorem dX4_keepsFound_38 : decode cX4_keepsFound 38 = .ok (.iload 5, 2) := dk_21 5 (dk_at dksX4_keepsFound_1 14 rfl rfl)
theorem dX4_keepsFound_40 : decode cX4_keepsFound 40 = .ok (.iload_n 1, 1) := dk_27 (dk_at dksX4_keepsFound_1 16 rfl rfl)
theorem dX4_keepsFound_41 : decode cX4_keepsFound 41 = .ok (.invokevirtual 219, 3) := dk_182 0 219 (dk_at dksX4_keepsFound_1 17 rfl rfl)
theorem dX4_keepsFound_44 : decode cX4_keepsFound 44 = .ok (.ifCond .eq 7, 3) := dk_153 0 7 (dk_at dksX4_keepsFound_1 20 rfl rfl)
theorem dX4_keepsFound_47 : decode cX4_keepsFound 47 = .ok (.iconst 1, 1) := dk_4 (dk_at dksX4_keepsFound_1 23 rfl rfl)
theorem dX4_keepsFound_48 : decode cX4_keepsFound 48 = .ok (.goto 4, 3) := dk_167 0 4 (dk_at dksX4_keepsFound_2 0 rfl rfl)
theorem dX4_keepsFound_51 : decode cX4_keepsFound 51 = .ok (.iconst 0, 1) := dk_3 (dk_at dksX4_keepsFound_2 3 rfl rfl)
theorem dX4_keepsFound_52 : decode cX4_keepsFound 52 = .ok (.iadd, 1) := dk_96 (dk_at dksX4_keepsFound_2 4 rfl rfl)
theorem dX4_keepsFound_53 : decode cX4_keepsFound 53 = .ok (.istore 4, 2) := dk_54 4 (dk_at dksX4_keepsFound_2 5 rfl rfl)
theorem dX4_keepsFound_55 : decode cX4_keepsFound 55 = .ok (.iinc 5 1, 3) := dk_132 5 1 (dk_at dksX4_keepsFound_2 7 rfl rfl)
theorem dX4_keepsFound_58 : decode cX4_keepsFound 58 = .ok (.goto (-34), 3) := dk_167 255 222 (dk_at dksX4_keepsFound_2 10 rfl rfl)
theorem dX4_keepsFound_61 : decode cX4_keepsFound 61 = .ok (.aload_n 0, 1) := dk_42 (dk_at dksX4_keepsFound_2 13 rfl rfl)
theorem dX4_keepsFound_62 : decode cX4_keepsFound 62 = .ok (.iload_n 2, 1) := dk_28 (dk_at dksX4_keepsFound_2 14 rfl rfl)
theorem dX4_keepsFound_63 : decode cX4_keepsFound 63 = .ok (.iload_n 3, 1) := dk_29 (dk_at dksX4_keepsFound_2 15 rfl rfl)
theorem dX4_keepsFound_64 : decode cX4_keepsFound 64 = .ok (.iload 4, 2) := dk_21 4 (dk_at dksX4_keepsFound_2 16 rfl rfl)
theorem dX4_keepsFound_66 : decode cX4_keepsFound 66 = .ok (.invokevirtual 213, 3) := dk_182 0 213 (dk_at dksX4_keepsFound_2 18 rfl rfl)
theorem dX4_keepsFound_69 : decode cX4_keepsFound 69 = .ok (.istore 5, 2) := dk_54 5 (dk_at dksX4_keepsFound_2 21 rfl rfl)
theorem dX4_keepsFound_71 : decode cX4_keepsFound 71 = .ok (.iload 5, 2) := dk_21 5 (dk_at dksX4_keepsFound_3 0 rfl rfl)
theorem dX4_keepsFound_73 : decode cX4_keepsFound 73 = .ok (.ifCond .ge 6, 3) := dk_156 0 6 (dk_at dksX4_keepsFound_3 2 rfl rfl)
theorem dX4_keepsFound_76 : decode cX4_keepsFound 76 = .ok (.iload 5, 2) := dk_21 5 (dk_at dksX4_keepsFound_3 5 rfl rfl)
theorem dX4_keepsFound_78 : decode cX4_keepsFound 78 = .ok (.ireturn, 1) := dk_172 (dk_at dksX4_keepsFound_3 7 rfl rfl)
theorem dX4_keepsFound_79 : decode cX4_keepsFound 79 = .ok (.iconst 0, 1) := dk_3 (dk_at dksX4_keepsFound_3 8 rfl rfl)
theorem dX4_keepsFound_80 : decode cX4_keepsFound 80 = .ok (.istore 6, 2) := dk_54 6 (dk_at dksX4_keepsFound_3 9 rfl rfl)
theorem dX4_keepsFound_82 : decode cX4_keepsFound 82 = .ok (.iconst 0, 1) := dk_3 (dk_at dksX4_keepsFound_3 11 rfl rfl)
theorem dX4_keepsFound_83 : decode cX4_keepsFound 83 = .ok (.istore 7, 2) := dk_54 7 (dk_at dksX4_keepsFound_3 12 rfl rfl)
theorem dX4_keepsFound_85 : decode cX4_keepsFound 85 = .ok (.iload 7, 2) := dk_21 7 (dk_at dksX4_keepsFound_3 14 rfl rfl)
theorem dX4_keepsFound_87 : decode cX4_keepsFound 87 = .ok (.bipush 10, 2) := dk_16 10 (dk_at dksX4_keepsFound_3 16 rfl rfl)
theorem dX4_keepsFound_89 : decode cX4_keepsFound 89 = .ok (.if_icmp .gt 109, 3) := dk_163 0 109 (dk_at dksX4_keepsFound_3 18 rfl rfl)
theorem dX4_keepsFound_92 : decode cX4_keepsFound 92 = .ok (.iconst 1, 1) := dk_4 (dk_at dksX4_keepsFound_3 21 rfl rfl)
theorem dX4_keepsFound_93 : decode cX4_keepsFound 93 = .ok (.istore 8, 2) := dk_54 8 (dk_at dksX4_keepsFound_3 22 rfl rfl)
theorem dX4_keepsFound_95 : decode cX4_keepsFound 95 = .ok (.bipush 40, 2) := dk_16 40 (dk_at dksX4_keepsFound_4 0 rfl rfl)
theorem dX4_keepsFound_97 : decode cX4_keepsFound 97 = .ok (.iload_n 2, 1) := dk_28 (dk_at dksX4_keepsFound_4 2 rfl rfl)
theorem dX4_keepsFound_98 : decode cX4_keepsFound 98 = .ok (.imul, 1) := dk_104 (dk_at dksX4_keepsFound_4 3 rfl rfl)
theorem dX4_keepsFound_99 : decode cX4_keepsFound 99 = .ok (.iload_n 3, 1) := dk_29 (dk_at dksX4_keepsFound_4 4 rfl rfl)
theorem dX4_keepsFound_100 : decode cX4_keepsFound 100 = .ok (.iadd, 1) := dk_96 (dk_at dksX4_keepsFound_4 5 rfl rfl)
theorem dX4_keepsFound_101 : decode cX4_keepsFound 101 = .ok (.istore 9, 2) := dk_54 9 (dk_at dksX4_keepsFound_4 6 rfl rfl)
theorem dX4_keepsFound_103 : decode cX4_keepsFound 103 = .ok (.iconst 0, 1) := dk_3 (dk_at dksX4_keepsFound_4 8 rfl rfl)
theorem dX4_keepsFound_104 : decode cX4_keepsFound 104 = .ok (.istore 10, 2) := dk_54 10 (dk_at dksX4_keepsFound_4 9 rfl rfl)
theorem dX4_keepsFound_106 : decode cX4_keepsFound 106 = .ok (.iload 10, 2) := dk_21 10 (dk_at dksX4_keepsFound_4 11 rfl rfl)
theorem dX4_keepsFound_108 : decode cX4_keepsFound 108 = .ok (.aload_n 0, 1) := dk_42 (dk_at dksX4_keepsFound_4 13 rfl rfl)
theorem dX4_keepsFound_109 : decode cX4_keepsFound 109 = .ok (.getfield 19, 3) := dk_180 0 19 (dk_at dksX4_keepsFound_4 14 rfl rfl)
theorem dX4_keepsFound_112 : decode cX4_keepsFound 112 = .ok (.iconst 3, 1) := dk_6 (dk_at dksX4_keepsFound_4 17 rfl rfl)
theorem dX4_keepsFound_113 : decode cX4_keepsFound 113 = .ok (.iaload, 1) := dk_46 (dk_at dksX4_keepsFound_4 18 rfl rfl)
theorem dX4_keepsFound_114 : decode cX4_keepsFound 114 = .ok (.if_icmp .ge 60, 3) := dk_162 0 60 (dk_at dksX4_keepsFound_4 19 rfl rfl)
theorem dX4_keepsFound_117 : decode cX4_keepsFound 117 = .ok (.aload_n 0, 1) := dk_42 (dk_at dksX4_keepsFound_4 22 rfl rfl)
theorem dX4_keepsFound_118 : decode cX4_keepsFound 118 = .ok (.iload 10, 2) := dk_21 10 (dk_at dksX4_keepsFound_5 0 rfl rfl)
theorem dX4_keepsFound_120 : decode cX4_keepsFound 120 = .ok (.iload_n 1, 1) := dk_27 (dk_at dksX4_keepsFound_5 2 rfl rfl)
theorem dX4_keepsFound_121 : decode cX4_keepsFound 121 = .ok (.invokevirtual 219, 3) := dk_182 0 219 (dk_at dksX4_keepsFound_5 3 rfl rfl)
theorem dX4_keepsFound_124 : decode cX4_keepsFound 124 = .ok (.ifCond .eq 44, 3) := dk_153 0 44 (dk_at dksX4_keepsFound_5 6 rfl rfl)
theorem dX4_keepsFound_127 : decode cX4_keepsFound 127 = .ok (.iload 8, 2) := dk_21 8 (dk_at dksX4_keepsFound_5 9 rfl rfl)
theorem dX4_keepsFound_129 : decode cX4_keepsFound 129 = .ok (.ifCond .eq 33, 3) := dk_153 0 33 (dk_at dksX4_keepsFound_5 11 rfl rfl)
theorem dX4_keepsFound_132 : decode cX4_keepsFound 132 = .ok (.aload_n 0, 1) := dk_42 (dk_at dksX4_keepsFound_5 14 rfl rfl)
theorem dX4_keepsFound_133 : decode cX4_keepsFound 133 = .ok (.getfield 19, 3) := dk_180 0 19 (dk_at dksX4_keepsFound_5 15 rfl rfl)
theorem dX4_keepsFound_136 : decode cX4_keepsFound 136 = .ok (.bipush 41, 2) := dk_16 41 (dk_at dksX4_keepsFound_5 18 rfl rfl)
theorem dX4_keepsFound_138 : decode cX4_keepsFound 138 = .ok (.iload 10, 2) := dk_21 10 (dk_at dksX4_keepsFound_5 20 rfl rfl)
theorem dX4_keepsFound_140 : decode cX4_keepsFound 140 = .ok (.iadd, 1) := dk_96 (dk_at dksX4_keepsFound_5 22 rfl rfl)
theorem dX4_keepsFound_141 : decode cX4_keepsFound 141 = .ok (.iaload, 1) := dk_46 (dk_at dksX4_keepsFound_5 23 rfl rfl)
theorem dX4_keepsFound_142 : decode cX4_keepsFound 142 = .ok (.iload 7, 2) := dk_21 7 (dk_at dksX4_keepsFound_6 0 rfl rfl)
theorem dX4_keepsFound_144 : decode cX4_keepsFound 144 = .ok (.imul, 1) := dk_104 (dk_at dksX4_keepsFound_6 2 rfl rfl)
theorem dX4_keepsFound_145 : decode cX4_keepsFound 145 = .ok (.bipush 10, 2) := dk_16 10 (dk_at dksX4_keepsFound_6 3 rfl rfl)
theorem dX4_keepsFound_147 : decode cX4_keepsFound 147 = .ok (.idiv, 1) := dk_108 (dk_at dksX4_keepsFound_6 5 rfl rfl)
theorem dX4_keepsFound_148 : decode cX4_keepsFound 148 = .ok (.aload_n 0, 1) := dk_42 (dk_at dksX4_keepsFound_6 6 rfl rfl)
theorem dX4_keepsFound_149 : decode cX4_keepsFound 149 = .ok (.getfield 16, 3) := dk_180 0 16 (dk_at dksX4_keepsFound_6 7 rfl rfl)
theorem dX4_keepsFound_152 : decode cX4_keepsFound 152 = .ok (.iload 9, 2) := dk_21 9 (dk_at dksX4_keepsFound_6 10 rfl rfl)
theorem dX4_keepsFound_154 : decode cX4_keepsFound 154 = .ok (.iaload, 1) := dk_46 (dk_at dksX4_keepsFound_6 12 rfl rfl)
theorem dX4_keepsFound_155 : decode cX4_keepsFound 155 = .ok (.if_icmp .ne 7, 3) := dk_160 0 7 (dk_at dksX4_keepsFound_6 13 rfl rfl)
theorem dX4_keepsFound_158 : decode cX4_keepsFound 158 = .ok (.iconst 1, 1) := dk_4 (dk_at dksX4_keepsFound_6 16 rfl rfl)
theorem dX4_keepsFound_159 : decode cX4_keepsFound 159 = .ok (.goto 4, 3) := dk_167 0 4 (dk_at dksX4_keepsFound_6 17 rfl rfl)
theorem dX4_keepsFound_162 : decode cX4_keepsFound 162 = .ok (.iconst 0, 1) := dk_3 (dk_at dksX4_keepsFound_6 20 rfl rfl)
theorem dX4_keepsFound_163 : decode cX4_keepsFound 163 = .ok (.istore 8, 2) := dk_54 8 (dk_at dksX4_keepsFound_6 21 rfl rfl)
theorem dX4_keepsFound_165 : decode cX4_keepsFound 165 = .ok (.iinc 9 1, 3) := dk_132 9 1 (dk_at dksX4_keepsFound_7 0 rfl rfl)
theorem dX4_keepsFound_168 : decode cX4_keepsFound 168 = .ok (.iinc 10 1, 3) := dk_132 10 1 (dk_at dksX4_keepsFound_7 3 rfl rfl)
theorem dX4_keepsFound_171 : decode cX4_keepsFound 171 = .ok (.goto (-65), 3) := dk_167 255 191 (dk_at dksX4_keepsFound_7 6 rfl rfl)
theorem dX4_keepsFound_174 : decode cX4_keepsFound 174 = .ok (.iload 6, 2) := dk_21 6 (dk_at dksX4_keepsFound_7 9 rfl rfl)
theorem dX4_keepsFound_176 : decode cX4_keepsFound 176 = .ok (.iload 8, 2) := dk_21 8 (dk_at dksX4_keepsFound_7 11 rfl rfl)
theorem dX4_keepsFound_178 : decode cX4_keepsFound 178 = .ok (.ifCond .eq 10, 3) := dk_153 0 10 (dk_at dksX4_keepsFound_7 13 rfl rfl)
theorem dX4_keepsFound_181 : decode cX4_keepsFound 181 = .ok (.iconst 1, 1) := dk_4 (dk_at dksX4_keepsFound_7 16 rfl rfl)
theorem dX4_keepsFound_182 : decode cX4_keepsFound 182 = .ok (.iload 7, 2) := dk_21 7 (dk_at dksX4_keepsFound_7 17 rfl rfl)
theorem dX4_keepsFound_184 : decode cX4_keepsFound 184 = .ok (.ishl, 1) := dk_120 (dk_at dksX4_keepsFound_7 19 rfl rfl)
theorem dX4_keepsFound_185 : decode cX4_keepsFound 185 = .ok (.goto 4, 3) := dk_167 0 4 (dk_at dksX4_keepsFound_7 20 rfl rfl)
theorem dX4_keepsFound_188 : decode cX4_keepsFound 188 = .ok (.iconst 0, 1) := dk_3 (dk_at dksX4_keepsFound_7 23 rfl rfl)
theorem dX4_keepsFound_189 : decode cX4_keepsFound 189 = .ok (.ior, 1) := dk_128 (dk_at dksX4_keepsFound_8 0 rfl rfl)
theorem dX4_keepsFound_190 : decode cX4_keepsFound 190 = .ok (.istore 6, 2) := dk_54 6 (dk_at dksX4_keepsFound_8 1 rfl rfl)
theorem dX4_keepsFound_192 : decode cX4_keepsFound 192 = .ok (.iinc 7 1, 3) := dk_132 7 1 (dk_at dksX4_keepsFound_8 3 rfl rfl)
theorem dX4_keepsFound_195 : decode cX4_keepsFound 195 = .ok (.goto (-110), 3) := dk_167 255 146 (dk_at dksX4_keepsFound_8 6 rfl rfl)
theorem dX4_keepsFound_198 : decode cX4_keepsFound 198 = .ok (.aload_n 0, 1) := dk_42 (dk_at dksX4_keepsFound_8 9 rfl rfl)
theorem dX4_keepsFound_199 : decode cX4_keepsFound 199 = .ok (.iload 6, 2) := dk_21 6 (dk_at dksX4_keepsFound_8 10 rfl rfl)
theorem dX4_keepsFound_201 : decode cX4_keepsFound 201 = .ok (.invokevirtual 69, 3) := dk_182 0 69 (dk_at dksX4_keepsFound_8 12 rfl rfl)
theorem dX4_keepsFound_204 : decode cX4_keepsFound 204 = .ok (.ireturn, 1) := dk_172 (dk_at dksX4_keepsFound_8 15 rfl rfl)
abbrev cX4_isPlain : ByteArray := prog_17_method_58_code
def yX4_isPlain : MethodName := ⟨RX4, "isPlain", "(II)Z"⟩
def dkwX4_isPlain_1 : List UInt8 := [180, 0, 19, 16, 17, 27, 96, 46, 28, 160, 0, 7, 4, 167, 0, 4, 3, 172]
abbrev dktX4_isPlain_1 : List UInt8 := dkwX4_isPlain_1 ++ []
def dkwX4_isPlain_0 : List UInt8 := [42, 27, 182, 0, 145, 153, 0, 33, 42, 180, 0, 19, 16, 9, 27, 96, 46, 4, 160, 0, 20, 42]
abbrev dktX4_isPlain_0 : List UInt8 := dkwX4_isPlain_0 ++ dktX4_isPlain_1
theorem dksX4_isPlain_0 : cX4_isPlain.data.toList.drop 0 = dktX4_isPlain_0 := by decide +kernel
theorem dksX4_isPlain_1 : cX4_isPlain.data.toList.drop 22 = dktX4_isPlain_1 := dk_seg dksX4_isPlain_0 22 rfl rfl
theorem dX4_isPlain_0 : decode cX4_isPlain 0 = .ok (.aload_n 0, 1) := dk_42 (dk_at dksX4_isPlain_0 0 rfl rfl)
theorem dX4_isPlain_1 : decode cX4_isPlain 1 = .ok (.iload_n 1, 1) := dk_27 (dk_at dksX4_isPlain_0 1 rfl rfl)
theorem dX4_isPlain_2 : decode cX4_isPlain 2 = .ok (.invokevirtual 145, 3) := dk_182 0 145 (dk_at dksX4_isPlain_0 2 rfl rfl)
theorem dX4_isPlain_5 : decode cX4_isPlain 5 = .ok (.ifCond .eq 33, 3) := dk_153 0 33 (dk_at dksX4_isPlain_0 5 rfl rfl)
theorem dX4_isPlain_8 : decode cX4_isPlain 8 = .ok (.aload_n 0, 1) := dk_42 (dk_at dksX4_isPlain_0 8 rfl rfl)
theorem dX4_isPlain_9 : decode cX4_isPlain 9 = .ok (.getfield 19, 3) := dk_180 0 19 (dk_at dksX4_isPlain_0 9 rfl rfl)
theorem dX4_isPlain_12 : decode cX4_isPlain 12 = .ok (.bipush 9, 2) := dk_16 9 (dk_at dksX4_isPlain_0 12 rfl rfl)
theorem dX4_isPlain_14 : decode cX4_isPlain 14 = .ok (.iload_n 1, 1) := dk_27 (dk_at dksX4_isPlain_0 14 rfl rfl)
theorem dX4_isPlain_15 : decode cX4_isPlain 15 = .ok (.iadd, 1) := dk_96 (dk_at dksX4_isPlain_0 15 rfl rfl)
theorem dX4_isPlain_16 : decode cX4_isPlain 16 = .ok (.iaload, 1) := dk_46 (dk_at dksX4_isPlain_0 16 rfl rfl)
theorem dX4_isPlain_17 : decode cX4_isPlain 17 = .ok (.iconst 1, 1) := dk_4 (dk_at dksX4_isPlain_0 17 rfl rfl)
theorem dX4_isPlain_18 : decode cX4_isPlain 18 = .ok (.if_icmp .ne 20, 3) := dk_160 0 20 (dk_at dksX4_isPlain_0 18 rfl rfl)
theorem dX4_isPlain_21 : decode cX4_isPlain 21 = .ok (.aload_n 0, 1) := dk_42 (dk_at dksX4_isPlain_0 21 rfl rfl)
theorem dX4_isPlain_22 : decode cX4_isPlain 22 = .ok (.getfield 19, 3) := dk_180 0 19 (dk_at dksX4_isPlain_1 0 rfl rfl)
theorem dX4_isPlain_25 : decode cX4_isPlain 25 = .ok (.bipush 17, 2) := dk_16 17 (dk_at dksX4_isPlain_1 3 rfl rfl)
theorem dX4_isPlain_27 : decode cX4_isPlain 27 = .ok (.iload_n 1, 1) := dk_27 (dk_at dksX4_isPlain_1 5 rfl rfl)
theorem dX4_isPlain_28 : decode cX4_isPlain 28 = .ok (.iadd, 1) := dk_96 (dk_at dksX4_isPlain_1 6 rfl rfl)
theorem dX4_isPlain_29 : decode cX4_isPlain 29 = .ok (.iaload, 1) := dk_46 (dk_at dksX4_isPlain_1 7 rfl rfl)
theorem dX4_isPlain_30 : decode cX4_isPlain 30 = .ok (.iload_n 2, 1) := dk_28 (dk_at dksX4_isPlain_1 8 rfl rfl)
theorem dX4_isPlain_31 : decode cX4_isPlain 31 = .ok (.if_icmp .ne 7, 3) := dk_160 0 7 (dk_at dksX4_isPlain_1 9 rfl rfl)
theorem dX4_isPlain_34 : decode cX4_isPlain 34 = .ok (.iconst 1, 1) := dk_4 (dk_at dksX4_isPlain_1 12 rfl rfl)
theorem dX4_isPlain_35 : decode cX4_isPlain 35 = .ok (.goto 4, 3) := dk_167 0 4 (dk_at dksX4_isPlain_1 13 rfl rfl)
theorem dX4_isPlain_38 : decode cX4_isPlain 38 = .ok (.iconst 0, 1) := dk_3 (dk_at dksX4_isPlain_1 16 rfl rfl)
theorem dX4_isPlain_39 : decode cX4_isPlain 39 = .ok (.ireturn, 1) := dk_172 (dk_at dksX4_isPlain_1 17 rfl rfl)
abbrev cX4_free : ByteArray := prog_17_method_59_code
def yX4_free : MethodName := ⟨RX4, "free", "(III)I"⟩
def dkwX4_free_5 : List UInt8 := [167, 0, 8, 21, 4, 21, 6, 108, 172]
abbrev dktX4_free_5 : List UInt8 := dkwX4_free_5 ++ []
def dkwX4_free_4 : List UInt8 := [21, 7, 54, 6, 21, 8, 54, 7, 167, 255, 236, 29, 154, 0, 14, 21, 4, 21, 5, 100, 21, 6, 108]
abbrev dktX4_free_4 : List UInt8 := dkwX4_free_4 ++ dktX4_free_5
def dkwX4_free_3 : List UInt8 := [21, 4, 21, 5, 100, 54, 6, 21, 4, 54, 7, 21, 7, 153, 0, 21, 21, 6, 21, 7, 112, 54, 8]
abbrev dktX4_free_3 : List UInt8 := dkwX4_free_3 ++ dktX4_free_4
def dkwX4_free_2 : List UInt8 := [28, 162, 0, 22, 21, 4, 16, 10, 104, 54, 4, 21, 5, 27, 104, 54, 5, 132, 6, 1, 167, 255, 234]
abbrev dktX4_free_2 : List UInt8 := dkwX4_free_2 ++ dktX4_free_3
def dkwX4_free_1 : List UInt8 := [29, 133, 9, 10, 184, 0, 54, 154, 0, 6, 18, 64, 172, 4, 54, 4, 4, 54, 5, 3, 54, 6, 21, 6]
abbrev dktX4_free_1 : List UInt8 := dkwX4_free_1 ++ dktX4_free_2
def dkwX4_free_0 : List UInt8 := [27, 133, 9, 20, 0, 222, 184, 0, 54, 153, 0, 25, 28, 133, 9, 20, 0, 199, 184, 0, 54, 153, 0, 13]
abbrev dktX4_free_0 : List UInt8 := dkwX4_free_0 ++ dktX4_free_1
theorem dksX4_free_0 : cX4_free.data.toList.drop 0 = dktX4_free_0 := by decide +kernel
theorem dksX4_free_1 : cX4_free.data.toList.drop 24 = dktX4_free_1 := dk_seg dksX4_free_0 24 rfl rfl
theorem dksX4_free_2 : cX4_free.data.toList.drop 48 = dktX4_free_2 := dk_seg dksX4_free_1 24 rfl rfl
theorem dksX4_free_3 : cX4_free.data.toList.drop 71 = dktX4_free_3 := dk_seg dksX4_free_2 23 rfl rfl
theorem dksX4_free_4 : cX4_free.data.toList.drop 94 = dktX4_free_4 := dk_seg dksX4_free_3 23 rfl rfl
theorem dksX4_free_5 : cX4_free.data.toList.drop 117 = dktX4_free_5 := dk_seg dksX4_free_4 23 rfl rfl
theorem dX4_free_0 : decode cX4_free 0 = .ok (.iload_n 1, 1) := dk_27 (dk_at dksX4_free_0 0 rfl rfl)
theorem dX4_free_1 : decode cX4_free 1 = .ok (.i2l, 1) := dk_133 (dk_at dksX4_free_0 1 rfl rfl)
theorem dX4_free_2 : decode cX4_free 2 = .ok (.lconst 0, 1) := dk_9 (dk_at dksX4_free_0 2 rfl rfl)
theorem dX4_free_3 : decode cX4_free 3 = .ok (.ldc2_w 222, 3) := dk_20 0 222 (dk_at dksX4_free_0 3 rfl rfl)
theorem dX4_free_6 : decode cX4_free 6 = .ok (.invokestatic 54, 3) := dk_184 0 54 (dk_at dksX4_free_0 6 rfl rfl)
theorem dX4_free_9 : decode cX4_free 9 = .ok (.ifCond .eq 25, 3) := dk_153 0 25 (dk_at dksX4_free_0 9 rfl rfl)
theorem dX4_free_12 : decode cX4_free 12 = .ok (.iload_n 2, 1) := dk_28 (dk_at dksX4_free_0 12 rfl rfl)
theorem dX4_free_13 : decode cX4_free 13 = .ok (.i2l, 1) := dk_133 (dk_at dksX4_free_0 13 rfl rfl)
theorem dX4_free_14 : decode cX4_free 14 = .ok (.lconst 0, 1) := dk_9 (dk_at dksX4_free_0 14 rfl rfl)
theorem dX4_free_15 : decode cX4_free 15 = .ok (.ldc2_w 199, 3) := dk_20 0 199 (dk_at dksX4_free_0 15 rfl rfl)
theorem dX4_free_18 : decode cX4_free 18 = .ok (.invokestatic 54, 3) := dk_184 0 54 (dk_at dksX4_free_0 18 rfl rfl)
theorem dX4_free_21 : decode cX4_free 21 = .ok (.ifCond .eq 13, 3) := dk_153 0 13 (dk_at dksX4_free_0 21 rfl rfl)
theorem dX4_free_24 : decode cX4_free 24 = .ok (.iload_n 3, 1) := dk_29 (dk_at dksX4_free_1 0 rfl rfl)
theorem dX4_free_25 : decode cX4_free 25 = .ok (.i2l, 1) := dk_133 (dk_at dksX4_free_1 1 rfl rfl)
theorem dX4_free_26 : decode cX4_free 26 = .ok (.lconst 0, 1) := dk_9 (dk_at dksX4_free_1 2 rfl rfl)
theorem dX4_free_27 : decode cX4_free 27 = .ok (.lconst 1, 1) := dk_10 (dk_at dksX4_free_1 3 rfl rfl)
theorem dX4_free_28 : decode cX4_free 28 = .ok (.invokestatic 54, 3) := dk_184 0 54 (dk_at dksX4_free_1 4 rfl rfl)
theorem dX4_free_31 : decode cX4_free 31 = .ok (.ifCond .ne 6, 3) := dk_154 0 6 (dk_at dksX4_free_1 7 rfl rfl)
theorem dX4_free_34 : decode cX4_free 34 = .ok (.ldc 64, 2) := dk_18 64 (dk_at dksX4_free_1 10 rfl rfl)
theorem dX4_free_36 : decode cX4_free 36 = .ok (.ireturn, 1) := dk_172 (dk_at dksX4_free_1 12 rfl rfl)
theorem dX4_free_37 : decode cX4_free 37 = .ok (.iconst 1, 1) := dk_4 (dk_at dksX4_free_1 13 rfl rfl)
theorem dX4_free_38 : decode cX4_free 38 = .ok (.istore 4, 2) := dk_54 4 (dk_at dksX4_free_1 14 rfl rfl)
theorem dX4_free_40 : decode cX4_free 40 = .ok (.iconst 1, 1) := dk_4 (dk_at dksX4_free_1 16 rfl rfl)
theorem dX4_free_41 : decode cX4_free 41 = .ok (.istore 5, 2) := dk_54 5 (dk_at dksX4_free_1 17 rfl rfl)
theorem dX4_free_43 : decode cX4_free 43 = .ok (.iconst 0, 1) := dk_3 (dk_at dksX4_free_1 19 rfl rfl)
theorem dX4_free_44 : decode cX4_free 44 = .ok (.istore 6, 2) := dk_54 6 (dk_at dksX4_free_1 20 rfl rfl)
theorem dX4_free_46 : decode cX4_free 46 = .ok (.iload 6, 2) := dk_21 6 (dk_at dksX4_free_1 22 rfl rfl)
theorem dX4_free_48 : decode cX4_free 48 = .ok (.iload_n 2, 1) := dk_28 (dk_at dksX4_free_2 0 rfl rfl)
theorem dX4_free_49 : decode cX4_free 49 = .ok (.if_icmp .ge 22, 3) := dk_162 0 22 (dk_at dksX4_free_2 1 rfl rfl)
theorem dX4_free_52 : decode cX4_free 52 = .ok (.iload 4, 2) := dk_21 4 (dk_at dksX4_free_2 4 rfl rfl)
theorem dX4_free_54 : decode cX4_free 54 = .ok (.bipush 10, 2) := dk_16 10 (dk_at dksX4_free_2 6 rfl rfl)
theorem dX4_free_56 : decode cX4_free 56 = .ok (.imul, 1) := dk_104 (dk_at dksX4_free_2 8 rfl rfl)
theorem dX4_free_57 : decode cX4_free 57 = .ok (.istore 4, 2) := dk_54 4 (dk_at dksX4_free_2 9 rfl rfl)
theorem dX4_free_59 : decode cX4_free 59 = .ok (.iload 5, 2) := dk_21 5 (dk_at dksX4_free_2 11 rfl rfl)
theorem dX4_free_61 : decode cX4_free 61 = .ok (.iload_n 1, 1) := dk_27 (dk_at dksX4_free_2 13 rfl rfl)
theorem dX4_free_62 : decode cX4_free 62 = .ok (.imul, 1) := dk_104 (dk_at dksX4_free_2 14 rfl rfl)
theorem dX4_free_63 : decode cX4_free 63 = .ok (.istore 5, 2) := dk_54 5 (dk_at dksX4_free_2 15 rfl rfl)
theorem dX4_free_65 : decode cX4_free 65 = .ok (.iinc 6 1, 3) := dk_132 6 1 (dk_at dksX4_free_2 17 rfl rfl)
theorem dX4_free_68 : decode cX4_free 68 = .ok (.goto (-22), 3) := dk_167 255 234 (dk_at dksX4_free_2 20 rfl rfl)
theorem dX4_free_71 : decode cX4_free 71 = .ok (.iload 4, 2) := dk_21 4 (dk_at dksX4_free_3 0 rfl rfl)
theorem dX4_free_73 : decode cX4_free 73 = .ok (.iload 5, 2) := dk_21 5 (dk_at dksX4_free_3 2 rfl rfl)
theorem dX4_free_75 : decode cX4_free 75 = .ok (.isub, 1) := dk_100 (dk_at dksX4_free_3 4 rfl rfl)
theorem dX4_free_76 : decode cX4_free 76 = .ok (.istore 6, 2) := dk_54 6 (dk_at dksX4_free_3 5 rfl rfl)
theorem dX4_free_78 : decode cX4_free 78 = .ok (.iload 4, 2) := dk_21 4 (dk_at dksX4_free_3 7 rfl rfl)
theorem dX4_free_80 : decode cX4_free 80 = .ok (.istore 7, 2) := dk_54 7 (dk_at dksX4_free_3 9 rfl rfl)
theorem dX4_free_82 : decode cX4_free 82 = .ok (.iload 7, 2) := dk_21 7 (dk_at dksX4_free_3 11 rfl rfl)
theorem dX4_free_84 : decode cX4_free 84 = .ok (.ifCond .eq 21, 3) := dk_153 0 21 (dk_at dksX4_free_3 13 rfl rfl)
theorem dX4_free_87 : decode cX4_free 87 = .ok (.iload 6, 2) := dk_21 6 (dk_at dksX4_free_3 16 rfl rfl)
theorem dX4_free_89 : decode cX4_free 89 = .ok (.iload 7, 2) := dk_21 7 (dk_at dksX4_free_3 18 rfl rfl)
theorem dX4_free_91 : decode cX4_free 91 = .ok (.irem, 1) := dk_112 (dk_at dksX4_free_3 20 rfl rfl)
theorem dX4_free_92 : decode cX4_free 92 = .ok (.istore 8, 2) := dk_54 8 (dk_at dksX4_free_3 21 rfl rfl)
theorem dX4_free_94 : decode cX4_free 94 = .ok (.iload 7, 2) := dk_21 7 (dk_at dksX4_free_4 0 rfl rfl)
theorem dX4_free_96 : decode cX4_free 96 = .ok (.istore 6, 2) := dk_54 6 (dk_at dksX4_free_4 2 rfl rfl)
theorem dX4_free_98 : decode cX4_free 98 = .ok (.iload 8, 2) := dk_21 8 (dk_at dksX4_free_4 4 rfl rfl)
theorem dX4_free_100 : decode cX4_free 100 = .ok (.istore 7, 2) := dk_54 7 (dk_at dksX4_free_4 6 rfl rfl)
theorem dX4_free_102 : decode cX4_free 102 = .ok (.goto (-20), 3) := dk_167 255 236 (dk_at dksX4_free_4 8 rfl rfl)
theorem dX4_free_105 : decode cX4_free 105 = .ok (.iload_n 3, 1) := dk_29 (dk_at dksX4_free_4 11 rfl rfl)
theorem dX4_free_106 : decode cX4_free 106 = .ok (.ifCond .ne 14, 3) := dk_154 0 14 (dk_at dksX4_free_4 12 rfl rfl)
theorem dX4_free_109 : decode cX4_free 109 = .ok (.iload 4, 2) := dk_21 4 (dk_at dksX4_free_4 15 rfl rfl)
theorem dX4_free_111 : decode cX4_free 111 = .ok (.iload 5, 2) := dk_21 5 (dk_at dksX4_free_4 17 rfl rfl)
theorem dX4_free_113 : decode cX4_free 113 = .ok (.isub, 1) := dk_100 (dk_at dksX4_free_4 19 rfl rfl)
theorem dX4_free_114 : decode cX4_free 114 = .ok (.iload 6, 2) := dk_21 6 (dk_at dksX4_free_4 20 rfl rfl)
theorem dX4_free_116 : decode cX4_free 116 = .ok (.idiv, 1) := dk_108 (dk_at dksX4_free_4 22 rfl rfl)
theorem dX4_free_117 : decode cX4_free 117 = .ok (.goto 8, 3) := dk_167 0 8 (dk_at dksX4_free_5 0 rfl rfl)
theorem dX4_free_120 : decode cX4_free 120 = .ok (.iload 4, 2) := dk_21 4 (dk_at dksX4_free_5 3 rfl rfl)
theorem dX4_free_122 : decode cX4_free 122 = .ok (.iload 6, 2) := dk_21 6 (dk_at dksX4_free_5 5 rfl rfl)
theorem dX4_free_124 : decode cX4_free 124 = .ok (.idiv, 1) := dk_108 (dk_at dksX4_free_5 7 rfl rfl)
theorem dX4_free_125 : decode cX4_free 125 = .ok (.ireturn, 1) := dk_172 (dk_at dksX4_free_5 8 rfl rfl)
abbrev cX4_image : ByteArray := prog_17_method_60_code
def yX4_image : MethodName := ⟨RX4, "image", "(I)I"⟩
def dkwX4_image_2 : List UInt8 := [132, 2, 1, 167, 255, 230, 42, 180, 0, 37, 27, 4, 84, 4, 172]
abbrev dktX4_image_2 : List UInt8 := dkwX4_image_2 ++ []
def dkwX4_image_1 : List UInt8 := [61, 28, 16, 57, 162, 0, 26, 42, 180, 0, 41, 16, 57, 27, 104, 28, 96, 42, 180, 0, 19, 28, 46, 79]
abbrev dktX4_image_1 : List UInt8 := dkwX4_image_1 ++ dktX4_image_2
def dkwX4_image_0 : List UInt8 := [27, 133, 9, 10, 184, 0, 54, 154, 0, 6, 18, 64, 172, 42, 180, 0, 135, 154, 0, 6, 18, 168, 172, 3]
abbrev dktX4_image_0 : List UInt8 := dkwX4_image_0 ++ dktX4_image_1
theorem dksX4_image_0 : cX4_image.data.toList.drop 0 = dktX4_image_0 := by decide +kernel
theorem dksX4_image_1 : cX4_image.data.toList.drop 24 = dktX4_image_1 := dk_seg dksX4_image_0 24 rfl rfl
theorem dksX4_image_2 : cX4_image.data.toList.drop 48 = dktX4_image_2 := dk_seg dksX4_image_1 24 rfl rfl
theorem dX4_image_0 : decode cX4_image 0 = .ok (.iload_n 1, 1) := dk_27 (dk_at dksX4_image_0 0 rfl rfl)
theorem dX4_image_1 : decode cX4_image 1 = .ok (.i2l, 1) := dk_133 (dk_at dksX4_image_0 1 rfl rfl)
theorem dX4_image_2 : decode cX4_image 2 = .ok (.lconst 0, 1) := dk_9 (dk_at dksX4_image_0 2 rfl rfl)
theorem dX4_image_3 : decode cX4_image 3 = .ok (.lconst 1, 1) := dk_10 (dk_at dksX4_image_0 3 rfl rfl)
theorem dX4_image_4 : decode cX4_image 4 = .ok (.invokestatic 54, 3) := dk_184 0 54 (dk_at dksX4_image_0 4 rfl rfl)
theorem dX4_image_7 : decode cX4_image 7 = .ok (.ifCond .ne 6, 3) := dk_154 0 6 (dk_at dksX4_image_0 7 rfl rfl)
theorem dX4_image_10 : decode cX4_image 10 = .ok (.ldc 64, 2) := dk_18 64 (dk_at dksX4_image_0 10 rfl rfl)
theorem dX4_image_12 : decode cX4_image 12 = .ok (.ireturn, 1) := dk_172 (dk_at dksX4_image_0 12 rfl rfl)
theorem dX4_image_13 : decode cX4_image 13 = .ok (.aload_n 0, 1) := dk_42 (dk_at dksX4_image_0 13 rfl rfl)
theorem dX4_image_14 : decode cX4_image 14 = .ok (.getfield 135, 3) := dk_180 0 135 (dk_at dksX4_image_0 14 rfl rfl)
theorem dX4_image_17 : decode cX4_image 17 = .ok (.ifCond .ne 6, 3) := dk_154 0 6 (dk_at dksX4_image_0 17 rfl rfl)
theorem dX4_image_20 : decode cX4_image 20 = .ok (.ldc 168, 2) := dk_18 168 (dk_at dksX4_image_0 20 rfl rfl)
theorem dX4_image_22 : decode cX4_image 22 = .ok (.ireturn, 1) := dk_172 (dk_at dksX4_image_0 22 rfl rfl)
theorem dX4_image_23 : decode cX4_image 23 = .ok (.iconst 0, 1) := dk_3 (dk_at dksX4_image_0 23 rfl rfl)
theorem dX4_image_24 : decode cX4_image 24 = .ok (.istore_n 2, 1) := dk_61 (dk_at dksX4_image_1 0 rfl rfl)
theorem dX4_image_25 : decode cX4_image 25 = .ok (.iload_n 2, 1) := dk_28 (dk_at dksX4_image_1 1 rfl rfl)
theorem dX4_image_26 : decode cX4_image 26 = .ok (.bipush 57, 2) := dk_16 57 (dk_at dksX4_image_1 2 rfl rfl)
theorem dX4_image_28 : decode cX4_image 28 = .ok (.if_icmp .ge 26, 3) := dk_162 0 26 (dk_at dksX4_image_1 4 rfl rfl)
theorem dX4_image_31 : decode cX4_image 31 = .ok (.aload_n 0, 1) := dk_42 (dk_at dksX4_image_1 7 rfl rfl)
theorem dX4_image_32 : decode cX4_image 32 = .ok (.getfield 41, 3) := dk_180 0 41 (dk_at dksX4_image_1 8 rfl rfl)
theorem dX4_image_35 : decode cX4_image 35 = .ok (.bipush 57, 2) := dk_16 57 (dk_at dksX4_image_1 11 rfl rfl)
theorem dX4_image_37 : decode cX4_image 37 = .ok (.iload_n 1, 1) := dk_27 (dk_at dksX4_image_1 13 rfl rfl)
theorem dX4_image_38 : decode cX4_image 38 = .ok (.imul, 1) := dk_104 (dk_at dksX4_image_1 14 rfl rfl)
theorem dX4_image_39 : decode cX4_image 39 = .ok (.iload_n 2, 1) := dk_28 (dk_at dksX4_image_1 15 rfl rfl)
theorem dX4_image_40 : decode cX4_image 40 = .ok (.iadd, 1) := dk_96 (dk_at dksX4_image_1 16 rfl rfl)
theorem dX4_image_41 : decode cX4_image 41 = .ok (.aload_n 0, 1) := dk_42 (dk_at dksX4_image_1 17 rfl rfl)
theorem dX4_image_42 : decode cX4_image 42 = .ok (.getfield 19, 3) := dk_180 0 19 (dk_at dksX4_image_1 18 rfl rfl)
theorem dX4_image_45 : decode cX4_image 45 = .ok (.iload_n 2, 1) := dk_28 (dk_at dksX4_image_1 21 rfl rfl)
theorem dX4_image_46 : decode cX4_image 46 = .ok (.iaload, 1) := dk_46 (dk_at dksX4_image_1 22 rfl rfl)
theorem dX4_image_47 : decode cX4_image 47 = .ok (.iastore, 1) := dk_79 (dk_at dksX4_image_1 23 rfl rfl)
theorem dX4_image_48 : decode cX4_image 48 = .ok (.iinc 2 1, 3) := dk_132 2 1 (dk_at dksX4_image_2 0 rfl rfl)
theorem dX4_image_51 : decode cX4_image 51 = .ok (.goto (-26), 3) := dk_167 255 230 (dk_at dksX4_image_2 3 rfl rfl)
theorem dX4_image_54 : decode cX4_image 54 = .ok (.aload_n 0, 1) := dk_42 (dk_at dksX4_image_2 6 rfl rfl)
theorem dX4_image_55 : decode cX4_image 55 = .ok (.getfield 37, 3) := dk_180 0 37 (dk_at dksX4_image_2 7 rfl rfl)
theorem dX4_image_58 : decode cX4_image 58 = .ok (.iload_n 1, 1) := dk_27 (dk_at dksX4_image_2 10 rfl rfl)
theorem dX4_image_59 : decode cX4_image 59 = .ok (.iconst 1, 1) := dk_4 (dk_at dksX4_image_2 11 rfl rfl)
theorem dX4_image_60 : decode cX4_image 60 = .ok (.bastore, 1) := dk_84 (dk_at dksX4_image_2 12 rfl rfl)
theorem dX4_image_61 : decode cX4_image 61 = .ok (.iconst 1, 1) := dk_4 (dk_at dksX4_image_2 13 rfl rfl)
theorem dX4_image_62 : decode cX4_image 62 = .ok (.ireturn, 1) := dk_172 (dk_at dksX4_image_2 14 rfl rfl)
abbrev cX4_restore : ByteArray := prog_17_method_61_code
def yX4_restore : MethodName := ⟨RX4, "restore", "(I)I"⟩
def dkwX4_restore_2 : List UInt8 := [46, 79, 132, 2, 1, 167, 255, 230, 42, 3, 181, 0, 139, 4, 172]
abbrev dktX4_restore_2 : List UInt8 := dkwX4_restore_2 ++ []
def dkwX4_restore_1 : List UInt8 := [172, 3, 61, 28, 16, 57, 162, 0, 26, 42, 180, 0, 19, 28, 42, 180, 0, 41, 16, 57, 27, 104, 28, 96]
abbrev dktX4_restore_1 : List UInt8 := dkwX4_restore_1 ++ dktX4_restore_2
def dkwX4_restore_0 : List UInt8 := [27, 133, 9, 10, 184, 0, 54, 154, 0, 6, 18, 64, 172, 42, 180, 0, 37, 27, 51, 154, 0, 6, 18, 168]
abbrev dktX4_restore_0 : List UInt8 := dkwX4_restore_0 ++ dktX4_restore_1
theorem dksX4_restore_0 : cX4_restore.data.toList.drop 0 = dktX4_restore_0 := by decide +kernel
theorem dksX4_restore_1 : cX4_restore.data.toList.drop 24 = dktX4_restore_1 := dk_seg dksX4_restore_0 24 rfl rfl
theorem dksX4_restore_2 : cX4_restore.data.toList.drop 48 = dktX4_restore_2 := dk_seg dksX4_restore_1 24 rfl rfl
theorem dX4_restore_0 : decode cX4_restore 0 = .ok (.iload_n 1, 1) := dk_27 (dk_at dksX4_restore_0 0 rfl rfl)
theorem dX4_restore_1 : decode cX4_restore 1 = .ok (.i2l, 1) := dk_133 (dk_at dksX4_restore_0 1 rfl rfl)
theorem dX4_restore_2 : decode cX4_restore 2 = .ok (.lconst 0, 1) := dk_9 (dk_at dksX4_restore_0 2 rfl rfl)
theorem dX4_restore_3 : decode cX4_restore 3 = .ok (.lconst 1, 1) := dk_10 (dk_at dksX4_restore_0 3 rfl rfl)
theorem dX4_restore_4 : decode cX4_restore 4 = .ok (.invokestatic 54, 3) := dk_184 0 54 (dk_at dksX4_restore_0 4 rfl rfl)
theorem dX4_restore_7 : decode cX4_restore 7 = .ok (.ifCond .ne 6, 3) := dk_154 0 6 (dk_at dksX4_restore_0 7 rfl rfl)
theorem dX4_restore_10 : decode cX4_restore 10 = .ok (.ldc 64, 2) := dk_18 64 (dk_at dksX4_restore_0 10 rfl rfl)
theorem dX4_restore_12 : decode cX4_restore 12 = .ok (.ireturn, 1) := dk_172 (dk_at dksX4_restore_0 12 rfl rfl)
theorem dX4_restore_13 : decode cX4_restore 13 = .ok (.aload_n 0, 1) := dk_42 (dk_at dksX4_restore_0 13 rfl rfl)
theorem dX4_restore_14 : decode cX4_restore 14 = .ok (.getfield 37, 3) := dk_180 0 37 (dk_at dksX4_restore_0 14 rfl rfl)
theorem dX4_restore_17 : decode cX4_restore 17 = .ok (.iload_n 1, 1) := dk_27 (dk_at dksX4_restore_0 17 rfl rfl)
theorem dX4_restore_18 : decode cX4_restore 18 = .ok (.baload, 1) := dk_51 (dk_at dksX4_restore_0 18 rfl rfl)
theorem dX4_restore_19 : decode cX4_restore 19 = .ok (.ifCond .ne 6, 3) := dk_154 0 6 (dk_at dksX4_restore_0 19 rfl rfl)
theorem dX4_restore_22 : decode cX4_restore 22 = .ok (.ldc 168, 2) := dk_18 168 (dk_at dksX4_restore_0 22 rfl rfl)
theorem dX4_restore_24 : decode cX4_restore 24 = .ok (.ireturn, 1) := dk_172 (dk_at dksX4_restore_1 0 rfl rfl)
theorem dX4_restore_25 : decode cX4_restore 25 = .ok (.iconst 0, 1) := dk_3 (dk_at dksX4_restore_1 1 rfl rfl)
theorem dX4_restore_26 : decode cX4_restore 26 = .ok (.istore_n 2, 1) := dk_61 (dk_at dksX4_restore_1 2 rfl rfl)
theorem dX4_restore_27 : decode cX4_restore 27 = .ok (.iload_n 2, 1) := dk_28 (dk_at dksX4_restore_1 3 rfl rfl)
theorem dX4_restore_28 : decode cX4_restore 28 = .ok (.bipush 57, 2) := dk_16 57 (dk_at dksX4_restore_1 4 rfl rfl)
theorem dX4_restore_30 : decode cX4_restore 30 = .ok (.if_icmp .ge 26, 3) := dk_162 0 26 (dk_at dksX4_restore_1 6 rfl rfl)
theorem dX4_restore_33 : decode cX4_restore 33 = .ok (.aload_n 0, 1) := dk_42 (dk_at dksX4_restore_1 9 rfl rfl)
theorem dX4_restore_34 : decode cX4_restore 34 = .ok (.getfield 19, 3) := dk_180 0 19 (dk_at dksX4_restore_1 10 rfl rfl)
theorem dX4_restore_37 : decode cX4_restore 37 = .ok (.iload_n 2, 1) := dk_28 (dk_at dksX4_restore_1 13 rfl rfl)
theorem dX4_restore_38 : decode cX4_restore 38 = .ok (.aload_n 0, 1) := dk_42 (dk_at dksX4_restore_1 14 rfl rfl)
theorem dX4_restore_39 : decode cX4_restore 39 = .ok (.getfield 41, 3) := dk_180 0 41 (dk_at dksX4_restore_1 15 rfl rfl)
theorem dX4_restore_42 : decode cX4_restore 42 = .ok (.bipush 57, 2) := dk_16 57 (dk_at dksX4_restore_1 18 rfl rfl)
theorem dX4_restore_44 : decode cX4_restore 44 = .ok (.iload_n 1, 1) := dk_27 (dk_at dksX4_restore_1 20 rfl rfl)
theorem dX4_restore_45 : decode cX4_restore 45 = .ok (.imul, 1) := dk_104 (dk_at dksX4_restore_1 21 rfl rfl)
theorem dX4_restore_46 : decode cX4_restore 46 = .ok (.iload_n 2, 1) := dk_28 (dk_at dksX4_restore_1 22 rfl rfl)
theorem dX4_restore_47 : decode cX4_restore 47 = .ok (.iadd, 1) := dk_96 (dk_at dksX4_restore_1 23 rfl rfl)
theorem dX4_restore_48 : decode cX4_restore 48 = .ok (.iaload, 1) := dk_46 (dk_at dksX4_restore_2 0 rfl rfl)
theorem dX4_restore_49 : decode cX4_restore 49 = .ok (.iastore, 1) := dk_79 (dk_at dksX4_restore_2 1 rfl rfl)
theorem dX4_restore_50 : decode cX4_restore 50 = .ok (.iinc 2 1, 3) := dk_132 2 1 (dk_at dksX4_restore_2 2 rfl rfl)
theorem dX4_restore_53 : decode cX4_restore 53 = .ok (.goto (-26), 3) := dk_167 255 230 (dk_at dksX4_restore_2 5 rfl rfl)
theorem dX4_restore_56 : decode cX4_restore 56 = .ok (.aload_n 0, 1) := dk_42 (dk_at dksX4_restore_2 8 rfl rfl)
theorem dX4_restore_57 : decode cX4_restore 57 = .ok (.iconst 0, 1) := dk_3 (dk_at dksX4_restore_2 9 rfl rfl)
theorem dX4_restore_58 : decode cX4_restore 58 = .ok (.putfield 139, 3) := dk_181 0 139 (dk_at dksX4_restore_2 10 rfl rfl)
theorem dX4_restore_61 : decode cX4_restore 61 = .ok (.iconst 1, 1) := dk_4 (dk_at dksX4_restore_2 13 rfl rfl)
theorem dX4_restore_62 : decode cX4_restore 62 = .ok (.ireturn, 1) := dk_172 (dk_at dksX4_restore_2 14 rfl rfl)
abbrev cX4_kind : ByteArray := prog_17_method_62_code
def yX4_kind : MethodName := ⟨RX4, "kind", "(I)I"⟩
def dkwX4_kind_0 : List UInt8 := [42, 27, 182, 0, 165, 153, 0, 15, 42, 180, 0, 19, 16, 9, 27, 96, 46, 167, 0, 5, 18, 64, 172]
abbrev dktX4_kind_0 : List UInt8 := dkwX4_kind_0 ++ []
theorem dksX4_kind_0 : cX4_kind.data.toList.drop 0 = dktX4_kind_0 := by decide +kernel
theorem dX4_kind_0 : decode cX4_kind 0 = .ok (.aload_n 0, 1) := dk_42 (dk_at dksX4_kind_0 0 rfl rfl)
theorem dX4_kind_1 : decode cX4_kind 1 = .ok (.iload_n 1, 1) := dk_27 (dk_at dksX4_kind_0 1 rfl rfl)
theorem dX4_kind_2 : decode cX4_kind 2 = .ok (.invokevirtual 165, 3) := dk_182 0 165 (dk_at dksX4_kind_0 2 rfl rfl)
theorem dX4_kind_5 : decode cX4_kind 5 = .ok (.ifCond .eq 15, 3) := dk_153 0 15 (dk_at dksX4_kind_0 5 rfl rfl)
theorem dX4_kind_8 : decode cX4_kind 8 = .ok (.aload_n 0, 1) := dk_42 (dk_at dksX4_kind_0 8 rfl rfl)
theorem dX4_kind_9 : decode cX4_kind 9 = .ok (.getfield 19, 3) := dk_180 0 19 (dk_at dksX4_kind_0 9 rfl rfl)
theorem dX4_kind_12 : decode cX4_kind 12 = .ok (.bipush 9, 2) := dk_16 9 (dk_at dksX4_kind_0 12 rfl rfl)
theorem dX4_kind_14 : decode cX4_kind 14 = .ok (.iload_n 1, 1) := dk_27 (dk_at dksX4_kind_0 14 rfl rfl)
theorem dX4_kind_15 : decode cX4_kind 15 = .ok (.iadd, 1) := dk_96 (dk_at dksX4_kind_0 15 rfl rfl)
theorem dX4_kind_16 : decode cX4_kind 16 = .ok (.iaload, 1) := dk_46 (dk_at dksX4_kind_0 16 rfl rfl)
theorem dX4_kind_17 : decode cX4_kind 17 = .ok (.goto 5, 3) := dk_167 0 5 (dk_at dksX4_kind_0 17 rfl rfl)
theorem dX4_kind_20 : decode cX4_kind 20 = .ok (.ldc 64, 2) := dk_18 64 (dk_at dksX4_kind_0 20 rfl rfl)
theorem dX4_kind_22 : decode cX4_kind 22 = .ok (.ireturn, 1) := dk_172 (dk_at dksX4_kind_0 22 rfl rfl)
abbrev cX4_as : ByteArray := prog_17_method_64_code
def yX4_as : MethodName := ⟨RX4, "as", "(II)I"⟩
def dkwX4_as_2 : List UInt8 := [6, 182, 0, 65, 172]
abbrev dktX4_as_2 : List UInt8 := dkwX4_as_2 ++ []
def dkwX4_as_1 : List UInt8 := [180, 0, 19, 16, 9, 27, 96, 46, 28, 184, 0, 224, 153, 0, 11, 42, 27, 182, 0, 69, 167, 0, 8, 42]
abbrev dktX4_as_1 : List UInt8 := dkwX4_as_1 ++ dktX4_as_2
def dkwX4_as_0 : List UInt8 := [42, 27, 182, 0, 165, 153, 0, 15, 28, 133, 9, 20, 0, 201, 184, 0, 54, 154, 0, 6, 18, 64, 172, 42]
abbrev dktX4_as_0 : List UInt8 := dkwX4_as_0 ++ dktX4_as_1
theorem dksX4_as_0 : cX4_as.data.toList.drop 0 = dktX4_as_0 := by decide +kernel
theorem dksX4_as_1 : cX4_as.data.toList.drop 24 = dktX4_as_1 := dk_seg dksX4_as_0 24 rfl rfl
theorem dksX4_as_2 : cX4_as.data.toList.drop 48 = dktX4_as_2 := dk_seg dksX4_as_1 24 rfl rfl
theorem dX4_as_0 : decode cX4_as 0 = .ok (.aload_n 0, 1) := dk_42 (dk_at dksX4_as_0 0 rfl rfl)
theorem dX4_as_1 : decode cX4_as 1 = .ok (.iload_n 1, 1) := dk_27 (dk_at dksX4_as_0 1 rfl rfl)
theorem dX4_as_2 : decode cX4_as 2 = .ok (.invokevirtual 165, 3) := dk_182 0 165 (dk_at dksX4_as_0 2 rfl rfl)
theorem dX4_as_5 : decode cX4_as 5 = .ok (.ifCond .eq 15, 3) := dk_153 0 15 (dk_at dksX4_as_0 5 rfl rfl)
theorem dX4_as_8 : decode cX4_as 8 = .ok (.iload_n 2, 1) := dk_28 (dk_at dksX4_as_0 8 rfl rfl)
theorem dX4_as_9 : decode cX4_as 9 = .ok (.i2l, 1) := dk_133 (dk_at dksX4_as_0 9 rfl rfl)
theorem dX4_as_10 : decode cX4_as 10 = .ok (.lconst 0, 1) := dk_9 (dk_at dksX4_as_0 10 rfl rfl)
theorem dX4_as_11 : decode cX4_as 11 = .ok (.ldc2_w 201, 3) := dk_20 0 201 (dk_at dksX4_as_0 11 rfl rfl)
theorem dX4_as_14 : decode cX4_as 14 = .ok (.invokestatic 54, 3) := dk_184 0 54 (dk_at dksX4_as_0 14 rfl rfl)
theorem dX4_as_17 : decode cX4_as 17 = .ok (.ifCond .ne 6, 3) := dk_154 0 6 (dk_at dksX4_as_0 17 rfl rfl)
theorem dX4_as_20 : decode cX4_as 20 = .ok (.ldc 64, 2) := dk_18 64 (dk_at dksX4_as_0 20 rfl rfl)
theorem dX4_as_22 : decode cX4_as 22 = .ok (.ireturn, 1) := dk_172 (dk_at dksX4_as_0 22 rfl rfl)
theorem dX4_as_23 : decode cX4_as 23 = .ok (.aload_n 0, 1) := dk_42 (dk_at dksX4_as_0 23 rfl rfl)
theorem dX4_as_24 : decode cX4_as 24 = .ok (.getfield 19, 3) := dk_180 0 19 (dk_at dksX4_as_1 0 rfl rfl)
theorem dX4_as_27 : decode cX4_as 27 = .ok (.bipush 9, 2) := dk_16 9 (dk_at dksX4_as_1 3 rfl rfl)
theorem dX4_as_29 : decode cX4_as 29 = .ok (.iload_n 1, 1) := dk_27 (dk_at dksX4_as_1 5 rfl rfl)
theorem dX4_as_30 : decode cX4_as 30 = .ok (.iadd, 1) := dk_96 (dk_at dksX4_as_1 6 rfl rfl)
theorem dX4_as_31 : decode cX4_as 31 = .ok (.iaload, 1) := dk_46 (dk_at dksX4_as_1 7 rfl rfl)
theorem dX4_as_32 : decode cX4_as 32 = .ok (.iload_n 2, 1) := dk_28 (dk_at dksX4_as_1 8 rfl rfl)
theorem dX4_as_33 : decode cX4_as 33 = .ok (.invokestatic 224, 3) := dk_184 0 224 (dk_at dksX4_as_1 9 rfl rfl)
theorem dX4_as_36 : decode cX4_as 36 = .ok (.ifCond .eq 11, 3) := dk_153 0 11 (dk_at dksX4_as_1 12 rfl rfl)
theorem dX4_as_39 : decode cX4_as 39 = .ok (.aload_n 0, 1) := dk_42 (dk_at dksX4_as_1 15 rfl rfl)
theorem dX4_as_40 : decode cX4_as 40 = .ok (.iload_n 1, 1) := dk_27 (dk_at dksX4_as_1 16 rfl rfl)
theorem dX4_as_41 : decode cX4_as 41 = .ok (.invokevirtual 69, 3) := dk_182 0 69 (dk_at dksX4_as_1 17 rfl rfl)
theorem dX4_as_44 : decode cX4_as 44 = .ok (.goto 8, 3) := dk_167 0 8 (dk_at dksX4_as_1 20 rfl rfl)
theorem dX4_as_47 : decode cX4_as 47 = .ok (.aload_n 0, 1) := dk_42 (dk_at dksX4_as_1 23 rfl rfl)
theorem dX4_as_48 : decode cX4_as 48 = .ok (.iconst 3, 1) := dk_6 (dk_at dksX4_as_2 0 rfl rfl)
theorem dX4_as_49 : decode cX4_as 49 = .ok (.invokevirtual 65, 3) := dk_182 0 65 (dk_at dksX4_as_2 1 rfl rfl)
theorem dX4_as_52 : decode cX4_as 52 = .ok (.ireturn, 1) := dk_172 (dk_at dksX4_as_2 4 rfl rfl)
abbrev cX4_isKind : ByteArray := prog_17_method_63_code
def yX4_isKind : MethodName := ⟨RX4, "isKind", "(II)Z"⟩
def dkwX4_isKind_1 : List UInt8 := [26, 8, 160, 0, 7, 4, 167, 0, 4, 3, 172]
abbrev dktX4_isKind_1 : List UInt8 := dkwX4_isKind_1 ++ []
def dkwX4_isKind_0 : List UInt8 := [27, 153, 0, 28, 26, 27, 159, 0, 23, 27, 4, 160, 0, 8, 26, 7, 161, 0, 13, 27, 7, 160, 0, 12]
abbrev dktX4_isKind_0 : List UInt8 := dkwX4_isKind_0 ++ dktX4_isKind_1
theorem dksX4_isKind_0 : cX4_isKind.data.toList.drop 0 = dktX4_isKind_0 := by decide +kernel
theorem dksX4_isKind_1 : cX4_isKind.data.toList.drop 24 = dktX4_isKind_1 := dk_seg dksX4_isKind_0 24 rfl rfl
theorem dX4_isKind_0 : decode cX4_isKind 0 = .ok (.iload_n 1, 1) := dk_27 (dk_at dksX4_isKind_0 0 rfl rfl)
theorem dX4_isKind_1 : decode cX4_isKind 1 = .ok (.ifCond .eq 28, 3) := dk_153 0 28 (dk_at dksX4_isKind_0 1 rfl rfl)
theorem dX4_isKind_4 : decode cX4_isKind 4 = .ok (.iload_n 0, 1) := dk_26 (dk_at dksX4_isKind_0 4 rfl rfl)
theorem dX4_isKind_5 : decode cX4_isKind 5 = .ok (.iload_n 1, 1) := dk_27 (dk_at dksX4_isKind_0 5 rfl rfl)
theorem dX4_isKind_6 : decode cX4_isKind 6 = .ok (.if_icmp .eq 23, 3) := dk_159 0 23 (dk_at dksX4_isKind_0 6 rfl rfl)
theorem dX4_isKind_9 : decode cX4_isKind 9 = .ok (.iload_n 1, 1) := dk_27 (dk_at dksX4_isKind_0 9 rfl rfl)
theorem dX4_isKind_10 : decode cX4_isKind 10 = .ok (.iconst 1, 1) := dk_4 (dk_at dksX4_isKind_0 10 rfl rfl)
theorem dX4_isKind_11 : decode cX4_isKind 11 = .ok (.if_icmp .ne 8, 3) := dk_160 0 8 (dk_at dksX4_isKind_0 11 rfl rfl)
theorem dX4_isKind_14 : decode cX4_isKind 14 = .ok (.iload_n 0, 1) := dk_26 (dk_at dksX4_isKind_0 14 rfl rfl)
theorem dX4_isKind_15 : decode cX4_isKind 15 = .ok (.iconst 4, 1) := dk_7 (dk_at dksX4_isKind_0 15 rfl rfl)
theorem dX4_isKind_16 : decode cX4_isKind 16 = .ok (.if_icmp .lt 13, 3) := dk_161 0 13 (dk_at dksX4_isKind_0 16 rfl rfl)
theorem dX4_isKind_19 : decode cX4_isKind 19 = .ok (.iload_n 1, 1) := dk_27 (dk_at dksX4_isKind_0 19 rfl rfl)
theorem dX4_isKind_20 : decode cX4_isKind 20 = .ok (.iconst 4, 1) := dk_7 (dk_at dksX4_isKind_0 20 rfl rfl)
theorem dX4_isKind_21 : decode cX4_isKind 21 = .ok (.if_icmp .ne 12, 3) := dk_160 0 12 (dk_at dksX4_isKind_0 21 rfl rfl)
theorem dX4_isKind_24 : decode cX4_isKind 24 = .ok (.iload_n 0, 1) := dk_26 (dk_at dksX4_isKind_1 0 rfl rfl)
theorem dX4_isKind_25 : decode cX4_isKind 25 = .ok (.iconst 5, 1) := dk_8 (dk_at dksX4_isKind_1 1 rfl rfl)
theorem dX4_isKind_26 : decode cX4_isKind 26 = .ok (.if_icmp .ne 7, 3) := dk_160 0 7 (dk_at dksX4_isKind_1 2 rfl rfl)
theorem dX4_isKind_29 : decode cX4_isKind 29 = .ok (.iconst 1, 1) := dk_4 (dk_at dksX4_isKind_1 5 rfl rfl)
theorem dX4_isKind_30 : decode cX4_isKind 30 = .ok (.goto 4, 3) := dk_167 0 4 (dk_at dksX4_isKind_1 6 rfl rfl)
theorem dX4_isKind_33 : decode cX4_isKind 33 = .ok (.iconst 0, 1) := dk_3 (dk_at dksX4_isKind_1 9 rfl rfl)
theorem dX4_isKind_34 : decode cX4_isKind 34 = .ok (.ireturn, 1) := dk_172 (dk_at dksX4_isKind_1 10 rfl rfl)
abbrev cX4_ask : ByteArray := prog_17_method_73_code
def yX4_ask : MethodName := ⟨RX4, "ask", "(II)I"⟩
def dkwX4_ask_1 : List UInt8 := [181, 0, 227, 28, 154, 0, 11, 42, 27, 182, 0, 252, 167, 0, 8, 42, 27, 182, 0, 246, 172]
abbrev dktX4_ask_1 : List UInt8 := dkwX4_ask_1 ++ []
def dkwX4_ask_0 : List UInt8 := [42, 27, 182, 0, 165, 153, 0, 13, 28, 133, 9, 10, 184, 0, 54, 154, 0, 6, 18, 64, 172, 42, 3]
abbrev dktX4_ask_0 : List UInt8 := dkwX4_ask_0 ++ dktX4_ask_1
theorem dksX4_ask_0 : cX4_ask.data.toList.drop 0 = dktX4_ask_0 := by decide +kernel
theorem dksX4_ask_1 : cX4_ask.data.toList.drop 23 = dktX4_ask_1 := dk_seg dksX4_ask_0 23 rfl rfl
theorem dX4_ask_0 : decode cX4_ask 0 = .ok (.aload_n 0, 1) := dk_42 (dk_at dksX4_ask_0 0 rfl rfl)
theorem dX4_ask_1 : decode cX4_ask 1 = .ok (.iload_n 1, 1) := dk_27 (dk_at dksX4_ask_0 1 rfl rfl)
theorem dX4_ask_2 : decode cX4_ask 2 = .ok (.invokevirtual 165, 3) := dk_182 0 165 (dk_at dksX4_ask_0 2 rfl rfl)
theorem dX4_ask_5 : decode cX4_ask 5 = .ok (.ifCond .eq 13, 3) := dk_153 0 13 (dk_at dksX4_ask_0 5 rfl rfl)
theorem dX4_ask_8 : decode cX4_ask 8 = .ok (.iload_n 2, 1) := dk_28 (dk_at dksX4_ask_0 8 rfl rfl)
theorem dX4_ask_9 : decode cX4_ask 9 = .ok (.i2l, 1) := dk_133 (dk_at dksX4_ask_0 9 rfl rfl)
theorem dX4_ask_10 : decode cX4_ask 10 = .ok (.lconst 0, 1) := dk_9 (dk_at dksX4_ask_0 10 rfl rfl)
theorem dX4_ask_11 : decode cX4_ask 11 = .ok (.lconst 1, 1) := dk_10 (dk_at dksX4_ask_0 11 rfl rfl)
theorem dX4_ask_12 : decode cX4_ask 12 = .ok (.invokestatic 54, 3) := dk_184 0 54 (dk_at dksX4_ask_0 12 rfl rfl)
theorem dX4_ask_15 : decode cX4_ask 15 = .ok (.ifCond .ne 6, 3) := dk_154 0 6 (dk_at dksX4_ask_0 15 rfl rfl)
theorem dX4_ask_18 : decode cX4_ask 18 = .ok (.ldc 64, 2) := dk_18 64 (dk_at dksX4_ask_0 18 rfl rfl)
theorem dX4_ask_20 : decode cX4_ask 20 = .ok (.ireturn, 1) := dk_172 (dk_at dksX4_ask_0 20 rfl rfl)
theorem dX4_ask_21 : decode cX4_ask 21 = .ok (.aload_n 0, 1) := dk_42 (dk_at dksX4_ask_0 21 rfl rfl)
theorem dX4_ask_22 : decode cX4_ask 22 = .ok (.iconst 0, 1) := dk_3 (dk_at dksX4_ask_0 22 rfl rfl)
theorem dX4_ask_23 : decode cX4_ask 23 = .ok (.putfield 227, 3) := dk_181 0 227 (dk_at dksX4_ask_1 0 rfl rfl)
theorem dX4_ask_26 : decode cX4_ask 26 = .ok (.iload_n 2, 1) := dk_28 (dk_at dksX4_ask_1 3 rfl rfl)
theorem dX4_ask_27 : decode cX4_ask 27 = .ok (.ifCond .ne 11, 3) := dk_154 0 11 (dk_at dksX4_ask_1 4 rfl rfl)
theorem dX4_ask_30 : decode cX4_ask 30 = .ok (.aload_n 0, 1) := dk_42 (dk_at dksX4_ask_1 7 rfl rfl)
theorem dX4_ask_31 : decode cX4_ask 31 = .ok (.iload_n 1, 1) := dk_27 (dk_at dksX4_ask_1 8 rfl rfl)
theorem dX4_ask_32 : decode cX4_ask 32 = .ok (.invokevirtual 252, 3) := dk_182 0 252 (dk_at dksX4_ask_1 9 rfl rfl)
theorem dX4_ask_35 : decode cX4_ask 35 = .ok (.goto 8, 3) := dk_167 0 8 (dk_at dksX4_ask_1 12 rfl rfl)
theorem dX4_ask_38 : decode cX4_ask 38 = .ok (.aload_n 0, 1) := dk_42 (dk_at dksX4_ask_1 15 rfl rfl)
theorem dX4_ask_39 : decode cX4_ask 39 = .ok (.iload_n 1, 1) := dk_27 (dk_at dksX4_ask_1 16 rfl rfl)
theorem dX4_ask_40 : decode cX4_ask 40 = .ok (.invokevirtual 246, 3) := dk_182 0 246 (dk_at dksX4_ask_1 17 rfl rfl)
theorem dX4_ask_43 : decode cX4_ask 43 = .ok (.ireturn, 1) := dk_172 (dk_at dksX4_ask_1 20 rfl rfl)
abbrev cX4_sizeOf : ByteArray := prog_17_method_72_code
def yX4_sizeOf : MethodName := ⟨RX4, "sizeOf", "(I)I"⟩
def dkwX4_sizeOf_1 : List UInt8 := [182, 0, 249, 116, 172, 28, 7, 161, 0, 11, 42, 27, 182, 0, 243, 167, 0, 8, 42, 27, 182, 0, 249, 172]
abbrev dktX4_sizeOf_1 : List UInt8 := dkwX4_sizeOf_1 ++ []
def dkwX4_sizeOf_0 : List UInt8 := [42, 180, 0, 19, 16, 9, 27, 96, 46, 61, 28, 5, 160, 0, 16, 42, 16, 12, 182, 0, 230, 42, 27]
abbrev dktX4_sizeOf_0 : List UInt8 := dkwX4_sizeOf_0 ++ dktX4_sizeOf_1
theorem dksX4_sizeOf_0 : cX4_sizeOf.data.toList.drop 0 = dktX4_sizeOf_0 := by decide +kernel
theorem dksX4_sizeOf_1 : cX4_sizeOf.data.toList.drop 23 = dktX4_sizeOf_1 := dk_seg dksX4_sizeOf_0 23 rfl rfl
theorem dX4_sizeOf_0 : decode cX4_sizeOf 0 = .ok (.aload_n 0, 1) := dk_42 (dk_at dksX4_sizeOf_0 0 rfl rfl)
theorem dX4_sizeOf_1 : decode cX4_sizeOf 1 = .ok (.getfield 19, 3) := dk_180 0 19 (dk_at dksX4_sizeOf_0 1 rfl rfl)
theorem dX4_sizeOf_4 : decode cX4_sizeOf 4 = .ok (.bipush 9, 2) := dk_16 9 (dk_at dksX4_sizeOf_0 4 rfl rfl)
theorem dX4_sizeOf_6 : decode cX4_sizeOf 6 = .ok (.iload_n 1, 1) := dk_27 (dk_at dksX4_sizeOf_0 6 rfl rfl)
theorem dX4_sizeOf_7 : decode cX4_sizeOf 7 = .ok (.iadd, 1) := dk_96 (dk_at dksX4_sizeOf_0 7 rfl rfl)
theorem dX4_sizeOf_8 : decode cX4_sizeOf 8 = .ok (.iaload, 1) := dk_46 (dk_at dksX4_sizeOf_0 8 rfl rfl)
theorem dX4_sizeOf_9 : decode cX4_sizeOf 9 = .ok (.istore_n 2, 1) := dk_61 (dk_at dksX4_sizeOf_0 9 rfl rfl)
theorem dX4_sizeOf_10 : decode cX4_sizeOf 10 = .ok (.iload_n 2, 1) := dk_28 (dk_at dksX4_sizeOf_0 10 rfl rfl)
theorem dX4_sizeOf_11 : decode cX4_sizeOf 11 = .ok (.iconst 2, 1) := dk_5 (dk_at dksX4_sizeOf_0 11 rfl rfl)
theorem dX4_sizeOf_12 : decode cX4_sizeOf 12 = .ok (.if_icmp .ne 16, 3) := dk_160 0 16 (dk_at dksX4_sizeOf_0 12 rfl rfl)
theorem dX4_sizeOf_15 : decode cX4_sizeOf 15 = .ok (.aload_n 0, 1) := dk_42 (dk_at dksX4_sizeOf_0 15 rfl rfl)
theorem dX4_sizeOf_16 : decode cX4_sizeOf 16 = .ok (.bipush 12, 2) := dk_16 12 (dk_at dksX4_sizeOf_0 16 rfl rfl)
theorem dX4_sizeOf_18 : decode cX4_sizeOf 18 = .ok (.invokevirtual 230, 3) := dk_182 0 230 (dk_at dksX4_sizeOf_0 18 rfl rfl)
theorem dX4_sizeOf_21 : decode cX4_sizeOf 21 = .ok (.aload_n 0, 1) := dk_42 (dk_at dksX4_sizeOf_0 21 rfl rfl)
theorem dX4_sizeOf_22 : decode cX4_sizeOf 22 = .ok (.iload_n 1, 1) := dk_27 (dk_at dksX4_sizeOf_0 22 rfl rfl)
theorem dX4_sizeOf_23 : decode cX4_sizeOf 23 = .ok (.invokevirtual 249, 3) := dk_182 0 249 (dk_at dksX4_sizeOf_1 0 rfl rfl)
theorem dX4_sizeOf_26 : decode cX4_sizeOf 26 = .ok (.ineg, 1) := dk_116 (dk_at dksX4_sizeOf_1 3 rfl rfl)
theorem dX4_sizeOf_27 : decode cX4_sizeOf 27 = .ok (.ireturn, 1) := dk_172 (dk_at dksX4_sizeOf_1 4 rfl rfl)
theorem dX4_sizeOf_28 : decode cX4_sizeOf 28 = .ok (.iload_n 2, 1) := dk_28 (dk_at dksX4_sizeOf_1 5 rfl rfl)
theorem dX4_sizeOf_29 : decode cX4_sizeOf 29 = .ok (.iconst 4, 1) := dk_7 (dk_at dksX4_sizeOf_1 6 rfl rfl)
theorem dX4_sizeOf_30 : decode cX4_sizeOf 30 = .ok (.if_icmp .lt 11, 3) := dk_161 0 11 (dk_at dksX4_sizeOf_1 7 rfl rfl)
theorem dX4_sizeOf_33 : decode cX4_sizeOf 33 = .ok (.aload_n 0, 1) := dk_42 (dk_at dksX4_sizeOf_1 10 rfl rfl)
theorem dX4_sizeOf_34 : decode cX4_sizeOf 34 = .ok (.iload_n 1, 1) := dk_27 (dk_at dksX4_sizeOf_1 11 rfl rfl)
theorem dX4_sizeOf_35 : decode cX4_sizeOf 35 = .ok (.invokevirtual 243, 3) := dk_182 0 243 (dk_at dksX4_sizeOf_1 12 rfl rfl)
theorem dX4_sizeOf_38 : decode cX4_sizeOf 38 = .ok (.goto 8, 3) := dk_167 0 8 (dk_at dksX4_sizeOf_1 15 rfl rfl)
theorem dX4_sizeOf_41 : decode cX4_sizeOf 41 = .ok (.aload_n 0, 1) := dk_42 (dk_at dksX4_sizeOf_1 18 rfl rfl)
theorem dX4_sizeOf_42 : decode cX4_sizeOf 42 = .ok (.iload_n 1, 1) := dk_27 (dk_at dksX4_sizeOf_1 19 rfl rfl)
theorem dX4_sizeOf_43 : decode cX4_sizeOf 43 = .ok (.invokevirtual 249, 3) := dk_182 0 249 (dk_at dksX4_sizeOf_1 20 rfl rfl)
theorem dX4_sizeOf_46 : decode cX4_sizeOf 46 = .ok (.ireturn, 1) := dk_172 (dk_at dksX4_sizeOf_1 23 rfl rfl)
abbrev cX4_begin : ByteArray := prog_17_method_65_code
def yX4_begin : MethodName := ⟨RX4, "begin", "(I)V"⟩
def dkwX4_begin_1 : List UInt8 := [4, 96, 181, 0, 227, 177]
abbrev dktX4_begin_1 : List UInt8 := dkwX4_begin_1 ++ []
def dkwX4_begin_0 : List UInt8 := [42, 180, 0, 227, 16, 16, 162, 0, 23, 42, 180, 0, 44, 42, 180, 0, 227, 27, 79, 42, 89, 180, 0, 227]
abbrev dktX4_begin_0 : List UInt8 := dkwX4_begin_0 ++ dktX4_begin_1
theorem dksX4_begin_0 : cX4_begin.data.toList.drop 0 = dktX4_begin_0 := by decide +kernel
theorem dksX4_begin_1 : cX4_begin.data.toList.drop 24 = dktX4_begin_1 := dk_seg dksX4_begin_0 24 rfl rfl
theorem dX4_begin_0 : decode cX4_begin 0 = .ok (.aload_n 0, 1) := dk_42 (dk_at dksX4_begin_0 0 rfl rfl)
theorem dX4_begin_1 : decode cX4_begin 1 = .ok (.getfield 227, 3) := dk_180 0 227 (dk_at dksX4_begin_0 1 rfl rfl)
theorem dX4_begin_4 : decode cX4_begin 4 = .ok (.bipush 16, 2) := dk_16 16 (dk_at dksX4_begin_0 4 rfl rfl)
theorem dX4_begin_6 : decode cX4_begin 6 = .ok (.if_icmp .ge 23, 3) := dk_162 0 23 (dk_at dksX4_begin_0 6 rfl rfl)
theorem dX4_begin_9 : decode cX4_begin 9 = .ok (.aload_n 0, 1) := dk_42 (dk_at dksX4_begin_0 9 rfl rfl)
theorem dX4_begin_10 : decode cX4_begin 10 = .ok (.getfield 44, 3) := dk_180 0 44 (dk_at dksX4_begin_0 10 rfl rfl)
theorem dX4_begin_13 : decode cX4_begin 13 = .ok (.aload_n 0, 1) := dk_42 (dk_at dksX4_begin_0 13 rfl rfl)
theorem dX4_begin_14 : decode cX4_begin 14 = .ok (.getfield 227, 3) := dk_180 0 227 (dk_at dksX4_begin_0 14 rfl rfl)
theorem dX4_begin_17 : decode cX4_begin 17 = .ok (.iload_n 1, 1) := dk_27 (dk_at dksX4_begin_0 17 rfl rfl)
theorem dX4_begin_18 : decode cX4_begin 18 = .ok (.iastore, 1) := dk_79 (dk_at dksX4_begin_0 18 rfl rfl)
theorem dX4_begin_19 : decode cX4_begin 19 = .ok (.aload_n 0, 1) := dk_42 (dk_at dksX4_begin_0 19 rfl rfl)
theorem dX4_begin_20 : decode cX4_begin 20 = .ok (.dup, 1) := dk_89 (dk_at dksX4_begin_0 20 rfl rfl)
theorem dX4_begin_21 : decode cX4_begin 21 = .ok (.getfield 227, 3) := dk_180 0 227 (dk_at dksX4_begin_0 21 rfl rfl)
theorem dX4_begin_24 : decode cX4_begin 24 = .ok (.iconst 1, 1) := dk_4 (dk_at dksX4_begin_1 0 rfl rfl)
theorem dX4_begin_25 : decode cX4_begin 25 = .ok (.iadd, 1) := dk_96 (dk_at dksX4_begin_1 1 rfl rfl)
theorem dX4_begin_26 : decode cX4_begin 26 = .ok (.putfield 227, 3) := dk_181 0 227 (dk_at dksX4_begin_1 2 rfl rfl)
theorem dX4_begin_29 : decode cX4_begin 29 = .ok (.return_, 1) := dk_177 (dk_at dksX4_begin_1 5 rfl rfl)
abbrev cX4_plainSize : ByteArray := prog_17_method_71_code
def yX4_plainSize : MethodName := ⟨RX4, "plainSize", "(I)I"⟩
def dkwX4_plainSize_0 : List UInt8 := [42, 16, 11, 182, 0, 230, 42, 27, 16, 10, 182, 0, 234, 61, 28, 42, 27, 182, 0, 246, 96, 172]
abbrev dktX4_plainSize_0 : List UInt8 := dkwX4_plainSize_0 ++ []
theorem dksX4_plainSize_0 : cX4_plainSize.data.toList.drop 0 = dktX4_plainSize_0 := by decide +kernel
theorem dX4_plainSize_0 : decode cX4_plainSize 0 = .ok (.aload_n 0, 1) := dk_42 (dk_at dksX4_plainSize_0 0 rfl rfl)
theorem dX4_plainSize_1 : decode cX4_plainSize 1 = .ok (.bipush 11, 2) := dk_16 11 (dk_at dksX4_plainSize_0 1 rfl rfl)
theorem dX4_plainSize_3 : decode cX4_plainSize 3 = .ok (.invokevirtual 230, 3) := dk_182 0 230 (dk_at dksX4_plainSize_0 3 rfl rfl)
theorem dX4_plainSize_6 : decode cX4_plainSize 6 = .ok (.aload_n 0, 1) := dk_42 (dk_at dksX4_plainSize_0 6 rfl rfl)
theorem dX4_plainSize_7 : decode cX4_plainSize 7 = .ok (.iload_n 1, 1) := dk_27 (dk_at dksX4_plainSize_0 7 rfl rfl)
theorem dX4_plainSize_8 : decode cX4_plainSize 8 = .ok (.bipush 10, 2) := dk_16 10 (dk_at dksX4_plainSize_0 8 rfl rfl)
theorem dX4_plainSize_10 : decode cX4_plainSize 10 = .ok (.invokevirtual 234, 3) := dk_182 0 234 (dk_at dksX4_plainSize_0 10 rfl rfl)
theorem dX4_plainSize_13 : decode cX4_plainSize 13 = .ok (.istore_n 2, 1) := dk_61 (dk_at dksX4_plainSize_0 13 rfl rfl)
theorem dX4_plainSize_14 : decode cX4_plainSize 14 = .ok (.iload_n 2, 1) := dk_28 (dk_at dksX4_plainSize_0 14 rfl rfl)
theorem dX4_plainSize_15 : decode cX4_plainSize 15 = .ok (.aload_n 0, 1) := dk_42 (dk_at dksX4_plainSize_0 15 rfl rfl)
theorem dX4_plainSize_16 : decode cX4_plainSize 16 = .ok (.iload_n 1, 1) := dk_27 (dk_at dksX4_plainSize_0 16 rfl rfl)
theorem dX4_plainSize_17 : decode cX4_plainSize 17 = .ok (.invokevirtual 246, 3) := dk_182 0 246 (dk_at dksX4_plainSize_0 17 rfl rfl)
theorem dX4_plainSize_20 : decode cX4_plainSize 20 = .ok (.iadd, 1) := dk_96 (dk_at dksX4_plainSize_0 20 rfl rfl)
theorem dX4_plainSize_21 : decode cX4_plainSize 21 = .ok (.ireturn, 1) := dk_172 (dk_at dksX4_plainSize_0 21 rfl rfl)
abbrev cX4_lent : ByteArray := prog_17_method_66_code
def yX4_lent : MethodName := ⟨RX4, "lent", "(II)I"⟩
def dkwX4_lent_1 : List UInt8 := [172]
abbrev dktX4_lent_1 : List UInt8 := dkwX4_lent_1 ++ []
def dkwX4_lent_0 : List UInt8 := [42, 28, 182, 0, 230, 28, 16, 10, 160, 0, 15, 42, 180, 0, 19, 16, 41, 27, 96, 46, 167, 0, 4, 27]
abbrev dktX4_lent_0 : List UInt8 := dkwX4_lent_0 ++ dktX4_lent_1
theorem dksX4_lent_0 : cX4_lent.data.toList.drop 0 = dktX4_lent_0 := by decide +kernel
theorem dksX4_lent_1 : cX4_lent.data.toList.drop 24 = dktX4_lent_1 := dk_seg dksX4_lent_0 24 rfl rfl
theorem dX4_lent_0 : decode cX4_lent 0 = .ok (.aload_n 0, 1) := dk_42 (dk_at dksX4_lent_0 0 rfl rfl)
theorem dX4_lent_1 : decode cX4_lent 1 = .ok (.iload_n 2, 1) := dk_28 (dk_at dksX4_lent_0 1 rfl rfl)
theorem dX4_lent_2 : decode cX4_lent 2 = .ok (.invokevirtual 230, 3) := dk_182 0 230 (dk_at dksX4_lent_0 2 rfl rfl)
theorem dX4_lent_5 : decode cX4_lent 5 = .ok (.iload_n 2, 1) := dk_28 (dk_at dksX4_lent_0 5 rfl rfl)
theorem dX4_lent_6 : decode cX4_lent 6 = .ok (.bipush 10, 2) := dk_16 10 (dk_at dksX4_lent_0 6 rfl rfl)
theorem dX4_lent_8 : decode cX4_lent 8 = .ok (.if_icmp .ne 15, 3) := dk_160 0 15 (dk_at dksX4_lent_0 8 rfl rfl)
theorem dX4_lent_11 : decode cX4_lent 11 = .ok (.aload_n 0, 1) := dk_42 (dk_at dksX4_lent_0 11 rfl rfl)
theorem dX4_lent_12 : decode cX4_lent 12 = .ok (.getfield 19, 3) := dk_180 0 19 (dk_at dksX4_lent_0 12 rfl rfl)
theorem dX4_lent_15 : decode cX4_lent 15 = .ok (.bipush 41, 2) := dk_16 41 (dk_at dksX4_lent_0 15 rfl rfl)
theorem dX4_lent_17 : decode cX4_lent 17 = .ok (.iload_n 1, 1) := dk_27 (dk_at dksX4_lent_0 17 rfl rfl)
theorem dX4_lent_18 : decode cX4_lent 18 = .ok (.iadd, 1) := dk_96 (dk_at dksX4_lent_0 18 rfl rfl)
theorem dX4_lent_19 : decode cX4_lent 19 = .ok (.iaload, 1) := dk_46 (dk_at dksX4_lent_0 19 rfl rfl)
theorem dX4_lent_20 : decode cX4_lent 20 = .ok (.goto 4, 3) := dk_167 0 4 (dk_at dksX4_lent_0 20 rfl rfl)
theorem dX4_lent_23 : decode cX4_lent 23 = .ok (.iload_n 1, 1) := dk_27 (dk_at dksX4_lent_0 23 rfl rfl)
theorem dX4_lent_24 : decode cX4_lent 24 = .ok (.ireturn, 1) := dk_172 (dk_at dksX4_lent_1 0 rfl rfl)
abbrev cX4_markOf : ByteArray := prog_17_method_70_code
def yX4_markOf : MethodName := ⟨RX4, "markOf", "(I)I"⟩
def dkwX4_markOf_3 : List UInt8 := [182, 0, 234, 62, 29, 42, 27, 182, 0, 243, 100, 172]
abbrev dktX4_markOf_3 : List UInt8 := dkwX4_markOf_3 ++ []
def dkwX4_markOf_2 : List UInt8 := [100, 172, 28, 4, 160, 0, 9, 42, 27, 182, 0, 240, 172, 42, 16, 23, 182, 0, 230, 42, 27, 16, 20]
abbrev dktX4_markOf_2 : List UInt8 := dkwX4_markOf_2 ++ dktX4_markOf_3
def dkwX4_markOf_1 : List UInt8 := [182, 0, 240, 104, 172, 28, 6, 160, 0, 19, 42, 16, 22, 182, 0, 230, 42, 27, 182, 0, 240, 17, 3, 232]
abbrev dktX4_markOf_1 : List UInt8 := dkwX4_markOf_1 ++ dktX4_markOf_2
def dkwX4_markOf_0 : List UInt8 := [42, 180, 0, 19, 16, 9, 27, 96, 46, 61, 28, 5, 160, 0, 17, 42, 16, 24, 182, 0, 230, 5, 42, 27]
abbrev dktX4_markOf_0 : List UInt8 := dkwX4_markOf_0 ++ dktX4_markOf_1
theorem dksX4_markOf_0 : cX4_markOf.data.toList.drop 0 = dktX4_markOf_0 := by decide +kernel
theorem dksX4_markOf_1 : cX4_markOf.data.toList.drop 24 = dktX4_markOf_1 := dk_seg dksX4_markOf_0 24 rfl rfl
theorem dksX4_markOf_2 : cX4_markOf.data.toList.drop 48 = dktX4_markOf_2 := dk_seg dksX4_markOf_1 24 rfl rfl
theorem dksX4_markOf_3 : cX4_markOf.data.toList.drop 71 = dktX4_markOf_3 := dk_seg dksX4_markOf_2 23 rfl rfl
theorem dX4_markOf_0 : decode cX4_markOf 0 = .ok (.aload_n 0, 1) := dk_42 (dk_at dksX4_markOf_0 0 rfl rfl)
theorem dX4_markOf_1 : decode cX4_markOf 1 = .ok (.getfield 19, 3) := dk_180 0 19 (dk_at dksX4_markOf_0 1 rfl rfl)
theorem dX4_markOf_4 : decode cX4_markOf 4 = .ok (.bipush 9, 2) := dk_16 9 (dk_at dksX4_markOf_0 4 rfl rfl)
theorem dX4_markOf_6 : decode cX4_markOf 6 = .ok (.iload_n 1, 1) := dk_27 (dk_at dksX4_markOf_0 6 rfl rfl)
theorem dX4_markOf_7 : decode cX4_markOf 7 = .ok (.iadd, 1) := dk_96 (dk_at dksX4_markOf_0 7 rfl rfl)
theorem dX4_markOf_8 : decode cX4_markOf 8 = .ok (.iaload, 1) := dk_46 (dk_at dksX4_markOf_0 8 rfl rfl)
theorem dX4_markOf_9 : decode cX4_markOf 9 = .ok (.istore_n 2, 1) := dk_61 (dk_at dksX4_markOf_0 9 rfl rfl)
theorem dX4_markOf_10 : decode cX4_markOf 10 = .ok (.iload_n 2, 1) := dk_28 (dk_at dksX4_markOf_0 10 rfl rfl)
theorem dX4_markOf_11 : decode cX4_markOf 11 = .ok (.iconst 2, 1) := dk_5 (dk_at dksX4_markOf_0 11 rfl rfl)
theorem dX4_markOf_12 : decode cX4_markOf 12 = .ok (.if_icmp .ne 17, 3) := dk_160 0 17 (dk_at dksX4_markOf_0 12 rfl rfl)
theorem dX4_markOf_15 : decode cX4_markOf 15 = .ok (.aload_n 0, 1) := dk_42 (dk_at dksX4_markOf_0 15 rfl rfl)
theorem dX4_markOf_16 : decode cX4_markOf 16 = .ok (.bipush 24, 2) := dk_16 24 (dk_at dksX4_markOf_0 16 rfl rfl)
theorem dX4_markOf_18 : decode cX4_markOf 18 = .ok (.invokevirtual 230, 3) := dk_182 0 230 (dk_at dksX4_markOf_0 18 rfl rfl)
theorem dX4_markOf_21 : decode cX4_markOf 21 = .ok (.iconst 2, 1) := dk_5 (dk_at dksX4_markOf_0 21 rfl rfl)
theorem dX4_markOf_22 : decode cX4_markOf 22 = .ok (.aload_n 0, 1) := dk_42 (dk_at dksX4_markOf_0 22 rfl rfl)
theorem dX4_markOf_23 : decode cX4_markOf 23 = .ok (.iload_n 1, 1) := dk_27 (dk_at dksX4_markOf_0 23 rfl rfl)
theorem dX4_markOf_24 : decode cX4_markOf 24 = .ok (.invokevirtual 240, 3) := dk_182 0 240 (dk_at dksX4_markOf_1 0 rfl rfl)
theorem dX4_markOf_27 : decode cX4_markOf 27 = .ok (.imul, 1) := dk_104 (dk_at dksX4_markOf_1 3 rfl rfl)
theorem dX4_markOf_28 : decode cX4_markOf 28 = .ok (.ireturn, 1) := dk_172 (dk_at dksX4_markOf_1 4 rfl rfl)
theorem dX4_markOf_29 : decode cX4_markOf 29 = .ok (.iload_n 2, 1) := dk_28 (dk_at dksX4_markOf_1 5 rfl rfl)
theorem dX4_markOf_30 : decode cX4_markOf 30 = .ok (.iconst 3, 1) := dk_6 (dk_at dksX4_markOf_1 6 rfl rfl)
theorem dX4_markOf_31 : decode cX4_markOf 31 = .ok (.if_icmp .ne 19, 3) := dk_160 0 19 (dk_at dksX4_markOf_1 7 rfl rfl)
theorem dX4_markOf_34 : decode cX4_markOf 34 = .ok (.aload_n 0, 1) := dk_42 (dk_at dksX4_markOf_1 10 rfl rfl)
theorem dX4_markOf_35 : decode cX4_markOf 35 = .ok (.bipush 22, 2) := dk_16 22 (dk_at dksX4_markOf_1 11 rfl rfl)
theorem dX4_markOf_37 : decode cX4_markOf 37 = .ok (.invokevirtual 230, 3) := dk_182 0 230 (dk_at dksX4_markOf_1 13 rfl rfl)
theorem dX4_markOf_40 : decode cX4_markOf 40 = .ok (.aload_n 0, 1) := dk_42 (dk_at dksX4_markOf_1 16 rfl rfl)
theorem dX4_markOf_41 : decode cX4_markOf 41 = .ok (.iload_n 1, 1) := dk_27 (dk_at dksX4_markOf_1 17 rfl rfl)
theorem dX4_markOf_42 : decode cX4_markOf 42 = .ok (.invokevirtual 240, 3) := dk_182 0 240 (dk_at dksX4_markOf_1 18 rfl rfl)
theorem dX4_markOf_45 : decode cX4_markOf 45 = .ok (.sipush 1000, 3) := dk_17 3 232 (dk_at dksX4_markOf_1 21 rfl rfl)
theorem dX4_markOf_48 : decode cX4_markOf 48 = .ok (.isub, 1) := dk_100 (dk_at dksX4_markOf_2 0 rfl rfl)
theorem dX4_markOf_49 : decode cX4_markOf 49 = .ok (.ireturn, 1) := dk_172 (dk_at dksX4_markOf_2 1 rfl rfl)
theorem dX4_markOf_50 : decode cX4_markOf 50 = .ok (.iload_n 2, 1) := dk_28 (dk_at dksX4_markOf_2 2 rfl rfl)
theorem dX4_markOf_51 : decode cX4_markOf 51 = .ok (.iconst 1, 1) := dk_4 (dk_at dksX4_markOf_2 3 rfl rfl)
theorem dX4_markOf_52 : decode cX4_markOf 52 = .ok (.if_icmp .ne 9, 3) := dk_160 0 9 (dk_at dksX4_markOf_2 4 rfl rfl)
theorem dX4_markOf_55 : decode cX4_markOf 55 = .ok (.aload_n 0, 1) := dk_42 (dk_at dksX4_markOf_2 7 rfl rfl)
theorem dX4_markOf_56 : decode cX4_markOf 56 = .ok (.iload_n 1, 1) := dk_27 (dk_at dksX4_markOf_2 8 rfl rfl)
theorem dX4_markOf_57 : decode cX4_markOf 57 = .ok (.invokevirtual 240, 3) := dk_182 0 240 (dk_at dksX4_markOf_2 9 rfl rfl)
theorem dX4_markOf_60 : decode cX4_markOf 60 = .ok (.ireturn, 1) := dk_172 (dk_at dksX4_markOf_2 12 rfl rfl)
theorem dX4_markOf_61 : decode cX4_markOf 61 = .ok (.aload_n 0, 1) := dk_42 (dk_at dksX4_markOf_2 13 rfl rfl)
theorem dX4_markOf_62 : decode cX4_markOf 62 = .ok (.bipush 23, 2) := dk_16 23 (dk_at dksX4_markOf_2 14 rfl rfl)
theorem dX4_markOf_64 : decode cX4_markOf 64 = .ok (.invokevirtual 230, 3) := dk_182 0 230 (dk_at dksX4_markOf_2 16 rfl rfl)
theorem dX4_markOf_67 : decode cX4_markOf 67 = .ok (.aload_n 0, 1) := dk_42 (dk_at dksX4_markOf_2 19 rfl rfl)
theorem dX4_markOf_68 : decode cX4_markOf 68 = .ok (.iload_n 1, 1) := dk_27 (dk_at dksX4_markOf_2 20 rfl rfl)
theorem dX4_markOf_69 : decode cX4_markOf 69 = .ok (.bipush 20, 2) := dk_16 20 (dk_at dksX4_markOf_2 21 rfl rfl)
theorem dX4_markOf_71 : decode cX4_markOf 71 = .ok (.invokevirtual 234, 3) := dk_182 0 234 (dk_at dksX4_markOf_3 0 rfl rfl)
theorem dX4_markOf_74 : decode cX4_markOf 74 = .ok (.istore_n 3, 1) := dk_62 (dk_at dksX4_markOf_3 3 rfl rfl)
theorem dX4_markOf_75 : decode cX4_markOf 75 = .ok (.iload_n 3, 1) := dk_29 (dk_at dksX4_markOf_3 4 rfl rfl)
theorem dX4_markOf_76 : decode cX4_markOf 76 = .ok (.aload_n 0, 1) := dk_42 (dk_at dksX4_markOf_3 5 rfl rfl)
theorem dX4_markOf_77 : decode cX4_markOf 77 = .ok (.iload_n 1, 1) := dk_27 (dk_at dksX4_markOf_3 6 rfl rfl)
theorem dX4_markOf_78 : decode cX4_markOf 78 = .ok (.invokevirtual 243, 3) := dk_182 0 243 (dk_at dksX4_markOf_3 7 rfl rfl)
theorem dX4_markOf_81 : decode cX4_markOf 81 = .ok (.isub, 1) := dk_100 (dk_at dksX4_markOf_3 10 rfl rfl)
theorem dX4_markOf_82 : decode cX4_markOf 82 = .ok (.ireturn, 1) := dk_172 (dk_at dksX4_markOf_3 11 rfl rfl)
abbrev cX4_plainMark : ByteArray := prog_17_method_67_code
def yX4_plainMark : MethodName := ⟨RX4, "plainMark", "(I)I"⟩
def dkwX4_plainMark_0 : List UInt8 := [42, 16, 21, 182, 0, 230, 42, 27, 16, 20, 182, 0, 234, 42, 27, 182, 0, 156, 96, 172]
abbrev dktX4_plainMark_0 : List UInt8 := dkwX4_plainMark_0 ++ []
theorem dksX4_plainMark_0 : cX4_plainMark.data.toList.drop 0 = dktX4_plainMark_0 := by decide +kernel
theorem dX4_plainMark_0 : decode cX4_plainMark 0 = .ok (.aload_n 0, 1) := dk_42 (dk_at dksX4_plainMark_0 0 rfl rfl)
theorem dX4_plainMark_1 : decode cX4_plainMark 1 = .ok (.bipush 21, 2) := dk_16 21 (dk_at dksX4_plainMark_0 1 rfl rfl)
theorem dX4_plainMark_3 : decode cX4_plainMark 3 = .ok (.invokevirtual 230, 3) := dk_182 0 230 (dk_at dksX4_plainMark_0 3 rfl rfl)
theorem dX4_plainMark_6 : decode cX4_plainMark 6 = .ok (.aload_n 0, 1) := dk_42 (dk_at dksX4_plainMark_0 6 rfl rfl)
theorem dX4_plainMark_7 : decode cX4_plainMark 7 = .ok (.iload_n 1, 1) := dk_27 (dk_at dksX4_plainMark_0 7 rfl rfl)
theorem dX4_plainMark_8 : decode cX4_plainMark 8 = .ok (.bipush 20, 2) := dk_16 20 (dk_at dksX4_plainMark_0 8 rfl rfl)
theorem dX4_plainMark_10 : decode cX4_plainMark 10 = .ok (.invokevirtual 234, 3) := dk_182 0 234 (dk_at dksX4_plainMark_0 10 rfl rfl)
theorem dX4_plainMark_13 : decode cX4_plainMark 13 = .ok (.aload_n 0, 1) := dk_42 (dk_at dksX4_plainMark_0 13 rfl rfl)
theorem dX4_plainMark_14 : decode cX4_plainMark 14 = .ok (.iload_n 1, 1) := dk_27 (dk_at dksX4_plainMark_0 14 rfl rfl)
theorem dX4_plainMark_15 : decode cX4_plainMark 15 = .ok (.invokevirtual 156, 3) := dk_182 0 156 (dk_at dksX4_plainMark_0 15 rfl rfl)
theorem dX4_plainMark_18 : decode cX4_plainMark 18 = .ok (.iadd, 1) := dk_96 (dk_at dksX4_plainMark_0 18 rfl rfl)
theorem dX4_plainMark_19 : decode cX4_plainMark 19 = .ok (.ireturn, 1) := dk_172 (dk_at dksX4_plainMark_0 19 rfl rfl)
abbrev cX4_sizeOfOath : ByteArray := prog_17_method_69_code
def yX4_sizeOfOath : MethodName := ⟨RX4, "sizeOfOath", "(I)I"⟩
def dkwX4_sizeOfOath_1 : List UInt8 := [182, 0, 237, 104, 172, 42, 27, 182, 0, 237, 172]
abbrev dktX4_sizeOfOath_1 : List UInt8 := dkwX4_sizeOfOath_1 ++ []
def dkwX4_sizeOfOath_0 : List UInt8 := [42, 180, 0, 19, 16, 9, 27, 96, 46, 8, 160, 0, 17, 42, 16, 14, 182, 0, 230, 5, 42, 27]
abbrev dktX4_sizeOfOath_0 : List UInt8 := dkwX4_sizeOfOath_0 ++ dktX4_sizeOfOath_1
theorem dksX4_sizeOfOath_0 : cX4_sizeOfOath.data.toList.drop 0 = dktX4_sizeOfOath_0 := by decide +kernel
theorem dksX4_sizeOfOath_1 : cX4_sizeOfOath.data.toList.drop 22 = dktX4_sizeOfOath_1 := dk_seg dksX4_sizeOfOath_0 22 rfl rfl
theorem dX4_sizeOfOath_0 : decode cX4_sizeOfOath 0 = .ok (.aload_n 0, 1) := dk_42 (dk_at dksX4_sizeOfOath_0 0 rfl rfl)
theorem dX4_sizeOfOath_1 : decode cX4_sizeOfOath 1 = .ok (.getfield 19, 3) := dk_180 0 19 (dk_at dksX4_sizeOfOath_0 1 rfl rfl)
theorem dX4_sizeOfOath_4 : decode cX4_sizeOfOath 4 = .ok (.bipush 9, 2) := dk_16 9 (dk_at dksX4_sizeOfOath_0 4 rfl rfl)
theorem dX4_sizeOfOath_6 : decode cX4_sizeOfOath 6 = .ok (.iload_n 1, 1) := dk_27 (dk_at dksX4_sizeOfOath_0 6 rfl rfl)
theorem dX4_sizeOfOath_7 : decode cX4_sizeOfOath 7 = .ok (.iadd, 1) := dk_96 (dk_at dksX4_sizeOfOath_0 7 rfl rfl)
theorem dX4_sizeOfOath_8 : decode cX4_sizeOfOath 8 = .ok (.iaload, 1) := dk_46 (dk_at dksX4_sizeOfOath_0 8 rfl rfl)
theorem dX4_sizeOfOath_9 : decode cX4_sizeOfOath 9 = .ok (.iconst 5, 1) := dk_8 (dk_at dksX4_sizeOfOath_0 9 rfl rfl)
theorem dX4_sizeOfOath_10 : decode cX4_sizeOfOath 10 = .ok (.if_icmp .ne 17, 3) := dk_160 0 17 (dk_at dksX4_sizeOfOath_0 10 rfl rfl)
theorem dX4_sizeOfOath_13 : decode cX4_sizeOfOath 13 = .ok (.aload_n 0, 1) := dk_42 (dk_at dksX4_sizeOfOath_0 13 rfl rfl)
theorem dX4_sizeOfOath_14 : decode cX4_sizeOfOath 14 = .ok (.bipush 14, 2) := dk_16 14 (dk_at dksX4_sizeOfOath_0 14 rfl rfl)
theorem dX4_sizeOfOath_16 : decode cX4_sizeOfOath 16 = .ok (.invokevirtual 230, 3) := dk_182 0 230 (dk_at dksX4_sizeOfOath_0 16 rfl rfl)
theorem dX4_sizeOfOath_19 : decode cX4_sizeOfOath 19 = .ok (.iconst 2, 1) := dk_5 (dk_at dksX4_sizeOfOath_0 19 rfl rfl)
theorem dX4_sizeOfOath_20 : decode cX4_sizeOfOath 20 = .ok (.aload_n 0, 1) := dk_42 (dk_at dksX4_sizeOfOath_0 20 rfl rfl)
theorem dX4_sizeOfOath_21 : decode cX4_sizeOfOath 21 = .ok (.iload_n 1, 1) := dk_27 (dk_at dksX4_sizeOfOath_0 21 rfl rfl)
theorem dX4_sizeOfOath_22 : decode cX4_sizeOfOath 22 = .ok (.invokevirtual 237, 3) := dk_182 0 237 (dk_at dksX4_sizeOfOath_1 0 rfl rfl)
theorem dX4_sizeOfOath_25 : decode cX4_sizeOfOath 25 = .ok (.imul, 1) := dk_104 (dk_at dksX4_sizeOfOath_1 3 rfl rfl)
theorem dX4_sizeOfOath_26 : decode cX4_sizeOfOath 26 = .ok (.ireturn, 1) := dk_172 (dk_at dksX4_sizeOfOath_1 4 rfl rfl)
theorem dX4_sizeOfOath_27 : decode cX4_sizeOfOath 27 = .ok (.aload_n 0, 1) := dk_42 (dk_at dksX4_sizeOfOath_1 5 rfl rfl)
theorem dX4_sizeOfOath_28 : decode cX4_sizeOfOath 28 = .ok (.iload_n 1, 1) := dk_27 (dk_at dksX4_sizeOfOath_1 6 rfl rfl)
theorem dX4_sizeOfOath_29 : decode cX4_sizeOfOath 29 = .ok (.invokevirtual 237, 3) := dk_182 0 237 (dk_at dksX4_sizeOfOath_1 7 rfl rfl)
theorem dX4_sizeOfOath_32 : decode cX4_sizeOfOath 32 = .ok (.ireturn, 1) := dk_172 (dk_at dksX4_sizeOfOath_1 10 rfl rfl)
abbrev cX4_oathSize : ByteArray := prog_17_method_68_code
def yX4_oathSize : MethodName := ⟨RX4, "oathSize", "(I)I"⟩
def dkwX4_oathSize_0 : List UInt8 := [42, 16, 13, 182, 0, 230, 42, 27, 16, 10, 182, 0, 234, 16, 100, 100, 172]
abbrev dktX4_oathSize_0 : List UInt8 := dkwX4_oathSize_0 ++ []
theorem dksX4_oathSize_0 : cX4_oathSize.data.toList.drop 0 = dktX4_oathSize_0 := by decide +kernel
theorem dX4_oathSize_0 : decode cX4_oathSize 0 = .ok (.aload_n 0, 1) := dk_42 (dk_at dksX4_oathSize_0 0 rfl rfl)
theorem dX4_oathSize_1 : decode cX4_oathSize 1 = .ok (.bipush 13, 2) := dk_16 13 (dk_at dksX4_oathSize_0 1 rfl rfl)
theorem dX4_oathSize_3 : decode cX4_oathSize 3 = .ok (.invokevirtual 230, 3) := dk_182 0 230 (dk_at dksX4_oathSize_0 3 rfl rfl)
theorem dX4_oathSize_6 : decode cX4_oathSize 6 = .ok (.aload_n 0, 1) := dk_42 (dk_at dksX4_oathSize_0 6 rfl rfl)
theorem dX4_oathSize_7 : decode cX4_oathSize 7 = .ok (.iload_n 1, 1) := dk_27 (dk_at dksX4_oathSize_0 7 rfl rfl)
theorem dX4_oathSize_8 : decode cX4_oathSize 8 = .ok (.bipush 10, 2) := dk_16 10 (dk_at dksX4_oathSize_0 8 rfl rfl)
theorem dX4_oathSize_10 : decode cX4_oathSize 10 = .ok (.invokevirtual 234, 3) := dk_182 0 234 (dk_at dksX4_oathSize_0 10 rfl rfl)
theorem dX4_oathSize_13 : decode cX4_oathSize 13 = .ok (.bipush 100, 2) := dk_16 100 (dk_at dksX4_oathSize_0 13 rfl rfl)
theorem dX4_oathSize_15 : decode cX4_oathSize 15 = .ok (.isub, 1) := dk_100 (dk_at dksX4_oathSize_0 15 rfl rfl)
theorem dX4_oathSize_16 : decode cX4_oathSize 16 = .ok (.ireturn, 1) := dk_172 (dk_at dksX4_oathSize_0 16 rfl rfl)
abbrev cX4_trace : ByteArray := prog_17_method_74_code
def yX4_trace : MethodName := ⟨RX4, "trace", "(I)I"⟩
def dkwX4_trace_1 : List UInt8 := [167, 0, 5, 18, 187, 172]
abbrev dktX4_trace_1 : List UInt8 := dkwX4_trace_1 ++ []
def dkwX4_trace_0 : List UInt8 := [27, 133, 9, 42, 180, 0, 227, 4, 100, 133, 184, 0, 54, 153, 0, 12, 42, 180, 0, 44, 27, 46]
abbrev dktX4_trace_0 : List UInt8 := dkwX4_trace_0 ++ dktX4_trace_1
theorem dksX4_trace_0 : cX4_trace.data.toList.drop 0 = dktX4_trace_0 := by decide +kernel
theorem dksX4_trace_1 : cX4_trace.data.toList.drop 22 = dktX4_trace_1 := dk_seg dksX4_trace_0 22 rfl rfl
theorem dX4_trace_0 : decode cX4_trace 0 = .ok (.iload_n 1, 1) := dk_27 (dk_at dksX4_trace_0 0 rfl rfl)
theorem dX4_trace_1 : decode cX4_trace 1 = .ok (.i2l, 1) := dk_133 (dk_at dksX4_trace_0 1 rfl rfl)
theorem dX4_trace_2 : decode cX4_trace 2 = .ok (.lconst 0, 1) := dk_9 (dk_at dksX4_trace_0 2 rfl rfl)
theorem dX4_trace_3 : decode cX4_trace 3 = .ok (.aload_n 0, 1) := dk_42 (dk_at dksX4_trace_0 3 rfl rfl)
theorem dX4_trace_4 : decode cX4_trace 4 = .ok (.getfield 227, 3) := dk_180 0 227 (dk_at dksX4_trace_0 4 rfl rfl)
theorem dX4_trace_7 : decode cX4_trace 7 = .ok (.iconst 1, 1) := dk_4 (dk_at dksX4_trace_0 7 rfl rfl)
theorem dX4_trace_8 : decode cX4_trace 8 = .ok (.isub, 1) := dk_100 (dk_at dksX4_trace_0 8 rfl rfl)
theorem dX4_trace_9 : decode cX4_trace 9 = .ok (.i2l, 1) := dk_133 (dk_at dksX4_trace_0 9 rfl rfl)
theorem dX4_trace_10 : decode cX4_trace 10 = .ok (.invokestatic 54, 3) := dk_184 0 54 (dk_at dksX4_trace_0 10 rfl rfl)
theorem dX4_trace_13 : decode cX4_trace 13 = .ok (.ifCond .eq 12, 3) := dk_153 0 12 (dk_at dksX4_trace_0 13 rfl rfl)
theorem dX4_trace_16 : decode cX4_trace 16 = .ok (.aload_n 0, 1) := dk_42 (dk_at dksX4_trace_0 16 rfl rfl)
theorem dX4_trace_17 : decode cX4_trace 17 = .ok (.getfield 44, 3) := dk_180 0 44 (dk_at dksX4_trace_0 17 rfl rfl)
theorem dX4_trace_20 : decode cX4_trace 20 = .ok (.iload_n 1, 1) := dk_27 (dk_at dksX4_trace_0 20 rfl rfl)
theorem dX4_trace_21 : decode cX4_trace 21 = .ok (.iaload, 1) := dk_46 (dk_at dksX4_trace_0 21 rfl rfl)
theorem dX4_trace_22 : decode cX4_trace 22 = .ok (.goto 5, 3) := dk_167 0 5 (dk_at dksX4_trace_1 0 rfl rfl)
theorem dX4_trace_25 : decode cX4_trace 25 = .ok (.ldc 187, 2) := dk_18 187 (dk_at dksX4_trace_1 3 rfl rfl)
theorem dX4_trace_27 : decode cX4_trace 27 = .ok (.ireturn, 1) := dk_172 (dk_at dksX4_trace_1 5 rfl rfl)
abbrev cX4_count : ByteArray := prog_17_method_75_code
def yX4_count : MethodName := ⟨RX4, "count", "(I)I"⟩
def dkwX4_count_6 : List UInt8 := [18, 64, 172]
abbrev dktX4_count_6 : List UInt8 := dkwX4_count_6 ++ []
def dkwX4_count_5 : List UInt8 := [180, 0, 19, 3, 46, 172, 42, 180, 0, 19, 4, 46, 172, 42, 180, 0, 139, 172, 42, 180, 0, 78, 172]
abbrev dktX4_count_5 : List UInt8 := dkwX4_count_5 ++ dktX4_count_6
def dkwX4_count_4 : List UInt8 := [180, 0, 135, 153, 0, 16, 42, 42, 180, 0, 19, 7, 46, 182, 0, 172, 167, 0, 4, 3, 172, 42]
abbrev dktX4_count_4 : List UInt8 := dkwX4_count_4 ++ dktX4_count_5
def dkwX4_count_3 : List UInt8 := [28, 172, 42, 180, 0, 19, 6, 46, 172, 42, 180, 0, 19, 5, 46, 172, 42, 180, 0, 19, 7, 46, 172, 42]
abbrev dktX4_count_3 : List UInt8 := dkwX4_count_3 ++ dktX4_count_4
def dkwX4_count_2 : List UInt8 := [170, 0, 0, 0, 0, 119, 0, 0, 0, 0, 0, 0, 0, 8, 0, 0, 0, 50, 0, 0, 0, 52, 0, 0, 0, 59, 0, 0, 0, 66, 0, 0, 0, 73, 0, 0, 0, 95, 0, 0, 0, 102, 0, 0, 0, 109, 0, 0, 0, 114]
abbrev dktX4_count_2 : List UInt8 := dkwX4_count_2 ++ dktX4_count_3
def dkwX4_count_1 : List UInt8 := [3, 96, 61, 132, 3, 1, 167, 255, 230, 27]
abbrev dktX4_count_1 : List UInt8 := dkwX4_count_1 ++ dktX4_count_2
def dkwX4_count_0 : List UInt8 := [3, 61, 3, 62, 29, 16, 8, 162, 0, 26, 28, 42, 180, 0, 13, 29, 46, 155, 0, 7, 4, 167, 0, 4]
abbrev dktX4_count_0 : List UInt8 := dkwX4_count_0 ++ dktX4_count_1
theorem dksX4_count_0 : cX4_count.data.toList.drop 0 = dktX4_count_0 := by decide +kernel
theorem dksX4_count_1 : cX4_count.data.toList.drop 24 = dktX4_count_1 := dk_seg dksX4_count_0 24 rfl rfl
theorem dksX4_count_2 : cX4_count.data.toList.drop 34 = dktX4_count_2 := dk_seg dksX4_count_1 10 rfl rfl
theorem dksX4_count_3 : cX4_count.data.toList.drop 84 = dktX4_count_3 := dk_seg dksX4_count_2 50 rfl rfl
theorem dksX4_count_4 : cX4_count.data.toList.drop 108 = dktX4_count_4 := dk_seg dksX4_count_3 24 rfl rfl
theorem dksX4_count_5 : cX4_count.data.toList.drop 130 = dktX4_count_5 := dk_seg dksX4_count_4 22 rfl rfl
theorem dksX4_count_6 : cX4_count.data.toList.drop 153 = dktX4_count_6 := dk_seg dksX4_count_5 23 rfl rfl
theorem dX4_count_0 : decode cX4_count 0 = .ok (.iconst 0, 1) := dk_3 (dk_at dksX4_count_0 0 rfl rfl)
theorem dX4_count_1 : decode cX4_count 1 = .ok (.istore_n 2, 1) := dk_61 (dk_at dksX4_count_0 1 rfl rfl)
theorem dX4_count_2 : decode cX4_count 2 = .ok (.iconst 0, 1) := dk_3 (dk_at dksX4_count_0 2 rfl rfl)
theorem dX4_count_3 : decode cX4_count 3 = .ok (.istore_n 3, 1) := dk_62 (dk_at dksX4_count_0 3 rfl rfl)
theorem dX4_count_4 : decode cX4_count 4 = .ok (.iload_n 3, 1) := dk_29 (dk_at dksX4_count_0 4 rfl rfl)
theorem dX4_count_5 : decode cX4_count 5 = .ok (.bipush 8, 2) := dk_16 8 (dk_at dksX4_count_0 5 rfl rfl)
theorem dX4_count_7 : decode cX4_count 7 = .ok (.if_icmp .ge 26, 3) := dk_162 0 26 (dk_at dksX4_count_0 7 rfl rfl)
theorem dX4_count_10 : decode cX4_count 10 = .ok (.iload_n 2, 1) := dk_28 (dk_at dksX4_count_0 10 rfl rfl)
theorem dX4_count_11 : decode cX4_count 11 = .ok (.aload_n 0, 1) := dk_42 (dk_at dksX4_count_0 11 rfl rfl)
theorem dX4_count_12 : decode cX4_count 12 = .ok (.getfield 13, 3) := dk_180 0 13 (dk_at dksX4_count_0 12 rfl rfl)
theorem dX4_count_15 : decode cX4_count 15 = .ok (.iload_n 3, 1) := dk_29 (dk_at dksX4_count_0 15 rfl rfl)
theorem dX4_count_16 : decode cX4_count 16 = .ok (.iaload, 1) := dk_46 (dk_at dksX4_count_0 16 rfl rfl)
theorem dX4_count_17 : decode cX4_count 17 = .ok (.ifCond .lt 7, 3) := dk_155 0 7 (dk_at dksX4_count_0 17 rfl rfl)
theorem dX4_count_20 : decode cX4_count 20 = .ok (.iconst 1, 1) := dk_4 (dk_at dksX4_count_0 20 rfl rfl)
theorem dX4_count_21 : decode cX4_count 21 = .ok (.goto 4, 3) := dk_167 0 4 (dk_at dksX4_count_0 21 rfl rfl)
theorem dX4_count_24 : decode cX4_count 24 = .ok (.iconst 0, 1) := dk_3 (dk_at dksX4_count_1 0 rfl rfl)
theorem dX4_count_25 : decode cX4_count 25 = .ok (.iadd, 1) := dk_96 (dk_at dksX4_count_1 1 rfl rfl)
theorem dX4_count_26 : decode cX4_count 26 = .ok (.istore_n 2, 1) := dk_61 (dk_at dksX4_count_1 2 rfl rfl)
theorem dX4_count_27 : decode cX4_count 27 = .ok (.iinc 3 1, 3) := dk_132 3 1 (dk_at dksX4_count_1 3 rfl rfl)
theorem dX4_count_30 : decode cX4_count 30 = .ok (.goto (-26), 3) := dk_167 255 230 (dk_at dksX4_count_1 6 rfl rfl)
theorem dX4_count_33 : decode cX4_count 33 = .ok (.iload_n 1, 1) := dk_27 (dk_at dksX4_count_1 9 rfl rfl)
theorem dX4_count_34 : decode cX4_count 34 = .ok (.tableswitch 119 0 8 #[50, 52, 59, 66, 73, 95, 102, 109, 114], 50) := by decide +kernel
theorem dX4_count_84 : decode cX4_count 84 = .ok (.iload_n 2, 1) := dk_28 (dk_at dksX4_count_3 0 rfl rfl)
theorem dX4_count_85 : decode cX4_count 85 = .ok (.ireturn, 1) := dk_172 (dk_at dksX4_count_3 1 rfl rfl)
theorem dX4_count_86 : decode cX4_count 86 = .ok (.aload_n 0, 1) := dk_42 (dk_at dksX4_count_3 2 rfl rfl)
theorem dX4_count_87 : decode cX4_count 87 = .ok (.getfield 19, 3) := dk_180 0 19 (dk_at dksX4_count_3 3 rfl rfl)
theorem dX4_count_90 : decode cX4_count 90 = .ok (.iconst 3, 1) := dk_6 (dk_at dksX4_count_3 6 rfl rfl)
theorem dX4_count_91 : decode cX4_count 91 = .ok (.iaload, 1) := dk_46 (dk_at dksX4_count_3 7 rfl rfl)
theorem dX4_count_92 : decode cX4_count 92 = .ok (.ireturn, 1) := dk_172 (dk_at dksX4_count_3 8 rfl rfl)
theorem dX4_count_93 : decode cX4_count 93 = .ok (.aload_n 0, 1) := dk_42 (dk_at dksX4_count_3 9 rfl rfl)
theorem dX4_count_94 : decode cX4_count 94 = .ok (.getfield 19, 3) := dk_180 0 19 (dk_at dksX4_count_3 10 rfl rfl)
theorem dX4_count_97 : decode cX4_count 97 = .ok (.iconst 2, 1) := dk_5 (dk_at dksX4_count_3 13 rfl rfl)
theorem dX4_count_98 : decode cX4_count 98 = .ok (.iaload, 1) := dk_46 (dk_at dksX4_count_3 14 rfl rfl)
theorem dX4_count_99 : decode cX4_count 99 = .ok (.ireturn, 1) := dk_172 (dk_at dksX4_count_3 15 rfl rfl)
theorem dX4_count_100 : decode cX4_count 100 = .ok (.aload_n 0, 1) := dk_42 (dk_at dksX4_count_3 16 rfl rfl)
theorem dX4_count_101 : decode cX4_count 101 = .ok (.getfield 19, 3) := dk_180 0 19 (dk_at dksX4_count_3 17 rfl rfl)
theorem dX4_count_104 : decode cX4_count 104 = .ok (.iconst 4, 1) := dk_7 (dk_at dksX4_count_3 20 rfl rfl)
theorem dX4_count_105 : decode cX4_count 105 = .ok (.iaload, 1) := dk_46 (dk_at dksX4_count_3 21 rfl rfl)
theorem dX4_count_106 : decode cX4_count 106 = .ok (.ireturn, 1) := dk_172 (dk_at dksX4_count_3 22 rfl rfl)
theorem dX4_count_107 : decode cX4_count 107 = .ok (.aload_n 0, 1) := dk_42 (dk_at dksX4_count_3 23 rfl rfl)
theorem dX4_count_108 : decode cX4_count 108 = .ok (.getfield 135, 3) := dk_180 0 135 (dk_at dksX4_count_4 0 rfl rfl)
theorem dX4_count_111 : decode cX4_count 111 = .ok (.ifCond .eq 16, 3) := dk_153 0 16 (dk_at dksX4_count_4 3 rfl rfl)
theorem dX4_count_114 : decode cX4_count 114 = .ok (.aload_n 0, 1) := dk_42 (dk_at dksX4_count_4 6 rfl rfl)
theorem dX4_count_115 : decode cX4_count 115 = .ok (.aload_n 0, 1) := dk_42 (dk_at dksX4_count_4 7 rfl rfl)
theorem dX4_count_116 : decode cX4_count 116 = .ok (.getfield 19, 3) := dk_180 0 19 (dk_at dksX4_count_4 8 rfl rfl)
theorem dX4_count_119 : decode cX4_count 119 = .ok (.iconst 4, 1) := dk_7 (dk_at dksX4_count_4 11 rfl rfl)
theorem dX4_count_120 : decode cX4_count 120 = .ok (.iaload, 1) := dk_46 (dk_at dksX4_count_4 12 rfl rfl)
theorem dX4_count_121 : decode cX4_count 121 = .ok (.invokevirtual 172, 3) := dk_182 0 172 (dk_at dksX4_count_4 13 rfl rfl)
theorem dX4_count_124 : decode cX4_count 124 = .ok (.goto 4, 3) := dk_167 0 4 (dk_at dksX4_count_4 16 rfl rfl)
theorem dX4_count_127 : decode cX4_count 127 = .ok (.iconst 0, 1) := dk_3 (dk_at dksX4_count_4 19 rfl rfl)
theorem dX4_count_128 : decode cX4_count 128 = .ok (.ireturn, 1) := dk_172 (dk_at dksX4_count_4 20 rfl rfl)
theorem dX4_count_129 : decode cX4_count 129 = .ok (.aload_n 0, 1) := dk_42 (dk_at dksX4_count_4 21 rfl rfl)
theorem dX4_count_130 : decode cX4_count 130 = .ok (.getfield 19, 3) := dk_180 0 19 (dk_at dksX4_count_5 0 rfl rfl)
theorem dX4_count_133 : decode cX4_count 133 = .ok (.iconst 0, 1) := dk_3 (dk_at dksX4_count_5 3 rfl rfl)
theorem dX4_count_134 : decode cX4_count 134 = .ok (.iaload, 1) := dk_46 (dk_at dksX4_count_5 4 rfl rfl)
theorem dX4_count_135 : decode cX4_count 135 = .ok (.ireturn, 1) := dk_172 (dk_at dksX4_count_5 5 rfl rfl)
theorem dX4_count_136 : decode cX4_count 136 = .ok (.aload_n 0, 1) := dk_42 (dk_at dksX4_count_5 6 rfl rfl)
theorem dX4_count_137 : decode cX4_count 137 = .ok (.getfield 19, 3) := dk_180 0 19 (dk_at dksX4_count_5 7 rfl rfl)
theorem dX4_count_140 : decode cX4_count 140 = .ok (.iconst 1, 1) := dk_4 (dk_at dksX4_count_5 10 rfl rfl)
theorem dX4_count_141 : decode cX4_count 141 = .ok (.iaload, 1) := dk_46 (dk_at dksX4_count_5 11 rfl rfl)
theorem dX4_count_142 : decode cX4_count 142 = .ok (.ireturn, 1) := dk_172 (dk_at dksX4_count_5 12 rfl rfl)
theorem dX4_count_143 : decode cX4_count 143 = .ok (.aload_n 0, 1) := dk_42 (dk_at dksX4_count_5 13 rfl rfl)
theorem dX4_count_144 : decode cX4_count 144 = .ok (.getfield 139, 3) := dk_180 0 139 (dk_at dksX4_count_5 14 rfl rfl)
theorem dX4_count_147 : decode cX4_count 147 = .ok (.ireturn, 1) := dk_172 (dk_at dksX4_count_5 17 rfl rfl)
theorem dX4_count_148 : decode cX4_count 148 = .ok (.aload_n 0, 1) := dk_42 (dk_at dksX4_count_5 18 rfl rfl)
theorem dX4_count_149 : decode cX4_count 149 = .ok (.getfield 78, 3) := dk_180 0 78 (dk_at dksX4_count_5 19 rfl rfl)
theorem dX4_count_152 : decode cX4_count 152 = .ok (.ireturn, 1) := dk_172 (dk_at dksX4_count_5 22 rfl rfl)
theorem dX4_count_153 : decode cX4_count 153 = .ok (.ldc 64, 2) := dk_18 64 (dk_at dksX4_count_6 0 rfl rfl)
theorem dX4_count_155 : decode cX4_count 155 = .ok (.ireturn, 1) := dk_172 (dk_at dksX4_count_6 2 rfl rfl)
abbrev cX4_status : ByteArray := prog_17_method_76_code
def yX4_status : MethodName := ⟨RX4, "status", "()I"⟩
theorem dX4_status_0 : decode cX4_status 0 = .ok (.aload_n 0, 1) := by decide +kernel
theorem dX4_status_1 : decode cX4_status 1 = .ok (.getfield 47, 3) := by decide +kernel
theorem dX4_status_4 : decode cX4_status 4 = .ok (.ireturn, 1) := by decide +kernel
theorem q75 : (Jvm.Cond.initialized "PromiseScalesModel") ∈ lw_all := lw_g (lw_at lw_m1 8 rfl) rfl
theorem q789 : (Jvm.Cond.selects "PromiseScalesModel" ({ cls := "java/lang/Object", name := "getClass", desc := "()Ljava/lang/Class;" } : Jvm.MethodName) ({ cls := "java/lang/Object", name := "getClass", desc := "()Ljava/lang/Class;" } : Jvm.MethodName)) ∈ lw_all := lw_g (lw_at lw_m4 2 rfl) rfl
theorem q1284 : (Jvm.Cond.instantiable "PromiseScalesModel" (24 : Nat)) ∈ lw_all := lw_g (lw_at lw_m6 17 rfl) rfl
theorem q1286 : (Jvm.Cond.instanceMethod ({ cls := "PromiseScalesModel", name := "<init>", desc := "()V" } : Jvm.MethodName)) ∈ lw_all := lw_g (lw_at lw_m6 19 rfl) rfl
theorem q1287 : (Jvm.Cond.code ({ cls := "PromiseScalesModel", name := "<init>", desc := "()V" } : Jvm.MethodName) prog_17_method_1_code (2 : Nat) (Option.none : Option Jvm.ClassFile.FieldType)) ∈ lw_all := lw_g (lw_at lw_m6 20 rfl) rfl
theorem q1288 : (Jvm.Cond.methodLink "PromiseScalesModel" (1 : Nat) ({ cls := "java/lang/Object", name := "<init>", desc := "()V" } : Jvm.MethodName)) ∈ lw_all := lw_g (lw_at lw_m6 21 rfl) rfl
theorem q1289 : (Jvm.Cond.fieldLink "PromiseScalesModel" (7 : Nat) "PromiseScalesModel" "lanes" "[I") ∈ lw_all := lw_g (lw_at lw_m6 22 rfl) rfl
theorem q1290 : (Jvm.Cond.fieldLink "PromiseScalesModel" (13 : Nat) "PromiseScalesModel" "sizes" "[I") ∈ lw_all := lw_g (lw_at lw_m6 23 rfl) rfl
theorem q1291 : (Jvm.Cond.fieldLink "PromiseScalesModel" (16 : Nat) "PromiseScalesModel" "items" "[I") ∈ lw_all := lw_g (lw_at lw_m6 24 rfl) rfl
theorem q1292 : (Jvm.Cond.fieldLink "PromiseScalesModel" (47 : Nat) "PromiseScalesModel" "status" "I") ∈ lw_all := lw_g (lw_at lw_m6 25 rfl) rfl
theorem q1293 : (Jvm.Cond.fieldLink "PromiseScalesModel" (135 : Nat) "PromiseScalesModel" "isThere" "Z") ∈ lw_all := lw_g (lw_at lw_m6 26 rfl) rfl
theorem q1294 : (Jvm.Cond.fieldLink "PromiseScalesModel" (19 : Nat) "PromiseScalesModel" "st" "[I") ∈ lw_all := lw_g (lw_at lw_m6 27 rfl) rfl
theorem q1295 : (Jvm.Cond.fieldLink "PromiseScalesModel" (22 : Nat) "PromiseScalesModel" "moved" "[I") ∈ lw_all := lw_g (lw_at lw_m6 28 rfl) rfl
theorem q1296 : (Jvm.Cond.fieldLink "PromiseScalesModel" (25 : Nat) "PromiseScalesModel" "tape" "[I") ∈ lw_all := lw_g (lw_at lw_m6 29 rfl) rfl
theorem q1297 : (Jvm.Cond.fieldLink "PromiseScalesModel" (78 : Nat) "PromiseScalesModel" "bytes" "I") ∈ lw_all := lw_g (lw_at lw_m6 30 rfl) rfl
theorem q1298 : (Jvm.Cond.fieldLink "PromiseScalesModel" (131 : Nat) "PromiseScalesModel" "latest" "I") ∈ lw_all := lw_g (lw_at lw_m6 31 rfl) rfl
theorem q1299 : (Jvm.Cond.fieldLink "PromiseScalesModel" (82 : Nat) "PromiseScalesModel" "place" "I") ∈ lw_all := lw_g (lw_at lw_m6 32 rfl) rfl
theorem q1300 : (Jvm.Cond.fieldLink "PromiseScalesModel" (88 : Nat) "PromiseScalesModel" "token" "I") ∈ lw_all := lw_g (lw_at lw_m6 33 rfl) rfl
theorem q1301 : (Jvm.Cond.fieldLink "PromiseScalesModel" (91 : Nat) "PromiseScalesModel" "value" "I") ∈ lw_all := lw_g (lw_at lw_m6 34 rfl) rfl
theorem q1302 : (Jvm.Cond.fieldLink "PromiseScalesModel" (85 : Nat) "PromiseScalesModel" "begins" "I") ∈ lw_all := lw_g (lw_at lw_m6 35 rfl) rfl
theorem q1303 : (Jvm.Cond.fieldLink "PromiseScalesModel" (102 : Nat) "PromiseScalesModel" "wrong" "I") ∈ lw_all := lw_g (lw_at lw_m6 36 rfl) rfl
theorem q1304 : (Jvm.Cond.fieldLink "PromiseScalesModel" (28 : Nat) "PromiseScalesModel" "read" "[I") ∈ lw_all := lw_g (lw_at lw_m6 37 rfl) rfl
theorem q1305 : (Jvm.Cond.fieldLink "PromiseScalesModel" (31 : Nat) "PromiseScalesModel" "acts" "[I") ∈ lw_all := lw_g (lw_at lw_m6 38 rfl) rfl
theorem q1306 : (Jvm.Cond.fieldLink "PromiseScalesModel" (139 : Nat) "PromiseScalesModel" "actMany" "I") ∈ lw_all := lw_g (lw_at lw_m6 39 rfl) rfl
theorem q1307 : (Jvm.Cond.fieldLink "PromiseScalesModel" (34 : Nat) "PromiseScalesModel" "aside" "[I") ∈ lw_all := lw_g (lw_at lw_m6 40 rfl) rfl
theorem q1308 : (Jvm.Cond.fieldLink "PromiseScalesModel" (205 : Nat) "PromiseScalesModel" "keptMany" "I") ∈ lw_all := lw_g (lw_at lw_m6 41 rfl) rfl
theorem q1309 : (Jvm.Cond.fieldLink "PromiseScalesModel" (37 : Nat) "PromiseScalesModel" "isKept" "[Z") ∈ lw_all := lw_g (lw_at lw_m6 42 rfl) rfl
theorem q1310 : (Jvm.Cond.fieldLink "PromiseScalesModel" (41 : Nat) "PromiseScalesModel" "kept" "[I") ∈ lw_all := lw_g (lw_at lw_m6 43 rfl) rfl
theorem q1311 : (Jvm.Cond.fieldLink "PromiseScalesModel" (44 : Nat) "PromiseScalesModel" "trace" "[I") ∈ lw_all := lw_g (lw_at lw_m6 44 rfl) rfl
theorem q1312 : (Jvm.Cond.fieldLink "PromiseScalesModel" (227 : Nat) "PromiseScalesModel" "traced" "I") ∈ lw_all := lw_g (lw_at lw_m6 45 rfl) rfl
theorem q1313 : (Jvm.Cond.laysFinal "PromiseScalesModel" "PromiseScalesModel" "lanes" "[I") ∈ lw_all := lw_g (lw_at lw_m6 46 rfl) rfl
theorem q1314 : (Jvm.Cond.soleField "PromiseScalesModel" "lanes") ∈ lw_all := lw_g (lw_at lw_m6 47 rfl) rfl
theorem q1315 : (Jvm.Cond.laysFinal "PromiseScalesModel" "PromiseScalesModel" "sizes" "[I") ∈ lw_all := lw_g (lw_at lw_m6 48 rfl) rfl
theorem q1316 : (Jvm.Cond.soleField "PromiseScalesModel" "sizes") ∈ lw_all := lw_g (lw_at lw_m6 49 rfl) rfl
theorem q1317 : (Jvm.Cond.laysFinal "PromiseScalesModel" "PromiseScalesModel" "items" "[I") ∈ lw_all := lw_g (lw_at lw_m6 50 rfl) rfl
theorem q1318 : (Jvm.Cond.soleField "PromiseScalesModel" "items") ∈ lw_all := lw_g (lw_at lw_m6 51 rfl) rfl
theorem q1319 : (Jvm.Cond.lays "PromiseScalesModel" "PromiseScalesModel" "status" "I") ∈ lw_all := lw_g (lw_at lw_m6 52 rfl) rfl
theorem q1320 : (Jvm.Cond.soleField "PromiseScalesModel" "status") ∈ lw_all := lw_g (lw_at lw_m6 53 rfl) rfl
theorem q1321 : (Jvm.Cond.lays "PromiseScalesModel" "PromiseScalesModel" "isThere" "Z") ∈ lw_all := lw_g (lw_at lw_m6 54 rfl) rfl
theorem q1322 : (Jvm.Cond.soleField "PromiseScalesModel" "isThere") ∈ lw_all := lw_g (lw_at lw_m6 55 rfl) rfl
theorem q1323 : (Jvm.Cond.laysFinal "PromiseScalesModel" "PromiseScalesModel" "st" "[I") ∈ lw_all := lw_g (lw_at lw_m6 56 rfl) rfl
theorem q1324 : (Jvm.Cond.soleField "PromiseScalesModel" "st") ∈ lw_all := lw_g (lw_at lw_m6 57 rfl) rfl
theorem q1325 : (Jvm.Cond.laysFinal "PromiseScalesModel" "PromiseScalesModel" "moved" "[I") ∈ lw_all := lw_g (lw_at lw_m6 58 rfl) rfl
theorem q1326 : (Jvm.Cond.soleField "PromiseScalesModel" "moved") ∈ lw_all := lw_g (lw_at lw_m6 59 rfl) rfl
theorem q1327 : (Jvm.Cond.laysFinal "PromiseScalesModel" "PromiseScalesModel" "tape" "[I") ∈ lw_all := lw_g (lw_at lw_m6 60 rfl) rfl
theorem q1328 : (Jvm.Cond.soleField "PromiseScalesModel" "tape") ∈ lw_all := lw_g (lw_at lw_m6 61 rfl) rfl
theorem q1329 : (Jvm.Cond.lays "PromiseScalesModel" "PromiseScalesModel" "bytes" "I") ∈ lw_all := lw_g (lw_at lw_m6 62 rfl) rfl
theorem q1330 : (Jvm.Cond.soleField "PromiseScalesModel" "bytes") ∈ lw_all := lw_g (lw_at lw_m6 63 rfl) rfl
theorem q1331 : (Jvm.Cond.lays "PromiseScalesModel" "PromiseScalesModel" "latest" "I") ∈ lw_all := lw_g (lw_at lw_m6 64 rfl) rfl
theorem q1332 : (Jvm.Cond.soleField "PromiseScalesModel" "latest") ∈ lw_all := lw_g (lw_at lw_m6 65 rfl) rfl
theorem q1333 : (Jvm.Cond.lays "PromiseScalesModel" "PromiseScalesModel" "place" "I") ∈ lw_all := lw_g (lw_at lw_m6 66 rfl) rfl
theorem q1334 : (Jvm.Cond.soleField "PromiseScalesModel" "place") ∈ lw_all := lw_g (lw_at lw_m6 67 rfl) rfl
theorem q1335 : (Jvm.Cond.lays "PromiseScalesModel" "PromiseScalesModel" "token" "I") ∈ lw_all := lw_g (lw_at lw_m6 68 rfl) rfl
theorem q1336 : (Jvm.Cond.soleField "PromiseScalesModel" "token") ∈ lw_all := lw_g (lw_at lw_m6 69 rfl) rfl
theorem q1337 : (Jvm.Cond.lays "PromiseScalesModel" "PromiseScalesModel" "value" "I") ∈ lw_all := lw_g (lw_at lw_m6 70 rfl) rfl
theorem q1338 : (Jvm.Cond.soleField "PromiseScalesModel" "value") ∈ lw_all := lw_g (lw_at lw_m6 71 rfl) rfl
theorem q1339 : (Jvm.Cond.lays "PromiseScalesModel" "PromiseScalesModel" "begins" "I") ∈ lw_all := lw_g (lw_at lw_m6 72 rfl) rfl
theorem q1340 : (Jvm.Cond.soleField "PromiseScalesModel" "begins") ∈ lw_all := lw_g (lw_at lw_m6 73 rfl) rfl
theorem q1341 : (Jvm.Cond.lays "PromiseScalesModel" "PromiseScalesModel" "wrong" "I") ∈ lw_all := lw_g (lw_at lw_m6 74 rfl) rfl
theorem q1342 : (Jvm.Cond.soleField "PromiseScalesModel" "wrong") ∈ lw_all := lw_g (lw_at lw_m6 75 rfl) rfl
theorem q1343 : (Jvm.Cond.laysFinal "PromiseScalesModel" "PromiseScalesModel" "read" "[I") ∈ lw_all := lw_g (lw_at lw_m6 76 rfl) rfl
theorem q1344 : (Jvm.Cond.soleField "PromiseScalesModel" "read") ∈ lw_all := lw_g (lw_at lw_m6 77 rfl) rfl
theorem q1345 : (Jvm.Cond.laysFinal "PromiseScalesModel" "PromiseScalesModel" "acts" "[I") ∈ lw_all := lw_g (lw_at lw_m6 78 rfl) rfl
theorem q1346 : (Jvm.Cond.soleField "PromiseScalesModel" "acts") ∈ lw_all := lw_g (lw_at lw_m6 79 rfl) rfl
theorem q1347 : (Jvm.Cond.lays "PromiseScalesModel" "PromiseScalesModel" "actMany" "I") ∈ lw_all := lw_g (lw_at lw_m6 80 rfl) rfl
theorem q1348 : (Jvm.Cond.soleField "PromiseScalesModel" "actMany") ∈ lw_all := lw_g (lw_at lw_m6 81 rfl) rfl
theorem q1349 : (Jvm.Cond.laysFinal "PromiseScalesModel" "PromiseScalesModel" "aside" "[I") ∈ lw_all := lw_g (lw_at lw_m6 82 rfl) rfl
theorem q1350 : (Jvm.Cond.soleField "PromiseScalesModel" "aside") ∈ lw_all := lw_g (lw_at lw_m6 83 rfl) rfl
theorem q1351 : (Jvm.Cond.lays "PromiseScalesModel" "PromiseScalesModel" "keptMany" "I") ∈ lw_all := lw_g (lw_at lw_m6 84 rfl) rfl
theorem q1352 : (Jvm.Cond.soleField "PromiseScalesModel" "keptMany") ∈ lw_all := lw_g (lw_at lw_m6 85 rfl) rfl
theorem q1353 : (Jvm.Cond.laysFinal "PromiseScalesModel" "PromiseScalesModel" "isKept" "[Z") ∈ lw_all := lw_g (lw_at lw_m6 86 rfl) rfl
theorem q1354 : (Jvm.Cond.soleField "PromiseScalesModel" "isKept") ∈ lw_all := lw_g (lw_at lw_m6 87 rfl) rfl
theorem q1355 : (Jvm.Cond.laysFinal "PromiseScalesModel" "PromiseScalesModel" "kept" "[I") ∈ lw_all := lw_g (lw_at lw_m6 88 rfl) rfl
theorem q1356 : (Jvm.Cond.soleField "PromiseScalesModel" "kept") ∈ lw_all := lw_g (lw_at lw_m6 89 rfl) rfl
theorem q1357 : (Jvm.Cond.laysFinal "PromiseScalesModel" "PromiseScalesModel" "trace" "[I") ∈ lw_all := lw_g (lw_at lw_m6 90 rfl) rfl
theorem q1358 : (Jvm.Cond.soleField "PromiseScalesModel" "trace") ∈ lw_all := lw_g (lw_at lw_m6 91 rfl) rfl
theorem q1359 : (Jvm.Cond.lays "PromiseScalesModel" "PromiseScalesModel" "traced" "I") ∈ lw_all := lw_g (lw_at lw_m6 92 rfl) rfl
theorem q1360 : (Jvm.Cond.soleField "PromiseScalesModel" "traced") ∈ lw_all := lw_g (lw_at lw_m6 93 rfl) rfl
theorem q1361 : (Jvm.Cond.superclass "PromiseScalesModel" "java/lang/Object") ∈ lw_all := lw_g (lw_at lw_m6 94 rfl) rfl
theorem q1364 : (Jvm.Cond.instanceMethod ({ cls := "PromiseScalesModel", name := "row", desc := "(III)I" } : Jvm.MethodName)) ∈ lw_all := lw_g (lw_at lw_m6 97 rfl) rfl
theorem q1365 : (Jvm.Cond.selects "PromiseScalesModel" ({ cls := "PromiseScalesModel", name := "row", desc := "(III)I" } : Jvm.MethodName) ({ cls := "PromiseScalesModel", name := "row", desc := "(III)I" } : Jvm.MethodName)) ∈ lw_all := lw_g (lw_at lw_m6 98 rfl) rfl
theorem q1366 : (Jvm.Cond.code ({ cls := "PromiseScalesModel", name := "row", desc := "(III)I" } : Jvm.MethodName) prog_17_method_8_code (5 : Nat) (Option.some Jvm.ClassFile.FieldType.int)) ∈ lw_all := lw_g (lw_at lw_m6 99 rfl) rfl
theorem q1367 : (Jvm.Cond.methodLink "PromiseScalesModel" (58 : Nat) ({ cls := "PromiseScalesModel", name := "isRow", desc := "(I)Z" } : Jvm.MethodName)) ∈ lw_all := lw_g (lw_at lw_m6 100 rfl) rfl
theorem q1368 : (Jvm.Cond.static ({ cls := "PromiseScalesModel", name := "isRow", desc := "(I)Z" } : Jvm.MethodName)) ∈ lw_all := lw_g (lw_at lw_m6 101 rfl) rfl
theorem q1369 : (Jvm.Cond.code ({ cls := "PromiseScalesModel", name := "isRow", desc := "(I)Z" } : Jvm.MethodName) prog_17_method_7_code (1 : Nat) (Option.some Jvm.ClassFile.FieldType.boolean)) ∈ lw_all := lw_g (lw_at lw_m6 102 rfl) rfl
theorem q1370 : (Jvm.Cond.constantLong "PromiseScalesModel" (52 : Nat) (7 : Int64)) ∈ lw_all := lw_g (lw_at lw_m6 103 rfl) rfl
theorem q1371 : (Jvm.Cond.methodLink "PromiseScalesModel" (54 : Nat) ({ cls := "PromiseScalesModel", name := "in", desc := "(JJJ)Z" } : Jvm.MethodName)) ∈ lw_all := lw_g (lw_at lw_m6 104 rfl) rfl
theorem q1372 : (Jvm.Cond.static ({ cls := "PromiseScalesModel", name := "in", desc := "(JJJ)Z" } : Jvm.MethodName)) ∈ lw_all := lw_g (lw_at lw_m6 105 rfl) rfl
theorem q1373 : (Jvm.Cond.code ({ cls := "PromiseScalesModel", name := "in", desc := "(JJJ)Z" } : Jvm.MethodName) prog_17_method_2_code (6 : Nat) (Option.some Jvm.ClassFile.FieldType.boolean)) ∈ lw_all := lw_g (lw_at lw_m6 106 rfl) rfl
theorem q1374 : (Jvm.Cond.constantLong "PromiseScalesModel" (62 : Nat) (2 : Int64)) ∈ lw_all := lw_g (lw_at lw_m6 107 rfl) rfl
theorem q1375 : (Jvm.Cond.constant "PromiseScalesModel" (64 : Nat) (-1000001 : Int32)) ∈ lw_all := lw_g (lw_at lw_m6 108 rfl) rfl
theorem q1376 : (Jvm.Cond.methodLink "PromiseScalesModel" (65 : Nat) ({ cls := "PromiseScalesModel", name := "find", desc := "(I)I" } : Jvm.MethodName)) ∈ lw_all := lw_g (lw_at lw_m6 109 rfl) rfl
theorem q1377 : (Jvm.Cond.privateMethod ({ cls := "PromiseScalesModel", name := "find", desc := "(I)I" } : Jvm.MethodName)) ∈ lw_tbl := lw_at lw_m6 110 rfl
theorem q1378 : (Jvm.Cond.instanceMethod ({ cls := "PromiseScalesModel", name := "find", desc := "(I)I" } : Jvm.MethodName)) ∈ lw_all := lw_g (lw_at lw_m6 111 rfl) rfl
theorem q1379 : (Jvm.Cond.code ({ cls := "PromiseScalesModel", name := "find", desc := "(I)I" } : Jvm.MethodName) prog_17_method_5_code (2 : Nat) (Option.some Jvm.ClassFile.FieldType.int)) ∈ lw_all := lw_g (lw_at lw_m6 112 rfl) rfl
theorem q1380 : (Jvm.Cond.constant "PromiseScalesModel" (51 : Nat) (-1000010 : Int32)) ∈ lw_all := lw_g (lw_at lw_m6 113 rfl) rfl
theorem q1381 : (Jvm.Cond.methodLink "PromiseScalesModel" (69 : Nat) ({ cls := "PromiseScalesModel", name := "well", desc := "(I)I" } : Jvm.MethodName)) ∈ lw_all := lw_g (lw_at lw_m6 114 rfl) rfl
theorem q1382 : (Jvm.Cond.privateMethod ({ cls := "PromiseScalesModel", name := "well", desc := "(I)I" } : Jvm.MethodName)) ∈ lw_tbl := lw_at lw_m6 115 rfl
theorem q1383 : (Jvm.Cond.instanceMethod ({ cls := "PromiseScalesModel", name := "well", desc := "(I)I" } : Jvm.MethodName)) ∈ lw_all := lw_g (lw_at lw_m6 116 rfl) rfl
theorem q1384 : (Jvm.Cond.code ({ cls := "PromiseScalesModel", name := "well", desc := "(I)I" } : Jvm.MethodName) prog_17_method_6_code (2 : Nat) (Option.some Jvm.ClassFile.FieldType.int)) ∈ lw_all := lw_g (lw_at lw_m6 117 rfl) rfl
theorem q1386 : (Jvm.Cond.instanceMethod ({ cls := "PromiseScalesModel", name := "set", desc := "(III)I" } : Jvm.MethodName)) ∈ lw_all := lw_g (lw_at lw_m6 119 rfl) rfl
theorem q1387 : (Jvm.Cond.selects "PromiseScalesModel" ({ cls := "PromiseScalesModel", name := "set", desc := "(III)I" } : Jvm.MethodName) ({ cls := "PromiseScalesModel", name := "set", desc := "(III)I" } : Jvm.MethodName)) ∈ lw_all := lw_g (lw_at lw_m6 120 rfl) rfl
theorem q1388 : (Jvm.Cond.code ({ cls := "PromiseScalesModel", name := "set", desc := "(III)I" } : Jvm.MethodName) prog_17_method_10_code (4 : Nat) (Option.some Jvm.ClassFile.FieldType.int)) ∈ lw_all := lw_g (lw_at lw_m6 121 rfl) rfl
theorem q1389 : (Jvm.Cond.methodLink "PromiseScalesModel" (72 : Nat) ({ cls := "PromiseScalesModel", name := "asLane", desc := "(II)I" } : Jvm.MethodName)) ∈ lw_all := lw_g (lw_at lw_m6 122 rfl) rfl
theorem q1390 : (Jvm.Cond.static ({ cls := "PromiseScalesModel", name := "asLane", desc := "(II)I" } : Jvm.MethodName)) ∈ lw_all := lw_g (lw_at lw_m6 123 rfl) rfl
theorem q1391 : (Jvm.Cond.code ({ cls := "PromiseScalesModel", name := "asLane", desc := "(II)I" } : Jvm.MethodName) prog_17_method_9_code (2 : Nat) (Option.some Jvm.ClassFile.FieldType.int)) ∈ lw_all := lw_g (lw_at lw_m6 124 rfl) rfl
theorem q1393 : (Jvm.Cond.instanceMethod ({ cls := "PromiseScalesModel", name := "copy", desc := "(IIIII)I" } : Jvm.MethodName)) ∈ lw_all := lw_g (lw_at lw_m6 126 rfl) rfl
theorem q1394 : (Jvm.Cond.selects "PromiseScalesModel" ({ cls := "PromiseScalesModel", name := "copy", desc := "(IIIII)I" } : Jvm.MethodName) ({ cls := "PromiseScalesModel", name := "copy", desc := "(IIIII)I" } : Jvm.MethodName)) ∈ lw_all := lw_g (lw_at lw_m6 127 rfl) rfl
theorem q1395 : (Jvm.Cond.code ({ cls := "PromiseScalesModel", name := "copy", desc := "(IIIII)I" } : Jvm.MethodName) prog_17_method_11_code (7 : Nat) (Option.some Jvm.ClassFile.FieldType.int)) ∈ lw_all := lw_g (lw_at lw_m6 128 rfl) rfl
theorem q1397 : (Jvm.Cond.instanceMethod ({ cls := "PromiseScalesModel", name := "drop", desc := "(I)I" } : Jvm.MethodName)) ∈ lw_all := lw_g (lw_at lw_m6 130 rfl) rfl
theorem q1398 : (Jvm.Cond.selects "PromiseScalesModel" ({ cls := "PromiseScalesModel", name := "drop", desc := "(I)I" } : Jvm.MethodName) ({ cls := "PromiseScalesModel", name := "drop", desc := "(I)I" } : Jvm.MethodName)) ∈ lw_all := lw_g (lw_at lw_m6 131 rfl) rfl
theorem q1399 : (Jvm.Cond.code ({ cls := "PromiseScalesModel", name := "drop", desc := "(I)I" } : Jvm.MethodName) prog_17_method_12_code (3 : Nat) (Option.some Jvm.ClassFile.FieldType.int)) ∈ lw_all := lw_g (lw_at lw_m6 132 rfl) rfl
theorem q1401 : (Jvm.Cond.instanceMethod ({ cls := "PromiseScalesModel", name := "feed", desc := "(I)I" } : Jvm.MethodName)) ∈ lw_all := lw_g (lw_at lw_m6 134 rfl) rfl
theorem q1402 : (Jvm.Cond.selects "PromiseScalesModel" ({ cls := "PromiseScalesModel", name := "feed", desc := "(I)I" } : Jvm.MethodName) ({ cls := "PromiseScalesModel", name := "feed", desc := "(I)I" } : Jvm.MethodName)) ∈ lw_all := lw_g (lw_at lw_m6 135 rfl) rfl
theorem q1403 : (Jvm.Cond.code ({ cls := "PromiseScalesModel", name := "feed", desc := "(I)I" } : Jvm.MethodName) prog_17_method_13_code (2 : Nat) (Option.some Jvm.ClassFile.FieldType.int)) ∈ lw_all := lw_g (lw_at lw_m6 136 rfl) rfl
theorem q1404 : (Jvm.Cond.constantLong "PromiseScalesModel" (76 : Nat) (255 : Int64)) ∈ lw_all := lw_g (lw_at lw_m6 137 rfl) rfl
theorem q1405 : (Jvm.Cond.constant "PromiseScalesModel" (81 : Nat) (-1000003 : Int32)) ∈ lw_all := lw_g (lw_at lw_m6 138 rfl) rfl
theorem q1407 : (Jvm.Cond.instanceMethod ({ cls := "PromiseScalesModel", name := "scales", desc := "()I" } : Jvm.MethodName)) ∈ lw_all := lw_g (lw_at lw_m6 140 rfl) rfl
theorem q1408 : (Jvm.Cond.selects "PromiseScalesModel" ({ cls := "PromiseScalesModel", name := "scales", desc := "()I" } : Jvm.MethodName) ({ cls := "PromiseScalesModel", name := "scales", desc := "()I" } : Jvm.MethodName)) ∈ lw_all := lw_g (lw_at lw_m6 141 rfl) rfl
theorem q1409 : (Jvm.Cond.code ({ cls := "PromiseScalesModel", name := "scales", desc := "()I" } : Jvm.MethodName) prog_17_method_22_code (3 : Nat) (Option.some Jvm.ClassFile.FieldType.int)) ∈ lw_all := lw_g (lw_at lw_m6 142 rfl) rfl
theorem q1410 : (Jvm.Cond.methodLink "PromiseScalesModel" (128 : Nat) ({ cls := "PromiseScalesModel", name := "readScales", desc := "()Z" } : Jvm.MethodName)) ∈ lw_all := lw_g (lw_at lw_m6 143 rfl) rfl
theorem q1411 : (Jvm.Cond.privateMethod ({ cls := "PromiseScalesModel", name := "readScales", desc := "()Z" } : Jvm.MethodName)) ∈ lw_tbl := lw_at lw_m6 144 rfl
theorem q1412 : (Jvm.Cond.instanceMethod ({ cls := "PromiseScalesModel", name := "readScales", desc := "()Z" } : Jvm.MethodName)) ∈ lw_all := lw_g (lw_at lw_m6 145 rfl) rfl
theorem q1413 : (Jvm.Cond.code ({ cls := "PromiseScalesModel", name := "readScales", desc := "()Z" } : Jvm.MethodName) prog_17_method_21_code (3 : Nat) (Option.some Jvm.ClassFile.FieldType.boolean)) ∈ lw_all := lw_g (lw_at lw_m6 146 rfl) rfl
theorem q1414 : (Jvm.Cond.methodLink "PromiseScalesModel" (111 : Nat) ({ cls := "PromiseScalesModel", name := "nextToken", desc := "()V" } : Jvm.MethodName)) ∈ lw_all := lw_g (lw_at lw_m6 147 rfl) rfl
theorem q1415 : (Jvm.Cond.privateMethod ({ cls := "PromiseScalesModel", name := "nextToken", desc := "()V" } : Jvm.MethodName)) ∈ lw_tbl := lw_at lw_m6 148 rfl
theorem q1416 : (Jvm.Cond.instanceMethod ({ cls := "PromiseScalesModel", name := "nextToken", desc := "()V" } : Jvm.MethodName)) ∈ lw_all := lw_g (lw_at lw_m6 149 rfl) rfl
theorem q1417 : (Jvm.Cond.code ({ cls := "PromiseScalesModel", name := "nextToken", desc := "()V" } : Jvm.MethodName) prog_17_method_14_code (1 : Nat) (Option.none : Option Jvm.ClassFile.FieldType)) ∈ lw_all := lw_g (lw_at lw_m6 150 rfl) rfl
theorem q1418 : (Jvm.Cond.constantLong "PromiseScalesModel" (94 : Nat) (48 : Int64)) ∈ lw_all := lw_g (lw_at lw_m6 151 rfl) rfl
theorem q1419 : (Jvm.Cond.constantLong "PromiseScalesModel" (96 : Nat) (57 : Int64)) ∈ lw_all := lw_g (lw_at lw_m6 152 rfl) rfl
theorem q1420 : (Jvm.Cond.constantLong "PromiseScalesModel" (98 : Nat) (97 : Int64)) ∈ lw_all := lw_g (lw_at lw_m6 153 rfl) rfl
theorem q1421 : (Jvm.Cond.constantLong "PromiseScalesModel" (100 : Nat) (122 : Int64)) ∈ lw_all := lw_g (lw_at lw_m6 154 rfl) rfl
theorem q1422 : (Jvm.Cond.methodLink "PromiseScalesModel" (114 : Nat) ({ cls := "PromiseScalesModel", name := "takes", desc := "(I)Z" } : Jvm.MethodName)) ∈ lw_all := lw_g (lw_at lw_m6 155 rfl) rfl
theorem q1423 : (Jvm.Cond.privateMethod ({ cls := "PromiseScalesModel", name := "takes", desc := "(I)Z" } : Jvm.MethodName)) ∈ lw_tbl := lw_at lw_m6 156 rfl
theorem q1424 : (Jvm.Cond.instanceMethod ({ cls := "PromiseScalesModel", name := "takes", desc := "(I)Z" } : Jvm.MethodName)) ∈ lw_all := lw_g (lw_at lw_m6 157 rfl) rfl
theorem q1425 : (Jvm.Cond.code ({ cls := "PromiseScalesModel", name := "takes", desc := "(I)Z" } : Jvm.MethodName) prog_17_method_17_code (2 : Nat) (Option.some Jvm.ClassFile.FieldType.boolean)) ∈ lw_all := lw_g (lw_at lw_m6 158 rfl) rfl
theorem q1426 : (Jvm.Cond.methodLink "PromiseScalesModel" (105 : Nat) ({ cls := "PromiseScalesModel", name := "isLetter", desc := "(I)Z" } : Jvm.MethodName)) ∈ lw_all := lw_g (lw_at lw_m6 159 rfl) rfl
theorem q1427 : (Jvm.Cond.privateMethod ({ cls := "PromiseScalesModel", name := "isLetter", desc := "(I)Z" } : Jvm.MethodName)) ∈ lw_tbl := lw_at lw_m6 160 rfl
theorem q1428 : (Jvm.Cond.instanceMethod ({ cls := "PromiseScalesModel", name := "isLetter", desc := "(I)Z" } : Jvm.MethodName)) ∈ lw_all := lw_g (lw_at lw_m6 161 rfl) rfl
theorem q1429 : (Jvm.Cond.code ({ cls := "PromiseScalesModel", name := "isLetter", desc := "(I)Z" } : Jvm.MethodName) prog_17_method_16_code (2 : Nat) (Option.some Jvm.ClassFile.FieldType.boolean)) ∈ lw_all := lw_g (lw_at lw_m6 162 rfl) rfl
theorem q1430 : (Jvm.Cond.methodLink "PromiseScalesModel" (108 : Nat) ({ cls := "PromiseScalesModel", name := "faults", desc := "(I)Z" } : Jvm.MethodName)) ∈ lw_all := lw_g (lw_at lw_m6 163 rfl) rfl
theorem q1431 : (Jvm.Cond.privateMethod ({ cls := "PromiseScalesModel", name := "faults", desc := "(I)Z" } : Jvm.MethodName)) ∈ lw_tbl := lw_at lw_m6 164 rfl
theorem q1432 : (Jvm.Cond.instanceMethod ({ cls := "PromiseScalesModel", name := "faults", desc := "(I)Z" } : Jvm.MethodName)) ∈ lw_all := lw_g (lw_at lw_m6 165 rfl) rfl
theorem q1433 : (Jvm.Cond.code ({ cls := "PromiseScalesModel", name := "faults", desc := "(I)Z" } : Jvm.MethodName) prog_17_method_15_code (2 : Nat) (Option.some Jvm.ClassFile.FieldType.boolean)) ∈ lw_all := lw_g (lw_at lw_m6 166 rfl) rfl
theorem q1434 : (Jvm.Cond.methodLink "PromiseScalesModel" (117 : Nat) ({ cls := "PromiseScalesModel", name := "takesNumber", desc := "(IIII)Z" } : Jvm.MethodName)) ∈ lw_all := lw_g (lw_at lw_m6 167 rfl) rfl
theorem q1435 : (Jvm.Cond.privateMethod ({ cls := "PromiseScalesModel", name := "takesNumber", desc := "(IIII)Z" } : Jvm.MethodName)) ∈ lw_tbl := lw_at lw_m6 168 rfl
theorem q1436 : (Jvm.Cond.instanceMethod ({ cls := "PromiseScalesModel", name := "takesNumber", desc := "(IIII)Z" } : Jvm.MethodName)) ∈ lw_all := lw_g (lw_at lw_m6 169 rfl) rfl
theorem q1437 : (Jvm.Cond.code ({ cls := "PromiseScalesModel", name := "takesNumber", desc := "(IIII)Z" } : Jvm.MethodName) prog_17_method_18_code (5 : Nat) (Option.some Jvm.ClassFile.FieldType.boolean)) ∈ lw_all := lw_g (lw_at lw_m6 170 rfl) rfl
theorem q1438 : (Jvm.Cond.methodLink "PromiseScalesModel" (121 : Nat) ({ cls := "PromiseScalesModel", name := "readPromise", desc := "(I)Z" } : Jvm.MethodName)) ∈ lw_all := lw_g (lw_at lw_m6 171 rfl) rfl
theorem q1439 : (Jvm.Cond.privateMethod ({ cls := "PromiseScalesModel", name := "readPromise", desc := "(I)Z" } : Jvm.MethodName)) ∈ lw_tbl := lw_at lw_m6 172 rfl
theorem q1440 : (Jvm.Cond.instanceMethod ({ cls := "PromiseScalesModel", name := "readPromise", desc := "(I)Z" } : Jvm.MethodName)) ∈ lw_all := lw_g (lw_at lw_m6 173 rfl) rfl
theorem q1441 : (Jvm.Cond.code ({ cls := "PromiseScalesModel", name := "readPromise", desc := "(I)Z" } : Jvm.MethodName) prog_17_method_20_code (3 : Nat) (Option.some Jvm.ClassFile.FieldType.boolean)) ∈ lw_all := lw_g (lw_at lw_m6 174 rfl) rfl
theorem q1442 : (Jvm.Cond.methodLink "PromiseScalesModel" (124 : Nat) ({ cls := "PromiseScalesModel", name := "readGiver", desc := "()Z" } : Jvm.MethodName)) ∈ lw_all := lw_g (lw_at lw_m6 175 rfl) rfl
theorem q1443 : (Jvm.Cond.privateMethod ({ cls := "PromiseScalesModel", name := "readGiver", desc := "()Z" } : Jvm.MethodName)) ∈ lw_tbl := lw_at lw_m6 176 rfl
theorem q1444 : (Jvm.Cond.instanceMethod ({ cls := "PromiseScalesModel", name := "readGiver", desc := "()Z" } : Jvm.MethodName)) ∈ lw_all := lw_g (lw_at lw_m6 177 rfl) rfl
theorem q1445 : (Jvm.Cond.code ({ cls := "PromiseScalesModel", name := "readGiver", desc := "()Z" } : Jvm.MethodName) prog_17_method_19_code (1 : Nat) (Option.some Jvm.ClassFile.FieldType.boolean)) ∈ lw_all := lw_g (lw_at lw_m6 178 rfl) rfl
theorem q1446 : (Jvm.Cond.constant "PromiseScalesModel" (134 : Nat) (-1000100 : Int32)) ∈ lw_all := lw_g (lw_at lw_m6 179 rfl) rfl
theorem q1448 : (Jvm.Cond.instanceMethod ({ cls := "PromiseScalesModel", name := "fault", desc := "()I" } : Jvm.MethodName)) ∈ lw_all := lw_g (lw_at lw_m6 181 rfl) rfl
theorem q1449 : (Jvm.Cond.selects "PromiseScalesModel" ({ cls := "PromiseScalesModel", name := "fault", desc := "()I" } : Jvm.MethodName) ({ cls := "PromiseScalesModel", name := "fault", desc := "()I" } : Jvm.MethodName)) ∈ lw_all := lw_g (lw_at lw_m6 182 rfl) rfl
theorem q1450 : (Jvm.Cond.code ({ cls := "PromiseScalesModel", name := "fault", desc := "()I" } : Jvm.MethodName) prog_17_method_23_code (1 : Nat) (Option.some Jvm.ClassFile.FieldType.int)) ∈ lw_all := lw_g (lw_at lw_m6 183 rfl) rfl
theorem q1452 : (Jvm.Cond.instanceMethod ({ cls := "PromiseScalesModel", name := "lay", desc := "(II)I" } : Jvm.MethodName)) ∈ lw_all := lw_g (lw_at lw_m6 185 rfl) rfl
theorem q1453 : (Jvm.Cond.selects "PromiseScalesModel" ({ cls := "PromiseScalesModel", name := "lay", desc := "(II)I" } : Jvm.MethodName) ({ cls := "PromiseScalesModel", name := "lay", desc := "(II)I" } : Jvm.MethodName)) ∈ lw_all := lw_g (lw_at lw_m6 186 rfl) rfl
theorem q1454 : (Jvm.Cond.code ({ cls := "PromiseScalesModel", name := "lay", desc := "(II)I" } : Jvm.MethodName) prog_17_method_33_code (3 : Nat) (Option.some Jvm.ClassFile.FieldType.int)) ∈ lw_all := lw_g (lw_at lw_m6 187 rfl) rfl
theorem q1455 : (Jvm.Cond.methodLink "PromiseScalesModel" (165 : Nat) ({ cls := "PromiseScalesModel", name := "isPromise", desc := "(I)Z" } : Jvm.MethodName)) ∈ lw_all := lw_g (lw_at lw_m6 188 rfl) rfl
theorem q1456 : (Jvm.Cond.privateMethod ({ cls := "PromiseScalesModel", name := "isPromise", desc := "(I)Z" } : Jvm.MethodName)) ∈ lw_tbl := lw_at lw_m6 189 rfl
theorem q1457 : (Jvm.Cond.instanceMethod ({ cls := "PromiseScalesModel", name := "isPromise", desc := "(I)Z" } : Jvm.MethodName)) ∈ lw_all := lw_g (lw_at lw_m6 190 rfl) rfl
theorem q1458 : (Jvm.Cond.code ({ cls := "PromiseScalesModel", name := "isPromise", desc := "(I)Z" } : Jvm.MethodName) prog_17_method_24_code (2 : Nat) (Option.some Jvm.ClassFile.FieldType.boolean)) ∈ lw_all := lw_g (lw_at lw_m6 191 rfl) rfl
theorem q1459 : (Jvm.Cond.methodLink "PromiseScalesModel" (145 : Nat) ({ cls := "PromiseScalesModel", name := "isOpen", desc := "(I)Z" } : Jvm.MethodName)) ∈ lw_all := lw_g (lw_at lw_m6 192 rfl) rfl
theorem q1460 : (Jvm.Cond.privateMethod ({ cls := "PromiseScalesModel", name := "isOpen", desc := "(I)Z" } : Jvm.MethodName)) ∈ lw_tbl := lw_at lw_m6 193 rfl
theorem q1461 : (Jvm.Cond.instanceMethod ({ cls := "PromiseScalesModel", name := "isOpen", desc := "(I)Z" } : Jvm.MethodName)) ∈ lw_all := lw_g (lw_at lw_m6 194 rfl) rfl
theorem q1462 : (Jvm.Cond.code ({ cls := "PromiseScalesModel", name := "isOpen", desc := "(I)Z" } : Jvm.MethodName) prog_17_method_25_code (2 : Nat) (Option.some Jvm.ClassFile.FieldType.boolean)) ∈ lw_all := lw_g (lw_at lw_m6 195 rfl) rfl
theorem q1463 : (Jvm.Cond.constant "PromiseScalesModel" (168 : Nat) (-1000002 : Int32)) ∈ lw_all := lw_g (lw_at lw_m6 196 rfl) rfl
theorem q1464 : (Jvm.Cond.methodLink "PromiseScalesModel" (169 : Nat) ({ cls := "PromiseScalesModel", name := "note", desc := "()V" } : Jvm.MethodName)) ∈ lw_all := lw_g (lw_at lw_m6 197 rfl) rfl
theorem q1465 : (Jvm.Cond.privateMethod ({ cls := "PromiseScalesModel", name := "note", desc := "()V" } : Jvm.MethodName)) ∈ lw_tbl := lw_at lw_m6 198 rfl
theorem q1466 : (Jvm.Cond.instanceMethod ({ cls := "PromiseScalesModel", name := "note", desc := "()V" } : Jvm.MethodName)) ∈ lw_all := lw_g (lw_at lw_m6 199 rfl) rfl
theorem q1467 : (Jvm.Cond.code ({ cls := "PromiseScalesModel", name := "note", desc := "()V" } : Jvm.MethodName) prog_17_method_32_code (2 : Nat) (Option.none : Option Jvm.ClassFile.FieldType)) ∈ lw_all := lw_g (lw_at lw_m6 200 rfl) rfl
theorem q1468 : (Jvm.Cond.methodLink "PromiseScalesModel" (172 : Nat) ({ cls := "PromiseScalesModel", name := "readOf", desc := "(I)I" } : Jvm.MethodName)) ∈ lw_all := lw_g (lw_at lw_m6 201 rfl) rfl
theorem q1469 : (Jvm.Cond.privateMethod ({ cls := "PromiseScalesModel", name := "readOf", desc := "(I)I" } : Jvm.MethodName)) ∈ lw_tbl := lw_at lw_m6 202 rfl
theorem q1470 : (Jvm.Cond.instanceMethod ({ cls := "PromiseScalesModel", name := "readOf", desc := "(I)I" } : Jvm.MethodName)) ∈ lw_all := lw_g (lw_at lw_m6 203 rfl) rfl
theorem q1471 : (Jvm.Cond.code ({ cls := "PromiseScalesModel", name := "readOf", desc := "(I)I" } : Jvm.MethodName) prog_17_method_31_code (2 : Nat) (Option.some Jvm.ClassFile.FieldType.int)) ∈ lw_all := lw_g (lw_at lw_m6 204 rfl) rfl
theorem q1472 : (Jvm.Cond.methodLink "PromiseScalesModel" (159 : Nat) ({ cls := "PromiseScalesModel", name := "sumOf", desc := "(I)I" } : Jvm.MethodName)) ∈ lw_all := lw_g (lw_at lw_m6 205 rfl) rfl
theorem q1473 : (Jvm.Cond.privateMethod ({ cls := "PromiseScalesModel", name := "sumOf", desc := "(I)I" } : Jvm.MethodName)) ∈ lw_tbl := lw_at lw_m6 206 rfl
theorem q1474 : (Jvm.Cond.instanceMethod ({ cls := "PromiseScalesModel", name := "sumOf", desc := "(I)I" } : Jvm.MethodName)) ∈ lw_all := lw_g (lw_at lw_m6 207 rfl) rfl
theorem q1475 : (Jvm.Cond.code ({ cls := "PromiseScalesModel", name := "sumOf", desc := "(I)I" } : Jvm.MethodName) prog_17_method_29_code (4 : Nat) (Option.some Jvm.ClassFile.FieldType.int)) ∈ lw_all := lw_g (lw_at lw_m6 208 rfl) rfl
theorem q1476 : (Jvm.Cond.methodLink "PromiseScalesModel" (152 : Nat) ({ cls := "PromiseScalesModel", name := "has", desc := "(II)Z" } : Jvm.MethodName)) ∈ lw_all := lw_g (lw_at lw_m6 209 rfl) rfl
theorem q1477 : (Jvm.Cond.static ({ cls := "PromiseScalesModel", name := "has", desc := "(II)Z" } : Jvm.MethodName)) ∈ lw_all := lw_g (lw_at lw_m6 210 rfl) rfl
theorem q1478 : (Jvm.Cond.code ({ cls := "PromiseScalesModel", name := "has", desc := "(II)Z" } : Jvm.MethodName) prog_17_method_3_code (2 : Nat) (Option.some Jvm.ClassFile.FieldType.boolean)) ∈ lw_all := lw_g (lw_at lw_m6 211 rfl) rfl
theorem q1479 : (Jvm.Cond.methodLink "PromiseScalesModel" (156 : Nat) ({ cls := "PromiseScalesModel", name := "weightOf", desc := "(I)I" } : Jvm.MethodName)) ∈ lw_all := lw_g (lw_at lw_m6 212 rfl) rfl
theorem q1480 : (Jvm.Cond.privateMethod ({ cls := "PromiseScalesModel", name := "weightOf", desc := "(I)I" } : Jvm.MethodName)) ∈ lw_tbl := lw_at lw_m6 213 rfl
theorem q1481 : (Jvm.Cond.instanceMethod ({ cls := "PromiseScalesModel", name := "weightOf", desc := "(I)I" } : Jvm.MethodName)) ∈ lw_all := lw_g (lw_at lw_m6 214 rfl) rfl
theorem q1482 : (Jvm.Cond.code ({ cls := "PromiseScalesModel", name := "weightOf", desc := "(I)I" } : Jvm.MethodName) prog_17_method_28_code (4 : Nat) (Option.some Jvm.ClassFile.FieldType.int)) ∈ lw_all := lw_g (lw_at lw_m6 215 rfl) rfl
theorem q1483 : (Jvm.Cond.methodLink "PromiseScalesModel" (148 : Nat) ({ cls := "PromiseScalesModel", name := "weightAs", desc := "(III)I" } : Jvm.MethodName)) ∈ lw_all := lw_g (lw_at lw_m6 216 rfl) rfl
theorem q1484 : (Jvm.Cond.privateMethod ({ cls := "PromiseScalesModel", name := "weightAs", desc := "(III)I" } : Jvm.MethodName)) ∈ lw_tbl := lw_at lw_m6 217 rfl
theorem q1485 : (Jvm.Cond.instanceMethod ({ cls := "PromiseScalesModel", name := "weightAs", desc := "(III)I" } : Jvm.MethodName)) ∈ lw_all := lw_g (lw_at lw_m6 218 rfl) rfl
theorem q1486 : (Jvm.Cond.code ({ cls := "PromiseScalesModel", name := "weightAs", desc := "(III)I" } : Jvm.MethodName) prog_17_method_27_code (5 : Nat) (Option.some Jvm.ClassFile.FieldType.int)) ∈ lw_all := lw_g (lw_at lw_m6 219 rfl) rfl
theorem q1487 : (Jvm.Cond.methodLink "PromiseScalesModel" (142 : Nat) ({ cls := "PromiseScalesModel", name := "plainOf", desc := "(I)I" } : Jvm.MethodName)) ∈ lw_all := lw_g (lw_at lw_m6 220 rfl) rfl
theorem q1488 : (Jvm.Cond.privateMethod ({ cls := "PromiseScalesModel", name := "plainOf", desc := "(I)I" } : Jvm.MethodName)) ∈ lw_tbl := lw_at lw_m6 221 rfl
theorem q1489 : (Jvm.Cond.instanceMethod ({ cls := "PromiseScalesModel", name := "plainOf", desc := "(I)I" } : Jvm.MethodName)) ∈ lw_all := lw_g (lw_at lw_m6 222 rfl) rfl
theorem q1490 : (Jvm.Cond.code ({ cls := "PromiseScalesModel", name := "plainOf", desc := "(I)I" } : Jvm.MethodName) prog_17_method_26_code (2 : Nat) (Option.some Jvm.ClassFile.FieldType.int)) ∈ lw_all := lw_g (lw_at lw_m6 223 rfl) rfl
theorem q1491 : (Jvm.Cond.methodLink "PromiseScalesModel" (162 : Nat) ({ cls := "PromiseScalesModel", name := "readBy", desc := "(III)I" } : Jvm.MethodName)) ∈ lw_all := lw_g (lw_at lw_m6 224 rfl) rfl
theorem q1492 : (Jvm.Cond.static ({ cls := "PromiseScalesModel", name := "readBy", desc := "(III)I" } : Jvm.MethodName)) ∈ lw_all := lw_g (lw_at lw_m6 225 rfl) rfl
theorem q1493 : (Jvm.Cond.code ({ cls := "PromiseScalesModel", name := "readBy", desc := "(III)I" } : Jvm.MethodName) prog_17_method_30_code (4 : Nat) (Option.some Jvm.ClassFile.FieldType.int)) ∈ lw_all := lw_g (lw_at lw_m6 226 rfl) rfl
theorem q1495 : (Jvm.Cond.instanceMethod ({ cls := "PromiseScalesModel", name := "settle", desc := "(II)I" } : Jvm.MethodName)) ∈ lw_all := lw_g (lw_at lw_m6 228 rfl) rfl
theorem q1496 : (Jvm.Cond.selects "PromiseScalesModel" ({ cls := "PromiseScalesModel", name := "settle", desc := "(II)I" } : Jvm.MethodName) ({ cls := "PromiseScalesModel", name := "settle", desc := "(II)I" } : Jvm.MethodName)) ∈ lw_all := lw_g (lw_at lw_m6 229 rfl) rfl
theorem q1497 : (Jvm.Cond.code ({ cls := "PromiseScalesModel", name := "settle", desc := "(II)I" } : Jvm.MethodName) prog_17_method_35_code (3 : Nat) (Option.some Jvm.ClassFile.FieldType.int)) ∈ lw_all := lw_g (lw_at lw_m6 230 rfl) rfl
theorem q1498 : (Jvm.Cond.methodLink "PromiseScalesModel" (175 : Nat) ({ cls := "PromiseScalesModel", name := "settleNow", desc := "(IZ)V" } : Jvm.MethodName)) ∈ lw_all := lw_g (lw_at lw_m6 231 rfl) rfl
theorem q1499 : (Jvm.Cond.privateMethod ({ cls := "PromiseScalesModel", name := "settleNow", desc := "(IZ)V" } : Jvm.MethodName)) ∈ lw_tbl := lw_at lw_m6 232 rfl
theorem q1500 : (Jvm.Cond.instanceMethod ({ cls := "PromiseScalesModel", name := "settleNow", desc := "(IZ)V" } : Jvm.MethodName)) ∈ lw_all := lw_g (lw_at lw_m6 233 rfl) rfl
theorem q1501 : (Jvm.Cond.code ({ cls := "PromiseScalesModel", name := "settleNow", desc := "(IZ)V" } : Jvm.MethodName) prog_17_method_34_code (5 : Nat) (Option.none : Option Jvm.ClassFile.FieldType)) ∈ lw_all := lw_g (lw_at lw_m6 234 rfl) rfl
theorem q1503 : (Jvm.Cond.instanceMethod ({ cls := "PromiseScalesModel", name := "wax", desc := "(I)I" } : Jvm.MethodName)) ∈ lw_all := lw_g (lw_at lw_m6 236 rfl) rfl
theorem q1504 : (Jvm.Cond.selects "PromiseScalesModel" ({ cls := "PromiseScalesModel", name := "wax", desc := "(I)I" } : Jvm.MethodName) ({ cls := "PromiseScalesModel", name := "wax", desc := "(I)I" } : Jvm.MethodName)) ∈ lw_all := lw_g (lw_at lw_m6 237 rfl) rfl
theorem q1505 : (Jvm.Cond.code ({ cls := "PromiseScalesModel", name := "wax", desc := "(I)I" } : Jvm.MethodName) prog_17_method_36_code (3 : Nat) (Option.some Jvm.ClassFile.FieldType.int)) ∈ lw_all := lw_g (lw_at lw_m6 238 rfl) rfl
theorem q1506 : (Jvm.Cond.constantLong "PromiseScalesModel" (179 : Nat) (9 : Int64)) ∈ lw_all := lw_g (lw_at lw_m6 239 rfl) rfl
theorem q1508 : (Jvm.Cond.instanceMethod ({ cls := "PromiseScalesModel", name := "undo", desc := "()I" } : Jvm.MethodName)) ∈ lw_all := lw_g (lw_at lw_m7 1 rfl) rfl
theorem q1509 : (Jvm.Cond.selects "PromiseScalesModel" ({ cls := "PromiseScalesModel", name := "undo", desc := "()I" } : Jvm.MethodName) ({ cls := "PromiseScalesModel", name := "undo", desc := "()I" } : Jvm.MethodName)) ∈ lw_all := lw_g (lw_at lw_m7 2 rfl) rfl
theorem q1510 : (Jvm.Cond.code ({ cls := "PromiseScalesModel", name := "undo", desc := "()I" } : Jvm.MethodName) prog_17_method_37_code (2 : Nat) (Option.some Jvm.ClassFile.FieldType.int)) ∈ lw_all := lw_g (lw_at lw_m7 3 rfl) rfl
theorem q1512 : (Jvm.Cond.instanceMethod ({ cls := "PromiseScalesModel", name := "promise", desc := "(II)I" } : Jvm.MethodName)) ∈ lw_all := lw_g (lw_at lw_m7 5 rfl) rfl
theorem q1513 : (Jvm.Cond.selects "PromiseScalesModel" ({ cls := "PromiseScalesModel", name := "promise", desc := "(II)I" } : Jvm.MethodName) ({ cls := "PromiseScalesModel", name := "promise", desc := "(II)I" } : Jvm.MethodName)) ∈ lw_all := lw_g (lw_at lw_m7 6 rfl) rfl
theorem q1514 : (Jvm.Cond.code ({ cls := "PromiseScalesModel", name := "promise", desc := "(II)I" } : Jvm.MethodName) prog_17_method_38_code (3 : Nat) (Option.some Jvm.ClassFile.FieldType.int)) ∈ lw_all := lw_g (lw_at lw_m7 7 rfl) rfl
theorem q1516 : (Jvm.Cond.instanceMethod ({ cls := "PromiseScalesModel", name := "keeps", desc := "(I)I" } : Jvm.MethodName)) ∈ lw_all := lw_g (lw_at lw_m7 9 rfl) rfl
theorem q1517 : (Jvm.Cond.selects "PromiseScalesModel" ({ cls := "PromiseScalesModel", name := "keeps", desc := "(I)I" } : Jvm.MethodName) ({ cls := "PromiseScalesModel", name := "keeps", desc := "(I)I" } : Jvm.MethodName)) ∈ lw_all := lw_g (lw_at lw_m7 10 rfl) rfl
theorem q1518 : (Jvm.Cond.code ({ cls := "PromiseScalesModel", name := "keeps", desc := "(I)I" } : Jvm.MethodName) prog_17_method_40_code (2 : Nat) (Option.some Jvm.ClassFile.FieldType.int)) ∈ lw_all := lw_g (lw_at lw_m7 11 rfl) rfl
theorem q1519 : (Jvm.Cond.methodLink "PromiseScalesModel" (181 : Nat) ({ cls := "PromiseScalesModel", name := "isGiver", desc := "(I)Z" } : Jvm.MethodName)) ∈ lw_all := lw_g (lw_at lw_m7 12 rfl) rfl
theorem q1520 : (Jvm.Cond.privateMethod ({ cls := "PromiseScalesModel", name := "isGiver", desc := "(I)Z" } : Jvm.MethodName)) ∈ lw_tbl := lw_at lw_m7 13 rfl
theorem q1521 : (Jvm.Cond.instanceMethod ({ cls := "PromiseScalesModel", name := "isGiver", desc := "(I)Z" } : Jvm.MethodName)) ∈ lw_all := lw_g (lw_at lw_m7 14 rfl) rfl
theorem q1522 : (Jvm.Cond.code ({ cls := "PromiseScalesModel", name := "isGiver", desc := "(I)Z" } : Jvm.MethodName) prog_17_method_39_code (2 : Nat) (Option.some Jvm.ClassFile.FieldType.boolean)) ∈ lw_all := lw_g (lw_at lw_m7 15 rfl) rfl
theorem q1524 : (Jvm.Cond.instanceMethod ({ cls := "PromiseScalesModel", name := "reads", desc := "(I)I" } : Jvm.MethodName)) ∈ lw_all := lw_g (lw_at lw_m7 17 rfl) rfl
theorem q1525 : (Jvm.Cond.selects "PromiseScalesModel" ({ cls := "PromiseScalesModel", name := "reads", desc := "(I)I" } : Jvm.MethodName) ({ cls := "PromiseScalesModel", name := "reads", desc := "(I)I" } : Jvm.MethodName)) ∈ lw_all := lw_g (lw_at lw_m7 18 rfl) rfl
theorem q1526 : (Jvm.Cond.code ({ cls := "PromiseScalesModel", name := "reads", desc := "(I)I" } : Jvm.MethodName) prog_17_method_42_code (2 : Nat) (Option.some Jvm.ClassFile.FieldType.int)) ∈ lw_all := lw_g (lw_at lw_m7 19 rfl) rfl
theorem q1527 : (Jvm.Cond.methodLink "PromiseScalesModel" (184 : Nat) ({ cls := "PromiseScalesModel", name := "isSet", desc := "(I)Z" } : Jvm.MethodName)) ∈ lw_all := lw_g (lw_at lw_m7 20 rfl) rfl
theorem q1528 : (Jvm.Cond.privateMethod ({ cls := "PromiseScalesModel", name := "isSet", desc := "(I)Z" } : Jvm.MethodName)) ∈ lw_tbl := lw_at lw_m7 21 rfl
theorem q1529 : (Jvm.Cond.instanceMethod ({ cls := "PromiseScalesModel", name := "isSet", desc := "(I)Z" } : Jvm.MethodName)) ∈ lw_all := lw_g (lw_at lw_m7 22 rfl) rfl
theorem q1530 : (Jvm.Cond.code ({ cls := "PromiseScalesModel", name := "isSet", desc := "(I)Z" } : Jvm.MethodName) prog_17_method_41_code (2 : Nat) (Option.some Jvm.ClassFile.FieldType.boolean)) ∈ lw_all := lw_g (lw_at lw_m7 23 rfl) rfl
theorem q1532 : (Jvm.Cond.instanceMethod ({ cls := "PromiseScalesModel", name := "clash", desc := "(I)I" } : Jvm.MethodName)) ∈ lw_all := lw_g (lw_at lw_m7 25 rfl) rfl
theorem q1533 : (Jvm.Cond.selects "PromiseScalesModel" ({ cls := "PromiseScalesModel", name := "clash", desc := "(I)I" } : Jvm.MethodName) ({ cls := "PromiseScalesModel", name := "clash", desc := "(I)I" } : Jvm.MethodName)) ∈ lw_all := lw_g (lw_at lw_m7 26 rfl) rfl
theorem q1534 : (Jvm.Cond.code ({ cls := "PromiseScalesModel", name := "clash", desc := "(I)I" } : Jvm.MethodName) prog_17_method_44_code (6 : Nat) (Option.some Jvm.ClassFile.FieldType.int)) ∈ lw_all := lw_g (lw_at lw_m7 27 rfl) rfl
theorem q1535 : (Jvm.Cond.constant "PromiseScalesModel" (187 : Nat) (-1000000 : Int32)) ∈ lw_all := lw_g (lw_at lw_m7 28 rfl) rfl
theorem q1536 : (Jvm.Cond.methodLink "PromiseScalesModel" (188 : Nat) ({ cls := "PromiseScalesModel", name := "clashes", desc := "(II)Z" } : Jvm.MethodName)) ∈ lw_all := lw_g (lw_at lw_m7 29 rfl) rfl
theorem q1537 : (Jvm.Cond.privateMethod ({ cls := "PromiseScalesModel", name := "clashes", desc := "(II)Z" } : Jvm.MethodName)) ∈ lw_tbl := lw_at lw_m7 30 rfl
theorem q1538 : (Jvm.Cond.instanceMethod ({ cls := "PromiseScalesModel", name := "clashes", desc := "(II)Z" } : Jvm.MethodName)) ∈ lw_all := lw_g (lw_at lw_m7 31 rfl) rfl
theorem q1539 : (Jvm.Cond.code ({ cls := "PromiseScalesModel", name := "clashes", desc := "(II)Z" } : Jvm.MethodName) prog_17_method_43_code (3 : Nat) (Option.some Jvm.ClassFile.FieldType.boolean)) ∈ lw_all := lw_g (lw_at lw_m7 32 rfl) rfl
theorem q1541 : (Jvm.Cond.instanceMethod ({ cls := "PromiseScalesModel", name := "bags", desc := "(II)I" } : Jvm.MethodName)) ∈ lw_all := lw_g (lw_at lw_m7 34 rfl) rfl
theorem q1542 : (Jvm.Cond.selects "PromiseScalesModel" ({ cls := "PromiseScalesModel", name := "bags", desc := "(II)I" } : Jvm.MethodName) ({ cls := "PromiseScalesModel", name := "bags", desc := "(II)I" } : Jvm.MethodName)) ∈ lw_all := lw_g (lw_at lw_m7 35 rfl) rfl
theorem q1543 : (Jvm.Cond.code ({ cls := "PromiseScalesModel", name := "bags", desc := "(II)I" } : Jvm.MethodName) prog_17_method_46_code (6 : Nat) (Option.some Jvm.ClassFile.FieldType.int)) ∈ lw_all := lw_g (lw_at lw_m7 36 rfl) rfl
theorem q1544 : (Jvm.Cond.constantLong "PromiseScalesModel" (191 : Nat) (200 : Int64)) ∈ lw_all := lw_g (lw_at lw_m7 37 rfl) rfl
theorem q1545 : (Jvm.Cond.methodLink "PromiseScalesModel" (193 : Nat) ({ cls := "PromiseScalesModel", name := "isBag", desc := "(I)Z" } : Jvm.MethodName)) ∈ lw_all := lw_g (lw_at lw_m7 38 rfl) rfl
theorem q1546 : (Jvm.Cond.privateMethod ({ cls := "PromiseScalesModel", name := "isBag", desc := "(I)Z" } : Jvm.MethodName)) ∈ lw_tbl := lw_at lw_m7 39 rfl
theorem q1547 : (Jvm.Cond.instanceMethod ({ cls := "PromiseScalesModel", name := "isBag", desc := "(I)Z" } : Jvm.MethodName)) ∈ lw_all := lw_g (lw_at lw_m7 40 rfl) rfl
theorem q1548 : (Jvm.Cond.code ({ cls := "PromiseScalesModel", name := "isBag", desc := "(I)Z" } : Jvm.MethodName) prog_17_method_45_code (5 : Nat) (Option.some Jvm.ClassFile.FieldType.boolean)) ∈ lw_all := lw_g (lw_at lw_m7 41 rfl) rfl
theorem q1549 : (Jvm.Cond.methodLink "PromiseScalesModel" (196 : Nat) ({ cls := "PromiseScalesModel", name := "ones", desc := "(I)I" } : Jvm.MethodName)) ∈ lw_all := lw_g (lw_at lw_m7 42 rfl) rfl
theorem q1550 : (Jvm.Cond.static ({ cls := "PromiseScalesModel", name := "ones", desc := "(I)I" } : Jvm.MethodName)) ∈ lw_all := lw_g (lw_at lw_m7 43 rfl) rfl
theorem q1551 : (Jvm.Cond.code ({ cls := "PromiseScalesModel", name := "ones", desc := "(I)I" } : Jvm.MethodName) prog_17_method_4_code (3 : Nat) (Option.some Jvm.ClassFile.FieldType.int)) ∈ lw_all := lw_g (lw_at lw_m7 44 rfl) rfl
theorem q1553 : (Jvm.Cond.instanceMethod ({ cls := "PromiseScalesModel", name := "heaviest", desc := "(II)I" } : Jvm.MethodName)) ∈ lw_all := lw_g (lw_at lw_m7 46 rfl) rfl
theorem q1554 : (Jvm.Cond.selects "PromiseScalesModel" ({ cls := "PromiseScalesModel", name := "heaviest", desc := "(II)I" } : Jvm.MethodName) ({ cls := "PromiseScalesModel", name := "heaviest", desc := "(II)I" } : Jvm.MethodName)) ∈ lw_all := lw_g (lw_at lw_m7 47 rfl) rfl
theorem q1555 : (Jvm.Cond.code ({ cls := "PromiseScalesModel", name := "heaviest", desc := "(II)I" } : Jvm.MethodName) prog_17_method_47_code (6 : Nat) (Option.some Jvm.ClassFile.FieldType.int)) ∈ lw_all := lw_g (lw_at lw_m7 48 rfl) rfl
theorem q1556 : (Jvm.Cond.constantLong "PromiseScalesModel" (199 : Nat) (8 : Int64)) ∈ lw_all := lw_g (lw_at lw_m7 49 rfl) rfl
theorem q1558 : (Jvm.Cond.instanceMethod ({ cls := "PromiseScalesModel", name := "worded", desc := "(II)I" } : Jvm.MethodName)) ∈ lw_all := lw_g (lw_at lw_m7 51 rfl) rfl
theorem q1559 : (Jvm.Cond.selects "PromiseScalesModel" ({ cls := "PromiseScalesModel", name := "worded", desc := "(II)I" } : Jvm.MethodName) ({ cls := "PromiseScalesModel", name := "worded", desc := "(II)I" } : Jvm.MethodName)) ∈ lw_all := lw_g (lw_at lw_m7 52 rfl) rfl
theorem q1560 : (Jvm.Cond.code ({ cls := "PromiseScalesModel", name := "worded", desc := "(II)I" } : Jvm.MethodName) prog_17_method_48_code (6 : Nat) (Option.some Jvm.ClassFile.FieldType.int)) ∈ lw_all := lw_g (lw_at lw_m7 53 rfl) rfl
theorem q1561 : (Jvm.Cond.constantLong "PromiseScalesModel" (201 : Nat) (5 : Int64)) ∈ lw_all := lw_g (lw_at lw_m7 54 rfl) rfl
theorem q1563 : (Jvm.Cond.instanceMethod ({ cls := "PromiseScalesModel", name := "price", desc := "(II)I" } : Jvm.MethodName)) ∈ lw_all := lw_g (lw_at lw_m7 56 rfl) rfl
theorem q1564 : (Jvm.Cond.selects "PromiseScalesModel" ({ cls := "PromiseScalesModel", name := "price", desc := "(II)I" } : Jvm.MethodName) ({ cls := "PromiseScalesModel", name := "price", desc := "(II)I" } : Jvm.MethodName)) ∈ lw_all := lw_g (lw_at lw_m7 57 rfl) rfl
theorem q1565 : (Jvm.Cond.code ({ cls := "PromiseScalesModel", name := "price", desc := "(II)I" } : Jvm.MethodName) prog_17_method_49_code (3 : Nat) (Option.some Jvm.ClassFile.FieldType.int)) ∈ lw_all := lw_g (lw_at lw_m7 58 rfl) rfl
theorem q1566 : (Jvm.Cond.constantLong "PromiseScalesModel" (203 : Nat) (999 : Int64)) ∈ lw_all := lw_g (lw_at lw_m7 59 rfl) rfl
theorem q1568 : (Jvm.Cond.instanceMethod ({ cls := "PromiseScalesModel", name := "prices", desc := "(II)I" } : Jvm.MethodName)) ∈ lw_all := lw_g (lw_at lw_m7 61 rfl) rfl
theorem q1569 : (Jvm.Cond.selects "PromiseScalesModel" ({ cls := "PromiseScalesModel", name := "prices", desc := "(II)I" } : Jvm.MethodName) ({ cls := "PromiseScalesModel", name := "prices", desc := "(II)I" } : Jvm.MethodName)) ∈ lw_all := lw_g (lw_at lw_m7 62 rfl) rfl
theorem q1570 : (Jvm.Cond.code ({ cls := "PromiseScalesModel", name := "prices", desc := "(II)I" } : Jvm.MethodName) prog_17_method_50_code (5 : Nat) (Option.some Jvm.ClassFile.FieldType.int)) ∈ lw_all := lw_g (lw_at lw_m7 63 rfl) rfl
theorem q1572 : (Jvm.Cond.instanceMethod ({ cls := "PromiseScalesModel", name := "settles", desc := "(III)I" } : Jvm.MethodName)) ∈ lw_all := lw_g (lw_at lw_m7 65 rfl) rfl
theorem q1573 : (Jvm.Cond.selects "PromiseScalesModel" ({ cls := "PromiseScalesModel", name := "settles", desc := "(III)I" } : Jvm.MethodName) ({ cls := "PromiseScalesModel", name := "settles", desc := "(III)I" } : Jvm.MethodName)) ∈ lw_all := lw_g (lw_at lw_m7 66 rfl) rfl
theorem q1574 : (Jvm.Cond.code ({ cls := "PromiseScalesModel", name := "settles", desc := "(III)I" } : Jvm.MethodName) prog_17_method_52_code (5 : Nat) (Option.some Jvm.ClassFile.FieldType.int)) ∈ lw_all := lw_g (lw_at lw_m7 67 rfl) rfl
theorem q1575 : (Jvm.Cond.constantLong "PromiseScalesModel" (208 : Nat) (20 : Int64)) ∈ lw_all := lw_g (lw_at lw_m7 68 rfl) rfl
theorem q1576 : (Jvm.Cond.methodLink "PromiseScalesModel" (210 : Nat) ({ cls := "PromiseScalesModel", name := "settleAll", desc := "(II)I" } : Jvm.MethodName)) ∈ lw_all := lw_g (lw_at lw_m7 69 rfl) rfl
theorem q1577 : (Jvm.Cond.privateMethod ({ cls := "PromiseScalesModel", name := "settleAll", desc := "(II)I" } : Jvm.MethodName)) ∈ lw_tbl := lw_at lw_m7 70 rfl
theorem q1578 : (Jvm.Cond.instanceMethod ({ cls := "PromiseScalesModel", name := "settleAll", desc := "(II)I" } : Jvm.MethodName)) ∈ lw_all := lw_g (lw_at lw_m7 71 rfl) rfl
theorem q1579 : (Jvm.Cond.code ({ cls := "PromiseScalesModel", name := "settleAll", desc := "(II)I" } : Jvm.MethodName) prog_17_method_51_code (5 : Nat) (Option.some Jvm.ClassFile.FieldType.int)) ∈ lw_all := lw_g (lw_at lw_m7 72 rfl) rfl
theorem q1581 : (Jvm.Cond.instanceMethod ({ cls := "PromiseScalesModel", name := "bestHeavy", desc := "(I)I" } : Jvm.MethodName)) ∈ lw_all := lw_g (lw_at lw_m7 74 rfl) rfl
theorem q1582 : (Jvm.Cond.selects "PromiseScalesModel" ({ cls := "PromiseScalesModel", name := "bestHeavy", desc := "(I)I" } : Jvm.MethodName) ({ cls := "PromiseScalesModel", name := "bestHeavy", desc := "(I)I" } : Jvm.MethodName)) ∈ lw_all := lw_g (lw_at lw_m7 75 rfl) rfl
theorem q1583 : (Jvm.Cond.code ({ cls := "PromiseScalesModel", name := "bestHeavy", desc := "(I)I" } : Jvm.MethodName) prog_17_method_53_code (6 : Nat) (Option.some Jvm.ClassFile.FieldType.int)) ∈ lw_all := lw_g (lw_at lw_m7 76 rfl) rfl
theorem q1585 : (Jvm.Cond.instanceMethod ({ cls := "PromiseScalesModel", name := "found", desc := "(IIII)I" } : Jvm.MethodName)) ∈ lw_all := lw_g (lw_at lw_m7 78 rfl) rfl
theorem q1586 : (Jvm.Cond.selects "PromiseScalesModel" ({ cls := "PromiseScalesModel", name := "found", desc := "(IIII)I" } : Jvm.MethodName) ({ cls := "PromiseScalesModel", name := "found", desc := "(IIII)I" } : Jvm.MethodName)) ∈ lw_all := lw_g (lw_at lw_m7 79 rfl) rfl
theorem q1587 : (Jvm.Cond.code ({ cls := "PromiseScalesModel", name := "found", desc := "(IIII)I" } : Jvm.MethodName) prog_17_method_56_code (10 : Nat) (Option.some Jvm.ClassFile.FieldType.int)) ∈ lw_all := lw_g (lw_at lw_m7 80 rfl) rfl
theorem q1588 : (Jvm.Cond.methodLink "PromiseScalesModel" (213 : Nat) ({ cls := "PromiseScalesModel", name := "lacks", desc := "(III)I" } : Jvm.MethodName)) ∈ lw_all := lw_g (lw_at lw_m7 81 rfl) rfl
theorem q1589 : (Jvm.Cond.privateMethod ({ cls := "PromiseScalesModel", name := "lacks", desc := "(III)I" } : Jvm.MethodName)) ∈ lw_tbl := lw_at lw_m7 82 rfl
theorem q1590 : (Jvm.Cond.instanceMethod ({ cls := "PromiseScalesModel", name := "lacks", desc := "(III)I" } : Jvm.MethodName)) ∈ lw_all := lw_g (lw_at lw_m7 83 rfl) rfl
theorem q1591 : (Jvm.Cond.code ({ cls := "PromiseScalesModel", name := "lacks", desc := "(III)I" } : Jvm.MethodName) prog_17_method_54_code (4 : Nat) (Option.some Jvm.ClassFile.FieldType.int)) ∈ lw_all := lw_g (lw_at lw_m7 84 rfl) rfl
theorem q1592 : (Jvm.Cond.methodLink "PromiseScalesModel" (216 : Nat) ({ cls := "PromiseScalesModel", name := "isSo", desc := "(IIII)Z" } : Jvm.MethodName)) ∈ lw_all := lw_g (lw_at lw_m7 85 rfl) rfl
theorem q1593 : (Jvm.Cond.privateMethod ({ cls := "PromiseScalesModel", name := "isSo", desc := "(IIII)Z" } : Jvm.MethodName)) ∈ lw_tbl := lw_at lw_m7 86 rfl
theorem q1594 : (Jvm.Cond.instanceMethod ({ cls := "PromiseScalesModel", name := "isSo", desc := "(IIII)Z" } : Jvm.MethodName)) ∈ lw_all := lw_g (lw_at lw_m7 87 rfl) rfl
theorem q1595 : (Jvm.Cond.code ({ cls := "PromiseScalesModel", name := "isSo", desc := "(IIII)Z" } : Jvm.MethodName) prog_17_method_55_code (7 : Nat) (Option.some Jvm.ClassFile.FieldType.boolean)) ∈ lw_all := lw_g (lw_at lw_m7 88 rfl) rfl
theorem q1597 : (Jvm.Cond.instanceMethod ({ cls := "PromiseScalesModel", name := "keepsFound", desc := "(III)I" } : Jvm.MethodName)) ∈ lw_all := lw_g (lw_at lw_m7 90 rfl) rfl
theorem q1598 : (Jvm.Cond.selects "PromiseScalesModel" ({ cls := "PromiseScalesModel", name := "keepsFound", desc := "(III)I" } : Jvm.MethodName) ({ cls := "PromiseScalesModel", name := "keepsFound", desc := "(III)I" } : Jvm.MethodName)) ∈ lw_all := lw_g (lw_at lw_m7 91 rfl) rfl
theorem q1599 : (Jvm.Cond.code ({ cls := "PromiseScalesModel", name := "keepsFound", desc := "(III)I" } : Jvm.MethodName) prog_17_method_57_code (11 : Nat) (Option.some Jvm.ClassFile.FieldType.int)) ∈ lw_all := lw_g (lw_at lw_m7 92 rfl) rfl
theorem q1600 : (Jvm.Cond.methodLink "PromiseScalesModel" (219 : Nat) ({ cls := "PromiseScalesModel", name := "isPlain", desc := "(II)Z" } : Jvm.MethodName)) ∈ lw_all := lw_g (lw_at lw_m7 93 rfl) rfl
theorem q1601 : (Jvm.Cond.privateMethod ({ cls := "PromiseScalesModel", name := "isPlain", desc := "(II)Z" } : Jvm.MethodName)) ∈ lw_tbl := lw_at lw_m7 94 rfl
theorem q1602 : (Jvm.Cond.instanceMethod ({ cls := "PromiseScalesModel", name := "isPlain", desc := "(II)Z" } : Jvm.MethodName)) ∈ lw_all := lw_g (lw_at lw_m7 95 rfl) rfl
theorem q1603 : (Jvm.Cond.code ({ cls := "PromiseScalesModel", name := "isPlain", desc := "(II)Z" } : Jvm.MethodName) prog_17_method_58_code (3 : Nat) (Option.some Jvm.ClassFile.FieldType.boolean)) ∈ lw_all := lw_g (lw_at lw_m7 96 rfl) rfl
theorem q1605 : (Jvm.Cond.instanceMethod ({ cls := "PromiseScalesModel", name := "free", desc := "(III)I" } : Jvm.MethodName)) ∈ lw_all := lw_g (lw_at lw_m7 98 rfl) rfl
theorem q1606 : (Jvm.Cond.selects "PromiseScalesModel" ({ cls := "PromiseScalesModel", name := "free", desc := "(III)I" } : Jvm.MethodName) ({ cls := "PromiseScalesModel", name := "free", desc := "(III)I" } : Jvm.MethodName)) ∈ lw_all := lw_g (lw_at lw_m7 99 rfl) rfl
theorem q1607 : (Jvm.Cond.code ({ cls := "PromiseScalesModel", name := "free", desc := "(III)I" } : Jvm.MethodName) prog_17_method_59_code (9 : Nat) (Option.some Jvm.ClassFile.FieldType.int)) ∈ lw_all := lw_g (lw_at lw_m7 100 rfl) rfl
theorem q1608 : (Jvm.Cond.constantLong "PromiseScalesModel" (222 : Nat) (10 : Int64)) ∈ lw_all := lw_g (lw_at lw_m7 101 rfl) rfl
theorem q1610 : (Jvm.Cond.instanceMethod ({ cls := "PromiseScalesModel", name := "image", desc := "(I)I" } : Jvm.MethodName)) ∈ lw_all := lw_g (lw_at lw_m7 103 rfl) rfl
theorem q1611 : (Jvm.Cond.selects "PromiseScalesModel" ({ cls := "PromiseScalesModel", name := "image", desc := "(I)I" } : Jvm.MethodName) ({ cls := "PromiseScalesModel", name := "image", desc := "(I)I" } : Jvm.MethodName)) ∈ lw_all := lw_g (lw_at lw_m7 104 rfl) rfl
theorem q1612 : (Jvm.Cond.code ({ cls := "PromiseScalesModel", name := "image", desc := "(I)I" } : Jvm.MethodName) prog_17_method_60_code (3 : Nat) (Option.some Jvm.ClassFile.FieldType.int)) ∈ lw_all := lw_g (lw_at lw_m7 105 rfl) rfl
theorem q1614 : (Jvm.Cond.instanceMethod ({ cls := "PromiseScalesModel", name := "restore", desc := "(I)I" } : Jvm.MethodName)) ∈ lw_all := lw_g (lw_at lw_m7 107 rfl) rfl
theorem q1615 : (Jvm.Cond.selects "PromiseScalesModel" ({ cls := "PromiseScalesModel", name := "restore", desc := "(I)I" } : Jvm.MethodName) ({ cls := "PromiseScalesModel", name := "restore", desc := "(I)I" } : Jvm.MethodName)) ∈ lw_all := lw_g (lw_at lw_m7 108 rfl) rfl
theorem q1616 : (Jvm.Cond.code ({ cls := "PromiseScalesModel", name := "restore", desc := "(I)I" } : Jvm.MethodName) prog_17_method_61_code (3 : Nat) (Option.some Jvm.ClassFile.FieldType.int)) ∈ lw_all := lw_g (lw_at lw_m7 109 rfl) rfl
theorem q1618 : (Jvm.Cond.instanceMethod ({ cls := "PromiseScalesModel", name := "kind", desc := "(I)I" } : Jvm.MethodName)) ∈ lw_all := lw_g (lw_at lw_m7 111 rfl) rfl
theorem q1619 : (Jvm.Cond.selects "PromiseScalesModel" ({ cls := "PromiseScalesModel", name := "kind", desc := "(I)I" } : Jvm.MethodName) ({ cls := "PromiseScalesModel", name := "kind", desc := "(I)I" } : Jvm.MethodName)) ∈ lw_all := lw_g (lw_at lw_m7 112 rfl) rfl
theorem q1620 : (Jvm.Cond.code ({ cls := "PromiseScalesModel", name := "kind", desc := "(I)I" } : Jvm.MethodName) prog_17_method_62_code (2 : Nat) (Option.some Jvm.ClassFile.FieldType.int)) ∈ lw_all := lw_g (lw_at lw_m7 113 rfl) rfl
theorem q1622 : (Jvm.Cond.instanceMethod ({ cls := "PromiseScalesModel", name := "as", desc := "(II)I" } : Jvm.MethodName)) ∈ lw_all := lw_g (lw_at lw_m7 115 rfl) rfl
theorem q1623 : (Jvm.Cond.selects "PromiseScalesModel" ({ cls := "PromiseScalesModel", name := "as", desc := "(II)I" } : Jvm.MethodName) ({ cls := "PromiseScalesModel", name := "as", desc := "(II)I" } : Jvm.MethodName)) ∈ lw_all := lw_g (lw_at lw_m7 116 rfl) rfl
theorem q1624 : (Jvm.Cond.code ({ cls := "PromiseScalesModel", name := "as", desc := "(II)I" } : Jvm.MethodName) prog_17_method_64_code (3 : Nat) (Option.some Jvm.ClassFile.FieldType.int)) ∈ lw_all := lw_g (lw_at lw_m7 117 rfl) rfl
theorem q1625 : (Jvm.Cond.methodLink "PromiseScalesModel" (224 : Nat) ({ cls := "PromiseScalesModel", name := "isKind", desc := "(II)Z" } : Jvm.MethodName)) ∈ lw_all := lw_g (lw_at lw_m7 118 rfl) rfl
theorem q1626 : (Jvm.Cond.static ({ cls := "PromiseScalesModel", name := "isKind", desc := "(II)Z" } : Jvm.MethodName)) ∈ lw_all := lw_g (lw_at lw_m7 119 rfl) rfl
theorem q1627 : (Jvm.Cond.code ({ cls := "PromiseScalesModel", name := "isKind", desc := "(II)Z" } : Jvm.MethodName) prog_17_method_63_code (2 : Nat) (Option.some Jvm.ClassFile.FieldType.boolean)) ∈ lw_all := lw_g (lw_at lw_m7 120 rfl) rfl
theorem q1629 : (Jvm.Cond.instanceMethod ({ cls := "PromiseScalesModel", name := "ask", desc := "(II)I" } : Jvm.MethodName)) ∈ lw_all := lw_g (lw_at lw_m7 122 rfl) rfl
theorem q1630 : (Jvm.Cond.selects "PromiseScalesModel" ({ cls := "PromiseScalesModel", name := "ask", desc := "(II)I" } : Jvm.MethodName) ({ cls := "PromiseScalesModel", name := "ask", desc := "(II)I" } : Jvm.MethodName)) ∈ lw_all := lw_g (lw_at lw_m7 123 rfl) rfl
theorem q1631 : (Jvm.Cond.code ({ cls := "PromiseScalesModel", name := "ask", desc := "(II)I" } : Jvm.MethodName) prog_17_method_73_code (3 : Nat) (Option.some Jvm.ClassFile.FieldType.int)) ∈ lw_all := lw_g (lw_at lw_m7 124 rfl) rfl
theorem q1632 : (Jvm.Cond.methodLink "PromiseScalesModel" (252 : Nat) ({ cls := "PromiseScalesModel", name := "sizeOf", desc := "(I)I" } : Jvm.MethodName)) ∈ lw_all := lw_g (lw_at lw_m7 125 rfl) rfl
theorem q1633 : (Jvm.Cond.privateMethod ({ cls := "PromiseScalesModel", name := "sizeOf", desc := "(I)I" } : Jvm.MethodName)) ∈ lw_tbl := lw_at lw_m7 126 rfl
theorem q1634 : (Jvm.Cond.instanceMethod ({ cls := "PromiseScalesModel", name := "sizeOf", desc := "(I)I" } : Jvm.MethodName)) ∈ lw_all := lw_g (lw_at lw_m7 127 rfl) rfl
theorem q1635 : (Jvm.Cond.code ({ cls := "PromiseScalesModel", name := "sizeOf", desc := "(I)I" } : Jvm.MethodName) prog_17_method_72_code (3 : Nat) (Option.some Jvm.ClassFile.FieldType.int)) ∈ lw_all := lw_g (lw_at lw_m7 128 rfl) rfl
theorem q1636 : (Jvm.Cond.methodLink "PromiseScalesModel" (230 : Nat) ({ cls := "PromiseScalesModel", name := "begin", desc := "(I)V" } : Jvm.MethodName)) ∈ lw_all := lw_g (lw_at lw_m7 129 rfl) rfl
theorem q1637 : (Jvm.Cond.privateMethod ({ cls := "PromiseScalesModel", name := "begin", desc := "(I)V" } : Jvm.MethodName)) ∈ lw_tbl := lw_at lw_m7 130 rfl
theorem q1638 : (Jvm.Cond.instanceMethod ({ cls := "PromiseScalesModel", name := "begin", desc := "(I)V" } : Jvm.MethodName)) ∈ lw_all := lw_g (lw_at lw_m7 131 rfl) rfl
theorem q1639 : (Jvm.Cond.code ({ cls := "PromiseScalesModel", name := "begin", desc := "(I)V" } : Jvm.MethodName) prog_17_method_65_code (2 : Nat) (Option.none : Option Jvm.ClassFile.FieldType)) ∈ lw_all := lw_g (lw_at lw_m7 132 rfl) rfl
theorem q1640 : (Jvm.Cond.methodLink "PromiseScalesModel" (249 : Nat) ({ cls := "PromiseScalesModel", name := "plainSize", desc := "(I)I" } : Jvm.MethodName)) ∈ lw_all := lw_g (lw_at lw_m7 133 rfl) rfl
theorem q1641 : (Jvm.Cond.privateMethod ({ cls := "PromiseScalesModel", name := "plainSize", desc := "(I)I" } : Jvm.MethodName)) ∈ lw_tbl := lw_at lw_m7 134 rfl
theorem q1642 : (Jvm.Cond.instanceMethod ({ cls := "PromiseScalesModel", name := "plainSize", desc := "(I)I" } : Jvm.MethodName)) ∈ lw_all := lw_g (lw_at lw_m7 135 rfl) rfl
theorem q1643 : (Jvm.Cond.code ({ cls := "PromiseScalesModel", name := "plainSize", desc := "(I)I" } : Jvm.MethodName) prog_17_method_71_code (3 : Nat) (Option.some Jvm.ClassFile.FieldType.int)) ∈ lw_all := lw_g (lw_at lw_m7 136 rfl) rfl
theorem q1644 : (Jvm.Cond.methodLink "PromiseScalesModel" (234 : Nat) ({ cls := "PromiseScalesModel", name := "lent", desc := "(II)I" } : Jvm.MethodName)) ∈ lw_all := lw_g (lw_at lw_m7 137 rfl) rfl
theorem q1645 : (Jvm.Cond.privateMethod ({ cls := "PromiseScalesModel", name := "lent", desc := "(II)I" } : Jvm.MethodName)) ∈ lw_tbl := lw_at lw_m7 138 rfl
theorem q1646 : (Jvm.Cond.instanceMethod ({ cls := "PromiseScalesModel", name := "lent", desc := "(II)I" } : Jvm.MethodName)) ∈ lw_all := lw_g (lw_at lw_m7 139 rfl) rfl
theorem q1647 : (Jvm.Cond.code ({ cls := "PromiseScalesModel", name := "lent", desc := "(II)I" } : Jvm.MethodName) prog_17_method_66_code (3 : Nat) (Option.some Jvm.ClassFile.FieldType.int)) ∈ lw_all := lw_g (lw_at lw_m7 140 rfl) rfl
theorem q1648 : (Jvm.Cond.methodLink "PromiseScalesModel" (246 : Nat) ({ cls := "PromiseScalesModel", name := "markOf", desc := "(I)I" } : Jvm.MethodName)) ∈ lw_all := lw_g (lw_at lw_m7 141 rfl) rfl
theorem q1649 : (Jvm.Cond.privateMethod ({ cls := "PromiseScalesModel", name := "markOf", desc := "(I)I" } : Jvm.MethodName)) ∈ lw_tbl := lw_at lw_m7 142 rfl
theorem q1650 : (Jvm.Cond.instanceMethod ({ cls := "PromiseScalesModel", name := "markOf", desc := "(I)I" } : Jvm.MethodName)) ∈ lw_all := lw_g (lw_at lw_m7 143 rfl) rfl
theorem q1651 : (Jvm.Cond.code ({ cls := "PromiseScalesModel", name := "markOf", desc := "(I)I" } : Jvm.MethodName) prog_17_method_70_code (4 : Nat) (Option.some Jvm.ClassFile.FieldType.int)) ∈ lw_all := lw_g (lw_at lw_m7 144 rfl) rfl
theorem q1652 : (Jvm.Cond.methodLink "PromiseScalesModel" (240 : Nat) ({ cls := "PromiseScalesModel", name := "plainMark", desc := "(I)I" } : Jvm.MethodName)) ∈ lw_all := lw_g (lw_at lw_m7 145 rfl) rfl
theorem q1653 : (Jvm.Cond.privateMethod ({ cls := "PromiseScalesModel", name := "plainMark", desc := "(I)I" } : Jvm.MethodName)) ∈ lw_tbl := lw_at lw_m7 146 rfl
theorem q1654 : (Jvm.Cond.instanceMethod ({ cls := "PromiseScalesModel", name := "plainMark", desc := "(I)I" } : Jvm.MethodName)) ∈ lw_all := lw_g (lw_at lw_m7 147 rfl) rfl
theorem q1655 : (Jvm.Cond.code ({ cls := "PromiseScalesModel", name := "plainMark", desc := "(I)I" } : Jvm.MethodName) prog_17_method_67_code (2 : Nat) (Option.some Jvm.ClassFile.FieldType.int)) ∈ lw_all := lw_g (lw_at lw_m7 148 rfl) rfl
theorem q1656 : (Jvm.Cond.methodLink "PromiseScalesModel" (243 : Nat) ({ cls := "PromiseScalesModel", name := "sizeOfOath", desc := "(I)I" } : Jvm.MethodName)) ∈ lw_all := lw_g (lw_at lw_m7 149 rfl) rfl
theorem q1657 : (Jvm.Cond.privateMethod ({ cls := "PromiseScalesModel", name := "sizeOfOath", desc := "(I)I" } : Jvm.MethodName)) ∈ lw_tbl := lw_at lw_m7 150 rfl
theorem q1658 : (Jvm.Cond.instanceMethod ({ cls := "PromiseScalesModel", name := "sizeOfOath", desc := "(I)I" } : Jvm.MethodName)) ∈ lw_all := lw_g (lw_at lw_m7 151 rfl) rfl
theorem q1659 : (Jvm.Cond.code ({ cls := "PromiseScalesModel", name := "sizeOfOath", desc := "(I)I" } : Jvm.MethodName) prog_17_method_69_code (2 : Nat) (Option.some Jvm.ClassFile.FieldType.int)) ∈ lw_all := lw_g (lw_at lw_m7 152 rfl) rfl
theorem q1660 : (Jvm.Cond.methodLink "PromiseScalesModel" (237 : Nat) ({ cls := "PromiseScalesModel", name := "oathSize", desc := "(I)I" } : Jvm.MethodName)) ∈ lw_all := lw_g (lw_at lw_m7 153 rfl) rfl
theorem q1661 : (Jvm.Cond.privateMethod ({ cls := "PromiseScalesModel", name := "oathSize", desc := "(I)I" } : Jvm.MethodName)) ∈ lw_tbl := lw_at lw_m7 154 rfl
theorem q1662 : (Jvm.Cond.instanceMethod ({ cls := "PromiseScalesModel", name := "oathSize", desc := "(I)I" } : Jvm.MethodName)) ∈ lw_all := lw_g (lw_at lw_m7 155 rfl) rfl
theorem q1663 : (Jvm.Cond.code ({ cls := "PromiseScalesModel", name := "oathSize", desc := "(I)I" } : Jvm.MethodName) prog_17_method_68_code (2 : Nat) (Option.some Jvm.ClassFile.FieldType.int)) ∈ lw_all := lw_g (lw_at lw_m7 156 rfl) rfl
theorem q1665 : (Jvm.Cond.instanceMethod ({ cls := "PromiseScalesModel", name := "trace", desc := "(I)I" } : Jvm.MethodName)) ∈ lw_all := lw_g (lw_at lw_m7 158 rfl) rfl
theorem q1666 : (Jvm.Cond.selects "PromiseScalesModel" ({ cls := "PromiseScalesModel", name := "trace", desc := "(I)I" } : Jvm.MethodName) ({ cls := "PromiseScalesModel", name := "trace", desc := "(I)I" } : Jvm.MethodName)) ∈ lw_all := lw_g (lw_at lw_m7 159 rfl) rfl
theorem q1667 : (Jvm.Cond.code ({ cls := "PromiseScalesModel", name := "trace", desc := "(I)I" } : Jvm.MethodName) prog_17_method_74_code (2 : Nat) (Option.some Jvm.ClassFile.FieldType.int)) ∈ lw_all := lw_g (lw_at lw_m7 160 rfl) rfl
theorem q1669 : (Jvm.Cond.instanceMethod ({ cls := "PromiseScalesModel", name := "count", desc := "(I)I" } : Jvm.MethodName)) ∈ lw_all := lw_g (lw_at lw_m7 162 rfl) rfl
theorem q1670 : (Jvm.Cond.selects "PromiseScalesModel" ({ cls := "PromiseScalesModel", name := "count", desc := "(I)I" } : Jvm.MethodName) ({ cls := "PromiseScalesModel", name := "count", desc := "(I)I" } : Jvm.MethodName)) ∈ lw_all := lw_g (lw_at lw_m7 163 rfl) rfl
theorem q1671 : (Jvm.Cond.code ({ cls := "PromiseScalesModel", name := "count", desc := "(I)I" } : Jvm.MethodName) prog_17_method_75_code (4 : Nat) (Option.some Jvm.ClassFile.FieldType.int)) ∈ lw_all := lw_g (lw_at lw_m7 164 rfl) rfl
theorem q1673 : (Jvm.Cond.instanceMethod ({ cls := "PromiseScalesModel", name := "status", desc := "()I" } : Jvm.MethodName)) ∈ lw_all := lw_g (lw_at lw_m7 166 rfl) rfl
theorem q1674 : (Jvm.Cond.selects "PromiseScalesModel" ({ cls := "PromiseScalesModel", name := "status", desc := "()I" } : Jvm.MethodName) ({ cls := "PromiseScalesModel", name := "status", desc := "()I" } : Jvm.MethodName)) ∈ lw_all := lw_g (lw_at lw_m7 167 rfl) rfl
theorem q1675 : (Jvm.Cond.code ({ cls := "PromiseScalesModel", name := "status", desc := "()I" } : Jvm.MethodName) prog_17_method_76_code (1 : Nat) (Option.some Jvm.ClassFile.FieldType.int)) ∈ lw_all := lw_g (lw_at lw_m7 168 rfl) rfl
theorem q1697 : (Jvm.Cond.castable "PromiseScalesModel" "java/lang/Object") ∈ lw_tbl := lw_at lw_m7 190 rfl
theorem in_X4 : ∀ w ∈ wsX40, w ∈ lw_all := lw_in wsX40 [1313, 1315, 1317, 1319, 1321, 1323, 1325, 1327, 1329, 1331, 1333, 1335, 1337, 1339, 1341, 1343, 1345, 1347, 1349, 1351, 1353, 1355, 1357, 1359] (by decide +kernel) (by decide +kernel)
