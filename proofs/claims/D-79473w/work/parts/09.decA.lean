/-! DECODE ROWS BY BYTES: one lemma an opcode; a method's code is cut into short pieces once, and a row reads its own piece alone. -/
set_option maxRecDepth 100000
/-- the code has just these bytes from pc on -/
def DkAt (code : ByteArray) (pc : Nat) (bs : List UInt8) : Prop := ∀ (j : Nat) (b : UInt8), bs[j]? = some b → code.data.toList[pc + j]? = some b
/-- the piece W has the bytes bs from its place j on -/
def dkIn (W : List UInt8) (j : Nat) (bs : List UInt8) : Bool := decide ((W.drop j).take bs.length = bs)
theorem dk_seg {l W T : List UInt8} {o o2 : Nat} (h : l.drop o = W ++ T) (n : Nat) (hn : W.length = n) (ho : o + n = o2) : l.drop o2 = T := by
  subst ho
  rw [← List.drop_drop, h, List.drop_left' hn]
theorem dk_at {code : ByteArray} {W T bs : List UInt8} {o pc : Nat} (h : code.data.toList.drop o = W ++ T) (j : Nat) (hp : o + j = pc) (hw : dkIn W j bs = true) : DkAt code pc bs := by
  subst hp
  intro i b e
  have h1 := of_decide_eq_true hw
  have h2 : i < bs.length := (List.getElem?_eq_some_iff.mp e).1
  have h3 : W[j + i]? = some b := by
    rw [← h1, List.getElem?_take, if_pos h2, List.getElem?_drop] at e
    exact e
  have h4 : j + i < W.length := (List.getElem?_eq_some_iff.mp h3).1
  have h5 : (code.data.toList.drop o)[j + i]? = some b := by
    rw [h, List.getElem?_append_left h4]
    exact h3
  rw [List.getElem?_drop, ← Nat.add_assoc] at h5
  exact h5
theorem dk_u1 {A : ByteArray} {p : Nat} {b : UInt8} (h : A.data.toList[p]? = some b) : (Reader.u1 : Reader DecodeError Nat) A p = .ok (b.toNat, p + 1) := by
  obtain ⟨h1, h2⟩ := List.getElem?_eq_some_iff.mp h
  have h3 : p < A.size := by simpa using h1
  have h4 : A[p]'h3 = b := h2
  have e : (Reader.u1 : Reader DecodeError Nat) A p = (if h : p < A.size then .ok (A[p].toNat, p + 1) else .error (HasTruncated.truncated p)) := by
    show (do if h : p < A.size then do set (p + 1); Pure.pure A[p].toNat else MonadExcept.throw (HasTruncated.truncated p) : Reader DecodeError Nat) A p = _
    by_cases hi : p < A.size
    · rw [dif_pos hi, dif_pos hi]; rfl
    · rw [dif_neg hi, dif_neg hi]; rfl
  rw [e, dif_pos h3, h4]
theorem dk_bind {α β : Type} {r : Reader DecodeError α} {f : α → Reader DecodeError β} {A : ByteArray} {p s : Nat} {a : α} (h : r A p = .ok (a, s)) : (r >>= f) A p = f a A s := by
  show (do let (a, s) ← r A p; f a A s : Except DecodeError (β × Nat)) = _
  rw [h]
  rfl
theorem dk_map {α β : Type} {r : Reader DecodeError α} {g : α → β} {A : ByteArray} {p s : Nat} {a : α} (h : r A p = .ok (a, s)) : (g <$> r) A p = .ok (g a, s) := by
  show (do let (a, s) ← r A p; .ok (g a, s) : Except DecodeError (β × Nat)) = _
  rw [h]
  rfl
theorem dk_u2 {A : ByteArray} {p : Nat} {a b : UInt8} (h : A.data.toList[p]? = some a) (h2 : A.data.toList[p + 1]? = some b) : (Reader.u2 : Reader DecodeError Nat) A p = .ok (a.toNat * 256 + b.toNat, p + 2) := by
  show (Reader.u1 >>= fun hi => Reader.u1 >>= fun lo => Pure.pure (hi * 256 + lo) : Reader DecodeError Nat) A p = _
  rw [dk_bind (dk_u1 h), dk_bind (dk_u1 h2)]
  rfl
theorem dk_of {code : ByteArray} {pc n : Nat} {i : Instr} (h : Decoder.instr pc code pc = .ok (i, pc + n)) : decode code pc = .ok (i, n) := by
  have e : decode code pc = (match Decoder.instr pc code pc with | .error x => .error x | .ok (j, s) => .ok (j, s - pc)) := by
    show (do let (j, s) ← Decoder.instr pc code pc; Pure.pure (j, s - pc) : Except DecodeError (Instr × Nat)) = _
    cases Decoder.instr pc code pc <;> rfl
  rw [e, h]
  show Except.ok (i, pc + n - pc) = _
  rw [Nat.add_sub_cancel_left]
theorem dk_1 {code : ByteArray} {pc : Nat} (h : DkAt code pc [1]) : decode code pc = .ok (.aconst_null, 1) := dk_of ((dk_bind (dk_u1 (h 0 _ rfl))).trans rfl)
theorem dk_2 {code : ByteArray} {pc : Nat} (h : DkAt code pc [2]) : decode code pc = .ok (.iconst (-1), 1) := dk_of ((dk_bind (dk_u1 (h 0 _ rfl))).trans rfl)
theorem dk_3 {code : ByteArray} {pc : Nat} (h : DkAt code pc [3]) : decode code pc = .ok (.iconst 0, 1) := dk_of ((dk_bind (dk_u1 (h 0 _ rfl))).trans rfl)
theorem dk_4 {code : ByteArray} {pc : Nat} (h : DkAt code pc [4]) : decode code pc = .ok (.iconst 1, 1) := dk_of ((dk_bind (dk_u1 (h 0 _ rfl))).trans rfl)
theorem dk_5 {code : ByteArray} {pc : Nat} (h : DkAt code pc [5]) : decode code pc = .ok (.iconst 2, 1) := dk_of ((dk_bind (dk_u1 (h 0 _ rfl))).trans rfl)
theorem dk_6 {code : ByteArray} {pc : Nat} (h : DkAt code pc [6]) : decode code pc = .ok (.iconst 3, 1) := dk_of ((dk_bind (dk_u1 (h 0 _ rfl))).trans rfl)
theorem dk_7 {code : ByteArray} {pc : Nat} (h : DkAt code pc [7]) : decode code pc = .ok (.iconst 4, 1) := dk_of ((dk_bind (dk_u1 (h 0 _ rfl))).trans rfl)
theorem dk_8 {code : ByteArray} {pc : Nat} (h : DkAt code pc [8]) : decode code pc = .ok (.iconst 5, 1) := dk_of ((dk_bind (dk_u1 (h 0 _ rfl))).trans rfl)
theorem dk_9 {code : ByteArray} {pc : Nat} (h : DkAt code pc [9]) : decode code pc = .ok (.lconst 0, 1) := dk_of ((dk_bind (dk_u1 (h 0 _ rfl))).trans rfl)
theorem dk_10 {code : ByteArray} {pc : Nat} (h : DkAt code pc [10]) : decode code pc = .ok (.lconst 1, 1) := dk_of ((dk_bind (dk_u1 (h 0 _ rfl))).trans rfl)
theorem dk_11 {code : ByteArray} {pc : Nat} (h : DkAt code pc [11]) : decode code pc = .ok (.fconst 0, 1) := dk_of ((dk_bind (dk_u1 (h 0 _ rfl))).trans rfl)
theorem dk_14 {code : ByteArray} {pc : Nat} (h : DkAt code pc [14]) : decode code pc = .ok (.dconst 0, 1) := dk_of ((dk_bind (dk_u1 (h 0 _ rfl))).trans rfl)
theorem dk_16 {code : ByteArray} {pc : Nat} (a : UInt8) (h : DkAt code pc [16, a]) : decode code pc = .ok (.bipush (Reader.signed 8 a.toNat), 2) := dk_of ((dk_bind (dk_u1 (h 0 _ rfl))).trans ((dk_bind (dk_map (dk_u1 (h 1 _ rfl)))).trans rfl))
theorem dk_17 {code : ByteArray} {pc : Nat} (a b : UInt8) (h : DkAt code pc [17, a, b]) : decode code pc = .ok (.sipush (Reader.signed 16 (a.toNat * 256 + b.toNat)), 3) := dk_of ((dk_bind (dk_u1 (h 0 _ rfl))).trans ((dk_bind (dk_map (dk_u2 (h 1 _ rfl) (h 2 _ rfl)))).trans rfl))
theorem dk_18 {code : ByteArray} {pc : Nat} (a : UInt8) (h : DkAt code pc [18, a]) : decode code pc = .ok (.ldc a.toNat, 2) := dk_of ((dk_bind (dk_u1 (h 0 _ rfl))).trans ((dk_bind (dk_u1 (h 1 _ rfl))).trans rfl))
theorem dk_19 {code : ByteArray} {pc : Nat} (a b : UInt8) (h : DkAt code pc [19, a, b]) : decode code pc = .ok (.ldc_w (a.toNat * 256 + b.toNat), 3) := dk_of ((dk_bind (dk_u1 (h 0 _ rfl))).trans ((dk_bind (dk_u2 (h 1 _ rfl) (h 2 _ rfl))).trans rfl))
theorem dk_21 {code : ByteArray} {pc : Nat} (a : UInt8) (h : DkAt code pc [21, a]) : decode code pc = .ok (.iload a.toNat, 2) := dk_of ((dk_bind (dk_u1 (h 0 _ rfl))).trans ((dk_bind (dk_u1 (h 1 _ rfl))).trans rfl))
theorem dk_23 {code : ByteArray} {pc : Nat} (a : UInt8) (h : DkAt code pc [23, a]) : decode code pc = .ok (.fload a.toNat, 2) := dk_of ((dk_bind (dk_u1 (h 0 _ rfl))).trans ((dk_bind (dk_u1 (h 1 _ rfl))).trans rfl))
theorem dk_24 {code : ByteArray} {pc : Nat} (a : UInt8) (h : DkAt code pc [24, a]) : decode code pc = .ok (.dload a.toNat, 2) := dk_of ((dk_bind (dk_u1 (h 0 _ rfl))).trans ((dk_bind (dk_u1 (h 1 _ rfl))).trans rfl))
theorem dk_25 {code : ByteArray} {pc : Nat} (a : UInt8) (h : DkAt code pc [25, a]) : decode code pc = .ok (.aload a.toNat, 2) := dk_of ((dk_bind (dk_u1 (h 0 _ rfl))).trans ((dk_bind (dk_u1 (h 1 _ rfl))).trans rfl))
theorem dk_26 {code : ByteArray} {pc : Nat} (h : DkAt code pc [26]) : decode code pc = .ok (.iload_n 0, 1) := dk_of ((dk_bind (dk_u1 (h 0 _ rfl))).trans rfl)
theorem dk_27 {code : ByteArray} {pc : Nat} (h : DkAt code pc [27]) : decode code pc = .ok (.iload_n 1, 1) := dk_of ((dk_bind (dk_u1 (h 0 _ rfl))).trans rfl)
theorem dk_28 {code : ByteArray} {pc : Nat} (h : DkAt code pc [28]) : decode code pc = .ok (.iload_n 2, 1) := dk_of ((dk_bind (dk_u1 (h 0 _ rfl))).trans rfl)
theorem dk_29 {code : ByteArray} {pc : Nat} (h : DkAt code pc [29]) : decode code pc = .ok (.iload_n 3, 1) := dk_of ((dk_bind (dk_u1 (h 0 _ rfl))).trans rfl)
theorem dk_42 {code : ByteArray} {pc : Nat} (h : DkAt code pc [42]) : decode code pc = .ok (.aload_n 0, 1) := dk_of ((dk_bind (dk_u1 (h 0 _ rfl))).trans rfl)
theorem dk_43 {code : ByteArray} {pc : Nat} (h : DkAt code pc [43]) : decode code pc = .ok (.aload_n 1, 1) := dk_of ((dk_bind (dk_u1 (h 0 _ rfl))).trans rfl)
theorem dk_44 {code : ByteArray} {pc : Nat} (h : DkAt code pc [44]) : decode code pc = .ok (.aload_n 2, 1) := dk_of ((dk_bind (dk_u1 (h 0 _ rfl))).trans rfl)
theorem dk_45 {code : ByteArray} {pc : Nat} (h : DkAt code pc [45]) : decode code pc = .ok (.aload_n 3, 1) := dk_of ((dk_bind (dk_u1 (h 0 _ rfl))).trans rfl)
theorem dk_46 {code : ByteArray} {pc : Nat} (h : DkAt code pc [46]) : decode code pc = .ok (.iaload, 1) := dk_of ((dk_bind (dk_u1 (h 0 _ rfl))).trans rfl)
theorem dk_47 {code : ByteArray} {pc : Nat} (h : DkAt code pc [47]) : decode code pc = .ok (.laload, 1) := dk_of ((dk_bind (dk_u1 (h 0 _ rfl))).trans rfl)
theorem dk_49 {code : ByteArray} {pc : Nat} (h : DkAt code pc [49]) : decode code pc = .ok (.daload, 1) := dk_of ((dk_bind (dk_u1 (h 0 _ rfl))).trans rfl)
theorem dk_50 {code : ByteArray} {pc : Nat} (h : DkAt code pc [50]) : decode code pc = .ok (.aaload, 1) := dk_of ((dk_bind (dk_u1 (h 0 _ rfl))).trans rfl)
theorem dk_51 {code : ByteArray} {pc : Nat} (h : DkAt code pc [51]) : decode code pc = .ok (.baload, 1) := dk_of ((dk_bind (dk_u1 (h 0 _ rfl))).trans rfl)
theorem dk_52 {code : ByteArray} {pc : Nat} (h : DkAt code pc [52]) : decode code pc = .ok (.caload, 1) := dk_of ((dk_bind (dk_u1 (h 0 _ rfl))).trans rfl)
theorem dk_54 {code : ByteArray} {pc : Nat} (a : UInt8) (h : DkAt code pc [54, a]) : decode code pc = .ok (.istore a.toNat, 2) := dk_of ((dk_bind (dk_u1 (h 0 _ rfl))).trans ((dk_bind (dk_u1 (h 1 _ rfl))).trans rfl))
theorem dk_56 {code : ByteArray} {pc : Nat} (a : UInt8) (h : DkAt code pc [56, a]) : decode code pc = .ok (.fstore a.toNat, 2) := dk_of ((dk_bind (dk_u1 (h 0 _ rfl))).trans ((dk_bind (dk_u1 (h 1 _ rfl))).trans rfl))
theorem dk_57 {code : ByteArray} {pc : Nat} (a : UInt8) (h : DkAt code pc [57, a]) : decode code pc = .ok (.dstore a.toNat, 2) := dk_of ((dk_bind (dk_u1 (h 0 _ rfl))).trans ((dk_bind (dk_u1 (h 1 _ rfl))).trans rfl))
theorem dk_58 {code : ByteArray} {pc : Nat} (a : UInt8) (h : DkAt code pc [58, a]) : decode code pc = .ok (.astore a.toNat, 2) := dk_of ((dk_bind (dk_u1 (h 0 _ rfl))).trans ((dk_bind (dk_u1 (h 1 _ rfl))).trans rfl))
theorem dk_59 {code : ByteArray} {pc : Nat} (h : DkAt code pc [59]) : decode code pc = .ok (.istore_n 0, 1) := dk_of ((dk_bind (dk_u1 (h 0 _ rfl))).trans rfl)
theorem dk_60 {code : ByteArray} {pc : Nat} (h : DkAt code pc [60]) : decode code pc = .ok (.istore_n 1, 1) := dk_of ((dk_bind (dk_u1 (h 0 _ rfl))).trans rfl)
theorem dk_61 {code : ByteArray} {pc : Nat} (h : DkAt code pc [61]) : decode code pc = .ok (.istore_n 2, 1) := dk_of ((dk_bind (dk_u1 (h 0 _ rfl))).trans rfl)
theorem dk_62 {code : ByteArray} {pc : Nat} (h : DkAt code pc [62]) : decode code pc = .ok (.istore_n 3, 1) := dk_of ((dk_bind (dk_u1 (h 0 _ rfl))).trans rfl)
theorem dk_76 {code : ByteArray} {pc : Nat} (h : DkAt code pc [76]) : decode code pc = .ok (.astore_n 1, 1) := dk_of ((dk_bind (dk_u1 (h 0 _ rfl))).trans rfl)
theorem dk_77 {code : ByteArray} {pc : Nat} (h : DkAt code pc [77]) : decode code pc = .ok (.astore_n 2, 1) := dk_of ((dk_bind (dk_u1 (h 0 _ rfl))).trans rfl)
theorem dk_78 {code : ByteArray} {pc : Nat} (h : DkAt code pc [78]) : decode code pc = .ok (.astore_n 3, 1) := dk_of ((dk_bind (dk_u1 (h 0 _ rfl))).trans rfl)
theorem dk_79 {code : ByteArray} {pc : Nat} (h : DkAt code pc [79]) : decode code pc = .ok (.iastore, 1) := dk_of ((dk_bind (dk_u1 (h 0 _ rfl))).trans rfl)
theorem dk_80 {code : ByteArray} {pc : Nat} (h : DkAt code pc [80]) : decode code pc = .ok (.lastore, 1) := dk_of ((dk_bind (dk_u1 (h 0 _ rfl))).trans rfl)
theorem dk_82 {code : ByteArray} {pc : Nat} (h : DkAt code pc [82]) : decode code pc = .ok (.dastore, 1) := dk_of ((dk_bind (dk_u1 (h 0 _ rfl))).trans rfl)
theorem dk_83 {code : ByteArray} {pc : Nat} (h : DkAt code pc [83]) : decode code pc = .ok (.aastore, 1) := dk_of ((dk_bind (dk_u1 (h 0 _ rfl))).trans rfl)
theorem dk_84 {code : ByteArray} {pc : Nat} (h : DkAt code pc [84]) : decode code pc = .ok (.bastore, 1) := dk_of ((dk_bind (dk_u1 (h 0 _ rfl))).trans rfl)
theorem dk_85 {code : ByteArray} {pc : Nat} (h : DkAt code pc [85]) : decode code pc = .ok (.castore, 1) := dk_of ((dk_bind (dk_u1 (h 0 _ rfl))).trans rfl)
theorem dk_87 {code : ByteArray} {pc : Nat} (h : DkAt code pc [87]) : decode code pc = .ok (.pop, 1) := dk_of ((dk_bind (dk_u1 (h 0 _ rfl))).trans rfl)
theorem dk_89 {code : ByteArray} {pc : Nat} (h : DkAt code pc [89]) : decode code pc = .ok (.dup, 1) := dk_of ((dk_bind (dk_u1 (h 0 _ rfl))).trans rfl)
theorem dk_90 {code : ByteArray} {pc : Nat} (h : DkAt code pc [90]) : decode code pc = .ok (.dup_x1, 1) := dk_of ((dk_bind (dk_u1 (h 0 _ rfl))).trans rfl)
theorem dk_92 {code : ByteArray} {pc : Nat} (h : DkAt code pc [92]) : decode code pc = .ok (.dup2, 1) := dk_of ((dk_bind (dk_u1 (h 0 _ rfl))).trans rfl)
theorem dk_96 {code : ByteArray} {pc : Nat} (h : DkAt code pc [96]) : decode code pc = .ok (.iadd, 1) := dk_of ((dk_bind (dk_u1 (h 0 _ rfl))).trans rfl)
theorem dk_100 {code : ByteArray} {pc : Nat} (h : DkAt code pc [100]) : decode code pc = .ok (.isub, 1) := dk_of ((dk_bind (dk_u1 (h 0 _ rfl))).trans rfl)
theorem dk_104 {code : ByteArray} {pc : Nat} (h : DkAt code pc [104]) : decode code pc = .ok (.imul, 1) := dk_of ((dk_bind (dk_u1 (h 0 _ rfl))).trans rfl)
theorem dk_108 {code : ByteArray} {pc : Nat} (h : DkAt code pc [108]) : decode code pc = .ok (.idiv, 1) := dk_of ((dk_bind (dk_u1 (h 0 _ rfl))).trans rfl)
theorem dk_110 {code : ByteArray} {pc : Nat} (h : DkAt code pc [110]) : decode code pc = .ok (.fdiv, 1) := dk_of ((dk_bind (dk_u1 (h 0 _ rfl))).trans rfl)
theorem dk_111 {code : ByteArray} {pc : Nat} (h : DkAt code pc [111]) : decode code pc = .ok (.ddiv, 1) := dk_of ((dk_bind (dk_u1 (h 0 _ rfl))).trans rfl)
theorem dk_116 {code : ByteArray} {pc : Nat} (h : DkAt code pc [116]) : decode code pc = .ok (.ineg, 1) := dk_of ((dk_bind (dk_u1 (h 0 _ rfl))).trans rfl)
theorem dk_120 {code : ByteArray} {pc : Nat} (h : DkAt code pc [120]) : decode code pc = .ok (.ishl, 1) := dk_of ((dk_bind (dk_u1 (h 0 _ rfl))).trans rfl)
theorem dk_122 {code : ByteArray} {pc : Nat} (h : DkAt code pc [122]) : decode code pc = .ok (.ishr, 1) := dk_of ((dk_bind (dk_u1 (h 0 _ rfl))).trans rfl)
theorem dk_124 {code : ByteArray} {pc : Nat} (h : DkAt code pc [124]) : decode code pc = .ok (.iushr, 1) := dk_of ((dk_bind (dk_u1 (h 0 _ rfl))).trans rfl)
theorem dk_126 {code : ByteArray} {pc : Nat} (h : DkAt code pc [126]) : decode code pc = .ok (.iand, 1) := dk_of ((dk_bind (dk_u1 (h 0 _ rfl))).trans rfl)
theorem dk_128 {code : ByteArray} {pc : Nat} (h : DkAt code pc [128]) : decode code pc = .ok (.ior, 1) := dk_of ((dk_bind (dk_u1 (h 0 _ rfl))).trans rfl)
theorem dk_130 {code : ByteArray} {pc : Nat} (h : DkAt code pc [130]) : decode code pc = .ok (.ixor, 1) := dk_of ((dk_bind (dk_u1 (h 0 _ rfl))).trans rfl)
theorem dk_132 {code : ByteArray} {pc : Nat} (a b : UInt8) (h : DkAt code pc [132, a, b]) : decode code pc = .ok (.iinc a.toNat (Reader.signed 8 b.toNat), 3) := dk_of ((dk_bind (dk_u1 (h 0 _ rfl))).trans ((dk_bind (dk_u1 (h 1 _ rfl))).trans ((dk_bind (dk_map (dk_u1 (h 2 _ rfl)))).trans rfl)))
theorem dk_133 {code : ByteArray} {pc : Nat} (h : DkAt code pc [133]) : decode code pc = .ok (.i2l, 1) := dk_of ((dk_bind (dk_u1 (h 0 _ rfl))).trans rfl)
theorem dk_134 {code : ByteArray} {pc : Nat} (h : DkAt code pc [134]) : decode code pc = .ok (.i2f, 1) := dk_of ((dk_bind (dk_u1 (h 0 _ rfl))).trans rfl)
theorem dk_135 {code : ByteArray} {pc : Nat} (h : DkAt code pc [135]) : decode code pc = .ok (.i2d, 1) := dk_of ((dk_bind (dk_u1 (h 0 _ rfl))).trans rfl)
theorem dk_141 {code : ByteArray} {pc : Nat} (h : DkAt code pc [141]) : decode code pc = .ok (.f2d, 1) := dk_of ((dk_bind (dk_u1 (h 0 _ rfl))).trans rfl)
theorem dk_145 {code : ByteArray} {pc : Nat} (h : DkAt code pc [145]) : decode code pc = .ok (.i2b, 1) := dk_of ((dk_bind (dk_u1 (h 0 _ rfl))).trans rfl)
theorem dk_146 {code : ByteArray} {pc : Nat} (h : DkAt code pc [146]) : decode code pc = .ok (.i2c, 1) := dk_of ((dk_bind (dk_u1 (h 0 _ rfl))).trans rfl)
theorem dk_148 {code : ByteArray} {pc : Nat} (h : DkAt code pc [148]) : decode code pc = .ok (.lcmp, 1) := dk_of ((dk_bind (dk_u1 (h 0 _ rfl))).trans rfl)
theorem dk_149 {code : ByteArray} {pc : Nat} (h : DkAt code pc [149]) : decode code pc = .ok (.fcmp .l, 1) := dk_of ((dk_bind (dk_u1 (h 0 _ rfl))).trans rfl)
theorem dk_151 {code : ByteArray} {pc : Nat} (h : DkAt code pc [151]) : decode code pc = .ok (.dcmp .l, 1) := dk_of ((dk_bind (dk_u1 (h 0 _ rfl))).trans rfl)
theorem dk_153 {code : ByteArray} {pc : Nat} (a b : UInt8) (h : DkAt code pc [153, a, b]) : decode code pc = .ok (.ifCond .eq (Reader.signed 16 (a.toNat * 256 + b.toNat)), 3) := dk_of ((dk_bind (dk_u1 (h 0 _ rfl))).trans ((dk_bind (dk_map (dk_u2 (h 1 _ rfl) (h 2 _ rfl)))).trans rfl))
theorem dk_154 {code : ByteArray} {pc : Nat} (a b : UInt8) (h : DkAt code pc [154, a, b]) : decode code pc = .ok (.ifCond .ne (Reader.signed 16 (a.toNat * 256 + b.toNat)), 3) := dk_of ((dk_bind (dk_u1 (h 0 _ rfl))).trans ((dk_bind (dk_map (dk_u2 (h 1 _ rfl) (h 2 _ rfl)))).trans rfl))
theorem dk_155 {code : ByteArray} {pc : Nat} (a b : UInt8) (h : DkAt code pc [155, a, b]) : decode code pc = .ok (.ifCond .lt (Reader.signed 16 (a.toNat * 256 + b.toNat)), 3) := dk_of ((dk_bind (dk_u1 (h 0 _ rfl))).trans ((dk_bind (dk_map (dk_u2 (h 1 _ rfl) (h 2 _ rfl)))).trans rfl))
theorem dk_156 {code : ByteArray} {pc : Nat} (a b : UInt8) (h : DkAt code pc [156, a, b]) : decode code pc = .ok (.ifCond .ge (Reader.signed 16 (a.toNat * 256 + b.toNat)), 3) := dk_of ((dk_bind (dk_u1 (h 0 _ rfl))).trans ((dk_bind (dk_map (dk_u2 (h 1 _ rfl) (h 2 _ rfl)))).trans rfl))
theorem dk_157 {code : ByteArray} {pc : Nat} (a b : UInt8) (h : DkAt code pc [157, a, b]) : decode code pc = .ok (.ifCond .gt (Reader.signed 16 (a.toNat * 256 + b.toNat)), 3) := dk_of ((dk_bind (dk_u1 (h 0 _ rfl))).trans ((dk_bind (dk_map (dk_u2 (h 1 _ rfl) (h 2 _ rfl)))).trans rfl))
theorem dk_158 {code : ByteArray} {pc : Nat} (a b : UInt8) (h : DkAt code pc [158, a, b]) : decode code pc = .ok (.ifCond .le (Reader.signed 16 (a.toNat * 256 + b.toNat)), 3) := dk_of ((dk_bind (dk_u1 (h 0 _ rfl))).trans ((dk_bind (dk_map (dk_u2 (h 1 _ rfl) (h 2 _ rfl)))).trans rfl))
theorem dk_159 {code : ByteArray} {pc : Nat} (a b : UInt8) (h : DkAt code pc [159, a, b]) : decode code pc = .ok (.if_icmp .eq (Reader.signed 16 (a.toNat * 256 + b.toNat)), 3) := dk_of ((dk_bind (dk_u1 (h 0 _ rfl))).trans ((dk_bind (dk_map (dk_u2 (h 1 _ rfl) (h 2 _ rfl)))).trans rfl))
theorem dk_160 {code : ByteArray} {pc : Nat} (a b : UInt8) (h : DkAt code pc [160, a, b]) : decode code pc = .ok (.if_icmp .ne (Reader.signed 16 (a.toNat * 256 + b.toNat)), 3) := dk_of ((dk_bind (dk_u1 (h 0 _ rfl))).trans ((dk_bind (dk_map (dk_u2 (h 1 _ rfl) (h 2 _ rfl)))).trans rfl))
theorem dk_161 {code : ByteArray} {pc : Nat} (a b : UInt8) (h : DkAt code pc [161, a, b]) : decode code pc = .ok (.if_icmp .lt (Reader.signed 16 (a.toNat * 256 + b.toNat)), 3) := dk_of ((dk_bind (dk_u1 (h 0 _ rfl))).trans ((dk_bind (dk_map (dk_u2 (h 1 _ rfl) (h 2 _ rfl)))).trans rfl))
theorem dk_162 {code : ByteArray} {pc : Nat} (a b : UInt8) (h : DkAt code pc [162, a, b]) : decode code pc = .ok (.if_icmp .ge (Reader.signed 16 (a.toNat * 256 + b.toNat)), 3) := dk_of ((dk_bind (dk_u1 (h 0 _ rfl))).trans ((dk_bind (dk_map (dk_u2 (h 1 _ rfl) (h 2 _ rfl)))).trans rfl))
theorem dk_163 {code : ByteArray} {pc : Nat} (a b : UInt8) (h : DkAt code pc [163, a, b]) : decode code pc = .ok (.if_icmp .gt (Reader.signed 16 (a.toNat * 256 + b.toNat)), 3) := dk_of ((dk_bind (dk_u1 (h 0 _ rfl))).trans ((dk_bind (dk_map (dk_u2 (h 1 _ rfl) (h 2 _ rfl)))).trans rfl))
theorem dk_164 {code : ByteArray} {pc : Nat} (a b : UInt8) (h : DkAt code pc [164, a, b]) : decode code pc = .ok (.if_icmp .le (Reader.signed 16 (a.toNat * 256 + b.toNat)), 3) := dk_of ((dk_bind (dk_u1 (h 0 _ rfl))).trans ((dk_bind (dk_map (dk_u2 (h 1 _ rfl) (h 2 _ rfl)))).trans rfl))
theorem dk_165 {code : ByteArray} {pc : Nat} (a b : UInt8) (h : DkAt code pc [165, a, b]) : decode code pc = .ok (.if_acmp .eq (Reader.signed 16 (a.toNat * 256 + b.toNat)), 3) := dk_of ((dk_bind (dk_u1 (h 0 _ rfl))).trans ((dk_bind (dk_map (dk_u2 (h 1 _ rfl) (h 2 _ rfl)))).trans rfl))
theorem dk_166 {code : ByteArray} {pc : Nat} (a b : UInt8) (h : DkAt code pc [166, a, b]) : decode code pc = .ok (.if_acmp .ne (Reader.signed 16 (a.toNat * 256 + b.toNat)), 3) := dk_of ((dk_bind (dk_u1 (h 0 _ rfl))).trans ((dk_bind (dk_map (dk_u2 (h 1 _ rfl) (h 2 _ rfl)))).trans rfl))
theorem dk_167 {code : ByteArray} {pc : Nat} (a b : UInt8) (h : DkAt code pc [167, a, b]) : decode code pc = .ok (.goto (Reader.signed 16 (a.toNat * 256 + b.toNat)), 3) := dk_of ((dk_bind (dk_u1 (h 0 _ rfl))).trans ((dk_bind (dk_map (dk_u2 (h 1 _ rfl) (h 2 _ rfl)))).trans rfl))
theorem dk_172 {code : ByteArray} {pc : Nat} (h : DkAt code pc [172]) : decode code pc = .ok (.ireturn, 1) := dk_of ((dk_bind (dk_u1 (h 0 _ rfl))).trans rfl)
theorem dk_174 {code : ByteArray} {pc : Nat} (h : DkAt code pc [174]) : decode code pc = .ok (.freturn, 1) := dk_of ((dk_bind (dk_u1 (h 0 _ rfl))).trans rfl)
theorem dk_175 {code : ByteArray} {pc : Nat} (h : DkAt code pc [175]) : decode code pc = .ok (.dreturn, 1) := dk_of ((dk_bind (dk_u1 (h 0 _ rfl))).trans rfl)
theorem dk_176 {code : ByteArray} {pc : Nat} (h : DkAt code pc [176]) : decode code pc = .ok (.areturn, 1) := dk_of ((dk_bind (dk_u1 (h 0 _ rfl))).trans rfl)
theorem dk_177 {code : ByteArray} {pc : Nat} (h : DkAt code pc [177]) : decode code pc = .ok (.return_, 1) := dk_of ((dk_bind (dk_u1 (h 0 _ rfl))).trans rfl)
theorem dk_178 {code : ByteArray} {pc : Nat} (a b : UInt8) (h : DkAt code pc [178, a, b]) : decode code pc = .ok (.getstatic (a.toNat * 256 + b.toNat), 3) := dk_of ((dk_bind (dk_u1 (h 0 _ rfl))).trans ((dk_bind (dk_u2 (h 1 _ rfl) (h 2 _ rfl))).trans rfl))
theorem dk_180 {code : ByteArray} {pc : Nat} (a b : UInt8) (h : DkAt code pc [180, a, b]) : decode code pc = .ok (.getfield (a.toNat * 256 + b.toNat), 3) := dk_of ((dk_bind (dk_u1 (h 0 _ rfl))).trans ((dk_bind (dk_u2 (h 1 _ rfl) (h 2 _ rfl))).trans rfl))
theorem dk_181 {code : ByteArray} {pc : Nat} (a b : UInt8) (h : DkAt code pc [181, a, b]) : decode code pc = .ok (.putfield (a.toNat * 256 + b.toNat), 3) := dk_of ((dk_bind (dk_u1 (h 0 _ rfl))).trans ((dk_bind (dk_u2 (h 1 _ rfl) (h 2 _ rfl))).trans rfl))
theorem dk_182 {code : ByteArray} {pc : Nat} (a b : UInt8) (h : DkAt code pc [182, a, b]) : decode code pc = .ok (.invokevirtual (a.toNat * 256 + b.toNat), 3) := dk_of ((dk_bind (dk_u1 (h 0 _ rfl))).trans ((dk_bind (dk_u2 (h 1 _ rfl) (h 2 _ rfl))).trans rfl))
theorem dk_183 {code : ByteArray} {pc : Nat} (a b : UInt8) (h : DkAt code pc [183, a, b]) : decode code pc = .ok (.invokespecial (a.toNat * 256 + b.toNat), 3) := dk_of ((dk_bind (dk_u1 (h 0 _ rfl))).trans ((dk_bind (dk_u2 (h 1 _ rfl) (h 2 _ rfl))).trans rfl))
theorem dk_184 {code : ByteArray} {pc : Nat} (a b : UInt8) (h : DkAt code pc [184, a, b]) : decode code pc = .ok (.invokestatic (a.toNat * 256 + b.toNat), 3) := dk_of ((dk_bind (dk_u1 (h 0 _ rfl))).trans ((dk_bind (dk_u2 (h 1 _ rfl) (h 2 _ rfl))).trans rfl))
theorem dk_187 {code : ByteArray} {pc : Nat} (a b : UInt8) (h : DkAt code pc [187, a, b]) : decode code pc = .ok (.new (a.toNat * 256 + b.toNat), 3) := dk_of ((dk_bind (dk_u1 (h 0 _ rfl))).trans ((dk_bind (dk_u2 (h 1 _ rfl) (h 2 _ rfl))).trans rfl))
theorem dk_188_5 {code : ByteArray} {pc : Nat} (h : DkAt code pc [188, 5]) : decode code pc = .ok (.newarray .char, 2) := dk_of ((dk_bind (dk_u1 (h 0 _ rfl))).trans ((dk_bind (dk_u1 (h 1 _ rfl))).trans rfl))
theorem dk_188_7 {code : ByteArray} {pc : Nat} (h : DkAt code pc [188, 7]) : decode code pc = .ok (.newarray .double, 2) := dk_of ((dk_bind (dk_u1 (h 0 _ rfl))).trans ((dk_bind (dk_u1 (h 1 _ rfl))).trans rfl))
theorem dk_188_8 {code : ByteArray} {pc : Nat} (h : DkAt code pc [188, 8]) : decode code pc = .ok (.newarray .byte, 2) := dk_of ((dk_bind (dk_u1 (h 0 _ rfl))).trans ((dk_bind (dk_u1 (h 1 _ rfl))).trans rfl))
theorem dk_188_10 {code : ByteArray} {pc : Nat} (h : DkAt code pc [188, 10]) : decode code pc = .ok (.newarray .int, 2) := dk_of ((dk_bind (dk_u1 (h 0 _ rfl))).trans ((dk_bind (dk_u1 (h 1 _ rfl))).trans rfl))
theorem dk_188_11 {code : ByteArray} {pc : Nat} (h : DkAt code pc [188, 11]) : decode code pc = .ok (.newarray .long, 2) := dk_of ((dk_bind (dk_u1 (h 0 _ rfl))).trans ((dk_bind (dk_u1 (h 1 _ rfl))).trans rfl))
theorem dk_189 {code : ByteArray} {pc : Nat} (a b : UInt8) (h : DkAt code pc [189, a, b]) : decode code pc = .ok (.anewarray (a.toNat * 256 + b.toNat), 3) := dk_of ((dk_bind (dk_u1 (h 0 _ rfl))).trans ((dk_bind (dk_u2 (h 1 _ rfl) (h 2 _ rfl))).trans rfl))
theorem dk_190 {code : ByteArray} {pc : Nat} (h : DkAt code pc [190]) : decode code pc = .ok (.arraylength, 1) := dk_of ((dk_bind (dk_u1 (h 0 _ rfl))).trans rfl)
theorem dk_191 {code : ByteArray} {pc : Nat} (h : DkAt code pc [191]) : decode code pc = .ok (.athrow, 1) := dk_of ((dk_bind (dk_u1 (h 0 _ rfl))).trans rfl)
theorem dk_192 {code : ByteArray} {pc : Nat} (a b : UInt8) (h : DkAt code pc [192, a, b]) : decode code pc = .ok (.checkcast (a.toNat * 256 + b.toNat), 3) := dk_of ((dk_bind (dk_u1 (h 0 _ rfl))).trans ((dk_bind (dk_u2 (h 1 _ rfl) (h 2 _ rfl))).trans rfl))
theorem dk_198 {code : ByteArray} {pc : Nat} (a b : UInt8) (h : DkAt code pc [198, a, b]) : decode code pc = .ok (.ifnull (Reader.signed 16 (a.toNat * 256 + b.toNat)), 3) := dk_of ((dk_bind (dk_u1 (h 0 _ rfl))).trans ((dk_bind (dk_map (dk_u2 (h 1 _ rfl) (h 2 _ rfl)))).trans rfl))
theorem dk_199 {code : ByteArray} {pc : Nat} (a b : UInt8) (h : DkAt code pc [199, a, b]) : decode code pc = .ok (.ifnonnull (Reader.signed 16 (a.toNat * 256 + b.toNat)), 3) := dk_of ((dk_bind (dk_u1 (h 0 _ rfl))).trans ((dk_bind (dk_map (dk_u2 (h 1 _ rfl) (h 2 _ rfl)))).trans rfl))

def dkwX3_add_2 : List UInt8 := [181, 0, 30, 42, 180, 0, 30, 4, 100, 172]
abbrev dktX3_add_2 : List UInt8 := dkwX3_add_2 ++ []
def dkwX3_add_1 : List UInt8 := [42, 180, 0, 30, 3, 79, 42, 180, 0, 21, 42, 180, 0, 30, 29, 79, 42, 89, 180, 0, 30, 4, 96]
abbrev dktX3_add_1 : List UInt8 := dkwX3_add_1 ++ dktX3_add_2
def dkwX3_add_0 : List UInt8 := [42, 180, 0, 9, 42, 180, 0, 30, 27, 79, 42, 180, 0, 15, 42, 180, 0, 30, 28, 79, 42, 180, 0, 18]
abbrev dktX3_add_0 : List UInt8 := dkwX3_add_0 ++ dktX3_add_1
theorem dksX3_add_0 : cX3_add.data.toList.drop 0 = dktX3_add_0 := by decide +kernel
theorem dksX3_add_1 : cX3_add.data.toList.drop 24 = dktX3_add_1 := dk_seg dksX3_add_0 24 rfl rfl
theorem dksX3_add_2 : cX3_add.data.toList.drop 47 = dktX3_add_2 := dk_seg dksX3_add_1 23 rfl rfl
theorem dX3_add_0 : decode cX3_add 0 = .ok (.aload_n 0, 1) := dk_42 (dk_at dksX3_add_0 0 rfl rfl)
theorem dX3_add_1 : decode cX3_add 1 = .ok (.getfield 9, 3) := dk_180 0 9 (dk_at dksX3_add_0 1 rfl rfl)
theorem dX3_add_4 : decode cX3_add 4 = .ok (.aload_n 0, 1) := dk_42 (dk_at dksX3_add_0 4 rfl rfl)
theorem dX3_add_5 : decode cX3_add 5 = .ok (.getfield 30, 3) := dk_180 0 30 (dk_at dksX3_add_0 5 rfl rfl)
theorem dX3_add_8 : decode cX3_add 8 = .ok (.iload_n 1, 1) := dk_27 (dk_at dksX3_add_0 8 rfl rfl)
theorem dX3_add_9 : decode cX3_add 9 = .ok (.iastore, 1) := dk_79 (dk_at dksX3_add_0 9 rfl rfl)
theorem dX3_add_10 : decode cX3_add 10 = .ok (.aload_n 0, 1) := dk_42 (dk_at dksX3_add_0 10 rfl rfl)
theorem dX3_add_11 : decode cX3_add 11 = .ok (.getfield 15, 3) := dk_180 0 15 (dk_at dksX3_add_0 11 rfl rfl)
theorem dX3_add_14 : decode cX3_add 14 = .ok (.aload_n 0, 1) := dk_42 (dk_at dksX3_add_0 14 rfl rfl)
theorem dX3_add_15 : decode cX3_add 15 = .ok (.getfield 30, 3) := dk_180 0 30 (dk_at dksX3_add_0 15 rfl rfl)
theorem dX3_add_18 : decode cX3_add 18 = .ok (.iload_n 2, 1) := dk_28 (dk_at dksX3_add_0 18 rfl rfl)
theorem dX3_add_19 : decode cX3_add 19 = .ok (.iastore, 1) := dk_79 (dk_at dksX3_add_0 19 rfl rfl)
theorem dX3_add_20 : decode cX3_add 20 = .ok (.aload_n 0, 1) := dk_42 (dk_at dksX3_add_0 20 rfl rfl)
theorem dX3_add_21 : decode cX3_add 21 = .ok (.getfield 18, 3) := dk_180 0 18 (dk_at dksX3_add_0 21 rfl rfl)
theorem dX3_add_24 : decode cX3_add 24 = .ok (.aload_n 0, 1) := dk_42 (dk_at dksX3_add_1 0 rfl rfl)
theorem dX3_add_25 : decode cX3_add 25 = .ok (.getfield 30, 3) := dk_180 0 30 (dk_at dksX3_add_1 1 rfl rfl)
theorem dX3_add_28 : decode cX3_add 28 = .ok (.iconst 0, 1) := dk_3 (dk_at dksX3_add_1 4 rfl rfl)
theorem dX3_add_29 : decode cX3_add 29 = .ok (.iastore, 1) := dk_79 (dk_at dksX3_add_1 5 rfl rfl)
theorem dX3_add_30 : decode cX3_add 30 = .ok (.aload_n 0, 1) := dk_42 (dk_at dksX3_add_1 6 rfl rfl)
theorem dX3_add_31 : decode cX3_add 31 = .ok (.getfield 21, 3) := dk_180 0 21 (dk_at dksX3_add_1 7 rfl rfl)
theorem dX3_add_34 : decode cX3_add 34 = .ok (.aload_n 0, 1) := dk_42 (dk_at dksX3_add_1 10 rfl rfl)
theorem dX3_add_35 : decode cX3_add 35 = .ok (.getfield 30, 3) := dk_180 0 30 (dk_at dksX3_add_1 11 rfl rfl)
theorem dX3_add_38 : decode cX3_add 38 = .ok (.iload_n 3, 1) := dk_29 (dk_at dksX3_add_1 14 rfl rfl)
theorem dX3_add_39 : decode cX3_add 39 = .ok (.iastore, 1) := dk_79 (dk_at dksX3_add_1 15 rfl rfl)
theorem dX3_add_40 : decode cX3_add 40 = .ok (.aload_n 0, 1) := dk_42 (dk_at dksX3_add_1 16 rfl rfl)
theorem dX3_add_41 : decode cX3_add 41 = .ok (.dup, 1) := dk_89 (dk_at dksX3_add_1 17 rfl rfl)
theorem dX3_add_42 : decode cX3_add 42 = .ok (.getfield 30, 3) := dk_180 0 30 (dk_at dksX3_add_1 18 rfl rfl)
theorem dX3_add_45 : decode cX3_add 45 = .ok (.iconst 1, 1) := dk_4 (dk_at dksX3_add_1 21 rfl rfl)
theorem dX3_add_46 : decode cX3_add 46 = .ok (.iadd, 1) := dk_96 (dk_at dksX3_add_1 22 rfl rfl)
theorem dX3_add_47 : decode cX3_add 47 = .ok (.putfield 30, 3) := dk_181 0 30 (dk_at dksX3_add_2 0 rfl rfl)
theorem dX3_add_50 : decode cX3_add 50 = .ok (.aload_n 0, 1) := dk_42 (dk_at dksX3_add_2 3 rfl rfl)
theorem dX3_add_51 : decode cX3_add 51 = .ok (.getfield 30, 3) := dk_180 0 30 (dk_at dksX3_add_2 4 rfl rfl)
theorem dX3_add_54 : decode cX3_add 54 = .ok (.iconst 1, 1) := dk_4 (dk_at dksX3_add_2 7 rfl rfl)
theorem dX3_add_55 : decode cX3_add 55 = .ok (.isub, 1) := dk_100 (dk_at dksX3_add_2 8 rfl rfl)
theorem dX3_add_56 : decode cX3_add 56 = .ok (.ireturn, 1) := dk_172 (dk_at dksX3_add_2 9 rfl rfl)
def dkwX3_tidy_3 : List UInt8 := [132, 1, 1, 132, 2, 1, 167, 255, 185, 42, 27, 181, 0, 30, 177]
abbrev dktX3_tidy_3 : List UInt8 := dkwX3_tidy_3 ++ []
def dkwX3_tidy_2 : List UInt8 := [180, 0, 18, 27, 42, 180, 0, 18, 28, 46, 79, 42, 180, 0, 21, 27, 42, 180, 0, 21, 28, 46, 79]
abbrev dktX3_tidy_2 : List UInt8 := dkwX3_tidy_2 ++ dktX3_tidy_3
def dkwX3_tidy_1 : List UInt8 := [180, 0, 9, 27, 42, 180, 0, 9, 28, 46, 79, 42, 180, 0, 15, 27, 42, 180, 0, 15, 28, 46, 79, 42]
abbrev dktX3_tidy_1 : List UInt8 := dkwX3_tidy_1 ++ dktX3_tidy_2
def dkwX3_tidy_0 : List UInt8 := [3, 60, 3, 61, 28, 42, 180, 0, 30, 162, 0, 69, 42, 180, 0, 15, 28, 46, 158, 0, 54, 42]
abbrev dktX3_tidy_0 : List UInt8 := dkwX3_tidy_0 ++ dktX3_tidy_1
theorem dksX3_tidy_0 : cX3_tidy.data.toList.drop 0 = dktX3_tidy_0 := by decide +kernel
theorem dksX3_tidy_1 : cX3_tidy.data.toList.drop 22 = dktX3_tidy_1 := dk_seg dksX3_tidy_0 22 rfl rfl
theorem dksX3_tidy_2 : cX3_tidy.data.toList.drop 46 = dktX3_tidy_2 := dk_seg dksX3_tidy_1 24 rfl rfl
theorem dksX3_tidy_3 : cX3_tidy.data.toList.drop 69 = dktX3_tidy_3 := dk_seg dksX3_tidy_2 23 rfl rfl
theorem dX3_tidy_0 : decode cX3_tidy 0 = .ok (.iconst 0, 1) := dk_3 (dk_at dksX3_tidy_0 0 rfl rfl)
theorem dX3_tidy_1 : decode cX3_tidy 1 = .ok (.istore_n 1, 1) := dk_60 (dk_at dksX3_tidy_0 1 rfl rfl)
theorem dX3_tidy_2 : decode cX3_tidy 2 = .ok (.iconst 0, 1) := dk_3 (dk_at dksX3_tidy_0 2 rfl rfl)
theorem dX3_tidy_3 : decode cX3_tidy 3 = .ok (.istore_n 2, 1) := dk_61 (dk_at dksX3_tidy_0 3 rfl rfl)
theorem dX3_tidy_4 : decode cX3_tidy 4 = .ok (.iload_n 2, 1) := dk_28 (dk_at dksX3_tidy_0 4 rfl rfl)
theorem dX3_tidy_5 : decode cX3_tidy 5 = .ok (.aload_n 0, 1) := dk_42 (dk_at dksX3_tidy_0 5 rfl rfl)
theorem dX3_tidy_6 : decode cX3_tidy 6 = .ok (.getfield 30, 3) := dk_180 0 30 (dk_at dksX3_tidy_0 6 rfl rfl)
theorem dX3_tidy_9 : decode cX3_tidy 9 = .ok (.if_icmp .ge 69, 3) := dk_162 0 69 (dk_at dksX3_tidy_0 9 rfl rfl)
theorem dX3_tidy_12 : decode cX3_tidy 12 = .ok (.aload_n 0, 1) := dk_42 (dk_at dksX3_tidy_0 12 rfl rfl)
theorem dX3_tidy_13 : decode cX3_tidy 13 = .ok (.getfield 15, 3) := dk_180 0 15 (dk_at dksX3_tidy_0 13 rfl rfl)
theorem dX3_tidy_16 : decode cX3_tidy 16 = .ok (.iload_n 2, 1) := dk_28 (dk_at dksX3_tidy_0 16 rfl rfl)
theorem dX3_tidy_17 : decode cX3_tidy 17 = .ok (.iaload, 1) := dk_46 (dk_at dksX3_tidy_0 17 rfl rfl)
theorem dX3_tidy_18 : decode cX3_tidy 18 = .ok (.ifCond .le 54, 3) := dk_158 0 54 (dk_at dksX3_tidy_0 18 rfl rfl)
theorem dX3_tidy_21 : decode cX3_tidy 21 = .ok (.aload_n 0, 1) := dk_42 (dk_at dksX3_tidy_0 21 rfl rfl)
theorem dX3_tidy_22 : decode cX3_tidy 22 = .ok (.getfield 9, 3) := dk_180 0 9 (dk_at dksX3_tidy_1 0 rfl rfl)
theorem dX3_tidy_25 : decode cX3_tidy 25 = .ok (.iload_n 1, 1) := dk_27 (dk_at dksX3_tidy_1 3 rfl rfl)
theorem dX3_tidy_26 : decode cX3_tidy 26 = .ok (.aload_n 0, 1) := dk_42 (dk_at dksX3_tidy_1 4 rfl rfl)
theorem dX3_tidy_27 : decode cX3_tidy 27 = .ok (.getfield 9, 3) := dk_180 0 9 (dk_at dksX3_tidy_1 5 rfl rfl)
theorem dX3_tidy_30 : decode cX3_tidy 30 = .ok (.iload_n 2, 1) := dk_28 (dk_at dksX3_tidy_1 8 rfl rfl)
theorem dX3_tidy_31 : decode cX3_tidy 31 = .ok (.iaload, 1) := dk_46 (dk_at dksX3_tidy_1 9 rfl rfl)
theorem dX3_tidy_32 : decode cX3_tidy 32 = .ok (.iastore, 1) := dk_79 (dk_at dksX3_tidy_1 10 rfl rfl)
theorem dX3_tidy_33 : decode cX3_tidy 33 = .ok (.aload_n 0, 1) := dk_42 (dk_at dksX3_tidy_1 11 rfl rfl)
theorem dX3_tidy_34 : decode cX3_tidy 34 = .ok (.getfield 15, 3) := dk_180 0 15 (dk_at dksX3_tidy_1 12 rfl rfl)
theorem dX3_tidy_37 : decode cX3_tidy 37 = .ok (.iload_n 1, 1) := dk_27 (dk_at dksX3_tidy_1 15 rfl rfl)
theorem dX3_tidy_38 : decode cX3_tidy 38 = .ok (.aload_n 0, 1) := dk_42 (dk_at dksX3_tidy_1 16 rfl rfl)
theorem dX3_tidy_39 : decode cX3_tidy 39 = .ok (.getfield 15, 3) := dk_180 0 15 (dk_at dksX3_tidy_1 17 rfl rfl)
theorem dX3_tidy_42 : decode cX3_tidy 42 = .ok (.iload_n 2, 1) := dk_28 (dk_at dksX3_tidy_1 20 rfl rfl)
theorem dX3_tidy_43 : decode cX3_tidy 43 = .ok (.iaload, 1) := dk_46 (dk_at dksX3_tidy_1 21 rfl rfl)
theorem dX3_tidy_44 : decode cX3_tidy 44 = .ok (.iastore, 1) := dk_79 (dk_at dksX3_tidy_1 22 rfl rfl)
theorem dX3_tidy_45 : decode cX3_tidy 45 = .ok (.aload_n 0, 1) := dk_42 (dk_at dksX3_tidy_1 23 rfl rfl)
theorem dX3_tidy_46 : decode cX3_tidy 46 = .ok (.getfield 18, 3) := dk_180 0 18 (dk_at dksX3_tidy_2 0 rfl rfl)
theorem dX3_tidy_49 : decode cX3_tidy 49 = .ok (.iload_n 1, 1) := dk_27 (dk_at dksX3_tidy_2 3 rfl rfl)
theorem dX3_tidy_50 : decode cX3_tidy 50 = .ok (.aload_n 0, 1) := dk_42 (dk_at dksX3_tidy_2 4 rfl rfl)
theorem dX3_tidy_51 : decode cX3_tidy 51 = .ok (.getfield 18, 3) := dk_180 0 18 (dk_at dksX3_tidy_2 5 rfl rfl)
theorem dX3_tidy_54 : decode cX3_tidy 54 = .ok (.iload_n 2, 1) := dk_28 (dk_at dksX3_tidy_2 8 rfl rfl)
theorem dX3_tidy_55 : decode cX3_tidy 55 = .ok (.iaload, 1) := dk_46 (dk_at dksX3_tidy_2 9 rfl rfl)
theorem dX3_tidy_56 : decode cX3_tidy 56 = .ok (.iastore, 1) := dk_79 (dk_at dksX3_tidy_2 10 rfl rfl)
theorem dX3_tidy_57 : decode cX3_tidy 57 = .ok (.aload_n 0, 1) := dk_42 (dk_at dksX3_tidy_2 11 rfl rfl)
theorem dX3_tidy_58 : decode cX3_tidy 58 = .ok (.getfield 21, 3) := dk_180 0 21 (dk_at dksX3_tidy_2 12 rfl rfl)
theorem dX3_tidy_61 : decode cX3_tidy 61 = .ok (.iload_n 1, 1) := dk_27 (dk_at dksX3_tidy_2 15 rfl rfl)
theorem dX3_tidy_62 : decode cX3_tidy 62 = .ok (.aload_n 0, 1) := dk_42 (dk_at dksX3_tidy_2 16 rfl rfl)
theorem dX3_tidy_63 : decode cX3_tidy 63 = .ok (.getfield 21, 3) := dk_180 0 21 (dk_at dksX3_tidy_2 17 rfl rfl)
theorem dX3_tidy_66 : decode cX3_tidy 66 = .ok (.iload_n 2, 1) := dk_28 (dk_at dksX3_tidy_2 20 rfl rfl)
theorem dX3_tidy_67 : decode cX3_tidy 67 = .ok (.iaload, 1) := dk_46 (dk_at dksX3_tidy_2 21 rfl rfl)
theorem dX3_tidy_68 : decode cX3_tidy 68 = .ok (.iastore, 1) := dk_79 (dk_at dksX3_tidy_2 22 rfl rfl)
theorem dX3_tidy_69 : decode cX3_tidy 69 = .ok (.iinc 1 1, 3) := dk_132 1 1 (dk_at dksX3_tidy_3 0 rfl rfl)
theorem dX3_tidy_72 : decode cX3_tidy 72 = .ok (.iinc 2 1, 3) := dk_132 2 1 (dk_at dksX3_tidy_3 3 rfl rfl)
theorem dX3_tidy_75 : decode cX3_tidy 75 = .ok (.goto (-71), 3) := dk_167 255 185 (dk_at dksX3_tidy_3 6 rfl rfl)
theorem dX3_tidy_78 : decode cX3_tidy 78 = .ok (.aload_n 0, 1) := dk_42 (dk_at dksX3_tidy_3 9 rfl rfl)
theorem dX3_tidy_79 : decode cX3_tidy 79 = .ok (.iload_n 1, 1) := dk_27 (dk_at dksX3_tidy_3 10 rfl rfl)
theorem dX3_tidy_80 : decode cX3_tidy 80 = .ok (.putfield 30, 3) := dk_181 0 30 (dk_at dksX3_tidy_3 11 rfl rfl)
theorem dX3_tidy_83 : decode cX3_tidy 83 = .ok (.return_, 1) := dk_177 (dk_at dksX3_tidy_3 14 rfl rfl)
def dkwX3_eggs_1 : List UInt8 := [167, 255, 236, 27, 172]
abbrev dktX3_eggs_1 : List UInt8 := dkwX3_eggs_1 ++ []
def dkwX3_eggs_0 : List UInt8 := [3, 60, 3, 61, 28, 42, 180, 0, 30, 162, 0, 18, 27, 42, 180, 0, 15, 28, 46, 96, 60, 132, 2, 1]
abbrev dktX3_eggs_0 : List UInt8 := dkwX3_eggs_0 ++ dktX3_eggs_1
theorem dksX3_eggs_0 : cX3_eggs.data.toList.drop 0 = dktX3_eggs_0 := by decide +kernel
theorem dksX3_eggs_1 : cX3_eggs.data.toList.drop 24 = dktX3_eggs_1 := dk_seg dksX3_eggs_0 24 rfl rfl
theorem dX3_eggs_0 : decode cX3_eggs 0 = .ok (.iconst 0, 1) := dk_3 (dk_at dksX3_eggs_0 0 rfl rfl)
theorem dX3_eggs_1 : decode cX3_eggs 1 = .ok (.istore_n 1, 1) := dk_60 (dk_at dksX3_eggs_0 1 rfl rfl)
theorem dX3_eggs_2 : decode cX3_eggs 2 = .ok (.iconst 0, 1) := dk_3 (dk_at dksX3_eggs_0 2 rfl rfl)
theorem dX3_eggs_3 : decode cX3_eggs 3 = .ok (.istore_n 2, 1) := dk_61 (dk_at dksX3_eggs_0 3 rfl rfl)
theorem dX3_eggs_4 : decode cX3_eggs 4 = .ok (.iload_n 2, 1) := dk_28 (dk_at dksX3_eggs_0 4 rfl rfl)
theorem dX3_eggs_5 : decode cX3_eggs 5 = .ok (.aload_n 0, 1) := dk_42 (dk_at dksX3_eggs_0 5 rfl rfl)
theorem dX3_eggs_6 : decode cX3_eggs 6 = .ok (.getfield 30, 3) := dk_180 0 30 (dk_at dksX3_eggs_0 6 rfl rfl)
theorem dX3_eggs_9 : decode cX3_eggs 9 = .ok (.if_icmp .ge 18, 3) := dk_162 0 18 (dk_at dksX3_eggs_0 9 rfl rfl)
theorem dX3_eggs_12 : decode cX3_eggs 12 = .ok (.iload_n 1, 1) := dk_27 (dk_at dksX3_eggs_0 12 rfl rfl)
theorem dX3_eggs_13 : decode cX3_eggs 13 = .ok (.aload_n 0, 1) := dk_42 (dk_at dksX3_eggs_0 13 rfl rfl)
theorem dX3_eggs_14 : decode cX3_eggs 14 = .ok (.getfield 15, 3) := dk_180 0 15 (dk_at dksX3_eggs_0 14 rfl rfl)
theorem dX3_eggs_17 : decode cX3_eggs 17 = .ok (.iload_n 2, 1) := dk_28 (dk_at dksX3_eggs_0 17 rfl rfl)
theorem dX3_eggs_18 : decode cX3_eggs 18 = .ok (.iaload, 1) := dk_46 (dk_at dksX3_eggs_0 18 rfl rfl)
theorem dX3_eggs_19 : decode cX3_eggs 19 = .ok (.iadd, 1) := dk_96 (dk_at dksX3_eggs_0 19 rfl rfl)
theorem dX3_eggs_20 : decode cX3_eggs 20 = .ok (.istore_n 1, 1) := dk_60 (dk_at dksX3_eggs_0 20 rfl rfl)
theorem dX3_eggs_21 : decode cX3_eggs 21 = .ok (.iinc 2 1, 3) := dk_132 2 1 (dk_at dksX3_eggs_0 21 rfl rfl)
theorem dX3_eggs_24 : decode cX3_eggs 24 = .ok (.goto (-20), 3) := dk_167 255 236 (dk_at dksX3_eggs_1 0 rfl rfl)
theorem dX3_eggs_27 : decode cX3_eggs 27 = .ok (.iload_n 1, 1) := dk_27 (dk_at dksX3_eggs_1 3 rfl rfl)
theorem dX3_eggs_28 : decode cX3_eggs 28 = .ok (.ireturn, 1) := dk_172 (dk_at dksX3_eggs_1 4 rfl rfl)
def dkwX3_become_2 : List UInt8 := [180, 0, 21, 3, 42, 180, 0, 21, 3, 16, 12, 184, 0, 24, 42, 43, 180, 0, 30, 181, 0, 30, 177]
abbrev dktX3_become_2 : List UInt8 := dkwX3_become_2 ++ []
def dkwX3_become_1 : List UInt8 := [3, 16, 12, 184, 0, 24, 43, 180, 0, 18, 3, 42, 180, 0, 18, 3, 16, 12, 184, 0, 24, 43]
abbrev dktX3_become_1 : List UInt8 := dkwX3_become_1 ++ dktX3_become_2
def dkwX3_become_0 : List UInt8 := [43, 180, 0, 9, 3, 42, 180, 0, 9, 3, 16, 12, 184, 0, 24, 43, 180, 0, 15, 3, 42, 180, 0, 15]
abbrev dktX3_become_0 : List UInt8 := dkwX3_become_0 ++ dktX3_become_1
theorem dksX3_become_0 : cX3_become.data.toList.drop 0 = dktX3_become_0 := by decide +kernel
theorem dksX3_become_1 : cX3_become.data.toList.drop 24 = dktX3_become_1 := dk_seg dksX3_become_0 24 rfl rfl
theorem dksX3_become_2 : cX3_become.data.toList.drop 46 = dktX3_become_2 := dk_seg dksX3_become_1 22 rfl rfl
theorem dX3_become_0 : decode cX3_become 0 = .ok (.aload_n 1, 1) := dk_43 (dk_at dksX3_become_0 0 rfl rfl)
theorem dX3_become_1 : decode cX3_become 1 = .ok (.getfield 9, 3) := dk_180 0 9 (dk_at dksX3_become_0 1 rfl rfl)
theorem dX3_become_4 : decode cX3_become 4 = .ok (.iconst 0, 1) := dk_3 (dk_at dksX3_become_0 4 rfl rfl)
theorem dX3_become_5 : decode cX3_become 5 = .ok (.aload_n 0, 1) := dk_42 (dk_at dksX3_become_0 5 rfl rfl)
theorem dX3_become_6 : decode cX3_become 6 = .ok (.getfield 9, 3) := dk_180 0 9 (dk_at dksX3_become_0 6 rfl rfl)
theorem dX3_become_9 : decode cX3_become 9 = .ok (.iconst 0, 1) := dk_3 (dk_at dksX3_become_0 9 rfl rfl)
theorem dX3_become_10 : decode cX3_become 10 = .ok (.bipush 12, 2) := dk_16 12 (dk_at dksX3_become_0 10 rfl rfl)
theorem dX3_become_12 : decode cX3_become 12 = .ok (.invokestatic 24, 3) := dk_184 0 24 (dk_at dksX3_become_0 12 rfl rfl)
theorem dX3_become_15 : decode cX3_become 15 = .ok (.aload_n 1, 1) := dk_43 (dk_at dksX3_become_0 15 rfl rfl)
theorem dX3_become_16 : decode cX3_become 16 = .ok (.getfield 15, 3) := dk_180 0 15 (dk_at dksX3_become_0 16 rfl rfl)
theorem dX3_become_19 : decode cX3_become 19 = .ok (.iconst 0, 1) := dk_3 (dk_at dksX3_become_0 19 rfl rfl)
theorem dX3_become_20 : decode cX3_become 20 = .ok (.aload_n 0, 1) := dk_42 (dk_at dksX3_become_0 20 rfl rfl)
theorem dX3_become_21 : decode cX3_become 21 = .ok (.getfield 15, 3) := dk_180 0 15 (dk_at dksX3_become_0 21 rfl rfl)
theorem dX3_become_24 : decode cX3_become 24 = .ok (.iconst 0, 1) := dk_3 (dk_at dksX3_become_1 0 rfl rfl)
theorem dX3_become_25 : decode cX3_become 25 = .ok (.bipush 12, 2) := dk_16 12 (dk_at dksX3_become_1 1 rfl rfl)
theorem dX3_become_27 : decode cX3_become 27 = .ok (.invokestatic 24, 3) := dk_184 0 24 (dk_at dksX3_become_1 3 rfl rfl)
theorem dX3_become_30 : decode cX3_become 30 = .ok (.aload_n 1, 1) := dk_43 (dk_at dksX3_become_1 6 rfl rfl)
theorem dX3_become_31 : decode cX3_become 31 = .ok (.getfield 18, 3) := dk_180 0 18 (dk_at dksX3_become_1 7 rfl rfl)
theorem dX3_become_34 : decode cX3_become 34 = .ok (.iconst 0, 1) := dk_3 (dk_at dksX3_become_1 10 rfl rfl)
theorem dX3_become_35 : decode cX3_become 35 = .ok (.aload_n 0, 1) := dk_42 (dk_at dksX3_become_1 11 rfl rfl)
theorem dX3_become_36 : decode cX3_become 36 = .ok (.getfield 18, 3) := dk_180 0 18 (dk_at dksX3_become_1 12 rfl rfl)
theorem dX3_become_39 : decode cX3_become 39 = .ok (.iconst 0, 1) := dk_3 (dk_at dksX3_become_1 15 rfl rfl)
theorem dX3_become_40 : decode cX3_become 40 = .ok (.bipush 12, 2) := dk_16 12 (dk_at dksX3_become_1 16 rfl rfl)
theorem dX3_become_42 : decode cX3_become 42 = .ok (.invokestatic 24, 3) := dk_184 0 24 (dk_at dksX3_become_1 18 rfl rfl)
theorem dX3_become_45 : decode cX3_become 45 = .ok (.aload_n 1, 1) := dk_43 (dk_at dksX3_become_1 21 rfl rfl)
theorem dX3_become_46 : decode cX3_become 46 = .ok (.getfield 21, 3) := dk_180 0 21 (dk_at dksX3_become_2 0 rfl rfl)
theorem dX3_become_49 : decode cX3_become 49 = .ok (.iconst 0, 1) := dk_3 (dk_at dksX3_become_2 3 rfl rfl)
theorem dX3_become_50 : decode cX3_become 50 = .ok (.aload_n 0, 1) := dk_42 (dk_at dksX3_become_2 4 rfl rfl)
theorem dX3_become_51 : decode cX3_become 51 = .ok (.getfield 21, 3) := dk_180 0 21 (dk_at dksX3_become_2 5 rfl rfl)
theorem dX3_become_54 : decode cX3_become 54 = .ok (.iconst 0, 1) := dk_3 (dk_at dksX3_become_2 8 rfl rfl)
theorem dX3_become_55 : decode cX3_become 55 = .ok (.bipush 12, 2) := dk_16 12 (dk_at dksX3_become_2 9 rfl rfl)
theorem dX3_become_57 : decode cX3_become 57 = .ok (.invokestatic 24, 3) := dk_184 0 24 (dk_at dksX3_become_2 11 rfl rfl)
theorem dX3_become_60 : decode cX3_become 60 = .ok (.aload_n 0, 1) := dk_42 (dk_at dksX3_become_2 14 rfl rfl)
theorem dX3_become_61 : decode cX3_become 61 = .ok (.aload_n 1, 1) := dk_43 (dk_at dksX3_become_2 15 rfl rfl)
theorem dX3_become_62 : decode cX3_become 62 = .ok (.getfield 30, 3) := dk_180 0 30 (dk_at dksX3_become_2 16 rfl rfl)
theorem dX3_become_65 : decode cX3_become 65 = .ok (.putfield 30, 3) := dk_181 0 30 (dk_at dksX3_become_2 19 rfl rfl)
theorem dX3_become_68 : decode cX3_become 68 = .ok (.return_, 1) := dk_177 (dk_at dksX3_become_2 22 rfl rfl)
def dkwX3_in_0 : List UInt8 := [187, 0, 34, 89, 42, 27, 183, 0, 36, 176]
abbrev dktX3_in_0 : List UInt8 := dkwX3_in_0 ++ []
theorem dksX3_in_0 : cX3_in.data.toList.drop 0 = dktX3_in_0 := by decide +kernel
theorem dX3_in_0 : decode cX3_in 0 = .ok (.new 34, 3) := dk_187 0 34 (dk_at dksX3_in_0 0 rfl rfl)
theorem dX3_in_3 : decode cX3_in 3 = .ok (.dup, 1) := dk_89 (dk_at dksX3_in_0 3 rfl rfl)
theorem dX3_in_4 : decode cX3_in 4 = .ok (.aload_n 0, 1) := dk_42 (dk_at dksX3_in_0 4 rfl rfl)
theorem dX3_in_5 : decode cX3_in 5 = .ok (.iload_n 1, 1) := dk_27 (dk_at dksX3_in_0 5 rfl rfl)
theorem dX3_in_6 : decode cX3_in 6 = .ok (.invokespecial 36, 3) := dk_183 0 36 (dk_at dksX3_in_0 6 rfl rfl)
theorem dX3_in_9 : decode cX3_in 9 = .ok (.areturn, 1) := dk_176 (dk_at dksX3_in_0 9 rfl rfl)
def dkwX3_init_1 : List UInt8 := [188, 10, 181, 0, 18, 42, 16, 12, 188, 10, 181, 0, 21, 177]
abbrev dktX3_init_1 : List UInt8 := dkwX3_init_1 ++ []
def dkwX3_init_0 : List UInt8 := [42, 183, 0, 3, 42, 16, 12, 188, 10, 181, 0, 9, 42, 16, 12, 188, 10, 181, 0, 15, 42, 16, 12]
abbrev dktX3_init_0 : List UInt8 := dkwX3_init_0 ++ dktX3_init_1
theorem dksX3_init_0 : cX3_init.data.toList.drop 0 = dktX3_init_0 := by decide +kernel
theorem dksX3_init_1 : cX3_init.data.toList.drop 23 = dktX3_init_1 := dk_seg dksX3_init_0 23 rfl rfl
theorem dX3_init_0 : decode cX3_init 0 = .ok (.aload_n 0, 1) := dk_42 (dk_at dksX3_init_0 0 rfl rfl)
theorem dX3_init_1 : decode cX3_init 1 = .ok (.invokespecial 3, 3) := dk_183 0 3 (dk_at dksX3_init_0 1 rfl rfl)
theorem dX3_init_4 : decode cX3_init 4 = .ok (.aload_n 0, 1) := dk_42 (dk_at dksX3_init_0 4 rfl rfl)
theorem dX3_init_5 : decode cX3_init 5 = .ok (.bipush 12, 2) := dk_16 12 (dk_at dksX3_init_0 5 rfl rfl)
theorem dX3_init_7 : decode cX3_init 7 = .ok (.newarray .int, 2) := dk_188_10 (dk_at dksX3_init_0 7 rfl rfl)
theorem dX3_init_9 : decode cX3_init 9 = .ok (.putfield 9, 3) := dk_181 0 9 (dk_at dksX3_init_0 9 rfl rfl)
theorem dX3_init_12 : decode cX3_init 12 = .ok (.aload_n 0, 1) := dk_42 (dk_at dksX3_init_0 12 rfl rfl)
theorem dX3_init_13 : decode cX3_init 13 = .ok (.bipush 12, 2) := dk_16 12 (dk_at dksX3_init_0 13 rfl rfl)
theorem dX3_init_15 : decode cX3_init 15 = .ok (.newarray .int, 2) := dk_188_10 (dk_at dksX3_init_0 15 rfl rfl)
theorem dX3_init_17 : decode cX3_init 17 = .ok (.putfield 15, 3) := dk_181 0 15 (dk_at dksX3_init_0 17 rfl rfl)
theorem dX3_init_20 : decode cX3_init 20 = .ok (.aload_n 0, 1) := dk_42 (dk_at dksX3_init_0 20 rfl rfl)
theorem dX3_init_21 : decode cX3_init 21 = .ok (.bipush 12, 2) := dk_16 12 (dk_at dksX3_init_0 21 rfl rfl)
theorem dX3_init_23 : decode cX3_init 23 = .ok (.newarray .int, 2) := dk_188_10 (dk_at dksX3_init_1 0 rfl rfl)
theorem dX3_init_25 : decode cX3_init 25 = .ok (.putfield 18, 3) := dk_181 0 18 (dk_at dksX3_init_1 2 rfl rfl)
theorem dX3_init_28 : decode cX3_init 28 = .ok (.aload_n 0, 1) := dk_42 (dk_at dksX3_init_1 5 rfl rfl)
theorem dX3_init_29 : decode cX3_init 29 = .ok (.bipush 12, 2) := dk_16 12 (dk_at dksX3_init_1 6 rfl rfl)
theorem dX3_init_31 : decode cX3_init 31 = .ok (.newarray .int, 2) := dk_188_10 (dk_at dksX3_init_1 8 rfl rfl)
theorem dX3_init_33 : decode cX3_init 33 = .ok (.putfield 21, 3) := dk_181 0 21 (dk_at dksX3_init_1 10 rfl rfl)
theorem dX3_init_36 : decode cX3_init 36 = .ok (.return_, 1) := dk_177 (dk_at dksX3_init_1 13 rfl rfl)
def dkwX2_init_3 : List UInt8 := [177]
abbrev dktX2_init_3 : List UInt8 := dkwX2_init_3 ++ []
def dkwX2_init_2 : List UInt8 := [188, 10, 181, 0, 27, 42, 16, 30, 188, 10, 181, 0, 30, 42, 187, 0, 33, 89, 183, 0, 35, 181, 0, 36]
abbrev dktX2_init_2 : List UInt8 := dkwX2_init_2 ++ dktX2_init_3
def dkwX2_init_1 : List UInt8 := [188, 10, 181, 0, 18, 42, 16, 6, 188, 10, 181, 0, 21, 42, 16, 6, 188, 10, 181, 0, 24, 42, 16, 6]
abbrev dktX2_init_1 : List UInt8 := dkwX2_init_1 ++ dktX2_init_2
def dkwX2_init_0 : List UInt8 := [42, 183, 0, 3, 42, 16, 6, 188, 10, 181, 0, 9, 42, 16, 6, 188, 10, 181, 0, 15, 42, 16, 6]
abbrev dktX2_init_0 : List UInt8 := dkwX2_init_0 ++ dktX2_init_1
theorem dksX2_init_0 : cX2_init.data.toList.drop 0 = dktX2_init_0 := by decide +kernel
theorem dksX2_init_1 : cX2_init.data.toList.drop 23 = dktX2_init_1 := dk_seg dksX2_init_0 23 rfl rfl
theorem dksX2_init_2 : cX2_init.data.toList.drop 47 = dktX2_init_2 := dk_seg dksX2_init_1 24 rfl rfl
theorem dksX2_init_3 : cX2_init.data.toList.drop 71 = dktX2_init_3 := dk_seg dksX2_init_2 24 rfl rfl
theorem dX2_init_0 : decode cX2_init 0 = .ok (.aload_n 0, 1) := dk_42 (dk_at dksX2_init_0 0 rfl rfl)
theorem dX2_init_1 : decode cX2_init 1 = .ok (.invokespecial 3, 3) := dk_183 0 3 (dk_at dksX2_init_0 1 rfl rfl)
theorem dX2_init_4 : decode cX2_init 4 = .ok (.aload_n 0, 1) := dk_42 (dk_at dksX2_init_0 4 rfl rfl)
theorem dX2_init_5 : decode cX2_init 5 = .ok (.bipush 6, 2) := dk_16 6 (dk_at dksX2_init_0 5 rfl rfl)
theorem dX2_init_7 : decode cX2_init 7 = .ok (.newarray .int, 2) := dk_188_10 (dk_at dksX2_init_0 7 rfl rfl)
theorem dX2_init_9 : decode cX2_init 9 = .ok (.putfield 9, 3) := dk_181 0 9 (dk_at dksX2_init_0 9 rfl rfl)
theorem dX2_init_12 : decode cX2_init 12 = .ok (.aload_n 0, 1) := dk_42 (dk_at dksX2_init_0 12 rfl rfl)
theorem dX2_init_13 : decode cX2_init 13 = .ok (.bipush 6, 2) := dk_16 6 (dk_at dksX2_init_0 13 rfl rfl)
theorem dX2_init_15 : decode cX2_init 15 = .ok (.newarray .int, 2) := dk_188_10 (dk_at dksX2_init_0 15 rfl rfl)
theorem dX2_init_17 : decode cX2_init 17 = .ok (.putfield 15, 3) := dk_181 0 15 (dk_at dksX2_init_0 17 rfl rfl)
theorem dX2_init_20 : decode cX2_init 20 = .ok (.aload_n 0, 1) := dk_42 (dk_at dksX2_init_0 20 rfl rfl)
theorem dX2_init_21 : decode cX2_init 21 = .ok (.bipush 6, 2) := dk_16 6 (dk_at dksX2_init_0 21 rfl rfl)
theorem dX2_init_23 : decode cX2_init 23 = .ok (.newarray .int, 2) := dk_188_10 (dk_at dksX2_init_1 0 rfl rfl)
theorem dX2_init_25 : decode cX2_init 25 = .ok (.putfield 18, 3) := dk_181 0 18 (dk_at dksX2_init_1 2 rfl rfl)
theorem dX2_init_28 : decode cX2_init 28 = .ok (.aload_n 0, 1) := dk_42 (dk_at dksX2_init_1 5 rfl rfl)
theorem dX2_init_29 : decode cX2_init 29 = .ok (.bipush 6, 2) := dk_16 6 (dk_at dksX2_init_1 6 rfl rfl)
theorem dX2_init_31 : decode cX2_init 31 = .ok (.newarray .int, 2) := dk_188_10 (dk_at dksX2_init_1 8 rfl rfl)
theorem dX2_init_33 : decode cX2_init 33 = .ok (.putfield 21, 3) := dk_181 0 21 (dk_at dksX2_init_1 10 rfl rfl)
theorem dX2_init_36 : decode cX2_init 36 = .ok (.aload_n 0, 1) := dk_42 (dk_at dksX2_init_1 13 rfl rfl)
theorem dX2_init_37 : decode cX2_init 37 = .ok (.bipush 6, 2) := dk_16 6 (dk_at dksX2_init_1 14 rfl rfl)
theorem dX2_init_39 : decode cX2_init 39 = .ok (.newarray .int, 2) := dk_188_10 (dk_at dksX2_init_1 16 rfl rfl)
theorem dX2_init_41 : decode cX2_init 41 = .ok (.putfield 24, 3) := dk_181 0 24 (dk_at dksX2_init_1 18 rfl rfl)
theorem dX2_init_44 : decode cX2_init 44 = .ok (.aload_n 0, 1) := dk_42 (dk_at dksX2_init_1 21 rfl rfl)
theorem dX2_init_45 : decode cX2_init 45 = .ok (.bipush 6, 2) := dk_16 6 (dk_at dksX2_init_1 22 rfl rfl)
theorem dX2_init_47 : decode cX2_init 47 = .ok (.newarray .int, 2) := dk_188_10 (dk_at dksX2_init_2 0 rfl rfl)
theorem dX2_init_49 : decode cX2_init 49 = .ok (.putfield 27, 3) := dk_181 0 27 (dk_at dksX2_init_2 2 rfl rfl)
theorem dX2_init_52 : decode cX2_init 52 = .ok (.aload_n 0, 1) := dk_42 (dk_at dksX2_init_2 5 rfl rfl)
theorem dX2_init_53 : decode cX2_init 53 = .ok (.bipush 30, 2) := dk_16 30 (dk_at dksX2_init_2 6 rfl rfl)
theorem dX2_init_55 : decode cX2_init 55 = .ok (.newarray .int, 2) := dk_188_10 (dk_at dksX2_init_2 8 rfl rfl)
theorem dX2_init_57 : decode cX2_init 57 = .ok (.putfield 30, 3) := dk_181 0 30 (dk_at dksX2_init_2 10 rfl rfl)
theorem dX2_init_60 : decode cX2_init 60 = .ok (.aload_n 0, 1) := dk_42 (dk_at dksX2_init_2 13 rfl rfl)
theorem dX2_init_61 : decode cX2_init 61 = .ok (.new 33, 3) := dk_187 0 33 (dk_at dksX2_init_2 14 rfl rfl)
theorem dX2_init_64 : decode cX2_init 64 = .ok (.dup, 1) := dk_89 (dk_at dksX2_init_2 17 rfl rfl)
theorem dX2_init_65 : decode cX2_init 65 = .ok (.invokespecial 35, 3) := dk_183 0 35 (dk_at dksX2_init_2 18 rfl rfl)
theorem dX2_init_68 : decode cX2_init 68 = .ok (.putfield 36, 3) := dk_181 0 36 (dk_at dksX2_init_2 21 rfl rfl)
theorem dX2_init_71 : decode cX2_init 71 = .ok (.return_, 1) := dk_177 (dk_at dksX2_init_3 0 rfl rfl)
def dkwX2_day_4 : List UInt8 := [172]
abbrev dktX2_day_4 : List UInt8 := dkwX2_day_4 ++ []
def dkwX2_day_3 : List UInt8 := [182, 0, 185, 42, 182, 0, 188, 42, 89, 180, 0, 72, 4, 96, 181, 0, 72, 42, 180, 0, 66, 184, 0, 191]
abbrev dktX2_day_3 : List UInt8 := dkwX2_day_3 ++ dktX2_day_4
def dkwX2_day_2 : List UInt8 := [180, 0, 36, 180, 0, 136, 162, 0, 14, 42, 27, 182, 0, 182, 132, 1, 1, 167, 255, 237, 42, 180, 0, 36]
abbrev dktX2_day_2 : List UInt8 := dkwX2_day_2 ++ dktX2_day_3
def dkwX2_day_1 : List UInt8 := [182, 0, 174, 182, 0, 143, 132, 1, 1, 167, 255, 235, 42, 182, 0, 177, 42, 182, 0, 179, 3, 60, 27, 42]
abbrev dktX2_day_1 : List UInt8 := dkwX2_day_1 ++ dktX2_day_2
def dkwX2_day_0 : List UInt8 := [42, 42, 182, 0, 168, 182, 0, 172, 3, 60, 27, 42, 180, 0, 50, 162, 0, 19, 42, 27, 42, 27]
abbrev dktX2_day_0 : List UInt8 := dkwX2_day_0 ++ dktX2_day_1
theorem dksX2_day_0 : cX2_day.data.toList.drop 0 = dktX2_day_0 := by decide +kernel
theorem dksX2_day_1 : cX2_day.data.toList.drop 22 = dktX2_day_1 := dk_seg dksX2_day_0 22 rfl rfl
theorem dksX2_day_2 : cX2_day.data.toList.drop 46 = dktX2_day_2 := dk_seg dksX2_day_1 24 rfl rfl
theorem dksX2_day_3 : cX2_day.data.toList.drop 70 = dktX2_day_3 := dk_seg dksX2_day_2 24 rfl rfl
theorem dksX2_day_4 : cX2_day.data.toList.drop 94 = dktX2_day_4 := dk_seg dksX2_day_3 24 rfl rfl
theorem dX2_day_0 : decode cX2_day 0 = .ok (.aload_n 0, 1) := dk_42 (dk_at dksX2_day_0 0 rfl rfl)
theorem dX2_day_1 : decode cX2_day 1 = .ok (.aload_n 0, 1) := dk_42 (dk_at dksX2_day_0 1 rfl rfl)
theorem dX2_day_2 : decode cX2_day 2 = .ok (.invokevirtual 168, 3) := dk_182 0 168 (dk_at dksX2_day_0 2 rfl rfl)
theorem dX2_day_5 : decode cX2_day 5 = .ok (.invokevirtual 172, 3) := dk_182 0 172 (dk_at dksX2_day_0 5 rfl rfl)
theorem dX2_day_8 : decode cX2_day 8 = .ok (.iconst 0, 1) := dk_3 (dk_at dksX2_day_0 8 rfl rfl)
theorem dX2_day_9 : decode cX2_day 9 = .ok (.istore_n 1, 1) := dk_60 (dk_at dksX2_day_0 9 rfl rfl)
theorem dX2_day_10 : decode cX2_day 10 = .ok (.iload_n 1, 1) := dk_27 (dk_at dksX2_day_0 10 rfl rfl)
theorem dX2_day_11 : decode cX2_day 11 = .ok (.aload_n 0, 1) := dk_42 (dk_at dksX2_day_0 11 rfl rfl)
theorem dX2_day_12 : decode cX2_day 12 = .ok (.getfield 50, 3) := dk_180 0 50 (dk_at dksX2_day_0 12 rfl rfl)
theorem dX2_day_15 : decode cX2_day 15 = .ok (.if_icmp .ge 19, 3) := dk_162 0 19 (dk_at dksX2_day_0 15 rfl rfl)
theorem dX2_day_18 : decode cX2_day 18 = .ok (.aload_n 0, 1) := dk_42 (dk_at dksX2_day_0 18 rfl rfl)
theorem dX2_day_19 : decode cX2_day 19 = .ok (.iload_n 1, 1) := dk_27 (dk_at dksX2_day_0 19 rfl rfl)
theorem dX2_day_20 : decode cX2_day 20 = .ok (.aload_n 0, 1) := dk_42 (dk_at dksX2_day_0 20 rfl rfl)
theorem dX2_day_21 : decode cX2_day 21 = .ok (.iload_n 1, 1) := dk_27 (dk_at dksX2_day_0 21 rfl rfl)
theorem dX2_day_22 : decode cX2_day 22 = .ok (.invokevirtual 174, 3) := dk_182 0 174 (dk_at dksX2_day_1 0 rfl rfl)
theorem dX2_day_25 : decode cX2_day 25 = .ok (.invokevirtual 143, 3) := dk_182 0 143 (dk_at dksX2_day_1 3 rfl rfl)
theorem dX2_day_28 : decode cX2_day 28 = .ok (.iinc 1 1, 3) := dk_132 1 1 (dk_at dksX2_day_1 6 rfl rfl)
theorem dX2_day_31 : decode cX2_day 31 = .ok (.goto (-21), 3) := dk_167 255 235 (dk_at dksX2_day_1 9 rfl rfl)
theorem dX2_day_34 : decode cX2_day 34 = .ok (.aload_n 0, 1) := dk_42 (dk_at dksX2_day_1 12 rfl rfl)
theorem dX2_day_35 : decode cX2_day 35 = .ok (.invokevirtual 177, 3) := dk_182 0 177 (dk_at dksX2_day_1 13 rfl rfl)
theorem dX2_day_38 : decode cX2_day 38 = .ok (.aload_n 0, 1) := dk_42 (dk_at dksX2_day_1 16 rfl rfl)
theorem dX2_day_39 : decode cX2_day 39 = .ok (.invokevirtual 179, 3) := dk_182 0 179 (dk_at dksX2_day_1 17 rfl rfl)
theorem dX2_day_42 : decode cX2_day 42 = .ok (.iconst 0, 1) := dk_3 (dk_at dksX2_day_1 20 rfl rfl)
theorem dX2_day_43 : decode cX2_day 43 = .ok (.istore_n 1, 1) := dk_60 (dk_at dksX2_day_1 21 rfl rfl)
theorem dX2_day_44 : decode cX2_day 44 = .ok (.iload_n 1, 1) := dk_27 (dk_at dksX2_day_1 22 rfl rfl)
theorem dX2_day_45 : decode cX2_day 45 = .ok (.aload_n 0, 1) := dk_42 (dk_at dksX2_day_1 23 rfl rfl)
theorem dX2_day_46 : decode cX2_day 46 = .ok (.getfield 36, 3) := dk_180 0 36 (dk_at dksX2_day_2 0 rfl rfl)
theorem dX2_day_49 : decode cX2_day 49 = .ok (.getfield 136, 3) := dk_180 0 136 (dk_at dksX2_day_2 3 rfl rfl)
theorem dX2_day_52 : decode cX2_day 52 = .ok (.if_icmp .ge 14, 3) := dk_162 0 14 (dk_at dksX2_day_2 6 rfl rfl)
theorem dX2_day_55 : decode cX2_day 55 = .ok (.aload_n 0, 1) := dk_42 (dk_at dksX2_day_2 9 rfl rfl)
theorem dX2_day_56 : decode cX2_day 56 = .ok (.iload_n 1, 1) := dk_27 (dk_at dksX2_day_2 10 rfl rfl)
theorem dX2_day_57 : decode cX2_day 57 = .ok (.invokevirtual 182, 3) := dk_182 0 182 (dk_at dksX2_day_2 11 rfl rfl)
theorem dX2_day_60 : decode cX2_day 60 = .ok (.iinc 1 1, 3) := dk_132 1 1 (dk_at dksX2_day_2 14 rfl rfl)
theorem dX2_day_63 : decode cX2_day 63 = .ok (.goto (-19), 3) := dk_167 255 237 (dk_at dksX2_day_2 17 rfl rfl)
theorem dX2_day_66 : decode cX2_day 66 = .ok (.aload_n 0, 1) := dk_42 (dk_at dksX2_day_2 20 rfl rfl)
theorem dX2_day_67 : decode cX2_day 67 = .ok (.getfield 36, 3) := dk_180 0 36 (dk_at dksX2_day_2 21 rfl rfl)
theorem dX2_day_70 : decode cX2_day 70 = .ok (.invokevirtual 185, 3) := dk_182 0 185 (dk_at dksX2_day_3 0 rfl rfl)
theorem dX2_day_73 : decode cX2_day 73 = .ok (.aload_n 0, 1) := dk_42 (dk_at dksX2_day_3 3 rfl rfl)
theorem dX2_day_74 : decode cX2_day 74 = .ok (.invokevirtual 188, 3) := dk_182 0 188 (dk_at dksX2_day_3 4 rfl rfl)
theorem dX2_day_77 : decode cX2_day 77 = .ok (.aload_n 0, 1) := dk_42 (dk_at dksX2_day_3 7 rfl rfl)
theorem dX2_day_78 : decode cX2_day 78 = .ok (.dup, 1) := dk_89 (dk_at dksX2_day_3 8 rfl rfl)
theorem dX2_day_79 : decode cX2_day 79 = .ok (.getfield 72, 3) := dk_180 0 72 (dk_at dksX2_day_3 9 rfl rfl)
theorem dX2_day_82 : decode cX2_day 82 = .ok (.iconst 1, 1) := dk_4 (dk_at dksX2_day_3 12 rfl rfl)
theorem dX2_day_83 : decode cX2_day 83 = .ok (.iadd, 1) := dk_96 (dk_at dksX2_day_3 13 rfl rfl)
theorem dX2_day_84 : decode cX2_day 84 = .ok (.putfield 72, 3) := dk_181 0 72 (dk_at dksX2_day_3 14 rfl rfl)
theorem dX2_day_87 : decode cX2_day 87 = .ok (.aload_n 0, 1) := dk_42 (dk_at dksX2_day_3 17 rfl rfl)
theorem dX2_day_88 : decode cX2_day 88 = .ok (.getfield 66, 3) := dk_180 0 66 (dk_at dksX2_day_3 18 rfl rfl)
theorem dX2_day_91 : decode cX2_day 91 = .ok (.invokestatic 191, 3) := dk_184 0 191 (dk_at dksX2_day_3 21 rfl rfl)
theorem dX2_day_94 : decode cX2_day 94 = .ok (.ireturn, 1) := dk_172 (dk_at dksX2_day_4 0 rfl rfl)
def dkwX2_nextRain_1 : List UInt8 := [181, 0, 54, 42, 180, 0, 30, 4, 42, 180, 0, 30, 3, 42, 180, 0, 54, 184, 0, 40, 27, 172]
abbrev dktX2_nextRain_1 : List UInt8 := dkwX2_nextRain_1 ++ []
def dkwX2_nextRain_0 : List UInt8 := [42, 180, 0, 54, 154, 0, 5, 3, 172, 42, 180, 0, 30, 3, 46, 60, 42, 89, 180, 0, 54, 4, 100]
abbrev dktX2_nextRain_0 : List UInt8 := dkwX2_nextRain_0 ++ dktX2_nextRain_1
theorem dksX2_nextRain_0 : cX2_nextRain.data.toList.drop 0 = dktX2_nextRain_0 := by decide +kernel
theorem dksX2_nextRain_1 : cX2_nextRain.data.toList.drop 23 = dktX2_nextRain_1 := dk_seg dksX2_nextRain_0 23 rfl rfl
theorem dX2_nextRain_0 : decode cX2_nextRain 0 = .ok (.aload_n 0, 1) := dk_42 (dk_at dksX2_nextRain_0 0 rfl rfl)
theorem dX2_nextRain_1 : decode cX2_nextRain 1 = .ok (.getfield 54, 3) := dk_180 0 54 (dk_at dksX2_nextRain_0 1 rfl rfl)
theorem dX2_nextRain_4 : decode cX2_nextRain 4 = .ok (.ifCond .ne 5, 3) := dk_154 0 5 (dk_at dksX2_nextRain_0 4 rfl rfl)
theorem dX2_nextRain_7 : decode cX2_nextRain 7 = .ok (.iconst 0, 1) := dk_3 (dk_at dksX2_nextRain_0 7 rfl rfl)
theorem dX2_nextRain_8 : decode cX2_nextRain 8 = .ok (.ireturn, 1) := dk_172 (dk_at dksX2_nextRain_0 8 rfl rfl)
theorem dX2_nextRain_9 : decode cX2_nextRain 9 = .ok (.aload_n 0, 1) := dk_42 (dk_at dksX2_nextRain_0 9 rfl rfl)
theorem dX2_nextRain_10 : decode cX2_nextRain 10 = .ok (.getfield 30, 3) := dk_180 0 30 (dk_at dksX2_nextRain_0 10 rfl rfl)
theorem dX2_nextRain_13 : decode cX2_nextRain 13 = .ok (.iconst 0, 1) := dk_3 (dk_at dksX2_nextRain_0 13 rfl rfl)
theorem dX2_nextRain_14 : decode cX2_nextRain 14 = .ok (.iaload, 1) := dk_46 (dk_at dksX2_nextRain_0 14 rfl rfl)
theorem dX2_nextRain_15 : decode cX2_nextRain 15 = .ok (.istore_n 1, 1) := dk_60 (dk_at dksX2_nextRain_0 15 rfl rfl)
theorem dX2_nextRain_16 : decode cX2_nextRain 16 = .ok (.aload_n 0, 1) := dk_42 (dk_at dksX2_nextRain_0 16 rfl rfl)
theorem dX2_nextRain_17 : decode cX2_nextRain 17 = .ok (.dup, 1) := dk_89 (dk_at dksX2_nextRain_0 17 rfl rfl)
theorem dX2_nextRain_18 : decode cX2_nextRain 18 = .ok (.getfield 54, 3) := dk_180 0 54 (dk_at dksX2_nextRain_0 18 rfl rfl)
theorem dX2_nextRain_21 : decode cX2_nextRain 21 = .ok (.iconst 1, 1) := dk_4 (dk_at dksX2_nextRain_0 21 rfl rfl)
theorem dX2_nextRain_22 : decode cX2_nextRain 22 = .ok (.isub, 1) := dk_100 (dk_at dksX2_nextRain_0 22 rfl rfl)
theorem dX2_nextRain_23 : decode cX2_nextRain 23 = .ok (.putfield 54, 3) := dk_181 0 54 (dk_at dksX2_nextRain_1 0 rfl rfl)
theorem dX2_nextRain_26 : decode cX2_nextRain 26 = .ok (.aload_n 0, 1) := dk_42 (dk_at dksX2_nextRain_1 3 rfl rfl)
theorem dX2_nextRain_27 : decode cX2_nextRain 27 = .ok (.getfield 30, 3) := dk_180 0 30 (dk_at dksX2_nextRain_1 4 rfl rfl)
theorem dX2_nextRain_30 : decode cX2_nextRain 30 = .ok (.iconst 1, 1) := dk_4 (dk_at dksX2_nextRain_1 7 rfl rfl)
theorem dX2_nextRain_31 : decode cX2_nextRain 31 = .ok (.aload_n 0, 1) := dk_42 (dk_at dksX2_nextRain_1 8 rfl rfl)
theorem dX2_nextRain_32 : decode cX2_nextRain 32 = .ok (.getfield 30, 3) := dk_180 0 30 (dk_at dksX2_nextRain_1 9 rfl rfl)
theorem dX2_nextRain_35 : decode cX2_nextRain 35 = .ok (.iconst 0, 1) := dk_3 (dk_at dksX2_nextRain_1 12 rfl rfl)
theorem dX2_nextRain_36 : decode cX2_nextRain 36 = .ok (.aload_n 0, 1) := dk_42 (dk_at dksX2_nextRain_1 13 rfl rfl)
theorem dX2_nextRain_37 : decode cX2_nextRain 37 = .ok (.getfield 54, 3) := dk_180 0 54 (dk_at dksX2_nextRain_1 14 rfl rfl)
theorem dX2_nextRain_40 : decode cX2_nextRain 40 = .ok (.invokestatic 40, 3) := dk_184 0 40 (dk_at dksX2_nextRain_1 17 rfl rfl)
theorem dX2_nextRain_43 : decode cX2_nextRain 43 = .ok (.iload_n 1, 1) := dk_27 (dk_at dksX2_nextRain_1 20 rfl rfl)
theorem dX2_nextRain_44 : decode cX2_nextRain 44 = .ok (.ireturn, 1) := dk_172 (dk_at dksX2_nextRain_1 21 rfl rfl)
def dkwX2_rains_1 : List UInt8 := [27, 96, 79, 167, 0, 13, 42, 89, 180, 0, 78, 27, 96, 181, 0, 78, 177]
abbrev dktX2_rains_1 : List UInt8 := dkwX2_rains_1 ++ []
def dkwX2_rains_0 : List UInt8 := [42, 89, 180, 0, 75, 27, 96, 181, 0, 75, 42, 180, 0, 50, 158, 0, 16, 42, 180, 0, 24, 3, 92, 46]
abbrev dktX2_rains_0 : List UInt8 := dkwX2_rains_0 ++ dktX2_rains_1
theorem dksX2_rains_0 : cX2_rains.data.toList.drop 0 = dktX2_rains_0 := by decide +kernel
theorem dksX2_rains_1 : cX2_rains.data.toList.drop 24 = dktX2_rains_1 := dk_seg dksX2_rains_0 24 rfl rfl
theorem dX2_rains_0 : decode cX2_rains 0 = .ok (.aload_n 0, 1) := dk_42 (dk_at dksX2_rains_0 0 rfl rfl)
theorem dX2_rains_1 : decode cX2_rains 1 = .ok (.dup, 1) := dk_89 (dk_at dksX2_rains_0 1 rfl rfl)
theorem dX2_rains_2 : decode cX2_rains 2 = .ok (.getfield 75, 3) := dk_180 0 75 (dk_at dksX2_rains_0 2 rfl rfl)
theorem dX2_rains_5 : decode cX2_rains 5 = .ok (.iload_n 1, 1) := dk_27 (dk_at dksX2_rains_0 5 rfl rfl)
theorem dX2_rains_6 : decode cX2_rains 6 = .ok (.iadd, 1) := dk_96 (dk_at dksX2_rains_0 6 rfl rfl)
theorem dX2_rains_7 : decode cX2_rains 7 = .ok (.putfield 75, 3) := dk_181 0 75 (dk_at dksX2_rains_0 7 rfl rfl)
theorem dX2_rains_10 : decode cX2_rains 10 = .ok (.aload_n 0, 1) := dk_42 (dk_at dksX2_rains_0 10 rfl rfl)
theorem dX2_rains_11 : decode cX2_rains 11 = .ok (.getfield 50, 3) := dk_180 0 50 (dk_at dksX2_rains_0 11 rfl rfl)
theorem dX2_rains_14 : decode cX2_rains 14 = .ok (.ifCond .le 16, 3) := dk_158 0 16 (dk_at dksX2_rains_0 14 rfl rfl)
theorem dX2_rains_17 : decode cX2_rains 17 = .ok (.aload_n 0, 1) := dk_42 (dk_at dksX2_rains_0 17 rfl rfl)
theorem dX2_rains_18 : decode cX2_rains 18 = .ok (.getfield 24, 3) := dk_180 0 24 (dk_at dksX2_rains_0 18 rfl rfl)
theorem dX2_rains_21 : decode cX2_rains 21 = .ok (.iconst 0, 1) := dk_3 (dk_at dksX2_rains_0 21 rfl rfl)
theorem dX2_rains_22 : decode cX2_rains 22 = .ok (.dup2, 1) := dk_92 (dk_at dksX2_rains_0 22 rfl rfl)
theorem dX2_rains_23 : decode cX2_rains 23 = .ok (.iaload, 1) := dk_46 (dk_at dksX2_rains_0 23 rfl rfl)
theorem dX2_rains_24 : decode cX2_rains 24 = .ok (.iload_n 1, 1) := dk_27 (dk_at dksX2_rains_1 0 rfl rfl)
theorem dX2_rains_25 : decode cX2_rains 25 = .ok (.iadd, 1) := dk_96 (dk_at dksX2_rains_1 1 rfl rfl)
theorem dX2_rains_26 : decode cX2_rains 26 = .ok (.iastore, 1) := dk_79 (dk_at dksX2_rains_1 2 rfl rfl)
theorem dX2_rains_27 : decode cX2_rains 27 = .ok (.goto 13, 3) := dk_167 0 13 (dk_at dksX2_rains_1 3 rfl rfl)
theorem dX2_rains_30 : decode cX2_rains 30 = .ok (.aload_n 0, 1) := dk_42 (dk_at dksX2_rains_1 6 rfl rfl)
theorem dX2_rains_31 : decode cX2_rains 31 = .ok (.dup, 1) := dk_89 (dk_at dksX2_rains_1 7 rfl rfl)
theorem dX2_rains_32 : decode cX2_rains 32 = .ok (.getfield 78, 3) := dk_180 0 78 (dk_at dksX2_rains_1 8 rfl rfl)
theorem dX2_rains_35 : decode cX2_rains 35 = .ok (.iload_n 1, 1) := dk_27 (dk_at dksX2_rains_1 11 rfl rfl)
theorem dX2_rains_36 : decode cX2_rains 36 = .ok (.iadd, 1) := dk_96 (dk_at dksX2_rains_1 12 rfl rfl)
theorem dX2_rains_37 : decode cX2_rains 37 = .ok (.putfield 78, 3) := dk_181 0 78 (dk_at dksX2_rains_1 13 rfl rfl)
theorem dX2_rains_40 : decode cX2_rains 40 = .ok (.return_, 1) := dk_177 (dk_at dksX2_rains_1 16 rfl rfl)
def dkwX2_down_1 : List UInt8 := [104, 61, 3, 16, 20, 42, 180, 0, 24, 27, 46, 28, 100, 184, 0, 115, 184, 0, 121, 172]
abbrev dktX2_down_1 : List UInt8 := dkwX2_down_1 ++ []
def dkwX2_down_0 : List UInt8 := [42, 27, 182, 0, 111, 153, 0, 7, 3, 167, 0, 16, 42, 180, 0, 21, 27, 46, 42, 180, 0, 9, 27, 46]
abbrev dktX2_down_0 : List UInt8 := dkwX2_down_0 ++ dktX2_down_1
theorem dksX2_down_0 : cX2_down.data.toList.drop 0 = dktX2_down_0 := by decide +kernel
theorem dksX2_down_1 : cX2_down.data.toList.drop 24 = dktX2_down_1 := dk_seg dksX2_down_0 24 rfl rfl
theorem dX2_down_0 : decode cX2_down 0 = .ok (.aload_n 0, 1) := dk_42 (dk_at dksX2_down_0 0 rfl rfl)
theorem dX2_down_1 : decode cX2_down 1 = .ok (.iload_n 1, 1) := dk_27 (dk_at dksX2_down_0 1 rfl rfl)
theorem dX2_down_2 : decode cX2_down 2 = .ok (.invokevirtual 111, 3) := dk_182 0 111 (dk_at dksX2_down_0 2 rfl rfl)
theorem dX2_down_5 : decode cX2_down 5 = .ok (.ifCond .eq 7, 3) := dk_153 0 7 (dk_at dksX2_down_0 5 rfl rfl)
theorem dX2_down_8 : decode cX2_down 8 = .ok (.iconst 0, 1) := dk_3 (dk_at dksX2_down_0 8 rfl rfl)
theorem dX2_down_9 : decode cX2_down 9 = .ok (.goto 16, 3) := dk_167 0 16 (dk_at dksX2_down_0 9 rfl rfl)
theorem dX2_down_12 : decode cX2_down 12 = .ok (.aload_n 0, 1) := dk_42 (dk_at dksX2_down_0 12 rfl rfl)
theorem dX2_down_13 : decode cX2_down 13 = .ok (.getfield 21, 3) := dk_180 0 21 (dk_at dksX2_down_0 13 rfl rfl)
theorem dX2_down_16 : decode cX2_down 16 = .ok (.iload_n 1, 1) := dk_27 (dk_at dksX2_down_0 16 rfl rfl)
theorem dX2_down_17 : decode cX2_down 17 = .ok (.iaload, 1) := dk_46 (dk_at dksX2_down_0 17 rfl rfl)
theorem dX2_down_18 : decode cX2_down 18 = .ok (.aload_n 0, 1) := dk_42 (dk_at dksX2_down_0 18 rfl rfl)
theorem dX2_down_19 : decode cX2_down 19 = .ok (.getfield 9, 3) := dk_180 0 9 (dk_at dksX2_down_0 19 rfl rfl)
theorem dX2_down_22 : decode cX2_down 22 = .ok (.iload_n 1, 1) := dk_27 (dk_at dksX2_down_0 22 rfl rfl)
theorem dX2_down_23 : decode cX2_down 23 = .ok (.iaload, 1) := dk_46 (dk_at dksX2_down_0 23 rfl rfl)
theorem dX2_down_24 : decode cX2_down 24 = .ok (.imul, 1) := dk_104 (dk_at dksX2_down_1 0 rfl rfl)
theorem dX2_down_25 : decode cX2_down 25 = .ok (.istore_n 2, 1) := dk_61 (dk_at dksX2_down_1 1 rfl rfl)
theorem dX2_down_26 : decode cX2_down 26 = .ok (.iconst 0, 1) := dk_3 (dk_at dksX2_down_1 2 rfl rfl)
theorem dX2_down_27 : decode cX2_down 27 = .ok (.bipush 20, 2) := dk_16 20 (dk_at dksX2_down_1 3 rfl rfl)
theorem dX2_down_29 : decode cX2_down 29 = .ok (.aload_n 0, 1) := dk_42 (dk_at dksX2_down_1 5 rfl rfl)
theorem dX2_down_30 : decode cX2_down 30 = .ok (.getfield 24, 3) := dk_180 0 24 (dk_at dksX2_down_1 6 rfl rfl)
theorem dX2_down_33 : decode cX2_down 33 = .ok (.iload_n 1, 1) := dk_27 (dk_at dksX2_down_1 9 rfl rfl)
theorem dX2_down_34 : decode cX2_down 34 = .ok (.iaload, 1) := dk_46 (dk_at dksX2_down_1 10 rfl rfl)
theorem dX2_down_35 : decode cX2_down 35 = .ok (.iload_n 2, 1) := dk_28 (dk_at dksX2_down_1 11 rfl rfl)
theorem dX2_down_36 : decode cX2_down 36 = .ok (.isub, 1) := dk_100 (dk_at dksX2_down_1 12 rfl rfl)
theorem dX2_down_37 : decode cX2_down 37 = .ok (.invokestatic 115, 3) := dk_184 0 115 (dk_at dksX2_down_1 13 rfl rfl)
theorem dX2_down_40 : decode cX2_down 40 = .ok (.invokestatic 121, 3) := dk_184 0 121 (dk_at dksX2_down_1 16 rfl rfl)
theorem dX2_down_43 : decode cX2_down 43 = .ok (.ireturn, 1) := dk_172 (dk_at dksX2_down_1 19 rfl rfl)
def dkwX2_isOpen_2 : List UInt8 := [153, 0, 11, 29, 153, 0, 7, 4, 167, 0, 4, 3, 172]
abbrev dktX2_isOpen_2 : List UInt8 := dkwX2_isOpen_2 ++ []
def dkwX2_isOpen_1 : List UInt8 := [184, 0, 107, 153, 0, 19, 28, 154, 0, 7, 29, 153, 0, 7, 4, 167, 0, 20, 3, 167, 0, 16, 28]
abbrev dktX2_isOpen_1 : List UInt8 := dkwX2_isOpen_1 ++ dktX2_isOpen_2
def dkwX2_isOpen_0 : List UInt8 := [42, 180, 0, 57, 27, 184, 0, 107, 61, 42, 180, 0, 60, 27, 184, 0, 107, 62, 42, 180, 0, 63, 27]
abbrev dktX2_isOpen_0 : List UInt8 := dkwX2_isOpen_0 ++ dktX2_isOpen_1
theorem dksX2_isOpen_0 : cX2_isOpen.data.toList.drop 0 = dktX2_isOpen_0 := by decide +kernel
theorem dksX2_isOpen_1 : cX2_isOpen.data.toList.drop 23 = dktX2_isOpen_1 := dk_seg dksX2_isOpen_0 23 rfl rfl
theorem dksX2_isOpen_2 : cX2_isOpen.data.toList.drop 46 = dktX2_isOpen_2 := dk_seg dksX2_isOpen_1 23 rfl rfl
theorem dX2_isOpen_0 : decode cX2_isOpen 0 = .ok (.aload_n 0, 1) := dk_42 (dk_at dksX2_isOpen_0 0 rfl rfl)
theorem dX2_isOpen_1 : decode cX2_isOpen 1 = .ok (.getfield 57, 3) := dk_180 0 57 (dk_at dksX2_isOpen_0 1 rfl rfl)
theorem dX2_isOpen_4 : decode cX2_isOpen 4 = .ok (.iload_n 1, 1) := dk_27 (dk_at dksX2_isOpen_0 4 rfl rfl)
theorem dX2_isOpen_5 : decode cX2_isOpen 5 = .ok (.invokestatic 107, 3) := dk_184 0 107 (dk_at dksX2_isOpen_0 5 rfl rfl)
theorem dX2_isOpen_8 : decode cX2_isOpen 8 = .ok (.istore_n 2, 1) := dk_61 (dk_at dksX2_isOpen_0 8 rfl rfl)
theorem dX2_isOpen_9 : decode cX2_isOpen 9 = .ok (.aload_n 0, 1) := dk_42 (dk_at dksX2_isOpen_0 9 rfl rfl)
theorem dX2_isOpen_10 : decode cX2_isOpen 10 = .ok (.getfield 60, 3) := dk_180 0 60 (dk_at dksX2_isOpen_0 10 rfl rfl)
theorem dX2_isOpen_13 : decode cX2_isOpen 13 = .ok (.iload_n 1, 1) := dk_27 (dk_at dksX2_isOpen_0 13 rfl rfl)
theorem dX2_isOpen_14 : decode cX2_isOpen 14 = .ok (.invokestatic 107, 3) := dk_184 0 107 (dk_at dksX2_isOpen_0 14 rfl rfl)
theorem dX2_isOpen_17 : decode cX2_isOpen 17 = .ok (.istore_n 3, 1) := dk_62 (dk_at dksX2_isOpen_0 17 rfl rfl)
theorem dX2_isOpen_18 : decode cX2_isOpen 18 = .ok (.aload_n 0, 1) := dk_42 (dk_at dksX2_isOpen_0 18 rfl rfl)
theorem dX2_isOpen_19 : decode cX2_isOpen 19 = .ok (.getfield 63, 3) := dk_180 0 63 (dk_at dksX2_isOpen_0 19 rfl rfl)
theorem dX2_isOpen_22 : decode cX2_isOpen 22 = .ok (.iload_n 1, 1) := dk_27 (dk_at dksX2_isOpen_0 22 rfl rfl)
theorem dX2_isOpen_23 : decode cX2_isOpen 23 = .ok (.invokestatic 107, 3) := dk_184 0 107 (dk_at dksX2_isOpen_1 0 rfl rfl)
theorem dX2_isOpen_26 : decode cX2_isOpen 26 = .ok (.ifCond .eq 19, 3) := dk_153 0 19 (dk_at dksX2_isOpen_1 3 rfl rfl)
theorem dX2_isOpen_29 : decode cX2_isOpen 29 = .ok (.iload_n 2, 1) := dk_28 (dk_at dksX2_isOpen_1 6 rfl rfl)
theorem dX2_isOpen_30 : decode cX2_isOpen 30 = .ok (.ifCond .ne 7, 3) := dk_154 0 7 (dk_at dksX2_isOpen_1 7 rfl rfl)
theorem dX2_isOpen_33 : decode cX2_isOpen 33 = .ok (.iload_n 3, 1) := dk_29 (dk_at dksX2_isOpen_1 10 rfl rfl)
theorem dX2_isOpen_34 : decode cX2_isOpen 34 = .ok (.ifCond .eq 7, 3) := dk_153 0 7 (dk_at dksX2_isOpen_1 11 rfl rfl)
theorem dX2_isOpen_37 : decode cX2_isOpen 37 = .ok (.iconst 1, 1) := dk_4 (dk_at dksX2_isOpen_1 14 rfl rfl)
theorem dX2_isOpen_38 : decode cX2_isOpen 38 = .ok (.goto 20, 3) := dk_167 0 20 (dk_at dksX2_isOpen_1 15 rfl rfl)
theorem dX2_isOpen_41 : decode cX2_isOpen 41 = .ok (.iconst 0, 1) := dk_3 (dk_at dksX2_isOpen_1 18 rfl rfl)
theorem dX2_isOpen_42 : decode cX2_isOpen 42 = .ok (.goto 16, 3) := dk_167 0 16 (dk_at dksX2_isOpen_1 19 rfl rfl)
theorem dX2_isOpen_45 : decode cX2_isOpen 45 = .ok (.iload_n 2, 1) := dk_28 (dk_at dksX2_isOpen_1 22 rfl rfl)
theorem dX2_isOpen_46 : decode cX2_isOpen 46 = .ok (.ifCond .eq 11, 3) := dk_153 0 11 (dk_at dksX2_isOpen_2 0 rfl rfl)
theorem dX2_isOpen_49 : decode cX2_isOpen 49 = .ok (.iload_n 3, 1) := dk_29 (dk_at dksX2_isOpen_2 3 rfl rfl)
theorem dX2_isOpen_50 : decode cX2_isOpen 50 = .ok (.ifCond .eq 7, 3) := dk_153 0 7 (dk_at dksX2_isOpen_2 4 rfl rfl)
theorem dX2_isOpen_53 : decode cX2_isOpen 53 = .ok (.iconst 1, 1) := dk_4 (dk_at dksX2_isOpen_2 7 rfl rfl)
theorem dX2_isOpen_54 : decode cX2_isOpen 54 = .ok (.goto 4, 3) := dk_167 0 4 (dk_at dksX2_isOpen_2 8 rfl rfl)
theorem dX2_isOpen_57 : decode cX2_isOpen 57 = .ok (.iconst 0, 1) := dk_3 (dk_at dksX2_isOpen_2 11 rfl rfl)
theorem dX2_isOpen_58 : decode cX2_isOpen 58 = .ok (.ireturn, 1) := dk_172 (dk_at dksX2_isOpen_2 12 rfl rfl)
def dkwX2_passes_1 : List UInt8 := [27, 4, 96, 92, 46, 28, 96, 79, 167, 0, 13, 42, 89, 180, 0, 78, 28, 96, 181, 0, 78, 177]
abbrev dktX2_passes_1 : List UInt8 := dkwX2_passes_1 ++ []
def dkwX2_passes_0 : List UInt8 := [42, 180, 0, 24, 27, 92, 46, 28, 100, 79, 27, 4, 96, 42, 180, 0, 50, 162, 0, 18, 42, 180, 0, 24]
abbrev dktX2_passes_0 : List UInt8 := dkwX2_passes_0 ++ dktX2_passes_1
theorem dksX2_passes_0 : cX2_passes.data.toList.drop 0 = dktX2_passes_0 := by decide +kernel
theorem dksX2_passes_1 : cX2_passes.data.toList.drop 24 = dktX2_passes_1 := dk_seg dksX2_passes_0 24 rfl rfl
theorem dX2_passes_0 : decode cX2_passes 0 = .ok (.aload_n 0, 1) := dk_42 (dk_at dksX2_passes_0 0 rfl rfl)
theorem dX2_passes_1 : decode cX2_passes 1 = .ok (.getfield 24, 3) := dk_180 0 24 (dk_at dksX2_passes_0 1 rfl rfl)
theorem dX2_passes_4 : decode cX2_passes 4 = .ok (.iload_n 1, 1) := dk_27 (dk_at dksX2_passes_0 4 rfl rfl)
theorem dX2_passes_5 : decode cX2_passes 5 = .ok (.dup2, 1) := dk_92 (dk_at dksX2_passes_0 5 rfl rfl)
theorem dX2_passes_6 : decode cX2_passes 6 = .ok (.iaload, 1) := dk_46 (dk_at dksX2_passes_0 6 rfl rfl)
theorem dX2_passes_7 : decode cX2_passes 7 = .ok (.iload_n 2, 1) := dk_28 (dk_at dksX2_passes_0 7 rfl rfl)
theorem dX2_passes_8 : decode cX2_passes 8 = .ok (.isub, 1) := dk_100 (dk_at dksX2_passes_0 8 rfl rfl)
theorem dX2_passes_9 : decode cX2_passes 9 = .ok (.iastore, 1) := dk_79 (dk_at dksX2_passes_0 9 rfl rfl)
theorem dX2_passes_10 : decode cX2_passes 10 = .ok (.iload_n 1, 1) := dk_27 (dk_at dksX2_passes_0 10 rfl rfl)
theorem dX2_passes_11 : decode cX2_passes 11 = .ok (.iconst 1, 1) := dk_4 (dk_at dksX2_passes_0 11 rfl rfl)
theorem dX2_passes_12 : decode cX2_passes 12 = .ok (.iadd, 1) := dk_96 (dk_at dksX2_passes_0 12 rfl rfl)
theorem dX2_passes_13 : decode cX2_passes 13 = .ok (.aload_n 0, 1) := dk_42 (dk_at dksX2_passes_0 13 rfl rfl)
theorem dX2_passes_14 : decode cX2_passes 14 = .ok (.getfield 50, 3) := dk_180 0 50 (dk_at dksX2_passes_0 14 rfl rfl)
theorem dX2_passes_17 : decode cX2_passes 17 = .ok (.if_icmp .ge 18, 3) := dk_162 0 18 (dk_at dksX2_passes_0 17 rfl rfl)
theorem dX2_passes_20 : decode cX2_passes 20 = .ok (.aload_n 0, 1) := dk_42 (dk_at dksX2_passes_0 20 rfl rfl)
theorem dX2_passes_21 : decode cX2_passes 21 = .ok (.getfield 24, 3) := dk_180 0 24 (dk_at dksX2_passes_0 21 rfl rfl)
theorem dX2_passes_24 : decode cX2_passes 24 = .ok (.iload_n 1, 1) := dk_27 (dk_at dksX2_passes_1 0 rfl rfl)
theorem dX2_passes_25 : decode cX2_passes 25 = .ok (.iconst 1, 1) := dk_4 (dk_at dksX2_passes_1 1 rfl rfl)
theorem dX2_passes_26 : decode cX2_passes 26 = .ok (.iadd, 1) := dk_96 (dk_at dksX2_passes_1 2 rfl rfl)
theorem dX2_passes_27 : decode cX2_passes 27 = .ok (.dup2, 1) := dk_92 (dk_at dksX2_passes_1 3 rfl rfl)
theorem dX2_passes_28 : decode cX2_passes 28 = .ok (.iaload, 1) := dk_46 (dk_at dksX2_passes_1 4 rfl rfl)
theorem dX2_passes_29 : decode cX2_passes 29 = .ok (.iload_n 2, 1) := dk_28 (dk_at dksX2_passes_1 5 rfl rfl)
theorem dX2_passes_30 : decode cX2_passes 30 = .ok (.iadd, 1) := dk_96 (dk_at dksX2_passes_1 6 rfl rfl)
theorem dX2_passes_31 : decode cX2_passes 31 = .ok (.iastore, 1) := dk_79 (dk_at dksX2_passes_1 7 rfl rfl)
theorem dX2_passes_32 : decode cX2_passes 32 = .ok (.goto 13, 3) := dk_167 0 13 (dk_at dksX2_passes_1 8 rfl rfl)
theorem dX2_passes_35 : decode cX2_passes 35 = .ok (.aload_n 0, 1) := dk_42 (dk_at dksX2_passes_1 11 rfl rfl)
theorem dX2_passes_36 : decode cX2_passes 36 = .ok (.dup, 1) := dk_89 (dk_at dksX2_passes_1 12 rfl rfl)
theorem dX2_passes_37 : decode cX2_passes 37 = .ok (.getfield 78, 3) := dk_180 0 78 (dk_at dksX2_passes_1 13 rfl rfl)
theorem dX2_passes_40 : decode cX2_passes 40 = .ok (.iload_n 2, 1) := dk_28 (dk_at dksX2_passes_1 16 rfl rfl)
theorem dX2_passes_41 : decode cX2_passes 41 = .ok (.iadd, 1) := dk_96 (dk_at dksX2_passes_1 17 rfl rfl)
theorem dX2_passes_42 : decode cX2_passes 42 = .ok (.putfield 78, 3) := dk_181 0 78 (dk_at dksX2_passes_1 18 rfl rfl)
theorem dX2_passes_45 : decode cX2_passes 45 = .ok (.return_, 1) := dk_177 (dk_at dksX2_passes_1 21 rfl rfl)
def dkwX2_floods_3 : List UInt8 := [96, 181, 0, 84, 132, 1, 1, 167, 255, 184, 177]
abbrev dktX2_floods_3 : List UInt8 := dkwX2_floods_3 ++ []
def dkwX2_floods_2 : List UInt8 := [46, 104, 100, 182, 0, 143, 42, 89, 180, 0, 66, 4, 27, 120, 128, 181, 0, 66, 42, 89, 180, 0, 84, 4]
abbrev dktX2_floods_2 : List UInt8 := dkwX2_floods_2 ++ dktX2_floods_3
def dkwX2_floods_1 : List UInt8 := [27, 46, 164, 0, 50, 42, 27, 42, 180, 0, 24, 27, 46, 42, 180, 0, 15, 27, 46, 42, 180, 0, 9, 27]
abbrev dktX2_floods_1 : List UInt8 := dkwX2_floods_1 ++ dktX2_floods_2
def dkwX2_floods_0 : List UInt8 := [42, 3, 181, 0, 66, 3, 60, 27, 42, 180, 0, 50, 162, 0, 70, 42, 27, 182, 0, 124, 42, 180, 0, 15]
abbrev dktX2_floods_0 : List UInt8 := dkwX2_floods_0 ++ dktX2_floods_1
theorem dksX2_floods_0 : cX2_floods.data.toList.drop 0 = dktX2_floods_0 := by decide +kernel
theorem dksX2_floods_1 : cX2_floods.data.toList.drop 24 = dktX2_floods_1 := dk_seg dksX2_floods_0 24 rfl rfl
theorem dksX2_floods_2 : cX2_floods.data.toList.drop 48 = dktX2_floods_2 := dk_seg dksX2_floods_1 24 rfl rfl
theorem dksX2_floods_3 : cX2_floods.data.toList.drop 72 = dktX2_floods_3 := dk_seg dksX2_floods_2 24 rfl rfl
theorem dX2_floods_0 : decode cX2_floods 0 = .ok (.aload_n 0, 1) := dk_42 (dk_at dksX2_floods_0 0 rfl rfl)
theorem dX2_floods_1 : decode cX2_floods 1 = .ok (.iconst 0, 1) := dk_3 (dk_at dksX2_floods_0 1 rfl rfl)
theorem dX2_floods_2 : decode cX2_floods 2 = .ok (.putfield 66, 3) := dk_181 0 66 (dk_at dksX2_floods_0 2 rfl rfl)
theorem dX2_floods_5 : decode cX2_floods 5 = .ok (.iconst 0, 1) := dk_3 (dk_at dksX2_floods_0 5 rfl rfl)
theorem dX2_floods_6 : decode cX2_floods 6 = .ok (.istore_n 1, 1) := dk_60 (dk_at dksX2_floods_0 6 rfl rfl)
theorem dX2_floods_7 : decode cX2_floods 7 = .ok (.iload_n 1, 1) := dk_27 (dk_at dksX2_floods_0 7 rfl rfl)
theorem dX2_floods_8 : decode cX2_floods 8 = .ok (.aload_n 0, 1) := dk_42 (dk_at dksX2_floods_0 8 rfl rfl)
theorem dX2_floods_9 : decode cX2_floods 9 = .ok (.getfield 50, 3) := dk_180 0 50 (dk_at dksX2_floods_0 9 rfl rfl)
theorem dX2_floods_12 : decode cX2_floods 12 = .ok (.if_icmp .ge 70, 3) := dk_162 0 70 (dk_at dksX2_floods_0 12 rfl rfl)
theorem dX2_floods_15 : decode cX2_floods 15 = .ok (.aload_n 0, 1) := dk_42 (dk_at dksX2_floods_0 15 rfl rfl)
theorem dX2_floods_16 : decode cX2_floods 16 = .ok (.iload_n 1, 1) := dk_27 (dk_at dksX2_floods_0 16 rfl rfl)
theorem dX2_floods_17 : decode cX2_floods 17 = .ok (.invokevirtual 124, 3) := dk_182 0 124 (dk_at dksX2_floods_0 17 rfl rfl)
theorem dX2_floods_20 : decode cX2_floods 20 = .ok (.aload_n 0, 1) := dk_42 (dk_at dksX2_floods_0 20 rfl rfl)
theorem dX2_floods_21 : decode cX2_floods 21 = .ok (.getfield 15, 3) := dk_180 0 15 (dk_at dksX2_floods_0 21 rfl rfl)
theorem dX2_floods_24 : decode cX2_floods 24 = .ok (.iload_n 1, 1) := dk_27 (dk_at dksX2_floods_1 0 rfl rfl)
theorem dX2_floods_25 : decode cX2_floods 25 = .ok (.iaload, 1) := dk_46 (dk_at dksX2_floods_1 1 rfl rfl)
theorem dX2_floods_26 : decode cX2_floods 26 = .ok (.if_icmp .le 50, 3) := dk_164 0 50 (dk_at dksX2_floods_1 2 rfl rfl)
theorem dX2_floods_29 : decode cX2_floods 29 = .ok (.aload_n 0, 1) := dk_42 (dk_at dksX2_floods_1 5 rfl rfl)
theorem dX2_floods_30 : decode cX2_floods 30 = .ok (.iload_n 1, 1) := dk_27 (dk_at dksX2_floods_1 6 rfl rfl)
theorem dX2_floods_31 : decode cX2_floods 31 = .ok (.aload_n 0, 1) := dk_42 (dk_at dksX2_floods_1 7 rfl rfl)
theorem dX2_floods_32 : decode cX2_floods 32 = .ok (.getfield 24, 3) := dk_180 0 24 (dk_at dksX2_floods_1 8 rfl rfl)
theorem dX2_floods_35 : decode cX2_floods 35 = .ok (.iload_n 1, 1) := dk_27 (dk_at dksX2_floods_1 11 rfl rfl)
theorem dX2_floods_36 : decode cX2_floods 36 = .ok (.iaload, 1) := dk_46 (dk_at dksX2_floods_1 12 rfl rfl)
theorem dX2_floods_37 : decode cX2_floods 37 = .ok (.aload_n 0, 1) := dk_42 (dk_at dksX2_floods_1 13 rfl rfl)
theorem dX2_floods_38 : decode cX2_floods 38 = .ok (.getfield 15, 3) := dk_180 0 15 (dk_at dksX2_floods_1 14 rfl rfl)
theorem dX2_floods_41 : decode cX2_floods 41 = .ok (.iload_n 1, 1) := dk_27 (dk_at dksX2_floods_1 17 rfl rfl)
theorem dX2_floods_42 : decode cX2_floods 42 = .ok (.iaload, 1) := dk_46 (dk_at dksX2_floods_1 18 rfl rfl)
theorem dX2_floods_43 : decode cX2_floods 43 = .ok (.aload_n 0, 1) := dk_42 (dk_at dksX2_floods_1 19 rfl rfl)
theorem dX2_floods_44 : decode cX2_floods 44 = .ok (.getfield 9, 3) := dk_180 0 9 (dk_at dksX2_floods_1 20 rfl rfl)
theorem dX2_floods_47 : decode cX2_floods 47 = .ok (.iload_n 1, 1) := dk_27 (dk_at dksX2_floods_1 23 rfl rfl)
theorem dX2_floods_48 : decode cX2_floods 48 = .ok (.iaload, 1) := dk_46 (dk_at dksX2_floods_2 0 rfl rfl)
theorem dX2_floods_49 : decode cX2_floods 49 = .ok (.imul, 1) := dk_104 (dk_at dksX2_floods_2 1 rfl rfl)
theorem dX2_floods_50 : decode cX2_floods 50 = .ok (.isub, 1) := dk_100 (dk_at dksX2_floods_2 2 rfl rfl)
theorem dX2_floods_51 : decode cX2_floods 51 = .ok (.invokevirtual 143, 3) := dk_182 0 143 (dk_at dksX2_floods_2 3 rfl rfl)
theorem dX2_floods_54 : decode cX2_floods 54 = .ok (.aload_n 0, 1) := dk_42 (dk_at dksX2_floods_2 6 rfl rfl)
theorem dX2_floods_55 : decode cX2_floods 55 = .ok (.dup, 1) := dk_89 (dk_at dksX2_floods_2 7 rfl rfl)
theorem dX2_floods_56 : decode cX2_floods 56 = .ok (.getfield 66, 3) := dk_180 0 66 (dk_at dksX2_floods_2 8 rfl rfl)
theorem dX2_floods_59 : decode cX2_floods 59 = .ok (.iconst 1, 1) := dk_4 (dk_at dksX2_floods_2 11 rfl rfl)
theorem dX2_floods_60 : decode cX2_floods 60 = .ok (.iload_n 1, 1) := dk_27 (dk_at dksX2_floods_2 12 rfl rfl)
theorem dX2_floods_61 : decode cX2_floods 61 = .ok (.ishl, 1) := dk_120 (dk_at dksX2_floods_2 13 rfl rfl)
theorem dX2_floods_62 : decode cX2_floods 62 = .ok (.ior, 1) := dk_128 (dk_at dksX2_floods_2 14 rfl rfl)
theorem dX2_floods_63 : decode cX2_floods 63 = .ok (.putfield 66, 3) := dk_181 0 66 (dk_at dksX2_floods_2 15 rfl rfl)
theorem dX2_floods_66 : decode cX2_floods 66 = .ok (.aload_n 0, 1) := dk_42 (dk_at dksX2_floods_2 18 rfl rfl)
theorem dX2_floods_67 : decode cX2_floods 67 = .ok (.dup, 1) := dk_89 (dk_at dksX2_floods_2 19 rfl rfl)
theorem dX2_floods_68 : decode cX2_floods 68 = .ok (.getfield 84, 3) := dk_180 0 84 (dk_at dksX2_floods_2 20 rfl rfl)
theorem dX2_floods_71 : decode cX2_floods 71 = .ok (.iconst 1, 1) := dk_4 (dk_at dksX2_floods_2 23 rfl rfl)
theorem dX2_floods_72 : decode cX2_floods 72 = .ok (.iadd, 1) := dk_96 (dk_at dksX2_floods_3 0 rfl rfl)
theorem dX2_floods_73 : decode cX2_floods 73 = .ok (.putfield 84, 3) := dk_181 0 84 (dk_at dksX2_floods_3 1 rfl rfl)
theorem dX2_floods_76 : decode cX2_floods 76 = .ok (.iinc 1 1, 3) := dk_132 1 1 (dk_at dksX2_floods_3 4 rfl rfl)
theorem dX2_floods_79 : decode cX2_floods 79 = .ok (.goto (-72), 3) := dk_167 255 184 (dk_at dksX2_floods_3 7 rfl rfl)
theorem dX2_floods_82 : decode cX2_floods 82 = .ok (.return_, 1) := dk_177 (dk_at dksX2_floods_3 10 rfl rfl)
def dkwX2_level_0 : List UInt8 := [42, 180, 0, 24, 27, 46, 42, 180, 0, 9, 27, 46, 108, 172]
abbrev dktX2_level_0 : List UInt8 := dkwX2_level_0 ++ []
theorem dksX2_level_0 : cX2_level.data.toList.drop 0 = dktX2_level_0 := by decide +kernel
theorem dX2_level_0 : decode cX2_level 0 = .ok (.aload_n 0, 1) := dk_42 (dk_at dksX2_level_0 0 rfl rfl)
theorem dX2_level_1 : decode cX2_level 1 = .ok (.getfield 24, 3) := dk_180 0 24 (dk_at dksX2_level_0 1 rfl rfl)
theorem dX2_level_4 : decode cX2_level 4 = .ok (.iload_n 1, 1) := dk_27 (dk_at dksX2_level_0 4 rfl rfl)
theorem dX2_level_5 : decode cX2_level 5 = .ok (.iaload, 1) := dk_46 (dk_at dksX2_level_0 5 rfl rfl)
theorem dX2_level_6 : decode cX2_level 6 = .ok (.aload_n 0, 1) := dk_42 (dk_at dksX2_level_0 6 rfl rfl)
theorem dX2_level_7 : decode cX2_level 7 = .ok (.getfield 9, 3) := dk_180 0 9 (dk_at dksX2_level_0 7 rfl rfl)
theorem dX2_level_10 : decode cX2_level 10 = .ok (.iload_n 1, 1) := dk_27 (dk_at dksX2_level_0 10 rfl rfl)
theorem dX2_level_11 : decode cX2_level 11 = .ok (.iaload, 1) := dk_46 (dk_at dksX2_level_0 11 rfl rfl)
theorem dX2_level_12 : decode cX2_level 12 = .ok (.idiv, 1) := dk_108 (dk_at dksX2_level_0 12 rfl rfl)
theorem dX2_level_13 : decode cX2_level 13 = .ok (.ireturn, 1) := dk_172 (dk_at dksX2_level_0 13 rfl rfl)
def dkwX2_fields_2 : List UInt8 := [79, 42, 89, 180, 0, 81, 28, 96, 181, 0, 81, 132, 1, 1, 167, 255, 196, 177]
abbrev dktX2_fields_2 : List UInt8 := dkwX2_fields_2 ++ []
def dkwX2_fields_1 : List UInt8 := [46, 42, 180, 0, 24, 27, 46, 184, 0, 115, 167, 0, 4, 3, 61, 42, 180, 0, 24, 27, 92, 46, 28, 100]
abbrev dktX2_fields_1 : List UInt8 := dkwX2_fields_1 ++ dktX2_fields_2
def dkwX2_fields_0 : List UInt8 := [3, 60, 27, 42, 180, 0, 50, 162, 0, 58, 42, 27, 182, 0, 124, 5, 161, 0, 21, 42, 180, 0, 18, 27]
abbrev dktX2_fields_0 : List UInt8 := dkwX2_fields_0 ++ dktX2_fields_1
theorem dksX2_fields_0 : cX2_fields.data.toList.drop 0 = dktX2_fields_0 := by decide +kernel
theorem dksX2_fields_1 : cX2_fields.data.toList.drop 24 = dktX2_fields_1 := dk_seg dksX2_fields_0 24 rfl rfl
theorem dksX2_fields_2 : cX2_fields.data.toList.drop 48 = dktX2_fields_2 := dk_seg dksX2_fields_1 24 rfl rfl
theorem dX2_fields_0 : decode cX2_fields 0 = .ok (.iconst 0, 1) := dk_3 (dk_at dksX2_fields_0 0 rfl rfl)
theorem dX2_fields_1 : decode cX2_fields 1 = .ok (.istore_n 1, 1) := dk_60 (dk_at dksX2_fields_0 1 rfl rfl)
theorem dX2_fields_2 : decode cX2_fields 2 = .ok (.iload_n 1, 1) := dk_27 (dk_at dksX2_fields_0 2 rfl rfl)
theorem dX2_fields_3 : decode cX2_fields 3 = .ok (.aload_n 0, 1) := dk_42 (dk_at dksX2_fields_0 3 rfl rfl)
theorem dX2_fields_4 : decode cX2_fields 4 = .ok (.getfield 50, 3) := dk_180 0 50 (dk_at dksX2_fields_0 4 rfl rfl)
theorem dX2_fields_7 : decode cX2_fields 7 = .ok (.if_icmp .ge 58, 3) := dk_162 0 58 (dk_at dksX2_fields_0 7 rfl rfl)
theorem dX2_fields_10 : decode cX2_fields 10 = .ok (.aload_n 0, 1) := dk_42 (dk_at dksX2_fields_0 10 rfl rfl)
theorem dX2_fields_11 : decode cX2_fields 11 = .ok (.iload_n 1, 1) := dk_27 (dk_at dksX2_fields_0 11 rfl rfl)
theorem dX2_fields_12 : decode cX2_fields 12 = .ok (.invokevirtual 124, 3) := dk_182 0 124 (dk_at dksX2_fields_0 12 rfl rfl)
theorem dX2_fields_15 : decode cX2_fields 15 = .ok (.iconst 2, 1) := dk_5 (dk_at dksX2_fields_0 15 rfl rfl)
theorem dX2_fields_16 : decode cX2_fields 16 = .ok (.if_icmp .lt 21, 3) := dk_161 0 21 (dk_at dksX2_fields_0 16 rfl rfl)
theorem dX2_fields_19 : decode cX2_fields 19 = .ok (.aload_n 0, 1) := dk_42 (dk_at dksX2_fields_0 19 rfl rfl)
theorem dX2_fields_20 : decode cX2_fields 20 = .ok (.getfield 18, 3) := dk_180 0 18 (dk_at dksX2_fields_0 20 rfl rfl)
theorem dX2_fields_23 : decode cX2_fields 23 = .ok (.iload_n 1, 1) := dk_27 (dk_at dksX2_fields_0 23 rfl rfl)
theorem dX2_fields_24 : decode cX2_fields 24 = .ok (.iaload, 1) := dk_46 (dk_at dksX2_fields_1 0 rfl rfl)
theorem dX2_fields_25 : decode cX2_fields 25 = .ok (.aload_n 0, 1) := dk_42 (dk_at dksX2_fields_1 1 rfl rfl)
theorem dX2_fields_26 : decode cX2_fields 26 = .ok (.getfield 24, 3) := dk_180 0 24 (dk_at dksX2_fields_1 2 rfl rfl)
theorem dX2_fields_29 : decode cX2_fields 29 = .ok (.iload_n 1, 1) := dk_27 (dk_at dksX2_fields_1 5 rfl rfl)
theorem dX2_fields_30 : decode cX2_fields 30 = .ok (.iaload, 1) := dk_46 (dk_at dksX2_fields_1 6 rfl rfl)
theorem dX2_fields_31 : decode cX2_fields 31 = .ok (.invokestatic 115, 3) := dk_184 0 115 (dk_at dksX2_fields_1 7 rfl rfl)
theorem dX2_fields_34 : decode cX2_fields 34 = .ok (.goto 4, 3) := dk_167 0 4 (dk_at dksX2_fields_1 10 rfl rfl)
theorem dX2_fields_37 : decode cX2_fields 37 = .ok (.iconst 0, 1) := dk_3 (dk_at dksX2_fields_1 13 rfl rfl)
theorem dX2_fields_38 : decode cX2_fields 38 = .ok (.istore_n 2, 1) := dk_61 (dk_at dksX2_fields_1 14 rfl rfl)
theorem dX2_fields_39 : decode cX2_fields 39 = .ok (.aload_n 0, 1) := dk_42 (dk_at dksX2_fields_1 15 rfl rfl)
theorem dX2_fields_40 : decode cX2_fields 40 = .ok (.getfield 24, 3) := dk_180 0 24 (dk_at dksX2_fields_1 16 rfl rfl)
theorem dX2_fields_43 : decode cX2_fields 43 = .ok (.iload_n 1, 1) := dk_27 (dk_at dksX2_fields_1 19 rfl rfl)
theorem dX2_fields_44 : decode cX2_fields 44 = .ok (.dup2, 1) := dk_92 (dk_at dksX2_fields_1 20 rfl rfl)
theorem dX2_fields_45 : decode cX2_fields 45 = .ok (.iaload, 1) := dk_46 (dk_at dksX2_fields_1 21 rfl rfl)
theorem dX2_fields_46 : decode cX2_fields 46 = .ok (.iload_n 2, 1) := dk_28 (dk_at dksX2_fields_1 22 rfl rfl)
theorem dX2_fields_47 : decode cX2_fields 47 = .ok (.isub, 1) := dk_100 (dk_at dksX2_fields_1 23 rfl rfl)
theorem dX2_fields_48 : decode cX2_fields 48 = .ok (.iastore, 1) := dk_79 (dk_at dksX2_fields_2 0 rfl rfl)
theorem dX2_fields_49 : decode cX2_fields 49 = .ok (.aload_n 0, 1) := dk_42 (dk_at dksX2_fields_2 1 rfl rfl)
theorem dX2_fields_50 : decode cX2_fields 50 = .ok (.dup, 1) := dk_89 (dk_at dksX2_fields_2 2 rfl rfl)
theorem dX2_fields_51 : decode cX2_fields 51 = .ok (.getfield 81, 3) := dk_180 0 81 (dk_at dksX2_fields_2 3 rfl rfl)
theorem dX2_fields_54 : decode cX2_fields 54 = .ok (.iload_n 2, 1) := dk_28 (dk_at dksX2_fields_2 6 rfl rfl)
theorem dX2_fields_55 : decode cX2_fields 55 = .ok (.iadd, 1) := dk_96 (dk_at dksX2_fields_2 7 rfl rfl)
theorem dX2_fields_56 : decode cX2_fields 56 = .ok (.putfield 81, 3) := dk_181 0 81 (dk_at dksX2_fields_2 8 rfl rfl)
theorem dX2_fields_59 : decode cX2_fields 59 = .ok (.iinc 1 1, 3) := dk_132 1 1 (dk_at dksX2_fields_2 11 rfl rfl)
theorem dX2_fields_62 : decode cX2_fields 62 = .ok (.goto (-60), 3) := dk_167 255 196 (dk_at dksX2_fields_2 14 rfl rfl)
theorem dX2_fields_65 : decode cX2_fields 65 = .ok (.return_, 1) := dk_177 (dk_at dksX2_fields_2 17 rfl rfl)
def dkwX2_lives_6 : List UInt8 := [160, 0, 8, 42, 27, 182, 0, 161, 177]
abbrev dktX2_lives_6 : List UInt8 := dkwX2_lives_6 ++ []
def dkwX2_lives_5 : List UInt8 := [180, 0, 36, 180, 0, 158, 27, 92, 46, 4, 96, 79, 42, 180, 0, 36, 180, 0, 158, 27, 46, 8]
abbrev dktX2_lives_5 : List UInt8 := dkwX2_lives_5 ++ dktX2_lives_6
def dkwX2_lives_4 : List UInt8 := [180, 0, 36, 180, 0, 156, 27, 46, 162, 0, 13, 42, 27, 29, 6, 96, 7, 108, 182, 0, 153, 42]
abbrev dktX2_lives_4 : List UInt8 := dkwX2_lives_4 ++ dktX2_lives_5
def dkwX2_lives_3 : List UInt8 := [162, 0, 9, 28, 4, 96, 167, 0, 4, 28, 79, 167, 0, 32, 5, 42, 28, 182, 0, 124, 104, 42]
abbrev dktX2_lives_3 : List UInt8 := dkwX2_lives_3 ++ dktX2_lives_4
def dkwX2_lives_2 : List UInt8 := [167, 0, 4, 29, 182, 0, 153, 42, 180, 0, 36, 180, 0, 150, 27, 28, 4, 96, 42, 180, 0, 50]
abbrev dktX2_lives_2 : List UInt8 := dkwX2_lives_2 ++ dktX2_lives_3
def dkwX2_lives_1 : List UInt8 := [28, 184, 0, 107, 153, 0, 56, 42, 27, 28, 4, 96, 42, 180, 0, 50, 162, 0, 11, 29, 4, 96, 5, 108]
abbrev dktX2_lives_1 : List UInt8 := dkwX2_lives_1 ++ dktX2_lives_2
def dkwX2_lives_0 : List UInt8 := [42, 180, 0, 36, 180, 0, 150, 27, 46, 61, 42, 180, 0, 36, 180, 0, 147, 27, 46, 62, 42, 180, 0, 66]
abbrev dktX2_lives_0 : List UInt8 := dkwX2_lives_0 ++ dktX2_lives_1
theorem dksX2_lives_0 : cX2_lives.data.toList.drop 0 = dktX2_lives_0 := by decide +kernel
theorem dksX2_lives_1 : cX2_lives.data.toList.drop 24 = dktX2_lives_1 := dk_seg dksX2_lives_0 24 rfl rfl
theorem dksX2_lives_2 : cX2_lives.data.toList.drop 48 = dktX2_lives_2 := dk_seg dksX2_lives_1 24 rfl rfl
theorem dksX2_lives_3 : cX2_lives.data.toList.drop 70 = dktX2_lives_3 := dk_seg dksX2_lives_2 22 rfl rfl
theorem dksX2_lives_4 : cX2_lives.data.toList.drop 92 = dktX2_lives_4 := dk_seg dksX2_lives_3 22 rfl rfl
theorem dksX2_lives_5 : cX2_lives.data.toList.drop 114 = dktX2_lives_5 := dk_seg dksX2_lives_4 22 rfl rfl
theorem dksX2_lives_6 : cX2_lives.data.toList.drop 136 = dktX2_lives_6 := dk_seg dksX2_lives_5 22 rfl rfl
theorem dX2_lives_0 : decode cX2_lives 0 = .ok (.aload_n 0, 1) := dk_42 (dk_at dksX2_lives_0 0 rfl rfl)
theorem dX2_lives_1 : decode cX2_lives 1 = .ok (.getfield 36, 3) := dk_180 0 36 (dk_at dksX2_lives_0 1 rfl rfl)
theorem dX2_lives_4 : decode cX2_lives 4 = .ok (.getfield 150, 3) := dk_180 0 150 (dk_at dksX2_lives_0 4 rfl rfl)
theorem dX2_lives_7 : decode cX2_lives 7 = .ok (.iload_n 1, 1) := dk_27 (dk_at dksX2_lives_0 7 rfl rfl)
theorem dX2_lives_8 : decode cX2_lives 8 = .ok (.iaload, 1) := dk_46 (dk_at dksX2_lives_0 8 rfl rfl)
theorem dX2_lives_9 : decode cX2_lives 9 = .ok (.istore_n 2, 1) := dk_61 (dk_at dksX2_lives_0 9 rfl rfl)
theorem dX2_lives_10 : decode cX2_lives 10 = .ok (.aload_n 0, 1) := dk_42 (dk_at dksX2_lives_0 10 rfl rfl)
theorem dX2_lives_11 : decode cX2_lives 11 = .ok (.getfield 36, 3) := dk_180 0 36 (dk_at dksX2_lives_0 11 rfl rfl)
theorem dX2_lives_14 : decode cX2_lives 14 = .ok (.getfield 147, 3) := dk_180 0 147 (dk_at dksX2_lives_0 14 rfl rfl)
theorem dX2_lives_17 : decode cX2_lives 17 = .ok (.iload_n 1, 1) := dk_27 (dk_at dksX2_lives_0 17 rfl rfl)
theorem dX2_lives_18 : decode cX2_lives 18 = .ok (.iaload, 1) := dk_46 (dk_at dksX2_lives_0 18 rfl rfl)
theorem dX2_lives_19 : decode cX2_lives 19 = .ok (.istore_n 3, 1) := dk_62 (dk_at dksX2_lives_0 19 rfl rfl)
theorem dX2_lives_20 : decode cX2_lives 20 = .ok (.aload_n 0, 1) := dk_42 (dk_at dksX2_lives_0 20 rfl rfl)
theorem dX2_lives_21 : decode cX2_lives 21 = .ok (.getfield 66, 3) := dk_180 0 66 (dk_at dksX2_lives_0 21 rfl rfl)
theorem dX2_lives_24 : decode cX2_lives 24 = .ok (.iload_n 2, 1) := dk_28 (dk_at dksX2_lives_1 0 rfl rfl)
theorem dX2_lives_25 : decode cX2_lives 25 = .ok (.invokestatic 107, 3) := dk_184 0 107 (dk_at dksX2_lives_1 1 rfl rfl)
theorem dX2_lives_28 : decode cX2_lives 28 = .ok (.ifCond .eq 56, 3) := dk_153 0 56 (dk_at dksX2_lives_1 4 rfl rfl)
theorem dX2_lives_31 : decode cX2_lives 31 = .ok (.aload_n 0, 1) := dk_42 (dk_at dksX2_lives_1 7 rfl rfl)
theorem dX2_lives_32 : decode cX2_lives 32 = .ok (.iload_n 1, 1) := dk_27 (dk_at dksX2_lives_1 8 rfl rfl)
theorem dX2_lives_33 : decode cX2_lives 33 = .ok (.iload_n 2, 1) := dk_28 (dk_at dksX2_lives_1 9 rfl rfl)
theorem dX2_lives_34 : decode cX2_lives 34 = .ok (.iconst 1, 1) := dk_4 (dk_at dksX2_lives_1 10 rfl rfl)
theorem dX2_lives_35 : decode cX2_lives 35 = .ok (.iadd, 1) := dk_96 (dk_at dksX2_lives_1 11 rfl rfl)
theorem dX2_lives_36 : decode cX2_lives 36 = .ok (.aload_n 0, 1) := dk_42 (dk_at dksX2_lives_1 12 rfl rfl)
theorem dX2_lives_37 : decode cX2_lives 37 = .ok (.getfield 50, 3) := dk_180 0 50 (dk_at dksX2_lives_1 13 rfl rfl)
theorem dX2_lives_40 : decode cX2_lives 40 = .ok (.if_icmp .ge 11, 3) := dk_162 0 11 (dk_at dksX2_lives_1 16 rfl rfl)
theorem dX2_lives_43 : decode cX2_lives 43 = .ok (.iload_n 3, 1) := dk_29 (dk_at dksX2_lives_1 19 rfl rfl)
theorem dX2_lives_44 : decode cX2_lives 44 = .ok (.iconst 1, 1) := dk_4 (dk_at dksX2_lives_1 20 rfl rfl)
theorem dX2_lives_45 : decode cX2_lives 45 = .ok (.iadd, 1) := dk_96 (dk_at dksX2_lives_1 21 rfl rfl)
theorem dX2_lives_46 : decode cX2_lives 46 = .ok (.iconst 2, 1) := dk_5 (dk_at dksX2_lives_1 22 rfl rfl)
theorem dX2_lives_47 : decode cX2_lives 47 = .ok (.idiv, 1) := dk_108 (dk_at dksX2_lives_1 23 rfl rfl)
theorem dX2_lives_48 : decode cX2_lives 48 = .ok (.goto 4, 3) := dk_167 0 4 (dk_at dksX2_lives_2 0 rfl rfl)
theorem dX2_lives_51 : decode cX2_lives 51 = .ok (.iload_n 3, 1) := dk_29 (dk_at dksX2_lives_2 3 rfl rfl)
theorem dX2_lives_52 : decode cX2_lives 52 = .ok (.invokevirtual 153, 3) := dk_182 0 153 (dk_at dksX2_lives_2 4 rfl rfl)
theorem dX2_lives_55 : decode cX2_lives 55 = .ok (.aload_n 0, 1) := dk_42 (dk_at dksX2_lives_2 7 rfl rfl)
theorem dX2_lives_56 : decode cX2_lives 56 = .ok (.getfield 36, 3) := dk_180 0 36 (dk_at dksX2_lives_2 8 rfl rfl)
theorem dX2_lives_59 : decode cX2_lives 59 = .ok (.getfield 150, 3) := dk_180 0 150 (dk_at dksX2_lives_2 11 rfl rfl)
theorem dX2_lives_62 : decode cX2_lives 62 = .ok (.iload_n 1, 1) := dk_27 (dk_at dksX2_lives_2 14 rfl rfl)
theorem dX2_lives_63 : decode cX2_lives 63 = .ok (.iload_n 2, 1) := dk_28 (dk_at dksX2_lives_2 15 rfl rfl)
theorem dX2_lives_64 : decode cX2_lives 64 = .ok (.iconst 1, 1) := dk_4 (dk_at dksX2_lives_2 16 rfl rfl)
theorem dX2_lives_65 : decode cX2_lives 65 = .ok (.iadd, 1) := dk_96 (dk_at dksX2_lives_2 17 rfl rfl)
theorem dX2_lives_66 : decode cX2_lives 66 = .ok (.aload_n 0, 1) := dk_42 (dk_at dksX2_lives_2 18 rfl rfl)
theorem dX2_lives_67 : decode cX2_lives 67 = .ok (.getfield 50, 3) := dk_180 0 50 (dk_at dksX2_lives_2 19 rfl rfl)
theorem dX2_lives_70 : decode cX2_lives 70 = .ok (.if_icmp .ge 9, 3) := dk_162 0 9 (dk_at dksX2_lives_3 0 rfl rfl)
theorem dX2_lives_73 : decode cX2_lives 73 = .ok (.iload_n 2, 1) := dk_28 (dk_at dksX2_lives_3 3 rfl rfl)
theorem dX2_lives_74 : decode cX2_lives 74 = .ok (.iconst 1, 1) := dk_4 (dk_at dksX2_lives_3 4 rfl rfl)
theorem dX2_lives_75 : decode cX2_lives 75 = .ok (.iadd, 1) := dk_96 (dk_at dksX2_lives_3 5 rfl rfl)
theorem dX2_lives_76 : decode cX2_lives 76 = .ok (.goto 4, 3) := dk_167 0 4 (dk_at dksX2_lives_3 6 rfl rfl)
theorem dX2_lives_79 : decode cX2_lives 79 = .ok (.iload_n 2, 1) := dk_28 (dk_at dksX2_lives_3 9 rfl rfl)
theorem dX2_lives_80 : decode cX2_lives 80 = .ok (.iastore, 1) := dk_79 (dk_at dksX2_lives_3 10 rfl rfl)
theorem dX2_lives_81 : decode cX2_lives 81 = .ok (.goto 32, 3) := dk_167 0 32 (dk_at dksX2_lives_3 11 rfl rfl)
theorem dX2_lives_84 : decode cX2_lives 84 = .ok (.iconst 2, 1) := dk_5 (dk_at dksX2_lives_3 14 rfl rfl)
theorem dX2_lives_85 : decode cX2_lives 85 = .ok (.aload_n 0, 1) := dk_42 (dk_at dksX2_lives_3 15 rfl rfl)
theorem dX2_lives_86 : decode cX2_lives 86 = .ok (.iload_n 2, 1) := dk_28 (dk_at dksX2_lives_3 16 rfl rfl)
theorem dX2_lives_87 : decode cX2_lives 87 = .ok (.invokevirtual 124, 3) := dk_182 0 124 (dk_at dksX2_lives_3 17 rfl rfl)
theorem dX2_lives_90 : decode cX2_lives 90 = .ok (.imul, 1) := dk_104 (dk_at dksX2_lives_3 20 rfl rfl)
theorem dX2_lives_91 : decode cX2_lives 91 = .ok (.aload_n 0, 1) := dk_42 (dk_at dksX2_lives_3 21 rfl rfl)
theorem dX2_lives_92 : decode cX2_lives 92 = .ok (.getfield 36, 3) := dk_180 0 36 (dk_at dksX2_lives_4 0 rfl rfl)
theorem dX2_lives_95 : decode cX2_lives 95 = .ok (.getfield 156, 3) := dk_180 0 156 (dk_at dksX2_lives_4 3 rfl rfl)
theorem dX2_lives_98 : decode cX2_lives 98 = .ok (.iload_n 1, 1) := dk_27 (dk_at dksX2_lives_4 6 rfl rfl)
theorem dX2_lives_99 : decode cX2_lives 99 = .ok (.iaload, 1) := dk_46 (dk_at dksX2_lives_4 7 rfl rfl)
theorem dX2_lives_100 : decode cX2_lives 100 = .ok (.if_icmp .ge 13, 3) := dk_162 0 13 (dk_at dksX2_lives_4 8 rfl rfl)
theorem dX2_lives_103 : decode cX2_lives 103 = .ok (.aload_n 0, 1) := dk_42 (dk_at dksX2_lives_4 11 rfl rfl)
theorem dX2_lives_104 : decode cX2_lives 104 = .ok (.iload_n 1, 1) := dk_27 (dk_at dksX2_lives_4 12 rfl rfl)
theorem dX2_lives_105 : decode cX2_lives 105 = .ok (.iload_n 3, 1) := dk_29 (dk_at dksX2_lives_4 13 rfl rfl)
theorem dX2_lives_106 : decode cX2_lives 106 = .ok (.iconst 3, 1) := dk_6 (dk_at dksX2_lives_4 14 rfl rfl)
theorem dX2_lives_107 : decode cX2_lives 107 = .ok (.iadd, 1) := dk_96 (dk_at dksX2_lives_4 15 rfl rfl)
theorem dX2_lives_108 : decode cX2_lives 108 = .ok (.iconst 4, 1) := dk_7 (dk_at dksX2_lives_4 16 rfl rfl)
theorem dX2_lives_109 : decode cX2_lives 109 = .ok (.idiv, 1) := dk_108 (dk_at dksX2_lives_4 17 rfl rfl)
theorem dX2_lives_110 : decode cX2_lives 110 = .ok (.invokevirtual 153, 3) := dk_182 0 153 (dk_at dksX2_lives_4 18 rfl rfl)
theorem dX2_lives_113 : decode cX2_lives 113 = .ok (.aload_n 0, 1) := dk_42 (dk_at dksX2_lives_4 21 rfl rfl)
theorem dX2_lives_114 : decode cX2_lives 114 = .ok (.getfield 36, 3) := dk_180 0 36 (dk_at dksX2_lives_5 0 rfl rfl)
theorem dX2_lives_117 : decode cX2_lives 117 = .ok (.getfield 158, 3) := dk_180 0 158 (dk_at dksX2_lives_5 3 rfl rfl)
theorem dX2_lives_120 : decode cX2_lives 120 = .ok (.iload_n 1, 1) := dk_27 (dk_at dksX2_lives_5 6 rfl rfl)
theorem dX2_lives_121 : decode cX2_lives 121 = .ok (.dup2, 1) := dk_92 (dk_at dksX2_lives_5 7 rfl rfl)
theorem dX2_lives_122 : decode cX2_lives 122 = .ok (.iaload, 1) := dk_46 (dk_at dksX2_lives_5 8 rfl rfl)
theorem dX2_lives_123 : decode cX2_lives 123 = .ok (.iconst 1, 1) := dk_4 (dk_at dksX2_lives_5 9 rfl rfl)
theorem dX2_lives_124 : decode cX2_lives 124 = .ok (.iadd, 1) := dk_96 (dk_at dksX2_lives_5 10 rfl rfl)
theorem dX2_lives_125 : decode cX2_lives 125 = .ok (.iastore, 1) := dk_79 (dk_at dksX2_lives_5 11 rfl rfl)
theorem dX2_lives_126 : decode cX2_lives 126 = .ok (.aload_n 0, 1) := dk_42 (dk_at dksX2_lives_5 12 rfl rfl)
theorem dX2_lives_127 : decode cX2_lives 127 = .ok (.getfield 36, 3) := dk_180 0 36 (dk_at dksX2_lives_5 13 rfl rfl)
theorem dX2_lives_130 : decode cX2_lives 130 = .ok (.getfield 158, 3) := dk_180 0 158 (dk_at dksX2_lives_5 16 rfl rfl)
theorem dX2_lives_133 : decode cX2_lives 133 = .ok (.iload_n 1, 1) := dk_27 (dk_at dksX2_lives_5 19 rfl rfl)
theorem dX2_lives_134 : decode cX2_lives 134 = .ok (.iaload, 1) := dk_46 (dk_at dksX2_lives_5 20 rfl rfl)
theorem dX2_lives_135 : decode cX2_lives 135 = .ok (.iconst 5, 1) := dk_8 (dk_at dksX2_lives_5 21 rfl rfl)
theorem dX2_lives_136 : decode cX2_lives 136 = .ok (.if_icmp .ne 8, 3) := dk_160 0 8 (dk_at dksX2_lives_6 0 rfl rfl)
theorem dX2_lives_139 : decode cX2_lives 139 = .ok (.aload_n 0, 1) := dk_42 (dk_at dksX2_lives_6 3 rfl rfl)
theorem dX2_lives_140 : decode cX2_lives 140 = .ok (.iload_n 1, 1) := dk_27 (dk_at dksX2_lives_6 4 rfl rfl)
theorem dX2_lives_141 : decode cX2_lives 141 = .ok (.invokevirtual 161, 3) := dk_182 0 161 (dk_at dksX2_lives_6 5 rfl rfl)
theorem dX2_lives_144 : decode cX2_lives 144 = .ok (.return_, 1) := dk_177 (dk_at dksX2_lives_6 8 rfl rfl)
def dkwX2_loses_0 : List UInt8 := [42, 180, 0, 36, 180, 0, 147, 27, 92, 46, 28, 100, 79, 42, 89, 180, 0, 96, 28, 96, 181, 0, 96, 177]
abbrev dktX2_loses_0 : List UInt8 := dkwX2_loses_0 ++ []
theorem dksX2_loses_0 : cX2_loses.data.toList.drop 0 = dktX2_loses_0 := by decide +kernel
theorem dX2_loses_0 : decode cX2_loses 0 = .ok (.aload_n 0, 1) := dk_42 (dk_at dksX2_loses_0 0 rfl rfl)
theorem dX2_loses_1 : decode cX2_loses 1 = .ok (.getfield 36, 3) := dk_180 0 36 (dk_at dksX2_loses_0 1 rfl rfl)
theorem dX2_loses_4 : decode cX2_loses 4 = .ok (.getfield 147, 3) := dk_180 0 147 (dk_at dksX2_loses_0 4 rfl rfl)
theorem dX2_loses_7 : decode cX2_loses 7 = .ok (.iload_n 1, 1) := dk_27 (dk_at dksX2_loses_0 7 rfl rfl)
theorem dX2_loses_8 : decode cX2_loses 8 = .ok (.dup2, 1) := dk_92 (dk_at dksX2_loses_0 8 rfl rfl)
theorem dX2_loses_9 : decode cX2_loses 9 = .ok (.iaload, 1) := dk_46 (dk_at dksX2_loses_0 9 rfl rfl)
theorem dX2_loses_10 : decode cX2_loses 10 = .ok (.iload_n 2, 1) := dk_28 (dk_at dksX2_loses_0 10 rfl rfl)
theorem dX2_loses_11 : decode cX2_loses 11 = .ok (.isub, 1) := dk_100 (dk_at dksX2_loses_0 11 rfl rfl)
theorem dX2_loses_12 : decode cX2_loses 12 = .ok (.iastore, 1) := dk_79 (dk_at dksX2_loses_0 12 rfl rfl)
theorem dX2_loses_13 : decode cX2_loses 13 = .ok (.aload_n 0, 1) := dk_42 (dk_at dksX2_loses_0 13 rfl rfl)
theorem dX2_loses_14 : decode cX2_loses 14 = .ok (.dup, 1) := dk_89 (dk_at dksX2_loses_0 14 rfl rfl)
theorem dX2_loses_15 : decode cX2_loses 15 = .ok (.getfield 96, 3) := dk_180 0 96 (dk_at dksX2_loses_0 15 rfl rfl)
theorem dX2_loses_18 : decode cX2_loses 18 = .ok (.iload_n 2, 1) := dk_28 (dk_at dksX2_loses_0 18 rfl rfl)
theorem dX2_loses_19 : decode cX2_loses 19 = .ok (.iadd, 1) := dk_96 (dk_at dksX2_loses_0 19 rfl rfl)
theorem dX2_loses_20 : decode cX2_loses 20 = .ok (.putfield 96, 3) := dk_181 0 96 (dk_at dksX2_loses_0 20 rfl rfl)
theorem dX2_loses_23 : decode cX2_loses 23 = .ok (.return_, 1) := dk_177 (dk_at dksX2_loses_0 23 rfl rfl)
def dkwX2_hatches_2 : List UInt8 := [180, 0, 147, 27, 46, 96, 181, 0, 93, 42, 180, 0, 36, 180, 0, 147, 27, 3, 79, 177]
abbrev dktX2_hatches_2 : List UInt8 := dkwX2_hatches_2 ++ []
def dkwX2_hatches_1 : List UInt8 := [42, 180, 0, 36, 180, 0, 147, 27, 46, 96, 184, 0, 115, 79, 42, 89, 180, 0, 93, 42, 180, 0, 36]
abbrev dktX2_hatches_1 : List UInt8 := dkwX2_hatches_1 ++ dktX2_hatches_2
def dkwX2_hatches_0 : List UInt8 := [42, 180, 0, 36, 180, 0, 150, 27, 46, 61, 42, 180, 0, 27, 28, 17, 3, 231, 42, 180, 0, 27, 28, 46]
abbrev dktX2_hatches_0 : List UInt8 := dkwX2_hatches_0 ++ dktX2_hatches_1
theorem dksX2_hatches_0 : cX2_hatches.data.toList.drop 0 = dktX2_hatches_0 := by decide +kernel
theorem dksX2_hatches_1 : cX2_hatches.data.toList.drop 24 = dktX2_hatches_1 := dk_seg dksX2_hatches_0 24 rfl rfl
theorem dksX2_hatches_2 : cX2_hatches.data.toList.drop 47 = dktX2_hatches_2 := dk_seg dksX2_hatches_1 23 rfl rfl
theorem dX2_hatches_0 : decode cX2_hatches 0 = .ok (.aload_n 0, 1) := dk_42 (dk_at dksX2_hatches_0 0 rfl rfl)
theorem dX2_hatches_1 : decode cX2_hatches 1 = .ok (.getfield 36, 3) := dk_180 0 36 (dk_at dksX2_hatches_0 1 rfl rfl)
theorem dX2_hatches_4 : decode cX2_hatches 4 = .ok (.getfield 150, 3) := dk_180 0 150 (dk_at dksX2_hatches_0 4 rfl rfl)
theorem dX2_hatches_7 : decode cX2_hatches 7 = .ok (.iload_n 1, 1) := dk_27 (dk_at dksX2_hatches_0 7 rfl rfl)
theorem dX2_hatches_8 : decode cX2_hatches 8 = .ok (.iaload, 1) := dk_46 (dk_at dksX2_hatches_0 8 rfl rfl)
theorem dX2_hatches_9 : decode cX2_hatches 9 = .ok (.istore_n 2, 1) := dk_61 (dk_at dksX2_hatches_0 9 rfl rfl)
theorem dX2_hatches_10 : decode cX2_hatches 10 = .ok (.aload_n 0, 1) := dk_42 (dk_at dksX2_hatches_0 10 rfl rfl)
theorem dX2_hatches_11 : decode cX2_hatches 11 = .ok (.getfield 27, 3) := dk_180 0 27 (dk_at dksX2_hatches_0 11 rfl rfl)
theorem dX2_hatches_14 : decode cX2_hatches 14 = .ok (.iload_n 2, 1) := dk_28 (dk_at dksX2_hatches_0 14 rfl rfl)
theorem dX2_hatches_15 : decode cX2_hatches 15 = .ok (.sipush 999, 3) := dk_17 3 231 (dk_at dksX2_hatches_0 15 rfl rfl)
theorem dX2_hatches_18 : decode cX2_hatches 18 = .ok (.aload_n 0, 1) := dk_42 (dk_at dksX2_hatches_0 18 rfl rfl)
theorem dX2_hatches_19 : decode cX2_hatches 19 = .ok (.getfield 27, 3) := dk_180 0 27 (dk_at dksX2_hatches_0 19 rfl rfl)
theorem dX2_hatches_22 : decode cX2_hatches 22 = .ok (.iload_n 2, 1) := dk_28 (dk_at dksX2_hatches_0 22 rfl rfl)
theorem dX2_hatches_23 : decode cX2_hatches 23 = .ok (.iaload, 1) := dk_46 (dk_at dksX2_hatches_0 23 rfl rfl)
theorem dX2_hatches_24 : decode cX2_hatches 24 = .ok (.aload_n 0, 1) := dk_42 (dk_at dksX2_hatches_1 0 rfl rfl)
theorem dX2_hatches_25 : decode cX2_hatches 25 = .ok (.getfield 36, 3) := dk_180 0 36 (dk_at dksX2_hatches_1 1 rfl rfl)
theorem dX2_hatches_28 : decode cX2_hatches 28 = .ok (.getfield 147, 3) := dk_180 0 147 (dk_at dksX2_hatches_1 4 rfl rfl)
theorem dX2_hatches_31 : decode cX2_hatches 31 = .ok (.iload_n 1, 1) := dk_27 (dk_at dksX2_hatches_1 7 rfl rfl)
theorem dX2_hatches_32 : decode cX2_hatches 32 = .ok (.iaload, 1) := dk_46 (dk_at dksX2_hatches_1 8 rfl rfl)
theorem dX2_hatches_33 : decode cX2_hatches 33 = .ok (.iadd, 1) := dk_96 (dk_at dksX2_hatches_1 9 rfl rfl)
theorem dX2_hatches_34 : decode cX2_hatches 34 = .ok (.invokestatic 115, 3) := dk_184 0 115 (dk_at dksX2_hatches_1 10 rfl rfl)
theorem dX2_hatches_37 : decode cX2_hatches 37 = .ok (.iastore, 1) := dk_79 (dk_at dksX2_hatches_1 13 rfl rfl)
theorem dX2_hatches_38 : decode cX2_hatches 38 = .ok (.aload_n 0, 1) := dk_42 (dk_at dksX2_hatches_1 14 rfl rfl)
theorem dX2_hatches_39 : decode cX2_hatches 39 = .ok (.dup, 1) := dk_89 (dk_at dksX2_hatches_1 15 rfl rfl)
theorem dX2_hatches_40 : decode cX2_hatches 40 = .ok (.getfield 93, 3) := dk_180 0 93 (dk_at dksX2_hatches_1 16 rfl rfl)
theorem dX2_hatches_43 : decode cX2_hatches 43 = .ok (.aload_n 0, 1) := dk_42 (dk_at dksX2_hatches_1 19 rfl rfl)
theorem dX2_hatches_44 : decode cX2_hatches 44 = .ok (.getfield 36, 3) := dk_180 0 36 (dk_at dksX2_hatches_1 20 rfl rfl)
theorem dX2_hatches_47 : decode cX2_hatches 47 = .ok (.getfield 147, 3) := dk_180 0 147 (dk_at dksX2_hatches_2 0 rfl rfl)
theorem dX2_hatches_50 : decode cX2_hatches 50 = .ok (.iload_n 1, 1) := dk_27 (dk_at dksX2_hatches_2 3 rfl rfl)
theorem dX2_hatches_51 : decode cX2_hatches 51 = .ok (.iaload, 1) := dk_46 (dk_at dksX2_hatches_2 4 rfl rfl)
theorem dX2_hatches_52 : decode cX2_hatches 52 = .ok (.iadd, 1) := dk_96 (dk_at dksX2_hatches_2 5 rfl rfl)
theorem dX2_hatches_53 : decode cX2_hatches 53 = .ok (.putfield 93, 3) := dk_181 0 93 (dk_at dksX2_hatches_2 6 rfl rfl)
theorem dX2_hatches_56 : decode cX2_hatches 56 = .ok (.aload_n 0, 1) := dk_42 (dk_at dksX2_hatches_2 9 rfl rfl)
theorem dX2_hatches_57 : decode cX2_hatches 57 = .ok (.getfield 36, 3) := dk_180 0 36 (dk_at dksX2_hatches_2 10 rfl rfl)
theorem dX2_hatches_60 : decode cX2_hatches 60 = .ok (.getfield 147, 3) := dk_180 0 147 (dk_at dksX2_hatches_2 13 rfl rfl)
theorem dX2_hatches_63 : decode cX2_hatches 63 = .ok (.iload_n 1, 1) := dk_27 (dk_at dksX2_hatches_2 16 rfl rfl)
theorem dX2_hatches_64 : decode cX2_hatches 64 = .ok (.iconst 0, 1) := dk_3 (dk_at dksX2_hatches_2 17 rfl rfl)
theorem dX2_hatches_65 : decode cX2_hatches 65 = .ok (.iastore, 1) := dk_79 (dk_at dksX2_hatches_2 18 rfl rfl)
theorem dX2_hatches_66 : decode cX2_hatches 66 = .ok (.return_, 1) := dk_177 (dk_at dksX2_hatches_2 19 rfl rfl)
def dkwX2_night_2 : List UInt8 := [89, 180, 0, 87, 42, 180, 0, 69, 154, 0, 7, 4, 167, 0, 4, 3, 96, 181, 0, 87, 177]
abbrev dktX2_night_2 : List UInt8 := dkwX2_night_2 ++ []
def dkwX2_night_1 : List UInt8 := [182, 0, 165, 153, 0, 9, 4, 27, 120, 167, 0, 4, 3, 128, 181, 0, 69, 132, 1, 1, 167, 255, 221, 42]
abbrev dktX2_night_1 : List UInt8 := dkwX2_night_1 ++ dktX2_night_2
def dkwX2_night_0 : List UInt8 := [42, 3, 181, 0, 69, 3, 60, 27, 42, 180, 0, 50, 162, 0, 33, 42, 89, 180, 0, 69, 42, 27]
abbrev dktX2_night_0 : List UInt8 := dkwX2_night_0 ++ dktX2_night_1
theorem dksX2_night_0 : cX2_night.data.toList.drop 0 = dktX2_night_0 := by decide +kernel
theorem dksX2_night_1 : cX2_night.data.toList.drop 22 = dktX2_night_1 := dk_seg dksX2_night_0 22 rfl rfl
theorem dksX2_night_2 : cX2_night.data.toList.drop 46 = dktX2_night_2 := dk_seg dksX2_night_1 24 rfl rfl
theorem dX2_night_0 : decode cX2_night 0 = .ok (.aload_n 0, 1) := dk_42 (dk_at dksX2_night_0 0 rfl rfl)
theorem dX2_night_1 : decode cX2_night 1 = .ok (.iconst 0, 1) := dk_3 (dk_at dksX2_night_0 1 rfl rfl)
theorem dX2_night_2 : decode cX2_night 2 = .ok (.putfield 69, 3) := dk_181 0 69 (dk_at dksX2_night_0 2 rfl rfl)
theorem dX2_night_5 : decode cX2_night 5 = .ok (.iconst 0, 1) := dk_3 (dk_at dksX2_night_0 5 rfl rfl)
theorem dX2_night_6 : decode cX2_night 6 = .ok (.istore_n 1, 1) := dk_60 (dk_at dksX2_night_0 6 rfl rfl)
theorem dX2_night_7 : decode cX2_night 7 = .ok (.iload_n 1, 1) := dk_27 (dk_at dksX2_night_0 7 rfl rfl)
theorem dX2_night_8 : decode cX2_night 8 = .ok (.aload_n 0, 1) := dk_42 (dk_at dksX2_night_0 8 rfl rfl)
theorem dX2_night_9 : decode cX2_night 9 = .ok (.getfield 50, 3) := dk_180 0 50 (dk_at dksX2_night_0 9 rfl rfl)
theorem dX2_night_12 : decode cX2_night 12 = .ok (.if_icmp .ge 33, 3) := dk_162 0 33 (dk_at dksX2_night_0 12 rfl rfl)
theorem dX2_night_15 : decode cX2_night 15 = .ok (.aload_n 0, 1) := dk_42 (dk_at dksX2_night_0 15 rfl rfl)
theorem dX2_night_16 : decode cX2_night 16 = .ok (.dup, 1) := dk_89 (dk_at dksX2_night_0 16 rfl rfl)
theorem dX2_night_17 : decode cX2_night 17 = .ok (.getfield 69, 3) := dk_180 0 69 (dk_at dksX2_night_0 17 rfl rfl)
theorem dX2_night_20 : decode cX2_night 20 = .ok (.aload_n 0, 1) := dk_42 (dk_at dksX2_night_0 20 rfl rfl)
theorem dX2_night_21 : decode cX2_night 21 = .ok (.iload_n 1, 1) := dk_27 (dk_at dksX2_night_0 21 rfl rfl)
theorem dX2_night_22 : decode cX2_night 22 = .ok (.invokevirtual 165, 3) := dk_182 0 165 (dk_at dksX2_night_1 0 rfl rfl)
theorem dX2_night_25 : decode cX2_night 25 = .ok (.ifCond .eq 9, 3) := dk_153 0 9 (dk_at dksX2_night_1 3 rfl rfl)
theorem dX2_night_28 : decode cX2_night 28 = .ok (.iconst 1, 1) := dk_4 (dk_at dksX2_night_1 6 rfl rfl)
theorem dX2_night_29 : decode cX2_night 29 = .ok (.iload_n 1, 1) := dk_27 (dk_at dksX2_night_1 7 rfl rfl)
theorem dX2_night_30 : decode cX2_night 30 = .ok (.ishl, 1) := dk_120 (dk_at dksX2_night_1 8 rfl rfl)
theorem dX2_night_31 : decode cX2_night 31 = .ok (.goto 4, 3) := dk_167 0 4 (dk_at dksX2_night_1 9 rfl rfl)
theorem dX2_night_34 : decode cX2_night 34 = .ok (.iconst 0, 1) := dk_3 (dk_at dksX2_night_1 12 rfl rfl)
theorem dX2_night_35 : decode cX2_night 35 = .ok (.ior, 1) := dk_128 (dk_at dksX2_night_1 13 rfl rfl)
theorem dX2_night_36 : decode cX2_night 36 = .ok (.putfield 69, 3) := dk_181 0 69 (dk_at dksX2_night_1 14 rfl rfl)
theorem dX2_night_39 : decode cX2_night 39 = .ok (.iinc 1 1, 3) := dk_132 1 1 (dk_at dksX2_night_1 17 rfl rfl)
theorem dX2_night_42 : decode cX2_night 42 = .ok (.goto (-35), 3) := dk_167 255 221 (dk_at dksX2_night_1 20 rfl rfl)
theorem dX2_night_45 : decode cX2_night 45 = .ok (.aload_n 0, 1) := dk_42 (dk_at dksX2_night_1 23 rfl rfl)
theorem dX2_night_46 : decode cX2_night 46 = .ok (.dup, 1) := dk_89 (dk_at dksX2_night_2 0 rfl rfl)
theorem dX2_night_47 : decode cX2_night 47 = .ok (.getfield 87, 3) := dk_180 0 87 (dk_at dksX2_night_2 1 rfl rfl)
theorem dX2_night_50 : decode cX2_night 50 = .ok (.aload_n 0, 1) := dk_42 (dk_at dksX2_night_2 4 rfl rfl)
theorem dX2_night_51 : decode cX2_night 51 = .ok (.getfield 69, 3) := dk_180 0 69 (dk_at dksX2_night_2 5 rfl rfl)
theorem dX2_night_54 : decode cX2_night 54 = .ok (.ifCond .ne 7, 3) := dk_154 0 7 (dk_at dksX2_night_2 8 rfl rfl)
theorem dX2_night_57 : decode cX2_night 57 = .ok (.iconst 1, 1) := dk_4 (dk_at dksX2_night_2 11 rfl rfl)
theorem dX2_night_58 : decode cX2_night 58 = .ok (.goto 4, 3) := dk_167 0 4 (dk_at dksX2_night_2 12 rfl rfl)
theorem dX2_night_61 : decode cX2_night 61 = .ok (.iconst 0, 1) := dk_3 (dk_at dksX2_night_2 15 rfl rfl)
theorem dX2_night_62 : decode cX2_night 62 = .ok (.iadd, 1) := dk_96 (dk_at dksX2_night_2 16 rfl rfl)
theorem dX2_night_63 : decode cX2_night 63 = .ok (.putfield 87, 3) := dk_181 0 87 (dk_at dksX2_night_2 17 rfl rfl)
theorem dX2_night_66 : decode cX2_night 66 = .ok (.return_, 1) := dk_177 (dk_at dksX2_night_2 20 rfl rfl)
def dkwX2_isCalling_1 : List UInt8 := [153, 0, 7, 4, 167, 0, 4, 3, 172]
abbrev dktX2_isCalling_1 : List UInt8 := dkwX2_isCalling_1 ++ []
def dkwX2_isCalling_0 : List UInt8 := [42, 180, 0, 27, 27, 46, 158, 0, 25, 42, 27, 182, 0, 124, 5, 42, 180, 0, 15, 27, 46, 184, 0, 99]
abbrev dktX2_isCalling_0 : List UInt8 := dkwX2_isCalling_0 ++ dktX2_isCalling_1
theorem dksX2_isCalling_0 : cX2_isCalling.data.toList.drop 0 = dktX2_isCalling_0 := by decide +kernel
theorem dksX2_isCalling_1 : cX2_isCalling.data.toList.drop 24 = dktX2_isCalling_1 := dk_seg dksX2_isCalling_0 24 rfl rfl
theorem dX2_isCalling_0 : decode cX2_isCalling 0 = .ok (.aload_n 0, 1) := dk_42 (dk_at dksX2_isCalling_0 0 rfl rfl)
theorem dX2_isCalling_1 : decode cX2_isCalling 1 = .ok (.getfield 27, 3) := dk_180 0 27 (dk_at dksX2_isCalling_0 1 rfl rfl)
theorem dX2_isCalling_4 : decode cX2_isCalling 4 = .ok (.iload_n 1, 1) := dk_27 (dk_at dksX2_isCalling_0 4 rfl rfl)
theorem dX2_isCalling_5 : decode cX2_isCalling 5 = .ok (.iaload, 1) := dk_46 (dk_at dksX2_isCalling_0 5 rfl rfl)
theorem dX2_isCalling_6 : decode cX2_isCalling 6 = .ok (.ifCond .le 25, 3) := dk_158 0 25 (dk_at dksX2_isCalling_0 6 rfl rfl)
theorem dX2_isCalling_9 : decode cX2_isCalling 9 = .ok (.aload_n 0, 1) := dk_42 (dk_at dksX2_isCalling_0 9 rfl rfl)
theorem dX2_isCalling_10 : decode cX2_isCalling 10 = .ok (.iload_n 1, 1) := dk_27 (dk_at dksX2_isCalling_0 10 rfl rfl)
theorem dX2_isCalling_11 : decode cX2_isCalling 11 = .ok (.invokevirtual 124, 3) := dk_182 0 124 (dk_at dksX2_isCalling_0 11 rfl rfl)
theorem dX2_isCalling_14 : decode cX2_isCalling 14 = .ok (.iconst 2, 1) := dk_5 (dk_at dksX2_isCalling_0 14 rfl rfl)
theorem dX2_isCalling_15 : decode cX2_isCalling 15 = .ok (.aload_n 0, 1) := dk_42 (dk_at dksX2_isCalling_0 15 rfl rfl)
theorem dX2_isCalling_16 : decode cX2_isCalling 16 = .ok (.getfield 15, 3) := dk_180 0 15 (dk_at dksX2_isCalling_0 16 rfl rfl)
theorem dX2_isCalling_19 : decode cX2_isCalling 19 = .ok (.iload_n 1, 1) := dk_27 (dk_at dksX2_isCalling_0 19 rfl rfl)
theorem dX2_isCalling_20 : decode cX2_isCalling 20 = .ok (.iaload, 1) := dk_46 (dk_at dksX2_isCalling_0 20 rfl rfl)
theorem dX2_isCalling_21 : decode cX2_isCalling 21 = .ok (.invokestatic 99, 3) := dk_184 0 99 (dk_at dksX2_isCalling_0 21 rfl rfl)
theorem dX2_isCalling_24 : decode cX2_isCalling 24 = .ok (.ifCond .eq 7, 3) := dk_153 0 7 (dk_at dksX2_isCalling_1 0 rfl rfl)
theorem dX2_isCalling_27 : decode cX2_isCalling 27 = .ok (.iconst 1, 1) := dk_4 (dk_at dksX2_isCalling_1 3 rfl rfl)
theorem dX2_isCalling_28 : decode cX2_isCalling 28 = .ok (.goto 4, 3) := dk_167 0 4 (dk_at dksX2_isCalling_1 4 rfl rfl)
theorem dX2_isCalling_31 : decode cX2_isCalling 31 = .ok (.iconst 0, 1) := dk_3 (dk_at dksX2_isCalling_1 7 rfl rfl)
theorem dX2_isCalling_32 : decode cX2_isCalling 32 = .ok (.ireturn, 1) := dk_172 (dk_at dksX2_isCalling_1 8 rfl rfl)
def dkwX2_become_10 : List UInt8 := [180, 0, 96, 181, 0, 96, 42, 176]
abbrev dktX2_become_10 : List UInt8 := dkwX2_become_10 ++ []
def dkwX2_become_9 : List UInt8 := [180, 0, 87, 181, 0, 87, 42, 43, 180, 0, 90, 181, 0, 90, 42, 43, 180, 0, 93, 181, 0, 93, 42, 43]
abbrev dktX2_become_9 : List UInt8 := dkwX2_become_9 ++ dktX2_become_10
def dkwX2_become_8 : List UInt8 := [180, 0, 78, 181, 0, 78, 42, 43, 180, 0, 81, 181, 0, 81, 42, 43, 180, 0, 84, 181, 0, 84, 42, 43]
abbrev dktX2_become_8 : List UInt8 := dkwX2_become_8 ++ dktX2_become_9
def dkwX2_become_7 : List UInt8 := [180, 0, 69, 181, 0, 69, 42, 43, 180, 0, 72, 181, 0, 72, 42, 43, 180, 0, 75, 181, 0, 75, 42, 43]
abbrev dktX2_become_7 : List UInt8 := dkwX2_become_7 ++ dktX2_become_8
def dkwX2_become_6 : List UInt8 := [180, 0, 60, 181, 0, 60, 42, 43, 180, 0, 63, 181, 0, 63, 42, 43, 180, 0, 66, 181, 0, 66, 42, 43]
abbrev dktX2_become_6 : List UInt8 := dkwX2_become_6 ++ dktX2_become_7
def dkwX2_become_5 : List UInt8 := [180, 0, 50, 181, 0, 50, 42, 43, 180, 0, 54, 181, 0, 54, 42, 43, 180, 0, 57, 181, 0, 57, 42, 43]
abbrev dktX2_become_5 : List UInt8 := dkwX2_become_5 ++ dktX2_become_6
def dkwX2_become_4 : List UInt8 := [3, 42, 180, 0, 30, 3, 16, 30, 184, 0, 40, 42, 180, 0, 36, 43, 180, 0, 36, 182, 0, 46, 42, 43]
abbrev dktX2_become_4 : List UInt8 := dkwX2_become_4 ++ dktX2_become_5
def dkwX2_become_3 : List UInt8 := [16, 6, 184, 0, 40, 43, 180, 0, 27, 3, 42, 180, 0, 27, 3, 16, 6, 184, 0, 40, 43, 180, 0, 30]
abbrev dktX2_become_3 : List UInt8 := dkwX2_become_3 ++ dktX2_become_4
def dkwX2_become_2 : List UInt8 := [180, 0, 21, 3, 42, 180, 0, 21, 3, 16, 6, 184, 0, 40, 43, 180, 0, 24, 3, 42, 180, 0, 24, 3]
abbrev dktX2_become_2 : List UInt8 := dkwX2_become_2 ++ dktX2_become_3
def dkwX2_become_1 : List UInt8 := [3, 16, 6, 184, 0, 40, 43, 180, 0, 18, 3, 42, 180, 0, 18, 3, 16, 6, 184, 0, 40, 43]
abbrev dktX2_become_1 : List UInt8 := dkwX2_become_1 ++ dktX2_become_2
def dkwX2_become_0 : List UInt8 := [43, 180, 0, 9, 3, 42, 180, 0, 9, 3, 16, 6, 184, 0, 40, 43, 180, 0, 15, 3, 42, 180, 0, 15]
abbrev dktX2_become_0 : List UInt8 := dkwX2_become_0 ++ dktX2_become_1
theorem dksX2_become_0 : cX2_become.data.toList.drop 0 = dktX2_become_0 := by decide +kernel
theorem dksX2_become_1 : cX2_become.data.toList.drop 24 = dktX2_become_1 := dk_seg dksX2_become_0 24 rfl rfl
theorem dksX2_become_2 : cX2_become.data.toList.drop 46 = dktX2_become_2 := dk_seg dksX2_become_1 22 rfl rfl
theorem dksX2_become_3 : cX2_become.data.toList.drop 70 = dktX2_become_3 := dk_seg dksX2_become_2 24 rfl rfl
theorem dksX2_become_4 : cX2_become.data.toList.drop 94 = dktX2_become_4 := dk_seg dksX2_become_3 24 rfl rfl
theorem dksX2_become_5 : cX2_become.data.toList.drop 118 = dktX2_become_5 := dk_seg dksX2_become_4 24 rfl rfl
theorem dksX2_become_6 : cX2_become.data.toList.drop 142 = dktX2_become_6 := dk_seg dksX2_become_5 24 rfl rfl
theorem dksX2_become_7 : cX2_become.data.toList.drop 166 = dktX2_become_7 := dk_seg dksX2_become_6 24 rfl rfl
theorem dksX2_become_8 : cX2_become.data.toList.drop 190 = dktX2_become_8 := dk_seg dksX2_become_7 24 rfl rfl
theorem dksX2_become_9 : cX2_become.data.toList.drop 214 = dktX2_become_9 := dk_seg dksX2_become_8 24 rfl rfl
theorem dksX2_become_10 : cX2_become.data.toList.drop 238 = dktX2_become_10 := dk_seg dksX2_become_9 24 rfl rfl
theorem dX2_become_0 : decode cX2_become 0 = .ok (.aload_n 1, 1) := dk_43 (dk_at dksX2_become_0 0 rfl rfl)
theorem dX2_become_1 : decode cX2_become 1 = .ok (.getfield 9, 3) := dk_180 0 9 (dk_at dksX2_become_0 1 rfl rfl)
theorem dX2_become_4 : decode cX2_become 4 = .ok (.iconst 0, 1) := dk_3 (dk_at dksX2_become_0 4 rfl rfl)
theorem dX2_become_5 : decode cX2_become 5 = .ok (.aload_n 0, 1) := dk_42 (dk_at dksX2_become_0 5 rfl rfl)
theorem dX2_become_6 : decode cX2_become 6 = .ok (.getfield 9, 3) := dk_180 0 9 (dk_at dksX2_become_0 6 rfl rfl)
theorem dX2_become_9 : decode cX2_become 9 = .ok (.iconst 0, 1) := dk_3 (dk_at dksX2_become_0 9 rfl rfl)
theorem dX2_become_10 : decode cX2_become 10 = .ok (.bipush 6, 2) := dk_16 6 (dk_at dksX2_become_0 10 rfl rfl)
theorem dX2_become_12 : decode cX2_become 12 = .ok (.invokestatic 40, 3) := dk_184 0 40 (dk_at dksX2_become_0 12 rfl rfl)
theorem dX2_become_15 : decode cX2_become 15 = .ok (.aload_n 1, 1) := dk_43 (dk_at dksX2_become_0 15 rfl rfl)
theorem dX2_become_16 : decode cX2_become 16 = .ok (.getfield 15, 3) := dk_180 0 15 (dk_at dksX2_become_0 16 rfl rfl)
theorem dX2_become_19 : decode cX2_become 19 = .ok (.iconst 0, 1) := dk_3 (dk_at dksX2_become_0 19 rfl rfl)
theorem dX2_become_20 : decode cX2_become 20 = .ok (.aload_n 0, 1) := dk_42 (dk_at dksX2_become_0 20 rfl rfl)
theorem dX2_become_21 : decode cX2_become 21 = .ok (.getfield 15, 3) := dk_180 0 15 (dk_at dksX2_become_0 21 rfl rfl)
theorem dX2_become_24 : decode cX2_become 24 = .ok (.iconst 0, 1) := dk_3 (dk_at dksX2_become_1 0 rfl rfl)
theorem dX2_become_25 : decode cX2_become 25 = .ok (.bipush 6, 2) := dk_16 6 (dk_at dksX2_become_1 1 rfl rfl)
theorem dX2_become_27 : decode cX2_become 27 = .ok (.invokestatic 40, 3) := dk_184 0 40 (dk_at dksX2_become_1 3 rfl rfl)
theorem dX2_become_30 : decode cX2_become 30 = .ok (.aload_n 1, 1) := dk_43 (dk_at dksX2_become_1 6 rfl rfl)
theorem dX2_become_31 : decode cX2_become 31 = .ok (.getfield 18, 3) := dk_180 0 18 (dk_at dksX2_become_1 7 rfl rfl)
theorem dX2_become_34 : decode cX2_become 34 = .ok (.iconst 0, 1) := dk_3 (dk_at dksX2_become_1 10 rfl rfl)
theorem dX2_become_35 : decode cX2_become 35 = .ok (.aload_n 0, 1) := dk_42 (dk_at dksX2_become_1 11 rfl rfl)
theorem dX2_become_36 : decode cX2_become 36 = .ok (.getfield 18, 3) := dk_180 0 18 (dk_at dksX2_become_1 12 rfl rfl)
theorem dX2_become_39 : decode cX2_become 39 = .ok (.iconst 0, 1) := dk_3 (dk_at dksX2_become_1 15 rfl rfl)
theorem dX2_become_40 : decode cX2_become 40 = .ok (.bipush 6, 2) := dk_16 6 (dk_at dksX2_become_1 16 rfl rfl)
theorem dX2_become_42 : decode cX2_become 42 = .ok (.invokestatic 40, 3) := dk_184 0 40 (dk_at dksX2_become_1 18 rfl rfl)
theorem dX2_become_45 : decode cX2_become 45 = .ok (.aload_n 1, 1) := dk_43 (dk_at dksX2_become_1 21 rfl rfl)
theorem dX2_become_46 : decode cX2_become 46 = .ok (.getfield 21, 3) := dk_180 0 21 (dk_at dksX2_become_2 0 rfl rfl)
theorem dX2_become_49 : decode cX2_become 49 = .ok (.iconst 0, 1) := dk_3 (dk_at dksX2_become_2 3 rfl rfl)
theorem dX2_become_50 : decode cX2_become 50 = .ok (.aload_n 0, 1) := dk_42 (dk_at dksX2_become_2 4 rfl rfl)
theorem dX2_become_51 : decode cX2_become 51 = .ok (.getfield 21, 3) := dk_180 0 21 (dk_at dksX2_become_2 5 rfl rfl)
theorem dX2_become_54 : decode cX2_become 54 = .ok (.iconst 0, 1) := dk_3 (dk_at dksX2_become_2 8 rfl rfl)
theorem dX2_become_55 : decode cX2_become 55 = .ok (.bipush 6, 2) := dk_16 6 (dk_at dksX2_become_2 9 rfl rfl)
theorem dX2_become_57 : decode cX2_become 57 = .ok (.invokestatic 40, 3) := dk_184 0 40 (dk_at dksX2_become_2 11 rfl rfl)
theorem dX2_become_60 : decode cX2_become 60 = .ok (.aload_n 1, 1) := dk_43 (dk_at dksX2_become_2 14 rfl rfl)
theorem dX2_become_61 : decode cX2_become 61 = .ok (.getfield 24, 3) := dk_180 0 24 (dk_at dksX2_become_2 15 rfl rfl)
theorem dX2_become_64 : decode cX2_become 64 = .ok (.iconst 0, 1) := dk_3 (dk_at dksX2_become_2 18 rfl rfl)
theorem dX2_become_65 : decode cX2_become 65 = .ok (.aload_n 0, 1) := dk_42 (dk_at dksX2_become_2 19 rfl rfl)
theorem dX2_become_66 : decode cX2_become 66 = .ok (.getfield 24, 3) := dk_180 0 24 (dk_at dksX2_become_2 20 rfl rfl)
theorem dX2_become_69 : decode cX2_become 69 = .ok (.iconst 0, 1) := dk_3 (dk_at dksX2_become_2 23 rfl rfl)
theorem dX2_become_70 : decode cX2_become 70 = .ok (.bipush 6, 2) := dk_16 6 (dk_at dksX2_become_3 0 rfl rfl)
theorem dX2_become_72 : decode cX2_become 72 = .ok (.invokestatic 40, 3) := dk_184 0 40 (dk_at dksX2_become_3 2 rfl rfl)
theorem dX2_become_75 : decode cX2_become 75 = .ok (.aload_n 1, 1) := dk_43 (dk_at dksX2_become_3 5 rfl rfl)
theorem dX2_become_76 : decode cX2_become 76 = .ok (.getfield 27, 3) := dk_180 0 27 (dk_at dksX2_become_3 6 rfl rfl)
theorem dX2_become_79 : decode cX2_become 79 = .ok (.iconst 0, 1) := dk_3 (dk_at dksX2_become_3 9 rfl rfl)
theorem dX2_become_80 : decode cX2_become 80 = .ok (.aload_n 0, 1) := dk_42 (dk_at dksX2_become_3 10 rfl rfl)
theorem dX2_become_81 : decode cX2_become 81 = .ok (.getfield 27, 3) := dk_180 0 27 (dk_at dksX2_become_3 11 rfl rfl)
theorem dX2_become_84 : decode cX2_become 84 = .ok (.iconst 0, 1) := dk_3 (dk_at dksX2_become_3 14 rfl rfl)
theorem dX2_become_85 : decode cX2_become 85 = .ok (.bipush 6, 2) := dk_16 6 (dk_at dksX2_become_3 15 rfl rfl)
theorem dX2_become_87 : decode cX2_become 87 = .ok (.invokestatic 40, 3) := dk_184 0 40 (dk_at dksX2_become_3 17 rfl rfl)
theorem dX2_become_90 : decode cX2_become 90 = .ok (.aload_n 1, 1) := dk_43 (dk_at dksX2_become_3 20 rfl rfl)
theorem dX2_become_91 : decode cX2_become 91 = .ok (.getfield 30, 3) := dk_180 0 30 (dk_at dksX2_become_3 21 rfl rfl)
theorem dX2_become_94 : decode cX2_become 94 = .ok (.iconst 0, 1) := dk_3 (dk_at dksX2_become_4 0 rfl rfl)
theorem dX2_become_95 : decode cX2_become 95 = .ok (.aload_n 0, 1) := dk_42 (dk_at dksX2_become_4 1 rfl rfl)
theorem dX2_become_96 : decode cX2_become 96 = .ok (.getfield 30, 3) := dk_180 0 30 (dk_at dksX2_become_4 2 rfl rfl)
theorem dX2_become_99 : decode cX2_become 99 = .ok (.iconst 0, 1) := dk_3 (dk_at dksX2_become_4 5 rfl rfl)
theorem dX2_become_100 : decode cX2_become 100 = .ok (.bipush 30, 2) := dk_16 30 (dk_at dksX2_become_4 6 rfl rfl)
theorem dX2_become_102 : decode cX2_become 102 = .ok (.invokestatic 40, 3) := dk_184 0 40 (dk_at dksX2_become_4 8 rfl rfl)
theorem dX2_become_105 : decode cX2_become 105 = .ok (.aload_n 0, 1) := dk_42 (dk_at dksX2_become_4 11 rfl rfl)
theorem dX2_become_106 : decode cX2_become 106 = .ok (.getfield 36, 3) := dk_180 0 36 (dk_at dksX2_become_4 12 rfl rfl)
theorem dX2_become_109 : decode cX2_become 109 = .ok (.aload_n 1, 1) := dk_43 (dk_at dksX2_become_4 15 rfl rfl)
theorem dX2_become_110 : decode cX2_become 110 = .ok (.getfield 36, 3) := dk_180 0 36 (dk_at dksX2_become_4 16 rfl rfl)
theorem dX2_become_113 : decode cX2_become 113 = .ok (.invokevirtual 46, 3) := dk_182 0 46 (dk_at dksX2_become_4 19 rfl rfl)
theorem dX2_become_116 : decode cX2_become 116 = .ok (.aload_n 0, 1) := dk_42 (dk_at dksX2_become_4 22 rfl rfl)
theorem dX2_become_117 : decode cX2_become 117 = .ok (.aload_n 1, 1) := dk_43 (dk_at dksX2_become_4 23 rfl rfl)
theorem dX2_become_118 : decode cX2_become 118 = .ok (.getfield 50, 3) := dk_180 0 50 (dk_at dksX2_become_5 0 rfl rfl)
theorem dX2_become_121 : decode cX2_become 121 = .ok (.putfield 50, 3) := dk_181 0 50 (dk_at dksX2_become_5 3 rfl rfl)
theorem dX2_become_124 : decode cX2_become 124 = .ok (.aload_n 0, 1) := dk_42 (dk_at dksX2_become_5 6 rfl rfl)
theorem dX2_become_125 : decode cX2_become 125 = .ok (.aload_n 1, 1) := dk_43 (dk_at dksX2_become_5 7 rfl rfl)
theorem dX2_become_126 : decode cX2_become 126 = .ok (.getfield 54, 3) := dk_180 0 54 (dk_at dksX2_become_5 8 rfl rfl)
theorem dX2_become_129 : decode cX2_become 129 = .ok (.putfield 54, 3) := dk_181 0 54 (dk_at dksX2_become_5 11 rfl rfl)
theorem dX2_become_132 : decode cX2_become 132 = .ok (.aload_n 0, 1) := dk_42 (dk_at dksX2_become_5 14 rfl rfl)
theorem dX2_become_133 : decode cX2_become 133 = .ok (.aload_n 1, 1) := dk_43 (dk_at dksX2_become_5 15 rfl rfl)
theorem dX2_become_134 : decode cX2_become 134 = .ok (.getfield 57, 3) := dk_180 0 57 (dk_at dksX2_become_5 16 rfl rfl)
theorem dX2_become_137 : decode cX2_become 137 = .ok (.putfield 57, 3) := dk_181 0 57 (dk_at dksX2_become_5 19 rfl rfl)
theorem dX2_become_140 : decode cX2_become 140 = .ok (.aload_n 0, 1) := dk_42 (dk_at dksX2_become_5 22 rfl rfl)
theorem dX2_become_141 : decode cX2_become 141 = .ok (.aload_n 1, 1) := dk_43 (dk_at dksX2_become_5 23 rfl rfl)
theorem dX2_become_142 : decode cX2_become 142 = .ok (.getfield 60, 3) := dk_180 0 60 (dk_at dksX2_become_6 0 rfl rfl)
theorem dX2_become_145 : decode cX2_become 145 = .ok (.putfield 60, 3) := dk_181 0 60 (dk_at dksX2_become_6 3 rfl rfl)
theorem dX2_become_148 : decode cX2_become 148 = .ok (.aload_n 0, 1) := dk_42 (dk_at dksX2_become_6 6 rfl rfl)
theorem dX2_become_149 : decode cX2_become 149 = .ok (.aload_n 1, 1) := dk_43 (dk_at dksX2_become_6 7 rfl rfl)
theorem dX2_become_150 : decode cX2_become 150 = .ok (.getfield 63, 3) := dk_180 0 63 (dk_at dksX2_become_6 8 rfl rfl)
theorem dX2_become_153 : decode cX2_become 153 = .ok (.putfield 63, 3) := dk_181 0 63 (dk_at dksX2_become_6 11 rfl rfl)
theorem dX2_become_156 : decode cX2_become 156 = .ok (.aload_n 0, 1) := dk_42 (dk_at dksX2_become_6 14 rfl rfl)
theorem dX2_become_157 : decode cX2_become 157 = .ok (.aload_n 1, 1) := dk_43 (dk_at dksX2_become_6 15 rfl rfl)
theorem dX2_become_158 : decode cX2_become 158 = .ok (.getfield 66, 3) := dk_180 0 66 (dk_at dksX2_become_6 16 rfl rfl)
theorem dX2_become_161 : decode cX2_become 161 = .ok (.putfield 66, 3) := dk_181 0 66 (dk_at dksX2_become_6 19 rfl rfl)
theorem dX2_become_164 : decode cX2_become 164 = .ok (.aload_n 0, 1) := dk_42 (dk_at dksX2_become_6 22 rfl rfl)
theorem dX2_become_165 : decode cX2_become 165 = .ok (.aload_n 1, 1) := dk_43 (dk_at dksX2_become_6 23 rfl rfl)
theorem dX2_become_166 : decode cX2_become 166 = .ok (.getfield 69, 3) := dk_180 0 69 (dk_at dksX2_become_7 0 rfl rfl)
theorem dX2_become_169 : decode cX2_become 169 = .ok (.putfield 69, 3) := dk_181 0 69 (dk_at dksX2_become_7 3 rfl rfl)
theorem dX2_become_172 : decode cX2_become 172 = .ok (.aload_n 0, 1) := dk_42 (dk_at dksX2_become_7 6 rfl rfl)
theorem dX2_become_173 : decode cX2_become 173 = .ok (.aload_n 1, 1) := dk_43 (dk_at dksX2_become_7 7 rfl rfl)
theorem dX2_become_174 : decode cX2_become 174 = .ok (.getfield 72, 3) := dk_180 0 72 (dk_at dksX2_become_7 8 rfl rfl)
theorem dX2_become_177 : decode cX2_become 177 = .ok (.putfield 72, 3) := dk_181 0 72 (dk_at dksX2_become_7 11 rfl rfl)
theorem dX2_become_180 : decode cX2_become 180 = .ok (.aload_n 0, 1) := dk_42 (dk_at dksX2_become_7 14 rfl rfl)
theorem dX2_become_181 : decode cX2_become 181 = .ok (.aload_n 1, 1) := dk_43 (dk_at dksX2_become_7 15 rfl rfl)
theorem dX2_become_182 : decode cX2_become 182 = .ok (.getfield 75, 3) := dk_180 0 75 (dk_at dksX2_become_7 16 rfl rfl)
theorem dX2_become_185 : decode cX2_become 185 = .ok (.putfield 75, 3) := dk_181 0 75 (dk_at dksX2_become_7 19 rfl rfl)
theorem dX2_become_188 : decode cX2_become 188 = .ok (.aload_n 0, 1) := dk_42 (dk_at dksX2_become_7 22 rfl rfl)
theorem dX2_become_189 : decode cX2_become 189 = .ok (.aload_n 1, 1) := dk_43 (dk_at dksX2_become_7 23 rfl rfl)
theorem dX2_become_190 : decode cX2_become 190 = .ok (.getfield 78, 3) := dk_180 0 78 (dk_at dksX2_become_8 0 rfl rfl)
theorem dX2_become_193 : decode cX2_become 193 = .ok (.putfield 78, 3) := dk_181 0 78 (dk_at dksX2_become_8 3 rfl rfl)
theorem dX2_become_196 : decode cX2_become 196 = .ok (.aload_n 0, 1) := dk_42 (dk_at dksX2_become_8 6 rfl rfl)
theorem dX2_become_197 : decode cX2_become 197 = .ok (.aload_n 1, 1) := dk_43 (dk_at dksX2_become_8 7 rfl rfl)
theorem dX2_become_198 : decode cX2_become 198 = .ok (.getfield 81, 3) := dk_180 0 81 (dk_at dksX2_become_8 8 rfl rfl)
theorem dX2_become_201 : decode cX2_become 201 = .ok (.putfield 81, 3) := dk_181 0 81 (dk_at dksX2_become_8 11 rfl rfl)
theorem dX2_become_204 : decode cX2_become 204 = .ok (.aload_n 0, 1) := dk_42 (dk_at dksX2_become_8 14 rfl rfl)
theorem dX2_become_205 : decode cX2_become 205 = .ok (.aload_n 1, 1) := dk_43 (dk_at dksX2_become_8 15 rfl rfl)
theorem dX2_become_206 : decode cX2_become 206 = .ok (.getfield 84, 3) := dk_180 0 84 (dk_at dksX2_become_8 16 rfl rfl)
theorem dX2_become_209 : decode cX2_become 209 = .ok (.putfield 84, 3) := dk_181 0 84 (dk_at dksX2_become_8 19 rfl rfl)
theorem dX2_become_212 : decode cX2_become 212 = .ok (.aload_n 0, 1) := dk_42 (dk_at dksX2_become_8 22 rfl rfl)
theorem dX2_become_213 : decode cX2_become 213 = .ok (.aload_n 1, 1) := dk_43 (dk_at dksX2_become_8 23 rfl rfl)
theorem dX2_become_214 : decode cX2_become 214 = .ok (.getfield 87, 3) := dk_180 0 87 (dk_at dksX2_become_9 0 rfl rfl)
theorem dX2_become_217 : decode cX2_become 217 = .ok (.putfield 87, 3) := dk_181 0 87 (dk_at dksX2_become_9 3 rfl rfl)
theorem dX2_become_220 : decode cX2_become 220 = .ok (.aload_n 0, 1) := dk_42 (dk_at dksX2_become_9 6 rfl rfl)
theorem dX2_become_221 : decode cX2_become 221 = .ok (.aload_n 1, 1) := dk_43 (dk_at dksX2_become_9 7 rfl rfl)
theorem dX2_become_222 : decode cX2_become 222 = .ok (.getfield 90, 3) := dk_180 0 90 (dk_at dksX2_become_9 8 rfl rfl)
theorem dX2_become_225 : decode cX2_become 225 = .ok (.putfield 90, 3) := dk_181 0 90 (dk_at dksX2_become_9 11 rfl rfl)
theorem dX2_become_228 : decode cX2_become 228 = .ok (.aload_n 0, 1) := dk_42 (dk_at dksX2_become_9 14 rfl rfl)
theorem dX2_become_229 : decode cX2_become 229 = .ok (.aload_n 1, 1) := dk_43 (dk_at dksX2_become_9 15 rfl rfl)
theorem dX2_become_230 : decode cX2_become 230 = .ok (.getfield 93, 3) := dk_180 0 93 (dk_at dksX2_become_9 16 rfl rfl)
theorem dX2_become_233 : decode cX2_become 233 = .ok (.putfield 93, 3) := dk_181 0 93 (dk_at dksX2_become_9 19 rfl rfl)
theorem dX2_become_236 : decode cX2_become 236 = .ok (.aload_n 0, 1) := dk_42 (dk_at dksX2_become_9 22 rfl rfl)
theorem dX2_become_237 : decode cX2_become 237 = .ok (.aload_n 1, 1) := dk_43 (dk_at dksX2_become_9 23 rfl rfl)
theorem dX2_become_238 : decode cX2_become 238 = .ok (.getfield 96, 3) := dk_180 0 96 (dk_at dksX2_become_10 0 rfl rfl)
theorem dX2_become_241 : decode cX2_become 241 = .ok (.putfield 96, 3) := dk_181 0 96 (dk_at dksX2_become_10 3 rfl rfl)
theorem dX2_become_244 : decode cX2_become 244 = .ok (.aload_n 0, 1) := dk_42 (dk_at dksX2_become_10 6 rfl rfl)
theorem dX2_become_245 : decode cX2_become 245 = .ok (.areturn, 1) := dk_176 (dk_at dksX2_become_10 7 rfl rfl)
def dkwX2_sum_1 : List UInt8 := [28, 172]
abbrev dktX2_sum_1 : List UInt8 := dkwX2_sum_1 ++ []
def dkwX2_sum_0 : List UInt8 := [3, 61, 3, 62, 29, 42, 180, 0, 50, 162, 0, 15, 28, 43, 29, 46, 96, 61, 132, 3, 1, 167, 255, 239]
abbrev dktX2_sum_0 : List UInt8 := dkwX2_sum_0 ++ dktX2_sum_1
theorem dksX2_sum_0 : cX2_sum.data.toList.drop 0 = dktX2_sum_0 := by decide +kernel
theorem dksX2_sum_1 : cX2_sum.data.toList.drop 24 = dktX2_sum_1 := dk_seg dksX2_sum_0 24 rfl rfl
theorem dX2_sum_0 : decode cX2_sum 0 = .ok (.iconst 0, 1) := dk_3 (dk_at dksX2_sum_0 0 rfl rfl)
theorem dX2_sum_1 : decode cX2_sum 1 = .ok (.istore_n 2, 1) := dk_61 (dk_at dksX2_sum_0 1 rfl rfl)
theorem dX2_sum_2 : decode cX2_sum 2 = .ok (.iconst 0, 1) := dk_3 (dk_at dksX2_sum_0 2 rfl rfl)
theorem dX2_sum_3 : decode cX2_sum 3 = .ok (.istore_n 3, 1) := dk_62 (dk_at dksX2_sum_0 3 rfl rfl)
theorem dX2_sum_4 : decode cX2_sum 4 = .ok (.iload_n 3, 1) := dk_29 (dk_at dksX2_sum_0 4 rfl rfl)
theorem dX2_sum_5 : decode cX2_sum 5 = .ok (.aload_n 0, 1) := dk_42 (dk_at dksX2_sum_0 5 rfl rfl)
theorem dX2_sum_6 : decode cX2_sum 6 = .ok (.getfield 50, 3) := dk_180 0 50 (dk_at dksX2_sum_0 6 rfl rfl)
theorem dX2_sum_9 : decode cX2_sum 9 = .ok (.if_icmp .ge 15, 3) := dk_162 0 15 (dk_at dksX2_sum_0 9 rfl rfl)
theorem dX2_sum_12 : decode cX2_sum 12 = .ok (.iload_n 2, 1) := dk_28 (dk_at dksX2_sum_0 12 rfl rfl)
theorem dX2_sum_13 : decode cX2_sum 13 = .ok (.aload_n 1, 1) := dk_43 (dk_at dksX2_sum_0 13 rfl rfl)
theorem dX2_sum_14 : decode cX2_sum 14 = .ok (.iload_n 3, 1) := dk_29 (dk_at dksX2_sum_0 14 rfl rfl)
theorem dX2_sum_15 : decode cX2_sum 15 = .ok (.iaload, 1) := dk_46 (dk_at dksX2_sum_0 15 rfl rfl)
theorem dX2_sum_16 : decode cX2_sum 16 = .ok (.iadd, 1) := dk_96 (dk_at dksX2_sum_0 16 rfl rfl)
theorem dX2_sum_17 : decode cX2_sum 17 = .ok (.istore_n 2, 1) := dk_61 (dk_at dksX2_sum_0 17 rfl rfl)
theorem dX2_sum_18 : decode cX2_sum 18 = .ok (.iinc 3 1, 3) := dk_132 3 1 (dk_at dksX2_sum_0 18 rfl rfl)
theorem dX2_sum_21 : decode cX2_sum 21 = .ok (.goto (-17), 3) := dk_167 255 239 (dk_at dksX2_sum_0 21 rfl rfl)
theorem dX2_sum_24 : decode cX2_sum 24 = .ok (.iload_n 2, 1) := dk_28 (dk_at dksX2_sum_1 0 rfl rfl)
theorem dX2_sum_25 : decode cX2_sum 25 = .ok (.ireturn, 1) := dk_172 (dk_at dksX2_sum_1 1 rfl rfl)
def dkwX2_addPool_3 : List UInt8 := [180, 0, 50, 4, 100, 172]
abbrev dktX2_addPool_3 : List UInt8 := dkwX2_addPool_3 ++ []
def dkwX2_addPool_2 : List UInt8 := [79, 42, 180, 0, 21, 42, 180, 0, 50, 6, 79, 42, 89, 180, 0, 50, 4, 96, 181, 0, 50, 42]
abbrev dktX2_addPool_2 : List UInt8 := dkwX2_addPool_2 ++ dktX2_addPool_3
def dkwX2_addPool_1 : List UInt8 := [180, 0, 50, 27, 79, 42, 180, 0, 15, 42, 180, 0, 50, 28, 79, 42, 180, 0, 18, 42, 180, 0, 50, 29]
abbrev dktX2_addPool_1 : List UInt8 := dkwX2_addPool_1 ++ dktX2_addPool_2
def dkwX2_addPool_0 : List UInt8 := [42, 180, 0, 50, 16, 6, 162, 0, 7, 4, 167, 0, 4, 3, 4, 184, 0, 128, 42, 180, 0, 9, 42]
abbrev dktX2_addPool_0 : List UInt8 := dkwX2_addPool_0 ++ dktX2_addPool_1
theorem dksX2_addPool_0 : cX2_addPool.data.toList.drop 0 = dktX2_addPool_0 := by decide +kernel
theorem dksX2_addPool_1 : cX2_addPool.data.toList.drop 23 = dktX2_addPool_1 := dk_seg dksX2_addPool_0 23 rfl rfl
theorem dksX2_addPool_2 : cX2_addPool.data.toList.drop 47 = dktX2_addPool_2 := dk_seg dksX2_addPool_1 24 rfl rfl
theorem dksX2_addPool_3 : cX2_addPool.data.toList.drop 69 = dktX2_addPool_3 := dk_seg dksX2_addPool_2 22 rfl rfl
theorem dX2_addPool_0 : decode cX2_addPool 0 = .ok (.aload_n 0, 1) := dk_42 (dk_at dksX2_addPool_0 0 rfl rfl)
theorem dX2_addPool_1 : decode cX2_addPool 1 = .ok (.getfield 50, 3) := dk_180 0 50 (dk_at dksX2_addPool_0 1 rfl rfl)
theorem dX2_addPool_4 : decode cX2_addPool 4 = .ok (.bipush 6, 2) := dk_16 6 (dk_at dksX2_addPool_0 4 rfl rfl)
theorem dX2_addPool_6 : decode cX2_addPool 6 = .ok (.if_icmp .ge 7, 3) := dk_162 0 7 (dk_at dksX2_addPool_0 6 rfl rfl)
theorem dX2_addPool_9 : decode cX2_addPool 9 = .ok (.iconst 1, 1) := dk_4 (dk_at dksX2_addPool_0 9 rfl rfl)
theorem dX2_addPool_10 : decode cX2_addPool 10 = .ok (.goto 4, 3) := dk_167 0 4 (dk_at dksX2_addPool_0 10 rfl rfl)
theorem dX2_addPool_13 : decode cX2_addPool 13 = .ok (.iconst 0, 1) := dk_3 (dk_at dksX2_addPool_0 13 rfl rfl)
theorem dX2_addPool_14 : decode cX2_addPool 14 = .ok (.iconst 1, 1) := dk_4 (dk_at dksX2_addPool_0 14 rfl rfl)
theorem dX2_addPool_15 : decode cX2_addPool 15 = .ok (.invokestatic 128, 3) := dk_184 0 128 (dk_at dksX2_addPool_0 15 rfl rfl)
theorem dX2_addPool_18 : decode cX2_addPool 18 = .ok (.aload_n 0, 1) := dk_42 (dk_at dksX2_addPool_0 18 rfl rfl)
theorem dX2_addPool_19 : decode cX2_addPool 19 = .ok (.getfield 9, 3) := dk_180 0 9 (dk_at dksX2_addPool_0 19 rfl rfl)
theorem dX2_addPool_22 : decode cX2_addPool 22 = .ok (.aload_n 0, 1) := dk_42 (dk_at dksX2_addPool_0 22 rfl rfl)
theorem dX2_addPool_23 : decode cX2_addPool 23 = .ok (.getfield 50, 3) := dk_180 0 50 (dk_at dksX2_addPool_1 0 rfl rfl)
theorem dX2_addPool_26 : decode cX2_addPool 26 = .ok (.iload_n 1, 1) := dk_27 (dk_at dksX2_addPool_1 3 rfl rfl)
theorem dX2_addPool_27 : decode cX2_addPool 27 = .ok (.iastore, 1) := dk_79 (dk_at dksX2_addPool_1 4 rfl rfl)
theorem dX2_addPool_28 : decode cX2_addPool 28 = .ok (.aload_n 0, 1) := dk_42 (dk_at dksX2_addPool_1 5 rfl rfl)
theorem dX2_addPool_29 : decode cX2_addPool 29 = .ok (.getfield 15, 3) := dk_180 0 15 (dk_at dksX2_addPool_1 6 rfl rfl)
theorem dX2_addPool_32 : decode cX2_addPool 32 = .ok (.aload_n 0, 1) := dk_42 (dk_at dksX2_addPool_1 9 rfl rfl)
theorem dX2_addPool_33 : decode cX2_addPool 33 = .ok (.getfield 50, 3) := dk_180 0 50 (dk_at dksX2_addPool_1 10 rfl rfl)
theorem dX2_addPool_36 : decode cX2_addPool 36 = .ok (.iload_n 2, 1) := dk_28 (dk_at dksX2_addPool_1 13 rfl rfl)
theorem dX2_addPool_37 : decode cX2_addPool 37 = .ok (.iastore, 1) := dk_79 (dk_at dksX2_addPool_1 14 rfl rfl)
theorem dX2_addPool_38 : decode cX2_addPool 38 = .ok (.aload_n 0, 1) := dk_42 (dk_at dksX2_addPool_1 15 rfl rfl)
theorem dX2_addPool_39 : decode cX2_addPool 39 = .ok (.getfield 18, 3) := dk_180 0 18 (dk_at dksX2_addPool_1 16 rfl rfl)
theorem dX2_addPool_42 : decode cX2_addPool 42 = .ok (.aload_n 0, 1) := dk_42 (dk_at dksX2_addPool_1 19 rfl rfl)
theorem dX2_addPool_43 : decode cX2_addPool 43 = .ok (.getfield 50, 3) := dk_180 0 50 (dk_at dksX2_addPool_1 20 rfl rfl)
theorem dX2_addPool_46 : decode cX2_addPool 46 = .ok (.iload_n 3, 1) := dk_29 (dk_at dksX2_addPool_1 23 rfl rfl)
theorem dX2_addPool_47 : decode cX2_addPool 47 = .ok (.iastore, 1) := dk_79 (dk_at dksX2_addPool_2 0 rfl rfl)
theorem dX2_addPool_48 : decode cX2_addPool 48 = .ok (.aload_n 0, 1) := dk_42 (dk_at dksX2_addPool_2 1 rfl rfl)
theorem dX2_addPool_49 : decode cX2_addPool 49 = .ok (.getfield 21, 3) := dk_180 0 21 (dk_at dksX2_addPool_2 2 rfl rfl)
theorem dX2_addPool_52 : decode cX2_addPool 52 = .ok (.aload_n 0, 1) := dk_42 (dk_at dksX2_addPool_2 5 rfl rfl)
theorem dX2_addPool_53 : decode cX2_addPool 53 = .ok (.getfield 50, 3) := dk_180 0 50 (dk_at dksX2_addPool_2 6 rfl rfl)
theorem dX2_addPool_56 : decode cX2_addPool 56 = .ok (.iconst 3, 1) := dk_6 (dk_at dksX2_addPool_2 9 rfl rfl)
theorem dX2_addPool_57 : decode cX2_addPool 57 = .ok (.iastore, 1) := dk_79 (dk_at dksX2_addPool_2 10 rfl rfl)
theorem dX2_addPool_58 : decode cX2_addPool 58 = .ok (.aload_n 0, 1) := dk_42 (dk_at dksX2_addPool_2 11 rfl rfl)
theorem dX2_addPool_59 : decode cX2_addPool 59 = .ok (.dup, 1) := dk_89 (dk_at dksX2_addPool_2 12 rfl rfl)
theorem dX2_addPool_60 : decode cX2_addPool 60 = .ok (.getfield 50, 3) := dk_180 0 50 (dk_at dksX2_addPool_2 13 rfl rfl)
theorem dX2_addPool_63 : decode cX2_addPool 63 = .ok (.iconst 1, 1) := dk_4 (dk_at dksX2_addPool_2 16 rfl rfl)
theorem dX2_addPool_64 : decode cX2_addPool 64 = .ok (.iadd, 1) := dk_96 (dk_at dksX2_addPool_2 17 rfl rfl)
theorem dX2_addPool_65 : decode cX2_addPool 65 = .ok (.putfield 50, 3) := dk_181 0 50 (dk_at dksX2_addPool_2 18 rfl rfl)
theorem dX2_addPool_68 : decode cX2_addPool 68 = .ok (.aload_n 0, 1) := dk_42 (dk_at dksX2_addPool_2 21 rfl rfl)
theorem dX2_addPool_69 : decode cX2_addPool 69 = .ok (.getfield 50, 3) := dk_180 0 50 (dk_at dksX2_addPool_3 0 rfl rfl)
theorem dX2_addPool_72 : decode cX2_addPool 72 = .ok (.iconst 1, 1) := dk_4 (dk_at dksX2_addPool_3 3 rfl rfl)
theorem dX2_addPool_73 : decode cX2_addPool 73 = .ok (.isub, 1) := dk_100 (dk_at dksX2_addPool_3 4 rfl rfl)
theorem dX2_addPool_74 : decode cX2_addPool 74 = .ok (.ireturn, 1) := dk_172 (dk_at dksX2_addPool_3 5 rfl rfl)
def dkwX2_at_0 : List UInt8 := [27, 3, 42, 180, 0, 50, 4, 100, 184, 0, 99, 184, 0, 103, 27, 172]
abbrev dktX2_at_0 : List UInt8 := dkwX2_at_0 ++ []
theorem dksX2_at_0 : cX2_at.data.toList.drop 0 = dktX2_at_0 := by decide +kernel
theorem dX2_at_0 : decode cX2_at 0 = .ok (.iload_n 1, 1) := dk_27 (dk_at dksX2_at_0 0 rfl rfl)
theorem dX2_at_1 : decode cX2_at 1 = .ok (.iconst 0, 1) := dk_3 (dk_at dksX2_at_0 1 rfl rfl)
theorem dX2_at_2 : decode cX2_at 2 = .ok (.aload_n 0, 1) := dk_42 (dk_at dksX2_at_0 2 rfl rfl)
theorem dX2_at_3 : decode cX2_at 3 = .ok (.getfield 50, 3) := dk_180 0 50 (dk_at dksX2_at_0 3 rfl rfl)
theorem dX2_at_6 : decode cX2_at 6 = .ok (.iconst 1, 1) := dk_4 (dk_at dksX2_at_0 6 rfl rfl)
theorem dX2_at_7 : decode cX2_at 7 = .ok (.isub, 1) := dk_100 (dk_at dksX2_at_0 7 rfl rfl)
theorem dX2_at_8 : decode cX2_at 8 = .ok (.invokestatic 99, 3) := dk_184 0 99 (dk_at dksX2_at_0 8 rfl rfl)
theorem dX2_at_11 : decode cX2_at 11 = .ok (.invokestatic 103, 3) := dk_184 0 103 (dk_at dksX2_at_0 11 rfl rfl)
theorem dX2_at_14 : decode cX2_at 14 = .ok (.iload_n 1, 1) := dk_27 (dk_at dksX2_at_0 14 rfl rfl)
theorem dX2_at_15 : decode cX2_at 15 = .ok (.ireturn, 1) := dk_172 (dk_at dksX2_at_0 15 rfl rfl)
def dkwX2_setBoards_2 : List UInt8 := [154, 0, 7, 4, 167, 0, 4, 3, 8, 184, 0, 128, 42, 180, 0, 21, 27, 28, 79, 29, 172]
abbrev dktX2_setBoards_2 : List UInt8 := dkwX2_setBoards_2 ++ []
def dkwX2_setBoards_1 : List UInt8 := [27, 46, 28, 42, 180, 0, 9, 27, 46, 104, 164, 0, 7, 4, 167, 0, 4, 3, 54, 4, 21, 4]
abbrev dktX2_setBoards_1 : List UInt8 := dkwX2_setBoards_1 ++ dktX2_setBoards_2
def dkwX2_setBoards_0 : List UInt8 := [42, 180, 0, 21, 27, 46, 62, 28, 29, 162, 0, 32, 42, 27, 182, 0, 111, 154, 0, 24, 42, 180, 0, 24]
abbrev dktX2_setBoards_0 : List UInt8 := dkwX2_setBoards_0 ++ dktX2_setBoards_1
theorem dksX2_setBoards_0 : cX2_setBoards.data.toList.drop 0 = dktX2_setBoards_0 := by decide +kernel
theorem dksX2_setBoards_1 : cX2_setBoards.data.toList.drop 24 = dktX2_setBoards_1 := dk_seg dksX2_setBoards_0 24 rfl rfl
theorem dksX2_setBoards_2 : cX2_setBoards.data.toList.drop 46 = dktX2_setBoards_2 := dk_seg dksX2_setBoards_1 22 rfl rfl
theorem dX2_setBoards_0 : decode cX2_setBoards 0 = .ok (.aload_n 0, 1) := dk_42 (dk_at dksX2_setBoards_0 0 rfl rfl)
theorem dX2_setBoards_1 : decode cX2_setBoards 1 = .ok (.getfield 21, 3) := dk_180 0 21 (dk_at dksX2_setBoards_0 1 rfl rfl)
theorem dX2_setBoards_4 : decode cX2_setBoards 4 = .ok (.iload_n 1, 1) := dk_27 (dk_at dksX2_setBoards_0 4 rfl rfl)
theorem dX2_setBoards_5 : decode cX2_setBoards 5 = .ok (.iaload, 1) := dk_46 (dk_at dksX2_setBoards_0 5 rfl rfl)
theorem dX2_setBoards_6 : decode cX2_setBoards 6 = .ok (.istore_n 3, 1) := dk_62 (dk_at dksX2_setBoards_0 6 rfl rfl)
theorem dX2_setBoards_7 : decode cX2_setBoards 7 = .ok (.iload_n 2, 1) := dk_28 (dk_at dksX2_setBoards_0 7 rfl rfl)
theorem dX2_setBoards_8 : decode cX2_setBoards 8 = .ok (.iload_n 3, 1) := dk_29 (dk_at dksX2_setBoards_0 8 rfl rfl)
theorem dX2_setBoards_9 : decode cX2_setBoards 9 = .ok (.if_icmp .ge 32, 3) := dk_162 0 32 (dk_at dksX2_setBoards_0 9 rfl rfl)
theorem dX2_setBoards_12 : decode cX2_setBoards 12 = .ok (.aload_n 0, 1) := dk_42 (dk_at dksX2_setBoards_0 12 rfl rfl)
theorem dX2_setBoards_13 : decode cX2_setBoards 13 = .ok (.iload_n 1, 1) := dk_27 (dk_at dksX2_setBoards_0 13 rfl rfl)
theorem dX2_setBoards_14 : decode cX2_setBoards 14 = .ok (.invokevirtual 111, 3) := dk_182 0 111 (dk_at dksX2_setBoards_0 14 rfl rfl)
theorem dX2_setBoards_17 : decode cX2_setBoards 17 = .ok (.ifCond .ne 24, 3) := dk_154 0 24 (dk_at dksX2_setBoards_0 17 rfl rfl)
theorem dX2_setBoards_20 : decode cX2_setBoards 20 = .ok (.aload_n 0, 1) := dk_42 (dk_at dksX2_setBoards_0 20 rfl rfl)
theorem dX2_setBoards_21 : decode cX2_setBoards 21 = .ok (.getfield 24, 3) := dk_180 0 24 (dk_at dksX2_setBoards_0 21 rfl rfl)
theorem dX2_setBoards_24 : decode cX2_setBoards 24 = .ok (.iload_n 1, 1) := dk_27 (dk_at dksX2_setBoards_1 0 rfl rfl)
theorem dX2_setBoards_25 : decode cX2_setBoards 25 = .ok (.iaload, 1) := dk_46 (dk_at dksX2_setBoards_1 1 rfl rfl)
theorem dX2_setBoards_26 : decode cX2_setBoards 26 = .ok (.iload_n 2, 1) := dk_28 (dk_at dksX2_setBoards_1 2 rfl rfl)
theorem dX2_setBoards_27 : decode cX2_setBoards 27 = .ok (.aload_n 0, 1) := dk_42 (dk_at dksX2_setBoards_1 3 rfl rfl)
theorem dX2_setBoards_28 : decode cX2_setBoards 28 = .ok (.getfield 9, 3) := dk_180 0 9 (dk_at dksX2_setBoards_1 4 rfl rfl)
theorem dX2_setBoards_31 : decode cX2_setBoards 31 = .ok (.iload_n 1, 1) := dk_27 (dk_at dksX2_setBoards_1 7 rfl rfl)
theorem dX2_setBoards_32 : decode cX2_setBoards 32 = .ok (.iaload, 1) := dk_46 (dk_at dksX2_setBoards_1 8 rfl rfl)
theorem dX2_setBoards_33 : decode cX2_setBoards 33 = .ok (.imul, 1) := dk_104 (dk_at dksX2_setBoards_1 9 rfl rfl)
theorem dX2_setBoards_34 : decode cX2_setBoards 34 = .ok (.if_icmp .le 7, 3) := dk_164 0 7 (dk_at dksX2_setBoards_1 10 rfl rfl)
theorem dX2_setBoards_37 : decode cX2_setBoards 37 = .ok (.iconst 1, 1) := dk_4 (dk_at dksX2_setBoards_1 13 rfl rfl)
theorem dX2_setBoards_38 : decode cX2_setBoards 38 = .ok (.goto 4, 3) := dk_167 0 4 (dk_at dksX2_setBoards_1 14 rfl rfl)
theorem dX2_setBoards_41 : decode cX2_setBoards 41 = .ok (.iconst 0, 1) := dk_3 (dk_at dksX2_setBoards_1 17 rfl rfl)
theorem dX2_setBoards_42 : decode cX2_setBoards 42 = .ok (.istore 4, 2) := dk_54 4 (dk_at dksX2_setBoards_1 18 rfl rfl)
theorem dX2_setBoards_44 : decode cX2_setBoards 44 = .ok (.iload 4, 2) := dk_21 4 (dk_at dksX2_setBoards_1 20 rfl rfl)
theorem dX2_setBoards_46 : decode cX2_setBoards 46 = .ok (.ifCond .ne 7, 3) := dk_154 0 7 (dk_at dksX2_setBoards_2 0 rfl rfl)
theorem dX2_setBoards_49 : decode cX2_setBoards 49 = .ok (.iconst 1, 1) := dk_4 (dk_at dksX2_setBoards_2 3 rfl rfl)
theorem dX2_setBoards_50 : decode cX2_setBoards 50 = .ok (.goto 4, 3) := dk_167 0 4 (dk_at dksX2_setBoards_2 4 rfl rfl)
theorem dX2_setBoards_53 : decode cX2_setBoards 53 = .ok (.iconst 0, 1) := dk_3 (dk_at dksX2_setBoards_2 7 rfl rfl)
theorem dX2_setBoards_54 : decode cX2_setBoards 54 = .ok (.iconst 5, 1) := dk_8 (dk_at dksX2_setBoards_2 8 rfl rfl)
theorem dX2_setBoards_55 : decode cX2_setBoards 55 = .ok (.invokestatic 128, 3) := dk_184 0 128 (dk_at dksX2_setBoards_2 9 rfl rfl)
theorem dX2_setBoards_58 : decode cX2_setBoards 58 = .ok (.aload_n 0, 1) := dk_42 (dk_at dksX2_setBoards_2 12 rfl rfl)
theorem dX2_setBoards_59 : decode cX2_setBoards 59 = .ok (.getfield 21, 3) := dk_180 0 21 (dk_at dksX2_setBoards_2 13 rfl rfl)
theorem dX2_setBoards_62 : decode cX2_setBoards 62 = .ok (.iload_n 1, 1) := dk_27 (dk_at dksX2_setBoards_2 16 rfl rfl)
theorem dX2_setBoards_63 : decode cX2_setBoards 63 = .ok (.iload_n 2, 1) := dk_28 (dk_at dksX2_setBoards_2 17 rfl rfl)
theorem dX2_setBoards_64 : decode cX2_setBoards 64 = .ok (.iastore, 1) := dk_79 (dk_at dksX2_setBoards_2 18 rfl rfl)
theorem dX2_setBoards_65 : decode cX2_setBoards 65 = .ok (.iload_n 3, 1) := dk_29 (dk_at dksX2_setBoards_2 19 rfl rfl)
theorem dX2_setBoards_66 : decode cX2_setBoards 66 = .ok (.ireturn, 1) := dk_172 (dk_at dksX2_setBoards_2 20 rfl rfl)
def dkwX2_setLatch_3 : List UInt8 := [172]
abbrev dktX2_setLatch_3 : List UInt8 := dkwX2_setLatch_3 ++ []
def dkwX2_setLatch_2 : List UInt8 := [153, 0, 10, 42, 180, 0, 60, 167, 0, 12, 42, 180, 0, 60, 27, 29, 184, 0, 132, 181, 0, 60, 21, 4]
abbrev dktX2_setLatch_2 : List UInt8 := dkwX2_setLatch_2 ++ dktX2_setLatch_3
def dkwX2_setLatch_1 : List UInt8 := [153, 0, 15, 42, 180, 0, 57, 27, 29, 184, 0, 132, 167, 0, 7, 42, 180, 0, 57, 181, 0, 57, 42, 28]
abbrev dktX2_setLatch_1 : List UInt8 := dkwX2_setLatch_1 ++ dktX2_setLatch_2
def dkwX2_setLatch_0 : List UInt8 := [28, 153, 0, 10, 42, 180, 0, 57, 167, 0, 7, 42, 180, 0, 60, 27, 184, 0, 107, 54, 4, 42, 28]
abbrev dktX2_setLatch_0 : List UInt8 := dkwX2_setLatch_0 ++ dktX2_setLatch_1
theorem dksX2_setLatch_0 : cX2_setLatch.data.toList.drop 0 = dktX2_setLatch_0 := by decide +kernel
theorem dksX2_setLatch_1 : cX2_setLatch.data.toList.drop 23 = dktX2_setLatch_1 := dk_seg dksX2_setLatch_0 23 rfl rfl
theorem dksX2_setLatch_2 : cX2_setLatch.data.toList.drop 47 = dktX2_setLatch_2 := dk_seg dksX2_setLatch_1 24 rfl rfl
theorem dksX2_setLatch_3 : cX2_setLatch.data.toList.drop 71 = dktX2_setLatch_3 := dk_seg dksX2_setLatch_2 24 rfl rfl
theorem dX2_setLatch_0 : decode cX2_setLatch 0 = .ok (.iload_n 2, 1) := dk_28 (dk_at dksX2_setLatch_0 0 rfl rfl)
theorem dX2_setLatch_1 : decode cX2_setLatch 1 = .ok (.ifCond .eq 10, 3) := dk_153 0 10 (dk_at dksX2_setLatch_0 1 rfl rfl)
theorem dX2_setLatch_4 : decode cX2_setLatch 4 = .ok (.aload_n 0, 1) := dk_42 (dk_at dksX2_setLatch_0 4 rfl rfl)
theorem dX2_setLatch_5 : decode cX2_setLatch 5 = .ok (.getfield 57, 3) := dk_180 0 57 (dk_at dksX2_setLatch_0 5 rfl rfl)
theorem dX2_setLatch_8 : decode cX2_setLatch 8 = .ok (.goto 7, 3) := dk_167 0 7 (dk_at dksX2_setLatch_0 8 rfl rfl)
theorem dX2_setLatch_11 : decode cX2_setLatch 11 = .ok (.aload_n 0, 1) := dk_42 (dk_at dksX2_setLatch_0 11 rfl rfl)
theorem dX2_setLatch_12 : decode cX2_setLatch 12 = .ok (.getfield 60, 3) := dk_180 0 60 (dk_at dksX2_setLatch_0 12 rfl rfl)
theorem dX2_setLatch_15 : decode cX2_setLatch 15 = .ok (.iload_n 1, 1) := dk_27 (dk_at dksX2_setLatch_0 15 rfl rfl)
theorem dX2_setLatch_16 : decode cX2_setLatch 16 = .ok (.invokestatic 107, 3) := dk_184 0 107 (dk_at dksX2_setLatch_0 16 rfl rfl)
theorem dX2_setLatch_19 : decode cX2_setLatch 19 = .ok (.istore 4, 2) := dk_54 4 (dk_at dksX2_setLatch_0 19 rfl rfl)
theorem dX2_setLatch_21 : decode cX2_setLatch 21 = .ok (.aload_n 0, 1) := dk_42 (dk_at dksX2_setLatch_0 21 rfl rfl)
theorem dX2_setLatch_22 : decode cX2_setLatch 22 = .ok (.iload_n 2, 1) := dk_28 (dk_at dksX2_setLatch_0 22 rfl rfl)
theorem dX2_setLatch_23 : decode cX2_setLatch 23 = .ok (.ifCond .eq 15, 3) := dk_153 0 15 (dk_at dksX2_setLatch_1 0 rfl rfl)
theorem dX2_setLatch_26 : decode cX2_setLatch 26 = .ok (.aload_n 0, 1) := dk_42 (dk_at dksX2_setLatch_1 3 rfl rfl)
theorem dX2_setLatch_27 : decode cX2_setLatch 27 = .ok (.getfield 57, 3) := dk_180 0 57 (dk_at dksX2_setLatch_1 4 rfl rfl)
theorem dX2_setLatch_30 : decode cX2_setLatch 30 = .ok (.iload_n 1, 1) := dk_27 (dk_at dksX2_setLatch_1 7 rfl rfl)
theorem dX2_setLatch_31 : decode cX2_setLatch 31 = .ok (.iload_n 3, 1) := dk_29 (dk_at dksX2_setLatch_1 8 rfl rfl)
theorem dX2_setLatch_32 : decode cX2_setLatch 32 = .ok (.invokestatic 132, 3) := dk_184 0 132 (dk_at dksX2_setLatch_1 9 rfl rfl)
theorem dX2_setLatch_35 : decode cX2_setLatch 35 = .ok (.goto 7, 3) := dk_167 0 7 (dk_at dksX2_setLatch_1 12 rfl rfl)
theorem dX2_setLatch_38 : decode cX2_setLatch 38 = .ok (.aload_n 0, 1) := dk_42 (dk_at dksX2_setLatch_1 15 rfl rfl)
theorem dX2_setLatch_39 : decode cX2_setLatch 39 = .ok (.getfield 57, 3) := dk_180 0 57 (dk_at dksX2_setLatch_1 16 rfl rfl)
theorem dX2_setLatch_42 : decode cX2_setLatch 42 = .ok (.putfield 57, 3) := dk_181 0 57 (dk_at dksX2_setLatch_1 19 rfl rfl)
theorem dX2_setLatch_45 : decode cX2_setLatch 45 = .ok (.aload_n 0, 1) := dk_42 (dk_at dksX2_setLatch_1 22 rfl rfl)
theorem dX2_setLatch_46 : decode cX2_setLatch 46 = .ok (.iload_n 2, 1) := dk_28 (dk_at dksX2_setLatch_1 23 rfl rfl)
theorem dX2_setLatch_47 : decode cX2_setLatch 47 = .ok (.ifCond .eq 10, 3) := dk_153 0 10 (dk_at dksX2_setLatch_2 0 rfl rfl)
theorem dX2_setLatch_50 : decode cX2_setLatch 50 = .ok (.aload_n 0, 1) := dk_42 (dk_at dksX2_setLatch_2 3 rfl rfl)
theorem dX2_setLatch_51 : decode cX2_setLatch 51 = .ok (.getfield 60, 3) := dk_180 0 60 (dk_at dksX2_setLatch_2 4 rfl rfl)
theorem dX2_setLatch_54 : decode cX2_setLatch 54 = .ok (.goto 12, 3) := dk_167 0 12 (dk_at dksX2_setLatch_2 7 rfl rfl)
theorem dX2_setLatch_57 : decode cX2_setLatch 57 = .ok (.aload_n 0, 1) := dk_42 (dk_at dksX2_setLatch_2 10 rfl rfl)
theorem dX2_setLatch_58 : decode cX2_setLatch 58 = .ok (.getfield 60, 3) := dk_180 0 60 (dk_at dksX2_setLatch_2 11 rfl rfl)
theorem dX2_setLatch_61 : decode cX2_setLatch 61 = .ok (.iload_n 1, 1) := dk_27 (dk_at dksX2_setLatch_2 14 rfl rfl)
theorem dX2_setLatch_62 : decode cX2_setLatch 62 = .ok (.iload_n 3, 1) := dk_29 (dk_at dksX2_setLatch_2 15 rfl rfl)
theorem dX2_setLatch_63 : decode cX2_setLatch 63 = .ok (.invokestatic 132, 3) := dk_184 0 132 (dk_at dksX2_setLatch_2 16 rfl rfl)
theorem dX2_setLatch_66 : decode cX2_setLatch 66 = .ok (.putfield 60, 3) := dk_181 0 60 (dk_at dksX2_setLatch_2 19 rfl rfl)
theorem dX2_setLatch_69 : decode cX2_setLatch 69 = .ok (.iload 4, 2) := dk_21 4 (dk_at dksX2_setLatch_2 22 rfl rfl)
theorem dX2_setLatch_71 : decode cX2_setLatch 71 = .ok (.ireturn, 1) := dk_172 (dk_at dksX2_setLatch_3 0 rfl rfl)
def dkwX2_lay_2 : List UInt8 := [181, 0, 90, 42, 180, 0, 36, 27, 28, 42, 27, 182, 0, 124, 182, 0, 139, 172]
abbrev dktX2_lay_2 : List UInt8 := dkwX2_lay_2 ++ []
def dkwX2_lay_1 : List UInt8 := [180, 0, 136, 16, 12, 162, 0, 7, 4, 167, 0, 4, 3, 6, 184, 0, 128, 42, 89, 180, 0, 90, 28, 96]
abbrev dktX2_lay_1 : List UInt8 := dkwX2_lay_1 ++ dktX2_lay_2
def dkwX2_lay_0 : List UInt8 := [42, 27, 182, 0, 124, 4, 161, 0, 7, 4, 167, 0, 4, 3, 5, 184, 0, 128, 42, 180, 0, 36]
abbrev dktX2_lay_0 : List UInt8 := dkwX2_lay_0 ++ dktX2_lay_1
theorem dksX2_lay_0 : cX2_lay.data.toList.drop 0 = dktX2_lay_0 := by decide +kernel
theorem dksX2_lay_1 : cX2_lay.data.toList.drop 22 = dktX2_lay_1 := dk_seg dksX2_lay_0 22 rfl rfl
theorem dksX2_lay_2 : cX2_lay.data.toList.drop 46 = dktX2_lay_2 := dk_seg dksX2_lay_1 24 rfl rfl
theorem dX2_lay_0 : decode cX2_lay 0 = .ok (.aload_n 0, 1) := dk_42 (dk_at dksX2_lay_0 0 rfl rfl)
theorem dX2_lay_1 : decode cX2_lay 1 = .ok (.iload_n 1, 1) := dk_27 (dk_at dksX2_lay_0 1 rfl rfl)
theorem dX2_lay_2 : decode cX2_lay 2 = .ok (.invokevirtual 124, 3) := dk_182 0 124 (dk_at dksX2_lay_0 2 rfl rfl)
theorem dX2_lay_5 : decode cX2_lay 5 = .ok (.iconst 1, 1) := dk_4 (dk_at dksX2_lay_0 5 rfl rfl)
theorem dX2_lay_6 : decode cX2_lay 6 = .ok (.if_icmp .lt 7, 3) := dk_161 0 7 (dk_at dksX2_lay_0 6 rfl rfl)
theorem dX2_lay_9 : decode cX2_lay 9 = .ok (.iconst 1, 1) := dk_4 (dk_at dksX2_lay_0 9 rfl rfl)
theorem dX2_lay_10 : decode cX2_lay 10 = .ok (.goto 4, 3) := dk_167 0 4 (dk_at dksX2_lay_0 10 rfl rfl)
theorem dX2_lay_13 : decode cX2_lay 13 = .ok (.iconst 0, 1) := dk_3 (dk_at dksX2_lay_0 13 rfl rfl)
theorem dX2_lay_14 : decode cX2_lay 14 = .ok (.iconst 2, 1) := dk_5 (dk_at dksX2_lay_0 14 rfl rfl)
theorem dX2_lay_15 : decode cX2_lay 15 = .ok (.invokestatic 128, 3) := dk_184 0 128 (dk_at dksX2_lay_0 15 rfl rfl)
theorem dX2_lay_18 : decode cX2_lay 18 = .ok (.aload_n 0, 1) := dk_42 (dk_at dksX2_lay_0 18 rfl rfl)
theorem dX2_lay_19 : decode cX2_lay 19 = .ok (.getfield 36, 3) := dk_180 0 36 (dk_at dksX2_lay_0 19 rfl rfl)
theorem dX2_lay_22 : decode cX2_lay 22 = .ok (.getfield 136, 3) := dk_180 0 136 (dk_at dksX2_lay_1 0 rfl rfl)
theorem dX2_lay_25 : decode cX2_lay 25 = .ok (.bipush 12, 2) := dk_16 12 (dk_at dksX2_lay_1 3 rfl rfl)
theorem dX2_lay_27 : decode cX2_lay 27 = .ok (.if_icmp .ge 7, 3) := dk_162 0 7 (dk_at dksX2_lay_1 5 rfl rfl)
theorem dX2_lay_30 : decode cX2_lay 30 = .ok (.iconst 1, 1) := dk_4 (dk_at dksX2_lay_1 8 rfl rfl)
theorem dX2_lay_31 : decode cX2_lay 31 = .ok (.goto 4, 3) := dk_167 0 4 (dk_at dksX2_lay_1 9 rfl rfl)
theorem dX2_lay_34 : decode cX2_lay 34 = .ok (.iconst 0, 1) := dk_3 (dk_at dksX2_lay_1 12 rfl rfl)
theorem dX2_lay_35 : decode cX2_lay 35 = .ok (.iconst 3, 1) := dk_6 (dk_at dksX2_lay_1 13 rfl rfl)
theorem dX2_lay_36 : decode cX2_lay 36 = .ok (.invokestatic 128, 3) := dk_184 0 128 (dk_at dksX2_lay_1 14 rfl rfl)
theorem dX2_lay_39 : decode cX2_lay 39 = .ok (.aload_n 0, 1) := dk_42 (dk_at dksX2_lay_1 17 rfl rfl)
theorem dX2_lay_40 : decode cX2_lay 40 = .ok (.dup, 1) := dk_89 (dk_at dksX2_lay_1 18 rfl rfl)
theorem dX2_lay_41 : decode cX2_lay 41 = .ok (.getfield 90, 3) := dk_180 0 90 (dk_at dksX2_lay_1 19 rfl rfl)
theorem dX2_lay_44 : decode cX2_lay 44 = .ok (.iload_n 2, 1) := dk_28 (dk_at dksX2_lay_1 22 rfl rfl)
theorem dX2_lay_45 : decode cX2_lay 45 = .ok (.iadd, 1) := dk_96 (dk_at dksX2_lay_1 23 rfl rfl)
theorem dX2_lay_46 : decode cX2_lay 46 = .ok (.putfield 90, 3) := dk_181 0 90 (dk_at dksX2_lay_2 0 rfl rfl)
theorem dX2_lay_49 : decode cX2_lay 49 = .ok (.aload_n 0, 1) := dk_42 (dk_at dksX2_lay_2 3 rfl rfl)
theorem dX2_lay_50 : decode cX2_lay 50 = .ok (.getfield 36, 3) := dk_180 0 36 (dk_at dksX2_lay_2 4 rfl rfl)
theorem dX2_lay_53 : decode cX2_lay 53 = .ok (.iload_n 1, 1) := dk_27 (dk_at dksX2_lay_2 7 rfl rfl)
theorem dX2_lay_54 : decode cX2_lay 54 = .ok (.iload_n 2, 1) := dk_28 (dk_at dksX2_lay_2 8 rfl rfl)
theorem dX2_lay_55 : decode cX2_lay 55 = .ok (.aload_n 0, 1) := dk_42 (dk_at dksX2_lay_2 9 rfl rfl)
theorem dX2_lay_56 : decode cX2_lay 56 = .ok (.iload_n 1, 1) := dk_27 (dk_at dksX2_lay_2 10 rfl rfl)
theorem dX2_lay_57 : decode cX2_lay 57 = .ok (.invokevirtual 124, 3) := dk_182 0 124 (dk_at dksX2_lay_2 11 rfl rfl)
theorem dX2_lay_60 : decode cX2_lay 60 = .ok (.invokevirtual 139, 3) := dk_182 0 139 (dk_at dksX2_lay_2 14 rfl rfl)
theorem dX2_lay_63 : decode cX2_lay 63 = .ok (.ireturn, 1) := dk_172 (dk_at dksX2_lay_2 17 rfl rfl)
def dkwX2_pass_0 : List UInt8 := [3, 61, 28, 27, 162, 0, 14, 42, 182, 0, 196, 62, 132, 2, 1, 167, 255, 243, 42, 176]
abbrev dktX2_pass_0 : List UInt8 := dkwX2_pass_0 ++ []
theorem dksX2_pass_0 : cX2_pass.data.toList.drop 0 = dktX2_pass_0 := by decide +kernel
theorem dX2_pass_0 : decode cX2_pass 0 = .ok (.iconst 0, 1) := dk_3 (dk_at dksX2_pass_0 0 rfl rfl)
theorem dX2_pass_1 : decode cX2_pass 1 = .ok (.istore_n 2, 1) := dk_61 (dk_at dksX2_pass_0 1 rfl rfl)
theorem dX2_pass_2 : decode cX2_pass 2 = .ok (.iload_n 2, 1) := dk_28 (dk_at dksX2_pass_0 2 rfl rfl)
theorem dX2_pass_3 : decode cX2_pass 3 = .ok (.iload_n 1, 1) := dk_27 (dk_at dksX2_pass_0 3 rfl rfl)
theorem dX2_pass_4 : decode cX2_pass 4 = .ok (.if_icmp .ge 14, 3) := dk_162 0 14 (dk_at dksX2_pass_0 4 rfl rfl)
theorem dX2_pass_7 : decode cX2_pass 7 = .ok (.aload_n 0, 1) := dk_42 (dk_at dksX2_pass_0 7 rfl rfl)
theorem dX2_pass_8 : decode cX2_pass 8 = .ok (.invokevirtual 196, 3) := dk_182 0 196 (dk_at dksX2_pass_0 8 rfl rfl)
theorem dX2_pass_11 : decode cX2_pass 11 = .ok (.istore_n 3, 1) := dk_62 (dk_at dksX2_pass_0 11 rfl rfl)
theorem dX2_pass_12 : decode cX2_pass 12 = .ok (.iinc 2 1, 3) := dk_132 2 1 (dk_at dksX2_pass_0 12 rfl rfl)
theorem dX2_pass_15 : decode cX2_pass 15 = .ok (.goto (-13), 3) := dk_167 255 243 (dk_at dksX2_pass_0 15 rfl rfl)
theorem dX2_pass_18 : decode cX2_pass 18 = .ok (.aload_n 0, 1) := dk_42 (dk_at dksX2_pass_0 18 rfl rfl)
theorem dX2_pass_19 : decode cX2_pass 19 = .ok (.areturn, 1) := dk_176 (dk_at dksX2_pass_0 19 rfl rfl)
def dkwX2_tell_1 : List UInt8 := [180, 0, 54, 27, 79, 42, 89, 180, 0, 54, 4, 96, 181, 0, 54, 42, 180, 0, 54, 172]
abbrev dktX2_tell_1 : List UInt8 := dkwX2_tell_1 ++ []
def dkwX2_tell_0 : List UInt8 := [42, 180, 0, 54, 16, 30, 162, 0, 7, 4, 167, 0, 4, 3, 7, 184, 0, 128, 42, 180, 0, 30, 42]
abbrev dktX2_tell_0 : List UInt8 := dkwX2_tell_0 ++ dktX2_tell_1
theorem dksX2_tell_0 : cX2_tell.data.toList.drop 0 = dktX2_tell_0 := by decide +kernel
theorem dksX2_tell_1 : cX2_tell.data.toList.drop 23 = dktX2_tell_1 := dk_seg dksX2_tell_0 23 rfl rfl
theorem dX2_tell_0 : decode cX2_tell 0 = .ok (.aload_n 0, 1) := dk_42 (dk_at dksX2_tell_0 0 rfl rfl)
theorem dX2_tell_1 : decode cX2_tell 1 = .ok (.getfield 54, 3) := dk_180 0 54 (dk_at dksX2_tell_0 1 rfl rfl)
theorem dX2_tell_4 : decode cX2_tell 4 = .ok (.bipush 30, 2) := dk_16 30 (dk_at dksX2_tell_0 4 rfl rfl)
theorem dX2_tell_6 : decode cX2_tell 6 = .ok (.if_icmp .ge 7, 3) := dk_162 0 7 (dk_at dksX2_tell_0 6 rfl rfl)
theorem dX2_tell_9 : decode cX2_tell 9 = .ok (.iconst 1, 1) := dk_4 (dk_at dksX2_tell_0 9 rfl rfl)
theorem dX2_tell_10 : decode cX2_tell 10 = .ok (.goto 4, 3) := dk_167 0 4 (dk_at dksX2_tell_0 10 rfl rfl)
theorem dX2_tell_13 : decode cX2_tell 13 = .ok (.iconst 0, 1) := dk_3 (dk_at dksX2_tell_0 13 rfl rfl)
theorem dX2_tell_14 : decode cX2_tell 14 = .ok (.iconst 4, 1) := dk_7 (dk_at dksX2_tell_0 14 rfl rfl)
theorem dX2_tell_15 : decode cX2_tell 15 = .ok (.invokestatic 128, 3) := dk_184 0 128 (dk_at dksX2_tell_0 15 rfl rfl)
theorem dX2_tell_18 : decode cX2_tell 18 = .ok (.aload_n 0, 1) := dk_42 (dk_at dksX2_tell_0 18 rfl rfl)
theorem dX2_tell_19 : decode cX2_tell 19 = .ok (.getfield 30, 3) := dk_180 0 30 (dk_at dksX2_tell_0 19 rfl rfl)
theorem dX2_tell_22 : decode cX2_tell 22 = .ok (.aload_n 0, 1) := dk_42 (dk_at dksX2_tell_0 22 rfl rfl)
theorem dX2_tell_23 : decode cX2_tell 23 = .ok (.getfield 54, 3) := dk_180 0 54 (dk_at dksX2_tell_1 0 rfl rfl)
theorem dX2_tell_26 : decode cX2_tell 26 = .ok (.iload_n 1, 1) := dk_27 (dk_at dksX2_tell_1 3 rfl rfl)
theorem dX2_tell_27 : decode cX2_tell 27 = .ok (.iastore, 1) := dk_79 (dk_at dksX2_tell_1 4 rfl rfl)
theorem dX2_tell_28 : decode cX2_tell 28 = .ok (.aload_n 0, 1) := dk_42 (dk_at dksX2_tell_1 5 rfl rfl)
theorem dX2_tell_29 : decode cX2_tell 29 = .ok (.dup, 1) := dk_89 (dk_at dksX2_tell_1 6 rfl rfl)
theorem dX2_tell_30 : decode cX2_tell 30 = .ok (.getfield 54, 3) := dk_180 0 54 (dk_at dksX2_tell_1 7 rfl rfl)
theorem dX2_tell_33 : decode cX2_tell 33 = .ok (.iconst 1, 1) := dk_4 (dk_at dksX2_tell_1 10 rfl rfl)
theorem dX2_tell_34 : decode cX2_tell 34 = .ok (.iadd, 1) := dk_96 (dk_at dksX2_tell_1 11 rfl rfl)
theorem dX2_tell_35 : decode cX2_tell 35 = .ok (.putfield 54, 3) := dk_181 0 54 (dk_at dksX2_tell_1 12 rfl rfl)
theorem dX2_tell_38 : decode cX2_tell 38 = .ok (.aload_n 0, 1) := dk_42 (dk_at dksX2_tell_1 15 rfl rfl)
theorem dX2_tell_39 : decode cX2_tell 39 = .ok (.getfield 54, 3) := dk_180 0 54 (dk_at dksX2_tell_1 16 rfl rfl)
theorem dX2_tell_42 : decode cX2_tell 42 = .ok (.ireturn, 1) := dk_172 (dk_at dksX2_tell_1 19 rfl rfl)
def dkwX2_season_1 : List UInt8 := [182, 0, 199, 77, 27, 172]
abbrev dktX2_season_1 : List UInt8 := dkwX2_season_1 ++ []
def dkwX2_season_0 : List UInt8 := [42, 180, 0, 54, 158, 0, 7, 4, 167, 0, 4, 3, 16, 6, 184, 0, 128, 42, 180, 0, 54, 60, 42, 27]
abbrev dktX2_season_0 : List UInt8 := dkwX2_season_0 ++ dktX2_season_1
theorem dksX2_season_0 : cX2_season.data.toList.drop 0 = dktX2_season_0 := by decide +kernel
theorem dksX2_season_1 : cX2_season.data.toList.drop 24 = dktX2_season_1 := dk_seg dksX2_season_0 24 rfl rfl
theorem dX2_season_0 : decode cX2_season 0 = .ok (.aload_n 0, 1) := dk_42 (dk_at dksX2_season_0 0 rfl rfl)
theorem dX2_season_1 : decode cX2_season 1 = .ok (.getfield 54, 3) := dk_180 0 54 (dk_at dksX2_season_0 1 rfl rfl)
theorem dX2_season_4 : decode cX2_season 4 = .ok (.ifCond .le 7, 3) := dk_158 0 7 (dk_at dksX2_season_0 4 rfl rfl)
theorem dX2_season_7 : decode cX2_season 7 = .ok (.iconst 1, 1) := dk_4 (dk_at dksX2_season_0 7 rfl rfl)
theorem dX2_season_8 : decode cX2_season 8 = .ok (.goto 4, 3) := dk_167 0 4 (dk_at dksX2_season_0 8 rfl rfl)
theorem dX2_season_11 : decode cX2_season 11 = .ok (.iconst 0, 1) := dk_3 (dk_at dksX2_season_0 11 rfl rfl)
theorem dX2_season_12 : decode cX2_season 12 = .ok (.bipush 6, 2) := dk_16 6 (dk_at dksX2_season_0 12 rfl rfl)
theorem dX2_season_14 : decode cX2_season 14 = .ok (.invokestatic 128, 3) := dk_184 0 128 (dk_at dksX2_season_0 14 rfl rfl)
theorem dX2_season_17 : decode cX2_season 17 = .ok (.aload_n 0, 1) := dk_42 (dk_at dksX2_season_0 17 rfl rfl)
theorem dX2_season_18 : decode cX2_season 18 = .ok (.getfield 54, 3) := dk_180 0 54 (dk_at dksX2_season_0 18 rfl rfl)
theorem dX2_season_21 : decode cX2_season 21 = .ok (.istore_n 1, 1) := dk_60 (dk_at dksX2_season_0 21 rfl rfl)
theorem dX2_season_22 : decode cX2_season 22 = .ok (.aload_n 0, 1) := dk_42 (dk_at dksX2_season_0 22 rfl rfl)
theorem dX2_season_23 : decode cX2_season 23 = .ok (.iload_n 1, 1) := dk_27 (dk_at dksX2_season_0 23 rfl rfl)
theorem dX2_season_24 : decode cX2_season 24 = .ok (.invokevirtual 199, 3) := dk_182 0 199 (dk_at dksX2_season_1 0 rfl rfl)
theorem dX2_season_27 : decode cX2_season 27 = .ok (.astore_n 2, 1) := dk_77 (dk_at dksX2_season_1 3 rfl rfl)
theorem dX2_season_28 : decode cX2_season 28 = .ok (.iload_n 1, 1) := dk_27 (dk_at dksX2_season_1 4 rfl rfl)
theorem dX2_season_29 : decode cX2_season 29 = .ok (.ireturn, 1) := dk_172 (dk_at dksX2_season_1 5 rfl rfl)
def dkwJ20_bitCount_2 : List UInt8 := [26, 16, 63, 126, 172]
abbrev dktJ20_bitCount_2 : List UInt8 := dkwJ20_bitCount_2 ++ []
def dkwJ20_bitCount_1 : List UInt8 := [26, 26, 7, 124, 96, 19, 1, 11, 126, 59, 26, 26, 16, 8, 124, 96, 59, 26, 26, 16, 16, 124, 96, 59]
abbrev dktJ20_bitCount_1 : List UInt8 := dkwJ20_bitCount_1 ++ dktJ20_bitCount_2
def dkwJ20_bitCount_0 : List UInt8 := [26, 26, 4, 124, 19, 1, 9, 126, 100, 59, 26, 19, 1, 10, 126, 26, 5, 124, 19, 1, 10, 126, 96, 59]
abbrev dktJ20_bitCount_0 : List UInt8 := dkwJ20_bitCount_0 ++ dktJ20_bitCount_1
theorem dksJ20_bitCount_0 : cJ20_bitCount.data.toList.drop 0 = dktJ20_bitCount_0 := by decide +kernel
theorem dksJ20_bitCount_1 : cJ20_bitCount.data.toList.drop 24 = dktJ20_bitCount_1 := dk_seg dksJ20_bitCount_0 24 rfl rfl
theorem dksJ20_bitCount_2 : cJ20_bitCount.data.toList.drop 48 = dktJ20_bitCount_2 := dk_seg dksJ20_bitCount_1 24 rfl rfl
theorem dJ20_bitCount_0 : decode cJ20_bitCount 0 = .ok (.iload_n 0, 1) := dk_26 (dk_at dksJ20_bitCount_0 0 rfl rfl)
theorem dJ20_bitCount_1 : decode cJ20_bitCount 1 = .ok (.iload_n 0, 1) := dk_26 (dk_at dksJ20_bitCount_0 1 rfl rfl)
theorem dJ20_bitCount_2 : decode cJ20_bitCount 2 = .ok (.iconst 1, 1) := dk_4 (dk_at dksJ20_bitCount_0 2 rfl rfl)
theorem dJ20_bitCount_3 : decode cJ20_bitCount 3 = .ok (.iushr, 1) := dk_124 (dk_at dksJ20_bitCount_0 3 rfl rfl)
theorem dJ20_bitCount_4 : decode cJ20_bitCount 4 = .ok (.ldc_w 265, 3) := dk_19 1 9 (dk_at dksJ20_bitCount_0 4 rfl rfl)
theorem dJ20_bitCount_7 : decode cJ20_bitCount 7 = .ok (.iand, 1) := dk_126 (dk_at dksJ20_bitCount_0 7 rfl rfl)
theorem dJ20_bitCount_8 : decode cJ20_bitCount 8 = .ok (.isub, 1) := dk_100 (dk_at dksJ20_bitCount_0 8 rfl rfl)
theorem dJ20_bitCount_9 : decode cJ20_bitCount 9 = .ok (.istore_n 0, 1) := dk_59 (dk_at dksJ20_bitCount_0 9 rfl rfl)
theorem dJ20_bitCount_10 : decode cJ20_bitCount 10 = .ok (.iload_n 0, 1) := dk_26 (dk_at dksJ20_bitCount_0 10 rfl rfl)
theorem dJ20_bitCount_11 : decode cJ20_bitCount 11 = .ok (.ldc_w 266, 3) := dk_19 1 10 (dk_at dksJ20_bitCount_0 11 rfl rfl)
theorem dJ20_bitCount_14 : decode cJ20_bitCount 14 = .ok (.iand, 1) := dk_126 (dk_at dksJ20_bitCount_0 14 rfl rfl)
theorem dJ20_bitCount_15 : decode cJ20_bitCount 15 = .ok (.iload_n 0, 1) := dk_26 (dk_at dksJ20_bitCount_0 15 rfl rfl)
theorem dJ20_bitCount_16 : decode cJ20_bitCount 16 = .ok (.iconst 2, 1) := dk_5 (dk_at dksJ20_bitCount_0 16 rfl rfl)
theorem dJ20_bitCount_17 : decode cJ20_bitCount 17 = .ok (.iushr, 1) := dk_124 (dk_at dksJ20_bitCount_0 17 rfl rfl)
theorem dJ20_bitCount_18 : decode cJ20_bitCount 18 = .ok (.ldc_w 266, 3) := dk_19 1 10 (dk_at dksJ20_bitCount_0 18 rfl rfl)
theorem dJ20_bitCount_21 : decode cJ20_bitCount 21 = .ok (.iand, 1) := dk_126 (dk_at dksJ20_bitCount_0 21 rfl rfl)
theorem dJ20_bitCount_22 : decode cJ20_bitCount 22 = .ok (.iadd, 1) := dk_96 (dk_at dksJ20_bitCount_0 22 rfl rfl)
theorem dJ20_bitCount_23 : decode cJ20_bitCount 23 = .ok (.istore_n 0, 1) := dk_59 (dk_at dksJ20_bitCount_0 23 rfl rfl)
theorem dJ20_bitCount_24 : decode cJ20_bitCount 24 = .ok (.iload_n 0, 1) := dk_26 (dk_at dksJ20_bitCount_1 0 rfl rfl)
theorem dJ20_bitCount_25 : decode cJ20_bitCount 25 = .ok (.iload_n 0, 1) := dk_26 (dk_at dksJ20_bitCount_1 1 rfl rfl)
theorem dJ20_bitCount_26 : decode cJ20_bitCount 26 = .ok (.iconst 4, 1) := dk_7 (dk_at dksJ20_bitCount_1 2 rfl rfl)
theorem dJ20_bitCount_27 : decode cJ20_bitCount 27 = .ok (.iushr, 1) := dk_124 (dk_at dksJ20_bitCount_1 3 rfl rfl)
theorem dJ20_bitCount_28 : decode cJ20_bitCount 28 = .ok (.iadd, 1) := dk_96 (dk_at dksJ20_bitCount_1 4 rfl rfl)
theorem dJ20_bitCount_29 : decode cJ20_bitCount 29 = .ok (.ldc_w 267, 3) := dk_19 1 11 (dk_at dksJ20_bitCount_1 5 rfl rfl)
theorem dJ20_bitCount_32 : decode cJ20_bitCount 32 = .ok (.iand, 1) := dk_126 (dk_at dksJ20_bitCount_1 8 rfl rfl)
theorem dJ20_bitCount_33 : decode cJ20_bitCount 33 = .ok (.istore_n 0, 1) := dk_59 (dk_at dksJ20_bitCount_1 9 rfl rfl)
theorem dJ20_bitCount_34 : decode cJ20_bitCount 34 = .ok (.iload_n 0, 1) := dk_26 (dk_at dksJ20_bitCount_1 10 rfl rfl)
theorem dJ20_bitCount_35 : decode cJ20_bitCount 35 = .ok (.iload_n 0, 1) := dk_26 (dk_at dksJ20_bitCount_1 11 rfl rfl)
theorem dJ20_bitCount_36 : decode cJ20_bitCount 36 = .ok (.bipush 8, 2) := dk_16 8 (dk_at dksJ20_bitCount_1 12 rfl rfl)
theorem dJ20_bitCount_38 : decode cJ20_bitCount 38 = .ok (.iushr, 1) := dk_124 (dk_at dksJ20_bitCount_1 14 rfl rfl)
theorem dJ20_bitCount_39 : decode cJ20_bitCount 39 = .ok (.iadd, 1) := dk_96 (dk_at dksJ20_bitCount_1 15 rfl rfl)
theorem dJ20_bitCount_40 : decode cJ20_bitCount 40 = .ok (.istore_n 0, 1) := dk_59 (dk_at dksJ20_bitCount_1 16 rfl rfl)
theorem dJ20_bitCount_41 : decode cJ20_bitCount 41 = .ok (.iload_n 0, 1) := dk_26 (dk_at dksJ20_bitCount_1 17 rfl rfl)
theorem dJ20_bitCount_42 : decode cJ20_bitCount 42 = .ok (.iload_n 0, 1) := dk_26 (dk_at dksJ20_bitCount_1 18 rfl rfl)
theorem dJ20_bitCount_43 : decode cJ20_bitCount 43 = .ok (.bipush 16, 2) := dk_16 16 (dk_at dksJ20_bitCount_1 19 rfl rfl)
theorem dJ20_bitCount_45 : decode cJ20_bitCount 45 = .ok (.iushr, 1) := dk_124 (dk_at dksJ20_bitCount_1 21 rfl rfl)
theorem dJ20_bitCount_46 : decode cJ20_bitCount 46 = .ok (.iadd, 1) := dk_96 (dk_at dksJ20_bitCount_1 22 rfl rfl)
theorem dJ20_bitCount_47 : decode cJ20_bitCount 47 = .ok (.istore_n 0, 1) := dk_59 (dk_at dksJ20_bitCount_1 23 rfl rfl)
theorem dJ20_bitCount_48 : decode cJ20_bitCount 48 = .ok (.iload_n 0, 1) := dk_26 (dk_at dksJ20_bitCount_2 0 rfl rfl)
theorem dJ20_bitCount_49 : decode cJ20_bitCount 49 = .ok (.bipush 63, 2) := dk_16 63 (dk_at dksJ20_bitCount_2 1 rfl rfl)
theorem dJ20_bitCount_51 : decode cJ20_bitCount 51 = .ok (.iand, 1) := dk_126 (dk_at dksJ20_bitCount_2 3 rfl rfl)
theorem dJ20_bitCount_52 : decode cJ20_bitCount 52 = .ok (.ireturn, 1) := dk_172 (dk_at dksJ20_bitCount_2 4 rfl rfl)
def dkwJ6_init_3_2 : List UInt8 := [44, 181, 0, 7, 29, 154, 0, 8, 42, 1, 181, 0, 24, 177]
abbrev dktJ6_init_3_2 : List UInt8 := dkwJ6_init_3_2 ++ []
def dkwJ6_init_3_1 : List UInt8 := [21, 4, 153, 0, 11, 42, 182, 0, 27, 87, 167, 0, 8, 42, 1, 181, 0, 17, 42, 43, 181, 0, 31, 42]
abbrev dktJ6_init_3_1 : List UInt8 := dkwJ6_init_3_1 ++ dktJ6_init_3_2
def dkwJ6_init_3_0 : List UInt8 := [42, 183, 0, 1, 42, 42, 181, 0, 7, 42, 178, 0, 13, 181, 0, 17, 42, 178, 0, 20, 181, 0, 24]
abbrev dktJ6_init_3_0 : List UInt8 := dkwJ6_init_3_0 ++ dktJ6_init_3_1
theorem dksJ6_init_3_0 : cJ6_init_3.data.toList.drop 0 = dktJ6_init_3_0 := by decide +kernel
theorem dksJ6_init_3_1 : cJ6_init_3.data.toList.drop 23 = dktJ6_init_3_1 := dk_seg dksJ6_init_3_0 23 rfl rfl
theorem dksJ6_init_3_2 : cJ6_init_3.data.toList.drop 47 = dktJ6_init_3_2 := dk_seg dksJ6_init_3_1 24 rfl rfl
theorem dJ6_init_3_0 : decode cJ6_init_3 0 = .ok (.aload_n 0, 1) := dk_42 (dk_at dksJ6_init_3_0 0 rfl rfl)
theorem dJ6_init_3_1 : decode cJ6_init_3 1 = .ok (.invokespecial 1, 3) := dk_183 0 1 (dk_at dksJ6_init_3_0 1 rfl rfl)
theorem dJ6_init_3_4 : decode cJ6_init_3 4 = .ok (.aload_n 0, 1) := dk_42 (dk_at dksJ6_init_3_0 4 rfl rfl)
theorem dJ6_init_3_5 : decode cJ6_init_3 5 = .ok (.aload_n 0, 1) := dk_42 (dk_at dksJ6_init_3_0 5 rfl rfl)
theorem dJ6_init_3_6 : decode cJ6_init_3 6 = .ok (.putfield 7, 3) := dk_181 0 7 (dk_at dksJ6_init_3_0 6 rfl rfl)
theorem dJ6_init_3_9 : decode cJ6_init_3 9 = .ok (.aload_n 0, 1) := dk_42 (dk_at dksJ6_init_3_0 9 rfl rfl)
theorem dJ6_init_3_10 : decode cJ6_init_3 10 = .ok (.getstatic 13, 3) := dk_178 0 13 (dk_at dksJ6_init_3_0 10 rfl rfl)
theorem dJ6_init_3_13 : decode cJ6_init_3 13 = .ok (.putfield 17, 3) := dk_181 0 17 (dk_at dksJ6_init_3_0 13 rfl rfl)
theorem dJ6_init_3_16 : decode cJ6_init_3 16 = .ok (.aload_n 0, 1) := dk_42 (dk_at dksJ6_init_3_0 16 rfl rfl)
theorem dJ6_init_3_17 : decode cJ6_init_3 17 = .ok (.getstatic 20, 3) := dk_178 0 20 (dk_at dksJ6_init_3_0 17 rfl rfl)
theorem dJ6_init_3_20 : decode cJ6_init_3 20 = .ok (.putfield 24, 3) := dk_181 0 24 (dk_at dksJ6_init_3_0 20 rfl rfl)
theorem dJ6_init_3_23 : decode cJ6_init_3 23 = .ok (.iload 4, 2) := dk_21 4 (dk_at dksJ6_init_3_1 0 rfl rfl)
theorem dJ6_init_3_25 : decode cJ6_init_3 25 = .ok (.ifCond .eq 11, 3) := dk_153 0 11 (dk_at dksJ6_init_3_1 2 rfl rfl)
theorem dJ6_init_3_28 : decode cJ6_init_3 28 = .ok (.aload_n 0, 1) := dk_42 (dk_at dksJ6_init_3_1 5 rfl rfl)
theorem dJ6_init_3_29 : decode cJ6_init_3 29 = .ok (.invokevirtual 27, 3) := dk_182 0 27 (dk_at dksJ6_init_3_1 6 rfl rfl)
theorem dJ6_init_3_32 : decode cJ6_init_3 32 = .ok (.pop, 1) := dk_87 (dk_at dksJ6_init_3_1 9 rfl rfl)
theorem dJ6_init_3_33 : decode cJ6_init_3 33 = .ok (.goto 8, 3) := dk_167 0 8 (dk_at dksJ6_init_3_1 10 rfl rfl)
theorem dJ6_init_3_36 : decode cJ6_init_3 36 = .ok (.aload_n 0, 1) := dk_42 (dk_at dksJ6_init_3_1 13 rfl rfl)
theorem dJ6_init_3_37 : decode cJ6_init_3 37 = .ok (.aconst_null, 1) := dk_1 (dk_at dksJ6_init_3_1 14 rfl rfl)
theorem dJ6_init_3_38 : decode cJ6_init_3 38 = .ok (.putfield 17, 3) := dk_181 0 17 (dk_at dksJ6_init_3_1 15 rfl rfl)
theorem dJ6_init_3_41 : decode cJ6_init_3 41 = .ok (.aload_n 0, 1) := dk_42 (dk_at dksJ6_init_3_1 18 rfl rfl)
theorem dJ6_init_3_42 : decode cJ6_init_3 42 = .ok (.aload_n 1, 1) := dk_43 (dk_at dksJ6_init_3_1 19 rfl rfl)
theorem dJ6_init_3_43 : decode cJ6_init_3 43 = .ok (.putfield 31, 3) := dk_181 0 31 (dk_at dksJ6_init_3_1 20 rfl rfl)
theorem dJ6_init_3_46 : decode cJ6_init_3 46 = .ok (.aload_n 0, 1) := dk_42 (dk_at dksJ6_init_3_1 23 rfl rfl)
theorem dJ6_init_3_47 : decode cJ6_init_3 47 = .ok (.aload_n 2, 1) := dk_44 (dk_at dksJ6_init_3_2 0 rfl rfl)
theorem dJ6_init_3_48 : decode cJ6_init_3 48 = .ok (.putfield 7, 3) := dk_181 0 7 (dk_at dksJ6_init_3_2 1 rfl rfl)
theorem dJ6_init_3_51 : decode cJ6_init_3 51 = .ok (.iload_n 3, 1) := dk_29 (dk_at dksJ6_init_3_2 4 rfl rfl)
theorem dJ6_init_3_52 : decode cJ6_init_3 52 = .ok (.ifCond .ne 8, 3) := dk_154 0 8 (dk_at dksJ6_init_3_2 5 rfl rfl)
theorem dJ6_init_3_55 : decode cJ6_init_3 55 = .ok (.aload_n 0, 1) := dk_42 (dk_at dksJ6_init_3_2 8 rfl rfl)
theorem dJ6_init_3_56 : decode cJ6_init_3 56 = .ok (.aconst_null, 1) := dk_1 (dk_at dksJ6_init_3_2 9 rfl rfl)
theorem dJ6_init_3_57 : decode cJ6_init_3 57 = .ok (.putfield 24, 3) := dk_181 0 24 (dk_at dksJ6_init_3_2 10 rfl rfl)
theorem dJ6_init_3_60 : decode cJ6_init_3 60 = .ok (.return_, 1) := dk_177 (dk_at dksJ6_init_3_2 13 rfl rfl)
def dkwJ7_init_3_0 : List UInt8 := [42, 43, 44, 29, 21, 4, 183, 0, 16, 177]
abbrev dktJ7_init_3_0 : List UInt8 := dkwJ7_init_3_0 ++ []
theorem dksJ7_init_3_0 : cJ7_init_3.data.toList.drop 0 = dktJ7_init_3_0 := by decide +kernel
theorem dJ7_init_3_0 : decode cJ7_init_3 0 = .ok (.aload_n 0, 1) := dk_42 (dk_at dksJ7_init_3_0 0 rfl rfl)
theorem dJ7_init_3_1 : decode cJ7_init_3 1 = .ok (.aload_n 1, 1) := dk_43 (dk_at dksJ7_init_3_0 1 rfl rfl)
theorem dJ7_init_3_2 : decode cJ7_init_3 2 = .ok (.aload_n 2, 1) := dk_44 (dk_at dksJ7_init_3_0 2 rfl rfl)
theorem dJ7_init_3_3 : decode cJ7_init_3 3 = .ok (.iload_n 3, 1) := dk_29 (dk_at dksJ7_init_3_0 3 rfl rfl)
theorem dJ7_init_3_4 : decode cJ7_init_3 4 = .ok (.iload 4, 2) := dk_21 4 (dk_at dksJ7_init_3_0 4 rfl rfl)
theorem dJ7_init_3_6 : decode cJ7_init_3 6 = .ok (.invokespecial 16, 3) := dk_183 0 16 (dk_at dksJ7_init_3_0 6 rfl rfl)
theorem dJ7_init_3_9 : decode cJ7_init_3 9 = .ok (.return_, 1) := dk_177 (dk_at dksJ7_init_3_0 9 rfl rfl)
def dkwX8_init_0 : List UInt8 := [42, 1, 1, 3, 3, 183, 0, 1, 42, 27, 181, 0, 7, 177]
abbrev dktX8_init_0 : List UInt8 := dkwX8_init_0 ++ []
theorem dksX8_init_0 : cX8_init.data.toList.drop 0 = dktX8_init_0 := by decide +kernel
theorem dX8_init_0 : decode cX8_init 0 = .ok (.aload_n 0, 1) := dk_42 (dk_at dksX8_init_0 0 rfl rfl)
theorem dX8_init_1 : decode cX8_init 1 = .ok (.aconst_null, 1) := dk_1 (dk_at dksX8_init_0 1 rfl rfl)
theorem dX8_init_2 : decode cX8_init 2 = .ok (.aconst_null, 1) := dk_1 (dk_at dksX8_init_0 2 rfl rfl)
theorem dX8_init_3 : decode cX8_init 3 = .ok (.iconst 0, 1) := dk_3 (dk_at dksX8_init_0 3 rfl rfl)
theorem dX8_init_4 : decode cX8_init 4 = .ok (.iconst 0, 1) := dk_3 (dk_at dksX8_init_0 4 rfl rfl)
theorem dX8_init_5 : decode cX8_init 5 = .ok (.invokespecial 1, 3) := dk_183 0 1 (dk_at dksX8_init_0 5 rfl rfl)
theorem dX8_init_8 : decode cX8_init 8 = .ok (.aload_n 0, 1) := dk_42 (dk_at dksX8_init_0 8 rfl rfl)
theorem dX8_init_9 : decode cX8_init 9 = .ok (.iload_n 1, 1) := dk_27 (dk_at dksX8_init_0 9 rfl rfl)
theorem dX8_init_10 : decode cX8_init 10 = .ok (.putfield 7, 3) := dk_181 0 7 (dk_at dksX8_init_0 10 rfl rfl)
theorem dX8_init_13 : decode cX8_init 13 = .ok (.return_, 1) := dk_177 (dk_at dksX8_init_0 13 rfl rfl)
def dkwX14_init_0 : List UInt8 := [42, 1, 1, 3, 3, 183, 0, 1, 42, 27, 181, 0, 7, 177]
abbrev dktX14_init_0 : List UInt8 := dkwX14_init_0 ++ []
theorem dksX14_init_0 : cX14_init.data.toList.drop 0 = dktX14_init_0 := by decide +kernel
theorem dX14_init_0 : decode cX14_init 0 = .ok (.aload_n 0, 1) := dk_42 (dk_at dksX14_init_0 0 rfl rfl)
theorem dX14_init_1 : decode cX14_init 1 = .ok (.aconst_null, 1) := dk_1 (dk_at dksX14_init_0 1 rfl rfl)
theorem dX14_init_2 : decode cX14_init 2 = .ok (.aconst_null, 1) := dk_1 (dk_at dksX14_init_0 2 rfl rfl)
theorem dX14_init_3 : decode cX14_init 3 = .ok (.iconst 0, 1) := dk_3 (dk_at dksX14_init_0 3 rfl rfl)
theorem dX14_init_4 : decode cX14_init 4 = .ok (.iconst 0, 1) := dk_3 (dk_at dksX14_init_0 4 rfl rfl)
theorem dX14_init_5 : decode cX14_init 5 = .ok (.invokespecial 1, 3) := dk_183 0 1 (dk_at dksX14_init_0 5 rfl rfl)
theorem dX14_init_8 : decode cX14_init 8 = .ok (.aload_n 0, 1) := dk_42 (dk_at dksX14_init_0 8 rfl rfl)
theorem dX14_init_9 : decode cX14_init 9 = .ok (.iload_n 1, 1) := dk_27 (dk_at dksX14_init_0 9 rfl rfl)
theorem dX14_init_10 : decode cX14_init 10 = .ok (.putfield 7, 3) := dk_181 0 7 (dk_at dksX14_init_0 10 rfl rfl)
theorem dX14_init_13 : decode cX14_init 13 = .ok (.return_, 1) := dk_177 (dk_at dksX14_init_0 13 rfl rfl)
def dkwX1_inRange_0 : List UInt8 := [26, 27, 161, 0, 12, 26, 28, 163, 0, 7, 4, 167, 0, 4, 3, 172]
abbrev dktX1_inRange_0 : List UInt8 := dkwX1_inRange_0 ++ []
theorem dksX1_inRange_0 : cX1_inRange.data.toList.drop 0 = dktX1_inRange_0 := by decide +kernel
theorem dX1_inRange_0 : decode cX1_inRange 0 = .ok (.iload_n 0, 1) := dk_26 (dk_at dksX1_inRange_0 0 rfl rfl)
theorem dX1_inRange_1 : decode cX1_inRange 1 = .ok (.iload_n 1, 1) := dk_27 (dk_at dksX1_inRange_0 1 rfl rfl)
theorem dX1_inRange_2 : decode cX1_inRange 2 = .ok (.if_icmp .lt 12, 3) := dk_161 0 12 (dk_at dksX1_inRange_0 2 rfl rfl)
theorem dX1_inRange_5 : decode cX1_inRange 5 = .ok (.iload_n 0, 1) := dk_26 (dk_at dksX1_inRange_0 5 rfl rfl)
theorem dX1_inRange_6 : decode cX1_inRange 6 = .ok (.iload_n 2, 1) := dk_28 (dk_at dksX1_inRange_0 6 rfl rfl)
theorem dX1_inRange_7 : decode cX1_inRange 7 = .ok (.if_icmp .gt 7, 3) := dk_163 0 7 (dk_at dksX1_inRange_0 7 rfl rfl)
theorem dX1_inRange_10 : decode cX1_inRange 10 = .ok (.iconst 1, 1) := dk_4 (dk_at dksX1_inRange_0 10 rfl rfl)
theorem dX1_inRange_11 : decode cX1_inRange 11 = .ok (.goto 4, 3) := dk_167 0 4 (dk_at dksX1_inRange_0 11 rfl rfl)
theorem dX1_inRange_14 : decode cX1_inRange 14 = .ok (.iconst 0, 1) := dk_3 (dk_at dksX1_inRange_0 14 rfl rfl)
theorem dX1_inRange_15 : decode cX1_inRange 15 = .ok (.ireturn, 1) := dk_172 (dk_at dksX1_inRange_0 15 rfl rfl)
def dkwX1_has_0 : List UInt8 := [26, 27, 122, 4, 126, 4, 160, 0, 7, 4, 167, 0, 4, 3, 172]
abbrev dktX1_has_0 : List UInt8 := dkwX1_has_0 ++ []
theorem dksX1_has_0 : cX1_has.data.toList.drop 0 = dktX1_has_0 := by decide +kernel
theorem dX1_has_0 : decode cX1_has 0 = .ok (.iload_n 0, 1) := dk_26 (dk_at dksX1_has_0 0 rfl rfl)
theorem dX1_has_1 : decode cX1_has 1 = .ok (.iload_n 1, 1) := dk_27 (dk_at dksX1_has_0 1 rfl rfl)
theorem dX1_has_2 : decode cX1_has 2 = .ok (.ishr, 1) := dk_122 (dk_at dksX1_has_0 2 rfl rfl)
theorem dX1_has_3 : decode cX1_has 3 = .ok (.iconst 1, 1) := dk_4 (dk_at dksX1_has_0 3 rfl rfl)
theorem dX1_has_4 : decode cX1_has 4 = .ok (.iand, 1) := dk_126 (dk_at dksX1_has_0 4 rfl rfl)
theorem dX1_has_5 : decode cX1_has 5 = .ok (.iconst 1, 1) := dk_4 (dk_at dksX1_has_0 5 rfl rfl)
theorem dX1_has_6 : decode cX1_has 6 = .ok (.if_icmp .ne 7, 3) := dk_160 0 7 (dk_at dksX1_has_0 6 rfl rfl)
theorem dX1_has_9 : decode cX1_has 9 = .ok (.iconst 1, 1) := dk_4 (dk_at dksX1_has_0 9 rfl rfl)
theorem dX1_has_10 : decode cX1_has 10 = .ok (.goto 4, 3) := dk_167 0 4 (dk_at dksX1_has_0 10 rfl rfl)
theorem dX1_has_13 : decode cX1_has 13 = .ok (.iconst 0, 1) := dk_3 (dk_at dksX1_has_0 13 rfl rfl)
theorem dX1_has_14 : decode cX1_has 14 = .ok (.ireturn, 1) := dk_172 (dk_at dksX1_has_0 14 rfl rfl)
def dkwX1_with_0 : List UInt8 := [28, 153, 0, 11, 26, 4, 27, 120, 128, 167, 0, 10, 26, 4, 27, 120, 2, 130, 126, 172]
abbrev dktX1_with_0 : List UInt8 := dkwX1_with_0 ++ []
theorem dksX1_with_0 : cX1_with.data.toList.drop 0 = dktX1_with_0 := by decide +kernel
theorem dX1_with_0 : decode cX1_with 0 = .ok (.iload_n 2, 1) := dk_28 (dk_at dksX1_with_0 0 rfl rfl)
theorem dX1_with_1 : decode cX1_with 1 = .ok (.ifCond .eq 11, 3) := dk_153 0 11 (dk_at dksX1_with_0 1 rfl rfl)
theorem dX1_with_4 : decode cX1_with 4 = .ok (.iload_n 0, 1) := dk_26 (dk_at dksX1_with_0 4 rfl rfl)
theorem dX1_with_5 : decode cX1_with 5 = .ok (.iconst 1, 1) := dk_4 (dk_at dksX1_with_0 5 rfl rfl)
theorem dX1_with_6 : decode cX1_with 6 = .ok (.iload_n 1, 1) := dk_27 (dk_at dksX1_with_0 6 rfl rfl)
theorem dX1_with_7 : decode cX1_with 7 = .ok (.ishl, 1) := dk_120 (dk_at dksX1_with_0 7 rfl rfl)
theorem dX1_with_8 : decode cX1_with 8 = .ok (.ior, 1) := dk_128 (dk_at dksX1_with_0 8 rfl rfl)
theorem dX1_with_9 : decode cX1_with 9 = .ok (.goto 10, 3) := dk_167 0 10 (dk_at dksX1_with_0 9 rfl rfl)
theorem dX1_with_12 : decode cX1_with 12 = .ok (.iload_n 0, 1) := dk_26 (dk_at dksX1_with_0 12 rfl rfl)
theorem dX1_with_13 : decode cX1_with 13 = .ok (.iconst 1, 1) := dk_4 (dk_at dksX1_with_0 13 rfl rfl)
theorem dX1_with_14 : decode cX1_with 14 = .ok (.iload_n 1, 1) := dk_27 (dk_at dksX1_with_0 14 rfl rfl)
theorem dX1_with_15 : decode cX1_with 15 = .ok (.ishl, 1) := dk_120 (dk_at dksX1_with_0 15 rfl rfl)
theorem dX1_with_16 : decode cX1_with 16 = .ok (.iconst (-1), 1) := dk_2 (dk_at dksX1_with_0 16 rfl rfl)
theorem dX1_with_17 : decode cX1_with 17 = .ok (.ixor, 1) := dk_130 (dk_at dksX1_with_0 17 rfl rfl)
theorem dX1_with_18 : decode cX1_with 18 = .ok (.iand, 1) := dk_126 (dk_at dksX1_with_0 18 rfl rfl)
theorem dX1_with_19 : decode cX1_with 19 = .ok (.ireturn, 1) := dk_172 (dk_at dksX1_with_0 19 rfl rfl)
def dkwX1_require_0 : List UInt8 := [26, 154, 0, 11, 187, 0, 1, 89, 183, 0, 3, 191, 177]
abbrev dktX1_require_0 : List UInt8 := dkwX1_require_0 ++ []
theorem dksX1_require_0 : cX1_require.data.toList.drop 0 = dktX1_require_0 := by decide +kernel
theorem dX1_require_0 : decode cX1_require 0 = .ok (.iload_n 0, 1) := dk_26 (dk_at dksX1_require_0 0 rfl rfl)
theorem dX1_require_1 : decode cX1_require 1 = .ok (.ifCond .ne 11, 3) := dk_154 0 11 (dk_at dksX1_require_0 1 rfl rfl)
theorem dX1_require_4 : decode cX1_require 4 = .ok (.new 1, 3) := dk_187 0 1 (dk_at dksX1_require_0 4 rfl rfl)
theorem dX1_require_7 : decode cX1_require 7 = .ok (.dup, 1) := dk_89 (dk_at dksX1_require_0 7 rfl rfl)
theorem dX1_require_8 : decode cX1_require 8 = .ok (.invokespecial 3, 3) := dk_183 0 3 (dk_at dksX1_require_0 8 rfl rfl)
theorem dX1_require_11 : decode cX1_require 11 = .ok (.athrow, 1) := dk_191 (dk_at dksX1_require_0 11 rfl rfl)
theorem dX1_require_12 : decode cX1_require 12 = .ok (.return_, 1) := dk_177 (dk_at dksX1_require_0 12 rfl rfl)
def dkwX1_requireIndex_0 : List UInt8 := [26, 154, 0, 11, 187, 0, 7, 89, 183, 0, 9, 191, 177]
abbrev dktX1_requireIndex_0 : List UInt8 := dkwX1_requireIndex_0 ++ []
theorem dksX1_requireIndex_0 : cX1_requireIndex.data.toList.drop 0 = dktX1_requireIndex_0 := by decide +kernel
theorem dX1_requireIndex_0 : decode cX1_requireIndex 0 = .ok (.iload_n 0, 1) := dk_26 (dk_at dksX1_requireIndex_0 0 rfl rfl)
theorem dX1_requireIndex_1 : decode cX1_requireIndex 1 = .ok (.ifCond .ne 11, 3) := dk_154 0 11 (dk_at dksX1_requireIndex_0 1 rfl rfl)
theorem dX1_requireIndex_4 : decode cX1_requireIndex 4 = .ok (.new 7, 3) := dk_187 0 7 (dk_at dksX1_requireIndex_0 4 rfl rfl)
theorem dX1_requireIndex_7 : decode cX1_requireIndex 7 = .ok (.dup, 1) := dk_89 (dk_at dksX1_requireIndex_0 7 rfl rfl)
theorem dX1_requireIndex_8 : decode cX1_requireIndex 8 = .ok (.invokespecial 9, 3) := dk_183 0 9 (dk_at dksX1_requireIndex_0 8 rfl rfl)
theorem dX1_requireIndex_11 : decode cX1_requireIndex 11 = .ok (.athrow, 1) := dk_191 (dk_at dksX1_requireIndex_0 11 rfl rfl)
theorem dX1_requireIndex_12 : decode cX1_requireIndex 12 = .ok (.return_, 1) := dk_177 (dk_at dksX1_requireIndex_0 12 rfl rfl)
def dkwX1_requireState_0 : List UInt8 := [26, 154, 0, 11, 187, 0, 10, 89, 183, 0, 12, 191, 177]
abbrev dktX1_requireState_0 : List UInt8 := dkwX1_requireState_0 ++ []
theorem dksX1_requireState_0 : cX1_requireState.data.toList.drop 0 = dktX1_requireState_0 := by decide +kernel
theorem dX1_requireState_0 : decode cX1_requireState 0 = .ok (.iload_n 0, 1) := dk_26 (dk_at dksX1_requireState_0 0 rfl rfl)
theorem dX1_requireState_1 : decode cX1_requireState 1 = .ok (.ifCond .ne 11, 3) := dk_154 0 11 (dk_at dksX1_requireState_0 1 rfl rfl)
theorem dX1_requireState_4 : decode cX1_requireState 4 = .ok (.new 10, 3) := dk_187 0 10 (dk_at dksX1_requireState_0 4 rfl rfl)
theorem dX1_requireState_7 : decode cX1_requireState 7 = .ok (.dup, 1) := dk_89 (dk_at dksX1_requireState_0 7 rfl rfl)
theorem dX1_requireState_8 : decode cX1_requireState 8 = .ok (.invokespecial 12, 3) := dk_183 0 12 (dk_at dksX1_requireState_0 8 rfl rfl)
theorem dX1_requireState_11 : decode cX1_requireState 11 = .ok (.athrow, 1) := dk_191 (dk_at dksX1_requireState_0 11 rfl rfl)
theorem dX1_requireState_12 : decode cX1_requireState 12 = .ok (.return_, 1) := dk_177 (dk_at dksX1_requireState_0 12 rfl rfl)
def dkwX1_requireElement_0 : List UInt8 := [26, 154, 0, 11, 187, 0, 13, 89, 183, 0, 15, 191, 177]
abbrev dktX1_requireElement_0 : List UInt8 := dkwX1_requireElement_0 ++ []
theorem dksX1_requireElement_0 : cX1_requireElement.data.toList.drop 0 = dktX1_requireElement_0 := by decide +kernel
theorem dX1_requireElement_0 : decode cX1_requireElement 0 = .ok (.iload_n 0, 1) := dk_26 (dk_at dksX1_requireElement_0 0 rfl rfl)
theorem dX1_requireElement_1 : decode cX1_requireElement 1 = .ok (.ifCond .ne 11, 3) := dk_154 0 11 (dk_at dksX1_requireElement_0 1 rfl rfl)
theorem dX1_requireElement_4 : decode cX1_requireElement 4 = .ok (.new 13, 3) := dk_187 0 13 (dk_at dksX1_requireElement_0 4 rfl rfl)
theorem dX1_requireElement_7 : decode cX1_requireElement 7 = .ok (.dup, 1) := dk_89 (dk_at dksX1_requireElement_0 7 rfl rfl)
theorem dX1_requireElement_8 : decode cX1_requireElement 8 = .ok (.invokespecial 15, 3) := dk_183 0 15 (dk_at dksX1_requireElement_0 8 rfl rfl)
theorem dX1_requireElement_11 : decode cX1_requireElement 11 = .ok (.athrow, 1) := dk_191 (dk_at dksX1_requireElement_0 11 rfl rfl)
theorem dX1_requireElement_12 : decode cX1_requireElement 12 = .ok (.return_, 1) := dk_177 (dk_at dksX1_requireElement_0 12 rfl rfl)
def dkwX1_boardsOf_0 : List UInt8 := [26, 3, 16, 9, 184, 0, 112, 184, 0, 116, 26, 172]
abbrev dktX1_boardsOf_0 : List UInt8 := dkwX1_boardsOf_0 ++ []
theorem dksX1_boardsOf_0 : cX1_boardsOf.data.toList.drop 0 = dktX1_boardsOf_0 := by decide +kernel
theorem dX1_boardsOf_0 : decode cX1_boardsOf 0 = .ok (.iload_n 0, 1) := dk_26 (dk_at dksX1_boardsOf_0 0 rfl rfl)
theorem dX1_boardsOf_1 : decode cX1_boardsOf 1 = .ok (.iconst 0, 1) := dk_3 (dk_at dksX1_boardsOf_0 1 rfl rfl)
theorem dX1_boardsOf_2 : decode cX1_boardsOf 2 = .ok (.bipush 9, 2) := dk_16 9 (dk_at dksX1_boardsOf_0 2 rfl rfl)
theorem dX1_boardsOf_4 : decode cX1_boardsOf 4 = .ok (.invokestatic 112, 3) := dk_184 0 112 (dk_at dksX1_boardsOf_0 4 rfl rfl)
theorem dX1_boardsOf_7 : decode cX1_boardsOf 7 = .ok (.invokestatic 116, 3) := dk_184 0 116 (dk_at dksX1_boardsOf_0 7 rfl rfl)
theorem dX1_boardsOf_10 : decode cX1_boardsOf 10 = .ok (.iload_n 0, 1) := dk_26 (dk_at dksX1_boardsOf_0 10 rfl rfl)
theorem dX1_boardsOf_11 : decode cX1_boardsOf 11 = .ok (.ireturn, 1) := dk_172 (dk_at dksX1_boardsOf_0 11 rfl rfl)
def dkwX1_eggsOf_0 : List UInt8 := [26, 4, 16, 99, 184, 0, 112, 184, 0, 116, 26, 172]
abbrev dktX1_eggsOf_0 : List UInt8 := dkwX1_eggsOf_0 ++ []
theorem dksX1_eggsOf_0 : cX1_eggsOf.data.toList.drop 0 = dktX1_eggsOf_0 := by decide +kernel
theorem dX1_eggsOf_0 : decode cX1_eggsOf 0 = .ok (.iload_n 0, 1) := dk_26 (dk_at dksX1_eggsOf_0 0 rfl rfl)
theorem dX1_eggsOf_1 : decode cX1_eggsOf 1 = .ok (.iconst 1, 1) := dk_4 (dk_at dksX1_eggsOf_0 1 rfl rfl)
theorem dX1_eggsOf_2 : decode cX1_eggsOf 2 = .ok (.bipush 99, 2) := dk_16 99 (dk_at dksX1_eggsOf_0 2 rfl rfl)
theorem dX1_eggsOf_4 : decode cX1_eggsOf 4 = .ok (.invokestatic 112, 3) := dk_184 0 112 (dk_at dksX1_eggsOf_0 4 rfl rfl)
theorem dX1_eggsOf_7 : decode cX1_eggsOf 7 = .ok (.invokestatic 116, 3) := dk_184 0 116 (dk_at dksX1_eggsOf_0 7 rfl rfl)
theorem dX1_eggsOf_10 : decode cX1_eggsOf 10 = .ok (.iload_n 0, 1) := dk_26 (dk_at dksX1_eggsOf_0 10 rfl rfl)
theorem dX1_eggsOf_11 : decode cX1_eggsOf 11 = .ok (.ireturn, 1) := dk_172 (dk_at dksX1_eggsOf_0 11 rfl rfl)
def dkwX1_rainOf_0 : List UInt8 := [26, 3, 16, 99, 184, 0, 112, 184, 0, 116, 26, 172]
abbrev dktX1_rainOf_0 : List UInt8 := dkwX1_rainOf_0 ++ []
theorem dksX1_rainOf_0 : cX1_rainOf.data.toList.drop 0 = dktX1_rainOf_0 := by decide +kernel
theorem dX1_rainOf_0 : decode cX1_rainOf 0 = .ok (.iload_n 0, 1) := dk_26 (dk_at dksX1_rainOf_0 0 rfl rfl)
theorem dX1_rainOf_1 : decode cX1_rainOf 1 = .ok (.iconst 0, 1) := dk_3 (dk_at dksX1_rainOf_0 1 rfl rfl)
theorem dX1_rainOf_2 : decode cX1_rainOf 2 = .ok (.bipush 99, 2) := dk_16 99 (dk_at dksX1_rainOf_0 2 rfl rfl)
theorem dX1_rainOf_4 : decode cX1_rainOf 4 = .ok (.invokestatic 112, 3) := dk_184 0 112 (dk_at dksX1_rainOf_0 4 rfl rfl)
theorem dX1_rainOf_7 : decode cX1_rainOf 7 = .ok (.invokestatic 116, 3) := dk_184 0 116 (dk_at dksX1_rainOf_0 7 rfl rfl)
theorem dX1_rainOf_10 : decode cX1_rainOf 10 = .ok (.iload_n 0, 1) := dk_26 (dk_at dksX1_rainOf_0 10 rfl rfl)
theorem dX1_rainOf_11 : decode cX1_rainOf 11 = .ok (.ireturn, 1) := dk_172 (dk_at dksX1_rainOf_0 11 rfl rfl)
def dkwX1_allow_0 : List UInt8 := [26, 154, 0, 12, 187, 0, 16, 89, 27, 183, 0, 18, 191, 177]
abbrev dktX1_allow_0 : List UInt8 := dkwX1_allow_0 ++ []
theorem dksX1_allow_0 : cX1_allow.data.toList.drop 0 = dktX1_allow_0 := by decide +kernel
theorem dX1_allow_0 : decode cX1_allow 0 = .ok (.iload_n 0, 1) := dk_26 (dk_at dksX1_allow_0 0 rfl rfl)
theorem dX1_allow_1 : decode cX1_allow 1 = .ok (.ifCond .ne 12, 3) := dk_154 0 12 (dk_at dksX1_allow_0 1 rfl rfl)
theorem dX1_allow_4 : decode cX1_allow 4 = .ok (.new 16, 3) := dk_187 0 16 (dk_at dksX1_allow_0 4 rfl rfl)
theorem dX1_allow_7 : decode cX1_allow 7 = .ok (.dup, 1) := dk_89 (dk_at dksX1_allow_0 7 rfl rfl)
theorem dX1_allow_8 : decode cX1_allow 8 = .ok (.iload_n 1, 1) := dk_27 (dk_at dksX1_allow_0 8 rfl rfl)
theorem dX1_allow_9 : decode cX1_allow 9 = .ok (.invokespecial 18, 3) := dk_183 0 18 (dk_at dksX1_allow_0 9 rfl rfl)
theorem dX1_allow_12 : decode cX1_allow 12 = .ok (.athrow, 1) := dk_191 (dk_at dksX1_allow_0 12 rfl rfl)
theorem dX1_allow_13 : decode cX1_allow 13 = .ok (.return_, 1) := dk_177 (dk_at dksX1_allow_0 13 rfl rfl)
def dkwX1_copy_0 : List UInt8 := [187, 0, 24, 89, 183, 0, 26, 42, 182, 0, 69, 176]
abbrev dktX1_copy_0 : List UInt8 := dkwX1_copy_0 ++ []
theorem dksX1_copy_0 : cX1_copy.data.toList.drop 0 = dktX1_copy_0 := by decide +kernel
theorem dX1_copy_0 : decode cX1_copy 0 = .ok (.new 24, 3) := dk_187 0 24 (dk_at dksX1_copy_0 0 rfl rfl)
theorem dX1_copy_3 : decode cX1_copy 3 = .ok (.dup, 1) := dk_89 (dk_at dksX1_copy_0 3 rfl rfl)
theorem dX1_copy_4 : decode cX1_copy 4 = .ok (.invokespecial 26, 3) := dk_183 0 26 (dk_at dksX1_copy_0 4 rfl rfl)
theorem dX1_copy_7 : decode cX1_copy 7 = .ok (.aload_n 0, 1) := dk_42 (dk_at dksX1_copy_0 7 rfl rfl)
theorem dX1_copy_8 : decode cX1_copy 8 = .ok (.invokevirtual 69, 3) := dk_182 0 69 (dk_at dksX1_copy_0 8 rfl rfl)
theorem dX1_copy_11 : decode cX1_copy 11 = .ok (.areturn, 1) := dk_176 (dk_at dksX1_copy_0 11 rfl rfl)
