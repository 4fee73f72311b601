/-! DECODE ROWS BY BYTES: one lemma an opcode; a method's code is cut into short pieces once, and a row reads its own piece alone. -/
set_option maxRecDepth 100000
/-- the code has just these bytes from pc on -/
def DkAt (code : ByteArray) (pc : Nat) (bs : List UInt8) : Prop := ∀ (j : Nat) (b : UInt8), bs[j]? = some b → code.data.toList[pc + j]? = some b
/-- the piece W has the bytes bs from its place j on -/
def dkIn (W : List UInt8) (j : Nat) (bs : List UInt8) : Bool := decide ((W.drop j).take bs.length = bs)
theorem dk_seg {l W T : List UInt8} {o o2 : Nat} (h : l.drop o = W ++ T) (n : Nat) (hn : W.length = n) (ho : o + n = o2) : l.drop o2 = T := by
  subst ho
  rw [← List.drop_drop, h, List.drop_left' hn]
theorem dk_at {code : ByteArray} {W T bs : List UInt8} {o pc : Nat} (h : code.data.toList.drop o = W ++ T) (j : Nat) (hp : o + j = pc) (hw : dkIn W j bs = true) : DkAt code pc bs := by
  subst hp
  intro i b e
  have h1 := of_decide_eq_true hw
  have h2 : i < bs.length := (List.getElem?_eq_some_iff.mp e).1
  have h3 : W[j + i]? = some b := by
    rw [← h1, List.getElem?_take, if_pos h2, List.getElem?_drop] at e
    exact e
  have h4 : j + i < W.length := (List.getElem?_eq_some_iff.mp h3).1
  have h5 : (code.data.toList.drop o)[j + i]? = some b := by
    rw [h, List.getElem?_append_left h4]
    exact h3
  rw [List.getElem?_drop, ← Nat.add_assoc] at h5
  exact h5
theorem dk_u1 {A : ByteArray} {p : Nat} {b : UInt8} (h : A.data.toList[p]? = some b) : (Reader.u1 : Reader DecodeError Nat) A p = .ok (b.toNat, p + 1) := by
  obtain ⟨h1, h2⟩ := List.getElem?_eq_some_iff.mp h
  have h3 : p < A.size := by simpa using h1
  have h4 : A[p]'h3 = b := h2
  have e : (Reader.u1 : Reader DecodeError Nat) A p = (if h : p < A.size then .ok (A[p].toNat, p + 1) else .error (HasTruncated.truncated p)) := by
    show (do if h : p < A.size then do set (p + 1); Pure.pure A[p].toNat else MonadExcept.throw (HasTruncated.truncated p) : Reader DecodeError Nat) A p = _
    by_cases hi : p < A.size
    · rw [dif_pos hi, dif_pos hi]; rfl
    · rw [dif_neg hi, dif_neg hi]; rfl
  rw [e, dif_pos h3, h4]
theorem dk_bind {α β : Type} {r : Reader DecodeError α} {f : α → Reader DecodeError β} {A : ByteArray} {p s : Nat} {a : α} (h : r A p = .ok (a, s)) : (r >>= f) A p = f a A s := by
  show (do let (a, s) ← r A p; f a A s : Except DecodeError (β × Nat)) = _
  rw [h]
  rfl
theorem dk_map {α β : Type} {r : Reader DecodeError α} {g : α → β} {A : ByteArray} {p s : Nat} {a : α} (h : r A p = .ok (a, s)) : (g <$> r) A p = .ok (g a, s) := by
  show (do let (a, s) ← r A p; .ok (g a, s) : Except DecodeError (β × Nat)) = _
  rw [h]
  rfl
theorem dk_u2 {A : ByteArray} {p : Nat} {a b : UInt8} (h : A.data.toList[p]? = some a) (h2 : A.data.toList[p + 1]? = some b) : (Reader.u2 : Reader DecodeError Nat) A p = .ok (a.toNat * 256 + b.toNat, p + 2) := by
  show (Reader.u1 >>= fun hi => Reader.u1 >>= fun lo => Pure.pure (hi * 256 + lo) : Reader DecodeError Nat) A p = _
  rw [dk_bind (dk_u1 h), dk_bind (dk_u1 h2)]
  rfl
theorem dk_of {code : ByteArray} {pc n : Nat} {i : Instr} (h : Decoder.instr pc code pc = .ok (i, pc + n)) : decode code pc = .ok (i, n) := by
  have e : decode code pc = (match Decoder.instr pc code pc with | .error x => .error x | .ok (j, s) => .ok (j, s - pc)) := by
    show (do let (j, s) ← Decoder.instr pc code pc; Pure.pure (j, s - pc) : Except DecodeError (Instr × Nat)) = _
    cases Decoder.instr pc code pc <;> rfl
  rw [e, h]
  show Except.ok (i, pc + n - pc) = _
  rw [Nat.add_sub_cancel_left]
theorem dk_1 {code : ByteArray} {pc : Nat} (h : DkAt code pc [1]) : decode code pc = .ok (.aconst_null, 1) := dk_of ((dk_bind (dk_u1 (h 0 _ rfl))).trans rfl)
theorem dk_2 {code : ByteArray} {pc : Nat} (h : DkAt code pc [2]) : decode code pc = .ok (.iconst (-1), 1) := dk_of ((dk_bind (dk_u1 (h 0 _ rfl))).trans rfl)
theorem dk_3 {code : ByteArray} {pc : Nat} (h : DkAt code pc [3]) : decode code pc = .ok (.iconst 0, 1) := dk_of ((dk_bind (dk_u1 (h 0 _ rfl))).trans rfl)
theorem dk_4 {code : ByteArray} {pc : Nat} (h : DkAt code pc [4]) : decode code pc = .ok (.iconst 1, 1) := dk_of ((dk_bind (dk_u1 (h 0 _ rfl))).trans rfl)
theorem dk_5 {code : ByteArray} {pc : Nat} (h : DkAt code pc [5]) : decode code pc = .ok (.iconst 2, 1) := dk_of ((dk_bind (dk_u1 (h 0 _ rfl))).trans rfl)
theorem dk_6 {code : ByteArray} {pc : Nat} (h : DkAt code pc [6]) : decode code pc = .ok (.iconst 3, 1) := dk_of ((dk_bind (dk_u1 (h 0 _ rfl))).trans rfl)
theorem dk_7 {code : ByteArray} {pc : Nat} (h : DkAt code pc [7]) : decode code pc = .ok (.iconst 4, 1) := dk_of ((dk_bind (dk_u1 (h 0 _ rfl))).trans rfl)
theorem dk_8 {code : ByteArray} {pc : Nat} (h : DkAt code pc [8]) : decode code pc = .ok (.iconst 5, 1) := dk_of ((dk_bind (dk_u1 (h 0 _ rfl))).trans rfl)
theorem dk_14 {code : ByteArray} {pc : Nat} (h : DkAt code pc [14]) : decode code pc = .ok (.dconst 0, 1) := dk_of ((dk_bind (dk_u1 (h 0 _ rfl))).trans rfl)
theorem dk_16 {code : ByteArray} {pc : Nat} (a : UInt8) (h : DkAt code pc [16, a]) : decode code pc = .ok (.bipush (Reader.signed 8 a.toNat), 2) := dk_of ((dk_bind (dk_u1 (h 0 _ rfl))).trans ((dk_bind (dk_map (dk_u1 (h 1 _ rfl)))).trans rfl))
theorem dk_17 {code : ByteArray} {pc : Nat} (a b : UInt8) (h : DkAt code pc [17, a, b]) : decode code pc = .ok (.sipush (Reader.signed 16 (a.toNat * 256 + b.toNat)), 3) := dk_of ((dk_bind (dk_u1 (h 0 _ rfl))).trans ((dk_bind (dk_map (dk_u2 (h 1 _ rfl) (h 2 _ rfl)))).trans rfl))
theorem dk_18 {code : ByteArray} {pc : Nat} (a : UInt8) (h : DkAt code pc [18, a]) : decode code pc = .ok (.ldc a.toNat, 2) := dk_of ((dk_bind (dk_u1 (h 0 _ rfl))).trans ((dk_bind (dk_u1 (h 1 _ rfl))).trans rfl))
theorem dk_19 {code : ByteArray} {pc : Nat} (a b : UInt8) (h : DkAt code pc [19, a, b]) : decode code pc = .ok (.ldc_w (a.toNat * 256 + b.toNat), 3) := dk_of ((dk_bind (dk_u1 (h 0 _ rfl))).trans ((dk_bind (dk_u2 (h 1 _ rfl) (h 2 _ rfl))).trans rfl))
theorem dk_20 {code : ByteArray} {pc : Nat} (a b : UInt8) (h : DkAt code pc [20, a, b]) : decode code pc = .ok (.ldc2_w (a.toNat * 256 + b.toNat), 3) := dk_of ((dk_bind (dk_u1 (h 0 _ rfl))).trans ((dk_bind (dk_u2 (h 1 _ rfl) (h 2 _ rfl))).trans rfl))
theorem dk_21 {code : ByteArray} {pc : Nat} (a : UInt8) (h : DkAt code pc [21, a]) : decode code pc = .ok (.iload a.toNat, 2) := dk_of ((dk_bind (dk_u1 (h 0 _ rfl))).trans ((dk_bind (dk_u1 (h 1 _ rfl))).trans rfl))
theorem dk_24 {code : ByteArray} {pc : Nat} (a : UInt8) (h : DkAt code pc [24, a]) : decode code pc = .ok (.dload a.toNat, 2) := dk_of ((dk_bind (dk_u1 (h 0 _ rfl))).trans ((dk_bind (dk_u1 (h 1 _ rfl))).trans rfl))
theorem dk_25 {code : ByteArray} {pc : Nat} (a : UInt8) (h : DkAt code pc [25, a]) : decode code pc = .ok (.aload a.toNat, 2) := dk_of ((dk_bind (dk_u1 (h 0 _ rfl))).trans ((dk_bind (dk_u1 (h 1 _ rfl))).trans rfl))
theorem dk_26 {code : ByteArray} {pc : Nat} (h : DkAt code pc [26]) : decode code pc = .ok (.iload_n 0, 1) := dk_of ((dk_bind (dk_u1 (h 0 _ rfl))).trans rfl)
theorem dk_27 {code : ByteArray} {pc : Nat} (h : DkAt code pc [27]) : decode code pc = .ok (.iload_n 1, 1) := dk_of ((dk_bind (dk_u1 (h 0 _ rfl))).trans rfl)
theorem dk_28 {code : ByteArray} {pc : Nat} (h : DkAt code pc [28]) : decode code pc = .ok (.iload_n 2, 1) := dk_of ((dk_bind (dk_u1 (h 0 _ rfl))).trans rfl)
theorem dk_29 {code : ByteArray} {pc : Nat} (h : DkAt code pc [29]) : decode code pc = .ok (.iload_n 3, 1) := dk_of ((dk_bind (dk_u1 (h 0 _ rfl))).trans rfl)
theorem dk_42 {code : ByteArray} {pc : Nat} (h : DkAt code pc [42]) : decode code pc = .ok (.aload_n 0, 1) := dk_of ((dk_bind (dk_u1 (h 0 _ rfl))).trans rfl)
theorem dk_43 {code : ByteArray} {pc : Nat} (h : DkAt code pc [43]) : decode code pc = .ok (.aload_n 1, 1) := dk_of ((dk_bind (dk_u1 (h 0 _ rfl))).trans rfl)
theorem dk_44 {code : ByteArray} {pc : Nat} (h : DkAt code pc [44]) : decode code pc = .ok (.aload_n 2, 1) := dk_of ((dk_bind (dk_u1 (h 0 _ rfl))).trans rfl)
theorem dk_45 {code : ByteArray} {pc : Nat} (h : DkAt code pc [45]) : decode code pc = .ok (.aload_n 3, 1) := dk_of ((dk_bind (dk_u1 (h 0 _ rfl))).trans rfl)
theorem dk_46 {code : ByteArray} {pc : Nat} (h : DkAt code pc [46]) : decode code pc = .ok (.iaload, 1) := dk_of ((dk_bind (dk_u1 (h 0 _ rfl))).trans rfl)
theorem dk_47 {code : ByteArray} {pc : Nat} (h : DkAt code pc [47]) : decode code pc = .ok (.laload, 1) := dk_of ((dk_bind (dk_u1 (h 0 _ rfl))).trans rfl)
theorem dk_49 {code : ByteArray} {pc : Nat} (h : DkAt code pc [49]) : decode code pc = .ok (.daload, 1) := dk_of ((dk_bind (dk_u1 (h 0 _ rfl))).trans rfl)
theorem dk_50 {code : ByteArray} {pc : Nat} (h : DkAt code pc [50]) : decode code pc = .ok (.aaload, 1) := dk_of ((dk_bind (dk_u1 (h 0 _ rfl))).trans rfl)
theorem dk_51 {code : ByteArray} {pc : Nat} (h : DkAt code pc [51]) : decode code pc = .ok (.baload, 1) := dk_of ((dk_bind (dk_u1 (h 0 _ rfl))).trans rfl)
theorem dk_54 {code : ByteArray} {pc : Nat} (a : UInt8) (h : DkAt code pc [54, a]) : decode code pc = .ok (.istore a.toNat, 2) := dk_of ((dk_bind (dk_u1 (h 0 _ rfl))).trans ((dk_bind (dk_u1 (h 1 _ rfl))).trans rfl))
theorem dk_57 {code : ByteArray} {pc : Nat} (a : UInt8) (h : DkAt code pc [57, a]) : decode code pc = .ok (.dstore a.toNat, 2) := dk_of ((dk_bind (dk_u1 (h 0 _ rfl))).trans ((dk_bind (dk_u1 (h 1 _ rfl))).trans rfl))
theorem dk_58 {code : ByteArray} {pc : Nat} (a : UInt8) (h : DkAt code pc [58, a]) : decode code pc = .ok (.astore a.toNat, 2) := dk_of ((dk_bind (dk_u1 (h 0 _ rfl))).trans ((dk_bind (dk_u1 (h 1 _ rfl))).trans rfl))
theorem dk_59 {code : ByteArray} {pc : Nat} (h : DkAt code pc [59]) : decode code pc = .ok (.istore_n 0, 1) := dk_of ((dk_bind (dk_u1 (h 0 _ rfl))).trans rfl)
theorem dk_60 {code : ByteArray} {pc : Nat} (h : DkAt code pc [60]) : decode code pc = .ok (.istore_n 1, 1) := dk_of ((dk_bind (dk_u1 (h 0 _ rfl))).trans rfl)
theorem dk_61 {code : ByteArray} {pc : Nat} (h : DkAt code pc [61]) : decode code pc = .ok (.istore_n 2, 1) := dk_of ((dk_bind (dk_u1 (h 0 _ rfl))).trans rfl)
theorem dk_62 {code : ByteArray} {pc : Nat} (h : DkAt code pc [62]) : decode code pc = .ok (.istore_n 3, 1) := dk_of ((dk_bind (dk_u1 (h 0 _ rfl))).trans rfl)
theorem dk_76 {code : ByteArray} {pc : Nat} (h : DkAt code pc [76]) : decode code pc = .ok (.astore_n 1, 1) := dk_of ((dk_bind (dk_u1 (h 0 _ rfl))).trans rfl)
theorem dk_77 {code : ByteArray} {pc : Nat} (h : DkAt code pc [77]) : decode code pc = .ok (.astore_n 2, 1) := dk_of ((dk_bind (dk_u1 (h 0 _ rfl))).trans rfl)
theorem dk_78 {code : ByteArray} {pc : Nat} (h : DkAt code pc [78]) : decode code pc = .ok (.astore_n 3, 1) := dk_of ((dk_bind (dk_u1 (h 0 _ rfl))).trans rfl)
theorem dk_79 {code : ByteArray} {pc : Nat} (h : DkAt code pc [79]) : decode code pc = .ok (.iastore, 1) := dk_of ((dk_bind (dk_u1 (h 0 _ rfl))).trans rfl)
theorem dk_80 {code : ByteArray} {pc : Nat} (h : DkAt code pc [80]) : decode code pc = .ok (.lastore, 1) := dk_of ((dk_bind (dk_u1 (h 0 _ rfl))).trans rfl)
theorem dk_82 {code : ByteArray} {pc : Nat} (h : DkAt code pc [82]) : decode code pc = .ok (.dastore, 1) := dk_of ((dk_bind (dk_u1 (h 0 _ rfl))).trans rfl)
theorem dk_83 {code : ByteArray} {pc : Nat} (h : DkAt code pc [83]) : decode code pc = .ok (.aastore, 1) := dk_of ((dk_bind (dk_u1 (h 0 _ rfl))).trans rfl)
theorem dk_84 {code : ByteArray} {pc : Nat} (h : DkAt code pc [84]) : decode code pc = .ok (.bastore, 1) := dk_of ((dk_bind (dk_u1 (h 0 _ rfl))).trans rfl)
theorem dk_87 {code : ByteArray} {pc : Nat} (h : DkAt code pc [87]) : decode code pc = .ok (.pop, 1) := dk_of ((dk_bind (dk_u1 (h 0 _ rfl))).trans rfl)
theorem dk_89 {code : ByteArray} {pc : Nat} (h : DkAt code pc [89]) : decode code pc = .ok (.dup, 1) := dk_of ((dk_bind (dk_u1 (h 0 _ rfl))).trans rfl)
theorem dk_90 {code : ByteArray} {pc : Nat} (h : DkAt code pc [90]) : decode code pc = .ok (.dup_x1, 1) := dk_of ((dk_bind (dk_u1 (h 0 _ rfl))).trans rfl)
theorem dk_92 {code : ByteArray} {pc : Nat} (h : DkAt code pc [92]) : decode code pc = .ok (.dup2, 1) := dk_of ((dk_bind (dk_u1 (h 0 _ rfl))).trans rfl)
theorem dk_96 {code : ByteArray} {pc : Nat} (h : DkAt code pc [96]) : decode code pc = .ok (.iadd, 1) := dk_of ((dk_bind (dk_u1 (h 0 _ rfl))).trans rfl)
theorem dk_100 {code : ByteArray} {pc : Nat} (h : DkAt code pc [100]) : decode code pc = .ok (.isub, 1) := dk_of ((dk_bind (dk_u1 (h 0 _ rfl))).trans rfl)
theorem dk_101 {code : ByteArray} {pc : Nat} (h : DkAt code pc [101]) : decode code pc = .ok (.lsub, 1) := dk_of ((dk_bind (dk_u1 (h 0 _ rfl))).trans rfl)
theorem dk_104 {code : ByteArray} {pc : Nat} (h : DkAt code pc [104]) : decode code pc = .ok (.imul, 1) := dk_of ((dk_bind (dk_u1 (h 0 _ rfl))).trans rfl)
theorem dk_105 {code : ByteArray} {pc : Nat} (h : DkAt code pc [105]) : decode code pc = .ok (.lmul, 1) := dk_of ((dk_bind (dk_u1 (h 0 _ rfl))).trans rfl)
theorem dk_108 {code : ByteArray} {pc : Nat} (h : DkAt code pc [108]) : decode code pc = .ok (.idiv, 1) := dk_of ((dk_bind (dk_u1 (h 0 _ rfl))).trans rfl)
theorem dk_109 {code : ByteArray} {pc : Nat} (h : DkAt code pc [109]) : decode code pc = .ok (.ldiv, 1) := dk_of ((dk_bind (dk_u1 (h 0 _ rfl))).trans rfl)
theorem dk_110 {code : ByteArray} {pc : Nat} (h : DkAt code pc [110]) : decode code pc = .ok (.fdiv, 1) := dk_of ((dk_bind (dk_u1 (h 0 _ rfl))).trans rfl)
theorem dk_111 {code : ByteArray} {pc : Nat} (h : DkAt code pc [111]) : decode code pc = .ok (.ddiv, 1) := dk_of ((dk_bind (dk_u1 (h 0 _ rfl))).trans rfl)
theorem dk_112 {code : ByteArray} {pc : Nat} (h : DkAt code pc [112]) : decode code pc = .ok (.irem, 1) := dk_of ((dk_bind (dk_u1 (h 0 _ rfl))).trans rfl)
theorem dk_116 {code : ByteArray} {pc : Nat} (h : DkAt code pc [116]) : decode code pc = .ok (.ineg, 1) := dk_of ((dk_bind (dk_u1 (h 0 _ rfl))).trans rfl)
theorem dk_120 {code : ByteArray} {pc : Nat} (h : DkAt code pc [120]) : decode code pc = .ok (.ishl, 1) := dk_of ((dk_bind (dk_u1 (h 0 _ rfl))).trans rfl)
theorem dk_122 {code : ByteArray} {pc : Nat} (h : DkAt code pc [122]) : decode code pc = .ok (.ishr, 1) := dk_of ((dk_bind (dk_u1 (h 0 _ rfl))).trans rfl)
theorem dk_124 {code : ByteArray} {pc : Nat} (h : DkAt code pc [124]) : decode code pc = .ok (.iushr, 1) := dk_of ((dk_bind (dk_u1 (h 0 _ rfl))).trans rfl)
theorem dk_126 {code : ByteArray} {pc : Nat} (h : DkAt code pc [126]) : decode code pc = .ok (.iand, 1) := dk_of ((dk_bind (dk_u1 (h 0 _ rfl))).trans rfl)
theorem dk_128 {code : ByteArray} {pc : Nat} (h : DkAt code pc [128]) : decode code pc = .ok (.ior, 1) := dk_of ((dk_bind (dk_u1 (h 0 _ rfl))).trans rfl)
theorem dk_132 {code : ByteArray} {pc : Nat} (a b : UInt8) (h : DkAt code pc [132, a, b]) : decode code pc = .ok (.iinc a.toNat (Reader.signed 8 b.toNat), 3) := dk_of ((dk_bind (dk_u1 (h 0 _ rfl))).trans ((dk_bind (dk_u1 (h 1 _ rfl))).trans ((dk_bind (dk_map (dk_u1 (h 2 _ rfl)))).trans rfl)))
theorem dk_133 {code : ByteArray} {pc : Nat} (h : DkAt code pc [133]) : decode code pc = .ok (.i2l, 1) := dk_of ((dk_bind (dk_u1 (h 0 _ rfl))).trans rfl)
theorem dk_134 {code : ByteArray} {pc : Nat} (h : DkAt code pc [134]) : decode code pc = .ok (.i2f, 1) := dk_of ((dk_bind (dk_u1 (h 0 _ rfl))).trans rfl)
theorem dk_135 {code : ByteArray} {pc : Nat} (h : DkAt code pc [135]) : decode code pc = .ok (.i2d, 1) := dk_of ((dk_bind (dk_u1 (h 0 _ rfl))).trans rfl)
theorem dk_136 {code : ByteArray} {pc : Nat} (h : DkAt code pc [136]) : decode code pc = .ok (.l2i, 1) := dk_of ((dk_bind (dk_u1 (h 0 _ rfl))).trans rfl)
theorem dk_141 {code : ByteArray} {pc : Nat} (h : DkAt code pc [141]) : decode code pc = .ok (.f2d, 1) := dk_of ((dk_bind (dk_u1 (h 0 _ rfl))).trans rfl)
theorem dk_145 {code : ByteArray} {pc : Nat} (h : DkAt code pc [145]) : decode code pc = .ok (.i2b, 1) := dk_of ((dk_bind (dk_u1 (h 0 _ rfl))).trans rfl)
theorem dk_146 {code : ByteArray} {pc : Nat} (h : DkAt code pc [146]) : decode code pc = .ok (.i2c, 1) := dk_of ((dk_bind (dk_u1 (h 0 _ rfl))).trans rfl)
theorem dk_148 {code : ByteArray} {pc : Nat} (h : DkAt code pc [148]) : decode code pc = .ok (.lcmp, 1) := dk_of ((dk_bind (dk_u1 (h 0 _ rfl))).trans rfl)
theorem dk_151 {code : ByteArray} {pc : Nat} (h : DkAt code pc [151]) : decode code pc = .ok (.dcmp .l, 1) := dk_of ((dk_bind (dk_u1 (h 0 _ rfl))).trans rfl)
theorem dk_153 {code : ByteArray} {pc : Nat} (a b : UInt8) (h : DkAt code pc [153, a, b]) : decode code pc = .ok (.ifCond .eq (Reader.signed 16 (a.toNat * 256 + b.toNat)), 3) := dk_of ((dk_bind (dk_u1 (h 0 _ rfl))).trans ((dk_bind (dk_map (dk_u2 (h 1 _ rfl) (h 2 _ rfl)))).trans rfl))
theorem dk_154 {code : ByteArray} {pc : Nat} (a b : UInt8) (h : DkAt code pc [154, a, b]) : decode code pc = .ok (.ifCond .ne (Reader.signed 16 (a.toNat * 256 + b.toNat)), 3) := dk_of ((dk_bind (dk_u1 (h 0 _ rfl))).trans ((dk_bind (dk_map (dk_u2 (h 1 _ rfl) (h 2 _ rfl)))).trans rfl))
theorem dk_155 {code : ByteArray} {pc : Nat} (a b : UInt8) (h : DkAt code pc [155, a, b]) : decode code pc = .ok (.ifCond .lt (Reader.signed 16 (a.toNat * 256 + b.toNat)), 3) := dk_of ((dk_bind (dk_u1 (h 0 _ rfl))).trans ((dk_bind (dk_map (dk_u2 (h 1 _ rfl) (h 2 _ rfl)))).trans rfl))
theorem dk_156 {code : ByteArray} {pc : Nat} (a b : UInt8) (h : DkAt code pc [156, a, b]) : decode code pc = .ok (.ifCond .ge (Reader.signed 16 (a.toNat * 256 + b.toNat)), 3) := dk_of ((dk_bind (dk_u1 (h 0 _ rfl))).trans ((dk_bind (dk_map (dk_u2 (h 1 _ rfl) (h 2 _ rfl)))).trans rfl))
theorem dk_157 {code : ByteArray} {pc : Nat} (a b : UInt8) (h : DkAt code pc [157, a, b]) : decode code pc = .ok (.ifCond .gt (Reader.signed 16 (a.toNat * 256 + b.toNat)), 3) := dk_of ((dk_bind (dk_u1 (h 0 _ rfl))).trans ((dk_bind (dk_map (dk_u2 (h 1 _ rfl) (h 2 _ rfl)))).trans rfl))
theorem dk_158 {code : ByteArray} {pc : Nat} (a b : UInt8) (h : DkAt code pc [158, a, b]) : decode code pc = .ok (.ifCond .le (Reader.signed 16 (a.toNat * 256 + b.toNat)), 3) := dk_of ((dk_bind (dk_u1 (h 0 _ rfl))).trans ((dk_bind (dk_map (dk_u2 (h 1 _ rfl) (h 2 _ rfl)))).trans rfl))
theorem dk_159 {code : ByteArray} {pc : Nat} (a b : UInt8) (h : DkAt code pc [159, a, b]) : decode code pc = .ok (.if_icmp .eq (Reader.signed 16 (a.toNat * 256 + b.toNat)), 3) := dk_of ((dk_bind (dk_u1 (h 0 _ rfl))).trans ((dk_bind (dk_map (dk_u2 (h 1 _ rfl) (h 2 _ rfl)))).trans rfl))
theorem dk_160 {code : ByteArray} {pc : Nat} (a b : UInt8) (h : DkAt code pc [160, a, b]) : decode code pc = .ok (.if_icmp .ne (Reader.signed 16 (a.toNat * 256 + b.toNat)), 3) := dk_of ((dk_bind (dk_u1 (h 0 _ rfl))).trans ((dk_bind (dk_map (dk_u2 (h 1 _ rfl) (h 2 _ rfl)))).trans rfl))
theorem dk_161 {code : ByteArray} {pc : Nat} (a b : UInt8) (h : DkAt code pc [161, a, b]) : decode code pc = .ok (.if_icmp .lt (Reader.signed 16 (a.toNat * 256 + b.toNat)), 3) := dk_of ((dk_bind (dk_u1 (h 0 _ rfl))).trans ((dk_bind (dk_map (dk_u2 (h 1 _ rfl) (h 2 _ rfl)))).trans rfl))
theorem dk_162 {code : ByteArray} {pc : Nat} (a b : UInt8) (h : DkAt code pc [162, a, b]) : decode code pc = .ok (.if_icmp .ge (Reader.signed 16 (a.toNat * 256 + b.toNat)), 3) := dk_of ((dk_bind (dk_u1 (h 0 _ rfl))).trans ((dk_bind (dk_map (dk_u2 (h 1 _ rfl) (h 2 _ rfl)))).trans rfl))
theorem dk_163 {code : ByteArray} {pc : Nat} (a b : UInt8) (h : DkAt code pc [163, a, b]) : decode code pc = .ok (.if_icmp .gt (Reader.signed 16 (a.toNat * 256 + b.toNat)), 3) := dk_of ((dk_bind (dk_u1 (h 0 _ rfl))).trans ((dk_bind (dk_map (dk_u2 (h 1 _ rfl) (h 2 _ rfl)))).trans rfl))
theorem dk_164 {code : ByteArray} {pc : Nat} (a b : UInt8) (h : DkAt code pc [164, a, b]) : decode code pc = .ok (.if_icmp .le (Reader.signed 16 (a.toNat * 256 + b.toNat)), 3) := dk_of ((dk_bind (dk_u1 (h 0 _ rfl))).trans ((dk_bind (dk_map (dk_u2 (h 1 _ rfl) (h 2 _ rfl)))).trans rfl))
theorem dk_165 {code : ByteArray} {pc : Nat} (a b : UInt8) (h : DkAt code pc [165, a, b]) : decode code pc = .ok (.if_acmp .eq (Reader.signed 16 (a.toNat * 256 + b.toNat)), 3) := dk_of ((dk_bind (dk_u1 (h 0 _ rfl))).trans ((dk_bind (dk_map (dk_u2 (h 1 _ rfl) (h 2 _ rfl)))).trans rfl))
theorem dk_166 {code : ByteArray} {pc : Nat} (a b : UInt8) (h : DkAt code pc [166, a, b]) : decode code pc = .ok (.if_acmp .ne (Reader.signed 16 (a.toNat * 256 + b.toNat)), 3) := dk_of ((dk_bind (dk_u1 (h 0 _ rfl))).trans ((dk_bind (dk_map (dk_u2 (h 1 _ rfl) (h 2 _ rfl)))).trans rfl))
theorem dk_167 {code : ByteArray} {pc : Nat} (a b : UInt8) (h : DkAt code pc [167, a, b]) : decode code pc = .ok (.goto (Reader.signed 16 (a.toNat * 256 + b.toNat)), 3) := dk_of ((dk_bind (dk_u1 (h 0 _ rfl))).trans ((dk_bind (dk_map (dk_u2 (h 1 _ rfl) (h 2 _ rfl)))).trans rfl))
theorem dk_172 {code : ByteArray} {pc : Nat} (h : DkAt code pc [172]) : decode code pc = .ok (.ireturn, 1) := dk_of ((dk_bind (dk_u1 (h 0 _ rfl))).trans rfl)
theorem dk_174 {code : ByteArray} {pc : Nat} (h : DkAt code pc [174]) : decode code pc = .ok (.freturn, 1) := dk_of ((dk_bind (dk_u1 (h 0 _ rfl))).trans rfl)
theorem dk_175 {code : ByteArray} {pc : Nat} (h : DkAt code pc [175]) : decode code pc = .ok (.dreturn, 1) := dk_of ((dk_bind (dk_u1 (h 0 _ rfl))).trans rfl)
theorem dk_176 {code : ByteArray} {pc : Nat} (h : DkAt code pc [176]) : decode code pc = .ok (.areturn, 1) := dk_of ((dk_bind (dk_u1 (h 0 _ rfl))).trans rfl)
theorem dk_177 {code : ByteArray} {pc : Nat} (h : DkAt code pc [177]) : decode code pc = .ok (.return_, 1) := dk_of ((dk_bind (dk_u1 (h 0 _ rfl))).trans rfl)
theorem dk_178 {code : ByteArray} {pc : Nat} (a b : UInt8) (h : DkAt code pc [178, a, b]) : decode code pc = .ok (.getstatic (a.toNat * 256 + b.toNat), 3) := dk_of ((dk_bind (dk_u1 (h 0 _ rfl))).trans ((dk_bind (dk_u2 (h 1 _ rfl) (h 2 _ rfl))).trans rfl))
theorem dk_180 {code : ByteArray} {pc : Nat} (a b : UInt8) (h : DkAt code pc [180, a, b]) : decode code pc = .ok (.getfield (a.toNat * 256 + b.toNat), 3) := dk_of ((dk_bind (dk_u1 (h 0 _ rfl))).trans ((dk_bind (dk_u2 (h 1 _ rfl) (h 2 _ rfl))).trans rfl))
theorem dk_181 {code : ByteArray} {pc : Nat} (a b : UInt8) (h : DkAt code pc [181, a, b]) : decode code pc = .ok (.putfield (a.toNat * 256 + b.toNat), 3) := dk_of ((dk_bind (dk_u1 (h 0 _ rfl))).trans ((dk_bind (dk_u2 (h 1 _ rfl) (h 2 _ rfl))).trans rfl))
theorem dk_182 {code : ByteArray} {pc : Nat} (a b : UInt8) (h : DkAt code pc [182, a, b]) : decode code pc = .ok (.invokevirtual (a.toNat * 256 + b.toNat), 3) := dk_of ((dk_bind (dk_u1 (h 0 _ rfl))).trans ((dk_bind (dk_u2 (h 1 _ rfl) (h 2 _ rfl))).trans rfl))
theorem dk_183 {code : ByteArray} {pc : Nat} (a b : UInt8) (h : DkAt code pc [183, a, b]) : decode code pc = .ok (.invokespecial (a.toNat * 256 + b.toNat), 3) := dk_of ((dk_bind (dk_u1 (h 0 _ rfl))).trans ((dk_bind (dk_u2 (h 1 _ rfl) (h 2 _ rfl))).trans rfl))
theorem dk_184 {code : ByteArray} {pc : Nat} (a b : UInt8) (h : DkAt code pc [184, a, b]) : decode code pc = .ok (.invokestatic (a.toNat * 256 + b.toNat), 3) := dk_of ((dk_bind (dk_u1 (h 0 _ rfl))).trans ((dk_bind (dk_u2 (h 1 _ rfl) (h 2 _ rfl))).trans rfl))
theorem dk_187 {code : ByteArray} {pc : Nat} (a b : UInt8) (h : DkAt code pc [187, a, b]) : decode code pc = .ok (.new (a.toNat * 256 + b.toNat), 3) := dk_of ((dk_bind (dk_u1 (h 0 _ rfl))).trans ((dk_bind (dk_u2 (h 1 _ rfl) (h 2 _ rfl))).trans rfl))
theorem dk_188_4 {code : ByteArray} {pc : Nat} (h : DkAt code pc [188, 4]) : decode code pc = .ok (.newarray .boolean, 2) := dk_of ((dk_bind (dk_u1 (h 0 _ rfl))).trans ((dk_bind (dk_u1 (h 1 _ rfl))).trans rfl))
theorem dk_188_7 {code : ByteArray} {pc : Nat} (h : DkAt code pc [188, 7]) : decode code pc = .ok (.newarray .double, 2) := dk_of ((dk_bind (dk_u1 (h 0 _ rfl))).trans ((dk_bind (dk_u1 (h 1 _ rfl))).trans rfl))
theorem dk_188_8 {code : ByteArray} {pc : Nat} (h : DkAt code pc [188, 8]) : decode code pc = .ok (.newarray .byte, 2) := dk_of ((dk_bind (dk_u1 (h 0 _ rfl))).trans ((dk_bind (dk_u1 (h 1 _ rfl))).trans rfl))
theorem dk_188_10 {code : ByteArray} {pc : Nat} (h : DkAt code pc [188, 10]) : decode code pc = .ok (.newarray .int, 2) := dk_of ((dk_bind (dk_u1 (h 0 _ rfl))).trans ((dk_bind (dk_u1 (h 1 _ rfl))).trans rfl))
theorem dk_188_11 {code : ByteArray} {pc : Nat} (h : DkAt code pc [188, 11]) : decode code pc = .ok (.newarray .long, 2) := dk_of ((dk_bind (dk_u1 (h 0 _ rfl))).trans ((dk_bind (dk_u1 (h 1 _ rfl))).trans rfl))
theorem dk_189 {code : ByteArray} {pc : Nat} (a b : UInt8) (h : DkAt code pc [189, a, b]) : decode code pc = .ok (.anewarray (a.toNat * 256 + b.toNat), 3) := dk_of ((dk_bind (dk_u1 (h 0 _ rfl))).trans ((dk_bind (dk_u2 (h 1 _ rfl) (h 2 _ rfl))).trans rfl))
theorem dk_190 {code : ByteArray} {pc : Nat} (h : DkAt code pc [190]) : decode code pc = .ok (.arraylength, 1) := dk_of ((dk_bind (dk_u1 (h 0 _ rfl))).trans rfl)
theorem dk_191 {code : ByteArray} {pc : Nat} (h : DkAt code pc [191]) : decode code pc = .ok (.athrow, 1) := dk_of ((dk_bind (dk_u1 (h 0 _ rfl))).trans rfl)
theorem dk_192 {code : ByteArray} {pc : Nat} (a b : UInt8) (h : DkAt code pc [192, a, b]) : decode code pc = .ok (.checkcast (a.toNat * 256 + b.toNat), 3) := dk_of ((dk_bind (dk_u1 (h 0 _ rfl))).trans ((dk_bind (dk_u2 (h 1 _ rfl) (h 2 _ rfl))).trans rfl))
theorem dk_198 {code : ByteArray} {pc : Nat} (a b : UInt8) (h : DkAt code pc [198, a, b]) : decode code pc = .ok (.ifnull (Reader.signed 16 (a.toNat * 256 + b.toNat)), 3) := dk_of ((dk_bind (dk_u1 (h 0 _ rfl))).trans ((dk_bind (dk_map (dk_u2 (h 1 _ rfl) (h 2 _ rfl)))).trans rfl))
theorem dk_199 {code : ByteArray} {pc : Nat} (a b : UInt8) (h : DkAt code pc [199, a, b]) : decode code pc = .ok (.ifnonnull (Reader.signed 16 (a.toNat * 256 + b.toNat)), 3) := dk_of ((dk_bind (dk_u1 (h 0 _ rfl))).trans ((dk_bind (dk_map (dk_u2 (h 1 _ rfl) (h 2 _ rfl)))).trans rfl))
/-! java/util/AbstractCollection -/
set_option maxRecDepth 100000
def RJ0 : String := "java/util/AbstractCollection"
abbrev cJ0_init : ByteArray := prog_40_method_1_code
def yJ0_init : MethodName := ⟨RJ0, "<init>", "()V"⟩
theorem dJ0_init_0 : decode cJ0_init 0 = .ok (.aload_n 0, 1) := by decide +kernel
theorem dJ0_init_1 : decode cJ0_init 1 = .ok (.invokespecial 1, 3) := by decide +kernel
theorem dJ0_init_4 : decode cJ0_init 4 = .ok (.return_, 1) := by decide +kernel
theorem q115 : (Jvm.Cond.initialized "java/util/AbstractCollection") ∈ lw_all := lw_g (lw_at lw_m1 3 rfl) rfl
theorem q185 : (Jvm.Cond.instanceMethod ({ cls := "java/util/AbstractCollection", name := "<init>", desc := "()V" } : Jvm.MethodName)) ∈ lw_all := lw_g (lw_at lw_m1 73 rfl) rfl
theorem q186 : (Jvm.Cond.code ({ cls := "java/util/AbstractCollection", name := "<init>", desc := "()V" } : Jvm.MethodName) prog_40_method_1_code (1 : Nat) (Option.none : Option Jvm.ClassFile.FieldType)) ∈ lw_all := lw_g (lw_at lw_m1 74 rfl) rfl
theorem q187 : (Jvm.Cond.methodLink "java/util/AbstractCollection" (1 : Nat) ({ cls := "java/lang/Object", name := "<init>", desc := "()V" } : Jvm.MethodName)) ∈ lw_all := lw_g (lw_at lw_m1 75 rfl) rfl
/-! java/util/AbstractList -/
set_option maxRecDepth 100000
def RJ1 : String := "java/util/AbstractList"
abbrev cJ1_init : ByteArray := prog_41_method_1_code
def yJ1_init : MethodName := ⟨RJ1, "<init>", "()V"⟩
def dkwJ1_init_0 : List UInt8 := [42, 183, 0, 1, 42, 3, 181, 0, 7, 177]
abbrev dktJ1_init_0 : List UInt8 := dkwJ1_init_0 ++ []
theorem dksJ1_init_0 : cJ1_init.data.toList.drop 0 = dktJ1_init_0 := by decide +kernel
theorem dJ1_init_0 : decode cJ1_init 0 = .ok (.aload_n 0, 1) := dk_42 (dk_at dksJ1_init_0 0 rfl rfl)
theorem dJ1_init_1 : decode cJ1_init 1 = .ok (.invokespecial 1, 3) := dk_183 0 1 (dk_at dksJ1_init_0 1 rfl rfl)
theorem dJ1_init_4 : decode cJ1_init 4 = .ok (.aload_n 0, 1) := dk_42 (dk_at dksJ1_init_0 4 rfl rfl)
theorem dJ1_init_5 : decode cJ1_init 5 = .ok (.iconst 0, 1) := dk_3 (dk_at dksJ1_init_0 5 rfl rfl)
theorem dJ1_init_6 : decode cJ1_init 6 = .ok (.putfield 7, 3) := dk_181 0 7 (dk_at dksJ1_init_0 6 rfl rfl)
theorem dJ1_init_9 : decode cJ1_init 9 = .ok (.return_, 1) := dk_177 (dk_at dksJ1_init_0 9 rfl rfl)
theorem q116 : (Jvm.Cond.initialized "java/util/AbstractList") ∈ lw_all := lw_g (lw_at lw_m1 4 rfl) rfl
theorem q182 : (Jvm.Cond.instanceMethod ({ cls := "java/util/AbstractList", name := "<init>", desc := "()V" } : Jvm.MethodName)) ∈ lw_all := lw_g (lw_at lw_m1 70 rfl) rfl
theorem q183 : (Jvm.Cond.code ({ cls := "java/util/AbstractList", name := "<init>", desc := "()V" } : Jvm.MethodName) prog_41_method_1_code (1 : Nat) (Option.none : Option Jvm.ClassFile.FieldType)) ∈ lw_all := lw_g (lw_at lw_m1 71 rfl) rfl
theorem q184 : (Jvm.Cond.methodLink "java/util/AbstractList" (1 : Nat) ({ cls := "java/util/AbstractCollection", name := "<init>", desc := "()V" } : Jvm.MethodName)) ∈ lw_all := lw_g (lw_at lw_m1 72 rfl) rfl
theorem q194 : (Jvm.Cond.fieldLink "java/util/AbstractList" (7 : Nat) "java/util/AbstractList" "modCount" "I") ∈ lw_all := lw_g (lw_at lw_m1 82 rfl) rfl
theorem q203 : (Jvm.Cond.soleField "java/util/AbstractList" "modCount") ∈ lw_all := lw_g (lw_at lw_m1 91 rfl) rfl
/-! java/util/ArrayList -/
set_option maxRecDepth 100000
def RJ2 : String := "java/util/ArrayList"
def TJ2 : u_T := fun k => match k with
  | 0 => ("java/util/AbstractList", "modCount", "I", false)
  | 1 => ("java/util/ArrayList", "elementData", "[Ljava/lang/Object;", false)
  | _ => ("java/util/ArrayList", "size", "I", false)
def tyJ2 : Nat → FieldType := fun k => match k with
  | 0 => .int
  | 1 => .array (.object "java/lang/Object")
  | _ => .int
abbrev wsJ20 : List Cond := u_ws RJ2 TJ2 3
theorem nmJ2 : ∀ a, a < 3 → ∀ b, b < 3 → a ≠ b → (TJ2 a).2.1 ≠ (TJ2 b).2.1 := by decide +kernel
theorem tyJ2_ok : ∀ k, k < 3 → parseFieldDescriptor (TJ2 k).2.2.1 = some (tyJ2 k) := by decide +kernel
abbrev cJ2_init : ByteArray := prog_43_method_2_code
def yJ2_init : MethodName := ⟨RJ2, "<init>", "()V"⟩
def dkwJ2_init_0 : List UInt8 := [42, 183, 0, 1, 42, 178, 0, 39, 181, 0, 9, 177]
abbrev dktJ2_init_0 : List UInt8 := dkwJ2_init_0 ++ []
theorem dksJ2_init_0 : cJ2_init.data.toList.drop 0 = dktJ2_init_0 := by decide +kernel
theorem dJ2_init_0 : decode cJ2_init 0 = .ok (.aload_n 0, 1) := dk_42 (dk_at dksJ2_init_0 0 rfl rfl)
theorem dJ2_init_1 : decode cJ2_init 1 = .ok (.invokespecial 1, 3) := dk_183 0 1 (dk_at dksJ2_init_0 1 rfl rfl)
theorem dJ2_init_4 : decode cJ2_init 4 = .ok (.aload_n 0, 1) := dk_42 (dk_at dksJ2_init_0 4 rfl rfl)
theorem dJ2_init_5 : decode cJ2_init 5 = .ok (.getstatic 39, 3) := dk_178 0 39 (dk_at dksJ2_init_0 5 rfl rfl)
theorem dJ2_init_8 : decode cJ2_init 8 = .ok (.putfield 9, 3) := dk_181 0 9 (dk_at dksJ2_init_0 8 rfl rfl)
theorem dJ2_init_11 : decode cJ2_init 11 = .ok (.return_, 1) := dk_177 (dk_at dksJ2_init_0 11 rfl rfl)
abbrev cJ2_init_2 : ByteArray := prog_43_method_1_code
def yJ2_init_2 : MethodName := ⟨RJ2, "<init>", "(I)V"⟩
def dkwJ2_init_2_2 : List UInt8 := [182, 0, 25, 27, 182, 0, 29, 182, 0, 32, 183, 0, 36, 191, 177]
abbrev dktJ2_init_2_2 : List UInt8 := dkwJ2_init_2_2 ++ []
def dkwJ2_init_2_1 : List UInt8 := [178, 0, 15, 181, 0, 9, 167, 0, 30, 187, 0, 18, 89, 187, 0, 20, 89, 183, 0, 22, 18, 23]
abbrev dktJ2_init_2_1 : List UInt8 := dkwJ2_init_2_1 ++ dktJ2_init_2_2
def dkwJ2_init_2_0 : List UInt8 := [42, 183, 0, 1, 27, 158, 0, 14, 42, 27, 189, 0, 7, 181, 0, 9, 167, 0, 44, 27, 154, 0, 13, 42]
abbrev dktJ2_init_2_0 : List UInt8 := dkwJ2_init_2_0 ++ dktJ2_init_2_1
theorem dksJ2_init_2_0 : cJ2_init_2.data.toList.drop 0 = dktJ2_init_2_0 := by decide +kernel
theorem dksJ2_init_2_1 : cJ2_init_2.data.toList.drop 24 = dktJ2_init_2_1 := dk_seg dksJ2_init_2_0 24 rfl rfl
theorem dksJ2_init_2_2 : cJ2_init_2.data.toList.drop 46 = dktJ2_init_2_2 := dk_seg dksJ2_init_2_1 22 rfl rfl
theorem dJ2_init_2_0 : decode cJ2_init_2 0 = .ok (.aload_n 0, 1) := dk_42 (dk_at dksJ2_init_2_0 0 rfl rfl)
theorem dJ2_init_2_1 : decode cJ2_init_2 1 = .ok (.invokespecial 1, 3) := dk_183 0 1 (dk_at dksJ2_init_2_0 1 rfl rfl)
theorem dJ2_init_2_4 : decode cJ2_init_2 4 = .ok (.iload_n 1, 1) := dk_27 (dk_at dksJ2_init_2_0 4 rfl rfl)
theorem dJ2_init_2_5 : decode cJ2_init_2 5 = .ok (.ifCond .le 14, 3) := dk_158 0 14 (dk_at dksJ2_init_2_0 5 rfl rfl)
theorem dJ2_init_2_8 : decode cJ2_init_2 8 = .ok (.aload_n 0, 1) := dk_42 (dk_at dksJ2_init_2_0 8 rfl rfl)
theorem dJ2_init_2_9 : decode cJ2_init_2 9 = .ok (.iload_n 1, 1) := dk_27 (dk_at dksJ2_init_2_0 9 rfl rfl)
theorem dJ2_init_2_10 : decode cJ2_init_2 10 = .ok (.anewarray 7, 3) := dk_189 0 7 (dk_at dksJ2_init_2_0 10 rfl rfl)
theorem dJ2_init_2_13 : decode cJ2_init_2 13 = .ok (.putfield 9, 3) := dk_181 0 9 (dk_at dksJ2_init_2_0 13 rfl rfl)
theorem dJ2_init_2_16 : decode cJ2_init_2 16 = .ok (.goto 44, 3) := dk_167 0 44 (dk_at dksJ2_init_2_0 16 rfl rfl)
theorem dJ2_init_2_19 : decode cJ2_init_2 19 = .ok (.iload_n 1, 1) := dk_27 (dk_at dksJ2_init_2_0 19 rfl rfl)
theorem dJ2_init_2_20 : decode cJ2_init_2 20 = .ok (.ifCond .ne 13, 3) := dk_154 0 13 (dk_at dksJ2_init_2_0 20 rfl rfl)
theorem dJ2_init_2_23 : decode cJ2_init_2 23 = .ok (.aload_n 0, 1) := dk_42 (dk_at dksJ2_init_2_0 23 rfl rfl)
theorem dJ2_init_2_24 : decode cJ2_init_2 24 = .ok (.getstatic 15, 3) := dk_178 0 15 (dk_at dksJ2_init_2_1 0 rfl rfl)
theorem dJ2_init_2_27 : decode cJ2_init_2 27 = .ok (.putfield 9, 3) := dk_181 0 9 (dk_at dksJ2_init_2_1 3 rfl rfl)
theorem dJ2_init_2_30 : decode cJ2_init_2 30 = .ok (.goto 30, 3) := dk_167 0 30 (dk_at dksJ2_init_2_1 6 rfl rfl)
theorem dJ2_init_2_33 : decode cJ2_init_2 33 = .ok (.new 18, 3) := dk_187 0 18 (dk_at dksJ2_init_2_1 9 rfl rfl)
theorem dJ2_init_2_36 : decode cJ2_init_2 36 = .ok (.dup, 1) := dk_89 (dk_at dksJ2_init_2_1 12 rfl rfl)
theorem dJ2_init_2_37 : decode cJ2_init_2 37 = .ok (.new 20, 3) := dk_187 0 20 (dk_at dksJ2_init_2_1 13 rfl rfl)
theorem dJ2_init_2_40 : decode cJ2_init_2 40 = .ok (.dup, 1) := dk_89 (dk_at dksJ2_init_2_1 16 rfl rfl)
theorem dJ2_init_2_41 : decode cJ2_init_2 41 = .ok (.invokespecial 22, 3) := dk_183 0 22 (dk_at dksJ2_init_2_1 17 rfl rfl)
theorem dJ2_init_2_44 : decode cJ2_init_2 44 = .ok (.ldc 23, 2) := dk_18 23 (dk_at dksJ2_init_2_1 20 rfl rfl)
theorem dJ2_init_2_46 : decode cJ2_init_2 46 = .ok (.invokevirtual 25, 3) := dk_182 0 25 (dk_at dksJ2_init_2_2 0 rfl rfl)
theorem dJ2_init_2_49 : decode cJ2_init_2 49 = .ok (.iload_n 1, 1) := dk_27 (dk_at dksJ2_init_2_2 3 rfl rfl)
theorem dJ2_init_2_50 : decode cJ2_init_2 50 = .ok (.invokevirtual 29, 3) := dk_182 0 29 (dk_at dksJ2_init_2_2 4 rfl rfl)
theorem dJ2_init_2_53 : decode cJ2_init_2 53 = .ok (.invokevirtual 32, 3) := dk_182 0 32 (dk_at dksJ2_init_2_2 7 rfl rfl)
theorem dJ2_init_2_56 : decode cJ2_init_2 56 = .ok (.invokespecial 36, 3) := dk_183 0 36 (dk_at dksJ2_init_2_2 10 rfl rfl)
theorem dJ2_init_2_59 : decode cJ2_init_2 59 = .ok (.athrow, 1) := dk_191 (dk_at dksJ2_init_2_2 13 rfl rfl)
theorem dJ2_init_2_60 : decode cJ2_init_2 60 = .ok (.return_, 1) := dk_177 (dk_at dksJ2_init_2_2 14 rfl rfl)
abbrev cJ2_size : ByteArray := prog_43_method_8_code
def yJ2_size : MethodName := ⟨RJ2, "size", "()I"⟩
theorem dJ2_size_0 : decode cJ2_size 0 = .ok (.aload_n 0, 1) := by decide +kernel
theorem dJ2_size_1 : decode cJ2_size 1 = .ok (.getfield 48, 3) := by decide +kernel
theorem dJ2_size_4 : decode cJ2_size 4 = .ok (.ireturn, 1) := by decide +kernel
abbrev cJ2_get : ByteArray := prog_43_method_20_code
def yJ2_get : MethodName := ⟨RJ2, "get", "(I)Ljava/lang/Object;"⟩
def dkwJ2_get_0 : List UInt8 := [27, 42, 180, 0, 48, 184, 0, 118, 87, 42, 27, 182, 0, 123, 176]
abbrev dktJ2_get_0 : List UInt8 := dkwJ2_get_0 ++ []
theorem dksJ2_get_0 : cJ2_get.data.toList.drop 0 = dktJ2_get_0 := by decide +kernel
theorem dJ2_get_0 : decode cJ2_get 0 = .ok (.iload_n 1, 1) := dk_27 (dk_at dksJ2_get_0 0 rfl rfl)
theorem dJ2_get_1 : decode cJ2_get 1 = .ok (.aload_n 0, 1) := dk_42 (dk_at dksJ2_get_0 1 rfl rfl)
theorem dJ2_get_2 : decode cJ2_get 2 = .ok (.getfield 48, 3) := dk_180 0 48 (dk_at dksJ2_get_0 2 rfl rfl)
theorem dJ2_get_5 : decode cJ2_get 5 = .ok (.invokestatic 118, 3) := dk_184 0 118 (dk_at dksJ2_get_0 5 rfl rfl)
theorem dJ2_get_8 : decode cJ2_get 8 = .ok (.pop, 1) := dk_87 (dk_at dksJ2_get_0 8 rfl rfl)
theorem dJ2_get_9 : decode cJ2_get 9 = .ok (.aload_n 0, 1) := dk_42 (dk_at dksJ2_get_0 9 rfl rfl)
theorem dJ2_get_10 : decode cJ2_get 10 = .ok (.iload_n 1, 1) := dk_27 (dk_at dksJ2_get_0 10 rfl rfl)
theorem dJ2_get_11 : decode cJ2_get 11 = .ok (.invokevirtual 123, 3) := dk_182 0 123 (dk_at dksJ2_get_0 11 rfl rfl)
theorem dJ2_get_14 : decode cJ2_get 14 = .ok (.areturn, 1) := dk_176 (dk_at dksJ2_get_0 14 rfl rfl)
abbrev cJ2_elementData : ByteArray := prog_43_method_18_code
def yJ2_elementData : MethodName := ⟨RJ2, "elementData", "(I)Ljava/lang/Object;"⟩
def dkwJ2_elementData_0 : List UInt8 := [42, 180, 0, 9, 27, 50, 176]
abbrev dktJ2_elementData_0 : List UInt8 := dkwJ2_elementData_0 ++ []
theorem dksJ2_elementData_0 : cJ2_elementData.data.toList.drop 0 = dktJ2_elementData_0 := by decide +kernel
theorem dJ2_elementData_0 : decode cJ2_elementData 0 = .ok (.aload_n 0, 1) := dk_42 (dk_at dksJ2_elementData_0 0 rfl rfl)
theorem dJ2_elementData_1 : decode cJ2_elementData 1 = .ok (.getfield 9, 3) := dk_180 0 9 (dk_at dksJ2_elementData_0 1 rfl rfl)
theorem dJ2_elementData_4 : decode cJ2_elementData 4 = .ok (.iload_n 1, 1) := dk_27 (dk_at dksJ2_elementData_0 4 rfl rfl)
theorem dJ2_elementData_5 : decode cJ2_elementData 5 = .ok (.aaload, 1) := dk_50 (dk_at dksJ2_elementData_0 5 rfl rfl)
theorem dJ2_elementData_6 : decode cJ2_elementData 6 = .ok (.areturn, 1) := dk_176 (dk_at dksJ2_elementData_0 6 rfl rfl)
abbrev cJ2_add : ByteArray := prog_43_method_25_code
def yJ2_add : MethodName := ⟨RJ2, "add", "(Ljava/lang/Object;)Z"⟩
def dkwJ2_add_1 : List UInt8 := [172]
abbrev dktJ2_add_1 : List UInt8 := dkwJ2_add_1 ++ []
def dkwJ2_add_0 : List UInt8 := [42, 89, 180, 0, 63, 4, 96, 181, 0, 63, 42, 43, 42, 180, 0, 9, 42, 180, 0, 48, 182, 0, 131, 4]
abbrev dktJ2_add_0 : List UInt8 := dkwJ2_add_0 ++ dktJ2_add_1
theorem dksJ2_add_0 : cJ2_add.data.toList.drop 0 = dktJ2_add_0 := by decide +kernel
theorem dksJ2_add_1 : cJ2_add.data.toList.drop 24 = dktJ2_add_1 := dk_seg dksJ2_add_0 24 rfl rfl
theorem dJ2_add_0 : decode cJ2_add 0 = .ok (.aload_n 0, 1) := dk_42 (dk_at dksJ2_add_0 0 rfl rfl)
theorem dJ2_add_1 : decode cJ2_add 1 = .ok (.dup, 1) := dk_89 (dk_at dksJ2_add_0 1 rfl rfl)
theorem dJ2_add_2 : decode cJ2_add 2 = .ok (.getfield 63, 3) := dk_180 0 63 (dk_at dksJ2_add_0 2 rfl rfl)
theorem dJ2_add_5 : decode cJ2_add 5 = .ok (.iconst 1, 1) := dk_4 (dk_at dksJ2_add_0 5 rfl rfl)
theorem dJ2_add_6 : decode cJ2_add 6 = .ok (.iadd, 1) := dk_96 (dk_at dksJ2_add_0 6 rfl rfl)
theorem dJ2_add_7 : decode cJ2_add 7 = .ok (.putfield 63, 3) := dk_181 0 63 (dk_at dksJ2_add_0 7 rfl rfl)
theorem dJ2_add_10 : decode cJ2_add 10 = .ok (.aload_n 0, 1) := dk_42 (dk_at dksJ2_add_0 10 rfl rfl)
theorem dJ2_add_11 : decode cJ2_add 11 = .ok (.aload_n 1, 1) := dk_43 (dk_at dksJ2_add_0 11 rfl rfl)
theorem dJ2_add_12 : decode cJ2_add 12 = .ok (.aload_n 0, 1) := dk_42 (dk_at dksJ2_add_0 12 rfl rfl)
theorem dJ2_add_13 : decode cJ2_add 13 = .ok (.getfield 9, 3) := dk_180 0 9 (dk_at dksJ2_add_0 13 rfl rfl)
theorem dJ2_add_16 : decode cJ2_add 16 = .ok (.aload_n 0, 1) := dk_42 (dk_at dksJ2_add_0 16 rfl rfl)
theorem dJ2_add_17 : decode cJ2_add 17 = .ok (.getfield 48, 3) := dk_180 0 48 (dk_at dksJ2_add_0 17 rfl rfl)
theorem dJ2_add_20 : decode cJ2_add 20 = .ok (.invokevirtual 131, 3) := dk_182 0 131 (dk_at dksJ2_add_0 20 rfl rfl)
theorem dJ2_add_23 : decode cJ2_add 23 = .ok (.iconst 1, 1) := dk_4 (dk_at dksJ2_add_0 23 rfl rfl)
theorem dJ2_add_24 : decode cJ2_add 24 = .ok (.ireturn, 1) := dk_172 (dk_at dksJ2_add_1 0 rfl rfl)
abbrev cJ2_add_2 : ByteArray := prog_43_method_24_code
def yJ2_add_2 : MethodName := ⟨RJ2, "add", "(Ljava/lang/Object;[Ljava/lang/Object;I)V"⟩
def dkwJ2_add_2_0 : List UInt8 := [29, 44, 190, 160, 0, 8, 42, 182, 0, 129, 77, 44, 29, 43, 83, 42, 29, 4, 96, 181, 0, 48, 177]
abbrev dktJ2_add_2_0 : List UInt8 := dkwJ2_add_2_0 ++ []
theorem dksJ2_add_2_0 : cJ2_add_2.data.toList.drop 0 = dktJ2_add_2_0 := by decide +kernel
theorem dJ2_add_2_0 : decode cJ2_add_2 0 = .ok (.iload_n 3, 1) := dk_29 (dk_at dksJ2_add_2_0 0 rfl rfl)
theorem dJ2_add_2_1 : decode cJ2_add_2 1 = .ok (.aload_n 2, 1) := dk_44 (dk_at dksJ2_add_2_0 1 rfl rfl)
theorem dJ2_add_2_2 : decode cJ2_add_2 2 = .ok (.arraylength, 1) := dk_190 (dk_at dksJ2_add_2_0 2 rfl rfl)
theorem dJ2_add_2_3 : decode cJ2_add_2 3 = .ok (.if_icmp .ne 8, 3) := dk_160 0 8 (dk_at dksJ2_add_2_0 3 rfl rfl)
theorem dJ2_add_2_6 : decode cJ2_add_2 6 = .ok (.aload_n 0, 1) := dk_42 (dk_at dksJ2_add_2_0 6 rfl rfl)
theorem dJ2_add_2_7 : decode cJ2_add_2 7 = .ok (.invokevirtual 129, 3) := dk_182 0 129 (dk_at dksJ2_add_2_0 7 rfl rfl)
theorem dJ2_add_2_10 : decode cJ2_add_2 10 = .ok (.astore_n 2, 1) := dk_77 (dk_at dksJ2_add_2_0 10 rfl rfl)
theorem dJ2_add_2_11 : decode cJ2_add_2 11 = .ok (.aload_n 2, 1) := dk_44 (dk_at dksJ2_add_2_0 11 rfl rfl)
theorem dJ2_add_2_12 : decode cJ2_add_2 12 = .ok (.iload_n 3, 1) := dk_29 (dk_at dksJ2_add_2_0 12 rfl rfl)
theorem dJ2_add_2_13 : decode cJ2_add_2 13 = .ok (.aload_n 1, 1) := dk_43 (dk_at dksJ2_add_2_0 13 rfl rfl)
theorem dJ2_add_2_14 : decode cJ2_add_2 14 = .ok (.aastore, 1) := dk_83 (dk_at dksJ2_add_2_0 14 rfl rfl)
theorem dJ2_add_2_15 : decode cJ2_add_2 15 = .ok (.aload_n 0, 1) := dk_42 (dk_at dksJ2_add_2_0 15 rfl rfl)
theorem dJ2_add_2_16 : decode cJ2_add_2 16 = .ok (.iload_n 3, 1) := dk_29 (dk_at dksJ2_add_2_0 16 rfl rfl)
theorem dJ2_add_2_17 : decode cJ2_add_2 17 = .ok (.iconst 1, 1) := dk_4 (dk_at dksJ2_add_2_0 17 rfl rfl)
theorem dJ2_add_2_18 : decode cJ2_add_2 18 = .ok (.iadd, 1) := dk_96 (dk_at dksJ2_add_2_0 18 rfl rfl)
theorem dJ2_add_2_19 : decode cJ2_add_2 19 = .ok (.putfield 48, 3) := dk_181 0 48 (dk_at dksJ2_add_2_0 19 rfl rfl)
theorem dJ2_add_2_22 : decode cJ2_add_2 22 = .ok (.return_, 1) := dk_177 (dk_at dksJ2_add_2_0 22 rfl rfl)
abbrev cJ2_grow : ByteArray := prog_43_method_7_code
def yJ2_grow : MethodName := ⟨RJ2, "grow", "()[Ljava/lang/Object;"⟩
def dkwJ2_grow_0 : List UInt8 := [42, 42, 180, 0, 48, 4, 96, 182, 0, 69, 176]
abbrev dktJ2_grow_0 : List UInt8 := dkwJ2_grow_0 ++ []
theorem dksJ2_grow_0 : cJ2_grow.data.toList.drop 0 = dktJ2_grow_0 := by decide +kernel
theorem dJ2_grow_0 : decode cJ2_grow 0 = .ok (.aload_n 0, 1) := dk_42 (dk_at dksJ2_grow_0 0 rfl rfl)
theorem dJ2_grow_1 : decode cJ2_grow 1 = .ok (.aload_n 0, 1) := dk_42 (dk_at dksJ2_grow_0 1 rfl rfl)
theorem dJ2_grow_2 : decode cJ2_grow 2 = .ok (.getfield 48, 3) := dk_180 0 48 (dk_at dksJ2_grow_0 2 rfl rfl)
theorem dJ2_grow_5 : decode cJ2_grow 5 = .ok (.iconst 1, 1) := dk_4 (dk_at dksJ2_grow_0 5 rfl rfl)
theorem dJ2_grow_6 : decode cJ2_grow 6 = .ok (.iadd, 1) := dk_96 (dk_at dksJ2_grow_0 6 rfl rfl)
theorem dJ2_grow_7 : decode cJ2_grow 7 = .ok (.invokevirtual 69, 3) := dk_182 0 69 (dk_at dksJ2_grow_0 7 rfl rfl)
theorem dJ2_grow_10 : decode cJ2_grow 10 = .ok (.areturn, 1) := dk_176 (dk_at dksJ2_grow_0 10 rfl rfl)
abbrev cJ2_grow_2 : ByteArray := prog_43_method_6_code
def yJ2_grow_2 : MethodName := ⟨RJ2, "grow", "(I)[Ljava/lang/Object;"⟩
def dkwJ2_grow_2_2 : List UInt8 := [27, 184, 0, 79, 189, 0, 7, 90, 181, 0, 9, 176]
abbrev dktJ2_grow_2_2 : List UInt8 := dkwJ2_grow_2_2 ++ []
def dkwJ2_grow_2_1 : List UInt8 := [28, 4, 122, 184, 0, 73, 62, 42, 42, 180, 0, 9, 29, 184, 0, 66, 90, 181, 0, 9, 176, 42, 16, 10]
abbrev dktJ2_grow_2_1 : List UInt8 := dkwJ2_grow_2_1 ++ dktJ2_grow_2_2
def dkwJ2_grow_2_0 : List UInt8 := [42, 180, 0, 9, 190, 61, 28, 157, 0, 13, 42, 180, 0, 9, 178, 0, 39, 165, 0, 28, 28, 27, 28, 100]
abbrev dktJ2_grow_2_0 : List UInt8 := dkwJ2_grow_2_0 ++ dktJ2_grow_2_1
theorem dksJ2_grow_2_0 : cJ2_grow_2.data.toList.drop 0 = dktJ2_grow_2_0 := by decide +kernel
theorem dksJ2_grow_2_1 : cJ2_grow_2.data.toList.drop 24 = dktJ2_grow_2_1 := dk_seg dksJ2_grow_2_0 24 rfl rfl
theorem dksJ2_grow_2_2 : cJ2_grow_2.data.toList.drop 48 = dktJ2_grow_2_2 := dk_seg dksJ2_grow_2_1 24 rfl rfl
theorem dJ2_grow_2_0 : decode cJ2_grow_2 0 = .ok (.aload_n 0, 1) := dk_42 (dk_at dksJ2_grow_2_0 0 rfl rfl)
theorem dJ2_grow_2_1 : decode cJ2_grow_2 1 = .ok (.getfield 9, 3) := dk_180 0 9 (dk_at dksJ2_grow_2_0 1 rfl rfl)
theorem dJ2_grow_2_4 : decode cJ2_grow_2 4 = .ok (.arraylength, 1) := dk_190 (dk_at dksJ2_grow_2_0 4 rfl rfl)
theorem dJ2_grow_2_5 : decode cJ2_grow_2 5 = .ok (.istore_n 2, 1) := dk_61 (dk_at dksJ2_grow_2_0 5 rfl rfl)
theorem dJ2_grow_2_6 : decode cJ2_grow_2 6 = .ok (.iload_n 2, 1) := dk_28 (dk_at dksJ2_grow_2_0 6 rfl rfl)
theorem dJ2_grow_2_7 : decode cJ2_grow_2 7 = .ok (.ifCond .gt 13, 3) := dk_157 0 13 (dk_at dksJ2_grow_2_0 7 rfl rfl)
theorem dJ2_grow_2_10 : decode cJ2_grow_2 10 = .ok (.aload_n 0, 1) := dk_42 (dk_at dksJ2_grow_2_0 10 rfl rfl)
theorem dJ2_grow_2_11 : decode cJ2_grow_2 11 = .ok (.getfield 9, 3) := dk_180 0 9 (dk_at dksJ2_grow_2_0 11 rfl rfl)
theorem dJ2_grow_2_14 : decode cJ2_grow_2 14 = .ok (.getstatic 39, 3) := dk_178 0 39 (dk_at dksJ2_grow_2_0 14 rfl rfl)
theorem dJ2_grow_2_17 : decode cJ2_grow_2 17 = .ok (.if_acmp .eq 28, 3) := dk_165 0 28 (dk_at dksJ2_grow_2_0 17 rfl rfl)
theorem dJ2_grow_2_20 : decode cJ2_grow_2 20 = .ok (.iload_n 2, 1) := dk_28 (dk_at dksJ2_grow_2_0 20 rfl rfl)
theorem dJ2_grow_2_21 : decode cJ2_grow_2 21 = .ok (.iload_n 1, 1) := dk_27 (dk_at dksJ2_grow_2_0 21 rfl rfl)
theorem dJ2_grow_2_22 : decode cJ2_grow_2 22 = .ok (.iload_n 2, 1) := dk_28 (dk_at dksJ2_grow_2_0 22 rfl rfl)
theorem dJ2_grow_2_23 : decode cJ2_grow_2 23 = .ok (.isub, 1) := dk_100 (dk_at dksJ2_grow_2_0 23 rfl rfl)
theorem dJ2_grow_2_24 : decode cJ2_grow_2 24 = .ok (.iload_n 2, 1) := dk_28 (dk_at dksJ2_grow_2_1 0 rfl rfl)
theorem dJ2_grow_2_25 : decode cJ2_grow_2 25 = .ok (.iconst 1, 1) := dk_4 (dk_at dksJ2_grow_2_1 1 rfl rfl)
theorem dJ2_grow_2_26 : decode cJ2_grow_2 26 = .ok (.ishr, 1) := dk_122 (dk_at dksJ2_grow_2_1 2 rfl rfl)
theorem dJ2_grow_2_27 : decode cJ2_grow_2 27 = .ok (.invokestatic 73, 3) := dk_184 0 73 (dk_at dksJ2_grow_2_1 3 rfl rfl)
theorem dJ2_grow_2_30 : decode cJ2_grow_2 30 = .ok (.istore_n 3, 1) := dk_62 (dk_at dksJ2_grow_2_1 6 rfl rfl)
theorem dJ2_grow_2_31 : decode cJ2_grow_2 31 = .ok (.aload_n 0, 1) := dk_42 (dk_at dksJ2_grow_2_1 7 rfl rfl)
theorem dJ2_grow_2_32 : decode cJ2_grow_2 32 = .ok (.aload_n 0, 1) := dk_42 (dk_at dksJ2_grow_2_1 8 rfl rfl)
theorem dJ2_grow_2_33 : decode cJ2_grow_2 33 = .ok (.getfield 9, 3) := dk_180 0 9 (dk_at dksJ2_grow_2_1 9 rfl rfl)
theorem dJ2_grow_2_36 : decode cJ2_grow_2 36 = .ok (.iload_n 3, 1) := dk_29 (dk_at dksJ2_grow_2_1 12 rfl rfl)
theorem dJ2_grow_2_37 : decode cJ2_grow_2 37 = .ok (.invokestatic 66, 3) := dk_184 0 66 (dk_at dksJ2_grow_2_1 13 rfl rfl)
theorem dJ2_grow_2_40 : decode cJ2_grow_2 40 = .ok (.dup_x1, 1) := dk_90 (dk_at dksJ2_grow_2_1 16 rfl rfl)
theorem dJ2_grow_2_41 : decode cJ2_grow_2 41 = .ok (.putfield 9, 3) := dk_181 0 9 (dk_at dksJ2_grow_2_1 17 rfl rfl)
theorem dJ2_grow_2_44 : decode cJ2_grow_2 44 = .ok (.areturn, 1) := dk_176 (dk_at dksJ2_grow_2_1 20 rfl rfl)
theorem dJ2_grow_2_45 : decode cJ2_grow_2 45 = .ok (.aload_n 0, 1) := dk_42 (dk_at dksJ2_grow_2_1 21 rfl rfl)
theorem dJ2_grow_2_46 : decode cJ2_grow_2 46 = .ok (.bipush 10, 2) := dk_16 10 (dk_at dksJ2_grow_2_1 22 rfl rfl)
theorem dJ2_grow_2_48 : decode cJ2_grow_2 48 = .ok (.iload_n 1, 1) := dk_27 (dk_at dksJ2_grow_2_2 0 rfl rfl)
theorem dJ2_grow_2_49 : decode cJ2_grow_2 49 = .ok (.invokestatic 79, 3) := dk_184 0 79 (dk_at dksJ2_grow_2_2 1 rfl rfl)
theorem dJ2_grow_2_52 : decode cJ2_grow_2 52 = .ok (.anewarray 7, 3) := dk_189 0 7 (dk_at dksJ2_grow_2_2 4 rfl rfl)
theorem dJ2_grow_2_55 : decode cJ2_grow_2 55 = .ok (.dup_x1, 1) := dk_90 (dk_at dksJ2_grow_2_2 7 rfl rfl)
theorem dJ2_grow_2_56 : decode cJ2_grow_2 56 = .ok (.putfield 9, 3) := dk_181 0 9 (dk_at dksJ2_grow_2_2 8 rfl rfl)
theorem dJ2_grow_2_59 : decode cJ2_grow_2 59 = .ok (.areturn, 1) := dk_176 (dk_at dksJ2_grow_2_2 11 rfl rfl)
abbrev cJ2_clear : ByteArray := prog_43_method_40_code
def yJ2_clear : MethodName := ⟨RJ2, "clear", "()V"⟩
def dkwJ2_clear_1 : List UInt8 := [181, 0, 48, 62, 29, 28, 162, 0, 13, 43, 29, 1, 83, 132, 3, 1, 167, 255, 244, 177]
abbrev dktJ2_clear_1 : List UInt8 := dkwJ2_clear_1 ++ []
def dkwJ2_clear_0 : List UInt8 := [42, 89, 180, 0, 63, 4, 96, 181, 0, 63, 42, 180, 0, 9, 76, 42, 180, 0, 48, 61, 42, 3, 90]
abbrev dktJ2_clear_0 : List UInt8 := dkwJ2_clear_0 ++ dktJ2_clear_1
theorem dksJ2_clear_0 : cJ2_clear.data.toList.drop 0 = dktJ2_clear_0 := by decide +kernel
theorem dksJ2_clear_1 : cJ2_clear.data.toList.drop 23 = dktJ2_clear_1 := dk_seg dksJ2_clear_0 23 rfl rfl
theorem dJ2_clear_0 : decode cJ2_clear 0 = .ok (.aload_n 0, 1) := dk_42 (dk_at dksJ2_clear_0 0 rfl rfl)
theorem dJ2_clear_1 : decode cJ2_clear 1 = .ok (.dup, 1) := dk_89 (dk_at dksJ2_clear_0 1 rfl rfl)
theorem dJ2_clear_2 : decode cJ2_clear 2 = .ok (.getfield 63, 3) := dk_180 0 63 (dk_at dksJ2_clear_0 2 rfl rfl)
theorem dJ2_clear_5 : decode cJ2_clear 5 = .ok (.iconst 1, 1) := dk_4 (dk_at dksJ2_clear_0 5 rfl rfl)
theorem dJ2_clear_6 : decode cJ2_clear 6 = .ok (.iadd, 1) := dk_96 (dk_at dksJ2_clear_0 6 rfl rfl)
theorem dJ2_clear_7 : decode cJ2_clear 7 = .ok (.putfield 63, 3) := dk_181 0 63 (dk_at dksJ2_clear_0 7 rfl rfl)
theorem dJ2_clear_10 : decode cJ2_clear 10 = .ok (.aload_n 0, 1) := dk_42 (dk_at dksJ2_clear_0 10 rfl rfl)
theorem dJ2_clear_11 : decode cJ2_clear 11 = .ok (.getfield 9, 3) := dk_180 0 9 (dk_at dksJ2_clear_0 11 rfl rfl)
theorem dJ2_clear_14 : decode cJ2_clear 14 = .ok (.astore_n 1, 1) := dk_76 (dk_at dksJ2_clear_0 14 rfl rfl)
theorem dJ2_clear_15 : decode cJ2_clear 15 = .ok (.aload_n 0, 1) := dk_42 (dk_at dksJ2_clear_0 15 rfl rfl)
theorem dJ2_clear_16 : decode cJ2_clear 16 = .ok (.getfield 48, 3) := dk_180 0 48 (dk_at dksJ2_clear_0 16 rfl rfl)
theorem dJ2_clear_19 : decode cJ2_clear 19 = .ok (.istore_n 2, 1) := dk_61 (dk_at dksJ2_clear_0 19 rfl rfl)
theorem dJ2_clear_20 : decode cJ2_clear 20 = .ok (.aload_n 0, 1) := dk_42 (dk_at dksJ2_clear_0 20 rfl rfl)
theorem dJ2_clear_21 : decode cJ2_clear 21 = .ok (.iconst 0, 1) := dk_3 (dk_at dksJ2_clear_0 21 rfl rfl)
theorem dJ2_clear_22 : decode cJ2_clear 22 = .ok (.dup_x1, 1) := dk_90 (dk_at dksJ2_clear_0 22 rfl rfl)
theorem dJ2_clear_23 : decode cJ2_clear 23 = .ok (.putfield 48, 3) := dk_181 0 48 (dk_at dksJ2_clear_1 0 rfl rfl)
theorem dJ2_clear_26 : decode cJ2_clear 26 = .ok (.istore_n 3, 1) := dk_62 (dk_at dksJ2_clear_1 3 rfl rfl)
theorem dJ2_clear_27 : decode cJ2_clear 27 = .ok (.iload_n 3, 1) := dk_29 (dk_at dksJ2_clear_1 4 rfl rfl)
theorem dJ2_clear_28 : decode cJ2_clear 28 = .ok (.iload_n 2, 1) := dk_28 (dk_at dksJ2_clear_1 5 rfl rfl)
theorem dJ2_clear_29 : decode cJ2_clear 29 = .ok (.if_icmp .ge 13, 3) := dk_162 0 13 (dk_at dksJ2_clear_1 6 rfl rfl)
theorem dJ2_clear_32 : decode cJ2_clear 32 = .ok (.aload_n 1, 1) := dk_43 (dk_at dksJ2_clear_1 9 rfl rfl)
theorem dJ2_clear_33 : decode cJ2_clear 33 = .ok (.iload_n 3, 1) := dk_29 (dk_at dksJ2_clear_1 10 rfl rfl)
theorem dJ2_clear_34 : decode cJ2_clear 34 = .ok (.aconst_null, 1) := dk_1 (dk_at dksJ2_clear_1 11 rfl rfl)
theorem dJ2_clear_35 : decode cJ2_clear 35 = .ok (.aastore, 1) := dk_83 (dk_at dksJ2_clear_1 12 rfl rfl)
theorem dJ2_clear_36 : decode cJ2_clear 36 = .ok (.iinc 3 1, 3) := dk_132 3 1 (dk_at dksJ2_clear_1 13 rfl rfl)
theorem dJ2_clear_39 : decode cJ2_clear 39 = .ok (.goto (-12), 3) := dk_167 255 244 (dk_at dksJ2_clear_1 16 rfl rfl)
theorem dJ2_clear_42 : decode cJ2_clear 42 = .ok (.return_, 1) := dk_177 (dk_at dksJ2_clear_1 19 rfl rfl)
abbrev cJ2_iterator : ByteArray := prog_43_method_55_code
def yJ2_iterator : MethodName := ⟨RJ2, "iterator", "()Ljava/util/Iterator;"⟩
def dkwJ2_iterator_0 : List UInt8 := [187, 1, 11, 89, 42, 183, 1, 13, 176]
abbrev dktJ2_iterator_0 : List UInt8 := dkwJ2_iterator_0 ++ []
theorem dksJ2_iterator_0 : cJ2_iterator.data.toList.drop 0 = dktJ2_iterator_0 := by decide +kernel
theorem dJ2_iterator_0 : decode cJ2_iterator 0 = .ok (.new 267, 3) := dk_187 1 11 (dk_at dksJ2_iterator_0 0 rfl rfl)
theorem dJ2_iterator_3 : decode cJ2_iterator 3 = .ok (.dup, 1) := dk_89 (dk_at dksJ2_iterator_0 3 rfl rfl)
theorem dJ2_iterator_4 : decode cJ2_iterator 4 = .ok (.aload_n 0, 1) := dk_42 (dk_at dksJ2_iterator_0 4 rfl rfl)
theorem dJ2_iterator_5 : decode cJ2_iterator 5 = .ok (.invokespecial 269, 3) := dk_183 1 13 (dk_at dksJ2_iterator_0 5 rfl rfl)
theorem dJ2_iterator_8 : decode cJ2_iterator 8 = .ok (.areturn, 1) := dk_176 (dk_at dksJ2_iterator_0 8 rfl rfl)
abbrev cJ2_addAll : ByteArray := prog_43_method_41_code
def yJ2_addAll : MethodName := ⟨RJ2, "addAll", "(Ljava/util/Collection;)Z"⟩
def dkwJ2_addAll_3 : List UInt8 := [181, 0, 48, 4, 172]
abbrev dktJ2_addAll_3 : List UInt8 := dkwJ2_addAll_3 ++ []
def dkwJ2_addAll_2 : List UInt8 := [21, 5, 29, 96, 182, 0, 69, 58, 4, 44, 3, 25, 4, 21, 5, 29, 184, 0, 112, 42, 21, 5, 29, 96]
abbrev dktJ2_addAll_2 : List UInt8 := dkwJ2_addAll_2 ++ dktJ2_addAll_3
def dkwJ2_addAll_1 : List UInt8 := [3, 172, 29, 42, 180, 0, 9, 89, 58, 4, 190, 42, 180, 0, 48, 89, 54, 5, 100, 164, 0, 13, 42]
abbrev dktJ2_addAll_1 : List UInt8 := dkwJ2_addAll_1 ++ dktJ2_addAll_2
def dkwJ2_addAll_0 : List UInt8 := [43, 185, 0, 42, 1, 0, 77, 42, 89, 180, 0, 63, 4, 96, 181, 0, 63, 44, 190, 62, 29, 154, 0, 5]
abbrev dktJ2_addAll_0 : List UInt8 := dkwJ2_addAll_0 ++ dktJ2_addAll_1
theorem dksJ2_addAll_0 : cJ2_addAll.data.toList.drop 0 = dktJ2_addAll_0 := by decide +kernel
theorem dksJ2_addAll_1 : cJ2_addAll.data.toList.drop 24 = dktJ2_addAll_1 := dk_seg dksJ2_addAll_0 24 rfl rfl
theorem dksJ2_addAll_2 : cJ2_addAll.data.toList.drop 47 = dktJ2_addAll_2 := dk_seg dksJ2_addAll_1 23 rfl rfl
theorem dksJ2_addAll_3 : cJ2_addAll.data.toList.drop 71 = dktJ2_addAll_3 := dk_seg dksJ2_addAll_2 24 rfl rfl
theorem dJ2_addAll_0 : decode cJ2_addAll 0 = .ok (.aload_n 1, 1) := dk_43 (dk_at dksJ2_addAll_0 0 rfl rfl)
theorem dJ2_addAll_1 : decode cJ2_addAll 1 = .ok (.invokeinterface 42 1, 5) := by decide +kernel
theorem dJ2_addAll_6 : decode cJ2_addAll 6 = .ok (.astore_n 2, 1) := dk_77 (dk_at dksJ2_addAll_0 6 rfl rfl)
theorem dJ2_addAll_7 : decode cJ2_addAll 7 = .ok (.aload_n 0, 1) := dk_42 (dk_at dksJ2_addAll_0 7 rfl rfl)
theorem dJ2_addAll_8 : decode cJ2_addAll 8 = .ok (.dup, 1) := dk_89 (dk_at dksJ2_addAll_0 8 rfl rfl)
theorem dJ2_addAll_9 : decode cJ2_addAll 9 = .ok (.getfield 63, 3) := dk_180 0 63 (dk_at dksJ2_addAll_0 9 rfl rfl)
theorem dJ2_addAll_12 : decode cJ2_addAll 12 = .ok (.iconst 1, 1) := dk_4 (dk_at dksJ2_addAll_0 12 rfl rfl)
theorem dJ2_addAll_13 : decode cJ2_addAll 13 = .ok (.iadd, 1) := dk_96 (dk_at dksJ2_addAll_0 13 rfl rfl)
theorem dJ2_addAll_14 : decode cJ2_addAll 14 = .ok (.putfield 63, 3) := dk_181 0 63 (dk_at dksJ2_addAll_0 14 rfl rfl)
theorem dJ2_addAll_17 : decode cJ2_addAll 17 = .ok (.aload_n 2, 1) := dk_44 (dk_at dksJ2_addAll_0 17 rfl rfl)
theorem dJ2_addAll_18 : decode cJ2_addAll 18 = .ok (.arraylength, 1) := dk_190 (dk_at dksJ2_addAll_0 18 rfl rfl)
theorem dJ2_addAll_19 : decode cJ2_addAll 19 = .ok (.istore_n 3, 1) := dk_62 (dk_at dksJ2_addAll_0 19 rfl rfl)
theorem dJ2_addAll_20 : decode cJ2_addAll 20 = .ok (.iload_n 3, 1) := dk_29 (dk_at dksJ2_addAll_0 20 rfl rfl)
theorem dJ2_addAll_21 : decode cJ2_addAll 21 = .ok (.ifCond .ne 5, 3) := dk_154 0 5 (dk_at dksJ2_addAll_0 21 rfl rfl)
theorem dJ2_addAll_24 : decode cJ2_addAll 24 = .ok (.iconst 0, 1) := dk_3 (dk_at dksJ2_addAll_1 0 rfl rfl)
theorem dJ2_addAll_25 : decode cJ2_addAll 25 = .ok (.ireturn, 1) := dk_172 (dk_at dksJ2_addAll_1 1 rfl rfl)
theorem dJ2_addAll_26 : decode cJ2_addAll 26 = .ok (.iload_n 3, 1) := dk_29 (dk_at dksJ2_addAll_1 2 rfl rfl)
theorem dJ2_addAll_27 : decode cJ2_addAll 27 = .ok (.aload_n 0, 1) := dk_42 (dk_at dksJ2_addAll_1 3 rfl rfl)
theorem dJ2_addAll_28 : decode cJ2_addAll 28 = .ok (.getfield 9, 3) := dk_180 0 9 (dk_at dksJ2_addAll_1 4 rfl rfl)
theorem dJ2_addAll_31 : decode cJ2_addAll 31 = .ok (.dup, 1) := dk_89 (dk_at dksJ2_addAll_1 7 rfl rfl)
theorem dJ2_addAll_32 : decode cJ2_addAll 32 = .ok (.astore 4, 2) := dk_58 4 (dk_at dksJ2_addAll_1 8 rfl rfl)
theorem dJ2_addAll_34 : decode cJ2_addAll 34 = .ok (.arraylength, 1) := dk_190 (dk_at dksJ2_addAll_1 10 rfl rfl)
theorem dJ2_addAll_35 : decode cJ2_addAll 35 = .ok (.aload_n 0, 1) := dk_42 (dk_at dksJ2_addAll_1 11 rfl rfl)
theorem dJ2_addAll_36 : decode cJ2_addAll 36 = .ok (.getfield 48, 3) := dk_180 0 48 (dk_at dksJ2_addAll_1 12 rfl rfl)
theorem dJ2_addAll_39 : decode cJ2_addAll 39 = .ok (.dup, 1) := dk_89 (dk_at dksJ2_addAll_1 15 rfl rfl)
theorem dJ2_addAll_40 : decode cJ2_addAll 40 = .ok (.istore 5, 2) := dk_54 5 (dk_at dksJ2_addAll_1 16 rfl rfl)
theorem dJ2_addAll_42 : decode cJ2_addAll 42 = .ok (.isub, 1) := dk_100 (dk_at dksJ2_addAll_1 18 rfl rfl)
theorem dJ2_addAll_43 : decode cJ2_addAll 43 = .ok (.if_icmp .le 13, 3) := dk_164 0 13 (dk_at dksJ2_addAll_1 19 rfl rfl)
theorem dJ2_addAll_46 : decode cJ2_addAll 46 = .ok (.aload_n 0, 1) := dk_42 (dk_at dksJ2_addAll_1 22 rfl rfl)
theorem dJ2_addAll_47 : decode cJ2_addAll 47 = .ok (.iload 5, 2) := dk_21 5 (dk_at dksJ2_addAll_2 0 rfl rfl)
theorem dJ2_addAll_49 : decode cJ2_addAll 49 = .ok (.iload_n 3, 1) := dk_29 (dk_at dksJ2_addAll_2 2 rfl rfl)
theorem dJ2_addAll_50 : decode cJ2_addAll 50 = .ok (.iadd, 1) := dk_96 (dk_at dksJ2_addAll_2 3 rfl rfl)
theorem dJ2_addAll_51 : decode cJ2_addAll 51 = .ok (.invokevirtual 69, 3) := dk_182 0 69 (dk_at dksJ2_addAll_2 4 rfl rfl)
theorem dJ2_addAll_54 : decode cJ2_addAll 54 = .ok (.astore 4, 2) := dk_58 4 (dk_at dksJ2_addAll_2 7 rfl rfl)
theorem dJ2_addAll_56 : decode cJ2_addAll 56 = .ok (.aload_n 2, 1) := dk_44 (dk_at dksJ2_addAll_2 9 rfl rfl)
theorem dJ2_addAll_57 : decode cJ2_addAll 57 = .ok (.iconst 0, 1) := dk_3 (dk_at dksJ2_addAll_2 10 rfl rfl)
theorem dJ2_addAll_58 : decode cJ2_addAll 58 = .ok (.aload 4, 2) := dk_25 4 (dk_at dksJ2_addAll_2 11 rfl rfl)
theorem dJ2_addAll_60 : decode cJ2_addAll 60 = .ok (.iload 5, 2) := dk_21 5 (dk_at dksJ2_addAll_2 13 rfl rfl)
theorem dJ2_addAll_62 : decode cJ2_addAll 62 = .ok (.iload_n 3, 1) := dk_29 (dk_at dksJ2_addAll_2 15 rfl rfl)
theorem dJ2_addAll_63 : decode cJ2_addAll 63 = .ok (.invokestatic 112, 3) := dk_184 0 112 (dk_at dksJ2_addAll_2 16 rfl rfl)
theorem dJ2_addAll_66 : decode cJ2_addAll 66 = .ok (.aload_n 0, 1) := dk_42 (dk_at dksJ2_addAll_2 19 rfl rfl)
theorem dJ2_addAll_67 : decode cJ2_addAll 67 = .ok (.iload 5, 2) := dk_21 5 (dk_at dksJ2_addAll_2 20 rfl rfl)
theorem dJ2_addAll_69 : decode cJ2_addAll 69 = .ok (.iload_n 3, 1) := dk_29 (dk_at dksJ2_addAll_2 22 rfl rfl)
theorem dJ2_addAll_70 : decode cJ2_addAll 70 = .ok (.iadd, 1) := dk_96 (dk_at dksJ2_addAll_2 23 rfl rfl)
theorem dJ2_addAll_71 : decode cJ2_addAll 71 = .ok (.putfield 48, 3) := dk_181 0 48 (dk_at dksJ2_addAll_3 0 rfl rfl)
theorem dJ2_addAll_74 : decode cJ2_addAll 74 = .ok (.iconst 1, 1) := dk_4 (dk_at dksJ2_addAll_3 3 rfl rfl)
theorem dJ2_addAll_75 : decode cJ2_addAll 75 = .ok (.ireturn, 1) := dk_172 (dk_at dksJ2_addAll_3 4 rfl rfl)
abbrev cJ2_toArray : ByteArray := prog_43_method_16_code
def yJ2_toArray : MethodName := ⟨RJ2, "toArray", "()[Ljava/lang/Object;"⟩
def dkwJ2_toArray_0 : List UInt8 := [42, 180, 0, 9, 42, 180, 0, 48, 184, 0, 66, 176]
abbrev dktJ2_toArray_0 : List UInt8 := dkwJ2_toArray_0 ++ []
theorem dksJ2_toArray_0 : cJ2_toArray.data.toList.drop 0 = dktJ2_toArray_0 := by decide +kernel
theorem dJ2_toArray_0 : decode cJ2_toArray 0 = .ok (.aload_n 0, 1) := dk_42 (dk_at dksJ2_toArray_0 0 rfl rfl)
theorem dJ2_toArray_1 : decode cJ2_toArray 1 = .ok (.getfield 9, 3) := dk_180 0 9 (dk_at dksJ2_toArray_0 1 rfl rfl)
theorem dJ2_toArray_4 : decode cJ2_toArray 4 = .ok (.aload_n 0, 1) := dk_42 (dk_at dksJ2_toArray_0 4 rfl rfl)
theorem dJ2_toArray_5 : decode cJ2_toArray 5 = .ok (.getfield 48, 3) := dk_180 0 48 (dk_at dksJ2_toArray_0 5 rfl rfl)
theorem dJ2_toArray_8 : decode cJ2_toArray 8 = .ok (.invokestatic 66, 3) := dk_184 0 66 (dk_at dksJ2_toArray_0 8 rfl rfl)
theorem dJ2_toArray_11 : decode cJ2_toArray 11 = .ok (.areturn, 1) := dk_176 (dk_at dksJ2_toArray_0 11 rfl rfl)
abbrev cJ2_isEmpty : ByteArray := prog_43_method_9_code
def yJ2_isEmpty : MethodName := ⟨RJ2, "isEmpty", "()Z"⟩
def dkwJ2_isEmpty_0 : List UInt8 := [42, 180, 0, 48, 154, 0, 7, 4, 167, 0, 4, 3, 172]
abbrev dktJ2_isEmpty_0 : List UInt8 := dkwJ2_isEmpty_0 ++ []
theorem dksJ2_isEmpty_0 : cJ2_isEmpty.data.toList.drop 0 = dktJ2_isEmpty_0 := by decide +kernel
theorem dJ2_isEmpty_0 : decode cJ2_isEmpty 0 = .ok (.aload_n 0, 1) := dk_42 (dk_at dksJ2_isEmpty_0 0 rfl rfl)
theorem dJ2_isEmpty_1 : decode cJ2_isEmpty 1 = .ok (.getfield 48, 3) := dk_180 0 48 (dk_at dksJ2_isEmpty_0 1 rfl rfl)
theorem dJ2_isEmpty_4 : decode cJ2_isEmpty 4 = .ok (.ifCond .ne 7, 3) := dk_154 0 7 (dk_at dksJ2_isEmpty_0 4 rfl rfl)
theorem dJ2_isEmpty_7 : decode cJ2_isEmpty 7 = .ok (.iconst 1, 1) := dk_4 (dk_at dksJ2_isEmpty_0 7 rfl rfl)
theorem dJ2_isEmpty_8 : decode cJ2_isEmpty 8 = .ok (.goto 4, 3) := dk_167 0 4 (dk_at dksJ2_isEmpty_0 8 rfl rfl)
theorem dJ2_isEmpty_11 : decode cJ2_isEmpty 11 = .ok (.iconst 0, 1) := dk_3 (dk_at dksJ2_isEmpty_0 11 rfl rfl)
theorem dJ2_isEmpty_12 : decode cJ2_isEmpty 12 = .ok (.ireturn, 1) := dk_172 (dk_at dksJ2_isEmpty_0 12 rfl rfl)
theorem q117 : (Jvm.Cond.initialized "java/util/ArrayList") ∈ lw_all := lw_g (lw_at lw_m1 5 rfl) rfl
theorem q177 : (Jvm.Cond.instantiable "java/util/ArrayList" (3 : Nat)) ∈ lw_all := lw_g (lw_at lw_m1 65 rfl) rfl
theorem q179 : (Jvm.Cond.instanceMethod ({ cls := "java/util/ArrayList", name := "<init>", desc := "()V" } : Jvm.MethodName)) ∈ lw_all := lw_g (lw_at lw_m1 67 rfl) rfl
theorem q180 : (Jvm.Cond.code ({ cls := "java/util/ArrayList", name := "<init>", desc := "()V" } : Jvm.MethodName) prog_43_method_2_code (1 : Nat) (Option.none : Option Jvm.ClassFile.FieldType)) ∈ lw_all := lw_g (lw_at lw_m1 68 rfl) rfl
theorem q181 : (Jvm.Cond.methodLink "java/util/ArrayList" (1 : Nat) ({ cls := "java/util/AbstractList", name := "<init>", desc := "()V" } : Jvm.MethodName)) ∈ lw_all := lw_g (lw_at lw_m1 69 rfl) rfl
theorem q188 : (Jvm.Cond.fieldLink "java/util/ArrayList" (39 : Nat) "java/util/ArrayList" "DEFAULTCAPACITY_EMPTY_ELEMENTDATA" "[Ljava/lang/Object;") ∈ lw_all := lw_g (lw_at lw_m1 76 rfl) rfl
theorem q189 : (Jvm.Cond.laysStatic "java/util/ArrayList" "DEFAULTCAPACITY_EMPTY_ELEMENTDATA" "[Ljava/lang/Object;") ∈ lw_tbl := lw_at lw_m1 77 rfl
theorem q190 : (Jvm.Cond.fieldLink "java/util/ArrayList" (9 : Nat) "java/util/ArrayList" "elementData" "[Ljava/lang/Object;") ∈ lw_all := lw_g (lw_at lw_m1 78 rfl) rfl
theorem q193 : (Jvm.Cond.fieldLink "java/util/ArrayList" (48 : Nat) "java/util/ArrayList" "size" "I") ∈ lw_all := lw_g (lw_at lw_m1 81 rfl) rfl
theorem q196 : (Jvm.Cond.sameField "java/util/ArrayList" "java/util/AbstractList" "modCount" "I") ∈ lw_all := lw_g (lw_at lw_m1 84 rfl) rfl
theorem q197 : (Jvm.Cond.fieldLink "java/util/ArrayList" (63 : Nat) "java/util/ArrayList" "modCount" "I") ∈ lw_all := lw_g (lw_at lw_m1 85 rfl) rfl
theorem q198 : (Jvm.Cond.lays "java/util/ArrayList" "java/util/ArrayList" "elementData" "[Ljava/lang/Object;") ∈ lw_all := lw_g (lw_at lw_m1 86 rfl) rfl
theorem q199 : (Jvm.Cond.soleField "java/util/ArrayList" "elementData") ∈ lw_all := lw_g (lw_at lw_m1 87 rfl) rfl
theorem q200 : (Jvm.Cond.lays "java/util/ArrayList" "java/util/ArrayList" "size" "I") ∈ lw_all := lw_g (lw_at lw_m1 88 rfl) rfl
theorem q201 : (Jvm.Cond.soleField "java/util/ArrayList" "size") ∈ lw_all := lw_g (lw_at lw_m1 89 rfl) rfl
theorem q202 : (Jvm.Cond.lays "java/util/ArrayList" "java/util/AbstractList" "modCount" "I") ∈ lw_all := lw_g (lw_at lw_m1 90 rfl) rfl
theorem q204 : (Jvm.Cond.superclass "java/util/ArrayList" "java/util/AbstractList") ∈ lw_all := lw_g (lw_at lw_m1 92 rfl) rfl
theorem q254 : (Jvm.Cond.instanceMethod ({ cls := "java/util/ArrayList", name := "<init>", desc := "(I)V" } : Jvm.MethodName)) ∈ lw_all := lw_g (lw_at lw_m1 142 rfl) rfl
theorem q255 : (Jvm.Cond.code ({ cls := "java/util/ArrayList", name := "<init>", desc := "(I)V" } : Jvm.MethodName) prog_43_method_1_code (2 : Nat) (Option.none : Option Jvm.ClassFile.FieldType)) ∈ lw_all := lw_g (lw_at lw_m1 143 rfl) rfl
theorem q256 : (Jvm.Cond.classLink "java/util/ArrayList" (7 : Nat) "java/lang/Object") ∈ lw_all := lw_g (lw_at lw_m1 144 rfl) rfl
theorem q258 : (Jvm.Cond.fieldLink "java/util/ArrayList" (15 : Nat) "java/util/ArrayList" "EMPTY_ELEMENTDATA" "[Ljava/lang/Object;") ∈ lw_all := lw_g (lw_at lw_m1 146 rfl) rfl
theorem q259 : (Jvm.Cond.laysStatic "java/util/ArrayList" "EMPTY_ELEMENTDATA" "[Ljava/lang/Object;") ∈ lw_tbl := lw_at lw_m1 147 rfl
theorem q260 : (Jvm.Cond.classLink "java/util/ArrayList" (18 : Nat) "java/lang/IllegalArgumentException") ∈ lw_all := lw_g (lw_at lw_m1 148 rfl) rfl
theorem q304 : (Jvm.Cond.classLink "java/util/ArrayList" (20 : Nat) "java/lang/StringBuilder") ∈ lw_all := lw_g (lw_at lw_m1 192 rfl) rfl
theorem q306 : (Jvm.Cond.methodLink "java/util/ArrayList" (22 : Nat) ({ cls := "java/lang/StringBuilder", name := "<init>", desc := "()V" } : Jvm.MethodName)) ∈ lw_all := lw_g (lw_at lw_m1 194 rfl) rfl
theorem q337 : (Jvm.Cond.stringRef "java/util/ArrayList" (23 : Nat) "Illegal Capacity: ") ∈ lw_tbl := lw_at lw_m1 225 rfl
theorem q338 : (Jvm.Cond.methodLink "java/util/ArrayList" (25 : Nat) ({ cls := "java/lang/StringBuilder", name := "append", desc := "(Ljava/lang/String;)Ljava/lang/StringBuilder;" } : Jvm.MethodName)) ∈ lw_all := lw_g (lw_at lw_m1 226 rfl) rfl
theorem q456 : (Jvm.Cond.methodLink "java/util/ArrayList" (29 : Nat) ({ cls := "java/lang/StringBuilder", name := "append", desc := "(I)Ljava/lang/StringBuilder;" } : Jvm.MethodName)) ∈ lw_all := lw_g (lw_at lw_m2 104 rfl) rfl
theorem q481 : (Jvm.Cond.methodLink "java/util/ArrayList" (32 : Nat) ({ cls := "java/lang/StringBuilder", name := "toString", desc := "()Ljava/lang/String;" } : Jvm.MethodName)) ∈ lw_all := lw_g (lw_at lw_m2 129 rfl) rfl
theorem q573 : (Jvm.Cond.methodLink "java/util/ArrayList" (36 : Nat) ({ cls := "java/lang/IllegalArgumentException", name := "<init>", desc := "(Ljava/lang/String;)V" } : Jvm.MethodName)) ∈ lw_all := lw_g (lw_at lw_m2 221 rfl) rfl
theorem q773 : (Jvm.Cond.castable "java/util/ArrayList" "java/util/List") ∈ lw_tbl := lw_at lw_m3 181 rfl
theorem q774 : (Jvm.Cond.selects "java/util/ArrayList" ({ cls := "java/util/List", name := "size", desc := "()I" } : Jvm.MethodName) ({ cls := "java/util/ArrayList", name := "size", desc := "()I" } : Jvm.MethodName)) ∈ lw_all := lw_g (lw_at lw_m3 182 rfl) rfl
theorem q775 : (Jvm.Cond.unhidden "java/util/ArrayList" "size" "()I") ∈ lw_tbl := lw_at lw_m3 183 rfl
theorem q776 : (Jvm.Cond.instanceMethod ({ cls := "java/util/ArrayList", name := "size", desc := "()I" } : Jvm.MethodName)) ∈ lw_all := lw_g (lw_at lw_m3 184 rfl) rfl
theorem q777 : (Jvm.Cond.publicMethod ({ cls := "java/util/ArrayList", name := "size", desc := "()I" } : Jvm.MethodName)) ∈ lw_tbl := lw_at lw_m3 185 rfl
theorem q778 : (Jvm.Cond.code ({ cls := "java/util/ArrayList", name := "size", desc := "()I" } : Jvm.MethodName) prog_43_method_8_code (1 : Nat) (Option.some Jvm.ClassFile.FieldType.int)) ∈ lw_all := lw_g (lw_at lw_m3 186 rfl) rfl
theorem q783 : (Jvm.Cond.selects "java/util/ArrayList" ({ cls := "java/util/List", name := "get", desc := "(I)Ljava/lang/Object;" } : Jvm.MethodName) ({ cls := "java/util/ArrayList", name := "get", desc := "(I)Ljava/lang/Object;" } : Jvm.MethodName)) ∈ lw_all := lw_g (lw_at lw_m3 191 rfl) rfl
theorem q784 : (Jvm.Cond.unhidden "java/util/ArrayList" "get" "(I)Ljava/lang/Object;") ∈ lw_tbl := lw_at lw_m3 192 rfl
theorem q785 : (Jvm.Cond.instanceMethod ({ cls := "java/util/ArrayList", name := "get", desc := "(I)Ljava/lang/Object;" } : Jvm.MethodName)) ∈ lw_all := lw_g (lw_at lw_m3 193 rfl) rfl
theorem q786 : (Jvm.Cond.publicMethod ({ cls := "java/util/ArrayList", name := "get", desc := "(I)Ljava/lang/Object;" } : Jvm.MethodName)) ∈ lw_tbl := lw_at lw_m3 194 rfl
theorem q787 : (Jvm.Cond.code ({ cls := "java/util/ArrayList", name := "get", desc := "(I)Ljava/lang/Object;" } : Jvm.MethodName) prog_43_method_20_code (2 : Nat) (Option.some (Jvm.ClassFile.FieldType.object "java/lang/Object"))) ∈ lw_all := lw_g (lw_at lw_m3 195 rfl) rfl
theorem q788 : (Jvm.Cond.methodLink "java/util/ArrayList" (118 : Nat) ({ cls := "java/util/Objects", name := "checkIndex", desc := "(II)I" } : Jvm.MethodName)) ∈ lw_all := lw_g (lw_at lw_m3 196 rfl) rfl
theorem q794 : (Jvm.Cond.methodLink "java/util/ArrayList" (123 : Nat) ({ cls := "java/util/ArrayList", name := "elementData", desc := "(I)Ljava/lang/Object;" } : Jvm.MethodName)) ∈ lw_all := lw_g (lw_at lw_m3 202 rfl) rfl
theorem q795 : (Jvm.Cond.instanceMethod ({ cls := "java/util/ArrayList", name := "elementData", desc := "(I)Ljava/lang/Object;" } : Jvm.MethodName)) ∈ lw_all := lw_g (lw_at lw_m3 203 rfl) rfl
theorem q796 : (Jvm.Cond.selects "java/util/ArrayList" ({ cls := "java/util/ArrayList", name := "elementData", desc := "(I)Ljava/lang/Object;" } : Jvm.MethodName) ({ cls := "java/util/ArrayList", name := "elementData", desc := "(I)Ljava/lang/Object;" } : Jvm.MethodName)) ∈ lw_all := lw_g (lw_at lw_m3 204 rfl) rfl
theorem q797 : (Jvm.Cond.code ({ cls := "java/util/ArrayList", name := "elementData", desc := "(I)Ljava/lang/Object;" } : Jvm.MethodName) prog_43_method_18_code (2 : Nat) (Option.some (Jvm.ClassFile.FieldType.object "java/lang/Object"))) ∈ lw_all := lw_g (lw_at lw_m3 205 rfl) rfl
theorem q935 : (Jvm.Cond.selects "java/util/ArrayList" ({ cls := "java/util/List", name := "add", desc := "(Ljava/lang/Object;)Z" } : Jvm.MethodName) ({ cls := "java/util/ArrayList", name := "add", desc := "(Ljava/lang/Object;)Z" } : Jvm.MethodName)) ∈ lw_all := lw_g (lw_at lw_m4 103 rfl) rfl
theorem q936 : (Jvm.Cond.unhidden "java/util/ArrayList" "add" "(Ljava/lang/Object;)Z") ∈ lw_tbl := lw_at lw_m4 104 rfl
theorem q937 : (Jvm.Cond.instanceMethod ({ cls := "java/util/ArrayList", name := "add", desc := "(Ljava/lang/Object;)Z" } : Jvm.MethodName)) ∈ lw_all := lw_g (lw_at lw_m4 105 rfl) rfl
theorem q938 : (Jvm.Cond.publicMethod ({ cls := "java/util/ArrayList", name := "add", desc := "(Ljava/lang/Object;)Z" } : Jvm.MethodName)) ∈ lw_tbl := lw_at lw_m4 106 rfl
theorem q939 : (Jvm.Cond.code ({ cls := "java/util/ArrayList", name := "add", desc := "(Ljava/lang/Object;)Z" } : Jvm.MethodName) prog_43_method_25_code (2 : Nat) (Option.some Jvm.ClassFile.FieldType.boolean)) ∈ lw_all := lw_g (lw_at lw_m4 107 rfl) rfl
theorem q940 : (Jvm.Cond.methodLink "java/util/ArrayList" (131 : Nat) ({ cls := "java/util/ArrayList", name := "add", desc := "(Ljava/lang/Object;[Ljava/lang/Object;I)V" } : Jvm.MethodName)) ∈ lw_all := lw_g (lw_at lw_m4 108 rfl) rfl
theorem q941 : (Jvm.Cond.privateMethod ({ cls := "java/util/ArrayList", name := "add", desc := "(Ljava/lang/Object;[Ljava/lang/Object;I)V" } : Jvm.MethodName)) ∈ lw_tbl := lw_at lw_m4 109 rfl
theorem q942 : (Jvm.Cond.instanceMethod ({ cls := "java/util/ArrayList", name := "add", desc := "(Ljava/lang/Object;[Ljava/lang/Object;I)V" } : Jvm.MethodName)) ∈ lw_all := lw_g (lw_at lw_m4 110 rfl) rfl
theorem q943 : (Jvm.Cond.code ({ cls := "java/util/ArrayList", name := "add", desc := "(Ljava/lang/Object;[Ljava/lang/Object;I)V" } : Jvm.MethodName) prog_43_method_24_code (4 : Nat) (Option.none : Option Jvm.ClassFile.FieldType)) ∈ lw_all := lw_g (lw_at lw_m4 111 rfl) rfl
theorem q944 : (Jvm.Cond.methodLink "java/util/ArrayList" (129 : Nat) ({ cls := "java/util/ArrayList", name := "grow", desc := "()[Ljava/lang/Object;" } : Jvm.MethodName)) ∈ lw_all := lw_g (lw_at lw_m4 112 rfl) rfl
theorem q945 : (Jvm.Cond.privateMethod ({ cls := "java/util/ArrayList", name := "grow", desc := "()[Ljava/lang/Object;" } : Jvm.MethodName)) ∈ lw_tbl := lw_at lw_m4 113 rfl
theorem q946 : (Jvm.Cond.instanceMethod ({ cls := "java/util/ArrayList", name := "grow", desc := "()[Ljava/lang/Object;" } : Jvm.MethodName)) ∈ lw_all := lw_g (lw_at lw_m4 114 rfl) rfl
theorem q947 : (Jvm.Cond.code ({ cls := "java/util/ArrayList", name := "grow", desc := "()[Ljava/lang/Object;" } : Jvm.MethodName) prog_43_method_7_code (1 : Nat) (Option.some (Jvm.ClassFile.FieldType.array (Jvm.ClassFile.FieldType.object "java/lang/Object")))) ∈ lw_all := lw_g (lw_at lw_m4 115 rfl) rfl
theorem q948 : (Jvm.Cond.methodLink "java/util/ArrayList" (69 : Nat) ({ cls := "java/util/ArrayList", name := "grow", desc := "(I)[Ljava/lang/Object;" } : Jvm.MethodName)) ∈ lw_all := lw_g (lw_at lw_m4 116 rfl) rfl
theorem q949 : (Jvm.Cond.privateMethod ({ cls := "java/util/ArrayList", name := "grow", desc := "(I)[Ljava/lang/Object;" } : Jvm.MethodName)) ∈ lw_tbl := lw_at lw_m4 117 rfl
theorem q950 : (Jvm.Cond.instanceMethod ({ cls := "java/util/ArrayList", name := "grow", desc := "(I)[Ljava/lang/Object;" } : Jvm.MethodName)) ∈ lw_all := lw_g (lw_at lw_m4 118 rfl) rfl
theorem q951 : (Jvm.Cond.code ({ cls := "java/util/ArrayList", name := "grow", desc := "(I)[Ljava/lang/Object;" } : Jvm.MethodName) prog_43_method_6_code (4 : Nat) (Option.some (Jvm.ClassFile.FieldType.array (Jvm.ClassFile.FieldType.object "java/lang/Object")))) ∈ lw_all := lw_g (lw_at lw_m4 119 rfl) rfl
theorem q952 : (Jvm.Cond.methodLink "java/util/ArrayList" (73 : Nat) ({ cls := "jdk/internal/util/ArraysSupport", name := "newLength", desc := "(III)I" } : Jvm.MethodName)) ∈ lw_all := lw_g (lw_at lw_m4 120 rfl) rfl
theorem q953 : (Jvm.Cond.methodLink "java/util/ArrayList" (66 : Nat) ({ cls := "java/util/Arrays", name := "copyOf", desc := "([Ljava/lang/Object;I)[Ljava/lang/Object;" } : Jvm.MethodName)) ∈ lw_all := lw_g (lw_at lw_m4 121 rfl) rfl
theorem q978 : (Jvm.Cond.selects "java/util/ArrayList" ({ cls := "java/lang/Object", name := "getClass", desc := "()Ljava/lang/Class;" } : Jvm.MethodName) ({ cls := "java/lang/Object", name := "getClass", desc := "()Ljava/lang/Class;" } : Jvm.MethodName)) ∈ lw_all := lw_g (lw_at lw_m4 146 rfl) rfl
theorem q986 : (Jvm.Cond.methodLink "java/util/ArrayList" (79 : Nat) ({ cls := "java/lang/Math", name := "max", desc := "(II)I" } : Jvm.MethodName)) ∈ lw_all := lw_g (lw_at lw_m4 154 rfl) rfl
theorem q1039 : (Jvm.Cond.selects "java/util/ArrayList" ({ cls := "java/util/List", name := "clear", desc := "()V" } : Jvm.MethodName) ({ cls := "java/util/ArrayList", name := "clear", desc := "()V" } : Jvm.MethodName)) ∈ lw_all := lw_g (lw_at lw_m4 207 rfl) rfl
theorem q1040 : (Jvm.Cond.unhidden "java/util/ArrayList" "clear" "()V") ∈ lw_tbl := lw_at lw_m4 208 rfl
theorem q1041 : (Jvm.Cond.instanceMethod ({ cls := "java/util/ArrayList", name := "clear", desc := "()V" } : Jvm.MethodName)) ∈ lw_all := lw_g (lw_at lw_m4 209 rfl) rfl
theorem q1042 : (Jvm.Cond.publicMethod ({ cls := "java/util/ArrayList", name := "clear", desc := "()V" } : Jvm.MethodName)) ∈ lw_tbl := lw_at lw_m4 210 rfl
theorem q1043 : (Jvm.Cond.code ({ cls := "java/util/ArrayList", name := "clear", desc := "()V" } : Jvm.MethodName) prog_43_method_40_code (4 : Nat) (Option.none : Option Jvm.ClassFile.FieldType)) ∈ lw_all := lw_g (lw_at lw_m4 211 rfl) rfl
theorem q1136 : (Jvm.Cond.selects "java/util/ArrayList" ({ cls := "java/util/List", name := "iterator", desc := "()Ljava/util/Iterator;" } : Jvm.MethodName) ({ cls := "java/util/ArrayList", name := "iterator", desc := "()Ljava/util/Iterator;" } : Jvm.MethodName)) ∈ lw_all := lw_g (lw_at lw_m5 64 rfl) rfl
theorem q1137 : (Jvm.Cond.unhidden "java/util/ArrayList" "iterator" "()Ljava/util/Iterator;") ∈ lw_tbl := lw_at lw_m5 65 rfl
theorem q1138 : (Jvm.Cond.instanceMethod ({ cls := "java/util/ArrayList", name := "iterator", desc := "()Ljava/util/Iterator;" } : Jvm.MethodName)) ∈ lw_all := lw_g (lw_at lw_m5 66 rfl) rfl
theorem q1139 : (Jvm.Cond.publicMethod ({ cls := "java/util/ArrayList", name := "iterator", desc := "()Ljava/util/Iterator;" } : Jvm.MethodName)) ∈ lw_tbl := lw_at lw_m5 67 rfl
theorem q1140 : (Jvm.Cond.code ({ cls := "java/util/ArrayList", name := "iterator", desc := "()Ljava/util/Iterator;" } : Jvm.MethodName) prog_43_method_55_code (1 : Nat) (Option.some (Jvm.ClassFile.FieldType.object "java/util/Iterator"))) ∈ lw_all := lw_g (lw_at lw_m5 68 rfl) rfl
theorem q1141 : (Jvm.Cond.classLink "java/util/ArrayList" (267 : Nat) "java/util/ArrayList$Itr") ∈ lw_all := lw_g (lw_at lw_m5 69 rfl) rfl
theorem q1143 : (Jvm.Cond.methodLink "java/util/ArrayList" (269 : Nat) ({ cls := "java/util/ArrayList$Itr", name := "<init>", desc := "(Ljava/util/ArrayList;)V" } : Jvm.MethodName)) ∈ lw_all := lw_g (lw_at lw_m5 71 rfl) rfl
theorem q1493 : (Jvm.Cond.selects "java/util/ArrayList" ({ cls := "java/util/List", name := "addAll", desc := "(Ljava/util/Collection;)Z" } : Jvm.MethodName) ({ cls := "java/util/ArrayList", name := "addAll", desc := "(Ljava/util/Collection;)Z" } : Jvm.MethodName)) ∈ lw_all := lw_g (lw_at lw_m6 181 rfl) rfl
theorem q1494 : (Jvm.Cond.unhidden "java/util/ArrayList" "addAll" "(Ljava/util/Collection;)Z") ∈ lw_tbl := lw_at lw_m6 182 rfl
theorem q1495 : (Jvm.Cond.instanceMethod ({ cls := "java/util/ArrayList", name := "addAll", desc := "(Ljava/util/Collection;)Z" } : Jvm.MethodName)) ∈ lw_all := lw_g (lw_at lw_m6 183 rfl) rfl
theorem q1496 : (Jvm.Cond.publicMethod ({ cls := "java/util/ArrayList", name := "addAll", desc := "(Ljava/util/Collection;)Z" } : Jvm.MethodName)) ∈ lw_tbl := lw_at lw_m6 184 rfl
theorem q1497 : (Jvm.Cond.code ({ cls := "java/util/ArrayList", name := "addAll", desc := "(Ljava/util/Collection;)Z" } : Jvm.MethodName) prog_43_method_41_code (6 : Nat) (Option.some Jvm.ClassFile.FieldType.boolean)) ∈ lw_all := lw_g (lw_at lw_m6 185 rfl) rfl
theorem q1498 : (Jvm.Cond.interfaceEntry "java/util/ArrayList" (42 : Nat)) ∈ lw_tbl := lw_at lw_m6 186 rfl
theorem q1499 : (Jvm.Cond.methodLink "java/util/ArrayList" (42 : Nat) ({ cls := "java/util/Collection", name := "toArray", desc := "()[Ljava/lang/Object;" } : Jvm.MethodName)) ∈ lw_all := lw_g (lw_at lw_m6 187 rfl) rfl
theorem q1517 : (Jvm.Cond.castable "java/util/ArrayList" "java/util/Collection") ∈ lw_tbl := lw_at lw_m6 205 rfl
theorem q1518 : (Jvm.Cond.selects "java/util/ArrayList" ({ cls := "java/util/Collection", name := "toArray", desc := "()[Ljava/lang/Object;" } : Jvm.MethodName) ({ cls := "java/util/ArrayList", name := "toArray", desc := "()[Ljava/lang/Object;" } : Jvm.MethodName)) ∈ lw_all := lw_g (lw_at lw_m6 206 rfl) rfl
theorem q1519 : (Jvm.Cond.unhidden "java/util/ArrayList" "toArray" "()[Ljava/lang/Object;") ∈ lw_tbl := lw_at lw_m6 207 rfl
theorem q1520 : (Jvm.Cond.instanceMethod ({ cls := "java/util/ArrayList", name := "toArray", desc := "()[Ljava/lang/Object;" } : Jvm.MethodName)) ∈ lw_all := lw_g (lw_at lw_m6 208 rfl) rfl
theorem q1521 : (Jvm.Cond.publicMethod ({ cls := "java/util/ArrayList", name := "toArray", desc := "()[Ljava/lang/Object;" } : Jvm.MethodName)) ∈ lw_tbl := lw_at lw_m6 209 rfl
theorem q1522 : (Jvm.Cond.code ({ cls := "java/util/ArrayList", name := "toArray", desc := "()[Ljava/lang/Object;" } : Jvm.MethodName) prog_43_method_16_code (1 : Nat) (Option.some (Jvm.ClassFile.FieldType.array (Jvm.ClassFile.FieldType.object "java/lang/Object")))) ∈ lw_all := lw_g (lw_at lw_m6 210 rfl) rfl
theorem q1523 : (Jvm.Cond.methodLink "java/util/ArrayList" (112 : Nat) ({ cls := "java/lang/System", name := "arraycopy", desc := "(Ljava/lang/Object;ILjava/lang/Object;II)V" } : Jvm.MethodName)) ∈ lw_all := lw_g (lw_at lw_m6 211 rfl) rfl
theorem q1648 : (Jvm.Cond.selects "java/util/ArrayList" ({ cls := "java/util/List", name := "isEmpty", desc := "()Z" } : Jvm.MethodName) ({ cls := "java/util/ArrayList", name := "isEmpty", desc := "()Z" } : Jvm.MethodName)) ∈ lw_all := lw_g (lw_at lw_m7 96 rfl) rfl
theorem q1649 : (Jvm.Cond.unhidden "java/util/ArrayList" "isEmpty" "()Z") ∈ lw_tbl := lw_at lw_m7 97 rfl
theorem q1650 : (Jvm.Cond.instanceMethod ({ cls := "java/util/ArrayList", name := "isEmpty", desc := "()Z" } : Jvm.MethodName)) ∈ lw_all := lw_g (lw_at lw_m7 98 rfl) rfl
theorem q1651 : (Jvm.Cond.publicMethod ({ cls := "java/util/ArrayList", name := "isEmpty", desc := "()Z" } : Jvm.MethodName)) ∈ lw_tbl := lw_at lw_m7 99 rfl
theorem q1652 : (Jvm.Cond.code ({ cls := "java/util/ArrayList", name := "isEmpty", desc := "()Z" } : Jvm.MethodName) prog_43_method_9_code (1 : Nat) (Option.some Jvm.ClassFile.FieldType.boolean)) ∈ lw_all := lw_g (lw_at lw_m7 100 rfl) rfl
theorem q2558 : (Jvm.Cond.castable "java/util/ArrayList" "java/lang/Object") ∈ lw_tbl := lw_at lw_m11 46 rfl
theorem in_J2 : ∀ w ∈ wsJ20, w ∈ lw_all := lw_in wsJ20 [202, 198, 200] (by decide +kernel) (by decide +kernel)
/-! java/lang/Throwable -/
set_option maxRecDepth 100000
def RJ3 : String := "java/lang/Throwable"
def TJ3 : u_T := fun k => match k with
  | 0 => ("java/lang/Throwable", "cause", "Ljava/lang/Throwable;", false)
  | 1 => ("java/lang/Throwable", "stackTrace", "[Ljava/lang/StackTraceElement;", false)
  | 2 => ("java/lang/Throwable", "suppressedExceptions", "Ljava/util/List;", false)
  | 3 => ("java/lang/Throwable", "detailMessage", "Ljava/lang/String;", false)
  | _ => ("java/lang/Throwable", "backtrace", "Ljava/lang/Object;", false)
def tyJ3 : Nat → FieldType := fun k => match k with
  | 0 => .object "java/lang/Throwable"
  | 1 => .array (.object "java/lang/StackTraceElement")
  | 2 => .object "java/util/List"
  | 3 => .object "java/lang/String"
  | _ => .object "java/lang/Object"
abbrev wsJ30 : List Cond := u_ws RJ3 TJ3 5
theorem nmJ3 : ∀ a, a < 5 → ∀ b, b < 5 → a ≠ b → (TJ3 a).2.1 ≠ (TJ3 b).2.1 := by decide +kernel
theorem tyJ3_ok : ∀ k, k < 5 → parseFieldDescriptor (TJ3 k).2.2.1 = some (tyJ3 k) := by decide +kernel
abbrev cJ3_init : ByteArray := prog_37_method_1_code
def yJ3_init : MethodName := ⟨RJ3, "<init>", "()V"⟩
def dkwJ3_init_1 : List UInt8 := [182, 0, 27, 87, 177]
abbrev dktJ3_init_1 : List UInt8 := dkwJ3_init_1 ++ []
def dkwJ3_init_0 : List UInt8 := [42, 183, 0, 1, 42, 42, 181, 0, 7, 42, 178, 0, 13, 181, 0, 17, 42, 178, 0, 20, 181, 0, 24, 42]
abbrev dktJ3_init_0 : List UInt8 := dkwJ3_init_0 ++ dktJ3_init_1
theorem dksJ3_init_0 : cJ3_init.data.toList.drop 0 = dktJ3_init_0 := by decide +kernel
theorem dksJ3_init_1 : cJ3_init.data.toList.drop 24 = dktJ3_init_1 := dk_seg dksJ3_init_0 24 rfl rfl
theorem dJ3_init_0 : decode cJ3_init 0 = .ok (.aload_n 0, 1) := dk_42 (dk_at dksJ3_init_0 0 rfl rfl)
theorem dJ3_init_1 : decode cJ3_init 1 = .ok (.invokespecial 1, 3) := dk_183 0 1 (dk_at dksJ3_init_0 1 rfl rfl)
theorem dJ3_init_4 : decode cJ3_init 4 = .ok (.aload_n 0, 1) := dk_42 (dk_at dksJ3_init_0 4 rfl rfl)
theorem dJ3_init_5 : decode cJ3_init 5 = .ok (.aload_n 0, 1) := dk_42 (dk_at dksJ3_init_0 5 rfl rfl)
theorem dJ3_init_6 : decode cJ3_init 6 = .ok (.putfield 7, 3) := dk_181 0 7 (dk_at dksJ3_init_0 6 rfl rfl)
theorem dJ3_init_9 : decode cJ3_init 9 = .ok (.aload_n 0, 1) := dk_42 (dk_at dksJ3_init_0 9 rfl rfl)
theorem dJ3_init_10 : decode cJ3_init 10 = .ok (.getstatic 13, 3) := dk_178 0 13 (dk_at dksJ3_init_0 10 rfl rfl)
theorem dJ3_init_13 : decode cJ3_init 13 = .ok (.putfield 17, 3) := dk_181 0 17 (dk_at dksJ3_init_0 13 rfl rfl)
theorem dJ3_init_16 : decode cJ3_init 16 = .ok (.aload_n 0, 1) := dk_42 (dk_at dksJ3_init_0 16 rfl rfl)
theorem dJ3_init_17 : decode cJ3_init 17 = .ok (.getstatic 20, 3) := dk_178 0 20 (dk_at dksJ3_init_0 17 rfl rfl)
theorem dJ3_init_20 : decode cJ3_init 20 = .ok (.putfield 24, 3) := dk_181 0 24 (dk_at dksJ3_init_0 20 rfl rfl)
theorem dJ3_init_23 : decode cJ3_init 23 = .ok (.aload_n 0, 1) := dk_42 (dk_at dksJ3_init_0 23 rfl rfl)
theorem dJ3_init_24 : decode cJ3_init 24 = .ok (.invokevirtual 27, 3) := dk_182 0 27 (dk_at dksJ3_init_1 0 rfl rfl)
theorem dJ3_init_27 : decode cJ3_init 27 = .ok (.pop, 1) := dk_87 (dk_at dksJ3_init_1 3 rfl rfl)
theorem dJ3_init_28 : decode cJ3_init 28 = .ok (.return_, 1) := dk_177 (dk_at dksJ3_init_1 4 rfl rfl)
abbrev cJ3_init_2 : ByteArray := prog_37_method_2_code
def yJ3_init_2 : MethodName := ⟨RJ3, "<init>", "(Ljava/lang/String;)V"⟩
def dkwJ3_init_2_1 : List UInt8 := [182, 0, 27, 87, 42, 43, 181, 0, 31, 177]
abbrev dktJ3_init_2_1 : List UInt8 := dkwJ3_init_2_1 ++ []
def dkwJ3_init_2_0 : List UInt8 := [42, 183, 0, 1, 42, 42, 181, 0, 7, 42, 178, 0, 13, 181, 0, 17, 42, 178, 0, 20, 181, 0, 24, 42]
abbrev dktJ3_init_2_0 : List UInt8 := dkwJ3_init_2_0 ++ dktJ3_init_2_1
theorem dksJ3_init_2_0 : cJ3_init_2.data.toList.drop 0 = dktJ3_init_2_0 := by decide +kernel
theorem dksJ3_init_2_1 : cJ3_init_2.data.toList.drop 24 = dktJ3_init_2_1 := dk_seg dksJ3_init_2_0 24 rfl rfl
theorem dJ3_init_2_0 : decode cJ3_init_2 0 = .ok (.aload_n 0, 1) := dk_42 (dk_at dksJ3_init_2_0 0 rfl rfl)
theorem dJ3_init_2_1 : decode cJ3_init_2 1 = .ok (.invokespecial 1, 3) := dk_183 0 1 (dk_at dksJ3_init_2_0 1 rfl rfl)
theorem dJ3_init_2_4 : decode cJ3_init_2 4 = .ok (.aload_n 0, 1) := dk_42 (dk_at dksJ3_init_2_0 4 rfl rfl)
theorem dJ3_init_2_5 : decode cJ3_init_2 5 = .ok (.aload_n 0, 1) := dk_42 (dk_at dksJ3_init_2_0 5 rfl rfl)
theorem dJ3_init_2_6 : decode cJ3_init_2 6 = .ok (.putfield 7, 3) := dk_181 0 7 (dk_at dksJ3_init_2_0 6 rfl rfl)
theorem dJ3_init_2_9 : decode cJ3_init_2 9 = .ok (.aload_n 0, 1) := dk_42 (dk_at dksJ3_init_2_0 9 rfl rfl)
theorem dJ3_init_2_10 : decode cJ3_init_2 10 = .ok (.getstatic 13, 3) := dk_178 0 13 (dk_at dksJ3_init_2_0 10 rfl rfl)
theorem dJ3_init_2_13 : decode cJ3_init_2 13 = .ok (.putfield 17, 3) := dk_181 0 17 (dk_at dksJ3_init_2_0 13 rfl rfl)
theorem dJ3_init_2_16 : decode cJ3_init_2 16 = .ok (.aload_n 0, 1) := dk_42 (dk_at dksJ3_init_2_0 16 rfl rfl)
theorem dJ3_init_2_17 : decode cJ3_init_2 17 = .ok (.getstatic 20, 3) := dk_178 0 20 (dk_at dksJ3_init_2_0 17 rfl rfl)
theorem dJ3_init_2_20 : decode cJ3_init_2 20 = .ok (.putfield 24, 3) := dk_181 0 24 (dk_at dksJ3_init_2_0 20 rfl rfl)
theorem dJ3_init_2_23 : decode cJ3_init_2 23 = .ok (.aload_n 0, 1) := dk_42 (dk_at dksJ3_init_2_0 23 rfl rfl)
theorem dJ3_init_2_24 : decode cJ3_init_2 24 = .ok (.invokevirtual 27, 3) := dk_182 0 27 (dk_at dksJ3_init_2_1 0 rfl rfl)
theorem dJ3_init_2_27 : decode cJ3_init_2 27 = .ok (.pop, 1) := dk_87 (dk_at dksJ3_init_2_1 3 rfl rfl)
theorem dJ3_init_2_28 : decode cJ3_init_2 28 = .ok (.aload_n 0, 1) := dk_42 (dk_at dksJ3_init_2_1 4 rfl rfl)
theorem dJ3_init_2_29 : decode cJ3_init_2 29 = .ok (.aload_n 1, 1) := dk_43 (dk_at dksJ3_init_2_1 5 rfl rfl)
theorem dJ3_init_2_30 : decode cJ3_init_2 30 = .ok (.putfield 31, 3) := dk_181 0 31 (dk_at dksJ3_init_2_1 6 rfl rfl)
theorem dJ3_init_2_33 : decode cJ3_init_2 33 = .ok (.return_, 1) := dk_177 (dk_at dksJ3_init_2_1 9 rfl rfl)
abbrev cJ3_init_3 : ByteArray := prog_37_method_5_code
def yJ3_init_3 : MethodName := ⟨RJ3, "<init>", "(Ljava/lang/String;Ljava/lang/Throwable;ZZ)V"⟩
def dkwJ3_init_3_2 : List UInt8 := [44, 181, 0, 7, 29, 154, 0, 8, 42, 1, 181, 0, 24, 177]
abbrev dktJ3_init_3_2 : List UInt8 := dkwJ3_init_3_2 ++ []
def dkwJ3_init_3_1 : List UInt8 := [21, 4, 153, 0, 11, 42, 182, 0, 27, 87, 167, 0, 8, 42, 1, 181, 0, 17, 42, 43, 181, 0, 31, 42]
abbrev dktJ3_init_3_1 : List UInt8 := dkwJ3_init_3_1 ++ dktJ3_init_3_2
def dkwJ3_init_3_0 : List UInt8 := [42, 183, 0, 1, 42, 42, 181, 0, 7, 42, 178, 0, 13, 181, 0, 17, 42, 178, 0, 20, 181, 0, 24]
abbrev dktJ3_init_3_0 : List UInt8 := dkwJ3_init_3_0 ++ dktJ3_init_3_1
theorem dksJ3_init_3_0 : cJ3_init_3.data.toList.drop 0 = dktJ3_init_3_0 := by decide +kernel
theorem dksJ3_init_3_1 : cJ3_init_3.data.toList.drop 23 = dktJ3_init_3_1 := dk_seg dksJ3_init_3_0 23 rfl rfl
theorem dksJ3_init_3_2 : cJ3_init_3.data.toList.drop 47 = dktJ3_init_3_2 := dk_seg dksJ3_init_3_1 24 rfl rfl
theorem dJ3_init_3_0 : decode cJ3_init_3 0 = .ok (.aload_n 0, 1) := dk_42 (dk_at dksJ3_init_3_0 0 rfl rfl)
theorem dJ3_init_3_1 : decode cJ3_init_3 1 = .ok (.invokespecial 1, 3) := dk_183 0 1 (dk_at dksJ3_init_3_0 1 rfl rfl)
theorem dJ3_init_3_4 : decode cJ3_init_3 4 = .ok (.aload_n 0, 1) := dk_42 (dk_at dksJ3_init_3_0 4 rfl rfl)
theorem dJ3_init_3_5 : decode cJ3_init_3 5 = .ok (.aload_n 0, 1) := dk_42 (dk_at dksJ3_init_3_0 5 rfl rfl)
theorem dJ3_init_3_6 : decode cJ3_init_3 6 = .ok (.putfield 7, 3) := dk_181 0 7 (dk_at dksJ3_init_3_0 6 rfl rfl)
theorem dJ3_init_3_9 : decode cJ3_init_3 9 = .ok (.aload_n 0, 1) := dk_42 (dk_at dksJ3_init_3_0 9 rfl rfl)
theorem dJ3_init_3_10 : decode cJ3_init_3 10 = .ok (.getstatic 13, 3) := dk_178 0 13 (dk_at dksJ3_init_3_0 10 rfl rfl)
theorem dJ3_init_3_13 : decode cJ3_init_3 13 = .ok (.putfield 17, 3) := dk_181 0 17 (dk_at dksJ3_init_3_0 13 rfl rfl)
theorem dJ3_init_3_16 : decode cJ3_init_3 16 = .ok (.aload_n 0, 1) := dk_42 (dk_at dksJ3_init_3_0 16 rfl rfl)
theorem dJ3_init_3_17 : decode cJ3_init_3 17 = .ok (.getstatic 20, 3) := dk_178 0 20 (dk_at dksJ3_init_3_0 17 rfl rfl)
theorem dJ3_init_3_20 : decode cJ3_init_3 20 = .ok (.putfield 24, 3) := dk_181 0 24 (dk_at dksJ3_init_3_0 20 rfl rfl)
theorem dJ3_init_3_23 : decode cJ3_init_3 23 = .ok (.iload 4, 2) := dk_21 4 (dk_at dksJ3_init_3_1 0 rfl rfl)
theorem dJ3_init_3_25 : decode cJ3_init_3 25 = .ok (.ifCond .eq 11, 3) := dk_153 0 11 (dk_at dksJ3_init_3_1 2 rfl rfl)
theorem dJ3_init_3_28 : decode cJ3_init_3 28 = .ok (.aload_n 0, 1) := dk_42 (dk_at dksJ3_init_3_1 5 rfl rfl)
theorem dJ3_init_3_29 : decode cJ3_init_3 29 = .ok (.invokevirtual 27, 3) := dk_182 0 27 (dk_at dksJ3_init_3_1 6 rfl rfl)
theorem dJ3_init_3_32 : decode cJ3_init_3 32 = .ok (.pop, 1) := dk_87 (dk_at dksJ3_init_3_1 9 rfl rfl)
theorem dJ3_init_3_33 : decode cJ3_init_3 33 = .ok (.goto 8, 3) := dk_167 0 8 (dk_at dksJ3_init_3_1 10 rfl rfl)
theorem dJ3_init_3_36 : decode cJ3_init_3 36 = .ok (.aload_n 0, 1) := dk_42 (dk_at dksJ3_init_3_1 13 rfl rfl)
theorem dJ3_init_3_37 : decode cJ3_init_3 37 = .ok (.aconst_null, 1) := dk_1 (dk_at dksJ3_init_3_1 14 rfl rfl)
theorem dJ3_init_3_38 : decode cJ3_init_3 38 = .ok (.putfield 17, 3) := dk_181 0 17 (dk_at dksJ3_init_3_1 15 rfl rfl)
theorem dJ3_init_3_41 : decode cJ3_init_3 41 = .ok (.aload_n 0, 1) := dk_42 (dk_at dksJ3_init_3_1 18 rfl rfl)
theorem dJ3_init_3_42 : decode cJ3_init_3 42 = .ok (.aload_n 1, 1) := dk_43 (dk_at dksJ3_init_3_1 19 rfl rfl)
theorem dJ3_init_3_43 : decode cJ3_init_3 43 = .ok (.putfield 31, 3) := dk_181 0 31 (dk_at dksJ3_init_3_1 20 rfl rfl)
theorem dJ3_init_3_46 : decode cJ3_init_3 46 = .ok (.aload_n 0, 1) := dk_42 (dk_at dksJ3_init_3_1 23 rfl rfl)
theorem dJ3_init_3_47 : decode cJ3_init_3 47 = .ok (.aload_n 2, 1) := dk_44 (dk_at dksJ3_init_3_2 0 rfl rfl)
theorem dJ3_init_3_48 : decode cJ3_init_3 48 = .ok (.putfield 7, 3) := dk_181 0 7 (dk_at dksJ3_init_3_2 1 rfl rfl)
theorem dJ3_init_3_51 : decode cJ3_init_3 51 = .ok (.iload_n 3, 1) := dk_29 (dk_at dksJ3_init_3_2 4 rfl rfl)
theorem dJ3_init_3_52 : decode cJ3_init_3 52 = .ok (.ifCond .ne 8, 3) := dk_154 0 8 (dk_at dksJ3_init_3_2 5 rfl rfl)
theorem dJ3_init_3_55 : decode cJ3_init_3 55 = .ok (.aload_n 0, 1) := dk_42 (dk_at dksJ3_init_3_2 8 rfl rfl)
theorem dJ3_init_3_56 : decode cJ3_init_3 56 = .ok (.aconst_null, 1) := dk_1 (dk_at dksJ3_init_3_2 9 rfl rfl)
theorem dJ3_init_3_57 : decode cJ3_init_3 57 = .ok (.putfield 24, 3) := dk_181 0 24 (dk_at dksJ3_init_3_2 10 rfl rfl)
theorem dJ3_init_3_60 : decode cJ3_init_3 60 = .ok (.return_, 1) := dk_177 (dk_at dksJ3_init_3_2 13 rfl rfl)
theorem q120 : (Jvm.Cond.initialized "java/lang/Throwable") ∈ lw_all := lw_g (lw_at lw_m1 8 rfl) rfl
theorem q267 : (Jvm.Cond.declares ({ cls := "java/lang/Throwable", name := "<init>", desc := "()V" } : Jvm.MethodName)) ∈ lw_tbl := lw_at lw_m1 155 rfl
theorem q268 : (Jvm.Cond.declares ({ cls := "java/lang/Throwable", name := "<init>", desc := "(Ljava/lang/String;)V" } : Jvm.MethodName)) ∈ lw_tbl := lw_at lw_m1 156 rfl
theorem q272 : (Jvm.Cond.lays "java/lang/Throwable" "java/lang/Throwable" "cause" "Ljava/lang/Throwable;") ∈ lw_all := lw_g (lw_at lw_m1 160 rfl) rfl
theorem q274 : (Jvm.Cond.lays "java/lang/Throwable" "java/lang/Throwable" "stackTrace" "[Ljava/lang/StackTraceElement;") ∈ lw_all := lw_g (lw_at lw_m1 162 rfl) rfl
theorem q276 : (Jvm.Cond.lays "java/lang/Throwable" "java/lang/Throwable" "suppressedExceptions" "Ljava/util/List;") ∈ lw_all := lw_g (lw_at lw_m1 164 rfl) rfl
theorem q278 : (Jvm.Cond.lays "java/lang/Throwable" "java/lang/Throwable" "detailMessage" "Ljava/lang/String;") ∈ lw_all := lw_g (lw_at lw_m1 166 rfl) rfl
theorem q280 : (Jvm.Cond.lays "java/lang/Throwable" "java/lang/Throwable" "backtrace" "Ljava/lang/Object;") ∈ lw_all := lw_g (lw_at lw_m1 168 rfl) rfl
theorem q281 : (Jvm.Cond.fieldLink "java/lang/Throwable" (198 : Nat) "java/lang/Throwable" "backtrace" "Ljava/lang/Object;") ∈ lw_all := lw_g (lw_at lw_m1 169 rfl) rfl
theorem q282 : (Jvm.Cond.superclass "java/lang/Throwable" "java/lang/Object") ∈ lw_all := lw_g (lw_at lw_m1 170 rfl) rfl
theorem q283 : (Jvm.Cond.instanceMethod ({ cls := "java/lang/Throwable", name := "<init>", desc := "()V" } : Jvm.MethodName)) ∈ lw_all := lw_g (lw_at lw_m1 171 rfl) rfl
theorem q284 : (Jvm.Cond.code ({ cls := "java/lang/Throwable", name := "<init>", desc := "()V" } : Jvm.MethodName) prog_37_method_1_code (1 : Nat) (Option.none : Option Jvm.ClassFile.FieldType)) ∈ lw_all := lw_g (lw_at lw_m1 172 rfl) rfl
theorem q285 : (Jvm.Cond.methodLink "java/lang/Throwable" (1 : Nat) ({ cls := "java/lang/Object", name := "<init>", desc := "()V" } : Jvm.MethodName)) ∈ lw_all := lw_g (lw_at lw_m1 173 rfl) rfl
theorem q286 : (Jvm.Cond.fieldLink "java/lang/Throwable" (13 : Nat) "java/lang/Throwable" "UNASSIGNED_STACK" "[Ljava/lang/StackTraceElement;") ∈ lw_all := lw_g (lw_at lw_m1 174 rfl) rfl
theorem q287 : (Jvm.Cond.laysStatic "java/lang/Throwable" "UNASSIGNED_STACK" "[Ljava/lang/StackTraceElement;") ∈ lw_tbl := lw_at lw_m1 175 rfl
theorem q288 : (Jvm.Cond.fieldLink "java/lang/Throwable" (20 : Nat) "java/lang/Throwable" "SUPPRESSED_SENTINEL" "Ljava/util/List;") ∈ lw_all := lw_g (lw_at lw_m1 176 rfl) rfl
theorem q289 : (Jvm.Cond.laysStatic "java/lang/Throwable" "SUPPRESSED_SENTINEL" "Ljava/util/List;") ∈ lw_tbl := lw_at lw_m1 177 rfl
theorem q290 : (Jvm.Cond.methodLink "java/lang/Throwable" (27 : Nat) ({ cls := "java/lang/Throwable", name := "fillInStackTrace", desc := "()Ljava/lang/Throwable;" } : Jvm.MethodName)) ∈ lw_all := lw_g (lw_at lw_m1 178 rfl) rfl
theorem q291 : (Jvm.Cond.instanceMethod ({ cls := "java/lang/Throwable", name := "fillInStackTrace", desc := "()Ljava/lang/Throwable;" } : Jvm.MethodName)) ∈ lw_all := lw_g (lw_at lw_m1 179 rfl) rfl
theorem q292 : (Jvm.Cond.sameMethod "java/lang/Throwable" "java/lang/Throwable" "fillInStackTrace" "()Ljava/lang/Throwable;") ∈ lw_all := lw_g (lw_at lw_m1 180 rfl) rfl
theorem q298 : (Jvm.Cond.codeSync ({ cls := "java/lang/Throwable", name := "fillInStackTrace", desc := "()Ljava/lang/Throwable;" } : Jvm.MethodName) prog_37_method_18_code (1 : Nat) (Option.some (Jvm.ClassFile.FieldType.object "java/lang/Throwable"))) ∈ lw_all := lw_g (lw_at lw_m1 186 rfl) rfl
theorem q299 : (Jvm.Cond.methodLink "java/lang/Throwable" (202 : Nat) ({ cls := "java/lang/Throwable", name := "fillInStackTrace", desc := "(I)Ljava/lang/Throwable;" } : Jvm.MethodName)) ∈ lw_all := lw_g (lw_at lw_m1 187 rfl) rfl
theorem q300 : (Jvm.Cond.privateMethod ({ cls := "java/lang/Throwable", name := "fillInStackTrace", desc := "(I)Ljava/lang/Throwable;" } : Jvm.MethodName)) ∈ lw_tbl := lw_at lw_m1 188 rfl
theorem q301 : (Jvm.Cond.instanceMethod ({ cls := "java/lang/Throwable", name := "fillInStackTrace", desc := "(I)Ljava/lang/Throwable;" } : Jvm.MethodName)) ∈ lw_all := lw_g (lw_at lw_m1 189 rfl) rfl
theorem q302 : (Jvm.Cond.instantiable "java/lang/Throwable" (6 : Nat)) ∈ lw_all := lw_g (lw_at lw_m1 190 rfl) rfl
theorem q303 : (Jvm.Cond.native ({ cls := "java/lang/Throwable", name := "fillInStackTrace", desc := "(I)Ljava/lang/Throwable;" } : Jvm.MethodName)) ∈ lw_all := lw_g (lw_at lw_m1 191 rfl) rfl
theorem q534 : (Jvm.Cond.instanceMethod ({ cls := "java/lang/Throwable", name := "<init>", desc := "(Ljava/lang/String;)V" } : Jvm.MethodName)) ∈ lw_all := lw_g (lw_at lw_m2 182 rfl) rfl
theorem q535 : (Jvm.Cond.code ({ cls := "java/lang/Throwable", name := "<init>", desc := "(Ljava/lang/String;)V" } : Jvm.MethodName) prog_37_method_2_code (2 : Nat) (Option.none : Option Jvm.ClassFile.FieldType)) ∈ lw_all := lw_g (lw_at lw_m2 183 rfl) rfl
theorem q536 : (Jvm.Cond.fieldLink "java/lang/Throwable" (198 : Nat) "java/lang/Throwable" "backtrace" "Ljava/lang/Object;") ∈ lw_all := lw_g (lw_at lw_m2 184 rfl) rfl
theorem q537 : (Jvm.Cond.fieldLink "java/lang/Throwable" (31 : Nat) "java/lang/Throwable" "detailMessage" "Ljava/lang/String;") ∈ lw_all := lw_g (lw_at lw_m2 185 rfl) rfl
theorem q538 : (Jvm.Cond.fieldLink "java/lang/Throwable" (7 : Nat) "java/lang/Throwable" "cause" "Ljava/lang/Throwable;") ∈ lw_all := lw_g (lw_at lw_m2 186 rfl) rfl
theorem q539 : (Jvm.Cond.fieldLink "java/lang/Throwable" (17 : Nat) "java/lang/Throwable" "stackTrace" "[Ljava/lang/StackTraceElement;") ∈ lw_all := lw_g (lw_at lw_m2 187 rfl) rfl
theorem q540 : (Jvm.Cond.fieldLink "java/lang/Throwable" (24 : Nat) "java/lang/Throwable" "suppressedExceptions" "Ljava/util/List;") ∈ lw_all := lw_g (lw_at lw_m2 188 rfl) rfl
theorem q541 : (Jvm.Cond.soleField "java/lang/Throwable" "backtrace") ∈ lw_all := lw_g (lw_at lw_m2 189 rfl) rfl
theorem q542 : (Jvm.Cond.soleField "java/lang/Throwable" "detailMessage") ∈ lw_all := lw_g (lw_at lw_m2 190 rfl) rfl
theorem q543 : (Jvm.Cond.soleField "java/lang/Throwable" "cause") ∈ lw_all := lw_g (lw_at lw_m2 191 rfl) rfl
theorem q544 : (Jvm.Cond.soleField "java/lang/Throwable" "stackTrace") ∈ lw_all := lw_g (lw_at lw_m2 192 rfl) rfl
theorem q546 : (Jvm.Cond.soleField "java/lang/Throwable" "depth") ∈ lw_all := lw_g (lw_at lw_m2 194 rfl) rfl
theorem q547 : (Jvm.Cond.soleField "java/lang/Throwable" "suppressedExceptions") ∈ lw_all := lw_g (lw_at lw_m2 195 rfl) rfl
theorem q1415 : (Jvm.Cond.instanceMethod ({ cls := "java/lang/Throwable", name := "<init>", desc := "(Ljava/lang/String;Ljava/lang/Throwable;ZZ)V" } : Jvm.MethodName)) ∈ lw_all := lw_g (lw_at lw_m6 103 rfl) rfl
theorem q1416 : (Jvm.Cond.code ({ cls := "java/lang/Throwable", name := "<init>", desc := "(Ljava/lang/String;Ljava/lang/Throwable;ZZ)V" } : Jvm.MethodName) prog_37_method_5_code (5 : Nat) (Option.none : Option Jvm.ClassFile.FieldType)) ∈ lw_all := lw_g (lw_at lw_m6 104 rfl) rfl
theorem q2536 : (Jvm.Cond.sameMethod "java/lang/Throwable" "java/lang/Throwable" "fillInStackTrace" "(I)Ljava/lang/Throwable;") ∈ lw_all := lw_g (lw_at lw_m11 24 rfl) rfl
theorem q2575 : (Jvm.Cond.castable "java/lang/Throwable" "java/lang/Object") ∈ lw_tbl := lw_at lw_m11 63 rfl
theorem in_J3 : ∀ w ∈ wsJ30, w ∈ lw_all := lw_in wsJ30 [272, 274, 276, 278, 280] (by decide +kernel) (by decide +kernel)
/-! java/lang/Exception -/
set_option maxRecDepth 100000
def RJ4 : String := "java/lang/Exception"
abbrev cJ4_init : ByteArray := prog_22_method_2_code
def yJ4_init : MethodName := ⟨RJ4, "<init>", "(Ljava/lang/String;)V"⟩
def dkwJ4_init_0 : List UInt8 := [42, 43, 183, 0, 7, 177]
abbrev dktJ4_init_0 : List UInt8 := dkwJ4_init_0 ++ []
theorem dksJ4_init_0 : cJ4_init.data.toList.drop 0 = dktJ4_init_0 := by decide +kernel
theorem dJ4_init_0 : decode cJ4_init 0 = .ok (.aload_n 0, 1) := dk_42 (dk_at dksJ4_init_0 0 rfl rfl)
theorem dJ4_init_1 : decode cJ4_init 1 = .ok (.aload_n 1, 1) := dk_43 (dk_at dksJ4_init_0 1 rfl rfl)
theorem dJ4_init_2 : decode cJ4_init 2 = .ok (.invokespecial 7, 3) := dk_183 0 7 (dk_at dksJ4_init_0 2 rfl rfl)
theorem dJ4_init_5 : decode cJ4_init 5 = .ok (.return_, 1) := dk_177 (dk_at dksJ4_init_0 5 rfl rfl)
abbrev cJ4_init_2 : ByteArray := prog_22_method_5_code
def yJ4_init_2 : MethodName := ⟨RJ4, "<init>", "(Ljava/lang/String;Ljava/lang/Throwable;ZZ)V"⟩
def dkwJ4_init_2_0 : List UInt8 := [42, 43, 44, 29, 21, 4, 183, 0, 16, 177]
abbrev dktJ4_init_2_0 : List UInt8 := dkwJ4_init_2_0 ++ []
theorem dksJ4_init_2_0 : cJ4_init_2.data.toList.drop 0 = dktJ4_init_2_0 := by decide +kernel
theorem dJ4_init_2_0 : decode cJ4_init_2 0 = .ok (.aload_n 0, 1) := dk_42 (dk_at dksJ4_init_2_0 0 rfl rfl)
theorem dJ4_init_2_1 : decode cJ4_init_2 1 = .ok (.aload_n 1, 1) := dk_43 (dk_at dksJ4_init_2_0 1 rfl rfl)
theorem dJ4_init_2_2 : decode cJ4_init_2 2 = .ok (.aload_n 2, 1) := dk_44 (dk_at dksJ4_init_2_0 2 rfl rfl)
theorem dJ4_init_2_3 : decode cJ4_init_2 3 = .ok (.iload_n 3, 1) := dk_29 (dk_at dksJ4_init_2_0 3 rfl rfl)
theorem dJ4_init_2_4 : decode cJ4_init_2 4 = .ok (.iload 4, 2) := dk_21 4 (dk_at dksJ4_init_2_0 4 rfl rfl)
theorem dJ4_init_2_6 : decode cJ4_init_2 6 = .ok (.invokespecial 16, 3) := dk_183 0 16 (dk_at dksJ4_init_2_0 6 rfl rfl)
theorem dJ4_init_2_9 : decode cJ4_init_2 9 = .ok (.return_, 1) := dk_177 (dk_at dksJ4_init_2_0 9 rfl rfl)
theorem q121 : (Jvm.Cond.initialized "java/lang/Exception") ∈ lw_all := lw_g (lw_at lw_m1 9 rfl) rfl
theorem q265 : (Jvm.Cond.declares ({ cls := "java/lang/Exception", name := "<init>", desc := "()V" } : Jvm.MethodName)) ∈ lw_tbl := lw_at lw_m1 153 rfl
theorem q266 : (Jvm.Cond.declares ({ cls := "java/lang/Exception", name := "<init>", desc := "(Ljava/lang/String;)V" } : Jvm.MethodName)) ∈ lw_tbl := lw_at lw_m1 154 rfl
theorem q531 : (Jvm.Cond.instanceMethod ({ cls := "java/lang/Exception", name := "<init>", desc := "(Ljava/lang/String;)V" } : Jvm.MethodName)) ∈ lw_all := lw_g (lw_at lw_m2 179 rfl) rfl
theorem q532 : (Jvm.Cond.code ({ cls := "java/lang/Exception", name := "<init>", desc := "(Ljava/lang/String;)V" } : Jvm.MethodName) prog_22_method_2_code (2 : Nat) (Option.none : Option Jvm.ClassFile.FieldType)) ∈ lw_all := lw_g (lw_at lw_m2 180 rfl) rfl
theorem q533 : (Jvm.Cond.methodLink "java/lang/Exception" (7 : Nat) ({ cls := "java/lang/Throwable", name := "<init>", desc := "(Ljava/lang/String;)V" } : Jvm.MethodName)) ∈ lw_all := lw_g (lw_at lw_m2 181 rfl) rfl
theorem q1412 : (Jvm.Cond.instanceMethod ({ cls := "java/lang/Exception", name := "<init>", desc := "(Ljava/lang/String;Ljava/lang/Throwable;ZZ)V" } : Jvm.MethodName)) ∈ lw_all := lw_g (lw_at lw_m6 100 rfl) rfl
theorem q1413 : (Jvm.Cond.code ({ cls := "java/lang/Exception", name := "<init>", desc := "(Ljava/lang/String;Ljava/lang/Throwable;ZZ)V" } : Jvm.MethodName) prog_22_method_5_code (5 : Nat) (Option.none : Option Jvm.ClassFile.FieldType)) ∈ lw_all := lw_g (lw_at lw_m6 101 rfl) rfl
theorem q1414 : (Jvm.Cond.methodLink "java/lang/Exception" (16 : Nat) ({ cls := "java/lang/Throwable", name := "<init>", desc := "(Ljava/lang/String;Ljava/lang/Throwable;ZZ)V" } : Jvm.MethodName)) ∈ lw_all := lw_g (lw_at lw_m6 102 rfl) rfl
/-! java/lang/RuntimeException -/
set_option maxRecDepth 100000
def RJ5 : String := "java/lang/RuntimeException"
abbrev cJ5_init : ByteArray := prog_30_method_2_code
def yJ5_init : MethodName := ⟨RJ5, "<init>", "(Ljava/lang/String;)V"⟩
def dkwJ5_init_0 : List UInt8 := [42, 43, 183, 0, 7, 177]
abbrev dktJ5_init_0 : List UInt8 := dkwJ5_init_0 ++ []
theorem dksJ5_init_0 : cJ5_init.data.toList.drop 0 = dktJ5_init_0 := by decide +kernel
theorem dJ5_init_0 : decode cJ5_init 0 = .ok (.aload_n 0, 1) := dk_42 (dk_at dksJ5_init_0 0 rfl rfl)
theorem dJ5_init_1 : decode cJ5_init 1 = .ok (.aload_n 1, 1) := dk_43 (dk_at dksJ5_init_0 1 rfl rfl)
theorem dJ5_init_2 : decode cJ5_init 2 = .ok (.invokespecial 7, 3) := dk_183 0 7 (dk_at dksJ5_init_0 2 rfl rfl)
theorem dJ5_init_5 : decode cJ5_init 5 = .ok (.return_, 1) := dk_177 (dk_at dksJ5_init_0 5 rfl rfl)
theorem q122 : (Jvm.Cond.initialized "java/lang/RuntimeException") ∈ lw_all := lw_g (lw_at lw_m1 10 rfl) rfl
theorem q263 : (Jvm.Cond.declares ({ cls := "java/lang/RuntimeException", name := "<init>", desc := "()V" } : Jvm.MethodName)) ∈ lw_tbl := lw_at lw_m1 151 rfl
theorem q264 : (Jvm.Cond.declares ({ cls := "java/lang/RuntimeException", name := "<init>", desc := "(Ljava/lang/String;)V" } : Jvm.MethodName)) ∈ lw_tbl := lw_at lw_m1 152 rfl
theorem q528 : (Jvm.Cond.instanceMethod ({ cls := "java/lang/RuntimeException", name := "<init>", desc := "(Ljava/lang/String;)V" } : Jvm.MethodName)) ∈ lw_all := lw_g (lw_at lw_m2 176 rfl) rfl
theorem q529 : (Jvm.Cond.code ({ cls := "java/lang/RuntimeException", name := "<init>", desc := "(Ljava/lang/String;)V" } : Jvm.MethodName) prog_30_method_2_code (2 : Nat) (Option.none : Option Jvm.ClassFile.FieldType)) ∈ lw_all := lw_g (lw_at lw_m2 177 rfl) rfl
theorem q530 : (Jvm.Cond.methodLink "java/lang/RuntimeException" (7 : Nat) ({ cls := "java/lang/Exception", name := "<init>", desc := "(Ljava/lang/String;)V" } : Jvm.MethodName)) ∈ lw_all := lw_g (lw_at lw_m2 178 rfl) rfl
/-! java/lang/IllegalArgumentException -/
set_option maxRecDepth 100000
def RJ6 : String := "java/lang/IllegalArgumentException"
def TJ6 : u_T := fun k => match k with
  | 0 => ("java/lang/Throwable", "cause", "Ljava/lang/Throwable;", false)
  | 1 => ("java/lang/Throwable", "stackTrace", "[Ljava/lang/StackTraceElement;", false)
  | 2 => ("java/lang/Throwable", "suppressedExceptions", "Ljava/util/List;", false)
  | 3 => ("java/lang/Throwable", "detailMessage", "Ljava/lang/String;", false)
  | 4 => ("java/lang/Throwable", "backtrace", "Ljava/lang/Object;", false)
  | _ => ("java/lang/Throwable", "depth", "I", false)
def tyJ6 : Nat → FieldType := fun k => match k with
  | 0 => .object "java/lang/Throwable"
  | 1 => .array (.object "java/lang/StackTraceElement")
  | 2 => .object "java/util/List"
  | 3 => .object "java/lang/String"
  | 4 => .object "java/lang/Object"
  | _ => .int
abbrev wsJ60 : List Cond := u_ws RJ6 TJ6 6
theorem nmJ6 : ∀ a, a < 6 → ∀ b, b < 6 → a ≠ b → (TJ6 a).2.1 ≠ (TJ6 b).2.1 := by decide +kernel
theorem tyJ6_ok : ∀ k, k < 6 → parseFieldDescriptor (TJ6 k).2.2.1 = some (tyJ6 k) := by decide +kernel
abbrev cJ6_init : ByteArray := prog_23_method_2_code
def yJ6_init : MethodName := ⟨RJ6, "<init>", "(Ljava/lang/String;)V"⟩
def dkwJ6_init_0 : List UInt8 := [42, 43, 183, 0, 7, 177]
abbrev dktJ6_init_0 : List UInt8 := dkwJ6_init_0 ++ []
theorem dksJ6_init_0 : cJ6_init.data.toList.drop 0 = dktJ6_init_0 := by decide +kernel
theorem dJ6_init_0 : decode cJ6_init 0 = .ok (.aload_n 0, 1) := dk_42 (dk_at dksJ6_init_0 0 rfl rfl)
theorem dJ6_init_1 : decode cJ6_init 1 = .ok (.aload_n 1, 1) := dk_43 (dk_at dksJ6_init_0 1 rfl rfl)
theorem dJ6_init_2 : decode cJ6_init 2 = .ok (.invokespecial 7, 3) := dk_183 0 7 (dk_at dksJ6_init_0 2 rfl rfl)
theorem dJ6_init_5 : decode cJ6_init 5 = .ok (.return_, 1) := dk_177 (dk_at dksJ6_init_0 5 rfl rfl)
theorem q123 : (Jvm.Cond.initialized "java/lang/IllegalArgumentException") ∈ lw_all := lw_g (lw_at lw_m1 11 rfl) rfl
theorem q261 : (Jvm.Cond.instantiable "java/lang/IllegalArgumentException" (6 : Nat)) ∈ lw_all := lw_g (lw_at lw_m1 149 rfl) rfl
theorem q262 : (Jvm.Cond.castable "java/lang/IllegalArgumentException" "java/lang/IllegalArgumentException") ∈ lw_tbl := lw_at lw_m1 150 rfl
theorem q269 : (Jvm.Cond.selects "java/lang/IllegalArgumentException" ({ cls := "java/lang/Throwable", name := "fillInStackTrace", desc := "(I)Ljava/lang/Throwable;" } : Jvm.MethodName) ({ cls := "java/lang/Throwable", name := "fillInStackTrace", desc := "(I)Ljava/lang/Throwable;" } : Jvm.MethodName)) ∈ lw_all := lw_g (lw_at lw_m1 157 rfl) rfl
theorem q270 : (Jvm.Cond.selects "java/lang/IllegalArgumentException" ({ cls := "java/lang/Throwable", name := "fillInStackTrace", desc := "()Ljava/lang/Throwable;" } : Jvm.MethodName) ({ cls := "java/lang/Throwable", name := "fillInStackTrace", desc := "()Ljava/lang/Throwable;" } : Jvm.MethodName)) ∈ lw_all := lw_g (lw_at lw_m1 158 rfl) rfl
theorem q271 : (Jvm.Cond.lays "java/lang/IllegalArgumentException" "java/lang/Throwable" "cause" "Ljava/lang/Throwable;") ∈ lw_all := lw_g (lw_at lw_m1 159 rfl) rfl
theorem q273 : (Jvm.Cond.lays "java/lang/IllegalArgumentException" "java/lang/Throwable" "stackTrace" "[Ljava/lang/StackTraceElement;") ∈ lw_all := lw_g (lw_at lw_m1 161 rfl) rfl
theorem q275 : (Jvm.Cond.lays "java/lang/IllegalArgumentException" "java/lang/Throwable" "suppressedExceptions" "Ljava/util/List;") ∈ lw_all := lw_g (lw_at lw_m1 163 rfl) rfl
theorem q277 : (Jvm.Cond.lays "java/lang/IllegalArgumentException" "java/lang/Throwable" "detailMessage" "Ljava/lang/String;") ∈ lw_all := lw_g (lw_at lw_m1 165 rfl) rfl
theorem q279 : (Jvm.Cond.lays "java/lang/IllegalArgumentException" "java/lang/Throwable" "backtrace" "Ljava/lang/Object;") ∈ lw_all := lw_g (lw_at lw_m1 167 rfl) rfl
theorem q525 : (Jvm.Cond.instanceMethod ({ cls := "java/lang/IllegalArgumentException", name := "<init>", desc := "(Ljava/lang/String;)V" } : Jvm.MethodName)) ∈ lw_all := lw_g (lw_at lw_m2 173 rfl) rfl
theorem q526 : (Jvm.Cond.code ({ cls := "java/lang/IllegalArgumentException", name := "<init>", desc := "(Ljava/lang/String;)V" } : Jvm.MethodName) prog_23_method_2_code (2 : Nat) (Option.none : Option Jvm.ClassFile.FieldType)) ∈ lw_all := lw_g (lw_at lw_m2 174 rfl) rfl
theorem q527 : (Jvm.Cond.methodLink "java/lang/IllegalArgumentException" (7 : Nat) ({ cls := "java/lang/RuntimeException", name := "<init>", desc := "(Ljava/lang/String;)V" } : Jvm.MethodName)) ∈ lw_all := lw_g (lw_at lw_m2 175 rfl) rfl
theorem q545 : (Jvm.Cond.lays "java/lang/IllegalArgumentException" "java/lang/Throwable" "depth" "I") ∈ lw_all := lw_g (lw_at lw_m2 193 rfl) rfl
theorem q548 : (Jvm.Cond.superclass "java/lang/IllegalArgumentException" "java/lang/RuntimeException") ∈ lw_all := lw_g (lw_at lw_m2 196 rfl) rfl
theorem q971 : (Jvm.Cond.selects "java/lang/IllegalArgumentException" ({ cls := "java/lang/Object", name := "getClass", desc := "()Ljava/lang/Class;" } : Jvm.MethodName) ({ cls := "java/lang/Object", name := "getClass", desc := "()Ljava/lang/Class;" } : Jvm.MethodName)) ∈ lw_all := lw_g (lw_at lw_m4 139 rfl) rfl
theorem q2560 : (Jvm.Cond.castable "java/lang/IllegalArgumentException" "java/lang/Object") ∈ lw_tbl := lw_at lw_m11 48 rfl
theorem in_J6 : ∀ w ∈ wsJ60, w ∈ lw_all := lw_in wsJ60 [271, 273, 275, 277, 279, 545] (by decide +kernel) (by decide +kernel)
/-! java/lang/AbstractStringBuilder -/
set_option maxRecDepth 100000
def RJ7 : String := "java/lang/AbstractStringBuilder"
abbrev cJ7_init : ByteArray := prog_16_method_2_code
def yJ7_init : MethodName := ⟨RJ7, "<init>", "(I)V"⟩
def dkwJ7_init_1 : List UInt8 := [167, 0, 16, 42, 27, 184, 0, 26, 181, 0, 15, 42, 4, 181, 0, 22, 177]
abbrev dktJ7_init_1 : List UInt8 := dkwJ7_init_1 ++ []
def dkwJ7_init_0 : List UInt8 := [42, 183, 0, 3, 178, 0, 18, 153, 0, 18, 42, 27, 188, 8, 181, 0, 15, 42, 3, 181, 0, 22]
abbrev dktJ7_init_0 : List UInt8 := dkwJ7_init_0 ++ dktJ7_init_1
theorem dksJ7_init_0 : cJ7_init.data.toList.drop 0 = dktJ7_init_0 := by decide +kernel
theorem dksJ7_init_1 : cJ7_init.data.toList.drop 22 = dktJ7_init_1 := dk_seg dksJ7_init_0 22 rfl rfl
theorem dJ7_init_0 : decode cJ7_init 0 = .ok (.aload_n 0, 1) := dk_42 (dk_at dksJ7_init_0 0 rfl rfl)
theorem dJ7_init_1 : decode cJ7_init 1 = .ok (.invokespecial 3, 3) := dk_183 0 3 (dk_at dksJ7_init_0 1 rfl rfl)
theorem dJ7_init_4 : decode cJ7_init 4 = .ok (.getstatic 18, 3) := dk_178 0 18 (dk_at dksJ7_init_0 4 rfl rfl)
theorem dJ7_init_7 : decode cJ7_init 7 = .ok (.ifCond .eq 18, 3) := dk_153 0 18 (dk_at dksJ7_init_0 7 rfl rfl)
theorem dJ7_init_10 : decode cJ7_init 10 = .ok (.aload_n 0, 1) := dk_42 (dk_at dksJ7_init_0 10 rfl rfl)
theorem dJ7_init_11 : decode cJ7_init 11 = .ok (.iload_n 1, 1) := dk_27 (dk_at dksJ7_init_0 11 rfl rfl)
theorem dJ7_init_12 : decode cJ7_init 12 = .ok (.newarray .byte, 2) := dk_188_8 (dk_at dksJ7_init_0 12 rfl rfl)
theorem dJ7_init_14 : decode cJ7_init 14 = .ok (.putfield 15, 3) := dk_181 0 15 (dk_at dksJ7_init_0 14 rfl rfl)
theorem dJ7_init_17 : decode cJ7_init 17 = .ok (.aload_n 0, 1) := dk_42 (dk_at dksJ7_init_0 17 rfl rfl)
theorem dJ7_init_18 : decode cJ7_init 18 = .ok (.iconst 0, 1) := dk_3 (dk_at dksJ7_init_0 18 rfl rfl)
theorem dJ7_init_19 : decode cJ7_init 19 = .ok (.putfield 22, 3) := dk_181 0 22 (dk_at dksJ7_init_0 19 rfl rfl)
theorem dJ7_init_22 : decode cJ7_init 22 = .ok (.goto 16, 3) := dk_167 0 16 (dk_at dksJ7_init_1 0 rfl rfl)
theorem dJ7_init_25 : decode cJ7_init 25 = .ok (.aload_n 0, 1) := dk_42 (dk_at dksJ7_init_1 3 rfl rfl)
theorem dJ7_init_26 : decode cJ7_init 26 = .ok (.iload_n 1, 1) := dk_27 (dk_at dksJ7_init_1 4 rfl rfl)
theorem dJ7_init_27 : decode cJ7_init 27 = .ok (.invokestatic 26, 3) := dk_184 0 26 (dk_at dksJ7_init_1 5 rfl rfl)
theorem dJ7_init_30 : decode cJ7_init 30 = .ok (.putfield 15, 3) := dk_181 0 15 (dk_at dksJ7_init_1 8 rfl rfl)
theorem dJ7_init_33 : decode cJ7_init 33 = .ok (.aload_n 0, 1) := dk_42 (dk_at dksJ7_init_1 11 rfl rfl)
theorem dJ7_init_34 : decode cJ7_init 34 = .ok (.iconst 1, 1) := dk_4 (dk_at dksJ7_init_1 12 rfl rfl)
theorem dJ7_init_35 : decode cJ7_init 35 = .ok (.putfield 22, 3) := dk_181 0 22 (dk_at dksJ7_init_1 13 rfl rfl)
theorem dJ7_init_38 : decode cJ7_init 38 = .ok (.return_, 1) := dk_177 (dk_at dksJ7_init_1 16 rfl rfl)
abbrev cJ7_append : ByteArray := prog_16_method_22_code
def yJ7_append : MethodName := ⟨RJ7, "append", "(Ljava/lang/String;)Ljava/lang/AbstractStringBuilder;"⟩
def dkwJ7_append_1 : List UInt8 := [42, 42, 180, 0, 79, 43, 182, 0, 208, 42, 89, 180, 0, 79, 28, 96, 181, 0, 79, 42, 176]
abbrev dktJ7_append_1 : List UInt8 := dkwJ7_append_1 ++ []
def dkwJ7_append_0 : List UInt8 := [43, 199, 0, 8, 42, 182, 0, 204, 176, 43, 182, 0, 32, 61, 42, 42, 180, 0, 79, 28, 96, 182, 0, 100]
abbrev dktJ7_append_0 : List UInt8 := dkwJ7_append_0 ++ dktJ7_append_1
theorem dksJ7_append_0 : cJ7_append.data.toList.drop 0 = dktJ7_append_0 := by decide +kernel
theorem dksJ7_append_1 : cJ7_append.data.toList.drop 24 = dktJ7_append_1 := dk_seg dksJ7_append_0 24 rfl rfl
theorem dJ7_append_0 : decode cJ7_append 0 = .ok (.aload_n 1, 1) := dk_43 (dk_at dksJ7_append_0 0 rfl rfl)
theorem dJ7_append_1 : decode cJ7_append 1 = .ok (.ifnonnull 8, 3) := dk_199 0 8 (dk_at dksJ7_append_0 1 rfl rfl)
theorem dJ7_append_4 : decode cJ7_append 4 = .ok (.aload_n 0, 1) := dk_42 (dk_at dksJ7_append_0 4 rfl rfl)
theorem dJ7_append_5 : decode cJ7_append 5 = .ok (.invokevirtual 204, 3) := dk_182 0 204 (dk_at dksJ7_append_0 5 rfl rfl)
theorem dJ7_append_8 : decode cJ7_append 8 = .ok (.areturn, 1) := dk_176 (dk_at dksJ7_append_0 8 rfl rfl)
theorem dJ7_append_9 : decode cJ7_append 9 = .ok (.aload_n 1, 1) := dk_43 (dk_at dksJ7_append_0 9 rfl rfl)
theorem dJ7_append_10 : decode cJ7_append 10 = .ok (.invokevirtual 32, 3) := dk_182 0 32 (dk_at dksJ7_append_0 10 rfl rfl)
theorem dJ7_append_13 : decode cJ7_append 13 = .ok (.istore_n 2, 1) := dk_61 (dk_at dksJ7_append_0 13 rfl rfl)
theorem dJ7_append_14 : decode cJ7_append 14 = .ok (.aload_n 0, 1) := dk_42 (dk_at dksJ7_append_0 14 rfl rfl)
theorem dJ7_append_15 : decode cJ7_append 15 = .ok (.aload_n 0, 1) := dk_42 (dk_at dksJ7_append_0 15 rfl rfl)
theorem dJ7_append_16 : decode cJ7_append 16 = .ok (.getfield 79, 3) := dk_180 0 79 (dk_at dksJ7_append_0 16 rfl rfl)
theorem dJ7_append_19 : decode cJ7_append 19 = .ok (.iload_n 2, 1) := dk_28 (dk_at dksJ7_append_0 19 rfl rfl)
theorem dJ7_append_20 : decode cJ7_append 20 = .ok (.iadd, 1) := dk_96 (dk_at dksJ7_append_0 20 rfl rfl)
theorem dJ7_append_21 : decode cJ7_append 21 = .ok (.invokevirtual 100, 3) := dk_182 0 100 (dk_at dksJ7_append_0 21 rfl rfl)
theorem dJ7_append_24 : decode cJ7_append 24 = .ok (.aload_n 0, 1) := dk_42 (dk_at dksJ7_append_1 0 rfl rfl)
theorem dJ7_append_25 : decode cJ7_append 25 = .ok (.aload_n 0, 1) := dk_42 (dk_at dksJ7_append_1 1 rfl rfl)
theorem dJ7_append_26 : decode cJ7_append 26 = .ok (.getfield 79, 3) := dk_180 0 79 (dk_at dksJ7_append_1 2 rfl rfl)
theorem dJ7_append_29 : decode cJ7_append 29 = .ok (.aload_n 1, 1) := dk_43 (dk_at dksJ7_append_1 5 rfl rfl)
theorem dJ7_append_30 : decode cJ7_append 30 = .ok (.invokevirtual 208, 3) := dk_182 0 208 (dk_at dksJ7_append_1 6 rfl rfl)
theorem dJ7_append_33 : decode cJ7_append 33 = .ok (.aload_n 0, 1) := dk_42 (dk_at dksJ7_append_1 9 rfl rfl)
theorem dJ7_append_34 : decode cJ7_append 34 = .ok (.dup, 1) := dk_89 (dk_at dksJ7_append_1 10 rfl rfl)
theorem dJ7_append_35 : decode cJ7_append 35 = .ok (.getfield 79, 3) := dk_180 0 79 (dk_at dksJ7_append_1 11 rfl rfl)
theorem dJ7_append_38 : decode cJ7_append 38 = .ok (.iload_n 2, 1) := dk_28 (dk_at dksJ7_append_1 14 rfl rfl)
theorem dJ7_append_39 : decode cJ7_append 39 = .ok (.iadd, 1) := dk_96 (dk_at dksJ7_append_1 15 rfl rfl)
theorem dJ7_append_40 : decode cJ7_append 40 = .ok (.putfield 79, 3) := dk_181 0 79 (dk_at dksJ7_append_1 16 rfl rfl)
theorem dJ7_append_43 : decode cJ7_append 43 = .ok (.aload_n 0, 1) := dk_42 (dk_at dksJ7_append_1 19 rfl rfl)
theorem dJ7_append_44 : decode cJ7_append 44 = .ok (.areturn, 1) := dk_176 (dk_at dksJ7_append_1 20 rfl rfl)
abbrev cJ7_appendNull : ByteArray := prog_16_method_26_code
def yJ7_appendNull : MethodName := ⟨RJ7, "appendNull", "()Ljava/lang/AbstractStringBuilder;"⟩
def dkwJ7_appendNull_3 : List UInt8 := [184, 0, 226, 60, 42, 27, 181, 0, 79, 42, 176]
abbrev dktJ7_appendNull_3 : List UInt8 := dkwJ7_appendNull_3 ++ []
def dkwJ7_appendNull_2 : List UInt8 := [16, 108, 84, 44, 27, 132, 1, 1, 16, 108, 84, 167, 0, 17, 44, 27, 16, 110, 16, 117, 16, 108, 16, 108]
abbrev dktJ7_appendNull_2 : List UInt8 := dkwJ7_appendNull_2 ++ dktJ7_appendNull_3
def dkwJ7_appendNull_1 : List UInt8 := [153, 0, 38, 44, 27, 132, 1, 1, 16, 110, 84, 44, 27, 132, 1, 1, 16, 117, 84, 44, 27, 132, 1, 1]
abbrev dktJ7_appendNull_1 : List UInt8 := dkwJ7_appendNull_1 ++ dktJ7_appendNull_2
def dkwJ7_appendNull_0 : List UInt8 := [42, 42, 180, 0, 79, 7, 96, 182, 0, 100, 42, 180, 0, 79, 60, 42, 180, 0, 15, 77, 42, 182, 0, 83]
abbrev dktJ7_appendNull_0 : List UInt8 := dkwJ7_appendNull_0 ++ dktJ7_appendNull_1
theorem dksJ7_appendNull_0 : cJ7_appendNull.data.toList.drop 0 = dktJ7_appendNull_0 := by decide +kernel
theorem dksJ7_appendNull_1 : cJ7_appendNull.data.toList.drop 24 = dktJ7_appendNull_1 := dk_seg dksJ7_appendNull_0 24 rfl rfl
theorem dksJ7_appendNull_2 : cJ7_appendNull.data.toList.drop 48 = dktJ7_appendNull_2 := dk_seg dksJ7_appendNull_1 24 rfl rfl
theorem dksJ7_appendNull_3 : cJ7_appendNull.data.toList.drop 72 = dktJ7_appendNull_3 := dk_seg dksJ7_appendNull_2 24 rfl rfl
theorem dJ7_appendNull_0 : decode cJ7_appendNull 0 = .ok (.aload_n 0, 1) := dk_42 (dk_at dksJ7_appendNull_0 0 rfl rfl)
theorem dJ7_appendNull_1 : decode cJ7_appendNull 1 = .ok (.aload_n 0, 1) := dk_42 (dk_at dksJ7_appendNull_0 1 rfl rfl)
theorem dJ7_appendNull_2 : decode cJ7_appendNull 2 = .ok (.getfield 79, 3) := dk_180 0 79 (dk_at dksJ7_appendNull_0 2 rfl rfl)
theorem dJ7_appendNull_5 : decode cJ7_appendNull 5 = .ok (.iconst 4, 1) := dk_7 (dk_at dksJ7_appendNull_0 5 rfl rfl)
theorem dJ7_appendNull_6 : decode cJ7_appendNull 6 = .ok (.iadd, 1) := dk_96 (dk_at dksJ7_appendNull_0 6 rfl rfl)
theorem dJ7_appendNull_7 : decode cJ7_appendNull 7 = .ok (.invokevirtual 100, 3) := dk_182 0 100 (dk_at dksJ7_appendNull_0 7 rfl rfl)
theorem dJ7_appendNull_10 : decode cJ7_appendNull 10 = .ok (.aload_n 0, 1) := dk_42 (dk_at dksJ7_appendNull_0 10 rfl rfl)
theorem dJ7_appendNull_11 : decode cJ7_appendNull 11 = .ok (.getfield 79, 3) := dk_180 0 79 (dk_at dksJ7_appendNull_0 11 rfl rfl)
theorem dJ7_appendNull_14 : decode cJ7_appendNull 14 = .ok (.istore_n 1, 1) := dk_60 (dk_at dksJ7_appendNull_0 14 rfl rfl)
theorem dJ7_appendNull_15 : decode cJ7_appendNull 15 = .ok (.aload_n 0, 1) := dk_42 (dk_at dksJ7_appendNull_0 15 rfl rfl)
theorem dJ7_appendNull_16 : decode cJ7_appendNull 16 = .ok (.getfield 15, 3) := dk_180 0 15 (dk_at dksJ7_appendNull_0 16 rfl rfl)
theorem dJ7_appendNull_19 : decode cJ7_appendNull 19 = .ok (.astore_n 2, 1) := dk_77 (dk_at dksJ7_appendNull_0 19 rfl rfl)
theorem dJ7_appendNull_20 : decode cJ7_appendNull 20 = .ok (.aload_n 0, 1) := dk_42 (dk_at dksJ7_appendNull_0 20 rfl rfl)
theorem dJ7_appendNull_21 : decode cJ7_appendNull 21 = .ok (.invokevirtual 83, 3) := dk_182 0 83 (dk_at dksJ7_appendNull_0 21 rfl rfl)
theorem dJ7_appendNull_24 : decode cJ7_appendNull 24 = .ok (.ifCond .eq 38, 3) := dk_153 0 38 (dk_at dksJ7_appendNull_1 0 rfl rfl)
theorem dJ7_appendNull_27 : decode cJ7_appendNull 27 = .ok (.aload_n 2, 1) := dk_44 (dk_at dksJ7_appendNull_1 3 rfl rfl)
theorem dJ7_appendNull_28 : decode cJ7_appendNull 28 = .ok (.iload_n 1, 1) := dk_27 (dk_at dksJ7_appendNull_1 4 rfl rfl)
theorem dJ7_appendNull_29 : decode cJ7_appendNull 29 = .ok (.iinc 1 1, 3) := dk_132 1 1 (dk_at dksJ7_appendNull_1 5 rfl rfl)
theorem dJ7_appendNull_32 : decode cJ7_appendNull 32 = .ok (.bipush 110, 2) := dk_16 110 (dk_at dksJ7_appendNull_1 8 rfl rfl)
theorem dJ7_appendNull_34 : decode cJ7_appendNull 34 = .ok (.bastore, 1) := dk_84 (dk_at dksJ7_appendNull_1 10 rfl rfl)
theorem dJ7_appendNull_35 : decode cJ7_appendNull 35 = .ok (.aload_n 2, 1) := dk_44 (dk_at dksJ7_appendNull_1 11 rfl rfl)
theorem dJ7_appendNull_36 : decode cJ7_appendNull 36 = .ok (.iload_n 1, 1) := dk_27 (dk_at dksJ7_appendNull_1 12 rfl rfl)
theorem dJ7_appendNull_37 : decode cJ7_appendNull 37 = .ok (.iinc 1 1, 3) := dk_132 1 1 (dk_at dksJ7_appendNull_1 13 rfl rfl)
theorem dJ7_appendNull_40 : decode cJ7_appendNull 40 = .ok (.bipush 117, 2) := dk_16 117 (dk_at dksJ7_appendNull_1 16 rfl rfl)
theorem dJ7_appendNull_42 : decode cJ7_appendNull 42 = .ok (.bastore, 1) := dk_84 (dk_at dksJ7_appendNull_1 18 rfl rfl)
theorem dJ7_appendNull_43 : decode cJ7_appendNull 43 = .ok (.aload_n 2, 1) := dk_44 (dk_at dksJ7_appendNull_1 19 rfl rfl)
theorem dJ7_appendNull_44 : decode cJ7_appendNull 44 = .ok (.iload_n 1, 1) := dk_27 (dk_at dksJ7_appendNull_1 20 rfl rfl)
theorem dJ7_appendNull_45 : decode cJ7_appendNull 45 = .ok (.iinc 1 1, 3) := dk_132 1 1 (dk_at dksJ7_appendNull_1 21 rfl rfl)
theorem dJ7_appendNull_48 : decode cJ7_appendNull 48 = .ok (.bipush 108, 2) := dk_16 108 (dk_at dksJ7_appendNull_2 0 rfl rfl)
theorem dJ7_appendNull_50 : decode cJ7_appendNull 50 = .ok (.bastore, 1) := dk_84 (dk_at dksJ7_appendNull_2 2 rfl rfl)
theorem dJ7_appendNull_51 : decode cJ7_appendNull 51 = .ok (.aload_n 2, 1) := dk_44 (dk_at dksJ7_appendNull_2 3 rfl rfl)
theorem dJ7_appendNull_52 : decode cJ7_appendNull 52 = .ok (.iload_n 1, 1) := dk_27 (dk_at dksJ7_appendNull_2 4 rfl rfl)
theorem dJ7_appendNull_53 : decode cJ7_appendNull 53 = .ok (.iinc 1 1, 3) := dk_132 1 1 (dk_at dksJ7_appendNull_2 5 rfl rfl)
theorem dJ7_appendNull_56 : decode cJ7_appendNull 56 = .ok (.bipush 108, 2) := dk_16 108 (dk_at dksJ7_appendNull_2 8 rfl rfl)
theorem dJ7_appendNull_58 : decode cJ7_appendNull 58 = .ok (.bastore, 1) := dk_84 (dk_at dksJ7_appendNull_2 10 rfl rfl)
theorem dJ7_appendNull_59 : decode cJ7_appendNull 59 = .ok (.goto 17, 3) := dk_167 0 17 (dk_at dksJ7_appendNull_2 11 rfl rfl)
theorem dJ7_appendNull_62 : decode cJ7_appendNull 62 = .ok (.aload_n 2, 1) := dk_44 (dk_at dksJ7_appendNull_2 14 rfl rfl)
theorem dJ7_appendNull_63 : decode cJ7_appendNull 63 = .ok (.iload_n 1, 1) := dk_27 (dk_at dksJ7_appendNull_2 15 rfl rfl)
theorem dJ7_appendNull_64 : decode cJ7_appendNull 64 = .ok (.bipush 110, 2) := dk_16 110 (dk_at dksJ7_appendNull_2 16 rfl rfl)
theorem dJ7_appendNull_66 : decode cJ7_appendNull 66 = .ok (.bipush 117, 2) := dk_16 117 (dk_at dksJ7_appendNull_2 18 rfl rfl)
theorem dJ7_appendNull_68 : decode cJ7_appendNull 68 = .ok (.bipush 108, 2) := dk_16 108 (dk_at dksJ7_appendNull_2 20 rfl rfl)
theorem dJ7_appendNull_70 : decode cJ7_appendNull 70 = .ok (.bipush 108, 2) := dk_16 108 (dk_at dksJ7_appendNull_2 22 rfl rfl)
theorem dJ7_appendNull_72 : decode cJ7_appendNull 72 = .ok (.invokestatic 226, 3) := dk_184 0 226 (dk_at dksJ7_appendNull_3 0 rfl rfl)
theorem dJ7_appendNull_75 : decode cJ7_appendNull 75 = .ok (.istore_n 1, 1) := dk_60 (dk_at dksJ7_appendNull_3 3 rfl rfl)
theorem dJ7_appendNull_76 : decode cJ7_appendNull 76 = .ok (.aload_n 0, 1) := dk_42 (dk_at dksJ7_appendNull_3 4 rfl rfl)
theorem dJ7_appendNull_77 : decode cJ7_appendNull 77 = .ok (.iload_n 1, 1) := dk_27 (dk_at dksJ7_appendNull_3 5 rfl rfl)
theorem dJ7_appendNull_78 : decode cJ7_appendNull 78 = .ok (.putfield 79, 3) := dk_181 0 79 (dk_at dksJ7_appendNull_3 6 rfl rfl)
theorem dJ7_appendNull_81 : decode cJ7_appendNull 81 = .ok (.aload_n 0, 1) := dk_42 (dk_at dksJ7_appendNull_3 9 rfl rfl)
theorem dJ7_appendNull_82 : decode cJ7_appendNull 82 = .ok (.areturn, 1) := dk_176 (dk_at dksJ7_appendNull_3 10 rfl rfl)
abbrev cJ7_ensureCapacityInternal : ByteArray := prog_16_method_9_code
def yJ7_ensureCapacityInternal : MethodName := ⟨RJ7, "ensureCapacityInternal", "(I)V"⟩
def dkwJ7_ensureCapacityInternal_1 : List UInt8 := [182, 0, 104, 42, 180, 0, 22, 120, 184, 0, 108, 181, 0, 15, 177]
abbrev dktJ7_ensureCapacityInternal_1 : List UInt8 := dkwJ7_ensureCapacityInternal_1 ++ []
def dkwJ7_ensureCapacityInternal_0 : List UInt8 := [42, 180, 0, 15, 190, 42, 180, 0, 22, 122, 61, 27, 28, 100, 158, 0, 24, 42, 42, 180, 0, 15, 42, 27]
abbrev dktJ7_ensureCapacityInternal_0 : List UInt8 := dkwJ7_ensureCapacityInternal_0 ++ dktJ7_ensureCapacityInternal_1
theorem dksJ7_ensureCapacityInternal_0 : cJ7_ensureCapacityInternal.data.toList.drop 0 = dktJ7_ensureCapacityInternal_0 := by decide +kernel
theorem dksJ7_ensureCapacityInternal_1 : cJ7_ensureCapacityInternal.data.toList.drop 24 = dktJ7_ensureCapacityInternal_1 := dk_seg dksJ7_ensureCapacityInternal_0 24 rfl rfl
theorem dJ7_ensureCapacityInternal_0 : decode cJ7_ensureCapacityInternal 0 = .ok (.aload_n 0, 1) := dk_42 (dk_at dksJ7_ensureCapacityInternal_0 0 rfl rfl)
theorem dJ7_ensureCapacityInternal_1 : decode cJ7_ensureCapacityInternal 1 = .ok (.getfield 15, 3) := dk_180 0 15 (dk_at dksJ7_ensureCapacityInternal_0 1 rfl rfl)
theorem dJ7_ensureCapacityInternal_4 : decode cJ7_ensureCapacityInternal 4 = .ok (.arraylength, 1) := dk_190 (dk_at dksJ7_ensureCapacityInternal_0 4 rfl rfl)
theorem dJ7_ensureCapacityInternal_5 : decode cJ7_ensureCapacityInternal 5 = .ok (.aload_n 0, 1) := dk_42 (dk_at dksJ7_ensureCapacityInternal_0 5 rfl rfl)
theorem dJ7_ensureCapacityInternal_6 : decode cJ7_ensureCapacityInternal 6 = .ok (.getfield 22, 3) := dk_180 0 22 (dk_at dksJ7_ensureCapacityInternal_0 6 rfl rfl)
theorem dJ7_ensureCapacityInternal_9 : decode cJ7_ensureCapacityInternal 9 = .ok (.ishr, 1) := dk_122 (dk_at dksJ7_ensureCapacityInternal_0 9 rfl rfl)
theorem dJ7_ensureCapacityInternal_10 : decode cJ7_ensureCapacityInternal 10 = .ok (.istore_n 2, 1) := dk_61 (dk_at dksJ7_ensureCapacityInternal_0 10 rfl rfl)
theorem dJ7_ensureCapacityInternal_11 : decode cJ7_ensureCapacityInternal 11 = .ok (.iload_n 1, 1) := dk_27 (dk_at dksJ7_ensureCapacityInternal_0 11 rfl rfl)
theorem dJ7_ensureCapacityInternal_12 : decode cJ7_ensureCapacityInternal 12 = .ok (.iload_n 2, 1) := dk_28 (dk_at dksJ7_ensureCapacityInternal_0 12 rfl rfl)
theorem dJ7_ensureCapacityInternal_13 : decode cJ7_ensureCapacityInternal 13 = .ok (.isub, 1) := dk_100 (dk_at dksJ7_ensureCapacityInternal_0 13 rfl rfl)
theorem dJ7_ensureCapacityInternal_14 : decode cJ7_ensureCapacityInternal 14 = .ok (.ifCond .le 24, 3) := dk_158 0 24 (dk_at dksJ7_ensureCapacityInternal_0 14 rfl rfl)
theorem dJ7_ensureCapacityInternal_17 : decode cJ7_ensureCapacityInternal 17 = .ok (.aload_n 0, 1) := dk_42 (dk_at dksJ7_ensureCapacityInternal_0 17 rfl rfl)
theorem dJ7_ensureCapacityInternal_18 : decode cJ7_ensureCapacityInternal 18 = .ok (.aload_n 0, 1) := dk_42 (dk_at dksJ7_ensureCapacityInternal_0 18 rfl rfl)
theorem dJ7_ensureCapacityInternal_19 : decode cJ7_ensureCapacityInternal 19 = .ok (.getfield 15, 3) := dk_180 0 15 (dk_at dksJ7_ensureCapacityInternal_0 19 rfl rfl)
theorem dJ7_ensureCapacityInternal_22 : decode cJ7_ensureCapacityInternal 22 = .ok (.aload_n 0, 1) := dk_42 (dk_at dksJ7_ensureCapacityInternal_0 22 rfl rfl)
theorem dJ7_ensureCapacityInternal_23 : decode cJ7_ensureCapacityInternal 23 = .ok (.iload_n 1, 1) := dk_27 (dk_at dksJ7_ensureCapacityInternal_0 23 rfl rfl)
theorem dJ7_ensureCapacityInternal_24 : decode cJ7_ensureCapacityInternal 24 = .ok (.invokevirtual 104, 3) := dk_182 0 104 (dk_at dksJ7_ensureCapacityInternal_1 0 rfl rfl)
theorem dJ7_ensureCapacityInternal_27 : decode cJ7_ensureCapacityInternal 27 = .ok (.aload_n 0, 1) := dk_42 (dk_at dksJ7_ensureCapacityInternal_1 3 rfl rfl)
theorem dJ7_ensureCapacityInternal_28 : decode cJ7_ensureCapacityInternal 28 = .ok (.getfield 22, 3) := dk_180 0 22 (dk_at dksJ7_ensureCapacityInternal_1 4 rfl rfl)
theorem dJ7_ensureCapacityInternal_31 : decode cJ7_ensureCapacityInternal 31 = .ok (.ishl, 1) := dk_120 (dk_at dksJ7_ensureCapacityInternal_1 7 rfl rfl)
theorem dJ7_ensureCapacityInternal_32 : decode cJ7_ensureCapacityInternal 32 = .ok (.invokestatic 108, 3) := dk_184 0 108 (dk_at dksJ7_ensureCapacityInternal_1 8 rfl rfl)
theorem dJ7_ensureCapacityInternal_35 : decode cJ7_ensureCapacityInternal 35 = .ok (.putfield 15, 3) := dk_181 0 15 (dk_at dksJ7_ensureCapacityInternal_1 11 rfl rfl)
theorem dJ7_ensureCapacityInternal_38 : decode cJ7_ensureCapacityInternal 38 = .ok (.return_, 1) := dk_177 (dk_at dksJ7_ensureCapacityInternal_1 14 rfl rfl)
abbrev cJ7_newCapacity : ByteArray := prog_16_method_10_code
def yJ7_newCapacity : MethodName := ⟨RJ7, "newCapacity", "(I)I"⟩
def dkwJ7_newCapacity_2 : List UInt8 := [183, 0, 124, 191, 21, 5, 42, 180, 0, 22, 122, 172]
abbrev dktJ7_newCapacity_2 : List UInt8 := dkwJ7_newCapacity_2 ++ []
def dkwJ7_newCapacity_1 : List UInt8 := [180, 0, 22, 120, 96, 184, 0, 114, 54, 5, 21, 5, 18, 39, 160, 0, 13, 187, 0, 120, 89, 18, 122]
abbrev dktJ7_newCapacity_1 : List UInt8 := dkwJ7_newCapacity_1 ++ dktJ7_newCapacity_2
def dkwJ7_newCapacity_0 : List UInt8 := [42, 180, 0, 15, 190, 61, 27, 42, 180, 0, 22, 120, 62, 29, 28, 100, 54, 4, 28, 21, 4, 28, 5, 42]
abbrev dktJ7_newCapacity_0 : List UInt8 := dkwJ7_newCapacity_0 ++ dktJ7_newCapacity_1
theorem dksJ7_newCapacity_0 : cJ7_newCapacity.data.toList.drop 0 = dktJ7_newCapacity_0 := by decide +kernel
theorem dksJ7_newCapacity_1 : cJ7_newCapacity.data.toList.drop 24 = dktJ7_newCapacity_1 := dk_seg dksJ7_newCapacity_0 24 rfl rfl
theorem dksJ7_newCapacity_2 : cJ7_newCapacity.data.toList.drop 47 = dktJ7_newCapacity_2 := dk_seg dksJ7_newCapacity_1 23 rfl rfl
theorem dJ7_newCapacity_0 : decode cJ7_newCapacity 0 = .ok (.aload_n 0, 1) := dk_42 (dk_at dksJ7_newCapacity_0 0 rfl rfl)
theorem dJ7_newCapacity_1 : decode cJ7_newCapacity 1 = .ok (.getfield 15, 3) := dk_180 0 15 (dk_at dksJ7_newCapacity_0 1 rfl rfl)
theorem dJ7_newCapacity_4 : decode cJ7_newCapacity 4 = .ok (.arraylength, 1) := dk_190 (dk_at dksJ7_newCapacity_0 4 rfl rfl)
theorem dJ7_newCapacity_5 : decode cJ7_newCapacity 5 = .ok (.istore_n 2, 1) := dk_61 (dk_at dksJ7_newCapacity_0 5 rfl rfl)
theorem dJ7_newCapacity_6 : decode cJ7_newCapacity 6 = .ok (.iload_n 1, 1) := dk_27 (dk_at dksJ7_newCapacity_0 6 rfl rfl)
theorem dJ7_newCapacity_7 : decode cJ7_newCapacity 7 = .ok (.aload_n 0, 1) := dk_42 (dk_at dksJ7_newCapacity_0 7 rfl rfl)
theorem dJ7_newCapacity_8 : decode cJ7_newCapacity 8 = .ok (.getfield 22, 3) := dk_180 0 22 (dk_at dksJ7_newCapacity_0 8 rfl rfl)
theorem dJ7_newCapacity_11 : decode cJ7_newCapacity 11 = .ok (.ishl, 1) := dk_120 (dk_at dksJ7_newCapacity_0 11 rfl rfl)
theorem dJ7_newCapacity_12 : decode cJ7_newCapacity 12 = .ok (.istore_n 3, 1) := dk_62 (dk_at dksJ7_newCapacity_0 12 rfl rfl)
theorem dJ7_newCapacity_13 : decode cJ7_newCapacity 13 = .ok (.iload_n 3, 1) := dk_29 (dk_at dksJ7_newCapacity_0 13 rfl rfl)
theorem dJ7_newCapacity_14 : decode cJ7_newCapacity 14 = .ok (.iload_n 2, 1) := dk_28 (dk_at dksJ7_newCapacity_0 14 rfl rfl)
theorem dJ7_newCapacity_15 : decode cJ7_newCapacity 15 = .ok (.isub, 1) := dk_100 (dk_at dksJ7_newCapacity_0 15 rfl rfl)
theorem dJ7_newCapacity_16 : decode cJ7_newCapacity 16 = .ok (.istore 4, 2) := dk_54 4 (dk_at dksJ7_newCapacity_0 16 rfl rfl)
theorem dJ7_newCapacity_18 : decode cJ7_newCapacity 18 = .ok (.iload_n 2, 1) := dk_28 (dk_at dksJ7_newCapacity_0 18 rfl rfl)
theorem dJ7_newCapacity_19 : decode cJ7_newCapacity 19 = .ok (.iload 4, 2) := dk_21 4 (dk_at dksJ7_newCapacity_0 19 rfl rfl)
theorem dJ7_newCapacity_21 : decode cJ7_newCapacity 21 = .ok (.iload_n 2, 1) := dk_28 (dk_at dksJ7_newCapacity_0 21 rfl rfl)
theorem dJ7_newCapacity_22 : decode cJ7_newCapacity 22 = .ok (.iconst 2, 1) := dk_5 (dk_at dksJ7_newCapacity_0 22 rfl rfl)
theorem dJ7_newCapacity_23 : decode cJ7_newCapacity 23 = .ok (.aload_n 0, 1) := dk_42 (dk_at dksJ7_newCapacity_0 23 rfl rfl)
theorem dJ7_newCapacity_24 : decode cJ7_newCapacity 24 = .ok (.getfield 22, 3) := dk_180 0 22 (dk_at dksJ7_newCapacity_1 0 rfl rfl)
theorem dJ7_newCapacity_27 : decode cJ7_newCapacity 27 = .ok (.ishl, 1) := dk_120 (dk_at dksJ7_newCapacity_1 3 rfl rfl)
theorem dJ7_newCapacity_28 : decode cJ7_newCapacity 28 = .ok (.iadd, 1) := dk_96 (dk_at dksJ7_newCapacity_1 4 rfl rfl)
theorem dJ7_newCapacity_29 : decode cJ7_newCapacity 29 = .ok (.invokestatic 114, 3) := dk_184 0 114 (dk_at dksJ7_newCapacity_1 5 rfl rfl)
theorem dJ7_newCapacity_32 : decode cJ7_newCapacity 32 = .ok (.istore 5, 2) := dk_54 5 (dk_at dksJ7_newCapacity_1 8 rfl rfl)
theorem dJ7_newCapacity_34 : decode cJ7_newCapacity 34 = .ok (.iload 5, 2) := dk_21 5 (dk_at dksJ7_newCapacity_1 10 rfl rfl)
theorem dJ7_newCapacity_36 : decode cJ7_newCapacity 36 = .ok (.ldc 39, 2) := dk_18 39 (dk_at dksJ7_newCapacity_1 12 rfl rfl)
theorem dJ7_newCapacity_38 : decode cJ7_newCapacity 38 = .ok (.if_icmp .ne 13, 3) := dk_160 0 13 (dk_at dksJ7_newCapacity_1 14 rfl rfl)
theorem dJ7_newCapacity_41 : decode cJ7_newCapacity 41 = .ok (.new 120, 3) := dk_187 0 120 (dk_at dksJ7_newCapacity_1 17 rfl rfl)
theorem dJ7_newCapacity_44 : decode cJ7_newCapacity 44 = .ok (.dup, 1) := dk_89 (dk_at dksJ7_newCapacity_1 20 rfl rfl)
theorem dJ7_newCapacity_45 : decode cJ7_newCapacity 45 = .ok (.ldc 122, 2) := dk_18 122 (dk_at dksJ7_newCapacity_1 21 rfl rfl)
theorem dJ7_newCapacity_47 : decode cJ7_newCapacity 47 = .ok (.invokespecial 124, 3) := dk_183 0 124 (dk_at dksJ7_newCapacity_2 0 rfl rfl)
theorem dJ7_newCapacity_50 : decode cJ7_newCapacity 50 = .ok (.athrow, 1) := dk_191 (dk_at dksJ7_newCapacity_2 3 rfl rfl)
theorem dJ7_newCapacity_51 : decode cJ7_newCapacity 51 = .ok (.iload 5, 2) := dk_21 5 (dk_at dksJ7_newCapacity_2 4 rfl rfl)
theorem dJ7_newCapacity_53 : decode cJ7_newCapacity 53 = .ok (.aload_n 0, 1) := dk_42 (dk_at dksJ7_newCapacity_2 6 rfl rfl)
theorem dJ7_newCapacity_54 : decode cJ7_newCapacity 54 = .ok (.getfield 22, 3) := dk_180 0 22 (dk_at dksJ7_newCapacity_2 7 rfl rfl)
theorem dJ7_newCapacity_57 : decode cJ7_newCapacity 57 = .ok (.ishr, 1) := dk_122 (dk_at dksJ7_newCapacity_2 10 rfl rfl)
theorem dJ7_newCapacity_58 : decode cJ7_newCapacity 58 = .ok (.ireturn, 1) := dk_172 (dk_at dksJ7_newCapacity_2 11 rfl rfl)
abbrev cJ7_isLatin1 : ByteArray := prog_16_method_68_code
def yJ7_isLatin1 : MethodName := ⟨RJ7, "isLatin1", "()Z"⟩
def dkwJ7_isLatin1_0 : List UInt8 := [178, 0, 18, 153, 0, 14, 42, 180, 0, 22, 154, 0, 7, 4, 167, 0, 4, 3, 172]
abbrev dktJ7_isLatin1_0 : List UInt8 := dkwJ7_isLatin1_0 ++ []
theorem dksJ7_isLatin1_0 : cJ7_isLatin1.data.toList.drop 0 = dktJ7_isLatin1_0 := by decide +kernel
theorem dJ7_isLatin1_0 : decode cJ7_isLatin1 0 = .ok (.getstatic 18, 3) := dk_178 0 18 (dk_at dksJ7_isLatin1_0 0 rfl rfl)
theorem dJ7_isLatin1_3 : decode cJ7_isLatin1 3 = .ok (.ifCond .eq 14, 3) := dk_153 0 14 (dk_at dksJ7_isLatin1_0 3 rfl rfl)
theorem dJ7_isLatin1_6 : decode cJ7_isLatin1 6 = .ok (.aload_n 0, 1) := dk_42 (dk_at dksJ7_isLatin1_0 6 rfl rfl)
theorem dJ7_isLatin1_7 : decode cJ7_isLatin1 7 = .ok (.getfield 22, 3) := dk_180 0 22 (dk_at dksJ7_isLatin1_0 7 rfl rfl)
theorem dJ7_isLatin1_10 : decode cJ7_isLatin1 10 = .ok (.ifCond .ne 7, 3) := dk_154 0 7 (dk_at dksJ7_isLatin1_0 10 rfl rfl)
theorem dJ7_isLatin1_13 : decode cJ7_isLatin1 13 = .ok (.iconst 1, 1) := dk_4 (dk_at dksJ7_isLatin1_0 13 rfl rfl)
theorem dJ7_isLatin1_14 : decode cJ7_isLatin1 14 = .ok (.goto 4, 3) := dk_167 0 4 (dk_at dksJ7_isLatin1_0 14 rfl rfl)
theorem dJ7_isLatin1_17 : decode cJ7_isLatin1 17 = .ok (.iconst 0, 1) := dk_3 (dk_at dksJ7_isLatin1_0 17 rfl rfl)
theorem dJ7_isLatin1_18 : decode cJ7_isLatin1 18 = .ok (.ireturn, 1) := dk_172 (dk_at dksJ7_isLatin1_0 18 rfl rfl)
abbrev cJ7_putStringAt : ByteArray := prog_16_method_73_code
def yJ7_putStringAt : MethodName := ⟨RJ7, "putStringAt", "(ILjava/lang/String;)V"⟩
def dkwJ7_putStringAt_0 : List UInt8 := [42, 44, 182, 1, 141, 44, 42, 180, 0, 15, 27, 42, 180, 0, 22, 182, 1, 143, 177]
abbrev dktJ7_putStringAt_0 : List UInt8 := dkwJ7_putStringAt_0 ++ []
theorem dksJ7_putStringAt_0 : cJ7_putStringAt.data.toList.drop 0 = dktJ7_putStringAt_0 := by decide +kernel
theorem dJ7_putStringAt_0 : decode cJ7_putStringAt 0 = .ok (.aload_n 0, 1) := dk_42 (dk_at dksJ7_putStringAt_0 0 rfl rfl)
theorem dJ7_putStringAt_1 : decode cJ7_putStringAt 1 = .ok (.aload_n 2, 1) := dk_44 (dk_at dksJ7_putStringAt_0 1 rfl rfl)
theorem dJ7_putStringAt_2 : decode cJ7_putStringAt 2 = .ok (.invokevirtual 397, 3) := dk_182 1 141 (dk_at dksJ7_putStringAt_0 2 rfl rfl)
theorem dJ7_putStringAt_5 : decode cJ7_putStringAt 5 = .ok (.aload_n 2, 1) := dk_44 (dk_at dksJ7_putStringAt_0 5 rfl rfl)
theorem dJ7_putStringAt_6 : decode cJ7_putStringAt 6 = .ok (.aload_n 0, 1) := dk_42 (dk_at dksJ7_putStringAt_0 6 rfl rfl)
theorem dJ7_putStringAt_7 : decode cJ7_putStringAt 7 = .ok (.getfield 15, 3) := dk_180 0 15 (dk_at dksJ7_putStringAt_0 7 rfl rfl)
theorem dJ7_putStringAt_10 : decode cJ7_putStringAt 10 = .ok (.iload_n 1, 1) := dk_27 (dk_at dksJ7_putStringAt_0 10 rfl rfl)
theorem dJ7_putStringAt_11 : decode cJ7_putStringAt 11 = .ok (.aload_n 0, 1) := dk_42 (dk_at dksJ7_putStringAt_0 11 rfl rfl)
theorem dJ7_putStringAt_12 : decode cJ7_putStringAt 12 = .ok (.getfield 22, 3) := dk_180 0 22 (dk_at dksJ7_putStringAt_0 12 rfl rfl)
theorem dJ7_putStringAt_15 : decode cJ7_putStringAt 15 = .ok (.invokevirtual 399, 3) := dk_182 1 143 (dk_at dksJ7_putStringAt_0 15 rfl rfl)
theorem dJ7_putStringAt_18 : decode cJ7_putStringAt 18 = .ok (.return_, 1) := dk_177 (dk_at dksJ7_putStringAt_0 18 rfl rfl)
abbrev cJ7_inflateIfNeededFor : ByteArray := prog_16_method_71_code
def yJ7_inflateIfNeededFor : MethodName := ⟨RJ7, "inflateIfNeededFor", "(Ljava/lang/String;)V"⟩
def dkwJ7_inflateIfNeededFor_0 : List UInt8 := [178, 0, 18, 153, 0, 18, 42, 180, 0, 22, 43, 182, 0, 40, 159, 0, 7, 42, 182, 0, 195, 177]
abbrev dktJ7_inflateIfNeededFor_0 : List UInt8 := dkwJ7_inflateIfNeededFor_0 ++ []
theorem dksJ7_inflateIfNeededFor_0 : cJ7_inflateIfNeededFor.data.toList.drop 0 = dktJ7_inflateIfNeededFor_0 := by decide +kernel
theorem dJ7_inflateIfNeededFor_0 : decode cJ7_inflateIfNeededFor 0 = .ok (.getstatic 18, 3) := dk_178 0 18 (dk_at dksJ7_inflateIfNeededFor_0 0 rfl rfl)
theorem dJ7_inflateIfNeededFor_3 : decode cJ7_inflateIfNeededFor 3 = .ok (.ifCond .eq 18, 3) := dk_153 0 18 (dk_at dksJ7_inflateIfNeededFor_0 3 rfl rfl)
theorem dJ7_inflateIfNeededFor_6 : decode cJ7_inflateIfNeededFor 6 = .ok (.aload_n 0, 1) := dk_42 (dk_at dksJ7_inflateIfNeededFor_0 6 rfl rfl)
theorem dJ7_inflateIfNeededFor_7 : decode cJ7_inflateIfNeededFor 7 = .ok (.getfield 22, 3) := dk_180 0 22 (dk_at dksJ7_inflateIfNeededFor_0 7 rfl rfl)
theorem dJ7_inflateIfNeededFor_10 : decode cJ7_inflateIfNeededFor 10 = .ok (.aload_n 1, 1) := dk_43 (dk_at dksJ7_inflateIfNeededFor_0 10 rfl rfl)
theorem dJ7_inflateIfNeededFor_11 : decode cJ7_inflateIfNeededFor 11 = .ok (.invokevirtual 40, 3) := dk_182 0 40 (dk_at dksJ7_inflateIfNeededFor_0 11 rfl rfl)
theorem dJ7_inflateIfNeededFor_14 : decode cJ7_inflateIfNeededFor 14 = .ok (.if_icmp .eq 7, 3) := dk_159 0 7 (dk_at dksJ7_inflateIfNeededFor_0 14 rfl rfl)
theorem dJ7_inflateIfNeededFor_17 : decode cJ7_inflateIfNeededFor 17 = .ok (.aload_n 0, 1) := dk_42 (dk_at dksJ7_inflateIfNeededFor_0 17 rfl rfl)
theorem dJ7_inflateIfNeededFor_18 : decode cJ7_inflateIfNeededFor 18 = .ok (.invokevirtual 195, 3) := dk_182 0 195 (dk_at dksJ7_inflateIfNeededFor_0 18 rfl rfl)
theorem dJ7_inflateIfNeededFor_21 : decode cJ7_inflateIfNeededFor 21 = .ok (.return_, 1) := dk_177 (dk_at dksJ7_inflateIfNeededFor_0 21 rfl rfl)
abbrev cJ7_inflate : ByteArray := prog_16_method_11_code
def yJ7_inflate : MethodName := ⟨RJ7, "inflate", "()V"⟩
def dkwJ7_inflate_1 : List UInt8 := [42, 180, 0, 79, 184, 0, 125, 42, 43, 181, 0, 15, 42, 4, 181, 0, 22, 177]
abbrev dktJ7_inflate_1 : List UInt8 := dkwJ7_inflate_1 ++ []
def dkwJ7_inflate_0 : List UInt8 := [42, 182, 0, 83, 154, 0, 4, 177, 42, 180, 0, 15, 190, 184, 0, 26, 76, 42, 180, 0, 15, 3, 43, 3]
abbrev dktJ7_inflate_0 : List UInt8 := dkwJ7_inflate_0 ++ dktJ7_inflate_1
theorem dksJ7_inflate_0 : cJ7_inflate.data.toList.drop 0 = dktJ7_inflate_0 := by decide +kernel
theorem dksJ7_inflate_1 : cJ7_inflate.data.toList.drop 24 = dktJ7_inflate_1 := dk_seg dksJ7_inflate_0 24 rfl rfl
theorem dJ7_inflate_0 : decode cJ7_inflate 0 = .ok (.aload_n 0, 1) := dk_42 (dk_at dksJ7_inflate_0 0 rfl rfl)
theorem dJ7_inflate_1 : decode cJ7_inflate 1 = .ok (.invokevirtual 83, 3) := dk_182 0 83 (dk_at dksJ7_inflate_0 1 rfl rfl)
theorem dJ7_inflate_4 : decode cJ7_inflate 4 = .ok (.ifCond .ne 4, 3) := dk_154 0 4 (dk_at dksJ7_inflate_0 4 rfl rfl)
theorem dJ7_inflate_7 : decode cJ7_inflate 7 = .ok (.return_, 1) := dk_177 (dk_at dksJ7_inflate_0 7 rfl rfl)
theorem dJ7_inflate_8 : decode cJ7_inflate 8 = .ok (.aload_n 0, 1) := dk_42 (dk_at dksJ7_inflate_0 8 rfl rfl)
theorem dJ7_inflate_9 : decode cJ7_inflate 9 = .ok (.getfield 15, 3) := dk_180 0 15 (dk_at dksJ7_inflate_0 9 rfl rfl)
theorem dJ7_inflate_12 : decode cJ7_inflate 12 = .ok (.arraylength, 1) := dk_190 (dk_at dksJ7_inflate_0 12 rfl rfl)
theorem dJ7_inflate_13 : decode cJ7_inflate 13 = .ok (.invokestatic 26, 3) := dk_184 0 26 (dk_at dksJ7_inflate_0 13 rfl rfl)
theorem dJ7_inflate_16 : decode cJ7_inflate 16 = .ok (.astore_n 1, 1) := dk_76 (dk_at dksJ7_inflate_0 16 rfl rfl)
theorem dJ7_inflate_17 : decode cJ7_inflate 17 = .ok (.aload_n 0, 1) := dk_42 (dk_at dksJ7_inflate_0 17 rfl rfl)
theorem dJ7_inflate_18 : decode cJ7_inflate 18 = .ok (.getfield 15, 3) := dk_180 0 15 (dk_at dksJ7_inflate_0 18 rfl rfl)
theorem dJ7_inflate_21 : decode cJ7_inflate 21 = .ok (.iconst 0, 1) := dk_3 (dk_at dksJ7_inflate_0 21 rfl rfl)
theorem dJ7_inflate_22 : decode cJ7_inflate 22 = .ok (.aload_n 1, 1) := dk_43 (dk_at dksJ7_inflate_0 22 rfl rfl)
theorem dJ7_inflate_23 : decode cJ7_inflate 23 = .ok (.iconst 0, 1) := dk_3 (dk_at dksJ7_inflate_0 23 rfl rfl)
theorem dJ7_inflate_24 : decode cJ7_inflate 24 = .ok (.aload_n 0, 1) := dk_42 (dk_at dksJ7_inflate_1 0 rfl rfl)
theorem dJ7_inflate_25 : decode cJ7_inflate 25 = .ok (.getfield 79, 3) := dk_180 0 79 (dk_at dksJ7_inflate_1 1 rfl rfl)
theorem dJ7_inflate_28 : decode cJ7_inflate 28 = .ok (.invokestatic 125, 3) := dk_184 0 125 (dk_at dksJ7_inflate_1 4 rfl rfl)
theorem dJ7_inflate_31 : decode cJ7_inflate 31 = .ok (.aload_n 0, 1) := dk_42 (dk_at dksJ7_inflate_1 7 rfl rfl)
theorem dJ7_inflate_32 : decode cJ7_inflate 32 = .ok (.aload_n 1, 1) := dk_43 (dk_at dksJ7_inflate_1 8 rfl rfl)
theorem dJ7_inflate_33 : decode cJ7_inflate 33 = .ok (.putfield 15, 3) := dk_181 0 15 (dk_at dksJ7_inflate_1 9 rfl rfl)
theorem dJ7_inflate_36 : decode cJ7_inflate 36 = .ok (.aload_n 0, 1) := dk_42 (dk_at dksJ7_inflate_1 12 rfl rfl)
theorem dJ7_inflate_37 : decode cJ7_inflate 37 = .ok (.iconst 1, 1) := dk_4 (dk_at dksJ7_inflate_1 13 rfl rfl)
theorem dJ7_inflate_38 : decode cJ7_inflate 38 = .ok (.putfield 22, 3) := dk_181 0 22 (dk_at dksJ7_inflate_1 14 rfl rfl)
theorem dJ7_inflate_41 : decode cJ7_inflate 41 = .ok (.return_, 1) := dk_177 (dk_at dksJ7_inflate_1 17 rfl rfl)
abbrev cJ7_append_2 : ByteArray := prog_16_method_32_code
def yJ7_append_2 : MethodName := ⟨RJ7, "append", "(I)Ljava/lang/AbstractStringBuilder;"⟩
def dkwJ7_append_2_2 : List UInt8 := [42, 29, 181, 0, 79, 42, 176]
abbrev dktJ7_append_2_2 : List UInt8 := dkwJ7_append_2_2 ++ []
def dkwJ7_append_2_1 : List UInt8 := [27, 29, 42, 180, 0, 15, 184, 0, 248, 87, 167, 0, 14, 27, 28, 29, 42, 180, 0, 15, 184, 0, 251, 87]
abbrev dktJ7_append_2_1 : List UInt8 := dkwJ7_append_2_1 ++ dktJ7_append_2_2
def dkwJ7_append_2_0 : List UInt8 := [42, 180, 0, 79, 61, 28, 27, 184, 0, 245, 96, 62, 42, 29, 182, 0, 100, 42, 182, 0, 83, 153, 0, 16]
abbrev dktJ7_append_2_0 : List UInt8 := dkwJ7_append_2_0 ++ dktJ7_append_2_1
theorem dksJ7_append_2_0 : cJ7_append_2.data.toList.drop 0 = dktJ7_append_2_0 := by decide +kernel
theorem dksJ7_append_2_1 : cJ7_append_2.data.toList.drop 24 = dktJ7_append_2_1 := dk_seg dksJ7_append_2_0 24 rfl rfl
theorem dksJ7_append_2_2 : cJ7_append_2.data.toList.drop 48 = dktJ7_append_2_2 := dk_seg dksJ7_append_2_1 24 rfl rfl
theorem dJ7_append_2_0 : decode cJ7_append_2 0 = .ok (.aload_n 0, 1) := dk_42 (dk_at dksJ7_append_2_0 0 rfl rfl)
theorem dJ7_append_2_1 : decode cJ7_append_2 1 = .ok (.getfield 79, 3) := dk_180 0 79 (dk_at dksJ7_append_2_0 1 rfl rfl)
theorem dJ7_append_2_4 : decode cJ7_append_2 4 = .ok (.istore_n 2, 1) := dk_61 (dk_at dksJ7_append_2_0 4 rfl rfl)
theorem dJ7_append_2_5 : decode cJ7_append_2 5 = .ok (.iload_n 2, 1) := dk_28 (dk_at dksJ7_append_2_0 5 rfl rfl)
theorem dJ7_append_2_6 : decode cJ7_append_2 6 = .ok (.iload_n 1, 1) := dk_27 (dk_at dksJ7_append_2_0 6 rfl rfl)
theorem dJ7_append_2_7 : decode cJ7_append_2 7 = .ok (.invokestatic 245, 3) := dk_184 0 245 (dk_at dksJ7_append_2_0 7 rfl rfl)
theorem dJ7_append_2_10 : decode cJ7_append_2 10 = .ok (.iadd, 1) := dk_96 (dk_at dksJ7_append_2_0 10 rfl rfl)
theorem dJ7_append_2_11 : decode cJ7_append_2 11 = .ok (.istore_n 3, 1) := dk_62 (dk_at dksJ7_append_2_0 11 rfl rfl)
theorem dJ7_append_2_12 : decode cJ7_append_2 12 = .ok (.aload_n 0, 1) := dk_42 (dk_at dksJ7_append_2_0 12 rfl rfl)
theorem dJ7_append_2_13 : decode cJ7_append_2 13 = .ok (.iload_n 3, 1) := dk_29 (dk_at dksJ7_append_2_0 13 rfl rfl)
theorem dJ7_append_2_14 : decode cJ7_append_2 14 = .ok (.invokevirtual 100, 3) := dk_182 0 100 (dk_at dksJ7_append_2_0 14 rfl rfl)
theorem dJ7_append_2_17 : decode cJ7_append_2 17 = .ok (.aload_n 0, 1) := dk_42 (dk_at dksJ7_append_2_0 17 rfl rfl)
theorem dJ7_append_2_18 : decode cJ7_append_2 18 = .ok (.invokevirtual 83, 3) := dk_182 0 83 (dk_at dksJ7_append_2_0 18 rfl rfl)
theorem dJ7_append_2_21 : decode cJ7_append_2 21 = .ok (.ifCond .eq 16, 3) := dk_153 0 16 (dk_at dksJ7_append_2_0 21 rfl rfl)
theorem dJ7_append_2_24 : decode cJ7_append_2 24 = .ok (.iload_n 1, 1) := dk_27 (dk_at dksJ7_append_2_1 0 rfl rfl)
theorem dJ7_append_2_25 : decode cJ7_append_2 25 = .ok (.iload_n 3, 1) := dk_29 (dk_at dksJ7_append_2_1 1 rfl rfl)
theorem dJ7_append_2_26 : decode cJ7_append_2 26 = .ok (.aload_n 0, 1) := dk_42 (dk_at dksJ7_append_2_1 2 rfl rfl)
theorem dJ7_append_2_27 : decode cJ7_append_2 27 = .ok (.getfield 15, 3) := dk_180 0 15 (dk_at dksJ7_append_2_1 3 rfl rfl)
theorem dJ7_append_2_30 : decode cJ7_append_2 30 = .ok (.invokestatic 248, 3) := dk_184 0 248 (dk_at dksJ7_append_2_1 6 rfl rfl)
theorem dJ7_append_2_33 : decode cJ7_append_2 33 = .ok (.pop, 1) := dk_87 (dk_at dksJ7_append_2_1 9 rfl rfl)
theorem dJ7_append_2_34 : decode cJ7_append_2 34 = .ok (.goto 14, 3) := dk_167 0 14 (dk_at dksJ7_append_2_1 10 rfl rfl)
theorem dJ7_append_2_37 : decode cJ7_append_2 37 = .ok (.iload_n 1, 1) := dk_27 (dk_at dksJ7_append_2_1 13 rfl rfl)
theorem dJ7_append_2_38 : decode cJ7_append_2 38 = .ok (.iload_n 2, 1) := dk_28 (dk_at dksJ7_append_2_1 14 rfl rfl)
theorem dJ7_append_2_39 : decode cJ7_append_2 39 = .ok (.iload_n 3, 1) := dk_29 (dk_at dksJ7_append_2_1 15 rfl rfl)
theorem dJ7_append_2_40 : decode cJ7_append_2 40 = .ok (.aload_n 0, 1) := dk_42 (dk_at dksJ7_append_2_1 16 rfl rfl)
theorem dJ7_append_2_41 : decode cJ7_append_2 41 = .ok (.getfield 15, 3) := dk_180 0 15 (dk_at dksJ7_append_2_1 17 rfl rfl)
theorem dJ7_append_2_44 : decode cJ7_append_2 44 = .ok (.invokestatic 251, 3) := dk_184 0 251 (dk_at dksJ7_append_2_1 20 rfl rfl)
theorem dJ7_append_2_47 : decode cJ7_append_2 47 = .ok (.pop, 1) := dk_87 (dk_at dksJ7_append_2_1 23 rfl rfl)
theorem dJ7_append_2_48 : decode cJ7_append_2 48 = .ok (.aload_n 0, 1) := dk_42 (dk_at dksJ7_append_2_2 0 rfl rfl)
theorem dJ7_append_2_49 : decode cJ7_append_2 49 = .ok (.iload_n 3, 1) := dk_29 (dk_at dksJ7_append_2_2 1 rfl rfl)
theorem dJ7_append_2_50 : decode cJ7_append_2 50 = .ok (.putfield 79, 3) := dk_181 0 79 (dk_at dksJ7_append_2_2 2 rfl rfl)
theorem dJ7_append_2_53 : decode cJ7_append_2 53 = .ok (.aload_n 0, 1) := dk_42 (dk_at dksJ7_append_2_2 5 rfl rfl)
theorem dJ7_append_2_54 : decode cJ7_append_2 54 = .ok (.areturn, 1) := dk_176 (dk_at dksJ7_append_2_2 6 rfl rfl)
abbrev cJ7_getValue : ByteArray := prog_16_method_64_code
def yJ7_getValue : MethodName := ⟨RJ7, "getValue", "()[B"⟩
theorem dJ7_getValue_0 : decode cJ7_getValue 0 = .ok (.aload_n 0, 1) := by decide +kernel
theorem dJ7_getValue_1 : decode cJ7_getValue 1 = .ok (.getfield 15, 3) := by decide +kernel
theorem dJ7_getValue_4 : decode cJ7_getValue 4 = .ok (.areturn, 1) := by decide +kernel
abbrev cJ7_length : ByteArray := prog_16_method_6_code
def yJ7_length : MethodName := ⟨RJ7, "length", "()I"⟩
theorem dJ7_length_0 : decode cJ7_length 0 = .ok (.aload_n 0, 1) := by decide +kernel
theorem dJ7_length_1 : decode cJ7_length 1 = .ok (.getfield 79, 3) := by decide +kernel
theorem dJ7_length_4 : decode cJ7_length 4 = .ok (.ireturn, 1) := by decide +kernel
abbrev cJ7_setLength : ByteArray := prog_16_method_13_code
def yJ7_setLength : MethodName := ⟨RJ7, "setLength", "(I)V"⟩
def dkwJ7_setLength_3 : List UInt8 := [164, 0, 8, 42, 4, 181, 0, 73, 42, 27, 181, 0, 79, 177]
abbrev dktJ7_setLength_3 : List UInt8 := dkwJ7_setLength_3 ++ []
def dkwJ7_setLength_2 : List UInt8 := [167, 0, 31, 42, 180, 0, 15, 42, 180, 0, 79, 27, 184, 0, 137, 167, 0, 16, 42, 180, 0, 79, 27]
abbrev dktJ7_setLength_2 : List UInt8 := dkwJ7_setLength_2 ++ dktJ7_setLength_3
def dkwJ7_setLength_1 : List UInt8 := [162, 0, 40, 42, 182, 0, 83, 153, 0, 18, 42, 180, 0, 15, 42, 180, 0, 79, 27, 184, 0, 133]
abbrev dktJ7_setLength_1 : List UInt8 := dkwJ7_setLength_1 ++ dktJ7_setLength_2
def dkwJ7_setLength_0 : List UInt8 := [27, 156, 0, 12, 187, 0, 129, 89, 27, 183, 0, 131, 191, 42, 27, 182, 0, 100, 42, 180, 0, 79, 27]
abbrev dktJ7_setLength_0 : List UInt8 := dkwJ7_setLength_0 ++ dktJ7_setLength_1
theorem dksJ7_setLength_0 : cJ7_setLength.data.toList.drop 0 = dktJ7_setLength_0 := by decide +kernel
theorem dksJ7_setLength_1 : cJ7_setLength.data.toList.drop 23 = dktJ7_setLength_1 := dk_seg dksJ7_setLength_0 23 rfl rfl
theorem dksJ7_setLength_2 : cJ7_setLength.data.toList.drop 45 = dktJ7_setLength_2 := dk_seg dksJ7_setLength_1 22 rfl rfl
theorem dksJ7_setLength_3 : cJ7_setLength.data.toList.drop 68 = dktJ7_setLength_3 := dk_seg dksJ7_setLength_2 23 rfl rfl
theorem dJ7_setLength_0 : decode cJ7_setLength 0 = .ok (.iload_n 1, 1) := dk_27 (dk_at dksJ7_setLength_0 0 rfl rfl)
theorem dJ7_setLength_1 : decode cJ7_setLength 1 = .ok (.ifCond .ge 12, 3) := dk_156 0 12 (dk_at dksJ7_setLength_0 1 rfl rfl)
theorem dJ7_setLength_4 : decode cJ7_setLength 4 = .ok (.new 129, 3) := dk_187 0 129 (dk_at dksJ7_setLength_0 4 rfl rfl)
theorem dJ7_setLength_7 : decode cJ7_setLength 7 = .ok (.dup, 1) := dk_89 (dk_at dksJ7_setLength_0 7 rfl rfl)
theorem dJ7_setLength_8 : decode cJ7_setLength 8 = .ok (.iload_n 1, 1) := dk_27 (dk_at dksJ7_setLength_0 8 rfl rfl)
theorem dJ7_setLength_9 : decode cJ7_setLength 9 = .ok (.invokespecial 131, 3) := dk_183 0 131 (dk_at dksJ7_setLength_0 9 rfl rfl)
theorem dJ7_setLength_12 : decode cJ7_setLength 12 = .ok (.athrow, 1) := dk_191 (dk_at dksJ7_setLength_0 12 rfl rfl)
theorem dJ7_setLength_13 : decode cJ7_setLength 13 = .ok (.aload_n 0, 1) := dk_42 (dk_at dksJ7_setLength_0 13 rfl rfl)
theorem dJ7_setLength_14 : decode cJ7_setLength 14 = .ok (.iload_n 1, 1) := dk_27 (dk_at dksJ7_setLength_0 14 rfl rfl)
theorem dJ7_setLength_15 : decode cJ7_setLength 15 = .ok (.invokevirtual 100, 3) := dk_182 0 100 (dk_at dksJ7_setLength_0 15 rfl rfl)
theorem dJ7_setLength_18 : decode cJ7_setLength 18 = .ok (.aload_n 0, 1) := dk_42 (dk_at dksJ7_setLength_0 18 rfl rfl)
theorem dJ7_setLength_19 : decode cJ7_setLength 19 = .ok (.getfield 79, 3) := dk_180 0 79 (dk_at dksJ7_setLength_0 19 rfl rfl)
theorem dJ7_setLength_22 : decode cJ7_setLength 22 = .ok (.iload_n 1, 1) := dk_27 (dk_at dksJ7_setLength_0 22 rfl rfl)
theorem dJ7_setLength_23 : decode cJ7_setLength 23 = .ok (.if_icmp .ge 40, 3) := dk_162 0 40 (dk_at dksJ7_setLength_1 0 rfl rfl)
theorem dJ7_setLength_26 : decode cJ7_setLength 26 = .ok (.aload_n 0, 1) := dk_42 (dk_at dksJ7_setLength_1 3 rfl rfl)
theorem dJ7_setLength_27 : decode cJ7_setLength 27 = .ok (.invokevirtual 83, 3) := dk_182 0 83 (dk_at dksJ7_setLength_1 4 rfl rfl)
theorem dJ7_setLength_30 : decode cJ7_setLength 30 = .ok (.ifCond .eq 18, 3) := dk_153 0 18 (dk_at dksJ7_setLength_1 7 rfl rfl)
theorem dJ7_setLength_33 : decode cJ7_setLength 33 = .ok (.aload_n 0, 1) := dk_42 (dk_at dksJ7_setLength_1 10 rfl rfl)
theorem dJ7_setLength_34 : decode cJ7_setLength 34 = .ok (.getfield 15, 3) := dk_180 0 15 (dk_at dksJ7_setLength_1 11 rfl rfl)
theorem dJ7_setLength_37 : decode cJ7_setLength 37 = .ok (.aload_n 0, 1) := dk_42 (dk_at dksJ7_setLength_1 14 rfl rfl)
theorem dJ7_setLength_38 : decode cJ7_setLength 38 = .ok (.getfield 79, 3) := dk_180 0 79 (dk_at dksJ7_setLength_1 15 rfl rfl)
theorem dJ7_setLength_41 : decode cJ7_setLength 41 = .ok (.iload_n 1, 1) := dk_27 (dk_at dksJ7_setLength_1 18 rfl rfl)
theorem dJ7_setLength_42 : decode cJ7_setLength 42 = .ok (.invokestatic 133, 3) := dk_184 0 133 (dk_at dksJ7_setLength_1 19 rfl rfl)
theorem dJ7_setLength_45 : decode cJ7_setLength 45 = .ok (.goto 31, 3) := dk_167 0 31 (dk_at dksJ7_setLength_2 0 rfl rfl)
theorem dJ7_setLength_48 : decode cJ7_setLength 48 = .ok (.aload_n 0, 1) := dk_42 (dk_at dksJ7_setLength_2 3 rfl rfl)
theorem dJ7_setLength_49 : decode cJ7_setLength 49 = .ok (.getfield 15, 3) := dk_180 0 15 (dk_at dksJ7_setLength_2 4 rfl rfl)
theorem dJ7_setLength_52 : decode cJ7_setLength 52 = .ok (.aload_n 0, 1) := dk_42 (dk_at dksJ7_setLength_2 7 rfl rfl)
theorem dJ7_setLength_53 : decode cJ7_setLength 53 = .ok (.getfield 79, 3) := dk_180 0 79 (dk_at dksJ7_setLength_2 8 rfl rfl)
theorem dJ7_setLength_56 : decode cJ7_setLength 56 = .ok (.iload_n 1, 1) := dk_27 (dk_at dksJ7_setLength_2 11 rfl rfl)
theorem dJ7_setLength_57 : decode cJ7_setLength 57 = .ok (.invokestatic 137, 3) := dk_184 0 137 (dk_at dksJ7_setLength_2 12 rfl rfl)
theorem dJ7_setLength_60 : decode cJ7_setLength 60 = .ok (.goto 16, 3) := dk_167 0 16 (dk_at dksJ7_setLength_2 15 rfl rfl)
theorem dJ7_setLength_63 : decode cJ7_setLength 63 = .ok (.aload_n 0, 1) := dk_42 (dk_at dksJ7_setLength_2 18 rfl rfl)
theorem dJ7_setLength_64 : decode cJ7_setLength 64 = .ok (.getfield 79, 3) := dk_180 0 79 (dk_at dksJ7_setLength_2 19 rfl rfl)
theorem dJ7_setLength_67 : decode cJ7_setLength 67 = .ok (.iload_n 1, 1) := dk_27 (dk_at dksJ7_setLength_2 22 rfl rfl)
theorem dJ7_setLength_68 : decode cJ7_setLength 68 = .ok (.if_icmp .le 8, 3) := dk_164 0 8 (dk_at dksJ7_setLength_3 0 rfl rfl)
theorem dJ7_setLength_71 : decode cJ7_setLength 71 = .ok (.aload_n 0, 1) := dk_42 (dk_at dksJ7_setLength_3 3 rfl rfl)
theorem dJ7_setLength_72 : decode cJ7_setLength 72 = .ok (.iconst 1, 1) := dk_4 (dk_at dksJ7_setLength_3 4 rfl rfl)
theorem dJ7_setLength_73 : decode cJ7_setLength 73 = .ok (.putfield 73, 3) := dk_181 0 73 (dk_at dksJ7_setLength_3 5 rfl rfl)
theorem dJ7_setLength_76 : decode cJ7_setLength 76 = .ok (.aload_n 0, 1) := dk_42 (dk_at dksJ7_setLength_3 8 rfl rfl)
theorem dJ7_setLength_77 : decode cJ7_setLength 77 = .ok (.iload_n 1, 1) := dk_27 (dk_at dksJ7_setLength_3 9 rfl rfl)
theorem dJ7_setLength_78 : decode cJ7_setLength 78 = .ok (.putfield 79, 3) := dk_181 0 79 (dk_at dksJ7_setLength_3 10 rfl rfl)
theorem dJ7_setLength_81 : decode cJ7_setLength 81 = .ok (.return_, 1) := dk_177 (dk_at dksJ7_setLength_3 13 rfl rfl)
abbrev cJ7_append_3 : ByteArray := prog_16_method_31_code
def yJ7_append_3 : MethodName := ⟨RJ7, "append", "(C)Ljava/lang/AbstractStringBuilder;"⟩
def dkwJ7_append_3_3 : List UInt8 := [181, 0, 79, 27, 184, 0, 197, 42, 176]
abbrev dktJ7_append_3_3 : List UInt8 := dkwJ7_append_3_3 ++ []
def dkwJ7_append_3_2 : List UInt8 := [182, 0, 83, 153, 0, 7, 42, 182, 0, 195, 42, 180, 0, 15, 42, 89, 180, 0, 79, 90, 4, 96]
abbrev dktJ7_append_3_2 : List UInt8 := dkwJ7_append_3_2 ++ dktJ7_append_3_3
def dkwJ7_append_3_1 : List UInt8 := [42, 180, 0, 15, 42, 89, 180, 0, 79, 90, 4, 96, 181, 0, 79, 27, 145, 84, 167, 0, 33, 42]
abbrev dktJ7_append_3_1 : List UInt8 := dkwJ7_append_3_1 ++ dktJ7_append_3_2
def dkwJ7_append_3_0 : List UInt8 := [42, 42, 180, 0, 79, 4, 96, 182, 0, 100, 42, 182, 0, 83, 153, 0, 31, 27, 184, 0, 191, 153, 0, 24]
abbrev dktJ7_append_3_0 : List UInt8 := dkwJ7_append_3_0 ++ dktJ7_append_3_1
theorem dksJ7_append_3_0 : cJ7_append_3.data.toList.drop 0 = dktJ7_append_3_0 := by decide +kernel
theorem dksJ7_append_3_1 : cJ7_append_3.data.toList.drop 24 = dktJ7_append_3_1 := dk_seg dksJ7_append_3_0 24 rfl rfl
theorem dksJ7_append_3_2 : cJ7_append_3.data.toList.drop 46 = dktJ7_append_3_2 := dk_seg dksJ7_append_3_1 22 rfl rfl
theorem dksJ7_append_3_3 : cJ7_append_3.data.toList.drop 68 = dktJ7_append_3_3 := dk_seg dksJ7_append_3_2 22 rfl rfl
theorem dJ7_append_3_0 : decode cJ7_append_3 0 = .ok (.aload_n 0, 1) := dk_42 (dk_at dksJ7_append_3_0 0 rfl rfl)
theorem dJ7_append_3_1 : decode cJ7_append_3 1 = .ok (.aload_n 0, 1) := dk_42 (dk_at dksJ7_append_3_0 1 rfl rfl)
theorem dJ7_append_3_2 : decode cJ7_append_3 2 = .ok (.getfield 79, 3) := dk_180 0 79 (dk_at dksJ7_append_3_0 2 rfl rfl)
theorem dJ7_append_3_5 : decode cJ7_append_3 5 = .ok (.iconst 1, 1) := dk_4 (dk_at dksJ7_append_3_0 5 rfl rfl)
theorem dJ7_append_3_6 : decode cJ7_append_3 6 = .ok (.iadd, 1) := dk_96 (dk_at dksJ7_append_3_0 6 rfl rfl)
theorem dJ7_append_3_7 : decode cJ7_append_3 7 = .ok (.invokevirtual 100, 3) := dk_182 0 100 (dk_at dksJ7_append_3_0 7 rfl rfl)
theorem dJ7_append_3_10 : decode cJ7_append_3 10 = .ok (.aload_n 0, 1) := dk_42 (dk_at dksJ7_append_3_0 10 rfl rfl)
theorem dJ7_append_3_11 : decode cJ7_append_3 11 = .ok (.invokevirtual 83, 3) := dk_182 0 83 (dk_at dksJ7_append_3_0 11 rfl rfl)
theorem dJ7_append_3_14 : decode cJ7_append_3 14 = .ok (.ifCond .eq 31, 3) := dk_153 0 31 (dk_at dksJ7_append_3_0 14 rfl rfl)
theorem dJ7_append_3_17 : decode cJ7_append_3 17 = .ok (.iload_n 1, 1) := dk_27 (dk_at dksJ7_append_3_0 17 rfl rfl)
theorem dJ7_append_3_18 : decode cJ7_append_3 18 = .ok (.invokestatic 191, 3) := dk_184 0 191 (dk_at dksJ7_append_3_0 18 rfl rfl)
theorem dJ7_append_3_21 : decode cJ7_append_3 21 = .ok (.ifCond .eq 24, 3) := dk_153 0 24 (dk_at dksJ7_append_3_0 21 rfl rfl)
theorem dJ7_append_3_24 : decode cJ7_append_3 24 = .ok (.aload_n 0, 1) := dk_42 (dk_at dksJ7_append_3_1 0 rfl rfl)
theorem dJ7_append_3_25 : decode cJ7_append_3 25 = .ok (.getfield 15, 3) := dk_180 0 15 (dk_at dksJ7_append_3_1 1 rfl rfl)
theorem dJ7_append_3_28 : decode cJ7_append_3 28 = .ok (.aload_n 0, 1) := dk_42 (dk_at dksJ7_append_3_1 4 rfl rfl)
theorem dJ7_append_3_29 : decode cJ7_append_3 29 = .ok (.dup, 1) := dk_89 (dk_at dksJ7_append_3_1 5 rfl rfl)
theorem dJ7_append_3_30 : decode cJ7_append_3 30 = .ok (.getfield 79, 3) := dk_180 0 79 (dk_at dksJ7_append_3_1 6 rfl rfl)
theorem dJ7_append_3_33 : decode cJ7_append_3 33 = .ok (.dup_x1, 1) := dk_90 (dk_at dksJ7_append_3_1 9 rfl rfl)
theorem dJ7_append_3_34 : decode cJ7_append_3 34 = .ok (.iconst 1, 1) := dk_4 (dk_at dksJ7_append_3_1 10 rfl rfl)
theorem dJ7_append_3_35 : decode cJ7_append_3 35 = .ok (.iadd, 1) := dk_96 (dk_at dksJ7_append_3_1 11 rfl rfl)
theorem dJ7_append_3_36 : decode cJ7_append_3 36 = .ok (.putfield 79, 3) := dk_181 0 79 (dk_at dksJ7_append_3_1 12 rfl rfl)
theorem dJ7_append_3_39 : decode cJ7_append_3 39 = .ok (.iload_n 1, 1) := dk_27 (dk_at dksJ7_append_3_1 15 rfl rfl)
theorem dJ7_append_3_40 : decode cJ7_append_3 40 = .ok (.i2b, 1) := dk_145 (dk_at dksJ7_append_3_1 16 rfl rfl)
theorem dJ7_append_3_41 : decode cJ7_append_3 41 = .ok (.bastore, 1) := dk_84 (dk_at dksJ7_append_3_1 17 rfl rfl)
theorem dJ7_append_3_42 : decode cJ7_append_3 42 = .ok (.goto 33, 3) := dk_167 0 33 (dk_at dksJ7_append_3_1 18 rfl rfl)
theorem dJ7_append_3_45 : decode cJ7_append_3 45 = .ok (.aload_n 0, 1) := dk_42 (dk_at dksJ7_append_3_1 21 rfl rfl)
theorem dJ7_append_3_46 : decode cJ7_append_3 46 = .ok (.invokevirtual 83, 3) := dk_182 0 83 (dk_at dksJ7_append_3_2 0 rfl rfl)
theorem dJ7_append_3_49 : decode cJ7_append_3 49 = .ok (.ifCond .eq 7, 3) := dk_153 0 7 (dk_at dksJ7_append_3_2 3 rfl rfl)
theorem dJ7_append_3_52 : decode cJ7_append_3 52 = .ok (.aload_n 0, 1) := dk_42 (dk_at dksJ7_append_3_2 6 rfl rfl)
theorem dJ7_append_3_53 : decode cJ7_append_3 53 = .ok (.invokevirtual 195, 3) := dk_182 0 195 (dk_at dksJ7_append_3_2 7 rfl rfl)
theorem dJ7_append_3_56 : decode cJ7_append_3 56 = .ok (.aload_n 0, 1) := dk_42 (dk_at dksJ7_append_3_2 10 rfl rfl)
theorem dJ7_append_3_57 : decode cJ7_append_3 57 = .ok (.getfield 15, 3) := dk_180 0 15 (dk_at dksJ7_append_3_2 11 rfl rfl)
theorem dJ7_append_3_60 : decode cJ7_append_3 60 = .ok (.aload_n 0, 1) := dk_42 (dk_at dksJ7_append_3_2 14 rfl rfl)
theorem dJ7_append_3_61 : decode cJ7_append_3 61 = .ok (.dup, 1) := dk_89 (dk_at dksJ7_append_3_2 15 rfl rfl)
theorem dJ7_append_3_62 : decode cJ7_append_3 62 = .ok (.getfield 79, 3) := dk_180 0 79 (dk_at dksJ7_append_3_2 16 rfl rfl)
theorem dJ7_append_3_65 : decode cJ7_append_3 65 = .ok (.dup_x1, 1) := dk_90 (dk_at dksJ7_append_3_2 19 rfl rfl)
theorem dJ7_append_3_66 : decode cJ7_append_3 66 = .ok (.iconst 1, 1) := dk_4 (dk_at dksJ7_append_3_2 20 rfl rfl)
theorem dJ7_append_3_67 : decode cJ7_append_3 67 = .ok (.iadd, 1) := dk_96 (dk_at dksJ7_append_3_2 21 rfl rfl)
theorem dJ7_append_3_68 : decode cJ7_append_3 68 = .ok (.putfield 79, 3) := dk_181 0 79 (dk_at dksJ7_append_3_3 0 rfl rfl)
theorem dJ7_append_3_71 : decode cJ7_append_3 71 = .ok (.iload_n 1, 1) := dk_27 (dk_at dksJ7_append_3_3 3 rfl rfl)
theorem dJ7_append_3_72 : decode cJ7_append_3 72 = .ok (.invokestatic 197, 3) := dk_184 0 197 (dk_at dksJ7_append_3_3 4 rfl rfl)
theorem dJ7_append_3_75 : decode cJ7_append_3 75 = .ok (.aload_n 0, 1) := dk_42 (dk_at dksJ7_append_3_3 7 rfl rfl)
theorem dJ7_append_3_76 : decode cJ7_append_3 76 = .ok (.areturn, 1) := dk_176 (dk_at dksJ7_append_3_3 8 rfl rfl)
abbrev cJ7_charAt : ByteArray := prog_16_method_14_code
def yJ7_charAt : MethodName := ⟨RJ7, "charAt", "(I)C"⟩
def dkwJ7_charAt_1 : List UInt8 := [21, 4, 184, 0, 144, 28, 154, 0, 12, 45, 27, 51, 17, 0, 255, 126, 146, 172, 45, 27, 184, 0, 148, 172]
abbrev dktJ7_charAt_1 : List UInt8 := dkwJ7_charAt_1 ++ []
def dkwJ7_charAt_0 : List UInt8 := [42, 180, 0, 22, 61, 42, 180, 0, 15, 78, 42, 180, 0, 79, 45, 190, 28, 122, 184, 0, 138, 54, 4, 27]
abbrev dktJ7_charAt_0 : List UInt8 := dkwJ7_charAt_0 ++ dktJ7_charAt_1
theorem dksJ7_charAt_0 : cJ7_charAt.data.toList.drop 0 = dktJ7_charAt_0 := by decide +kernel
theorem dksJ7_charAt_1 : cJ7_charAt.data.toList.drop 24 = dktJ7_charAt_1 := dk_seg dksJ7_charAt_0 24 rfl rfl
theorem dJ7_charAt_0 : decode cJ7_charAt 0 = .ok (.aload_n 0, 1) := dk_42 (dk_at dksJ7_charAt_0 0 rfl rfl)
theorem dJ7_charAt_1 : decode cJ7_charAt 1 = .ok (.getfield 22, 3) := dk_180 0 22 (dk_at dksJ7_charAt_0 1 rfl rfl)
theorem dJ7_charAt_4 : decode cJ7_charAt 4 = .ok (.istore_n 2, 1) := dk_61 (dk_at dksJ7_charAt_0 4 rfl rfl)
theorem dJ7_charAt_5 : decode cJ7_charAt 5 = .ok (.aload_n 0, 1) := dk_42 (dk_at dksJ7_charAt_0 5 rfl rfl)
theorem dJ7_charAt_6 : decode cJ7_charAt 6 = .ok (.getfield 15, 3) := dk_180 0 15 (dk_at dksJ7_charAt_0 6 rfl rfl)
theorem dJ7_charAt_9 : decode cJ7_charAt 9 = .ok (.astore_n 3, 1) := dk_78 (dk_at dksJ7_charAt_0 9 rfl rfl)
theorem dJ7_charAt_10 : decode cJ7_charAt 10 = .ok (.aload_n 0, 1) := dk_42 (dk_at dksJ7_charAt_0 10 rfl rfl)
theorem dJ7_charAt_11 : decode cJ7_charAt 11 = .ok (.getfield 79, 3) := dk_180 0 79 (dk_at dksJ7_charAt_0 11 rfl rfl)
theorem dJ7_charAt_14 : decode cJ7_charAt 14 = .ok (.aload_n 3, 1) := dk_45 (dk_at dksJ7_charAt_0 14 rfl rfl)
theorem dJ7_charAt_15 : decode cJ7_charAt 15 = .ok (.arraylength, 1) := dk_190 (dk_at dksJ7_charAt_0 15 rfl rfl)
theorem dJ7_charAt_16 : decode cJ7_charAt 16 = .ok (.iload_n 2, 1) := dk_28 (dk_at dksJ7_charAt_0 16 rfl rfl)
theorem dJ7_charAt_17 : decode cJ7_charAt 17 = .ok (.ishr, 1) := dk_122 (dk_at dksJ7_charAt_0 17 rfl rfl)
theorem dJ7_charAt_18 : decode cJ7_charAt 18 = .ok (.invokestatic 138, 3) := dk_184 0 138 (dk_at dksJ7_charAt_0 18 rfl rfl)
theorem dJ7_charAt_21 : decode cJ7_charAt 21 = .ok (.istore 4, 2) := dk_54 4 (dk_at dksJ7_charAt_0 21 rfl rfl)
theorem dJ7_charAt_23 : decode cJ7_charAt 23 = .ok (.iload_n 1, 1) := dk_27 (dk_at dksJ7_charAt_0 23 rfl rfl)
theorem dJ7_charAt_24 : decode cJ7_charAt 24 = .ok (.iload 4, 2) := dk_21 4 (dk_at dksJ7_charAt_1 0 rfl rfl)
theorem dJ7_charAt_26 : decode cJ7_charAt 26 = .ok (.invokestatic 144, 3) := dk_184 0 144 (dk_at dksJ7_charAt_1 2 rfl rfl)
theorem dJ7_charAt_29 : decode cJ7_charAt 29 = .ok (.iload_n 2, 1) := dk_28 (dk_at dksJ7_charAt_1 5 rfl rfl)
theorem dJ7_charAt_30 : decode cJ7_charAt 30 = .ok (.ifCond .ne 12, 3) := dk_154 0 12 (dk_at dksJ7_charAt_1 6 rfl rfl)
theorem dJ7_charAt_33 : decode cJ7_charAt 33 = .ok (.aload_n 3, 1) := dk_45 (dk_at dksJ7_charAt_1 9 rfl rfl)
theorem dJ7_charAt_34 : decode cJ7_charAt 34 = .ok (.iload_n 1, 1) := dk_27 (dk_at dksJ7_charAt_1 10 rfl rfl)
theorem dJ7_charAt_35 : decode cJ7_charAt 35 = .ok (.baload, 1) := dk_51 (dk_at dksJ7_charAt_1 11 rfl rfl)
theorem dJ7_charAt_36 : decode cJ7_charAt 36 = .ok (.sipush 255, 3) := dk_17 0 255 (dk_at dksJ7_charAt_1 12 rfl rfl)
theorem dJ7_charAt_39 : decode cJ7_charAt 39 = .ok (.iand, 1) := dk_126 (dk_at dksJ7_charAt_1 15 rfl rfl)
theorem dJ7_charAt_40 : decode cJ7_charAt 40 = .ok (.i2c, 1) := dk_146 (dk_at dksJ7_charAt_1 16 rfl rfl)
theorem dJ7_charAt_41 : decode cJ7_charAt 41 = .ok (.ireturn, 1) := dk_172 (dk_at dksJ7_charAt_1 17 rfl rfl)
theorem dJ7_charAt_42 : decode cJ7_charAt 42 = .ok (.aload_n 3, 1) := dk_45 (dk_at dksJ7_charAt_1 18 rfl rfl)
theorem dJ7_charAt_43 : decode cJ7_charAt 43 = .ok (.iload_n 1, 1) := dk_27 (dk_at dksJ7_charAt_1 19 rfl rfl)
theorem dJ7_charAt_44 : decode cJ7_charAt 44 = .ok (.invokestatic 148, 3) := dk_184 0 148 (dk_at dksJ7_charAt_1 20 rfl rfl)
theorem dJ7_charAt_47 : decode cJ7_charAt 47 = .ok (.ireturn, 1) := dk_172 (dk_at dksJ7_charAt_1 23 rfl rfl)
theorem q124 : (Jvm.Cond.initialized "java/lang/AbstractStringBuilder") ∈ lw_all := lw_g (lw_at lw_m1 12 rfl) rfl
theorem q310 : (Jvm.Cond.instanceMethod ({ cls := "java/lang/AbstractStringBuilder", name := "<init>", desc := "(I)V" } : Jvm.MethodName)) ∈ lw_all := lw_g (lw_at lw_m1 198 rfl) rfl
theorem q311 : (Jvm.Cond.code ({ cls := "java/lang/AbstractStringBuilder", name := "<init>", desc := "(I)V" } : Jvm.MethodName) prog_16_method_2_code (2 : Nat) (Option.none : Option Jvm.ClassFile.FieldType)) ∈ lw_all := lw_g (lw_at lw_m1 199 rfl) rfl
theorem q312 : (Jvm.Cond.methodLink "java/lang/AbstractStringBuilder" (3 : Nat) ({ cls := "java/lang/Object", name := "<init>", desc := "()V" } : Jvm.MethodName)) ∈ lw_all := lw_g (lw_at lw_m1 200 rfl) rfl
theorem q313 : (Jvm.Cond.fieldLink "java/lang/AbstractStringBuilder" (18 : Nat) "java/lang/String" "COMPACT_STRINGS" "Z") ∈ lw_all := lw_g (lw_at lw_m1 201 rfl) rfl
theorem q315 : (Jvm.Cond.methodLink "java/lang/AbstractStringBuilder" (26 : Nat) ({ cls := "java/lang/StringUTF16", name := "newBytesFor", desc := "(I)[B" } : Jvm.MethodName)) ∈ lw_all := lw_g (lw_at lw_m1 203 rfl) rfl
theorem q322 : (Jvm.Cond.fieldLink "java/lang/AbstractStringBuilder" (15 : Nat) "java/lang/AbstractStringBuilder" "value" "[B") ∈ lw_all := lw_g (lw_at lw_m1 210 rfl) rfl
theorem q323 : (Jvm.Cond.fieldLink "java/lang/AbstractStringBuilder" (22 : Nat) "java/lang/AbstractStringBuilder" "coder" "B") ∈ lw_all := lw_g (lw_at lw_m1 211 rfl) rfl
theorem q324 : (Jvm.Cond.fieldLink "java/lang/AbstractStringBuilder" (73 : Nat) "java/lang/AbstractStringBuilder" "maybeLatin1" "Z") ∈ lw_all := lw_g (lw_at lw_m1 212 rfl) rfl
theorem q326 : (Jvm.Cond.fieldLink "java/lang/AbstractStringBuilder" (79 : Nat) "java/lang/AbstractStringBuilder" "count" "I") ∈ lw_all := lw_g (lw_at lw_m1 214 rfl) rfl
theorem q328 : (Jvm.Cond.soleField "java/lang/AbstractStringBuilder" "value") ∈ lw_all := lw_g (lw_at lw_m1 216 rfl) rfl
theorem q330 : (Jvm.Cond.soleField "java/lang/AbstractStringBuilder" "coder") ∈ lw_all := lw_g (lw_at lw_m1 218 rfl) rfl
theorem q332 : (Jvm.Cond.soleField "java/lang/AbstractStringBuilder" "maybeLatin1") ∈ lw_all := lw_g (lw_at lw_m1 220 rfl) rfl
theorem q334 : (Jvm.Cond.soleField "java/lang/AbstractStringBuilder" "count") ∈ lw_all := lw_g (lw_at lw_m1 222 rfl) rfl
theorem q343 : (Jvm.Cond.instanceMethod ({ cls := "java/lang/AbstractStringBuilder", name := "append", desc := "(Ljava/lang/String;)Ljava/lang/AbstractStringBuilder;" } : Jvm.MethodName)) ∈ lw_all := lw_g (lw_at lw_m1 231 rfl) rfl
theorem q344 : (Jvm.Cond.code ({ cls := "java/lang/AbstractStringBuilder", name := "append", desc := "(Ljava/lang/String;)Ljava/lang/AbstractStringBuilder;" } : Jvm.MethodName) prog_16_method_22_code (3 : Nat) (Option.some (Jvm.ClassFile.FieldType.object "java/lang/AbstractStringBuilder"))) ∈ lw_all := lw_g (lw_at lw_m1 232 rfl) rfl
theorem q345 : (Jvm.Cond.methodLink "java/lang/AbstractStringBuilder" (204 : Nat) ({ cls := "java/lang/AbstractStringBuilder", name := "appendNull", desc := "()Ljava/lang/AbstractStringBuilder;" } : Jvm.MethodName)) ∈ lw_all := lw_g (lw_at lw_m1 233 rfl) rfl
theorem q346 : (Jvm.Cond.privateMethod ({ cls := "java/lang/AbstractStringBuilder", name := "appendNull", desc := "()Ljava/lang/AbstractStringBuilder;" } : Jvm.MethodName)) ∈ lw_tbl := lw_at lw_m1 234 rfl
theorem q347 : (Jvm.Cond.instanceMethod ({ cls := "java/lang/AbstractStringBuilder", name := "appendNull", desc := "()Ljava/lang/AbstractStringBuilder;" } : Jvm.MethodName)) ∈ lw_all := lw_g (lw_at lw_m1 235 rfl) rfl
theorem q348 : (Jvm.Cond.code ({ cls := "java/lang/AbstractStringBuilder", name := "appendNull", desc := "()Ljava/lang/AbstractStringBuilder;" } : Jvm.MethodName) prog_16_method_26_code (3 : Nat) (Option.some (Jvm.ClassFile.FieldType.object "java/lang/AbstractStringBuilder"))) ∈ lw_all := lw_g (lw_at lw_m1 236 rfl) rfl
theorem q349 : (Jvm.Cond.methodLink "java/lang/AbstractStringBuilder" (100 : Nat) ({ cls := "java/lang/AbstractStringBuilder", name := "ensureCapacityInternal", desc := "(I)V" } : Jvm.MethodName)) ∈ lw_all := lw_g (lw_at lw_m1 237 rfl) rfl
theorem q350 : (Jvm.Cond.privateMethod ({ cls := "java/lang/AbstractStringBuilder", name := "ensureCapacityInternal", desc := "(I)V" } : Jvm.MethodName)) ∈ lw_tbl := lw_at lw_m1 238 rfl
theorem q351 : (Jvm.Cond.instanceMethod ({ cls := "java/lang/AbstractStringBuilder", name := "ensureCapacityInternal", desc := "(I)V" } : Jvm.MethodName)) ∈ lw_all := lw_g (lw_at lw_m1 239 rfl) rfl
theorem q352 : (Jvm.Cond.code ({ cls := "java/lang/AbstractStringBuilder", name := "ensureCapacityInternal", desc := "(I)V" } : Jvm.MethodName) prog_16_method_9_code (3 : Nat) (Option.none : Option Jvm.ClassFile.FieldType)) ∈ lw_all := lw_g (lw_at lw_m2 0 rfl) rfl
theorem q353 : (Jvm.Cond.methodLink "java/lang/AbstractStringBuilder" (104 : Nat) ({ cls := "java/lang/AbstractStringBuilder", name := "newCapacity", desc := "(I)I" } : Jvm.MethodName)) ∈ lw_all := lw_g (lw_at lw_m2 1 rfl) rfl
theorem q354 : (Jvm.Cond.privateMethod ({ cls := "java/lang/AbstractStringBuilder", name := "newCapacity", desc := "(I)I" } : Jvm.MethodName)) ∈ lw_tbl := lw_at lw_m2 2 rfl
theorem q355 : (Jvm.Cond.instanceMethod ({ cls := "java/lang/AbstractStringBuilder", name := "newCapacity", desc := "(I)I" } : Jvm.MethodName)) ∈ lw_all := lw_g (lw_at lw_m2 3 rfl) rfl
theorem q356 : (Jvm.Cond.code ({ cls := "java/lang/AbstractStringBuilder", name := "newCapacity", desc := "(I)I" } : Jvm.MethodName) prog_16_method_10_code (6 : Nat) (Option.some Jvm.ClassFile.FieldType.int)) ∈ lw_all := lw_g (lw_at lw_m2 4 rfl) rfl
theorem q357 : (Jvm.Cond.methodLink "java/lang/AbstractStringBuilder" (114 : Nat) ({ cls := "jdk/internal/util/ArraysSupport", name := "newLength", desc := "(III)I" } : Jvm.MethodName)) ∈ lw_all := lw_g (lw_at lw_m2 5 rfl) rfl
theorem q367 : (Jvm.Cond.constant "java/lang/AbstractStringBuilder" (39 : Nat) (2147483647 : Int32)) ∈ lw_all := lw_g (lw_at lw_m2 15 rfl) rfl
theorem q368 : (Jvm.Cond.methodLink "java/lang/AbstractStringBuilder" (108 : Nat) ({ cls := "java/util/Arrays", name := "copyOf", desc := "([BI)[B" } : Jvm.MethodName)) ∈ lw_all := lw_g (lw_at lw_m2 16 rfl) rfl
theorem q382 : (Jvm.Cond.methodLink "java/lang/AbstractStringBuilder" (83 : Nat) ({ cls := "java/lang/AbstractStringBuilder", name := "isLatin1", desc := "()Z" } : Jvm.MethodName)) ∈ lw_all := lw_g (lw_at lw_m2 30 rfl) rfl
theorem q383 : (Jvm.Cond.instanceMethod ({ cls := "java/lang/AbstractStringBuilder", name := "isLatin1", desc := "()Z" } : Jvm.MethodName)) ∈ lw_all := lw_g (lw_at lw_m2 31 rfl) rfl
theorem q384 : (Jvm.Cond.sameMethod "java/lang/AbstractStringBuilder" "java/lang/AbstractStringBuilder" "isLatin1" "()Z") ∈ lw_all := lw_g (lw_at lw_m2 32 rfl) rfl
theorem q386 : (Jvm.Cond.code ({ cls := "java/lang/AbstractStringBuilder", name := "isLatin1", desc := "()Z" } : Jvm.MethodName) prog_16_method_68_code (1 : Nat) (Option.some Jvm.ClassFile.FieldType.boolean)) ∈ lw_all := lw_g (lw_at lw_m2 34 rfl) rfl
theorem q387 : (Jvm.Cond.methodLink "java/lang/AbstractStringBuilder" (226 : Nat) ({ cls := "java/lang/StringUTF16", name := "putCharsAt", desc := "([BICCCC)I" } : Jvm.MethodName)) ∈ lw_all := lw_g (lw_at lw_m2 35 rfl) rfl
theorem q413 : (Jvm.Cond.methodLink "java/lang/AbstractStringBuilder" (32 : Nat) ({ cls := "java/lang/String", name := "length", desc := "()I" } : Jvm.MethodName)) ∈ lw_all := lw_g (lw_at lw_m2 61 rfl) rfl
theorem q422 : (Jvm.Cond.methodLink "java/lang/AbstractStringBuilder" (208 : Nat) ({ cls := "java/lang/AbstractStringBuilder", name := "putStringAt", desc := "(ILjava/lang/String;)V" } : Jvm.MethodName)) ∈ lw_all := lw_g (lw_at lw_m2 70 rfl) rfl
theorem q423 : (Jvm.Cond.privateMethod ({ cls := "java/lang/AbstractStringBuilder", name := "putStringAt", desc := "(ILjava/lang/String;)V" } : Jvm.MethodName)) ∈ lw_tbl := lw_at lw_m2 71 rfl
theorem q424 : (Jvm.Cond.instanceMethod ({ cls := "java/lang/AbstractStringBuilder", name := "putStringAt", desc := "(ILjava/lang/String;)V" } : Jvm.MethodName)) ∈ lw_all := lw_g (lw_at lw_m2 72 rfl) rfl
theorem q425 : (Jvm.Cond.code ({ cls := "java/lang/AbstractStringBuilder", name := "putStringAt", desc := "(ILjava/lang/String;)V" } : Jvm.MethodName) prog_16_method_73_code (3 : Nat) (Option.none : Option Jvm.ClassFile.FieldType)) ∈ lw_all := lw_g (lw_at lw_m2 73 rfl) rfl
theorem q426 : (Jvm.Cond.methodLink "java/lang/AbstractStringBuilder" (397 : Nat) ({ cls := "java/lang/AbstractStringBuilder", name := "inflateIfNeededFor", desc := "(Ljava/lang/String;)V" } : Jvm.MethodName)) ∈ lw_all := lw_g (lw_at lw_m2 74 rfl) rfl
theorem q427 : (Jvm.Cond.privateMethod ({ cls := "java/lang/AbstractStringBuilder", name := "inflateIfNeededFor", desc := "(Ljava/lang/String;)V" } : Jvm.MethodName)) ∈ lw_tbl := lw_at lw_m2 75 rfl
theorem q428 : (Jvm.Cond.instanceMethod ({ cls := "java/lang/AbstractStringBuilder", name := "inflateIfNeededFor", desc := "(Ljava/lang/String;)V" } : Jvm.MethodName)) ∈ lw_all := lw_g (lw_at lw_m2 76 rfl) rfl
theorem q429 : (Jvm.Cond.code ({ cls := "java/lang/AbstractStringBuilder", name := "inflateIfNeededFor", desc := "(Ljava/lang/String;)V" } : Jvm.MethodName) prog_16_method_71_code (2 : Nat) (Option.none : Option Jvm.ClassFile.FieldType)) ∈ lw_all := lw_g (lw_at lw_m2 77 rfl) rfl
theorem q430 : (Jvm.Cond.methodLink "java/lang/AbstractStringBuilder" (40 : Nat) ({ cls := "java/lang/String", name := "coder", desc := "()B" } : Jvm.MethodName)) ∈ lw_all := lw_g (lw_at lw_m2 78 rfl) rfl
theorem q431 : (Jvm.Cond.methodLink "java/lang/AbstractStringBuilder" (195 : Nat) ({ cls := "java/lang/AbstractStringBuilder", name := "inflate", desc := "()V" } : Jvm.MethodName)) ∈ lw_all := lw_g (lw_at lw_m2 79 rfl) rfl
theorem q432 : (Jvm.Cond.privateMethod ({ cls := "java/lang/AbstractStringBuilder", name := "inflate", desc := "()V" } : Jvm.MethodName)) ∈ lw_tbl := lw_at lw_m2 80 rfl
theorem q433 : (Jvm.Cond.instanceMethod ({ cls := "java/lang/AbstractStringBuilder", name := "inflate", desc := "()V" } : Jvm.MethodName)) ∈ lw_all := lw_g (lw_at lw_m2 81 rfl) rfl
theorem q434 : (Jvm.Cond.code ({ cls := "java/lang/AbstractStringBuilder", name := "inflate", desc := "()V" } : Jvm.MethodName) prog_16_method_11_code (2 : Nat) (Option.none : Option Jvm.ClassFile.FieldType)) ∈ lw_all := lw_g (lw_at lw_m2 82 rfl) rfl
theorem q435 : (Jvm.Cond.methodLink "java/lang/AbstractStringBuilder" (125 : Nat) ({ cls := "java/lang/StringLatin1", name := "inflate", desc := "([BI[BII)V" } : Jvm.MethodName)) ∈ lw_all := lw_g (lw_at lw_m2 83 rfl) rfl
theorem q450 : (Jvm.Cond.methodLink "java/lang/AbstractStringBuilder" (399 : Nat) ({ cls := "java/lang/String", name := "getBytes", desc := "([BIB)V" } : Jvm.MethodName)) ∈ lw_all := lw_g (lw_at lw_m2 98 rfl) rfl
theorem q461 : (Jvm.Cond.instanceMethod ({ cls := "java/lang/AbstractStringBuilder", name := "append", desc := "(I)Ljava/lang/AbstractStringBuilder;" } : Jvm.MethodName)) ∈ lw_all := lw_g (lw_at lw_m2 109 rfl) rfl
theorem q462 : (Jvm.Cond.code ({ cls := "java/lang/AbstractStringBuilder", name := "append", desc := "(I)Ljava/lang/AbstractStringBuilder;" } : Jvm.MethodName) prog_16_method_32_code (4 : Nat) (Option.some (Jvm.ClassFile.FieldType.object "java/lang/AbstractStringBuilder"))) ∈ lw_all := lw_g (lw_at lw_m2 110 rfl) rfl
theorem q463 : (Jvm.Cond.methodLink "java/lang/AbstractStringBuilder" (245 : Nat) ({ cls := "java/lang/Integer", name := "stringSize", desc := "(I)I" } : Jvm.MethodName)) ∈ lw_all := lw_g (lw_at lw_m2 111 rfl) rfl
theorem q466 : (Jvm.Cond.methodLink "java/lang/AbstractStringBuilder" (248 : Nat) ({ cls := "java/lang/Integer", name := "getChars", desc := "(II[B)I" } : Jvm.MethodName)) ∈ lw_all := lw_g (lw_at lw_m2 114 rfl) rfl
theorem q473 : (Jvm.Cond.methodLink "java/lang/AbstractStringBuilder" (251 : Nat) ({ cls := "java/lang/StringUTF16", name := "getChars", desc := "(III[B)I" } : Jvm.MethodName)) ∈ lw_all := lw_g (lw_at lw_m2 121 rfl) rfl
theorem q495 : (Jvm.Cond.instanceMethod ({ cls := "java/lang/AbstractStringBuilder", name := "getValue", desc := "()[B" } : Jvm.MethodName)) ∈ lw_all := lw_g (lw_at lw_m2 143 rfl) rfl
theorem q496 : (Jvm.Cond.sameMethod "java/lang/AbstractStringBuilder" "java/lang/AbstractStringBuilder" "getValue" "()[B") ∈ lw_all := lw_g (lw_at lw_m2 144 rfl) rfl
theorem q498 : (Jvm.Cond.code ({ cls := "java/lang/AbstractStringBuilder", name := "getValue", desc := "()[B" } : Jvm.MethodName) prog_16_method_64_code (1 : Nat) (Option.some (Jvm.ClassFile.FieldType.array Jvm.ClassFile.FieldType.byte))) ∈ lw_all := lw_g (lw_at lw_m2 146 rfl) rfl
theorem q500 : (Jvm.Cond.instanceMethod ({ cls := "java/lang/AbstractStringBuilder", name := "length", desc := "()I" } : Jvm.MethodName)) ∈ lw_all := lw_g (lw_at lw_m2 148 rfl) rfl
theorem q501 : (Jvm.Cond.sameMethod "java/lang/AbstractStringBuilder" "java/lang/AbstractStringBuilder" "length" "()I") ∈ lw_all := lw_g (lw_at lw_m2 149 rfl) rfl
theorem q506 : (Jvm.Cond.code ({ cls := "java/lang/AbstractStringBuilder", name := "length", desc := "()I" } : Jvm.MethodName) prog_16_method_6_code (1 : Nat) (Option.some Jvm.ClassFile.FieldType.int)) ∈ lw_all := lw_g (lw_at lw_m2 154 rfl) rfl
theorem q1192 : (Jvm.Cond.instanceMethod ({ cls := "java/lang/AbstractStringBuilder", name := "setLength", desc := "(I)V" } : Jvm.MethodName)) ∈ lw_all := lw_g (lw_at lw_m5 120 rfl) rfl
theorem q1193 : (Jvm.Cond.code ({ cls := "java/lang/AbstractStringBuilder", name := "setLength", desc := "(I)V" } : Jvm.MethodName) prog_16_method_13_code (2 : Nat) (Option.none : Option Jvm.ClassFile.FieldType)) ∈ lw_all := lw_g (lw_at lw_m5 121 rfl) rfl
theorem q1194 : (Jvm.Cond.classLink "java/lang/AbstractStringBuilder" (129 : Nat) "java/lang/StringIndexOutOfBoundsException") ∈ lw_all := lw_g (lw_at lw_m5 122 rfl) rfl
theorem q1196 : (Jvm.Cond.methodLink "java/lang/AbstractStringBuilder" (131 : Nat) ({ cls := "java/lang/StringIndexOutOfBoundsException", name := "<init>", desc := "(I)V" } : Jvm.MethodName)) ∈ lw_all := lw_g (lw_at lw_m5 124 rfl) rfl
theorem q1216 : (Jvm.Cond.methodLink "java/lang/AbstractStringBuilder" (133 : Nat) ({ cls := "java/lang/StringLatin1", name := "fillNull", desc := "([BII)V" } : Jvm.MethodName)) ∈ lw_all := lw_g (lw_at lw_m5 144 rfl) rfl
theorem q1251 : (Jvm.Cond.methodLink "java/lang/AbstractStringBuilder" (137 : Nat) ({ cls := "java/lang/StringUTF16", name := "fillNull", desc := "([BII)V" } : Jvm.MethodName)) ∈ lw_all := lw_g (lw_at lw_m5 179 rfl) rfl
theorem q1275 : (Jvm.Cond.instanceMethod ({ cls := "java/lang/AbstractStringBuilder", name := "append", desc := "(C)Ljava/lang/AbstractStringBuilder;" } : Jvm.MethodName)) ∈ lw_all := lw_g (lw_at lw_m5 203 rfl) rfl
theorem q1276 : (Jvm.Cond.code ({ cls := "java/lang/AbstractStringBuilder", name := "append", desc := "(C)Ljava/lang/AbstractStringBuilder;" } : Jvm.MethodName) prog_16_method_31_code (2 : Nat) (Option.some (Jvm.ClassFile.FieldType.object "java/lang/AbstractStringBuilder"))) ∈ lw_all := lw_g (lw_at lw_m5 204 rfl) rfl
theorem q1277 : (Jvm.Cond.methodLink "java/lang/AbstractStringBuilder" (191 : Nat) ({ cls := "java/lang/StringLatin1", name := "canEncode", desc := "(C)Z" } : Jvm.MethodName)) ∈ lw_all := lw_g (lw_at lw_m5 205 rfl) rfl
theorem q1280 : (Jvm.Cond.methodLink "java/lang/AbstractStringBuilder" (197 : Nat) ({ cls := "java/lang/StringUTF16", name := "putCharSB", desc := "([BII)V" } : Jvm.MethodName)) ∈ lw_all := lw_g (lw_at lw_m5 208 rfl) rfl
theorem q1304 : (Jvm.Cond.instanceMethod ({ cls := "java/lang/AbstractStringBuilder", name := "charAt", desc := "(I)C" } : Jvm.MethodName)) ∈ lw_all := lw_g (lw_at lw_m5 232 rfl) rfl
theorem q1305 : (Jvm.Cond.code ({ cls := "java/lang/AbstractStringBuilder", name := "charAt", desc := "(I)C" } : Jvm.MethodName) prog_16_method_14_code (5 : Nat) (Option.some Jvm.ClassFile.FieldType.char)) ∈ lw_all := lw_g (lw_at lw_m5 233 rfl) rfl
theorem q1306 : (Jvm.Cond.methodLink "java/lang/AbstractStringBuilder" (138 : Nat) ({ cls := "java/lang/Math", name := "min", desc := "(II)I" } : Jvm.MethodName)) ∈ lw_all := lw_g (lw_at lw_m5 234 rfl) rfl
theorem q1307 : (Jvm.Cond.methodLink "java/lang/AbstractStringBuilder" (144 : Nat) ({ cls := "java/lang/String", name := "checkIndex", desc := "(II)V" } : Jvm.MethodName)) ∈ lw_all := lw_g (lw_at lw_m5 235 rfl) rfl
theorem q1308 : (Jvm.Cond.methodLink "java/lang/AbstractStringBuilder" (148 : Nat) ({ cls := "java/lang/StringUTF16", name := "getChar", desc := "([BI)C" } : Jvm.MethodName)) ∈ lw_all := lw_g (lw_at lw_m5 236 rfl) rfl
theorem q2537 : (Jvm.Cond.sameMethod "java/lang/AbstractStringBuilder" "java/lang/AbstractStringBuilder" "append" "(Ljava/lang/String;)Ljava/lang/AbstractStringBuilder;") ∈ lw_all := lw_g (lw_at lw_m11 25 rfl) rfl
theorem q2538 : (Jvm.Cond.sameMethod "java/lang/AbstractStringBuilder" "java/lang/AbstractStringBuilder" "appendNull" "()Ljava/lang/AbstractStringBuilder;") ∈ lw_all := lw_g (lw_at lw_m11 26 rfl) rfl
theorem q2539 : (Jvm.Cond.sameMethod "java/lang/AbstractStringBuilder" "java/lang/AbstractStringBuilder" "ensureCapacityInternal" "(I)V") ∈ lw_all := lw_g (lw_at lw_m11 27 rfl) rfl
theorem q2540 : (Jvm.Cond.sameMethod "java/lang/AbstractStringBuilder" "java/lang/AbstractStringBuilder" "newCapacity" "(I)I") ∈ lw_all := lw_g (lw_at lw_m11 28 rfl) rfl
theorem q2541 : (Jvm.Cond.sameMethod "java/lang/AbstractStringBuilder" "java/lang/AbstractStringBuilder" "putStringAt" "(ILjava/lang/String;)V") ∈ lw_all := lw_g (lw_at lw_m11 29 rfl) rfl
theorem q2542 : (Jvm.Cond.sameMethod "java/lang/AbstractStringBuilder" "java/lang/AbstractStringBuilder" "inflateIfNeededFor" "(Ljava/lang/String;)V") ∈ lw_all := lw_g (lw_at lw_m11 30 rfl) rfl
theorem q2543 : (Jvm.Cond.sameMethod "java/lang/AbstractStringBuilder" "java/lang/AbstractStringBuilder" "inflate" "()V") ∈ lw_all := lw_g (lw_at lw_m11 31 rfl) rfl
theorem q2544 : (Jvm.Cond.sameMethod "java/lang/AbstractStringBuilder" "java/lang/AbstractStringBuilder" "append" "(I)Ljava/lang/AbstractStringBuilder;") ∈ lw_all := lw_g (lw_at lw_m11 32 rfl) rfl
theorem q2545 : (Jvm.Cond.sameMethod "java/lang/AbstractStringBuilder" "java/lang/AbstractStringBuilder" "setLength" "(I)V") ∈ lw_all := lw_g (lw_at lw_m11 33 rfl) rfl
theorem q2546 : (Jvm.Cond.sameMethod "java/lang/AbstractStringBuilder" "java/lang/AbstractStringBuilder" "append" "(C)Ljava/lang/AbstractStringBuilder;") ∈ lw_all := lw_g (lw_at lw_m11 34 rfl) rfl
theorem q2548 : (Jvm.Cond.sameMethod "java/lang/AbstractStringBuilder" "java/lang/AbstractStringBuilder" "charAt" "(I)C") ∈ lw_all := lw_g (lw_at lw_m11 36 rfl) rfl
/-! java/lang/StringBuilder -/
set_option maxRecDepth 100000
def RJ8 : String := "java/lang/StringBuilder"
def TJ8 : u_T := fun k => match k with
  | 0 => ("java/lang/AbstractStringBuilder", "value", "[B", false)
  | 1 => ("java/lang/AbstractStringBuilder", "coder", "B", false)
  | 2 => ("java/lang/AbstractStringBuilder", "maybeLatin1", "Z", false)
  | _ => ("java/lang/AbstractStringBuilder", "count", "I", false)
def tyJ8 : Nat → FieldType := fun k => match k with
  | 0 => .array .byte
  | 1 => .byte
  | 2 => .boolean
  | _ => .int
abbrev wsJ80 : List Cond := u_ws RJ8 TJ8 4
theorem nmJ8 : ∀ a, a < 4 → ∀ b, b < 4 → a ≠ b → (TJ8 a).2.1 ≠ (TJ8 b).2.1 := by decide +kernel
theorem tyJ8_ok : ∀ k, k < 4 → parseFieldDescriptor (TJ8 k).2.2.1 = some (tyJ8 k) := by decide +kernel
abbrev cJ8_init : ByteArray := prog_32_method_1_code
def yJ8_init : MethodName := ⟨RJ8, "<init>", "()V"⟩
def dkwJ8_init_0 : List UInt8 := [42, 16, 16, 183, 0, 1, 177]
abbrev dktJ8_init_0 : List UInt8 := dkwJ8_init_0 ++ []
theorem dksJ8_init_0 : cJ8_init.data.toList.drop 0 = dktJ8_init_0 := by decide +kernel
theorem dJ8_init_0 : decode cJ8_init 0 = .ok (.aload_n 0, 1) := dk_42 (dk_at dksJ8_init_0 0 rfl rfl)
theorem dJ8_init_1 : decode cJ8_init 1 = .ok (.bipush 16, 2) := dk_16 16 (dk_at dksJ8_init_0 1 rfl rfl)
theorem dJ8_init_3 : decode cJ8_init 3 = .ok (.invokespecial 1, 3) := dk_183 0 1 (dk_at dksJ8_init_0 3 rfl rfl)
theorem dJ8_init_6 : decode cJ8_init 6 = .ok (.return_, 1) := dk_177 (dk_at dksJ8_init_0 6 rfl rfl)
abbrev cJ8_append : ByteArray := prog_32_method_7_code
def yJ8_append : MethodName := ⟨RJ8, "append", "(Ljava/lang/String;)Ljava/lang/StringBuilder;"⟩
def dkwJ8_append_0 : List UInt8 := [42, 43, 183, 0, 29, 87, 42, 176]
abbrev dktJ8_append_0 : List UInt8 := dkwJ8_append_0 ++ []
theorem dksJ8_append_0 : cJ8_append.data.toList.drop 0 = dktJ8_append_0 := by decide +kernel
theorem dJ8_append_0 : decode cJ8_append 0 = .ok (.aload_n 0, 1) := dk_42 (dk_at dksJ8_append_0 0 rfl rfl)
theorem dJ8_append_1 : decode cJ8_append 1 = .ok (.aload_n 1, 1) := dk_43 (dk_at dksJ8_append_0 1 rfl rfl)
theorem dJ8_append_2 : decode cJ8_append 2 = .ok (.invokespecial 29, 3) := dk_183 0 29 (dk_at dksJ8_append_0 2 rfl rfl)
theorem dJ8_append_5 : decode cJ8_append 5 = .ok (.pop, 1) := dk_87 (dk_at dksJ8_append_0 5 rfl rfl)
theorem dJ8_append_6 : decode cJ8_append 6 = .ok (.aload_n 0, 1) := dk_42 (dk_at dksJ8_append_0 6 rfl rfl)
theorem dJ8_append_7 : decode cJ8_append 7 = .ok (.areturn, 1) := dk_176 (dk_at dksJ8_append_0 7 rfl rfl)
abbrev cJ8_append_2 : ByteArray := prog_32_method_15_code
def yJ8_append_2 : MethodName := ⟨RJ8, "append", "(I)Ljava/lang/StringBuilder;"⟩
def dkwJ8_append_2_0 : List UInt8 := [42, 27, 183, 0, 53, 87, 42, 176]
abbrev dktJ8_append_2_0 : List UInt8 := dkwJ8_append_2_0 ++ []
theorem dksJ8_append_2_0 : cJ8_append_2.data.toList.drop 0 = dktJ8_append_2_0 := by decide +kernel
theorem dJ8_append_2_0 : decode cJ8_append_2 0 = .ok (.aload_n 0, 1) := dk_42 (dk_at dksJ8_append_2_0 0 rfl rfl)
theorem dJ8_append_2_1 : decode cJ8_append_2 1 = .ok (.iload_n 1, 1) := dk_27 (dk_at dksJ8_append_2_0 1 rfl rfl)
theorem dJ8_append_2_2 : decode cJ8_append_2 2 = .ok (.invokespecial 53, 3) := dk_183 0 53 (dk_at dksJ8_append_2_0 2 rfl rfl)
theorem dJ8_append_2_5 : decode cJ8_append_2 5 = .ok (.pop, 1) := dk_87 (dk_at dksJ8_append_2_0 5 rfl rfl)
theorem dJ8_append_2_6 : decode cJ8_append_2 6 = .ok (.aload_n 0, 1) := dk_42 (dk_at dksJ8_append_2_0 6 rfl rfl)
theorem dJ8_append_2_7 : decode cJ8_append_2 7 = .ok (.areturn, 1) := dk_176 (dk_at dksJ8_append_2_0 7 rfl rfl)
abbrev cJ8_toString : ByteArray := prog_32_method_42_code
def yJ8_toString : MethodName := ⟨RJ8, "toString", "()Ljava/lang/String;"⟩
def dkwJ8_toString_0 : List UInt8 := [187, 0, 18, 89, 42, 183, 0, 137, 176]
abbrev dktJ8_toString_0 : List UInt8 := dkwJ8_toString_0 ++ []
theorem dksJ8_toString_0 : cJ8_toString.data.toList.drop 0 = dktJ8_toString_0 := by decide +kernel
theorem dJ8_toString_0 : decode cJ8_toString 0 = .ok (.new 18, 3) := dk_187 0 18 (dk_at dksJ8_toString_0 0 rfl rfl)
theorem dJ8_toString_3 : decode cJ8_toString 3 = .ok (.dup, 1) := dk_89 (dk_at dksJ8_toString_0 3 rfl rfl)
theorem dJ8_toString_4 : decode cJ8_toString 4 = .ok (.aload_n 0, 1) := dk_42 (dk_at dksJ8_toString_0 4 rfl rfl)
theorem dJ8_toString_5 : decode cJ8_toString 5 = .ok (.invokespecial 137, 3) := dk_183 0 137 (dk_at dksJ8_toString_0 5 rfl rfl)
theorem dJ8_toString_8 : decode cJ8_toString 8 = .ok (.areturn, 1) := dk_176 (dk_at dksJ8_toString_0 8 rfl rfl)
abbrev cJ8_length : ByteArray := prog_32_method_93_code
def yJ8_length : MethodName := ⟨RJ8, "length", "()I"⟩
theorem dJ8_length_0 : decode cJ8_length 0 = .ok (.aload_n 0, 1) := by decide +kernel
theorem dJ8_length_1 : decode cJ8_length 1 = .ok (.invokespecial 343, 3) := by decide +kernel
theorem dJ8_length_4 : decode cJ8_length 4 = .ok (.ireturn, 1) := by decide +kernel
abbrev cJ8_setLength : ByteArray := prog_32_method_89_code
def yJ8_setLength : MethodName := ⟨RJ8, "setLength", "(I)V"⟩
def dkwJ8_setLength_0 : List UInt8 := [42, 27, 183, 1, 77, 177]
abbrev dktJ8_setLength_0 : List UInt8 := dkwJ8_setLength_0 ++ []
theorem dksJ8_setLength_0 : cJ8_setLength.data.toList.drop 0 = dktJ8_setLength_0 := by decide +kernel
theorem dJ8_setLength_0 : decode cJ8_setLength 0 = .ok (.aload_n 0, 1) := dk_42 (dk_at dksJ8_setLength_0 0 rfl rfl)
theorem dJ8_setLength_1 : decode cJ8_setLength 1 = .ok (.iload_n 1, 1) := dk_27 (dk_at dksJ8_setLength_0 1 rfl rfl)
theorem dJ8_setLength_2 : decode cJ8_setLength 2 = .ok (.invokespecial 333, 3) := dk_183 1 77 (dk_at dksJ8_setLength_0 2 rfl rfl)
theorem dJ8_setLength_5 : decode cJ8_setLength 5 = .ok (.return_, 1) := dk_177 (dk_at dksJ8_setLength_0 5 rfl rfl)
abbrev cJ8_append_3 : ByteArray := prog_32_method_14_code
def yJ8_append_3 : MethodName := ⟨RJ8, "append", "(C)Ljava/lang/StringBuilder;"⟩
def dkwJ8_append_3_0 : List UInt8 := [42, 27, 183, 0, 50, 87, 42, 176]
abbrev dktJ8_append_3_0 : List UInt8 := dkwJ8_append_3_0 ++ []
theorem dksJ8_append_3_0 : cJ8_append_3.data.toList.drop 0 = dktJ8_append_3_0 := by decide +kernel
theorem dJ8_append_3_0 : decode cJ8_append_3 0 = .ok (.aload_n 0, 1) := dk_42 (dk_at dksJ8_append_3_0 0 rfl rfl)
theorem dJ8_append_3_1 : decode cJ8_append_3 1 = .ok (.iload_n 1, 1) := dk_27 (dk_at dksJ8_append_3_0 1 rfl rfl)
theorem dJ8_append_3_2 : decode cJ8_append_3 2 = .ok (.invokespecial 50, 3) := dk_183 0 50 (dk_at dksJ8_append_3_0 2 rfl rfl)
theorem dJ8_append_3_5 : decode cJ8_append_3 5 = .ok (.pop, 1) := dk_87 (dk_at dksJ8_append_3_0 5 rfl rfl)
theorem dJ8_append_3_6 : decode cJ8_append_3 6 = .ok (.aload_n 0, 1) := dk_42 (dk_at dksJ8_append_3_0 6 rfl rfl)
theorem dJ8_append_3_7 : decode cJ8_append_3 7 = .ok (.areturn, 1) := dk_176 (dk_at dksJ8_append_3_0 7 rfl rfl)
abbrev cJ8_charAt : ByteArray := prog_32_method_88_code
def yJ8_charAt : MethodName := ⟨RJ8, "charAt", "(I)C"⟩
def dkwJ8_charAt_0 : List UInt8 := [42, 27, 183, 1, 73, 172]
abbrev dktJ8_charAt_0 : List UInt8 := dkwJ8_charAt_0 ++ []
theorem dksJ8_charAt_0 : cJ8_charAt.data.toList.drop 0 = dktJ8_charAt_0 := by decide +kernel
theorem dJ8_charAt_0 : decode cJ8_charAt 0 = .ok (.aload_n 0, 1) := dk_42 (dk_at dksJ8_charAt_0 0 rfl rfl)
theorem dJ8_charAt_1 : decode cJ8_charAt 1 = .ok (.iload_n 1, 1) := dk_27 (dk_at dksJ8_charAt_0 1 rfl rfl)
theorem dJ8_charAt_2 : decode cJ8_charAt 2 = .ok (.invokespecial 329, 3) := dk_183 1 73 (dk_at dksJ8_charAt_0 2 rfl rfl)
theorem dJ8_charAt_5 : decode cJ8_charAt 5 = .ok (.ireturn, 1) := dk_172 (dk_at dksJ8_charAt_0 5 rfl rfl)
theorem q125 : (Jvm.Cond.initialized "java/lang/StringBuilder") ∈ lw_all := lw_g (lw_at lw_m1 13 rfl) rfl
theorem q305 : (Jvm.Cond.instantiable "java/lang/StringBuilder" (4 : Nat)) ∈ lw_all := lw_g (lw_at lw_m1 193 rfl) rfl
theorem q307 : (Jvm.Cond.instanceMethod ({ cls := "java/lang/StringBuilder", name := "<init>", desc := "()V" } : Jvm.MethodName)) ∈ lw_all := lw_g (lw_at lw_m1 195 rfl) rfl
theorem q308 : (Jvm.Cond.code ({ cls := "java/lang/StringBuilder", name := "<init>", desc := "()V" } : Jvm.MethodName) prog_32_method_1_code (1 : Nat) (Option.none : Option Jvm.ClassFile.FieldType)) ∈ lw_all := lw_g (lw_at lw_m1 196 rfl) rfl
theorem q309 : (Jvm.Cond.methodLink "java/lang/StringBuilder" (1 : Nat) ({ cls := "java/lang/AbstractStringBuilder", name := "<init>", desc := "(I)V" } : Jvm.MethodName)) ∈ lw_all := lw_g (lw_at lw_m1 197 rfl) rfl
theorem q327 : (Jvm.Cond.lays "java/lang/StringBuilder" "java/lang/AbstractStringBuilder" "value" "[B") ∈ lw_all := lw_g (lw_at lw_m1 215 rfl) rfl
theorem q329 : (Jvm.Cond.lays "java/lang/StringBuilder" "java/lang/AbstractStringBuilder" "coder" "B") ∈ lw_all := lw_g (lw_at lw_m1 217 rfl) rfl
theorem q331 : (Jvm.Cond.lays "java/lang/StringBuilder" "java/lang/AbstractStringBuilder" "maybeLatin1" "Z") ∈ lw_all := lw_g (lw_at lw_m1 219 rfl) rfl
theorem q333 : (Jvm.Cond.lays "java/lang/StringBuilder" "java/lang/AbstractStringBuilder" "count" "I") ∈ lw_all := lw_g (lw_at lw_m1 221 rfl) rfl
theorem q335 : (Jvm.Cond.superclass "java/lang/StringBuilder" "java/lang/AbstractStringBuilder") ∈ lw_all := lw_g (lw_at lw_m1 223 rfl) rfl
theorem q339 : (Jvm.Cond.instanceMethod ({ cls := "java/lang/StringBuilder", name := "append", desc := "(Ljava/lang/String;)Ljava/lang/StringBuilder;" } : Jvm.MethodName)) ∈ lw_all := lw_g (lw_at lw_m1 227 rfl) rfl
theorem q340 : (Jvm.Cond.selects "java/lang/StringBuilder" ({ cls := "java/lang/StringBuilder", name := "append", desc := "(Ljava/lang/String;)Ljava/lang/StringBuilder;" } : Jvm.MethodName) ({ cls := "java/lang/StringBuilder", name := "append", desc := "(Ljava/lang/String;)Ljava/lang/StringBuilder;" } : Jvm.MethodName)) ∈ lw_all := lw_g (lw_at lw_m1 228 rfl) rfl
theorem q341 : (Jvm.Cond.code ({ cls := "java/lang/StringBuilder", name := "append", desc := "(Ljava/lang/String;)Ljava/lang/StringBuilder;" } : Jvm.MethodName) prog_32_method_7_code (2 : Nat) (Option.some (Jvm.ClassFile.FieldType.object "java/lang/StringBuilder"))) ∈ lw_all := lw_g (lw_at lw_m1 229 rfl) rfl
theorem q342 : (Jvm.Cond.methodLink "java/lang/StringBuilder" (29 : Nat) ({ cls := "java/lang/AbstractStringBuilder", name := "append", desc := "(Ljava/lang/String;)Ljava/lang/AbstractStringBuilder;" } : Jvm.MethodName)) ∈ lw_all := lw_g (lw_at lw_m1 230 rfl) rfl
theorem q385 : (Jvm.Cond.selects "java/lang/StringBuilder" ({ cls := "java/lang/AbstractStringBuilder", name := "isLatin1", desc := "()Z" } : Jvm.MethodName) ({ cls := "java/lang/AbstractStringBuilder", name := "isLatin1", desc := "()Z" } : Jvm.MethodName)) ∈ lw_all := lw_g (lw_at lw_m2 33 rfl) rfl
theorem q457 : (Jvm.Cond.instanceMethod ({ cls := "java/lang/StringBuilder", name := "append", desc := "(I)Ljava/lang/StringBuilder;" } : Jvm.MethodName)) ∈ lw_all := lw_g (lw_at lw_m2 105 rfl) rfl
theorem q458 : (Jvm.Cond.selects "java/lang/StringBuilder" ({ cls := "java/lang/StringBuilder", name := "append", desc := "(I)Ljava/lang/StringBuilder;" } : Jvm.MethodName) ({ cls := "java/lang/StringBuilder", name := "append", desc := "(I)Ljava/lang/StringBuilder;" } : Jvm.MethodName)) ∈ lw_all := lw_g (lw_at lw_m2 106 rfl) rfl
theorem q459 : (Jvm.Cond.code ({ cls := "java/lang/StringBuilder", name := "append", desc := "(I)Ljava/lang/StringBuilder;" } : Jvm.MethodName) prog_32_method_15_code (2 : Nat) (Option.some (Jvm.ClassFile.FieldType.object "java/lang/StringBuilder"))) ∈ lw_all := lw_g (lw_at lw_m2 107 rfl) rfl
theorem q460 : (Jvm.Cond.methodLink "java/lang/StringBuilder" (53 : Nat) ({ cls := "java/lang/AbstractStringBuilder", name := "append", desc := "(I)Ljava/lang/AbstractStringBuilder;" } : Jvm.MethodName)) ∈ lw_all := lw_g (lw_at lw_m2 108 rfl) rfl
theorem q482 : (Jvm.Cond.instanceMethod ({ cls := "java/lang/StringBuilder", name := "toString", desc := "()Ljava/lang/String;" } : Jvm.MethodName)) ∈ lw_all := lw_g (lw_at lw_m2 130 rfl) rfl
theorem q483 : (Jvm.Cond.selects "java/lang/StringBuilder" ({ cls := "java/lang/StringBuilder", name := "toString", desc := "()Ljava/lang/String;" } : Jvm.MethodName) ({ cls := "java/lang/StringBuilder", name := "toString", desc := "()Ljava/lang/String;" } : Jvm.MethodName)) ∈ lw_all := lw_g (lw_at lw_m2 131 rfl) rfl
theorem q484 : (Jvm.Cond.code ({ cls := "java/lang/StringBuilder", name := "toString", desc := "()Ljava/lang/String;" } : Jvm.MethodName) prog_32_method_42_code (1 : Nat) (Option.some (Jvm.ClassFile.FieldType.object "java/lang/String"))) ∈ lw_all := lw_g (lw_at lw_m2 132 rfl) rfl
theorem q485 : (Jvm.Cond.classLink "java/lang/StringBuilder" (18 : Nat) "java/lang/String") ∈ lw_all := lw_g (lw_at lw_m2 133 rfl) rfl
theorem q487 : (Jvm.Cond.methodLink "java/lang/StringBuilder" (137 : Nat) ({ cls := "java/lang/String", name := "<init>", desc := "(Ljava/lang/StringBuilder;)V" } : Jvm.MethodName)) ∈ lw_all := lw_g (lw_at lw_m2 135 rfl) rfl
theorem q497 : (Jvm.Cond.selects "java/lang/StringBuilder" ({ cls := "java/lang/AbstractStringBuilder", name := "getValue", desc := "()[B" } : Jvm.MethodName) ({ cls := "java/lang/AbstractStringBuilder", name := "getValue", desc := "()[B" } : Jvm.MethodName)) ∈ lw_all := lw_g (lw_at lw_m2 145 rfl) rfl
theorem q502 : (Jvm.Cond.selects "java/lang/StringBuilder" ({ cls := "java/lang/AbstractStringBuilder", name := "length", desc := "()I" } : Jvm.MethodName) ({ cls := "java/lang/StringBuilder", name := "length", desc := "()I" } : Jvm.MethodName)) ∈ lw_all := lw_g (lw_at lw_m2 150 rfl) rfl
theorem q503 : (Jvm.Cond.instanceMethod ({ cls := "java/lang/StringBuilder", name := "length", desc := "()I" } : Jvm.MethodName)) ∈ lw_all := lw_g (lw_at lw_m2 151 rfl) rfl
theorem q504 : (Jvm.Cond.code ({ cls := "java/lang/StringBuilder", name := "length", desc := "()I" } : Jvm.MethodName) prog_32_method_93_code (1 : Nat) (Option.some Jvm.ClassFile.FieldType.int)) ∈ lw_all := lw_g (lw_at lw_m2 152 rfl) rfl
theorem q505 : (Jvm.Cond.methodLink "java/lang/StringBuilder" (343 : Nat) ({ cls := "java/lang/AbstractStringBuilder", name := "length", desc := "()I" } : Jvm.MethodName)) ∈ lw_all := lw_g (lw_at lw_m2 153 rfl) rfl
theorem q975 : (Jvm.Cond.selects "java/lang/StringBuilder" ({ cls := "java/lang/Object", name := "getClass", desc := "()Ljava/lang/Class;" } : Jvm.MethodName) ({ cls := "java/lang/Object", name := "getClass", desc := "()Ljava/lang/Class;" } : Jvm.MethodName)) ∈ lw_all := lw_g (lw_at lw_m4 143 rfl) rfl
theorem q1188 : (Jvm.Cond.instanceMethod ({ cls := "java/lang/StringBuilder", name := "setLength", desc := "(I)V" } : Jvm.MethodName)) ∈ lw_all := lw_g (lw_at lw_m5 116 rfl) rfl
theorem q1189 : (Jvm.Cond.selects "java/lang/StringBuilder" ({ cls := "java/lang/StringBuilder", name := "setLength", desc := "(I)V" } : Jvm.MethodName) ({ cls := "java/lang/StringBuilder", name := "setLength", desc := "(I)V" } : Jvm.MethodName)) ∈ lw_all := lw_g (lw_at lw_m5 117 rfl) rfl
theorem q1190 : (Jvm.Cond.code ({ cls := "java/lang/StringBuilder", name := "setLength", desc := "(I)V" } : Jvm.MethodName) prog_32_method_89_code (2 : Nat) (Option.none : Option Jvm.ClassFile.FieldType)) ∈ lw_all := lw_g (lw_at lw_m5 118 rfl) rfl
theorem q1191 : (Jvm.Cond.methodLink "java/lang/StringBuilder" (333 : Nat) ({ cls := "java/lang/AbstractStringBuilder", name := "setLength", desc := "(I)V" } : Jvm.MethodName)) ∈ lw_all := lw_g (lw_at lw_m5 119 rfl) rfl
theorem q1271 : (Jvm.Cond.instanceMethod ({ cls := "java/lang/StringBuilder", name := "append", desc := "(C)Ljava/lang/StringBuilder;" } : Jvm.MethodName)) ∈ lw_all := lw_g (lw_at lw_m5 199 rfl) rfl
theorem q1272 : (Jvm.Cond.selects "java/lang/StringBuilder" ({ cls := "java/lang/StringBuilder", name := "append", desc := "(C)Ljava/lang/StringBuilder;" } : Jvm.MethodName) ({ cls := "java/lang/StringBuilder", name := "append", desc := "(C)Ljava/lang/StringBuilder;" } : Jvm.MethodName)) ∈ lw_all := lw_g (lw_at lw_m5 200 rfl) rfl
theorem q1273 : (Jvm.Cond.code ({ cls := "java/lang/StringBuilder", name := "append", desc := "(C)Ljava/lang/StringBuilder;" } : Jvm.MethodName) prog_32_method_14_code (2 : Nat) (Option.some (Jvm.ClassFile.FieldType.object "java/lang/StringBuilder"))) ∈ lw_all := lw_g (lw_at lw_m5 201 rfl) rfl
theorem q1274 : (Jvm.Cond.methodLink "java/lang/StringBuilder" (50 : Nat) ({ cls := "java/lang/AbstractStringBuilder", name := "append", desc := "(C)Ljava/lang/AbstractStringBuilder;" } : Jvm.MethodName)) ∈ lw_all := lw_g (lw_at lw_m5 202 rfl) rfl
theorem q1300 : (Jvm.Cond.instanceMethod ({ cls := "java/lang/StringBuilder", name := "charAt", desc := "(I)C" } : Jvm.MethodName)) ∈ lw_all := lw_g (lw_at lw_m5 228 rfl) rfl
theorem q1301 : (Jvm.Cond.selects "java/lang/StringBuilder" ({ cls := "java/lang/StringBuilder", name := "charAt", desc := "(I)C" } : Jvm.MethodName) ({ cls := "java/lang/StringBuilder", name := "charAt", desc := "(I)C" } : Jvm.MethodName)) ∈ lw_all := lw_g (lw_at lw_m5 229 rfl) rfl
theorem q1302 : (Jvm.Cond.code ({ cls := "java/lang/StringBuilder", name := "charAt", desc := "(I)C" } : Jvm.MethodName) prog_32_method_88_code (2 : Nat) (Option.some Jvm.ClassFile.FieldType.char)) ∈ lw_all := lw_g (lw_at lw_m5 230 rfl) rfl
theorem q1303 : (Jvm.Cond.methodLink "java/lang/StringBuilder" (329 : Nat) ({ cls := "java/lang/AbstractStringBuilder", name := "charAt", desc := "(I)C" } : Jvm.MethodName)) ∈ lw_all := lw_g (lw_at lw_m5 231 rfl) rfl
theorem q2547 : (Jvm.Cond.selects "java/lang/StringBuilder" ({ cls := "java/lang/StringBuilder", name := "length", desc := "()I" } : Jvm.MethodName) ({ cls := "java/lang/StringBuilder", name := "length", desc := "()I" } : Jvm.MethodName)) ∈ lw_all := lw_g (lw_at lw_m11 35 rfl) rfl
theorem q2561 : (Jvm.Cond.castable "java/lang/StringBuilder" "java/lang/Object") ∈ lw_tbl := lw_at lw_m11 49 rfl
theorem in_J8 : ∀ w ∈ wsJ80, w ∈ lw_all := lw_in wsJ80 [327, 329, 331, 333] (by decide +kernel) (by decide +kernel)
/-! java/lang/String -/
set_option maxRecDepth 100000
def RJ9 : String := "java/lang/String"
def TJ9 : u_T := fun k => match k with
  | 0 => ("java/lang/String", "value", "[B", true)
  | 1 => ("java/lang/String", "coder", "B", true)
  | 2 => ("java/lang/String", "hash", "I", false)
  | _ => ("java/lang/String", "hashIsZero", "Z", false)
def tyJ9 : Nat → FieldType := fun k => match k with
  | 0 => .array .byte
  | 1 => .byte
  | 2 => .int
  | _ => .boolean
abbrev wsJ90 : List Cond := u_ws RJ9 TJ9 4
theorem nmJ9 : ∀ a, a < 4 → ∀ b, b < 4 → a ≠ b → (TJ9 a).2.1 ≠ (TJ9 b).2.1 := by decide +kernel
theorem tyJ9_ok : ∀ k, k < 4 → parseFieldDescriptor (TJ9 k).2.2.1 = some (tyJ9 k) := by decide +kernel
abbrev cJ9_checkBoundsBeginEnd : ByteArray := prog_31_method_158_code
def yJ9_checkBoundsBeginEnd : MethodName := ⟨RJ9, "checkBoundsBeginEnd", "(III)V"⟩
def dkwJ9_checkBoundsBeginEnd_0 : List UInt8 := [26, 27, 28, 178, 4, 29, 184, 4, 38, 87, 177]
abbrev dktJ9_checkBoundsBeginEnd_0 : List UInt8 := dkwJ9_checkBoundsBeginEnd_0 ++ []
theorem dksJ9_checkBoundsBeginEnd_0 : cJ9_checkBoundsBeginEnd.data.toList.drop 0 = dktJ9_checkBoundsBeginEnd_0 := by decide +kernel
theorem dJ9_checkBoundsBeginEnd_0 : decode cJ9_checkBoundsBeginEnd 0 = .ok (.iload_n 0, 1) := dk_26 (dk_at dksJ9_checkBoundsBeginEnd_0 0 rfl rfl)
theorem dJ9_checkBoundsBeginEnd_1 : decode cJ9_checkBoundsBeginEnd 1 = .ok (.iload_n 1, 1) := dk_27 (dk_at dksJ9_checkBoundsBeginEnd_0 1 rfl rfl)
theorem dJ9_checkBoundsBeginEnd_2 : decode cJ9_checkBoundsBeginEnd 2 = .ok (.iload_n 2, 1) := dk_28 (dk_at dksJ9_checkBoundsBeginEnd_0 2 rfl rfl)
theorem dJ9_checkBoundsBeginEnd_3 : decode cJ9_checkBoundsBeginEnd 3 = .ok (.getstatic 1053, 3) := dk_178 4 29 (dk_at dksJ9_checkBoundsBeginEnd_0 3 rfl rfl)
theorem dJ9_checkBoundsBeginEnd_6 : decode cJ9_checkBoundsBeginEnd 6 = .ok (.invokestatic 1062, 3) := dk_184 4 38 (dk_at dksJ9_checkBoundsBeginEnd_0 6 rfl rfl)
theorem dJ9_checkBoundsBeginEnd_9 : decode cJ9_checkBoundsBeginEnd 9 = .ok (.pop, 1) := dk_87 (dk_at dksJ9_checkBoundsBeginEnd_0 9 rfl rfl)
theorem dJ9_checkBoundsBeginEnd_10 : decode cJ9_checkBoundsBeginEnd 10 = .ok (.return_, 1) := dk_177 (dk_at dksJ9_checkBoundsBeginEnd_0 10 rfl rfl)
abbrev cJ9_length : ByteArray := prog_31_method_54_code
def yJ9_length : MethodName := ⟨RJ9, "length", "()I"⟩
def dkwJ9_length_0 : List UInt8 := [42, 180, 0, 9, 190, 42, 182, 1, 79, 122, 172]
abbrev dktJ9_length_0 : List UInt8 := dkwJ9_length_0 ++ []
theorem dksJ9_length_0 : cJ9_length.data.toList.drop 0 = dktJ9_length_0 := by decide +kernel
theorem dJ9_length_0 : decode cJ9_length 0 = .ok (.aload_n 0, 1) := dk_42 (dk_at dksJ9_length_0 0 rfl rfl)
theorem dJ9_length_1 : decode cJ9_length 1 = .ok (.getfield 9, 3) := dk_180 0 9 (dk_at dksJ9_length_0 1 rfl rfl)
theorem dJ9_length_4 : decode cJ9_length 4 = .ok (.arraylength, 1) := dk_190 (dk_at dksJ9_length_0 4 rfl rfl)
theorem dJ9_length_5 : decode cJ9_length 5 = .ok (.aload_n 0, 1) := dk_42 (dk_at dksJ9_length_0 5 rfl rfl)
theorem dJ9_length_6 : decode cJ9_length 6 = .ok (.invokevirtual 335, 3) := dk_182 1 79 (dk_at dksJ9_length_0 6 rfl rfl)
theorem dJ9_length_9 : decode cJ9_length 9 = .ok (.ishr, 1) := dk_122 (dk_at dksJ9_length_0 9 rfl rfl)
theorem dJ9_length_10 : decode cJ9_length 10 = .ok (.ireturn, 1) := dk_172 (dk_at dksJ9_length_0 10 rfl rfl)
abbrev cJ9_coder : ByteArray := prog_31_method_152_code
def yJ9_coder : MethodName := ⟨RJ9, "coder", "()B"⟩
def dkwJ9_coder_0 : List UInt8 := [178, 0, 38, 153, 0, 10, 42, 180, 0, 15, 167, 0, 4, 4, 172]
abbrev dktJ9_coder_0 : List UInt8 := dkwJ9_coder_0 ++ []
theorem dksJ9_coder_0 : cJ9_coder.data.toList.drop 0 = dktJ9_coder_0 := by decide +kernel
theorem dJ9_coder_0 : decode cJ9_coder 0 = .ok (.getstatic 38, 3) := dk_178 0 38 (dk_at dksJ9_coder_0 0 rfl rfl)
theorem dJ9_coder_3 : decode cJ9_coder 3 = .ok (.ifCond .eq 10, 3) := dk_153 0 10 (dk_at dksJ9_coder_0 3 rfl rfl)
theorem dJ9_coder_6 : decode cJ9_coder 6 = .ok (.aload_n 0, 1) := dk_42 (dk_at dksJ9_coder_0 6 rfl rfl)
theorem dJ9_coder_7 : decode cJ9_coder 7 = .ok (.getfield 15, 3) := dk_180 0 15 (dk_at dksJ9_coder_0 7 rfl rfl)
theorem dJ9_coder_10 : decode cJ9_coder 10 = .ok (.goto 4, 3) := dk_167 0 4 (dk_at dksJ9_coder_0 10 rfl rfl)
theorem dJ9_coder_13 : decode cJ9_coder 13 = .ok (.iconst 1, 1) := dk_4 (dk_at dksJ9_coder_0 13 rfl rfl)
theorem dJ9_coder_14 : decode cJ9_coder 14 = .ok (.ireturn, 1) := dk_172 (dk_at dksJ9_coder_0 14 rfl rfl)
abbrev cJ9_checkBoundsOffCount : ByteArray := prog_31_method_157_code
def yJ9_checkBoundsOffCount : MethodName := ⟨RJ9, "checkBoundsOffCount", "(III)I"⟩
def dkwJ9_checkBoundsOffCount_0 : List UInt8 := [26, 27, 28, 178, 4, 29, 184, 4, 41, 172]
abbrev dktJ9_checkBoundsOffCount_0 : List UInt8 := dkwJ9_checkBoundsOffCount_0 ++ []
theorem dksJ9_checkBoundsOffCount_0 : cJ9_checkBoundsOffCount.data.toList.drop 0 = dktJ9_checkBoundsOffCount_0 := by decide +kernel
theorem dJ9_checkBoundsOffCount_0 : decode cJ9_checkBoundsOffCount 0 = .ok (.iload_n 0, 1) := dk_26 (dk_at dksJ9_checkBoundsOffCount_0 0 rfl rfl)
theorem dJ9_checkBoundsOffCount_1 : decode cJ9_checkBoundsOffCount 1 = .ok (.iload_n 1, 1) := dk_27 (dk_at dksJ9_checkBoundsOffCount_0 1 rfl rfl)
theorem dJ9_checkBoundsOffCount_2 : decode cJ9_checkBoundsOffCount 2 = .ok (.iload_n 2, 1) := dk_28 (dk_at dksJ9_checkBoundsOffCount_0 2 rfl rfl)
theorem dJ9_checkBoundsOffCount_3 : decode cJ9_checkBoundsOffCount 3 = .ok (.getstatic 1053, 3) := dk_178 4 29 (dk_at dksJ9_checkBoundsOffCount_0 3 rfl rfl)
theorem dJ9_checkBoundsOffCount_6 : decode cJ9_checkBoundsOffCount 6 = .ok (.invokestatic 1065, 3) := dk_184 4 41 (dk_at dksJ9_checkBoundsOffCount_0 6 rfl rfl)
theorem dJ9_checkBoundsOffCount_9 : decode cJ9_checkBoundsOffCount 9 = .ok (.ireturn, 1) := dk_172 (dk_at dksJ9_checkBoundsOffCount_0 9 rfl rfl)
abbrev cJ9_getBytes : ByteArray := prog_31_method_147_code
def yJ9_getBytes : MethodName := ⟨RJ9, "getBytes", "([BIB)V"⟩
def dkwJ9_getBytes_1 : List UInt8 := [184, 0, 212, 167, 0, 18, 42, 180, 0, 9, 3, 43, 28, 42, 180, 0, 9, 190, 184, 0, 106, 177]
abbrev dktJ9_getBytes_1 : List UInt8 := dkwJ9_getBytes_1 ++ []
def dkwJ9_getBytes_0 : List UInt8 := [42, 182, 1, 79, 29, 160, 0, 23, 42, 180, 0, 9, 3, 43, 28, 29, 120, 42, 180, 0, 9, 190]
abbrev dktJ9_getBytes_0 : List UInt8 := dkwJ9_getBytes_0 ++ dktJ9_getBytes_1
theorem dksJ9_getBytes_0 : cJ9_getBytes.data.toList.drop 0 = dktJ9_getBytes_0 := by decide +kernel
theorem dksJ9_getBytes_1 : cJ9_getBytes.data.toList.drop 22 = dktJ9_getBytes_1 := dk_seg dksJ9_getBytes_0 22 rfl rfl
theorem dJ9_getBytes_0 : decode cJ9_getBytes 0 = .ok (.aload_n 0, 1) := dk_42 (dk_at dksJ9_getBytes_0 0 rfl rfl)
theorem dJ9_getBytes_1 : decode cJ9_getBytes 1 = .ok (.invokevirtual 335, 3) := dk_182 1 79 (dk_at dksJ9_getBytes_0 1 rfl rfl)
theorem dJ9_getBytes_4 : decode cJ9_getBytes 4 = .ok (.iload_n 3, 1) := dk_29 (dk_at dksJ9_getBytes_0 4 rfl rfl)
theorem dJ9_getBytes_5 : decode cJ9_getBytes 5 = .ok (.if_icmp .ne 23, 3) := dk_160 0 23 (dk_at dksJ9_getBytes_0 5 rfl rfl)
theorem dJ9_getBytes_8 : decode cJ9_getBytes 8 = .ok (.aload_n 0, 1) := dk_42 (dk_at dksJ9_getBytes_0 8 rfl rfl)
theorem dJ9_getBytes_9 : decode cJ9_getBytes 9 = .ok (.getfield 9, 3) := dk_180 0 9 (dk_at dksJ9_getBytes_0 9 rfl rfl)
theorem dJ9_getBytes_12 : decode cJ9_getBytes 12 = .ok (.iconst 0, 1) := dk_3 (dk_at dksJ9_getBytes_0 12 rfl rfl)
theorem dJ9_getBytes_13 : decode cJ9_getBytes 13 = .ok (.aload_n 1, 1) := dk_43 (dk_at dksJ9_getBytes_0 13 rfl rfl)
theorem dJ9_getBytes_14 : decode cJ9_getBytes 14 = .ok (.iload_n 2, 1) := dk_28 (dk_at dksJ9_getBytes_0 14 rfl rfl)
theorem dJ9_getBytes_15 : decode cJ9_getBytes 15 = .ok (.iload_n 3, 1) := dk_29 (dk_at dksJ9_getBytes_0 15 rfl rfl)
theorem dJ9_getBytes_16 : decode cJ9_getBytes 16 = .ok (.ishl, 1) := dk_120 (dk_at dksJ9_getBytes_0 16 rfl rfl)
theorem dJ9_getBytes_17 : decode cJ9_getBytes 17 = .ok (.aload_n 0, 1) := dk_42 (dk_at dksJ9_getBytes_0 17 rfl rfl)
theorem dJ9_getBytes_18 : decode cJ9_getBytes 18 = .ok (.getfield 9, 3) := dk_180 0 9 (dk_at dksJ9_getBytes_0 18 rfl rfl)
theorem dJ9_getBytes_21 : decode cJ9_getBytes 21 = .ok (.arraylength, 1) := dk_190 (dk_at dksJ9_getBytes_0 21 rfl rfl)
theorem dJ9_getBytes_22 : decode cJ9_getBytes 22 = .ok (.invokestatic 212, 3) := dk_184 0 212 (dk_at dksJ9_getBytes_1 0 rfl rfl)
theorem dJ9_getBytes_25 : decode cJ9_getBytes 25 = .ok (.goto 18, 3) := dk_167 0 18 (dk_at dksJ9_getBytes_1 3 rfl rfl)
theorem dJ9_getBytes_28 : decode cJ9_getBytes 28 = .ok (.aload_n 0, 1) := dk_42 (dk_at dksJ9_getBytes_1 6 rfl rfl)
theorem dJ9_getBytes_29 : decode cJ9_getBytes 29 = .ok (.getfield 9, 3) := dk_180 0 9 (dk_at dksJ9_getBytes_1 7 rfl rfl)
theorem dJ9_getBytes_32 : decode cJ9_getBytes 32 = .ok (.iconst 0, 1) := dk_3 (dk_at dksJ9_getBytes_1 10 rfl rfl)
theorem dJ9_getBytes_33 : decode cJ9_getBytes 33 = .ok (.aload_n 1, 1) := dk_43 (dk_at dksJ9_getBytes_1 11 rfl rfl)
theorem dJ9_getBytes_34 : decode cJ9_getBytes 34 = .ok (.iload_n 2, 1) := dk_28 (dk_at dksJ9_getBytes_1 12 rfl rfl)
theorem dJ9_getBytes_35 : decode cJ9_getBytes 35 = .ok (.aload_n 0, 1) := dk_42 (dk_at dksJ9_getBytes_1 13 rfl rfl)
theorem dJ9_getBytes_36 : decode cJ9_getBytes 36 = .ok (.getfield 9, 3) := dk_180 0 9 (dk_at dksJ9_getBytes_1 14 rfl rfl)
theorem dJ9_getBytes_39 : decode cJ9_getBytes 39 = .ok (.arraylength, 1) := dk_190 (dk_at dksJ9_getBytes_1 17 rfl rfl)
theorem dJ9_getBytes_40 : decode cJ9_getBytes 40 = .ok (.invokestatic 106, 3) := dk_184 0 106 (dk_at dksJ9_getBytes_1 18 rfl rfl)
theorem dJ9_getBytes_43 : decode cJ9_getBytes 43 = .ok (.return_, 1) := dk_177 (dk_at dksJ9_getBytes_1 21 rfl rfl)
abbrev cJ9_init : ByteArray := prog_31_method_53_code
def yJ9_init : MethodName := ⟨RJ9, "<init>", "(Ljava/lang/StringBuilder;)V"⟩
def dkwJ9_init_0 : List UInt8 := [42, 43, 1, 183, 1, 233, 177]
abbrev dktJ9_init_0 : List UInt8 := dkwJ9_init_0 ++ []
theorem dksJ9_init_0 : cJ9_init.data.toList.drop 0 = dktJ9_init_0 := by decide +kernel
theorem dJ9_init_0 : decode cJ9_init 0 = .ok (.aload_n 0, 1) := dk_42 (dk_at dksJ9_init_0 0 rfl rfl)
theorem dJ9_init_1 : decode cJ9_init 1 = .ok (.aload_n 1, 1) := dk_43 (dk_at dksJ9_init_0 1 rfl rfl)
theorem dJ9_init_2 : decode cJ9_init 2 = .ok (.aconst_null, 1) := dk_1 (dk_at dksJ9_init_0 2 rfl rfl)
theorem dJ9_init_3 : decode cJ9_init 3 = .ok (.invokespecial 489, 3) := dk_183 1 233 (dk_at dksJ9_init_0 3 rfl rfl)
theorem dJ9_init_6 : decode cJ9_init 6 = .ok (.return_, 1) := dk_177 (dk_at dksJ9_init_0 6 rfl rfl)
abbrev cJ9_init_2 : ByteArray := prog_31_method_150_code
def yJ9_init_2 : MethodName := ⟨RJ9, "<init>", "(Ljava/lang/AbstractStringBuilder;Ljava/lang/Void;)V"⟩
def dkwJ9_init_2_4 : List UInt8 := [181, 0, 9, 177]
abbrev dktJ9_init_2_4 : List UInt8 := dkwJ9_init_2_4 ++ []
def dkwJ9_init_2_3 : List UInt8 := [184, 0, 47, 181, 0, 15, 177, 42, 4, 181, 0, 15, 42, 45, 3, 21, 4, 4, 120, 184, 0, 54]
abbrev dktJ9_init_2_3 : List UInt8 := dkwJ9_init_2_3 ++ dktJ9_init_2_4
def dkwJ9_init_2_2 : List UInt8 := [180, 4, 24, 153, 0, 28, 42, 45, 3, 21, 4, 184, 4, 27, 181, 0, 9, 42, 42, 180, 0, 9, 21, 4]
abbrev dktJ9_init_2_2 : List UInt8 := dkwJ9_init_2_2 ++ dktJ9_init_2_3
def dkwJ9_init_2_1 : List UInt8 := [181, 0, 15, 42, 45, 3, 21, 4, 184, 0, 54, 181, 0, 9, 167, 0, 59, 178, 0, 38, 153, 0, 35, 43]
abbrev dktJ9_init_2_1 : List UInt8 := dkwJ9_init_2_1 ++ dktJ9_init_2_2
def dkwJ9_init_2_0 : List UInt8 := [42, 183, 0, 1, 43, 182, 2, 40, 78, 43, 182, 2, 37, 54, 4, 43, 182, 4, 23, 153, 0, 22, 42, 3]
abbrev dktJ9_init_2_0 : List UInt8 := dkwJ9_init_2_0 ++ dktJ9_init_2_1
theorem dksJ9_init_2_0 : cJ9_init_2.data.toList.drop 0 = dktJ9_init_2_0 := by decide +kernel
theorem dksJ9_init_2_1 : cJ9_init_2.data.toList.drop 24 = dktJ9_init_2_1 := dk_seg dksJ9_init_2_0 24 rfl rfl
theorem dksJ9_init_2_2 : cJ9_init_2.data.toList.drop 48 = dktJ9_init_2_2 := dk_seg dksJ9_init_2_1 24 rfl rfl
theorem dksJ9_init_2_3 : cJ9_init_2.data.toList.drop 72 = dktJ9_init_2_3 := dk_seg dksJ9_init_2_2 24 rfl rfl
theorem dksJ9_init_2_4 : cJ9_init_2.data.toList.drop 94 = dktJ9_init_2_4 := dk_seg dksJ9_init_2_3 22 rfl rfl
theorem dJ9_init_2_0 : decode cJ9_init_2 0 = .ok (.aload_n 0, 1) := dk_42 (dk_at dksJ9_init_2_0 0 rfl rfl)
theorem dJ9_init_2_1 : decode cJ9_init_2 1 = .ok (.invokespecial 1, 3) := dk_183 0 1 (dk_at dksJ9_init_2_0 1 rfl rfl)
theorem dJ9_init_2_4 : decode cJ9_init_2 4 = .ok (.aload_n 1, 1) := dk_43 (dk_at dksJ9_init_2_0 4 rfl rfl)
theorem dJ9_init_2_5 : decode cJ9_init_2 5 = .ok (.invokevirtual 552, 3) := dk_182 2 40 (dk_at dksJ9_init_2_0 5 rfl rfl)
theorem dJ9_init_2_8 : decode cJ9_init_2 8 = .ok (.astore_n 3, 1) := dk_78 (dk_at dksJ9_init_2_0 8 rfl rfl)
theorem dJ9_init_2_9 : decode cJ9_init_2 9 = .ok (.aload_n 1, 1) := dk_43 (dk_at dksJ9_init_2_0 9 rfl rfl)
theorem dJ9_init_2_10 : decode cJ9_init_2 10 = .ok (.invokevirtual 549, 3) := dk_182 2 37 (dk_at dksJ9_init_2_0 10 rfl rfl)
theorem dJ9_init_2_13 : decode cJ9_init_2 13 = .ok (.istore 4, 2) := dk_54 4 (dk_at dksJ9_init_2_0 13 rfl rfl)
theorem dJ9_init_2_15 : decode cJ9_init_2 15 = .ok (.aload_n 1, 1) := dk_43 (dk_at dksJ9_init_2_0 15 rfl rfl)
theorem dJ9_init_2_16 : decode cJ9_init_2 16 = .ok (.invokevirtual 1047, 3) := dk_182 4 23 (dk_at dksJ9_init_2_0 16 rfl rfl)
theorem dJ9_init_2_19 : decode cJ9_init_2 19 = .ok (.ifCond .eq 22, 3) := dk_153 0 22 (dk_at dksJ9_init_2_0 19 rfl rfl)
theorem dJ9_init_2_22 : decode cJ9_init_2 22 = .ok (.aload_n 0, 1) := dk_42 (dk_at dksJ9_init_2_0 22 rfl rfl)
theorem dJ9_init_2_23 : decode cJ9_init_2 23 = .ok (.iconst 0, 1) := dk_3 (dk_at dksJ9_init_2_0 23 rfl rfl)
theorem dJ9_init_2_24 : decode cJ9_init_2 24 = .ok (.putfield 15, 3) := dk_181 0 15 (dk_at dksJ9_init_2_1 0 rfl rfl)
theorem dJ9_init_2_27 : decode cJ9_init_2 27 = .ok (.aload_n 0, 1) := dk_42 (dk_at dksJ9_init_2_1 3 rfl rfl)
theorem dJ9_init_2_28 : decode cJ9_init_2 28 = .ok (.aload_n 3, 1) := dk_45 (dk_at dksJ9_init_2_1 4 rfl rfl)
theorem dJ9_init_2_29 : decode cJ9_init_2 29 = .ok (.iconst 0, 1) := dk_3 (dk_at dksJ9_init_2_1 5 rfl rfl)
theorem dJ9_init_2_30 : decode cJ9_init_2 30 = .ok (.iload 4, 2) := dk_21 4 (dk_at dksJ9_init_2_1 6 rfl rfl)
theorem dJ9_init_2_32 : decode cJ9_init_2 32 = .ok (.invokestatic 54, 3) := dk_184 0 54 (dk_at dksJ9_init_2_1 8 rfl rfl)
theorem dJ9_init_2_35 : decode cJ9_init_2 35 = .ok (.putfield 9, 3) := dk_181 0 9 (dk_at dksJ9_init_2_1 11 rfl rfl)
theorem dJ9_init_2_38 : decode cJ9_init_2 38 = .ok (.goto 59, 3) := dk_167 0 59 (dk_at dksJ9_init_2_1 14 rfl rfl)
theorem dJ9_init_2_41 : decode cJ9_init_2 41 = .ok (.getstatic 38, 3) := dk_178 0 38 (dk_at dksJ9_init_2_1 17 rfl rfl)
theorem dJ9_init_2_44 : decode cJ9_init_2 44 = .ok (.ifCond .eq 35, 3) := dk_153 0 35 (dk_at dksJ9_init_2_1 20 rfl rfl)
theorem dJ9_init_2_47 : decode cJ9_init_2 47 = .ok (.aload_n 1, 1) := dk_43 (dk_at dksJ9_init_2_1 23 rfl rfl)
theorem dJ9_init_2_48 : decode cJ9_init_2 48 = .ok (.getfield 1048, 3) := dk_180 4 24 (dk_at dksJ9_init_2_2 0 rfl rfl)
theorem dJ9_init_2_51 : decode cJ9_init_2 51 = .ok (.ifCond .eq 28, 3) := dk_153 0 28 (dk_at dksJ9_init_2_2 3 rfl rfl)
theorem dJ9_init_2_54 : decode cJ9_init_2 54 = .ok (.aload_n 0, 1) := dk_42 (dk_at dksJ9_init_2_2 6 rfl rfl)
theorem dJ9_init_2_55 : decode cJ9_init_2 55 = .ok (.aload_n 3, 1) := dk_45 (dk_at dksJ9_init_2_2 7 rfl rfl)
theorem dJ9_init_2_56 : decode cJ9_init_2 56 = .ok (.iconst 0, 1) := dk_3 (dk_at dksJ9_init_2_2 8 rfl rfl)
theorem dJ9_init_2_57 : decode cJ9_init_2 57 = .ok (.iload 4, 2) := dk_21 4 (dk_at dksJ9_init_2_2 9 rfl rfl)
theorem dJ9_init_2_59 : decode cJ9_init_2 59 = .ok (.invokestatic 1051, 3) := dk_184 4 27 (dk_at dksJ9_init_2_2 11 rfl rfl)
theorem dJ9_init_2_62 : decode cJ9_init_2 62 = .ok (.putfield 9, 3) := dk_181 0 9 (dk_at dksJ9_init_2_2 14 rfl rfl)
theorem dJ9_init_2_65 : decode cJ9_init_2 65 = .ok (.aload_n 0, 1) := dk_42 (dk_at dksJ9_init_2_2 17 rfl rfl)
theorem dJ9_init_2_66 : decode cJ9_init_2 66 = .ok (.aload_n 0, 1) := dk_42 (dk_at dksJ9_init_2_2 18 rfl rfl)
theorem dJ9_init_2_67 : decode cJ9_init_2 67 = .ok (.getfield 9, 3) := dk_180 0 9 (dk_at dksJ9_init_2_2 19 rfl rfl)
theorem dJ9_init_2_70 : decode cJ9_init_2 70 = .ok (.iload 4, 2) := dk_21 4 (dk_at dksJ9_init_2_2 22 rfl rfl)
theorem dJ9_init_2_72 : decode cJ9_init_2 72 = .ok (.invokestatic 47, 3) := dk_184 0 47 (dk_at dksJ9_init_2_3 0 rfl rfl)
theorem dJ9_init_2_75 : decode cJ9_init_2 75 = .ok (.putfield 15, 3) := dk_181 0 15 (dk_at dksJ9_init_2_3 3 rfl rfl)
theorem dJ9_init_2_78 : decode cJ9_init_2 78 = .ok (.return_, 1) := dk_177 (dk_at dksJ9_init_2_3 6 rfl rfl)
theorem dJ9_init_2_79 : decode cJ9_init_2 79 = .ok (.aload_n 0, 1) := dk_42 (dk_at dksJ9_init_2_3 7 rfl rfl)
theorem dJ9_init_2_80 : decode cJ9_init_2 80 = .ok (.iconst 1, 1) := dk_4 (dk_at dksJ9_init_2_3 8 rfl rfl)
theorem dJ9_init_2_81 : decode cJ9_init_2 81 = .ok (.putfield 15, 3) := dk_181 0 15 (dk_at dksJ9_init_2_3 9 rfl rfl)
theorem dJ9_init_2_84 : decode cJ9_init_2 84 = .ok (.aload_n 0, 1) := dk_42 (dk_at dksJ9_init_2_3 12 rfl rfl)
theorem dJ9_init_2_85 : decode cJ9_init_2 85 = .ok (.aload_n 3, 1) := dk_45 (dk_at dksJ9_init_2_3 13 rfl rfl)
theorem dJ9_init_2_86 : decode cJ9_init_2 86 = .ok (.iconst 0, 1) := dk_3 (dk_at dksJ9_init_2_3 14 rfl rfl)
theorem dJ9_init_2_87 : decode cJ9_init_2 87 = .ok (.iload 4, 2) := dk_21 4 (dk_at dksJ9_init_2_3 15 rfl rfl)
theorem dJ9_init_2_89 : decode cJ9_init_2 89 = .ok (.iconst 1, 1) := dk_4 (dk_at dksJ9_init_2_3 17 rfl rfl)
theorem dJ9_init_2_90 : decode cJ9_init_2 90 = .ok (.ishl, 1) := dk_120 (dk_at dksJ9_init_2_3 18 rfl rfl)
theorem dJ9_init_2_91 : decode cJ9_init_2 91 = .ok (.invokestatic 54, 3) := dk_184 0 54 (dk_at dksJ9_init_2_3 19 rfl rfl)
theorem dJ9_init_2_94 : decode cJ9_init_2 94 = .ok (.putfield 9, 3) := dk_181 0 9 (dk_at dksJ9_init_2_4 0 rfl rfl)
theorem dJ9_init_2_97 : decode cJ9_init_2 97 = .ok (.return_, 1) := dk_177 (dk_at dksJ9_init_2_4 3 rfl rfl)
abbrev cJ9_checkIndex : ByteArray := prog_31_method_155_code
def yJ9_checkIndex : MethodName := ⟨RJ9, "checkIndex", "(II)V"⟩
def dkwJ9_checkIndex_0 : List UInt8 := [26, 27, 178, 4, 29, 184, 4, 35, 87, 177]
abbrev dktJ9_checkIndex_0 : List UInt8 := dkwJ9_checkIndex_0 ++ []
theorem dksJ9_checkIndex_0 : cJ9_checkIndex.data.toList.drop 0 = dktJ9_checkIndex_0 := by decide +kernel
theorem dJ9_checkIndex_0 : decode cJ9_checkIndex 0 = .ok (.iload_n 0, 1) := dk_26 (dk_at dksJ9_checkIndex_0 0 rfl rfl)
theorem dJ9_checkIndex_1 : decode cJ9_checkIndex 1 = .ok (.iload_n 1, 1) := dk_27 (dk_at dksJ9_checkIndex_0 1 rfl rfl)
theorem dJ9_checkIndex_2 : decode cJ9_checkIndex 2 = .ok (.getstatic 1053, 3) := dk_178 4 29 (dk_at dksJ9_checkIndex_0 2 rfl rfl)
theorem dJ9_checkIndex_5 : decode cJ9_checkIndex 5 = .ok (.invokestatic 1059, 3) := dk_184 4 35 (dk_at dksJ9_checkIndex_0 5 rfl rfl)
theorem dJ9_checkIndex_8 : decode cJ9_checkIndex 8 = .ok (.pop, 1) := dk_87 (dk_at dksJ9_checkIndex_0 8 rfl rfl)
theorem dJ9_checkIndex_9 : decode cJ9_checkIndex 9 = .ok (.return_, 1) := dk_177 (dk_at dksJ9_checkIndex_0 9 rfl rfl)
abbrev cJ9_charAt : ByteArray := prog_31_method_56_code
def yJ9_charAt : MethodName := ⟨RJ9, "charAt", "(I)C"⟩
def dkwJ9_charAt_1 : List UInt8 := [172]
abbrev dktJ9_charAt_1 : List UInt8 := dkwJ9_charAt_1 ++ []
def dkwJ9_charAt_0 : List UInt8 := [42, 182, 1, 236, 153, 0, 12, 42, 180, 0, 9, 27, 184, 1, 239, 172, 42, 180, 0, 9, 27, 184, 1, 242]
abbrev dktJ9_charAt_0 : List UInt8 := dkwJ9_charAt_0 ++ dktJ9_charAt_1
theorem dksJ9_charAt_0 : cJ9_charAt.data.toList.drop 0 = dktJ9_charAt_0 := by decide +kernel
theorem dksJ9_charAt_1 : cJ9_charAt.data.toList.drop 24 = dktJ9_charAt_1 := dk_seg dksJ9_charAt_0 24 rfl rfl
theorem dJ9_charAt_0 : decode cJ9_charAt 0 = .ok (.aload_n 0, 1) := dk_42 (dk_at dksJ9_charAt_0 0 rfl rfl)
theorem dJ9_charAt_1 : decode cJ9_charAt 1 = .ok (.invokevirtual 492, 3) := dk_182 1 236 (dk_at dksJ9_charAt_0 1 rfl rfl)
theorem dJ9_charAt_4 : decode cJ9_charAt 4 = .ok (.ifCond .eq 12, 3) := dk_153 0 12 (dk_at dksJ9_charAt_0 4 rfl rfl)
theorem dJ9_charAt_7 : decode cJ9_charAt 7 = .ok (.aload_n 0, 1) := dk_42 (dk_at dksJ9_charAt_0 7 rfl rfl)
theorem dJ9_charAt_8 : decode cJ9_charAt 8 = .ok (.getfield 9, 3) := dk_180 0 9 (dk_at dksJ9_charAt_0 8 rfl rfl)
theorem dJ9_charAt_11 : decode cJ9_charAt 11 = .ok (.iload_n 1, 1) := dk_27 (dk_at dksJ9_charAt_0 11 rfl rfl)
theorem dJ9_charAt_12 : decode cJ9_charAt 12 = .ok (.invokestatic 495, 3) := dk_184 1 239 (dk_at dksJ9_charAt_0 12 rfl rfl)
theorem dJ9_charAt_15 : decode cJ9_charAt 15 = .ok (.ireturn, 1) := dk_172 (dk_at dksJ9_charAt_0 15 rfl rfl)
theorem dJ9_charAt_16 : decode cJ9_charAt 16 = .ok (.aload_n 0, 1) := dk_42 (dk_at dksJ9_charAt_0 16 rfl rfl)
theorem dJ9_charAt_17 : decode cJ9_charAt 17 = .ok (.getfield 9, 3) := dk_180 0 9 (dk_at dksJ9_charAt_0 17 rfl rfl)
theorem dJ9_charAt_20 : decode cJ9_charAt 20 = .ok (.iload_n 1, 1) := dk_27 (dk_at dksJ9_charAt_0 20 rfl rfl)
theorem dJ9_charAt_21 : decode cJ9_charAt 21 = .ok (.invokestatic 498, 3) := dk_184 1 242 (dk_at dksJ9_charAt_0 21 rfl rfl)
theorem dJ9_charAt_24 : decode cJ9_charAt 24 = .ok (.ireturn, 1) := dk_172 (dk_at dksJ9_charAt_1 0 rfl rfl)
abbrev cJ9_isLatin1 : ByteArray := prog_31_method_154_code
def yJ9_isLatin1 : MethodName := ⟨RJ9, "isLatin1", "()Z"⟩
def dkwJ9_isLatin1_0 : List UInt8 := [178, 0, 38, 153, 0, 14, 42, 180, 0, 15, 154, 0, 7, 4, 167, 0, 4, 3, 172]
abbrev dktJ9_isLatin1_0 : List UInt8 := dkwJ9_isLatin1_0 ++ []
theorem dksJ9_isLatin1_0 : cJ9_isLatin1.data.toList.drop 0 = dktJ9_isLatin1_0 := by decide +kernel
theorem dJ9_isLatin1_0 : decode cJ9_isLatin1 0 = .ok (.getstatic 38, 3) := dk_178 0 38 (dk_at dksJ9_isLatin1_0 0 rfl rfl)
theorem dJ9_isLatin1_3 : decode cJ9_isLatin1 3 = .ok (.ifCond .eq 14, 3) := dk_153 0 14 (dk_at dksJ9_isLatin1_0 3 rfl rfl)
theorem dJ9_isLatin1_6 : decode cJ9_isLatin1 6 = .ok (.aload_n 0, 1) := dk_42 (dk_at dksJ9_isLatin1_0 6 rfl rfl)
theorem dJ9_isLatin1_7 : decode cJ9_isLatin1 7 = .ok (.getfield 15, 3) := dk_180 0 15 (dk_at dksJ9_isLatin1_0 7 rfl rfl)
theorem dJ9_isLatin1_10 : decode cJ9_isLatin1 10 = .ok (.ifCond .ne 7, 3) := dk_154 0 7 (dk_at dksJ9_isLatin1_0 10 rfl rfl)
theorem dJ9_isLatin1_13 : decode cJ9_isLatin1 13 = .ok (.iconst 1, 1) := dk_4 (dk_at dksJ9_isLatin1_0 13 rfl rfl)
theorem dJ9_isLatin1_14 : decode cJ9_isLatin1 14 = .ok (.goto 4, 3) := dk_167 0 4 (dk_at dksJ9_isLatin1_0 14 rfl rfl)
theorem dJ9_isLatin1_17 : decode cJ9_isLatin1 17 = .ok (.iconst 0, 1) := dk_3 (dk_at dksJ9_isLatin1_0 17 rfl rfl)
theorem dJ9_isLatin1_18 : decode cJ9_isLatin1 18 = .ok (.ireturn, 1) := dk_172 (dk_at dksJ9_isLatin1_0 18 rfl rfl)
theorem q126 : (Jvm.Cond.initialized "java/lang/String") ∈ lw_all := lw_g (lw_at lw_m1 14 rfl) rfl
theorem q314 : (Jvm.Cond.laysStatic "java/lang/String" "COMPACT_STRINGS" "Z") ∈ lw_tbl := lw_at lw_m1 202 rfl
theorem q325 : (Jvm.Cond.fieldLink "java/lang/String" (1048 : Nat) "java/lang/AbstractStringBuilder" "maybeLatin1" "Z") ∈ lw_all := lw_g (lw_at lw_m1 213 rfl) rfl
theorem q397 : (Jvm.Cond.static ({ cls := "java/lang/String", name := "checkBoundsBeginEnd", desc := "(III)V" } : Jvm.MethodName)) ∈ lw_all := lw_g (lw_at lw_m2 45 rfl) rfl
theorem q398 : (Jvm.Cond.code ({ cls := "java/lang/String", name := "checkBoundsBeginEnd", desc := "(III)V" } : Jvm.MethodName) prog_31_method_158_code (3 : Nat) (Option.none : Option Jvm.ClassFile.FieldType)) ∈ lw_all := lw_g (lw_at lw_m2 46 rfl) rfl
theorem q399 : (Jvm.Cond.fieldLink "java/lang/String" (1053 : Nat) "jdk/internal/util/Preconditions" "SIOOBE_FORMATTER" "Ljava/util/function/BiFunction;") ∈ lw_all := lw_g (lw_at lw_m2 47 rfl) rfl
theorem q401 : (Jvm.Cond.methodLink "java/lang/String" (1062 : Nat) ({ cls := "jdk/internal/util/Preconditions", name := "checkFromToIndex", desc := "(IIILjava/util/function/BiFunction;)I" } : Jvm.MethodName)) ∈ lw_all := lw_g (lw_at lw_m2 49 rfl) rfl
theorem q414 : (Jvm.Cond.instanceMethod ({ cls := "java/lang/String", name := "length", desc := "()I" } : Jvm.MethodName)) ∈ lw_all := lw_g (lw_at lw_m2 62 rfl) rfl
theorem q415 : (Jvm.Cond.selects "java/lang/String" ({ cls := "java/lang/String", name := "length", desc := "()I" } : Jvm.MethodName) ({ cls := "java/lang/String", name := "length", desc := "()I" } : Jvm.MethodName)) ∈ lw_all := lw_g (lw_at lw_m2 63 rfl) rfl
theorem q416 : (Jvm.Cond.code ({ cls := "java/lang/String", name := "length", desc := "()I" } : Jvm.MethodName) prog_31_method_54_code (1 : Nat) (Option.some Jvm.ClassFile.FieldType.int)) ∈ lw_all := lw_g (lw_at lw_m2 64 rfl) rfl
theorem q417 : (Jvm.Cond.methodLink "java/lang/String" (335 : Nat) ({ cls := "java/lang/String", name := "coder", desc := "()B" } : Jvm.MethodName)) ∈ lw_all := lw_g (lw_at lw_m2 65 rfl) rfl
theorem q418 : (Jvm.Cond.instanceMethod ({ cls := "java/lang/String", name := "coder", desc := "()B" } : Jvm.MethodName)) ∈ lw_all := lw_g (lw_at lw_m2 66 rfl) rfl
theorem q419 : (Jvm.Cond.selects "java/lang/String" ({ cls := "java/lang/String", name := "coder", desc := "()B" } : Jvm.MethodName) ({ cls := "java/lang/String", name := "coder", desc := "()B" } : Jvm.MethodName)) ∈ lw_all := lw_g (lw_at lw_m2 67 rfl) rfl
theorem q420 : (Jvm.Cond.code ({ cls := "java/lang/String", name := "coder", desc := "()B" } : Jvm.MethodName) prog_31_method_152_code (1 : Nat) (Option.some Jvm.ClassFile.FieldType.byte)) ∈ lw_all := lw_g (lw_at lw_m2 68 rfl) rfl
theorem q421 : (Jvm.Cond.fieldLink "java/lang/String" (38 : Nat) "java/lang/String" "COMPACT_STRINGS" "Z") ∈ lw_all := lw_g (lw_at lw_m2 69 rfl) rfl
theorem q445 : (Jvm.Cond.static ({ cls := "java/lang/String", name := "checkBoundsOffCount", desc := "(III)I" } : Jvm.MethodName)) ∈ lw_all := lw_g (lw_at lw_m2 93 rfl) rfl
theorem q446 : (Jvm.Cond.code ({ cls := "java/lang/String", name := "checkBoundsOffCount", desc := "(III)I" } : Jvm.MethodName) prog_31_method_157_code (3 : Nat) (Option.some Jvm.ClassFile.FieldType.int)) ∈ lw_all := lw_g (lw_at lw_m2 94 rfl) rfl
theorem q447 : (Jvm.Cond.methodLink "java/lang/String" (1065 : Nat) ({ cls := "jdk/internal/util/Preconditions", name := "checkFromIndexSize", desc := "(IIILjava/util/function/BiFunction;)I" } : Jvm.MethodName)) ∈ lw_all := lw_g (lw_at lw_m2 95 rfl) rfl
theorem q451 : (Jvm.Cond.instanceMethod ({ cls := "java/lang/String", name := "getBytes", desc := "([BIB)V" } : Jvm.MethodName)) ∈ lw_all := lw_g (lw_at lw_m2 99 rfl) rfl
theorem q452 : (Jvm.Cond.selects "java/lang/String" ({ cls := "java/lang/String", name := "getBytes", desc := "([BIB)V" } : Jvm.MethodName) ({ cls := "java/lang/String", name := "getBytes", desc := "([BIB)V" } : Jvm.MethodName)) ∈ lw_all := lw_g (lw_at lw_m2 100 rfl) rfl
theorem q453 : (Jvm.Cond.code ({ cls := "java/lang/String", name := "getBytes", desc := "([BIB)V" } : Jvm.MethodName) prog_31_method_147_code (4 : Nat) (Option.none : Option Jvm.ClassFile.FieldType)) ∈ lw_all := lw_g (lw_at lw_m2 101 rfl) rfl
theorem q454 : (Jvm.Cond.methodLink "java/lang/String" (212 : Nat) ({ cls := "java/lang/System", name := "arraycopy", desc := "(Ljava/lang/Object;ILjava/lang/Object;II)V" } : Jvm.MethodName)) ∈ lw_all := lw_g (lw_at lw_m2 102 rfl) rfl
theorem q455 : (Jvm.Cond.methodLink "java/lang/String" (106 : Nat) ({ cls := "java/lang/StringLatin1", name := "inflate", desc := "([BI[BII)V" } : Jvm.MethodName)) ∈ lw_all := lw_g (lw_at lw_m2 103 rfl) rfl
theorem q486 : (Jvm.Cond.instantiable "java/lang/String" (4 : Nat)) ∈ lw_all := lw_g (lw_at lw_m2 134 rfl) rfl
theorem q488 : (Jvm.Cond.instanceMethod ({ cls := "java/lang/String", name := "<init>", desc := "(Ljava/lang/StringBuilder;)V" } : Jvm.MethodName)) ∈ lw_all := lw_g (lw_at lw_m2 136 rfl) rfl
theorem q489 : (Jvm.Cond.code ({ cls := "java/lang/String", name := "<init>", desc := "(Ljava/lang/StringBuilder;)V" } : Jvm.MethodName) prog_31_method_53_code (2 : Nat) (Option.none : Option Jvm.ClassFile.FieldType)) ∈ lw_all := lw_g (lw_at lw_m2 137 rfl) rfl
theorem q490 : (Jvm.Cond.methodLink "java/lang/String" (489 : Nat) ({ cls := "java/lang/String", name := "<init>", desc := "(Ljava/lang/AbstractStringBuilder;Ljava/lang/Void;)V" } : Jvm.MethodName)) ∈ lw_all := lw_g (lw_at lw_m2 138 rfl) rfl
theorem q491 : (Jvm.Cond.instanceMethod ({ cls := "java/lang/String", name := "<init>", desc := "(Ljava/lang/AbstractStringBuilder;Ljava/lang/Void;)V" } : Jvm.MethodName)) ∈ lw_all := lw_g (lw_at lw_m2 139 rfl) rfl
theorem q492 : (Jvm.Cond.code ({ cls := "java/lang/String", name := "<init>", desc := "(Ljava/lang/AbstractStringBuilder;Ljava/lang/Void;)V" } : Jvm.MethodName) prog_31_method_150_code (5 : Nat) (Option.none : Option Jvm.ClassFile.FieldType)) ∈ lw_all := lw_g (lw_at lw_m2 140 rfl) rfl
theorem q493 : (Jvm.Cond.methodLink "java/lang/String" (1 : Nat) ({ cls := "java/lang/Object", name := "<init>", desc := "()V" } : Jvm.MethodName)) ∈ lw_all := lw_g (lw_at lw_m2 141 rfl) rfl
theorem q494 : (Jvm.Cond.methodLink "java/lang/String" (552 : Nat) ({ cls := "java/lang/AbstractStringBuilder", name := "getValue", desc := "()[B" } : Jvm.MethodName)) ∈ lw_all := lw_g (lw_at lw_m2 142 rfl) rfl
theorem q499 : (Jvm.Cond.methodLink "java/lang/String" (549 : Nat) ({ cls := "java/lang/AbstractStringBuilder", name := "length", desc := "()I" } : Jvm.MethodName)) ∈ lw_all := lw_g (lw_at lw_m2 147 rfl) rfl
theorem q507 : (Jvm.Cond.methodLink "java/lang/String" (1047 : Nat) ({ cls := "java/lang/AbstractStringBuilder", name := "isLatin1", desc := "()Z" } : Jvm.MethodName)) ∈ lw_all := lw_g (lw_at lw_m2 155 rfl) rfl
theorem q508 : (Jvm.Cond.methodLink "java/lang/String" (54 : Nat) ({ cls := "java/util/Arrays", name := "copyOfRange", desc := "([BII)[B" } : Jvm.MethodName)) ∈ lw_all := lw_g (lw_at lw_m2 156 rfl) rfl
theorem q549 : (Jvm.Cond.methodLink "java/lang/String" (1051 : Nat) ({ cls := "java/lang/StringUTF16", name := "compress", desc := "([BII)[B" } : Jvm.MethodName)) ∈ lw_all := lw_g (lw_at lw_m2 197 rfl) rfl
theorem q559 : (Jvm.Cond.methodLink "java/lang/String" (47 : Nat) ({ cls := "java/lang/StringUTF16", name := "coderFromArrayLen", desc := "([BI)B" } : Jvm.MethodName)) ∈ lw_all := lw_g (lw_at lw_m2 207 rfl) rfl
theorem q562 : (Jvm.Cond.fieldLink "java/lang/String" (9 : Nat) "java/lang/String" "value" "[B") ∈ lw_all := lw_g (lw_at lw_m2 210 rfl) rfl
theorem q563 : (Jvm.Cond.fieldLink "java/lang/String" (15 : Nat) "java/lang/String" "coder" "B") ∈ lw_all := lw_g (lw_at lw_m2 211 rfl) rfl
theorem q564 : (Jvm.Cond.laysFinal "java/lang/String" "java/lang/String" "value" "[B") ∈ lw_all := lw_g (lw_at lw_m2 212 rfl) rfl
theorem q565 : (Jvm.Cond.soleField "java/lang/String" "value") ∈ lw_all := lw_g (lw_at lw_m2 213 rfl) rfl
theorem q566 : (Jvm.Cond.laysFinal "java/lang/String" "java/lang/String" "coder" "B") ∈ lw_all := lw_g (lw_at lw_m2 214 rfl) rfl
theorem q567 : (Jvm.Cond.soleField "java/lang/String" "coder") ∈ lw_all := lw_g (lw_at lw_m2 215 rfl) rfl
theorem q568 : (Jvm.Cond.lays "java/lang/String" "java/lang/String" "hash" "I") ∈ lw_all := lw_g (lw_at lw_m2 216 rfl) rfl
theorem q569 : (Jvm.Cond.soleField "java/lang/String" "hash") ∈ lw_all := lw_g (lw_at lw_m2 217 rfl) rfl
theorem q570 : (Jvm.Cond.lays "java/lang/String" "java/lang/String" "hashIsZero" "Z") ∈ lw_all := lw_g (lw_at lw_m2 218 rfl) rfl
theorem q571 : (Jvm.Cond.soleField "java/lang/String" "hashIsZero") ∈ lw_all := lw_g (lw_at lw_m2 219 rfl) rfl
theorem q572 : (Jvm.Cond.superclass "java/lang/String" "java/lang/Object") ∈ lw_all := lw_g (lw_at lw_m2 220 rfl) rfl
theorem q974 : (Jvm.Cond.selects "java/lang/String" ({ cls := "java/lang/Object", name := "getClass", desc := "()Ljava/lang/Class;" } : Jvm.MethodName) ({ cls := "java/lang/Object", name := "getClass", desc := "()Ljava/lang/Class;" } : Jvm.MethodName)) ∈ lw_all := lw_g (lw_at lw_m4 142 rfl) rfl
theorem q1287 : (Jvm.Cond.static ({ cls := "java/lang/String", name := "checkIndex", desc := "(II)V" } : Jvm.MethodName)) ∈ lw_all := lw_g (lw_at lw_m5 215 rfl) rfl
theorem q1288 : (Jvm.Cond.code ({ cls := "java/lang/String", name := "checkIndex", desc := "(II)V" } : Jvm.MethodName) prog_31_method_155_code (2 : Nat) (Option.none : Option Jvm.ClassFile.FieldType)) ∈ lw_all := lw_g (lw_at lw_m5 216 rfl) rfl
theorem q1289 : (Jvm.Cond.methodLink "java/lang/String" (1059 : Nat) ({ cls := "jdk/internal/util/Preconditions", name := "checkIndex", desc := "(IILjava/util/function/BiFunction;)I" } : Jvm.MethodName)) ∈ lw_all := lw_g (lw_at lw_m5 217 rfl) rfl
theorem q1376 : (Jvm.Cond.instanceMethod ({ cls := "java/lang/String", name := "charAt", desc := "(I)C" } : Jvm.MethodName)) ∈ lw_all := lw_g (lw_at lw_m6 64 rfl) rfl
theorem q1377 : (Jvm.Cond.selects "java/lang/String" ({ cls := "java/lang/String", name := "charAt", desc := "(I)C" } : Jvm.MethodName) ({ cls := "java/lang/String", name := "charAt", desc := "(I)C" } : Jvm.MethodName)) ∈ lw_all := lw_g (lw_at lw_m6 65 rfl) rfl
theorem q1378 : (Jvm.Cond.code ({ cls := "java/lang/String", name := "charAt", desc := "(I)C" } : Jvm.MethodName) prog_31_method_56_code (2 : Nat) (Option.some Jvm.ClassFile.FieldType.char)) ∈ lw_all := lw_g (lw_at lw_m6 66 rfl) rfl
theorem q1379 : (Jvm.Cond.methodLink "java/lang/String" (492 : Nat) ({ cls := "java/lang/String", name := "isLatin1", desc := "()Z" } : Jvm.MethodName)) ∈ lw_all := lw_g (lw_at lw_m6 67 rfl) rfl
theorem q1380 : (Jvm.Cond.instanceMethod ({ cls := "java/lang/String", name := "isLatin1", desc := "()Z" } : Jvm.MethodName)) ∈ lw_all := lw_g (lw_at lw_m6 68 rfl) rfl
theorem q1381 : (Jvm.Cond.selects "java/lang/String" ({ cls := "java/lang/String", name := "isLatin1", desc := "()Z" } : Jvm.MethodName) ({ cls := "java/lang/String", name := "isLatin1", desc := "()Z" } : Jvm.MethodName)) ∈ lw_all := lw_g (lw_at lw_m6 69 rfl) rfl
theorem q1382 : (Jvm.Cond.code ({ cls := "java/lang/String", name := "isLatin1", desc := "()Z" } : Jvm.MethodName) prog_31_method_154_code (1 : Nat) (Option.some Jvm.ClassFile.FieldType.boolean)) ∈ lw_all := lw_g (lw_at lw_m6 70 rfl) rfl
theorem q1383 : (Jvm.Cond.methodLink "java/lang/String" (495 : Nat) ({ cls := "java/lang/StringLatin1", name := "charAt", desc := "([BI)C" } : Jvm.MethodName)) ∈ lw_all := lw_g (lw_at lw_m6 71 rfl) rfl
theorem q1387 : (Jvm.Cond.methodLink "java/lang/String" (498 : Nat) ({ cls := "java/lang/StringUTF16", name := "charAt", desc := "([BI)C" } : Jvm.MethodName)) ∈ lw_all := lw_g (lw_at lw_m6 75 rfl) rfl
theorem q2562 : (Jvm.Cond.castable "java/lang/String" "java/lang/Object") ∈ lw_tbl := lw_at lw_m11 50 rfl
theorem in_J9 : ∀ w ∈ wsJ90, w ∈ lw_all := lw_in wsJ90 [564, 566, 568, 570] (by decide +kernel) (by decide +kernel)
/-! java/lang/StringUTF16 -/
set_option maxRecDepth 100000
def RJ10 : String := "java/lang/StringUTF16"
abbrev cJ10_newBytesFor : ByteArray := prog_35_method_2_code
def yJ10_newBytesFor : MethodName := ⟨RJ10, "newBytesFor", "(I)[B"⟩
def dkwJ10_newBytesFor_0 : List UInt8 := [26, 184, 0, 11, 188, 8, 176]
abbrev dktJ10_newBytesFor_0 : List UInt8 := dkwJ10_newBytesFor_0 ++ []
theorem dksJ10_newBytesFor_0 : cJ10_newBytesFor.data.toList.drop 0 = dktJ10_newBytesFor_0 := by decide +kernel
theorem dJ10_newBytesFor_0 : decode cJ10_newBytesFor 0 = .ok (.iload_n 0, 1) := dk_26 (dk_at dksJ10_newBytesFor_0 0 rfl rfl)
theorem dJ10_newBytesFor_1 : decode cJ10_newBytesFor 1 = .ok (.invokestatic 11, 3) := dk_184 0 11 (dk_at dksJ10_newBytesFor_0 1 rfl rfl)
theorem dJ10_newBytesFor_4 : decode cJ10_newBytesFor 4 = .ok (.newarray .byte, 2) := dk_188_8 (dk_at dksJ10_newBytesFor_0 4 rfl rfl)
theorem dJ10_newBytesFor_6 : decode cJ10_newBytesFor 6 = .ok (.areturn, 1) := dk_176 (dk_at dksJ10_newBytesFor_0 6 rfl rfl)
abbrev cJ10_newBytesLength : ByteArray := prog_35_method_3_code
def yJ10_newBytesLength : MethodName := ⟨RJ10, "newBytesLength", "(I)I"⟩
def dkwJ10_newBytesLength_2 : List UInt8 := [182, 0, 32, 182, 0, 37, 183, 0, 41, 191, 26, 4, 120, 172]
abbrev dktJ10_newBytesLength_2 : List UInt8 := dkwJ10_newBytesLength_2 ++ []
def dkwJ10_newBytesLength_1 : List UInt8 := [187, 0, 23, 89, 183, 0, 25, 18, 26, 182, 0, 28, 26, 182, 0, 32, 18, 35, 182, 0, 28, 18, 20]
abbrev dktJ10_newBytesLength_1 : List UInt8 := dkwJ10_newBytesLength_1 ++ dktJ10_newBytesLength_2
def dkwJ10_newBytesLength_0 : List UInt8 := [26, 156, 0, 11, 187, 0, 17, 89, 183, 0, 19, 191, 26, 18, 20, 161, 0, 40, 187, 0, 21, 89]
abbrev dktJ10_newBytesLength_0 : List UInt8 := dkwJ10_newBytesLength_0 ++ dktJ10_newBytesLength_1
theorem dksJ10_newBytesLength_0 : cJ10_newBytesLength.data.toList.drop 0 = dktJ10_newBytesLength_0 := by decide +kernel
theorem dksJ10_newBytesLength_1 : cJ10_newBytesLength.data.toList.drop 22 = dktJ10_newBytesLength_1 := dk_seg dksJ10_newBytesLength_0 22 rfl rfl
theorem dksJ10_newBytesLength_2 : cJ10_newBytesLength.data.toList.drop 45 = dktJ10_newBytesLength_2 := dk_seg dksJ10_newBytesLength_1 23 rfl rfl
theorem dJ10_newBytesLength_0 : decode cJ10_newBytesLength 0 = .ok (.iload_n 0, 1) := dk_26 (dk_at dksJ10_newBytesLength_0 0 rfl rfl)
theorem dJ10_newBytesLength_1 : decode cJ10_newBytesLength 1 = .ok (.ifCond .ge 11, 3) := dk_156 0 11 (dk_at dksJ10_newBytesLength_0 1 rfl rfl)
theorem dJ10_newBytesLength_4 : decode cJ10_newBytesLength 4 = .ok (.new 17, 3) := dk_187 0 17 (dk_at dksJ10_newBytesLength_0 4 rfl rfl)
theorem dJ10_newBytesLength_7 : decode cJ10_newBytesLength 7 = .ok (.dup, 1) := dk_89 (dk_at dksJ10_newBytesLength_0 7 rfl rfl)
theorem dJ10_newBytesLength_8 : decode cJ10_newBytesLength 8 = .ok (.invokespecial 19, 3) := dk_183 0 19 (dk_at dksJ10_newBytesLength_0 8 rfl rfl)
theorem dJ10_newBytesLength_11 : decode cJ10_newBytesLength 11 = .ok (.athrow, 1) := dk_191 (dk_at dksJ10_newBytesLength_0 11 rfl rfl)
theorem dJ10_newBytesLength_12 : decode cJ10_newBytesLength 12 = .ok (.iload_n 0, 1) := dk_26 (dk_at dksJ10_newBytesLength_0 12 rfl rfl)
theorem dJ10_newBytesLength_13 : decode cJ10_newBytesLength 13 = .ok (.ldc 20, 2) := dk_18 20 (dk_at dksJ10_newBytesLength_0 13 rfl rfl)
theorem dJ10_newBytesLength_15 : decode cJ10_newBytesLength 15 = .ok (.if_icmp .lt 40, 3) := dk_161 0 40 (dk_at dksJ10_newBytesLength_0 15 rfl rfl)
theorem dJ10_newBytesLength_18 : decode cJ10_newBytesLength 18 = .ok (.new 21, 3) := dk_187 0 21 (dk_at dksJ10_newBytesLength_0 18 rfl rfl)
theorem dJ10_newBytesLength_21 : decode cJ10_newBytesLength 21 = .ok (.dup, 1) := dk_89 (dk_at dksJ10_newBytesLength_0 21 rfl rfl)
theorem dJ10_newBytesLength_22 : decode cJ10_newBytesLength 22 = .ok (.new 23, 3) := dk_187 0 23 (dk_at dksJ10_newBytesLength_1 0 rfl rfl)
theorem dJ10_newBytesLength_25 : decode cJ10_newBytesLength 25 = .ok (.dup, 1) := dk_89 (dk_at dksJ10_newBytesLength_1 3 rfl rfl)
theorem dJ10_newBytesLength_26 : decode cJ10_newBytesLength 26 = .ok (.invokespecial 25, 3) := dk_183 0 25 (dk_at dksJ10_newBytesLength_1 4 rfl rfl)
theorem dJ10_newBytesLength_29 : decode cJ10_newBytesLength 29 = .ok (.ldc 26, 2) := dk_18 26 (dk_at dksJ10_newBytesLength_1 7 rfl rfl)
theorem dJ10_newBytesLength_31 : decode cJ10_newBytesLength 31 = .ok (.invokevirtual 28, 3) := dk_182 0 28 (dk_at dksJ10_newBytesLength_1 9 rfl rfl)
theorem dJ10_newBytesLength_34 : decode cJ10_newBytesLength 34 = .ok (.iload_n 0, 1) := dk_26 (dk_at dksJ10_newBytesLength_1 12 rfl rfl)
theorem dJ10_newBytesLength_35 : decode cJ10_newBytesLength 35 = .ok (.invokevirtual 32, 3) := dk_182 0 32 (dk_at dksJ10_newBytesLength_1 13 rfl rfl)
theorem dJ10_newBytesLength_38 : decode cJ10_newBytesLength 38 = .ok (.ldc 35, 2) := dk_18 35 (dk_at dksJ10_newBytesLength_1 16 rfl rfl)
theorem dJ10_newBytesLength_40 : decode cJ10_newBytesLength 40 = .ok (.invokevirtual 28, 3) := dk_182 0 28 (dk_at dksJ10_newBytesLength_1 18 rfl rfl)
theorem dJ10_newBytesLength_43 : decode cJ10_newBytesLength 43 = .ok (.ldc 20, 2) := dk_18 20 (dk_at dksJ10_newBytesLength_1 21 rfl rfl)
theorem dJ10_newBytesLength_45 : decode cJ10_newBytesLength 45 = .ok (.invokevirtual 32, 3) := dk_182 0 32 (dk_at dksJ10_newBytesLength_2 0 rfl rfl)
theorem dJ10_newBytesLength_48 : decode cJ10_newBytesLength 48 = .ok (.invokevirtual 37, 3) := dk_182 0 37 (dk_at dksJ10_newBytesLength_2 3 rfl rfl)
theorem dJ10_newBytesLength_51 : decode cJ10_newBytesLength 51 = .ok (.invokespecial 41, 3) := dk_183 0 41 (dk_at dksJ10_newBytesLength_2 6 rfl rfl)
theorem dJ10_newBytesLength_54 : decode cJ10_newBytesLength 54 = .ok (.athrow, 1) := dk_191 (dk_at dksJ10_newBytesLength_2 9 rfl rfl)
theorem dJ10_newBytesLength_55 : decode cJ10_newBytesLength 55 = .ok (.iload_n 0, 1) := dk_26 (dk_at dksJ10_newBytesLength_2 10 rfl rfl)
theorem dJ10_newBytesLength_56 : decode cJ10_newBytesLength 56 = .ok (.iconst 1, 1) := dk_4 (dk_at dksJ10_newBytesLength_2 11 rfl rfl)
theorem dJ10_newBytesLength_57 : decode cJ10_newBytesLength 57 = .ok (.ishl, 1) := dk_120 (dk_at dksJ10_newBytesLength_2 12 rfl rfl)
theorem dJ10_newBytesLength_58 : decode cJ10_newBytesLength 58 = .ok (.ireturn, 1) := dk_172 (dk_at dksJ10_newBytesLength_2 13 rfl rfl)
abbrev cJ10_putCharsAt : ByteArray := prog_35_method_81_code
def yJ10_putCharsAt : MethodName := ⟨RJ10, "putCharsAt", "([BICCCC)I"⟩
def dkwJ10_putCharsAt_3 : List UInt8 := [21, 6, 172]
abbrev dktJ10_putCharsAt_3 : List UInt8 := dkwJ10_putCharsAt_3 ++ []
def dkwJ10_putCharsAt_2 : List UInt8 := [184, 0, 111, 178, 0, 44, 154, 0, 17, 27, 21, 6, 159, 0, 11, 187, 0, 52, 89, 183, 0, 66, 191]
abbrev dktJ10_putCharsAt_2 : List UInt8 := dkwJ10_putCharsAt_2 ++ dktJ10_putCharsAt_3
def dkwJ10_putCharsAt_1 : List UInt8 := [132, 1, 1, 29, 184, 0, 111, 42, 27, 132, 1, 1, 21, 4, 184, 0, 111, 42, 27, 132, 1, 1, 21, 5]
abbrev dktJ10_putCharsAt_1 : List UInt8 := dkwJ10_putCharsAt_1 ++ dktJ10_putCharsAt_2
def dkwJ10_putCharsAt_0 : List UInt8 := [27, 7, 96, 54, 6, 27, 21, 6, 42, 184, 0, 96, 42, 27, 132, 1, 1, 28, 184, 0, 111, 42, 27]
abbrev dktJ10_putCharsAt_0 : List UInt8 := dkwJ10_putCharsAt_0 ++ dktJ10_putCharsAt_1
theorem dksJ10_putCharsAt_0 : cJ10_putCharsAt.data.toList.drop 0 = dktJ10_putCharsAt_0 := by decide +kernel
theorem dksJ10_putCharsAt_1 : cJ10_putCharsAt.data.toList.drop 23 = dktJ10_putCharsAt_1 := dk_seg dksJ10_putCharsAt_0 23 rfl rfl
theorem dksJ10_putCharsAt_2 : cJ10_putCharsAt.data.toList.drop 47 = dktJ10_putCharsAt_2 := dk_seg dksJ10_putCharsAt_1 24 rfl rfl
theorem dksJ10_putCharsAt_3 : cJ10_putCharsAt.data.toList.drop 70 = dktJ10_putCharsAt_3 := dk_seg dksJ10_putCharsAt_2 23 rfl rfl
theorem dJ10_putCharsAt_0 : decode cJ10_putCharsAt 0 = .ok (.iload_n 1, 1) := dk_27 (dk_at dksJ10_putCharsAt_0 0 rfl rfl)
theorem dJ10_putCharsAt_1 : decode cJ10_putCharsAt 1 = .ok (.iconst 4, 1) := dk_7 (dk_at dksJ10_putCharsAt_0 1 rfl rfl)
theorem dJ10_putCharsAt_2 : decode cJ10_putCharsAt 2 = .ok (.iadd, 1) := dk_96 (dk_at dksJ10_putCharsAt_0 2 rfl rfl)
theorem dJ10_putCharsAt_3 : decode cJ10_putCharsAt 3 = .ok (.istore 6, 2) := dk_54 6 (dk_at dksJ10_putCharsAt_0 3 rfl rfl)
theorem dJ10_putCharsAt_5 : decode cJ10_putCharsAt 5 = .ok (.iload_n 1, 1) := dk_27 (dk_at dksJ10_putCharsAt_0 5 rfl rfl)
theorem dJ10_putCharsAt_6 : decode cJ10_putCharsAt 6 = .ok (.iload 6, 2) := dk_21 6 (dk_at dksJ10_putCharsAt_0 6 rfl rfl)
theorem dJ10_putCharsAt_8 : decode cJ10_putCharsAt 8 = .ok (.aload_n 0, 1) := dk_42 (dk_at dksJ10_putCharsAt_0 8 rfl rfl)
theorem dJ10_putCharsAt_9 : decode cJ10_putCharsAt 9 = .ok (.invokestatic 96, 3) := dk_184 0 96 (dk_at dksJ10_putCharsAt_0 9 rfl rfl)
theorem dJ10_putCharsAt_12 : decode cJ10_putCharsAt 12 = .ok (.aload_n 0, 1) := dk_42 (dk_at dksJ10_putCharsAt_0 12 rfl rfl)
theorem dJ10_putCharsAt_13 : decode cJ10_putCharsAt 13 = .ok (.iload_n 1, 1) := dk_27 (dk_at dksJ10_putCharsAt_0 13 rfl rfl)
theorem dJ10_putCharsAt_14 : decode cJ10_putCharsAt 14 = .ok (.iinc 1 1, 3) := dk_132 1 1 (dk_at dksJ10_putCharsAt_0 14 rfl rfl)
theorem dJ10_putCharsAt_17 : decode cJ10_putCharsAt 17 = .ok (.iload_n 2, 1) := dk_28 (dk_at dksJ10_putCharsAt_0 17 rfl rfl)
theorem dJ10_putCharsAt_18 : decode cJ10_putCharsAt 18 = .ok (.invokestatic 111, 3) := dk_184 0 111 (dk_at dksJ10_putCharsAt_0 18 rfl rfl)
theorem dJ10_putCharsAt_21 : decode cJ10_putCharsAt 21 = .ok (.aload_n 0, 1) := dk_42 (dk_at dksJ10_putCharsAt_0 21 rfl rfl)
theorem dJ10_putCharsAt_22 : decode cJ10_putCharsAt 22 = .ok (.iload_n 1, 1) := dk_27 (dk_at dksJ10_putCharsAt_0 22 rfl rfl)
theorem dJ10_putCharsAt_23 : decode cJ10_putCharsAt 23 = .ok (.iinc 1 1, 3) := dk_132 1 1 (dk_at dksJ10_putCharsAt_1 0 rfl rfl)
theorem dJ10_putCharsAt_26 : decode cJ10_putCharsAt 26 = .ok (.iload_n 3, 1) := dk_29 (dk_at dksJ10_putCharsAt_1 3 rfl rfl)
theorem dJ10_putCharsAt_27 : decode cJ10_putCharsAt 27 = .ok (.invokestatic 111, 3) := dk_184 0 111 (dk_at dksJ10_putCharsAt_1 4 rfl rfl)
theorem dJ10_putCharsAt_30 : decode cJ10_putCharsAt 30 = .ok (.aload_n 0, 1) := dk_42 (dk_at dksJ10_putCharsAt_1 7 rfl rfl)
theorem dJ10_putCharsAt_31 : decode cJ10_putCharsAt 31 = .ok (.iload_n 1, 1) := dk_27 (dk_at dksJ10_putCharsAt_1 8 rfl rfl)
theorem dJ10_putCharsAt_32 : decode cJ10_putCharsAt 32 = .ok (.iinc 1 1, 3) := dk_132 1 1 (dk_at dksJ10_putCharsAt_1 9 rfl rfl)
theorem dJ10_putCharsAt_35 : decode cJ10_putCharsAt 35 = .ok (.iload 4, 2) := dk_21 4 (dk_at dksJ10_putCharsAt_1 12 rfl rfl)
theorem dJ10_putCharsAt_37 : decode cJ10_putCharsAt 37 = .ok (.invokestatic 111, 3) := dk_184 0 111 (dk_at dksJ10_putCharsAt_1 14 rfl rfl)
theorem dJ10_putCharsAt_40 : decode cJ10_putCharsAt 40 = .ok (.aload_n 0, 1) := dk_42 (dk_at dksJ10_putCharsAt_1 17 rfl rfl)
theorem dJ10_putCharsAt_41 : decode cJ10_putCharsAt 41 = .ok (.iload_n 1, 1) := dk_27 (dk_at dksJ10_putCharsAt_1 18 rfl rfl)
theorem dJ10_putCharsAt_42 : decode cJ10_putCharsAt 42 = .ok (.iinc 1 1, 3) := dk_132 1 1 (dk_at dksJ10_putCharsAt_1 19 rfl rfl)
theorem dJ10_putCharsAt_45 : decode cJ10_putCharsAt 45 = .ok (.iload 5, 2) := dk_21 5 (dk_at dksJ10_putCharsAt_1 22 rfl rfl)
theorem dJ10_putCharsAt_47 : decode cJ10_putCharsAt 47 = .ok (.invokestatic 111, 3) := dk_184 0 111 (dk_at dksJ10_putCharsAt_2 0 rfl rfl)
theorem dJ10_putCharsAt_50 : decode cJ10_putCharsAt 50 = .ok (.getstatic 44, 3) := dk_178 0 44 (dk_at dksJ10_putCharsAt_2 3 rfl rfl)
theorem dJ10_putCharsAt_53 : decode cJ10_putCharsAt 53 = .ok (.ifCond .ne 17, 3) := dk_154 0 17 (dk_at dksJ10_putCharsAt_2 6 rfl rfl)
theorem dJ10_putCharsAt_56 : decode cJ10_putCharsAt 56 = .ok (.iload_n 1, 1) := dk_27 (dk_at dksJ10_putCharsAt_2 9 rfl rfl)
theorem dJ10_putCharsAt_57 : decode cJ10_putCharsAt 57 = .ok (.iload 6, 2) := dk_21 6 (dk_at dksJ10_putCharsAt_2 10 rfl rfl)
theorem dJ10_putCharsAt_59 : decode cJ10_putCharsAt 59 = .ok (.if_icmp .eq 11, 3) := dk_159 0 11 (dk_at dksJ10_putCharsAt_2 12 rfl rfl)
theorem dJ10_putCharsAt_62 : decode cJ10_putCharsAt 62 = .ok (.new 52, 3) := dk_187 0 52 (dk_at dksJ10_putCharsAt_2 15 rfl rfl)
theorem dJ10_putCharsAt_65 : decode cJ10_putCharsAt 65 = .ok (.dup, 1) := dk_89 (dk_at dksJ10_putCharsAt_2 18 rfl rfl)
theorem dJ10_putCharsAt_66 : decode cJ10_putCharsAt 66 = .ok (.invokespecial 66, 3) := dk_183 0 66 (dk_at dksJ10_putCharsAt_2 19 rfl rfl)
theorem dJ10_putCharsAt_69 : decode cJ10_putCharsAt 69 = .ok (.athrow, 1) := dk_191 (dk_at dksJ10_putCharsAt_2 22 rfl rfl)
theorem dJ10_putCharsAt_70 : decode cJ10_putCharsAt 70 = .ok (.iload 6, 2) := dk_21 6 (dk_at dksJ10_putCharsAt_3 0 rfl rfl)
theorem dJ10_putCharsAt_72 : decode cJ10_putCharsAt 72 = .ok (.ireturn, 1) := dk_172 (dk_at dksJ10_putCharsAt_3 2 rfl rfl)
abbrev cJ10_checkBoundsBeginEnd : ByteArray := prog_35_method_93_code
def yJ10_checkBoundsBeginEnd : MethodName := ⟨RJ10, "checkBoundsBeginEnd", "(II[B)V"⟩
def dkwJ10_checkBoundsBeginEnd_0 : List UInt8 := [26, 27, 44, 184, 0, 48, 184, 0, 241, 177]
abbrev dktJ10_checkBoundsBeginEnd_0 : List UInt8 := dkwJ10_checkBoundsBeginEnd_0 ++ []
theorem dksJ10_checkBoundsBeginEnd_0 : cJ10_checkBoundsBeginEnd.data.toList.drop 0 = dktJ10_checkBoundsBeginEnd_0 := by decide +kernel
theorem dJ10_checkBoundsBeginEnd_0 : decode cJ10_checkBoundsBeginEnd 0 = .ok (.iload_n 0, 1) := dk_26 (dk_at dksJ10_checkBoundsBeginEnd_0 0 rfl rfl)
theorem dJ10_checkBoundsBeginEnd_1 : decode cJ10_checkBoundsBeginEnd 1 = .ok (.iload_n 1, 1) := dk_27 (dk_at dksJ10_checkBoundsBeginEnd_0 1 rfl rfl)
theorem dJ10_checkBoundsBeginEnd_2 : decode cJ10_checkBoundsBeginEnd 2 = .ok (.aload_n 2, 1) := dk_44 (dk_at dksJ10_checkBoundsBeginEnd_0 2 rfl rfl)
theorem dJ10_checkBoundsBeginEnd_3 : decode cJ10_checkBoundsBeginEnd 3 = .ok (.invokestatic 48, 3) := dk_184 0 48 (dk_at dksJ10_checkBoundsBeginEnd_0 3 rfl rfl)
theorem dJ10_checkBoundsBeginEnd_6 : decode cJ10_checkBoundsBeginEnd 6 = .ok (.invokestatic 241, 3) := dk_184 0 241 (dk_at dksJ10_checkBoundsBeginEnd_0 6 rfl rfl)
theorem dJ10_checkBoundsBeginEnd_9 : decode cJ10_checkBoundsBeginEnd 9 = .ok (.return_, 1) := dk_177 (dk_at dksJ10_checkBoundsBeginEnd_0 9 rfl rfl)
abbrev cJ10_length : ByteArray := prog_35_method_6_code
def yJ10_length : MethodName := ⟨RJ10, "length", "([B)I"⟩
def dkwJ10_length_0 : List UInt8 := [42, 190, 4, 122, 172]
abbrev dktJ10_length_0 : List UInt8 := dkwJ10_length_0 ++ []
theorem dksJ10_length_0 : cJ10_length.data.toList.drop 0 = dktJ10_length_0 := by decide +kernel
theorem dJ10_length_0 : decode cJ10_length 0 = .ok (.aload_n 0, 1) := dk_42 (dk_at dksJ10_length_0 0 rfl rfl)
theorem dJ10_length_1 : decode cJ10_length 1 = .ok (.arraylength, 1) := dk_190 (dk_at dksJ10_length_0 1 rfl rfl)
theorem dJ10_length_2 : decode cJ10_length 2 = .ok (.iconst 1, 1) := dk_4 (dk_at dksJ10_length_0 2 rfl rfl)
theorem dJ10_length_3 : decode cJ10_length 3 = .ok (.ishr, 1) := dk_122 (dk_at dksJ10_length_0 3 rfl rfl)
theorem dJ10_length_4 : decode cJ10_length 4 = .ok (.ireturn, 1) := dk_172 (dk_at dksJ10_length_0 4 rfl rfl)
abbrev cJ10_putChar : ByteArray := prog_35_method_4_code
def yJ10_putChar : MethodName := ⟨RJ10, "putChar", "([BII)V"⟩
def dkwJ10_putChar_2 : List UInt8 := [178, 0, 63, 122, 145, 84, 177]
abbrev dktJ10_putChar_2 : List UInt8 := dkwJ10_putChar_2 ++ []
def dkwJ10_putChar_1 : List UInt8 := [183, 0, 56, 191, 27, 4, 120, 60, 42, 27, 132, 1, 1, 28, 178, 0, 59, 122, 145, 84, 42, 27, 28]
abbrev dktJ10_putChar_1 : List UInt8 := dkwJ10_putChar_1 ++ dktJ10_putChar_2
def dkwJ10_putChar_0 : List UInt8 := [178, 0, 44, 154, 0, 25, 27, 155, 0, 11, 27, 42, 184, 0, 48, 161, 0, 13, 187, 0, 52, 89, 18, 54]
abbrev dktJ10_putChar_0 : List UInt8 := dkwJ10_putChar_0 ++ dktJ10_putChar_1
theorem dksJ10_putChar_0 : cJ10_putChar.data.toList.drop 0 = dktJ10_putChar_0 := by decide +kernel
theorem dksJ10_putChar_1 : cJ10_putChar.data.toList.drop 24 = dktJ10_putChar_1 := dk_seg dksJ10_putChar_0 24 rfl rfl
theorem dksJ10_putChar_2 : cJ10_putChar.data.toList.drop 47 = dktJ10_putChar_2 := dk_seg dksJ10_putChar_1 23 rfl rfl
theorem dJ10_putChar_0 : decode cJ10_putChar 0 = .ok (.getstatic 44, 3) := dk_178 0 44 (dk_at dksJ10_putChar_0 0 rfl rfl)
theorem dJ10_putChar_3 : decode cJ10_putChar 3 = .ok (.ifCond .ne 25, 3) := dk_154 0 25 (dk_at dksJ10_putChar_0 3 rfl rfl)
theorem dJ10_putChar_6 : decode cJ10_putChar 6 = .ok (.iload_n 1, 1) := dk_27 (dk_at dksJ10_putChar_0 6 rfl rfl)
theorem dJ10_putChar_7 : decode cJ10_putChar 7 = .ok (.ifCond .lt 11, 3) := dk_155 0 11 (dk_at dksJ10_putChar_0 7 rfl rfl)
theorem dJ10_putChar_10 : decode cJ10_putChar 10 = .ok (.iload_n 1, 1) := dk_27 (dk_at dksJ10_putChar_0 10 rfl rfl)
theorem dJ10_putChar_11 : decode cJ10_putChar 11 = .ok (.aload_n 0, 1) := dk_42 (dk_at dksJ10_putChar_0 11 rfl rfl)
theorem dJ10_putChar_12 : decode cJ10_putChar 12 = .ok (.invokestatic 48, 3) := dk_184 0 48 (dk_at dksJ10_putChar_0 12 rfl rfl)
theorem dJ10_putChar_15 : decode cJ10_putChar 15 = .ok (.if_icmp .lt 13, 3) := dk_161 0 13 (dk_at dksJ10_putChar_0 15 rfl rfl)
theorem dJ10_putChar_18 : decode cJ10_putChar 18 = .ok (.new 52, 3) := dk_187 0 52 (dk_at dksJ10_putChar_0 18 rfl rfl)
theorem dJ10_putChar_21 : decode cJ10_putChar 21 = .ok (.dup, 1) := dk_89 (dk_at dksJ10_putChar_0 21 rfl rfl)
theorem dJ10_putChar_22 : decode cJ10_putChar 22 = .ok (.ldc 54, 2) := dk_18 54 (dk_at dksJ10_putChar_0 22 rfl rfl)
theorem dJ10_putChar_24 : decode cJ10_putChar 24 = .ok (.invokespecial 56, 3) := dk_183 0 56 (dk_at dksJ10_putChar_1 0 rfl rfl)
theorem dJ10_putChar_27 : decode cJ10_putChar 27 = .ok (.athrow, 1) := dk_191 (dk_at dksJ10_putChar_1 3 rfl rfl)
theorem dJ10_putChar_28 : decode cJ10_putChar 28 = .ok (.iload_n 1, 1) := dk_27 (dk_at dksJ10_putChar_1 4 rfl rfl)
theorem dJ10_putChar_29 : decode cJ10_putChar 29 = .ok (.iconst 1, 1) := dk_4 (dk_at dksJ10_putChar_1 5 rfl rfl)
theorem dJ10_putChar_30 : decode cJ10_putChar 30 = .ok (.ishl, 1) := dk_120 (dk_at dksJ10_putChar_1 6 rfl rfl)
theorem dJ10_putChar_31 : decode cJ10_putChar 31 = .ok (.istore_n 1, 1) := dk_60 (dk_at dksJ10_putChar_1 7 rfl rfl)
theorem dJ10_putChar_32 : decode cJ10_putChar 32 = .ok (.aload_n 0, 1) := dk_42 (dk_at dksJ10_putChar_1 8 rfl rfl)
theorem dJ10_putChar_33 : decode cJ10_putChar 33 = .ok (.iload_n 1, 1) := dk_27 (dk_at dksJ10_putChar_1 9 rfl rfl)
theorem dJ10_putChar_34 : decode cJ10_putChar 34 = .ok (.iinc 1 1, 3) := dk_132 1 1 (dk_at dksJ10_putChar_1 10 rfl rfl)
theorem dJ10_putChar_37 : decode cJ10_putChar 37 = .ok (.iload_n 2, 1) := dk_28 (dk_at dksJ10_putChar_1 13 rfl rfl)
theorem dJ10_putChar_38 : decode cJ10_putChar 38 = .ok (.getstatic 59, 3) := dk_178 0 59 (dk_at dksJ10_putChar_1 14 rfl rfl)
theorem dJ10_putChar_41 : decode cJ10_putChar 41 = .ok (.ishr, 1) := dk_122 (dk_at dksJ10_putChar_1 17 rfl rfl)
theorem dJ10_putChar_42 : decode cJ10_putChar 42 = .ok (.i2b, 1) := dk_145 (dk_at dksJ10_putChar_1 18 rfl rfl)
theorem dJ10_putChar_43 : decode cJ10_putChar 43 = .ok (.bastore, 1) := dk_84 (dk_at dksJ10_putChar_1 19 rfl rfl)
theorem dJ10_putChar_44 : decode cJ10_putChar 44 = .ok (.aload_n 0, 1) := dk_42 (dk_at dksJ10_putChar_1 20 rfl rfl)
theorem dJ10_putChar_45 : decode cJ10_putChar 45 = .ok (.iload_n 1, 1) := dk_27 (dk_at dksJ10_putChar_1 21 rfl rfl)
theorem dJ10_putChar_46 : decode cJ10_putChar 46 = .ok (.iload_n 2, 1) := dk_28 (dk_at dksJ10_putChar_1 22 rfl rfl)
theorem dJ10_putChar_47 : decode cJ10_putChar 47 = .ok (.getstatic 63, 3) := dk_178 0 63 (dk_at dksJ10_putChar_2 0 rfl rfl)
theorem dJ10_putChar_50 : decode cJ10_putChar 50 = .ok (.ishr, 1) := dk_122 (dk_at dksJ10_putChar_2 3 rfl rfl)
theorem dJ10_putChar_51 : decode cJ10_putChar 51 = .ok (.i2b, 1) := dk_145 (dk_at dksJ10_putChar_2 4 rfl rfl)
theorem dJ10_putChar_52 : decode cJ10_putChar 52 = .ok (.bastore, 1) := dk_84 (dk_at dksJ10_putChar_2 5 rfl rfl)
theorem dJ10_putChar_53 : decode cJ10_putChar 53 = .ok (.return_, 1) := dk_177 (dk_at dksJ10_putChar_2 6 rfl rfl)
abbrev cJ10_inflate : ByteArray := prog_35_method_86_code
def yJ10_inflate : MethodName := ⟨RJ10, "inflate", "([BI[BII)V"⟩
def dkwJ10_inflate_1 : List UInt8 := [132, 1, 1, 51, 17, 0, 255, 126, 184, 0, 111, 132, 5, 1, 167, 255, 228, 177]
abbrev dktJ10_inflate_1 : List UInt8 := dkwJ10_inflate_1 ++ []
def dkwJ10_inflate_0 : List UInt8 := [29, 21, 4, 44, 184, 0, 173, 3, 54, 5, 21, 5, 21, 4, 162, 0, 27, 44, 29, 132, 3, 1, 42, 27]
abbrev dktJ10_inflate_0 : List UInt8 := dkwJ10_inflate_0 ++ dktJ10_inflate_1
theorem dksJ10_inflate_0 : cJ10_inflate.data.toList.drop 0 = dktJ10_inflate_0 := by decide +kernel
theorem dksJ10_inflate_1 : cJ10_inflate.data.toList.drop 24 = dktJ10_inflate_1 := dk_seg dksJ10_inflate_0 24 rfl rfl
theorem dJ10_inflate_0 : decode cJ10_inflate 0 = .ok (.iload_n 3, 1) := dk_29 (dk_at dksJ10_inflate_0 0 rfl rfl)
theorem dJ10_inflate_1 : decode cJ10_inflate 1 = .ok (.iload 4, 2) := dk_21 4 (dk_at dksJ10_inflate_0 1 rfl rfl)
theorem dJ10_inflate_3 : decode cJ10_inflate 3 = .ok (.aload_n 2, 1) := dk_44 (dk_at dksJ10_inflate_0 3 rfl rfl)
theorem dJ10_inflate_4 : decode cJ10_inflate 4 = .ok (.invokestatic 173, 3) := dk_184 0 173 (dk_at dksJ10_inflate_0 4 rfl rfl)
theorem dJ10_inflate_7 : decode cJ10_inflate 7 = .ok (.iconst 0, 1) := dk_3 (dk_at dksJ10_inflate_0 7 rfl rfl)
theorem dJ10_inflate_8 : decode cJ10_inflate 8 = .ok (.istore 5, 2) := dk_54 5 (dk_at dksJ10_inflate_0 8 rfl rfl)
theorem dJ10_inflate_10 : decode cJ10_inflate 10 = .ok (.iload 5, 2) := dk_21 5 (dk_at dksJ10_inflate_0 10 rfl rfl)
theorem dJ10_inflate_12 : decode cJ10_inflate 12 = .ok (.iload 4, 2) := dk_21 4 (dk_at dksJ10_inflate_0 12 rfl rfl)
theorem dJ10_inflate_14 : decode cJ10_inflate 14 = .ok (.if_icmp .ge 27, 3) := dk_162 0 27 (dk_at dksJ10_inflate_0 14 rfl rfl)
theorem dJ10_inflate_17 : decode cJ10_inflate 17 = .ok (.aload_n 2, 1) := dk_44 (dk_at dksJ10_inflate_0 17 rfl rfl)
theorem dJ10_inflate_18 : decode cJ10_inflate 18 = .ok (.iload_n 3, 1) := dk_29 (dk_at dksJ10_inflate_0 18 rfl rfl)
theorem dJ10_inflate_19 : decode cJ10_inflate 19 = .ok (.iinc 3 1, 3) := dk_132 3 1 (dk_at dksJ10_inflate_0 19 rfl rfl)
theorem dJ10_inflate_22 : decode cJ10_inflate 22 = .ok (.aload_n 0, 1) := dk_42 (dk_at dksJ10_inflate_0 22 rfl rfl)
theorem dJ10_inflate_23 : decode cJ10_inflate 23 = .ok (.iload_n 1, 1) := dk_27 (dk_at dksJ10_inflate_0 23 rfl rfl)
theorem dJ10_inflate_24 : decode cJ10_inflate 24 = .ok (.iinc 1 1, 3) := dk_132 1 1 (dk_at dksJ10_inflate_1 0 rfl rfl)
theorem dJ10_inflate_27 : decode cJ10_inflate 27 = .ok (.baload, 1) := dk_51 (dk_at dksJ10_inflate_1 3 rfl rfl)
theorem dJ10_inflate_28 : decode cJ10_inflate 28 = .ok (.sipush 255, 3) := dk_17 0 255 (dk_at dksJ10_inflate_1 4 rfl rfl)
theorem dJ10_inflate_31 : decode cJ10_inflate 31 = .ok (.iand, 1) := dk_126 (dk_at dksJ10_inflate_1 7 rfl rfl)
theorem dJ10_inflate_32 : decode cJ10_inflate 32 = .ok (.invokestatic 111, 3) := dk_184 0 111 (dk_at dksJ10_inflate_1 8 rfl rfl)
theorem dJ10_inflate_35 : decode cJ10_inflate 35 = .ok (.iinc 5 1, 3) := dk_132 5 1 (dk_at dksJ10_inflate_1 11 rfl rfl)
theorem dJ10_inflate_38 : decode cJ10_inflate 38 = .ok (.goto (-28), 3) := dk_167 255 228 (dk_at dksJ10_inflate_1 14 rfl rfl)
theorem dJ10_inflate_41 : decode cJ10_inflate 41 = .ok (.return_, 1) := dk_177 (dk_at dksJ10_inflate_1 17 rfl rfl)
abbrev cJ10_checkBoundsOffCount : ByteArray := prog_35_method_94_code
def yJ10_checkBoundsOffCount : MethodName := ⟨RJ10, "checkBoundsOffCount", "(II[B)V"⟩
def dkwJ10_checkBoundsOffCount_0 : List UInt8 := [26, 27, 44, 184, 0, 48, 184, 1, 163, 87, 177]
abbrev dktJ10_checkBoundsOffCount_0 : List UInt8 := dkwJ10_checkBoundsOffCount_0 ++ []
theorem dksJ10_checkBoundsOffCount_0 : cJ10_checkBoundsOffCount.data.toList.drop 0 = dktJ10_checkBoundsOffCount_0 := by decide +kernel
theorem dJ10_checkBoundsOffCount_0 : decode cJ10_checkBoundsOffCount 0 = .ok (.iload_n 0, 1) := dk_26 (dk_at dksJ10_checkBoundsOffCount_0 0 rfl rfl)
theorem dJ10_checkBoundsOffCount_1 : decode cJ10_checkBoundsOffCount 1 = .ok (.iload_n 1, 1) := dk_27 (dk_at dksJ10_checkBoundsOffCount_0 1 rfl rfl)
theorem dJ10_checkBoundsOffCount_2 : decode cJ10_checkBoundsOffCount 2 = .ok (.aload_n 2, 1) := dk_44 (dk_at dksJ10_checkBoundsOffCount_0 2 rfl rfl)
theorem dJ10_checkBoundsOffCount_3 : decode cJ10_checkBoundsOffCount 3 = .ok (.invokestatic 48, 3) := dk_184 0 48 (dk_at dksJ10_checkBoundsOffCount_0 3 rfl rfl)
theorem dJ10_checkBoundsOffCount_6 : decode cJ10_checkBoundsOffCount 6 = .ok (.invokestatic 419, 3) := dk_184 1 163 (dk_at dksJ10_checkBoundsOffCount_0 6 rfl rfl)
theorem dJ10_checkBoundsOffCount_9 : decode cJ10_checkBoundsOffCount 9 = .ok (.pop, 1) := dk_87 (dk_at dksJ10_checkBoundsOffCount_0 9 rfl rfl)
theorem dJ10_checkBoundsOffCount_10 : decode cJ10_checkBoundsOffCount 10 = .ok (.return_, 1) := dk_177 (dk_at dksJ10_checkBoundsOffCount_0 10 rfl rfl)
abbrev cJ10_getChars : ByteArray := prog_35_method_77_code
def yJ10_getChars : MethodName := ⟨RJ10, "getChars", "(III[B)I"⟩
def dkwJ10_getChars_1 : List UInt8 := [159, 0, 11, 187, 0, 52, 89, 183, 0, 66, 191, 21, 4, 172]
abbrev dktJ10_getChars_1 : List UInt8 := dkwJ10_getChars_1 ++ []
def dkwJ10_getChars_0 : List UInt8 := [27, 28, 45, 184, 0, 96, 26, 28, 45, 184, 1, 137, 54, 4, 178, 0, 44, 154, 0, 17, 27, 21, 4]
abbrev dktJ10_getChars_0 : List UInt8 := dkwJ10_getChars_0 ++ dktJ10_getChars_1
theorem dksJ10_getChars_0 : cJ10_getChars.data.toList.drop 0 = dktJ10_getChars_0 := by decide +kernel
theorem dksJ10_getChars_1 : cJ10_getChars.data.toList.drop 23 = dktJ10_getChars_1 := dk_seg dksJ10_getChars_0 23 rfl rfl
theorem dJ10_getChars_0 : decode cJ10_getChars 0 = .ok (.iload_n 1, 1) := dk_27 (dk_at dksJ10_getChars_0 0 rfl rfl)
theorem dJ10_getChars_1 : decode cJ10_getChars 1 = .ok (.iload_n 2, 1) := dk_28 (dk_at dksJ10_getChars_0 1 rfl rfl)
theorem dJ10_getChars_2 : decode cJ10_getChars 2 = .ok (.aload_n 3, 1) := dk_45 (dk_at dksJ10_getChars_0 2 rfl rfl)
theorem dJ10_getChars_3 : decode cJ10_getChars 3 = .ok (.invokestatic 96, 3) := dk_184 0 96 (dk_at dksJ10_getChars_0 3 rfl rfl)
theorem dJ10_getChars_6 : decode cJ10_getChars 6 = .ok (.iload_n 0, 1) := dk_26 (dk_at dksJ10_getChars_0 6 rfl rfl)
theorem dJ10_getChars_7 : decode cJ10_getChars 7 = .ok (.iload_n 2, 1) := dk_28 (dk_at dksJ10_getChars_0 7 rfl rfl)
theorem dJ10_getChars_8 : decode cJ10_getChars 8 = .ok (.aload_n 3, 1) := dk_45 (dk_at dksJ10_getChars_0 8 rfl rfl)
theorem dJ10_getChars_9 : decode cJ10_getChars 9 = .ok (.invokestatic 393, 3) := dk_184 1 137 (dk_at dksJ10_getChars_0 9 rfl rfl)
theorem dJ10_getChars_12 : decode cJ10_getChars 12 = .ok (.istore 4, 2) := dk_54 4 (dk_at dksJ10_getChars_0 12 rfl rfl)
theorem dJ10_getChars_14 : decode cJ10_getChars 14 = .ok (.getstatic 44, 3) := dk_178 0 44 (dk_at dksJ10_getChars_0 14 rfl rfl)
theorem dJ10_getChars_17 : decode cJ10_getChars 17 = .ok (.ifCond .ne 17, 3) := dk_154 0 17 (dk_at dksJ10_getChars_0 17 rfl rfl)
theorem dJ10_getChars_20 : decode cJ10_getChars 20 = .ok (.iload_n 1, 1) := dk_27 (dk_at dksJ10_getChars_0 20 rfl rfl)
theorem dJ10_getChars_21 : decode cJ10_getChars 21 = .ok (.iload 4, 2) := dk_21 4 (dk_at dksJ10_getChars_0 21 rfl rfl)
theorem dJ10_getChars_23 : decode cJ10_getChars 23 = .ok (.if_icmp .eq 11, 3) := dk_159 0 11 (dk_at dksJ10_getChars_1 0 rfl rfl)
theorem dJ10_getChars_26 : decode cJ10_getChars 26 = .ok (.new 52, 3) := dk_187 0 52 (dk_at dksJ10_getChars_1 3 rfl rfl)
theorem dJ10_getChars_29 : decode cJ10_getChars 29 = .ok (.dup, 1) := dk_89 (dk_at dksJ10_getChars_1 6 rfl rfl)
theorem dJ10_getChars_30 : decode cJ10_getChars 30 = .ok (.invokespecial 66, 3) := dk_183 0 66 (dk_at dksJ10_getChars_1 7 rfl rfl)
theorem dJ10_getChars_33 : decode cJ10_getChars 33 = .ok (.athrow, 1) := dk_191 (dk_at dksJ10_getChars_1 10 rfl rfl)
theorem dJ10_getChars_34 : decode cJ10_getChars 34 = .ok (.iload 4, 2) := dk_21 4 (dk_at dksJ10_getChars_1 11 rfl rfl)
theorem dJ10_getChars_36 : decode cJ10_getChars 36 = .ok (.ireturn, 1) := dk_172 (dk_at dksJ10_getChars_1 13 rfl rfl)
abbrev cJ10_getChars_2 : ByteArray := prog_35_method_89_code
def yJ10_getChars_2 : MethodName := ⟨RJ10, "getChars", "(II[B)I"⟩
def dkwJ10_getChars_2_5 : List UInt8 := [132, 5, 255, 21, 5, 16, 45, 184, 0, 111, 21, 5, 172]
abbrev dktJ10_getChars_2_5 : List UInt8 := dkwJ10_getChars_2_5 ++ []
def dkwJ10_getChars_2_4 : List UInt8 := [162, 0, 18, 44, 132, 5, 255, 21, 5, 178, 1, 151, 26, 116, 51, 184, 0, 111, 21, 6, 153, 0, 14, 44]
abbrev dktJ10_getChars_2_4 : List UInt8 := dkwJ10_getChars_2_4 ++ dktJ10_getChars_2_5
def dkwJ10_getChars_2_3 : List UInt8 := [184, 0, 111, 167, 255, 205, 44, 132, 5, 255, 21, 5, 178, 1, 147, 26, 116, 51, 184, 0, 111, 26, 16, 247]
abbrev dktJ10_getChars_2_3 : List UInt8 := dkwJ10_getChars_2_3 ++ dktJ10_getChars_2_4
def dkwJ10_getChars_2_2 : List UInt8 := [21, 5, 178, 1, 147, 21, 4, 51, 184, 0, 111, 44, 132, 5, 255, 21, 5, 178, 1, 151, 21, 4, 51]
abbrev dktJ10_getChars_2_2 : List UInt8 := dkwJ10_getChars_2_2 ++ dktJ10_getChars_2_3
def dkwJ10_getChars_2_1 : List UInt8 := [16, 156, 163, 0, 51, 26, 16, 100, 108, 62, 29, 16, 100, 104, 26, 100, 54, 4, 29, 59, 44, 132, 5, 255]
abbrev dktJ10_getChars_2_1 : List UInt8 := dkwJ10_getChars_2_1 ++ dktJ10_getChars_2_2
def dkwJ10_getChars_2_0 : List UInt8 := [27, 54, 5, 26, 156, 0, 7, 4, 167, 0, 4, 3, 54, 6, 21, 6, 154, 0, 6, 26, 116, 59, 26]
abbrev dktJ10_getChars_2_0 : List UInt8 := dkwJ10_getChars_2_0 ++ dktJ10_getChars_2_1
theorem dksJ10_getChars_2_0 : cJ10_getChars_2.data.toList.drop 0 = dktJ10_getChars_2_0 := by decide +kernel
theorem dksJ10_getChars_2_1 : cJ10_getChars_2.data.toList.drop 23 = dktJ10_getChars_2_1 := dk_seg dksJ10_getChars_2_0 23 rfl rfl
theorem dksJ10_getChars_2_2 : cJ10_getChars_2.data.toList.drop 47 = dktJ10_getChars_2_2 := dk_seg dksJ10_getChars_2_1 24 rfl rfl
theorem dksJ10_getChars_2_3 : cJ10_getChars_2.data.toList.drop 70 = dktJ10_getChars_2_3 := dk_seg dksJ10_getChars_2_2 23 rfl rfl
theorem dksJ10_getChars_2_4 : cJ10_getChars_2.data.toList.drop 94 = dktJ10_getChars_2_4 := dk_seg dksJ10_getChars_2_3 24 rfl rfl
theorem dksJ10_getChars_2_5 : cJ10_getChars_2.data.toList.drop 118 = dktJ10_getChars_2_5 := dk_seg dksJ10_getChars_2_4 24 rfl rfl
theorem dJ10_getChars_2_0 : decode cJ10_getChars_2 0 = .ok (.iload_n 1, 1) := dk_27 (dk_at dksJ10_getChars_2_0 0 rfl rfl)
theorem dJ10_getChars_2_1 : decode cJ10_getChars_2 1 = .ok (.istore 5, 2) := dk_54 5 (dk_at dksJ10_getChars_2_0 1 rfl rfl)
theorem dJ10_getChars_2_3 : decode cJ10_getChars_2 3 = .ok (.iload_n 0, 1) := dk_26 (dk_at dksJ10_getChars_2_0 3 rfl rfl)
theorem dJ10_getChars_2_4 : decode cJ10_getChars_2 4 = .ok (.ifCond .ge 7, 3) := dk_156 0 7 (dk_at dksJ10_getChars_2_0 4 rfl rfl)
theorem dJ10_getChars_2_7 : decode cJ10_getChars_2 7 = .ok (.iconst 1, 1) := dk_4 (dk_at dksJ10_getChars_2_0 7 rfl rfl)
theorem dJ10_getChars_2_8 : decode cJ10_getChars_2 8 = .ok (.goto 4, 3) := dk_167 0 4 (dk_at dksJ10_getChars_2_0 8 rfl rfl)
theorem dJ10_getChars_2_11 : decode cJ10_getChars_2 11 = .ok (.iconst 0, 1) := dk_3 (dk_at dksJ10_getChars_2_0 11 rfl rfl)
theorem dJ10_getChars_2_12 : decode cJ10_getChars_2 12 = .ok (.istore 6, 2) := dk_54 6 (dk_at dksJ10_getChars_2_0 12 rfl rfl)
theorem dJ10_getChars_2_14 : decode cJ10_getChars_2 14 = .ok (.iload 6, 2) := dk_21 6 (dk_at dksJ10_getChars_2_0 14 rfl rfl)
theorem dJ10_getChars_2_16 : decode cJ10_getChars_2 16 = .ok (.ifCond .ne 6, 3) := dk_154 0 6 (dk_at dksJ10_getChars_2_0 16 rfl rfl)
theorem dJ10_getChars_2_19 : decode cJ10_getChars_2 19 = .ok (.iload_n 0, 1) := dk_26 (dk_at dksJ10_getChars_2_0 19 rfl rfl)
theorem dJ10_getChars_2_20 : decode cJ10_getChars_2 20 = .ok (.ineg, 1) := dk_116 (dk_at dksJ10_getChars_2_0 20 rfl rfl)
theorem dJ10_getChars_2_21 : decode cJ10_getChars_2 21 = .ok (.istore_n 0, 1) := dk_59 (dk_at dksJ10_getChars_2_0 21 rfl rfl)
theorem dJ10_getChars_2_22 : decode cJ10_getChars_2 22 = .ok (.iload_n 0, 1) := dk_26 (dk_at dksJ10_getChars_2_0 22 rfl rfl)
theorem dJ10_getChars_2_23 : decode cJ10_getChars_2 23 = .ok (.bipush (-100), 2) := dk_16 156 (dk_at dksJ10_getChars_2_1 0 rfl rfl)
theorem dJ10_getChars_2_25 : decode cJ10_getChars_2 25 = .ok (.if_icmp .gt 51, 3) := dk_163 0 51 (dk_at dksJ10_getChars_2_1 2 rfl rfl)
theorem dJ10_getChars_2_28 : decode cJ10_getChars_2 28 = .ok (.iload_n 0, 1) := dk_26 (dk_at dksJ10_getChars_2_1 5 rfl rfl)
theorem dJ10_getChars_2_29 : decode cJ10_getChars_2 29 = .ok (.bipush 100, 2) := dk_16 100 (dk_at dksJ10_getChars_2_1 6 rfl rfl)
theorem dJ10_getChars_2_31 : decode cJ10_getChars_2 31 = .ok (.idiv, 1) := dk_108 (dk_at dksJ10_getChars_2_1 8 rfl rfl)
theorem dJ10_getChars_2_32 : decode cJ10_getChars_2 32 = .ok (.istore_n 3, 1) := dk_62 (dk_at dksJ10_getChars_2_1 9 rfl rfl)
theorem dJ10_getChars_2_33 : decode cJ10_getChars_2 33 = .ok (.iload_n 3, 1) := dk_29 (dk_at dksJ10_getChars_2_1 10 rfl rfl)
theorem dJ10_getChars_2_34 : decode cJ10_getChars_2 34 = .ok (.bipush 100, 2) := dk_16 100 (dk_at dksJ10_getChars_2_1 11 rfl rfl)
theorem dJ10_getChars_2_36 : decode cJ10_getChars_2 36 = .ok (.imul, 1) := dk_104 (dk_at dksJ10_getChars_2_1 13 rfl rfl)
theorem dJ10_getChars_2_37 : decode cJ10_getChars_2 37 = .ok (.iload_n 0, 1) := dk_26 (dk_at dksJ10_getChars_2_1 14 rfl rfl)
theorem dJ10_getChars_2_38 : decode cJ10_getChars_2 38 = .ok (.isub, 1) := dk_100 (dk_at dksJ10_getChars_2_1 15 rfl rfl)
theorem dJ10_getChars_2_39 : decode cJ10_getChars_2 39 = .ok (.istore 4, 2) := dk_54 4 (dk_at dksJ10_getChars_2_1 16 rfl rfl)
theorem dJ10_getChars_2_41 : decode cJ10_getChars_2 41 = .ok (.iload_n 3, 1) := dk_29 (dk_at dksJ10_getChars_2_1 18 rfl rfl)
theorem dJ10_getChars_2_42 : decode cJ10_getChars_2 42 = .ok (.istore_n 0, 1) := dk_59 (dk_at dksJ10_getChars_2_1 19 rfl rfl)
theorem dJ10_getChars_2_43 : decode cJ10_getChars_2 43 = .ok (.aload_n 2, 1) := dk_44 (dk_at dksJ10_getChars_2_1 20 rfl rfl)
theorem dJ10_getChars_2_44 : decode cJ10_getChars_2 44 = .ok (.iinc 5 (-1), 3) := dk_132 5 255 (dk_at dksJ10_getChars_2_1 21 rfl rfl)
theorem dJ10_getChars_2_47 : decode cJ10_getChars_2 47 = .ok (.iload 5, 2) := dk_21 5 (dk_at dksJ10_getChars_2_2 0 rfl rfl)
theorem dJ10_getChars_2_49 : decode cJ10_getChars_2 49 = .ok (.getstatic 403, 3) := dk_178 1 147 (dk_at dksJ10_getChars_2_2 2 rfl rfl)
theorem dJ10_getChars_2_52 : decode cJ10_getChars_2 52 = .ok (.iload 4, 2) := dk_21 4 (dk_at dksJ10_getChars_2_2 5 rfl rfl)
theorem dJ10_getChars_2_54 : decode cJ10_getChars_2 54 = .ok (.baload, 1) := dk_51 (dk_at dksJ10_getChars_2_2 7 rfl rfl)
theorem dJ10_getChars_2_55 : decode cJ10_getChars_2 55 = .ok (.invokestatic 111, 3) := dk_184 0 111 (dk_at dksJ10_getChars_2_2 8 rfl rfl)
theorem dJ10_getChars_2_58 : decode cJ10_getChars_2 58 = .ok (.aload_n 2, 1) := dk_44 (dk_at dksJ10_getChars_2_2 11 rfl rfl)
theorem dJ10_getChars_2_59 : decode cJ10_getChars_2 59 = .ok (.iinc 5 (-1), 3) := dk_132 5 255 (dk_at dksJ10_getChars_2_2 12 rfl rfl)
theorem dJ10_getChars_2_62 : decode cJ10_getChars_2 62 = .ok (.iload 5, 2) := dk_21 5 (dk_at dksJ10_getChars_2_2 15 rfl rfl)
theorem dJ10_getChars_2_64 : decode cJ10_getChars_2 64 = .ok (.getstatic 407, 3) := dk_178 1 151 (dk_at dksJ10_getChars_2_2 17 rfl rfl)
theorem dJ10_getChars_2_67 : decode cJ10_getChars_2 67 = .ok (.iload 4, 2) := dk_21 4 (dk_at dksJ10_getChars_2_2 20 rfl rfl)
theorem dJ10_getChars_2_69 : decode cJ10_getChars_2 69 = .ok (.baload, 1) := dk_51 (dk_at dksJ10_getChars_2_2 22 rfl rfl)
theorem dJ10_getChars_2_70 : decode cJ10_getChars_2 70 = .ok (.invokestatic 111, 3) := dk_184 0 111 (dk_at dksJ10_getChars_2_3 0 rfl rfl)
theorem dJ10_getChars_2_73 : decode cJ10_getChars_2 73 = .ok (.goto (-51), 3) := dk_167 255 205 (dk_at dksJ10_getChars_2_3 3 rfl rfl)
theorem dJ10_getChars_2_76 : decode cJ10_getChars_2 76 = .ok (.aload_n 2, 1) := dk_44 (dk_at dksJ10_getChars_2_3 6 rfl rfl)
theorem dJ10_getChars_2_77 : decode cJ10_getChars_2 77 = .ok (.iinc 5 (-1), 3) := dk_132 5 255 (dk_at dksJ10_getChars_2_3 7 rfl rfl)
theorem dJ10_getChars_2_80 : decode cJ10_getChars_2 80 = .ok (.iload 5, 2) := dk_21 5 (dk_at dksJ10_getChars_2_3 10 rfl rfl)
theorem dJ10_getChars_2_82 : decode cJ10_getChars_2 82 = .ok (.getstatic 403, 3) := dk_178 1 147 (dk_at dksJ10_getChars_2_3 12 rfl rfl)
theorem dJ10_getChars_2_85 : decode cJ10_getChars_2 85 = .ok (.iload_n 0, 1) := dk_26 (dk_at dksJ10_getChars_2_3 15 rfl rfl)
theorem dJ10_getChars_2_86 : decode cJ10_getChars_2 86 = .ok (.ineg, 1) := dk_116 (dk_at dksJ10_getChars_2_3 16 rfl rfl)
theorem dJ10_getChars_2_87 : decode cJ10_getChars_2 87 = .ok (.baload, 1) := dk_51 (dk_at dksJ10_getChars_2_3 17 rfl rfl)
theorem dJ10_getChars_2_88 : decode cJ10_getChars_2 88 = .ok (.invokestatic 111, 3) := dk_184 0 111 (dk_at dksJ10_getChars_2_3 18 rfl rfl)
theorem dJ10_getChars_2_91 : decode cJ10_getChars_2 91 = .ok (.iload_n 0, 1) := dk_26 (dk_at dksJ10_getChars_2_3 21 rfl rfl)
theorem dJ10_getChars_2_92 : decode cJ10_getChars_2 92 = .ok (.bipush (-9), 2) := dk_16 247 (dk_at dksJ10_getChars_2_3 22 rfl rfl)
theorem dJ10_getChars_2_94 : decode cJ10_getChars_2 94 = .ok (.if_icmp .ge 18, 3) := dk_162 0 18 (dk_at dksJ10_getChars_2_4 0 rfl rfl)
theorem dJ10_getChars_2_97 : decode cJ10_getChars_2 97 = .ok (.aload_n 2, 1) := dk_44 (dk_at dksJ10_getChars_2_4 3 rfl rfl)
theorem dJ10_getChars_2_98 : decode cJ10_getChars_2 98 = .ok (.iinc 5 (-1), 3) := dk_132 5 255 (dk_at dksJ10_getChars_2_4 4 rfl rfl)
theorem dJ10_getChars_2_101 : decode cJ10_getChars_2 101 = .ok (.iload 5, 2) := dk_21 5 (dk_at dksJ10_getChars_2_4 7 rfl rfl)
theorem dJ10_getChars_2_103 : decode cJ10_getChars_2 103 = .ok (.getstatic 407, 3) := dk_178 1 151 (dk_at dksJ10_getChars_2_4 9 rfl rfl)
theorem dJ10_getChars_2_106 : decode cJ10_getChars_2 106 = .ok (.iload_n 0, 1) := dk_26 (dk_at dksJ10_getChars_2_4 12 rfl rfl)
theorem dJ10_getChars_2_107 : decode cJ10_getChars_2 107 = .ok (.ineg, 1) := dk_116 (dk_at dksJ10_getChars_2_4 13 rfl rfl)
theorem dJ10_getChars_2_108 : decode cJ10_getChars_2 108 = .ok (.baload, 1) := dk_51 (dk_at dksJ10_getChars_2_4 14 rfl rfl)
theorem dJ10_getChars_2_109 : decode cJ10_getChars_2 109 = .ok (.invokestatic 111, 3) := dk_184 0 111 (dk_at dksJ10_getChars_2_4 15 rfl rfl)
theorem dJ10_getChars_2_112 : decode cJ10_getChars_2 112 = .ok (.iload 6, 2) := dk_21 6 (dk_at dksJ10_getChars_2_4 18 rfl rfl)
theorem dJ10_getChars_2_114 : decode cJ10_getChars_2 114 = .ok (.ifCond .eq 14, 3) := dk_153 0 14 (dk_at dksJ10_getChars_2_4 20 rfl rfl)
theorem dJ10_getChars_2_117 : decode cJ10_getChars_2 117 = .ok (.aload_n 2, 1) := dk_44 (dk_at dksJ10_getChars_2_4 23 rfl rfl)
theorem dJ10_getChars_2_118 : decode cJ10_getChars_2 118 = .ok (.iinc 5 (-1), 3) := dk_132 5 255 (dk_at dksJ10_getChars_2_5 0 rfl rfl)
theorem dJ10_getChars_2_121 : decode cJ10_getChars_2 121 = .ok (.iload 5, 2) := dk_21 5 (dk_at dksJ10_getChars_2_5 3 rfl rfl)
theorem dJ10_getChars_2_123 : decode cJ10_getChars_2 123 = .ok (.bipush 45, 2) := dk_16 45 (dk_at dksJ10_getChars_2_5 5 rfl rfl)
theorem dJ10_getChars_2_125 : decode cJ10_getChars_2 125 = .ok (.invokestatic 111, 3) := dk_184 0 111 (dk_at dksJ10_getChars_2_5 7 rfl rfl)
theorem dJ10_getChars_2_128 : decode cJ10_getChars_2 128 = .ok (.iload 5, 2) := dk_21 5 (dk_at dksJ10_getChars_2_5 10 rfl rfl)
theorem dJ10_getChars_2_130 : decode cJ10_getChars_2 130 = .ok (.ireturn, 1) := dk_172 (dk_at dksJ10_getChars_2_5 12 rfl rfl)
abbrev cJ10_compress : ByteArray := prog_35_method_17_code
def yJ10_compress : MethodName := ⟨RJ10, "compress", "([BII)[B"⟩
def dkwJ10_compress_2 : List UInt8 := [25, 5, 3, 45, 3, 28, 184, 0, 123, 28, 159, 0, 6, 25, 5, 176, 45, 176]
abbrev dktJ10_compress_2 : List UInt8 := dkwJ10_compress_2 ++ []
def dkwJ10_compress_1 : List UInt8 := [27, 28, 96, 184, 0, 11, 184, 0, 126, 58, 5, 25, 5, 21, 4, 184, 0, 71, 17, 0, 255, 163, 0, 16]
abbrev dktJ10_compress_1 : List UInt8 := dkwJ10_compress_1 ++ dktJ10_compress_2
def dkwJ10_compress_0 : List UInt8 := [28, 188, 8, 78, 42, 27, 45, 3, 28, 184, 0, 123, 54, 4, 21, 4, 28, 159, 0, 47, 42, 27, 4, 120]
abbrev dktJ10_compress_0 : List UInt8 := dkwJ10_compress_0 ++ dktJ10_compress_1
theorem dksJ10_compress_0 : cJ10_compress.data.toList.drop 0 = dktJ10_compress_0 := by decide +kernel
theorem dksJ10_compress_1 : cJ10_compress.data.toList.drop 24 = dktJ10_compress_1 := dk_seg dksJ10_compress_0 24 rfl rfl
theorem dksJ10_compress_2 : cJ10_compress.data.toList.drop 48 = dktJ10_compress_2 := dk_seg dksJ10_compress_1 24 rfl rfl
theorem dJ10_compress_0 : decode cJ10_compress 0 = .ok (.iload_n 2, 1) := dk_28 (dk_at dksJ10_compress_0 0 rfl rfl)
theorem dJ10_compress_1 : decode cJ10_compress 1 = .ok (.newarray .byte, 2) := dk_188_8 (dk_at dksJ10_compress_0 1 rfl rfl)
theorem dJ10_compress_3 : decode cJ10_compress 3 = .ok (.astore_n 3, 1) := dk_78 (dk_at dksJ10_compress_0 3 rfl rfl)
theorem dJ10_compress_4 : decode cJ10_compress 4 = .ok (.aload_n 0, 1) := dk_42 (dk_at dksJ10_compress_0 4 rfl rfl)
theorem dJ10_compress_5 : decode cJ10_compress 5 = .ok (.iload_n 1, 1) := dk_27 (dk_at dksJ10_compress_0 5 rfl rfl)
theorem dJ10_compress_6 : decode cJ10_compress 6 = .ok (.aload_n 3, 1) := dk_45 (dk_at dksJ10_compress_0 6 rfl rfl)
theorem dJ10_compress_7 : decode cJ10_compress 7 = .ok (.iconst 0, 1) := dk_3 (dk_at dksJ10_compress_0 7 rfl rfl)
theorem dJ10_compress_8 : decode cJ10_compress 8 = .ok (.iload_n 2, 1) := dk_28 (dk_at dksJ10_compress_0 8 rfl rfl)
theorem dJ10_compress_9 : decode cJ10_compress 9 = .ok (.invokestatic 123, 3) := dk_184 0 123 (dk_at dksJ10_compress_0 9 rfl rfl)
theorem dJ10_compress_12 : decode cJ10_compress 12 = .ok (.istore 4, 2) := dk_54 4 (dk_at dksJ10_compress_0 12 rfl rfl)
theorem dJ10_compress_14 : decode cJ10_compress 14 = .ok (.iload 4, 2) := dk_21 4 (dk_at dksJ10_compress_0 14 rfl rfl)
theorem dJ10_compress_16 : decode cJ10_compress 16 = .ok (.iload_n 2, 1) := dk_28 (dk_at dksJ10_compress_0 16 rfl rfl)
theorem dJ10_compress_17 : decode cJ10_compress 17 = .ok (.if_icmp .eq 47, 3) := dk_159 0 47 (dk_at dksJ10_compress_0 17 rfl rfl)
theorem dJ10_compress_20 : decode cJ10_compress 20 = .ok (.aload_n 0, 1) := dk_42 (dk_at dksJ10_compress_0 20 rfl rfl)
theorem dJ10_compress_21 : decode cJ10_compress 21 = .ok (.iload_n 1, 1) := dk_27 (dk_at dksJ10_compress_0 21 rfl rfl)
theorem dJ10_compress_22 : decode cJ10_compress 22 = .ok (.iconst 1, 1) := dk_4 (dk_at dksJ10_compress_0 22 rfl rfl)
theorem dJ10_compress_23 : decode cJ10_compress 23 = .ok (.ishl, 1) := dk_120 (dk_at dksJ10_compress_0 23 rfl rfl)
theorem dJ10_compress_24 : decode cJ10_compress 24 = .ok (.iload_n 1, 1) := dk_27 (dk_at dksJ10_compress_1 0 rfl rfl)
theorem dJ10_compress_25 : decode cJ10_compress 25 = .ok (.iload_n 2, 1) := dk_28 (dk_at dksJ10_compress_1 1 rfl rfl)
theorem dJ10_compress_26 : decode cJ10_compress 26 = .ok (.iadd, 1) := dk_96 (dk_at dksJ10_compress_1 2 rfl rfl)
theorem dJ10_compress_27 : decode cJ10_compress 27 = .ok (.invokestatic 11, 3) := dk_184 0 11 (dk_at dksJ10_compress_1 3 rfl rfl)
theorem dJ10_compress_30 : decode cJ10_compress 30 = .ok (.invokestatic 126, 3) := dk_184 0 126 (dk_at dksJ10_compress_1 6 rfl rfl)
theorem dJ10_compress_33 : decode cJ10_compress 33 = .ok (.astore 5, 2) := dk_58 5 (dk_at dksJ10_compress_1 9 rfl rfl)
theorem dJ10_compress_35 : decode cJ10_compress 35 = .ok (.aload 5, 2) := dk_25 5 (dk_at dksJ10_compress_1 11 rfl rfl)
theorem dJ10_compress_37 : decode cJ10_compress 37 = .ok (.iload 4, 2) := dk_21 4 (dk_at dksJ10_compress_1 13 rfl rfl)
theorem dJ10_compress_39 : decode cJ10_compress 39 = .ok (.invokestatic 71, 3) := dk_184 0 71 (dk_at dksJ10_compress_1 15 rfl rfl)
theorem dJ10_compress_42 : decode cJ10_compress 42 = .ok (.sipush 255, 3) := dk_17 0 255 (dk_at dksJ10_compress_1 18 rfl rfl)
theorem dJ10_compress_45 : decode cJ10_compress 45 = .ok (.if_icmp .gt 16, 3) := dk_163 0 16 (dk_at dksJ10_compress_1 21 rfl rfl)
theorem dJ10_compress_48 : decode cJ10_compress 48 = .ok (.aload 5, 2) := dk_25 5 (dk_at dksJ10_compress_2 0 rfl rfl)
theorem dJ10_compress_50 : decode cJ10_compress 50 = .ok (.iconst 0, 1) := dk_3 (dk_at dksJ10_compress_2 2 rfl rfl)
theorem dJ10_compress_51 : decode cJ10_compress 51 = .ok (.aload_n 3, 1) := dk_45 (dk_at dksJ10_compress_2 3 rfl rfl)
theorem dJ10_compress_52 : decode cJ10_compress 52 = .ok (.iconst 0, 1) := dk_3 (dk_at dksJ10_compress_2 4 rfl rfl)
theorem dJ10_compress_53 : decode cJ10_compress 53 = .ok (.iload_n 2, 1) := dk_28 (dk_at dksJ10_compress_2 5 rfl rfl)
theorem dJ10_compress_54 : decode cJ10_compress 54 = .ok (.invokestatic 123, 3) := dk_184 0 123 (dk_at dksJ10_compress_2 6 rfl rfl)
theorem dJ10_compress_57 : decode cJ10_compress 57 = .ok (.iload_n 2, 1) := dk_28 (dk_at dksJ10_compress_2 9 rfl rfl)
theorem dJ10_compress_58 : decode cJ10_compress 58 = .ok (.if_icmp .eq 6, 3) := dk_159 0 6 (dk_at dksJ10_compress_2 10 rfl rfl)
theorem dJ10_compress_61 : decode cJ10_compress 61 = .ok (.aload 5, 2) := dk_25 5 (dk_at dksJ10_compress_2 13 rfl rfl)
theorem dJ10_compress_63 : decode cJ10_compress 63 = .ok (.areturn, 1) := dk_176 (dk_at dksJ10_compress_2 15 rfl rfl)
theorem dJ10_compress_64 : decode cJ10_compress 64 = .ok (.aload_n 3, 1) := dk_45 (dk_at dksJ10_compress_2 16 rfl rfl)
theorem dJ10_compress_65 : decode cJ10_compress 65 = .ok (.areturn, 1) := dk_176 (dk_at dksJ10_compress_2 17 rfl rfl)
abbrev cJ10_compress_2 : ByteArray := prog_35_method_22_code
def yJ10_compress_2 : MethodName := ⟨RJ10, "compress", "([BI[BII)I"⟩
def dkwJ10_compress_2_2 : List UInt8 := [132, 5, 1, 167, 255, 216, 21, 4, 172]
abbrev dktJ10_compress_2_2 : List UInt8 := dkwJ10_compress_2_2 ++ []
def dkwJ10_compress_2_1 : List UInt8 := [21, 6, 17, 0, 255, 164, 0, 6, 21, 5, 172, 44, 29, 21, 6, 145, 84, 132, 1, 1, 132, 3, 1]
abbrev dktJ10_compress_2_1 : List UInt8 := dkwJ10_compress_2_1 ++ dktJ10_compress_2_2
def dkwJ10_compress_2_0 : List UInt8 := [27, 21, 4, 42, 184, 0, 173, 3, 54, 5, 21, 5, 21, 4, 162, 0, 39, 42, 27, 184, 0, 71, 54, 6]
abbrev dktJ10_compress_2_0 : List UInt8 := dkwJ10_compress_2_0 ++ dktJ10_compress_2_1
theorem dksJ10_compress_2_0 : cJ10_compress_2.data.toList.drop 0 = dktJ10_compress_2_0 := by decide +kernel
theorem dksJ10_compress_2_1 : cJ10_compress_2.data.toList.drop 24 = dktJ10_compress_2_1 := dk_seg dksJ10_compress_2_0 24 rfl rfl
theorem dksJ10_compress_2_2 : cJ10_compress_2.data.toList.drop 47 = dktJ10_compress_2_2 := dk_seg dksJ10_compress_2_1 23 rfl rfl
theorem dJ10_compress_2_0 : decode cJ10_compress_2 0 = .ok (.iload_n 1, 1) := dk_27 (dk_at dksJ10_compress_2_0 0 rfl rfl)
theorem dJ10_compress_2_1 : decode cJ10_compress_2 1 = .ok (.iload 4, 2) := dk_21 4 (dk_at dksJ10_compress_2_0 1 rfl rfl)
theorem dJ10_compress_2_3 : decode cJ10_compress_2 3 = .ok (.aload_n 0, 1) := dk_42 (dk_at dksJ10_compress_2_0 3 rfl rfl)
theorem dJ10_compress_2_4 : decode cJ10_compress_2 4 = .ok (.invokestatic 173, 3) := dk_184 0 173 (dk_at dksJ10_compress_2_0 4 rfl rfl)
theorem dJ10_compress_2_7 : decode cJ10_compress_2 7 = .ok (.iconst 0, 1) := dk_3 (dk_at dksJ10_compress_2_0 7 rfl rfl)
theorem dJ10_compress_2_8 : decode cJ10_compress_2 8 = .ok (.istore 5, 2) := dk_54 5 (dk_at dksJ10_compress_2_0 8 rfl rfl)
theorem dJ10_compress_2_10 : decode cJ10_compress_2 10 = .ok (.iload 5, 2) := dk_21 5 (dk_at dksJ10_compress_2_0 10 rfl rfl)
theorem dJ10_compress_2_12 : decode cJ10_compress_2 12 = .ok (.iload 4, 2) := dk_21 4 (dk_at dksJ10_compress_2_0 12 rfl rfl)
theorem dJ10_compress_2_14 : decode cJ10_compress_2 14 = .ok (.if_icmp .ge 39, 3) := dk_162 0 39 (dk_at dksJ10_compress_2_0 14 rfl rfl)
theorem dJ10_compress_2_17 : decode cJ10_compress_2 17 = .ok (.aload_n 0, 1) := dk_42 (dk_at dksJ10_compress_2_0 17 rfl rfl)
theorem dJ10_compress_2_18 : decode cJ10_compress_2 18 = .ok (.iload_n 1, 1) := dk_27 (dk_at dksJ10_compress_2_0 18 rfl rfl)
theorem dJ10_compress_2_19 : decode cJ10_compress_2 19 = .ok (.invokestatic 71, 3) := dk_184 0 71 (dk_at dksJ10_compress_2_0 19 rfl rfl)
theorem dJ10_compress_2_22 : decode cJ10_compress_2 22 = .ok (.istore 6, 2) := dk_54 6 (dk_at dksJ10_compress_2_0 22 rfl rfl)
theorem dJ10_compress_2_24 : decode cJ10_compress_2 24 = .ok (.iload 6, 2) := dk_21 6 (dk_at dksJ10_compress_2_1 0 rfl rfl)
theorem dJ10_compress_2_26 : decode cJ10_compress_2 26 = .ok (.sipush 255, 3) := dk_17 0 255 (dk_at dksJ10_compress_2_1 2 rfl rfl)
theorem dJ10_compress_2_29 : decode cJ10_compress_2 29 = .ok (.if_icmp .le 6, 3) := dk_164 0 6 (dk_at dksJ10_compress_2_1 5 rfl rfl)
theorem dJ10_compress_2_32 : decode cJ10_compress_2 32 = .ok (.iload 5, 2) := dk_21 5 (dk_at dksJ10_compress_2_1 8 rfl rfl)
theorem dJ10_compress_2_34 : decode cJ10_compress_2 34 = .ok (.ireturn, 1) := dk_172 (dk_at dksJ10_compress_2_1 10 rfl rfl)
theorem dJ10_compress_2_35 : decode cJ10_compress_2 35 = .ok (.aload_n 2, 1) := dk_44 (dk_at dksJ10_compress_2_1 11 rfl rfl)
theorem dJ10_compress_2_36 : decode cJ10_compress_2 36 = .ok (.iload_n 3, 1) := dk_29 (dk_at dksJ10_compress_2_1 12 rfl rfl)
theorem dJ10_compress_2_37 : decode cJ10_compress_2 37 = .ok (.iload 6, 2) := dk_21 6 (dk_at dksJ10_compress_2_1 13 rfl rfl)
theorem dJ10_compress_2_39 : decode cJ10_compress_2 39 = .ok (.i2b, 1) := dk_145 (dk_at dksJ10_compress_2_1 15 rfl rfl)
theorem dJ10_compress_2_40 : decode cJ10_compress_2 40 = .ok (.bastore, 1) := dk_84 (dk_at dksJ10_compress_2_1 16 rfl rfl)
theorem dJ10_compress_2_41 : decode cJ10_compress_2 41 = .ok (.iinc 1 1, 3) := dk_132 1 1 (dk_at dksJ10_compress_2_1 17 rfl rfl)
theorem dJ10_compress_2_44 : decode cJ10_compress_2 44 = .ok (.iinc 3 1, 3) := dk_132 3 1 (dk_at dksJ10_compress_2_1 20 rfl rfl)
theorem dJ10_compress_2_47 : decode cJ10_compress_2 47 = .ok (.iinc 5 1, 3) := dk_132 5 1 (dk_at dksJ10_compress_2_2 0 rfl rfl)
theorem dJ10_compress_2_50 : decode cJ10_compress_2 50 = .ok (.goto (-40), 3) := dk_167 255 216 (dk_at dksJ10_compress_2_2 3 rfl rfl)
theorem dJ10_compress_2_53 : decode cJ10_compress_2 53 = .ok (.iload 4, 2) := dk_21 4 (dk_at dksJ10_compress_2_2 6 rfl rfl)
theorem dJ10_compress_2_55 : decode cJ10_compress_2 55 = .ok (.ireturn, 1) := dk_172 (dk_at dksJ10_compress_2_2 8 rfl rfl)
abbrev cJ10_getChar : ByteArray := prog_35_method_5_code
def yJ10_getChar : MethodName := ⟨RJ10, "getChar", "([BI)C"⟩
def dkwJ10_getChar_2 : List UInt8 := [51, 17, 0, 255, 126, 178, 0, 63, 120, 128, 146, 172]
abbrev dktJ10_getChar_2 : List UInt8 := dkwJ10_getChar_2 ++ []
def dkwJ10_getChar_1 : List UInt8 := [183, 0, 56, 191, 27, 4, 120, 60, 42, 27, 132, 1, 1, 51, 17, 0, 255, 126, 178, 0, 59, 120, 42, 27]
abbrev dktJ10_getChar_1 : List UInt8 := dkwJ10_getChar_1 ++ dktJ10_getChar_2
def dkwJ10_getChar_0 : List UInt8 := [178, 0, 44, 154, 0, 25, 27, 155, 0, 11, 27, 42, 184, 0, 48, 161, 0, 13, 187, 0, 52, 89, 18, 54]
abbrev dktJ10_getChar_0 : List UInt8 := dkwJ10_getChar_0 ++ dktJ10_getChar_1
theorem dksJ10_getChar_0 : cJ10_getChar.data.toList.drop 0 = dktJ10_getChar_0 := by decide +kernel
theorem dksJ10_getChar_1 : cJ10_getChar.data.toList.drop 24 = dktJ10_getChar_1 := dk_seg dksJ10_getChar_0 24 rfl rfl
theorem dksJ10_getChar_2 : cJ10_getChar.data.toList.drop 48 = dktJ10_getChar_2 := dk_seg dksJ10_getChar_1 24 rfl rfl
theorem dJ10_getChar_0 : decode cJ10_getChar 0 = .ok (.getstatic 44, 3) := dk_178 0 44 (dk_at dksJ10_getChar_0 0 rfl rfl)
theorem dJ10_getChar_3 : decode cJ10_getChar 3 = .ok (.ifCond .ne 25, 3) := dk_154 0 25 (dk_at dksJ10_getChar_0 3 rfl rfl)
theorem dJ10_getChar_6 : decode cJ10_getChar 6 = .ok (.iload_n 1, 1) := dk_27 (dk_at dksJ10_getChar_0 6 rfl rfl)
theorem dJ10_getChar_7 : decode cJ10_getChar 7 = .ok (.ifCond .lt 11, 3) := dk_155 0 11 (dk_at dksJ10_getChar_0 7 rfl rfl)
theorem dJ10_getChar_10 : decode cJ10_getChar 10 = .ok (.iload_n 1, 1) := dk_27 (dk_at dksJ10_getChar_0 10 rfl rfl)
theorem dJ10_getChar_11 : decode cJ10_getChar 11 = .ok (.aload_n 0, 1) := dk_42 (dk_at dksJ10_getChar_0 11 rfl rfl)
theorem dJ10_getChar_12 : decode cJ10_getChar 12 = .ok (.invokestatic 48, 3) := dk_184 0 48 (dk_at dksJ10_getChar_0 12 rfl rfl)
theorem dJ10_getChar_15 : decode cJ10_getChar 15 = .ok (.if_icmp .lt 13, 3) := dk_161 0 13 (dk_at dksJ10_getChar_0 15 rfl rfl)
theorem dJ10_getChar_18 : decode cJ10_getChar 18 = .ok (.new 52, 3) := dk_187 0 52 (dk_at dksJ10_getChar_0 18 rfl rfl)
theorem dJ10_getChar_21 : decode cJ10_getChar 21 = .ok (.dup, 1) := dk_89 (dk_at dksJ10_getChar_0 21 rfl rfl)
theorem dJ10_getChar_22 : decode cJ10_getChar 22 = .ok (.ldc 54, 2) := dk_18 54 (dk_at dksJ10_getChar_0 22 rfl rfl)
theorem dJ10_getChar_24 : decode cJ10_getChar 24 = .ok (.invokespecial 56, 3) := dk_183 0 56 (dk_at dksJ10_getChar_1 0 rfl rfl)
theorem dJ10_getChar_27 : decode cJ10_getChar 27 = .ok (.athrow, 1) := dk_191 (dk_at dksJ10_getChar_1 3 rfl rfl)
theorem dJ10_getChar_28 : decode cJ10_getChar 28 = .ok (.iload_n 1, 1) := dk_27 (dk_at dksJ10_getChar_1 4 rfl rfl)
theorem dJ10_getChar_29 : decode cJ10_getChar 29 = .ok (.iconst 1, 1) := dk_4 (dk_at dksJ10_getChar_1 5 rfl rfl)
theorem dJ10_getChar_30 : decode cJ10_getChar 30 = .ok (.ishl, 1) := dk_120 (dk_at dksJ10_getChar_1 6 rfl rfl)
theorem dJ10_getChar_31 : decode cJ10_getChar 31 = .ok (.istore_n 1, 1) := dk_60 (dk_at dksJ10_getChar_1 7 rfl rfl)
theorem dJ10_getChar_32 : decode cJ10_getChar 32 = .ok (.aload_n 0, 1) := dk_42 (dk_at dksJ10_getChar_1 8 rfl rfl)
theorem dJ10_getChar_33 : decode cJ10_getChar 33 = .ok (.iload_n 1, 1) := dk_27 (dk_at dksJ10_getChar_1 9 rfl rfl)
theorem dJ10_getChar_34 : decode cJ10_getChar 34 = .ok (.iinc 1 1, 3) := dk_132 1 1 (dk_at dksJ10_getChar_1 10 rfl rfl)
theorem dJ10_getChar_37 : decode cJ10_getChar 37 = .ok (.baload, 1) := dk_51 (dk_at dksJ10_getChar_1 13 rfl rfl)
theorem dJ10_getChar_38 : decode cJ10_getChar 38 = .ok (.sipush 255, 3) := dk_17 0 255 (dk_at dksJ10_getChar_1 14 rfl rfl)
theorem dJ10_getChar_41 : decode cJ10_getChar 41 = .ok (.iand, 1) := dk_126 (dk_at dksJ10_getChar_1 17 rfl rfl)
theorem dJ10_getChar_42 : decode cJ10_getChar 42 = .ok (.getstatic 59, 3) := dk_178 0 59 (dk_at dksJ10_getChar_1 18 rfl rfl)
theorem dJ10_getChar_45 : decode cJ10_getChar 45 = .ok (.ishl, 1) := dk_120 (dk_at dksJ10_getChar_1 21 rfl rfl)
theorem dJ10_getChar_46 : decode cJ10_getChar 46 = .ok (.aload_n 0, 1) := dk_42 (dk_at dksJ10_getChar_1 22 rfl rfl)
theorem dJ10_getChar_47 : decode cJ10_getChar 47 = .ok (.iload_n 1, 1) := dk_27 (dk_at dksJ10_getChar_1 23 rfl rfl)
theorem dJ10_getChar_48 : decode cJ10_getChar 48 = .ok (.baload, 1) := dk_51 (dk_at dksJ10_getChar_2 0 rfl rfl)
theorem dJ10_getChar_49 : decode cJ10_getChar 49 = .ok (.sipush 255, 3) := dk_17 0 255 (dk_at dksJ10_getChar_2 1 rfl rfl)
theorem dJ10_getChar_52 : decode cJ10_getChar 52 = .ok (.iand, 1) := dk_126 (dk_at dksJ10_getChar_2 4 rfl rfl)
theorem dJ10_getChar_53 : decode cJ10_getChar 53 = .ok (.getstatic 63, 3) := dk_178 0 63 (dk_at dksJ10_getChar_2 5 rfl rfl)
theorem dJ10_getChar_56 : decode cJ10_getChar 56 = .ok (.ishl, 1) := dk_120 (dk_at dksJ10_getChar_2 8 rfl rfl)
theorem dJ10_getChar_57 : decode cJ10_getChar 57 = .ok (.ior, 1) := dk_128 (dk_at dksJ10_getChar_2 9 rfl rfl)
theorem dJ10_getChar_58 : decode cJ10_getChar 58 = .ok (.i2c, 1) := dk_146 (dk_at dksJ10_getChar_2 10 rfl rfl)
theorem dJ10_getChar_59 : decode cJ10_getChar 59 = .ok (.ireturn, 1) := dk_172 (dk_at dksJ10_getChar_2 11 rfl rfl)
abbrev cJ10_coderFromArrayLen : ByteArray := prog_35_method_15_code
def yJ10_coderFromArrayLen : MethodName := ⟨RJ10, "coderFromArrayLen", "([BI)B"⟩
def dkwJ10_coderFromArrayLen_0 : List UInt8 := [27, 42, 190, 100, 16, 31, 124, 145, 172]
abbrev dktJ10_coderFromArrayLen_0 : List UInt8 := dkwJ10_coderFromArrayLen_0 ++ []
theorem dksJ10_coderFromArrayLen_0 : cJ10_coderFromArrayLen.data.toList.drop 0 = dktJ10_coderFromArrayLen_0 := by decide +kernel
theorem dJ10_coderFromArrayLen_0 : decode cJ10_coderFromArrayLen 0 = .ok (.iload_n 1, 1) := dk_27 (dk_at dksJ10_coderFromArrayLen_0 0 rfl rfl)
theorem dJ10_coderFromArrayLen_1 : decode cJ10_coderFromArrayLen 1 = .ok (.aload_n 0, 1) := dk_42 (dk_at dksJ10_coderFromArrayLen_0 1 rfl rfl)
theorem dJ10_coderFromArrayLen_2 : decode cJ10_coderFromArrayLen 2 = .ok (.arraylength, 1) := dk_190 (dk_at dksJ10_coderFromArrayLen_0 2 rfl rfl)
theorem dJ10_coderFromArrayLen_3 : decode cJ10_coderFromArrayLen 3 = .ok (.isub, 1) := dk_100 (dk_at dksJ10_coderFromArrayLen_0 3 rfl rfl)
theorem dJ10_coderFromArrayLen_4 : decode cJ10_coderFromArrayLen 4 = .ok (.bipush 31, 2) := dk_16 31 (dk_at dksJ10_coderFromArrayLen_0 4 rfl rfl)
theorem dJ10_coderFromArrayLen_6 : decode cJ10_coderFromArrayLen 6 = .ok (.iushr, 1) := dk_124 (dk_at dksJ10_coderFromArrayLen_0 6 rfl rfl)
theorem dJ10_coderFromArrayLen_7 : decode cJ10_coderFromArrayLen 7 = .ok (.i2b, 1) := dk_145 (dk_at dksJ10_coderFromArrayLen_0 7 rfl rfl)
theorem dJ10_coderFromArrayLen_8 : decode cJ10_coderFromArrayLen 8 = .ok (.ireturn, 1) := dk_172 (dk_at dksJ10_coderFromArrayLen_0 8 rfl rfl)
abbrev cJ10_fillNull : ByteArray := prog_35_method_70_code
def yJ10_fillNull : MethodName := ⟨RJ10, "fillNull", "([BII)V"⟩
def dkwJ10_fillNull_0 : List UInt8 := [42, 27, 4, 120, 28, 4, 120, 3, 184, 1, 124, 177]
abbrev dktJ10_fillNull_0 : List UInt8 := dkwJ10_fillNull_0 ++ []
theorem dksJ10_fillNull_0 : cJ10_fillNull.data.toList.drop 0 = dktJ10_fillNull_0 := by decide +kernel
theorem dJ10_fillNull_0 : decode cJ10_fillNull 0 = .ok (.aload_n 0, 1) := dk_42 (dk_at dksJ10_fillNull_0 0 rfl rfl)
theorem dJ10_fillNull_1 : decode cJ10_fillNull 1 = .ok (.iload_n 1, 1) := dk_27 (dk_at dksJ10_fillNull_0 1 rfl rfl)
theorem dJ10_fillNull_2 : decode cJ10_fillNull 2 = .ok (.iconst 1, 1) := dk_4 (dk_at dksJ10_fillNull_0 2 rfl rfl)
theorem dJ10_fillNull_3 : decode cJ10_fillNull 3 = .ok (.ishl, 1) := dk_120 (dk_at dksJ10_fillNull_0 3 rfl rfl)
theorem dJ10_fillNull_4 : decode cJ10_fillNull 4 = .ok (.iload_n 2, 1) := dk_28 (dk_at dksJ10_fillNull_0 4 rfl rfl)
theorem dJ10_fillNull_5 : decode cJ10_fillNull 5 = .ok (.iconst 1, 1) := dk_4 (dk_at dksJ10_fillNull_0 5 rfl rfl)
theorem dJ10_fillNull_6 : decode cJ10_fillNull 6 = .ok (.ishl, 1) := dk_120 (dk_at dksJ10_fillNull_0 6 rfl rfl)
theorem dJ10_fillNull_7 : decode cJ10_fillNull 7 = .ok (.iconst 0, 1) := dk_3 (dk_at dksJ10_fillNull_0 7 rfl rfl)
theorem dJ10_fillNull_8 : decode cJ10_fillNull 8 = .ok (.invokestatic 380, 3) := dk_184 1 124 (dk_at dksJ10_fillNull_0 8 rfl rfl)
theorem dJ10_fillNull_11 : decode cJ10_fillNull 11 = .ok (.return_, 1) := dk_177 (dk_at dksJ10_fillNull_0 11 rfl rfl)
abbrev cJ10_putCharSB : ByteArray := prog_35_method_71_code
def yJ10_putCharSB : MethodName := ⟨RJ10, "putCharSB", "([BII)V"⟩
def dkwJ10_putCharSB_0 : List UInt8 := [27, 42, 184, 0, 67, 42, 27, 28, 184, 0, 111, 177]
abbrev dktJ10_putCharSB_0 : List UInt8 := dkwJ10_putCharSB_0 ++ []
theorem dksJ10_putCharSB_0 : cJ10_putCharSB.data.toList.drop 0 = dktJ10_putCharSB_0 := by decide +kernel
theorem dJ10_putCharSB_0 : decode cJ10_putCharSB 0 = .ok (.iload_n 1, 1) := dk_27 (dk_at dksJ10_putCharSB_0 0 rfl rfl)
theorem dJ10_putCharSB_1 : decode cJ10_putCharSB 1 = .ok (.aload_n 0, 1) := dk_42 (dk_at dksJ10_putCharSB_0 1 rfl rfl)
theorem dJ10_putCharSB_2 : decode cJ10_putCharSB 2 = .ok (.invokestatic 67, 3) := dk_184 0 67 (dk_at dksJ10_putCharSB_0 2 rfl rfl)
theorem dJ10_putCharSB_5 : decode cJ10_putCharSB 5 = .ok (.aload_n 0, 1) := dk_42 (dk_at dksJ10_putCharSB_0 5 rfl rfl)
theorem dJ10_putCharSB_6 : decode cJ10_putCharSB 6 = .ok (.iload_n 1, 1) := dk_27 (dk_at dksJ10_putCharSB_0 6 rfl rfl)
theorem dJ10_putCharSB_7 : decode cJ10_putCharSB 7 = .ok (.iload_n 2, 1) := dk_28 (dk_at dksJ10_putCharSB_0 7 rfl rfl)
theorem dJ10_putCharSB_8 : decode cJ10_putCharSB 8 = .ok (.invokestatic 111, 3) := dk_184 0 111 (dk_at dksJ10_putCharSB_0 8 rfl rfl)
theorem dJ10_putCharSB_11 : decode cJ10_putCharSB 11 = .ok (.return_, 1) := dk_177 (dk_at dksJ10_putCharSB_0 11 rfl rfl)
abbrev cJ10_checkIndex : ByteArray := prog_35_method_91_code
def yJ10_checkIndex : MethodName := ⟨RJ10, "checkIndex", "(I[B)V"⟩
def dkwJ10_checkIndex_0 : List UInt8 := [26, 43, 184, 0, 48, 184, 1, 158, 177]
abbrev dktJ10_checkIndex_0 : List UInt8 := dkwJ10_checkIndex_0 ++ []
theorem dksJ10_checkIndex_0 : cJ10_checkIndex.data.toList.drop 0 = dktJ10_checkIndex_0 := by decide +kernel
theorem dJ10_checkIndex_0 : decode cJ10_checkIndex 0 = .ok (.iload_n 0, 1) := dk_26 (dk_at dksJ10_checkIndex_0 0 rfl rfl)
theorem dJ10_checkIndex_1 : decode cJ10_checkIndex 1 = .ok (.aload_n 1, 1) := dk_43 (dk_at dksJ10_checkIndex_0 1 rfl rfl)
theorem dJ10_checkIndex_2 : decode cJ10_checkIndex 2 = .ok (.invokestatic 48, 3) := dk_184 0 48 (dk_at dksJ10_checkIndex_0 2 rfl rfl)
theorem dJ10_checkIndex_5 : decode cJ10_checkIndex 5 = .ok (.invokestatic 414, 3) := dk_184 1 158 (dk_at dksJ10_checkIndex_0 5 rfl rfl)
theorem dJ10_checkIndex_8 : decode cJ10_checkIndex 8 = .ok (.return_, 1) := dk_177 (dk_at dksJ10_checkIndex_0 8 rfl rfl)
abbrev cJ10_charAt : ByteArray := prog_35_method_83_code
def yJ10_charAt : MethodName := ⟨RJ10, "charAt", "([BI)C"⟩
def dkwJ10_charAt_0 : List UInt8 := [27, 42, 184, 0, 67, 42, 27, 184, 0, 71, 172]
abbrev dktJ10_charAt_0 : List UInt8 := dkwJ10_charAt_0 ++ []
theorem dksJ10_charAt_0 : cJ10_charAt.data.toList.drop 0 = dktJ10_charAt_0 := by decide +kernel
theorem dJ10_charAt_0 : decode cJ10_charAt 0 = .ok (.iload_n 1, 1) := dk_27 (dk_at dksJ10_charAt_0 0 rfl rfl)
theorem dJ10_charAt_1 : decode cJ10_charAt 1 = .ok (.aload_n 0, 1) := dk_42 (dk_at dksJ10_charAt_0 1 rfl rfl)
theorem dJ10_charAt_2 : decode cJ10_charAt 2 = .ok (.invokestatic 67, 3) := dk_184 0 67 (dk_at dksJ10_charAt_0 2 rfl rfl)
theorem dJ10_charAt_5 : decode cJ10_charAt 5 = .ok (.aload_n 0, 1) := dk_42 (dk_at dksJ10_charAt_0 5 rfl rfl)
theorem dJ10_charAt_6 : decode cJ10_charAt 6 = .ok (.iload_n 1, 1) := dk_27 (dk_at dksJ10_charAt_0 6 rfl rfl)
theorem dJ10_charAt_7 : decode cJ10_charAt 7 = .ok (.invokestatic 71, 3) := dk_184 0 71 (dk_at dksJ10_charAt_0 7 rfl rfl)
theorem dJ10_charAt_10 : decode cJ10_charAt 10 = .ok (.ireturn, 1) := dk_172 (dk_at dksJ10_charAt_0 10 rfl rfl)
theorem q127 : (Jvm.Cond.initialized "java/lang/StringUTF16") ∈ lw_all := lw_g (lw_at lw_m1 15 rfl) rfl
theorem q316 : (Jvm.Cond.static ({ cls := "java/lang/StringUTF16", name := "newBytesFor", desc := "(I)[B" } : Jvm.MethodName)) ∈ lw_all := lw_g (lw_at lw_m1 204 rfl) rfl
theorem q317 : (Jvm.Cond.code ({ cls := "java/lang/StringUTF16", name := "newBytesFor", desc := "(I)[B" } : Jvm.MethodName) prog_35_method_2_code (1 : Nat) (Option.some (Jvm.ClassFile.FieldType.array Jvm.ClassFile.FieldType.byte))) ∈ lw_all := lw_g (lw_at lw_m1 205 rfl) rfl
theorem q318 : (Jvm.Cond.methodLink "java/lang/StringUTF16" (11 : Nat) ({ cls := "java/lang/StringUTF16", name := "newBytesLength", desc := "(I)I" } : Jvm.MethodName)) ∈ lw_all := lw_g (lw_at lw_m1 206 rfl) rfl
theorem q319 : (Jvm.Cond.static ({ cls := "java/lang/StringUTF16", name := "newBytesLength", desc := "(I)I" } : Jvm.MethodName)) ∈ lw_all := lw_g (lw_at lw_m1 207 rfl) rfl
theorem q320 : (Jvm.Cond.code ({ cls := "java/lang/StringUTF16", name := "newBytesLength", desc := "(I)I" } : Jvm.MethodName) prog_35_method_3_code (1 : Nat) (Option.some Jvm.ClassFile.FieldType.int)) ∈ lw_all := lw_g (lw_at lw_m1 208 rfl) rfl
theorem q321 : (Jvm.Cond.constant "java/lang/StringUTF16" (20 : Nat) (1073741823 : Int32)) ∈ lw_all := lw_g (lw_at lw_m1 209 rfl) rfl
theorem q388 : (Jvm.Cond.static ({ cls := "java/lang/StringUTF16", name := "putCharsAt", desc := "([BICCCC)I" } : Jvm.MethodName)) ∈ lw_all := lw_g (lw_at lw_m2 36 rfl) rfl
theorem q389 : (Jvm.Cond.code ({ cls := "java/lang/StringUTF16", name := "putCharsAt", desc := "([BICCCC)I" } : Jvm.MethodName) prog_35_method_81_code (7 : Nat) (Option.some Jvm.ClassFile.FieldType.int)) ∈ lw_all := lw_g (lw_at lw_m2 37 rfl) rfl
theorem q390 : (Jvm.Cond.methodLink "java/lang/StringUTF16" (96 : Nat) ({ cls := "java/lang/StringUTF16", name := "checkBoundsBeginEnd", desc := "(II[B)V" } : Jvm.MethodName)) ∈ lw_all := lw_g (lw_at lw_m2 38 rfl) rfl
theorem q391 : (Jvm.Cond.static ({ cls := "java/lang/StringUTF16", name := "checkBoundsBeginEnd", desc := "(II[B)V" } : Jvm.MethodName)) ∈ lw_all := lw_g (lw_at lw_m2 39 rfl) rfl
theorem q392 : (Jvm.Cond.code ({ cls := "java/lang/StringUTF16", name := "checkBoundsBeginEnd", desc := "(II[B)V" } : Jvm.MethodName) prog_35_method_93_code (3 : Nat) (Option.none : Option Jvm.ClassFile.FieldType)) ∈ lw_all := lw_g (lw_at lw_m2 40 rfl) rfl
theorem q393 : (Jvm.Cond.methodLink "java/lang/StringUTF16" (48 : Nat) ({ cls := "java/lang/StringUTF16", name := "length", desc := "([B)I" } : Jvm.MethodName)) ∈ lw_all := lw_g (lw_at lw_m2 41 rfl) rfl
theorem q394 : (Jvm.Cond.static ({ cls := "java/lang/StringUTF16", name := "length", desc := "([B)I" } : Jvm.MethodName)) ∈ lw_all := lw_g (lw_at lw_m2 42 rfl) rfl
theorem q395 : (Jvm.Cond.code ({ cls := "java/lang/StringUTF16", name := "length", desc := "([B)I" } : Jvm.MethodName) prog_35_method_6_code (1 : Nat) (Option.some Jvm.ClassFile.FieldType.int)) ∈ lw_all := lw_g (lw_at lw_m2 43 rfl) rfl
theorem q396 : (Jvm.Cond.methodLink "java/lang/StringUTF16" (241 : Nat) ({ cls := "java/lang/String", name := "checkBoundsBeginEnd", desc := "(III)V" } : Jvm.MethodName)) ∈ lw_all := lw_g (lw_at lw_m2 44 rfl) rfl
theorem q404 : (Jvm.Cond.methodLink "java/lang/StringUTF16" (111 : Nat) ({ cls := "java/lang/StringUTF16", name := "putChar", desc := "([BII)V" } : Jvm.MethodName)) ∈ lw_all := lw_g (lw_at lw_m2 52 rfl) rfl
theorem q405 : (Jvm.Cond.static ({ cls := "java/lang/StringUTF16", name := "putChar", desc := "([BII)V" } : Jvm.MethodName)) ∈ lw_all := lw_g (lw_at lw_m2 53 rfl) rfl
theorem q406 : (Jvm.Cond.code ({ cls := "java/lang/StringUTF16", name := "putChar", desc := "([BII)V" } : Jvm.MethodName) prog_35_method_4_code (3 : Nat) (Option.none : Option Jvm.ClassFile.FieldType)) ∈ lw_all := lw_g (lw_at lw_m2 54 rfl) rfl
theorem q407 : (Jvm.Cond.fieldLink "java/lang/StringUTF16" (44 : Nat) "java/lang/StringUTF16" "$assertionsDisabled" "Z") ∈ lw_all := lw_g (lw_at lw_m2 55 rfl) rfl
theorem q408 : (Jvm.Cond.laysStatic "java/lang/StringUTF16" "$assertionsDisabled" "Z") ∈ lw_tbl := lw_at lw_m2 56 rfl
theorem q409 : (Jvm.Cond.fieldLink "java/lang/StringUTF16" (59 : Nat) "java/lang/StringUTF16" "HI_BYTE_SHIFT" "I") ∈ lw_all := lw_g (lw_at lw_m2 57 rfl) rfl
theorem q410 : (Jvm.Cond.laysStatic "java/lang/StringUTF16" "HI_BYTE_SHIFT" "I") ∈ lw_tbl := lw_at lw_m2 58 rfl
theorem q411 : (Jvm.Cond.fieldLink "java/lang/StringUTF16" (63 : Nat) "java/lang/StringUTF16" "LO_BYTE_SHIFT" "I") ∈ lw_all := lw_g (lw_at lw_m2 59 rfl) rfl
theorem q412 : (Jvm.Cond.laysStatic "java/lang/StringUTF16" "LO_BYTE_SHIFT" "I") ∈ lw_tbl := lw_at lw_m2 60 rfl
theorem q439 : (Jvm.Cond.static ({ cls := "java/lang/StringUTF16", name := "inflate", desc := "([BI[BII)V" } : Jvm.MethodName)) ∈ lw_all := lw_g (lw_at lw_m2 87 rfl) rfl
theorem q440 : (Jvm.Cond.code ({ cls := "java/lang/StringUTF16", name := "inflate", desc := "([BI[BII)V" } : Jvm.MethodName) prog_35_method_86_code (6 : Nat) (Option.none : Option Jvm.ClassFile.FieldType)) ∈ lw_all := lw_g (lw_at lw_m2 88 rfl) rfl
theorem q441 : (Jvm.Cond.methodLink "java/lang/StringUTF16" (173 : Nat) ({ cls := "java/lang/StringUTF16", name := "checkBoundsOffCount", desc := "(II[B)V" } : Jvm.MethodName)) ∈ lw_all := lw_g (lw_at lw_m2 89 rfl) rfl
theorem q442 : (Jvm.Cond.static ({ cls := "java/lang/StringUTF16", name := "checkBoundsOffCount", desc := "(II[B)V" } : Jvm.MethodName)) ∈ lw_all := lw_g (lw_at lw_m2 90 rfl) rfl
theorem q443 : (Jvm.Cond.code ({ cls := "java/lang/StringUTF16", name := "checkBoundsOffCount", desc := "(II[B)V" } : Jvm.MethodName) prog_35_method_94_code (3 : Nat) (Option.none : Option Jvm.ClassFile.FieldType)) ∈ lw_all := lw_g (lw_at lw_m2 91 rfl) rfl
theorem q444 : (Jvm.Cond.methodLink "java/lang/StringUTF16" (419 : Nat) ({ cls := "java/lang/String", name := "checkBoundsOffCount", desc := "(III)I" } : Jvm.MethodName)) ∈ lw_all := lw_g (lw_at lw_m2 92 rfl) rfl
theorem q474 : (Jvm.Cond.static ({ cls := "java/lang/StringUTF16", name := "getChars", desc := "(III[B)I" } : Jvm.MethodName)) ∈ lw_all := lw_g (lw_at lw_m2 122 rfl) rfl
theorem q475 : (Jvm.Cond.code ({ cls := "java/lang/StringUTF16", name := "getChars", desc := "(III[B)I" } : Jvm.MethodName) prog_35_method_77_code (5 : Nat) (Option.some Jvm.ClassFile.FieldType.int)) ∈ lw_all := lw_g (lw_at lw_m2 123 rfl) rfl
theorem q476 : (Jvm.Cond.methodLink "java/lang/StringUTF16" (393 : Nat) ({ cls := "java/lang/StringUTF16", name := "getChars", desc := "(II[B)I" } : Jvm.MethodName)) ∈ lw_all := lw_g (lw_at lw_m2 124 rfl) rfl
theorem q477 : (Jvm.Cond.static ({ cls := "java/lang/StringUTF16", name := "getChars", desc := "(II[B)I" } : Jvm.MethodName)) ∈ lw_all := lw_g (lw_at lw_m2 125 rfl) rfl
theorem q478 : (Jvm.Cond.code ({ cls := "java/lang/StringUTF16", name := "getChars", desc := "(II[B)I" } : Jvm.MethodName) prog_35_method_89_code (7 : Nat) (Option.some Jvm.ClassFile.FieldType.int)) ∈ lw_all := lw_g (lw_at lw_m2 126 rfl) rfl
theorem q479 : (Jvm.Cond.fieldLink "java/lang/StringUTF16" (403 : Nat) "java/lang/Integer" "DigitOnes" "[B") ∈ lw_all := lw_g (lw_at lw_m2 127 rfl) rfl
theorem q480 : (Jvm.Cond.fieldLink "java/lang/StringUTF16" (407 : Nat) "java/lang/Integer" "DigitTens" "[B") ∈ lw_all := lw_g (lw_at lw_m2 128 rfl) rfl
theorem q550 : (Jvm.Cond.static ({ cls := "java/lang/StringUTF16", name := "compress", desc := "([BII)[B" } : Jvm.MethodName)) ∈ lw_all := lw_g (lw_at lw_m2 198 rfl) rfl
theorem q551 : (Jvm.Cond.code ({ cls := "java/lang/StringUTF16", name := "compress", desc := "([BII)[B" } : Jvm.MethodName) prog_35_method_17_code (6 : Nat) (Option.some (Jvm.ClassFile.FieldType.array Jvm.ClassFile.FieldType.byte))) ∈ lw_all := lw_g (lw_at lw_m2 199 rfl) rfl
theorem q552 : (Jvm.Cond.methodLink "java/lang/StringUTF16" (123 : Nat) ({ cls := "java/lang/StringUTF16", name := "compress", desc := "([BI[BII)I" } : Jvm.MethodName)) ∈ lw_all := lw_g (lw_at lw_m2 200 rfl) rfl
theorem q553 : (Jvm.Cond.static ({ cls := "java/lang/StringUTF16", name := "compress", desc := "([BI[BII)I" } : Jvm.MethodName)) ∈ lw_all := lw_g (lw_at lw_m2 201 rfl) rfl
theorem q554 : (Jvm.Cond.code ({ cls := "java/lang/StringUTF16", name := "compress", desc := "([BI[BII)I" } : Jvm.MethodName) prog_35_method_22_code (7 : Nat) (Option.some Jvm.ClassFile.FieldType.int)) ∈ lw_all := lw_g (lw_at lw_m2 202 rfl) rfl
theorem q555 : (Jvm.Cond.methodLink "java/lang/StringUTF16" (71 : Nat) ({ cls := "java/lang/StringUTF16", name := "getChar", desc := "([BI)C" } : Jvm.MethodName)) ∈ lw_all := lw_g (lw_at lw_m2 203 rfl) rfl
theorem q556 : (Jvm.Cond.static ({ cls := "java/lang/StringUTF16", name := "getChar", desc := "([BI)C" } : Jvm.MethodName)) ∈ lw_all := lw_g (lw_at lw_m2 204 rfl) rfl
theorem q557 : (Jvm.Cond.code ({ cls := "java/lang/StringUTF16", name := "getChar", desc := "([BI)C" } : Jvm.MethodName) prog_35_method_5_code (2 : Nat) (Option.some Jvm.ClassFile.FieldType.char)) ∈ lw_all := lw_g (lw_at lw_m2 205 rfl) rfl
theorem q558 : (Jvm.Cond.methodLink "java/lang/StringUTF16" (126 : Nat) ({ cls := "java/util/Arrays", name := "copyOfRange", desc := "([BII)[B" } : Jvm.MethodName)) ∈ lw_all := lw_g (lw_at lw_m2 206 rfl) rfl
theorem q560 : (Jvm.Cond.static ({ cls := "java/lang/StringUTF16", name := "coderFromArrayLen", desc := "([BI)B" } : Jvm.MethodName)) ∈ lw_all := lw_g (lw_at lw_m2 208 rfl) rfl
theorem q561 : (Jvm.Cond.code ({ cls := "java/lang/StringUTF16", name := "coderFromArrayLen", desc := "([BI)B" } : Jvm.MethodName) prog_35_method_15_code (2 : Nat) (Option.some Jvm.ClassFile.FieldType.byte)) ∈ lw_all := lw_g (lw_at lw_m2 209 rfl) rfl
theorem q1252 : (Jvm.Cond.static ({ cls := "java/lang/StringUTF16", name := "fillNull", desc := "([BII)V" } : Jvm.MethodName)) ∈ lw_all := lw_g (lw_at lw_m5 180 rfl) rfl
theorem q1253 : (Jvm.Cond.code ({ cls := "java/lang/StringUTF16", name := "fillNull", desc := "([BII)V" } : Jvm.MethodName) prog_35_method_70_code (3 : Nat) (Option.none : Option Jvm.ClassFile.FieldType)) ∈ lw_all := lw_g (lw_at lw_m5 181 rfl) rfl
theorem q1254 : (Jvm.Cond.methodLink "java/lang/StringUTF16" (380 : Nat) ({ cls := "java/util/Arrays", name := "fill", desc := "([BIIB)V" } : Jvm.MethodName)) ∈ lw_all := lw_g (lw_at lw_m5 182 rfl) rfl
theorem q1281 : (Jvm.Cond.static ({ cls := "java/lang/StringUTF16", name := "putCharSB", desc := "([BII)V" } : Jvm.MethodName)) ∈ lw_all := lw_g (lw_at lw_m5 209 rfl) rfl
theorem q1282 : (Jvm.Cond.code ({ cls := "java/lang/StringUTF16", name := "putCharSB", desc := "([BII)V" } : Jvm.MethodName) prog_35_method_71_code (3 : Nat) (Option.none : Option Jvm.ClassFile.FieldType)) ∈ lw_all := lw_g (lw_at lw_m5 210 rfl) rfl
theorem q1283 : (Jvm.Cond.methodLink "java/lang/StringUTF16" (67 : Nat) ({ cls := "java/lang/StringUTF16", name := "checkIndex", desc := "(I[B)V" } : Jvm.MethodName)) ∈ lw_all := lw_g (lw_at lw_m5 211 rfl) rfl
theorem q1284 : (Jvm.Cond.static ({ cls := "java/lang/StringUTF16", name := "checkIndex", desc := "(I[B)V" } : Jvm.MethodName)) ∈ lw_all := lw_g (lw_at lw_m5 212 rfl) rfl
theorem q1285 : (Jvm.Cond.code ({ cls := "java/lang/StringUTF16", name := "checkIndex", desc := "(I[B)V" } : Jvm.MethodName) prog_35_method_91_code (2 : Nat) (Option.none : Option Jvm.ClassFile.FieldType)) ∈ lw_all := lw_g (lw_at lw_m5 213 rfl) rfl
theorem q1286 : (Jvm.Cond.methodLink "java/lang/StringUTF16" (414 : Nat) ({ cls := "java/lang/String", name := "checkIndex", desc := "(II)V" } : Jvm.MethodName)) ∈ lw_all := lw_g (lw_at lw_m5 214 rfl) rfl
theorem q1388 : (Jvm.Cond.static ({ cls := "java/lang/StringUTF16", name := "charAt", desc := "([BI)C" } : Jvm.MethodName)) ∈ lw_all := lw_g (lw_at lw_m6 76 rfl) rfl
theorem q1389 : (Jvm.Cond.code ({ cls := "java/lang/StringUTF16", name := "charAt", desc := "([BI)C" } : Jvm.MethodName) prog_35_method_83_code (2 : Nat) (Option.some Jvm.ClassFile.FieldType.char)) ∈ lw_all := lw_g (lw_at lw_m6 77 rfl) rfl
/-! jdk/internal/util/ArraysSupport -/
set_option maxRecDepth 100000
def RJ11 : String := "jdk/internal/util/ArraysSupport"
abbrev cJ11_newLength : ByteArray := prog_54_method_27_code
def yJ11_newLength : MethodName := ⟨RJ11, "newLength", "(III)I"⟩
def dkwJ11_newLength_1 : List UInt8 := [184, 0, 201, 172]
abbrev dktJ11_newLength_1 : List UInt8 := dkwJ11_newLength_1 ++ []
def dkwJ11_newLength_0 : List UInt8 := [26, 27, 28, 184, 0, 194, 96, 62, 3, 29, 162, 0, 11, 29, 18, 200, 163, 0, 5, 29, 172, 26, 27]
abbrev dktJ11_newLength_0 : List UInt8 := dkwJ11_newLength_0 ++ dktJ11_newLength_1
theorem dksJ11_newLength_0 : cJ11_newLength.data.toList.drop 0 = dktJ11_newLength_0 := by decide +kernel
theorem dksJ11_newLength_1 : cJ11_newLength.data.toList.drop 23 = dktJ11_newLength_1 := dk_seg dksJ11_newLength_0 23 rfl rfl
theorem dJ11_newLength_0 : decode cJ11_newLength 0 = .ok (.iload_n 0, 1) := dk_26 (dk_at dksJ11_newLength_0 0 rfl rfl)
theorem dJ11_newLength_1 : decode cJ11_newLength 1 = .ok (.iload_n 1, 1) := dk_27 (dk_at dksJ11_newLength_0 1 rfl rfl)
theorem dJ11_newLength_2 : decode cJ11_newLength 2 = .ok (.iload_n 2, 1) := dk_28 (dk_at dksJ11_newLength_0 2 rfl rfl)
theorem dJ11_newLength_3 : decode cJ11_newLength 3 = .ok (.invokestatic 194, 3) := dk_184 0 194 (dk_at dksJ11_newLength_0 3 rfl rfl)
theorem dJ11_newLength_6 : decode cJ11_newLength 6 = .ok (.iadd, 1) := dk_96 (dk_at dksJ11_newLength_0 6 rfl rfl)
theorem dJ11_newLength_7 : decode cJ11_newLength 7 = .ok (.istore_n 3, 1) := dk_62 (dk_at dksJ11_newLength_0 7 rfl rfl)
theorem dJ11_newLength_8 : decode cJ11_newLength 8 = .ok (.iconst 0, 1) := dk_3 (dk_at dksJ11_newLength_0 8 rfl rfl)
theorem dJ11_newLength_9 : decode cJ11_newLength 9 = .ok (.iload_n 3, 1) := dk_29 (dk_at dksJ11_newLength_0 9 rfl rfl)
theorem dJ11_newLength_10 : decode cJ11_newLength 10 = .ok (.if_icmp .ge 11, 3) := dk_162 0 11 (dk_at dksJ11_newLength_0 10 rfl rfl)
theorem dJ11_newLength_13 : decode cJ11_newLength 13 = .ok (.iload_n 3, 1) := dk_29 (dk_at dksJ11_newLength_0 13 rfl rfl)
theorem dJ11_newLength_14 : decode cJ11_newLength 14 = .ok (.ldc 200, 2) := dk_18 200 (dk_at dksJ11_newLength_0 14 rfl rfl)
theorem dJ11_newLength_16 : decode cJ11_newLength 16 = .ok (.if_icmp .gt 5, 3) := dk_163 0 5 (dk_at dksJ11_newLength_0 16 rfl rfl)
theorem dJ11_newLength_19 : decode cJ11_newLength 19 = .ok (.iload_n 3, 1) := dk_29 (dk_at dksJ11_newLength_0 19 rfl rfl)
theorem dJ11_newLength_20 : decode cJ11_newLength 20 = .ok (.ireturn, 1) := dk_172 (dk_at dksJ11_newLength_0 20 rfl rfl)
theorem dJ11_newLength_21 : decode cJ11_newLength 21 = .ok (.iload_n 0, 1) := dk_26 (dk_at dksJ11_newLength_0 21 rfl rfl)
theorem dJ11_newLength_22 : decode cJ11_newLength 22 = .ok (.iload_n 1, 1) := dk_27 (dk_at dksJ11_newLength_0 22 rfl rfl)
theorem dJ11_newLength_23 : decode cJ11_newLength 23 = .ok (.invokestatic 201, 3) := dk_184 0 201 (dk_at dksJ11_newLength_1 0 rfl rfl)
theorem dJ11_newLength_26 : decode cJ11_newLength 26 = .ok (.ireturn, 1) := dk_172 (dk_at dksJ11_newLength_1 3 rfl rfl)
abbrev cJ11_hugeLength : ByteArray := prog_54_method_28_code
def yJ11_hugeLength : MethodName := ⟨RJ11, "hugeLength", "(II)I"⟩
def dkwJ11_hugeLength_2 : List UInt8 := [191, 28, 18, 200, 163, 0, 6, 18, 200, 172, 28, 172]
abbrev dktJ11_hugeLength_2 : List UInt8 := dkwJ11_hugeLength_2 ++ []
def dkwJ11_hugeLength_1 : List UInt8 := [26, 182, 0, 98, 18, 208, 182, 0, 94, 27, 182, 0, 98, 18, 210, 182, 0, 94, 182, 0, 101, 183, 0, 212]
abbrev dktJ11_hugeLength_1 : List UInt8 := dkwJ11_hugeLength_1 ++ dktJ11_hugeLength_2
def dkwJ11_hugeLength_0 : List UInt8 := [26, 27, 96, 61, 28, 156, 0, 44, 187, 0, 204, 89, 187, 0, 89, 89, 183, 0, 91, 18, 206, 182, 0, 94]
abbrev dktJ11_hugeLength_0 : List UInt8 := dkwJ11_hugeLength_0 ++ dktJ11_hugeLength_1
theorem dksJ11_hugeLength_0 : cJ11_hugeLength.data.toList.drop 0 = dktJ11_hugeLength_0 := by decide +kernel
theorem dksJ11_hugeLength_1 : cJ11_hugeLength.data.toList.drop 24 = dktJ11_hugeLength_1 := dk_seg dksJ11_hugeLength_0 24 rfl rfl
theorem dksJ11_hugeLength_2 : cJ11_hugeLength.data.toList.drop 48 = dktJ11_hugeLength_2 := dk_seg dksJ11_hugeLength_1 24 rfl rfl
theorem dJ11_hugeLength_0 : decode cJ11_hugeLength 0 = .ok (.iload_n 0, 1) := dk_26 (dk_at dksJ11_hugeLength_0 0 rfl rfl)
theorem dJ11_hugeLength_1 : decode cJ11_hugeLength 1 = .ok (.iload_n 1, 1) := dk_27 (dk_at dksJ11_hugeLength_0 1 rfl rfl)
theorem dJ11_hugeLength_2 : decode cJ11_hugeLength 2 = .ok (.iadd, 1) := dk_96 (dk_at dksJ11_hugeLength_0 2 rfl rfl)
theorem dJ11_hugeLength_3 : decode cJ11_hugeLength 3 = .ok (.istore_n 2, 1) := dk_61 (dk_at dksJ11_hugeLength_0 3 rfl rfl)
theorem dJ11_hugeLength_4 : decode cJ11_hugeLength 4 = .ok (.iload_n 2, 1) := dk_28 (dk_at dksJ11_hugeLength_0 4 rfl rfl)
theorem dJ11_hugeLength_5 : decode cJ11_hugeLength 5 = .ok (.ifCond .ge 44, 3) := dk_156 0 44 (dk_at dksJ11_hugeLength_0 5 rfl rfl)
theorem dJ11_hugeLength_8 : decode cJ11_hugeLength 8 = .ok (.new 204, 3) := dk_187 0 204 (dk_at dksJ11_hugeLength_0 8 rfl rfl)
theorem dJ11_hugeLength_11 : decode cJ11_hugeLength 11 = .ok (.dup, 1) := dk_89 (dk_at dksJ11_hugeLength_0 11 rfl rfl)
theorem dJ11_hugeLength_12 : decode cJ11_hugeLength 12 = .ok (.new 89, 3) := dk_187 0 89 (dk_at dksJ11_hugeLength_0 12 rfl rfl)
theorem dJ11_hugeLength_15 : decode cJ11_hugeLength 15 = .ok (.dup, 1) := dk_89 (dk_at dksJ11_hugeLength_0 15 rfl rfl)
theorem dJ11_hugeLength_16 : decode cJ11_hugeLength 16 = .ok (.invokespecial 91, 3) := dk_183 0 91 (dk_at dksJ11_hugeLength_0 16 rfl rfl)
theorem dJ11_hugeLength_19 : decode cJ11_hugeLength 19 = .ok (.ldc 206, 2) := dk_18 206 (dk_at dksJ11_hugeLength_0 19 rfl rfl)
theorem dJ11_hugeLength_21 : decode cJ11_hugeLength 21 = .ok (.invokevirtual 94, 3) := dk_182 0 94 (dk_at dksJ11_hugeLength_0 21 rfl rfl)
theorem dJ11_hugeLength_24 : decode cJ11_hugeLength 24 = .ok (.iload_n 0, 1) := dk_26 (dk_at dksJ11_hugeLength_1 0 rfl rfl)
theorem dJ11_hugeLength_25 : decode cJ11_hugeLength 25 = .ok (.invokevirtual 98, 3) := dk_182 0 98 (dk_at dksJ11_hugeLength_1 1 rfl rfl)
theorem dJ11_hugeLength_28 : decode cJ11_hugeLength 28 = .ok (.ldc 208, 2) := dk_18 208 (dk_at dksJ11_hugeLength_1 4 rfl rfl)
theorem dJ11_hugeLength_30 : decode cJ11_hugeLength 30 = .ok (.invokevirtual 94, 3) := dk_182 0 94 (dk_at dksJ11_hugeLength_1 6 rfl rfl)
theorem dJ11_hugeLength_33 : decode cJ11_hugeLength 33 = .ok (.iload_n 1, 1) := dk_27 (dk_at dksJ11_hugeLength_1 9 rfl rfl)
theorem dJ11_hugeLength_34 : decode cJ11_hugeLength 34 = .ok (.invokevirtual 98, 3) := dk_182 0 98 (dk_at dksJ11_hugeLength_1 10 rfl rfl)
theorem dJ11_hugeLength_37 : decode cJ11_hugeLength 37 = .ok (.ldc 210, 2) := dk_18 210 (dk_at dksJ11_hugeLength_1 13 rfl rfl)
theorem dJ11_hugeLength_39 : decode cJ11_hugeLength 39 = .ok (.invokevirtual 94, 3) := dk_182 0 94 (dk_at dksJ11_hugeLength_1 15 rfl rfl)
theorem dJ11_hugeLength_42 : decode cJ11_hugeLength 42 = .ok (.invokevirtual 101, 3) := dk_182 0 101 (dk_at dksJ11_hugeLength_1 18 rfl rfl)
theorem dJ11_hugeLength_45 : decode cJ11_hugeLength 45 = .ok (.invokespecial 212, 3) := dk_183 0 212 (dk_at dksJ11_hugeLength_1 21 rfl rfl)
theorem dJ11_hugeLength_48 : decode cJ11_hugeLength 48 = .ok (.athrow, 1) := dk_191 (dk_at dksJ11_hugeLength_2 0 rfl rfl)
theorem dJ11_hugeLength_49 : decode cJ11_hugeLength 49 = .ok (.iload_n 2, 1) := dk_28 (dk_at dksJ11_hugeLength_2 1 rfl rfl)
theorem dJ11_hugeLength_50 : decode cJ11_hugeLength 50 = .ok (.ldc 200, 2) := dk_18 200 (dk_at dksJ11_hugeLength_2 2 rfl rfl)
theorem dJ11_hugeLength_52 : decode cJ11_hugeLength 52 = .ok (.if_icmp .gt 6, 3) := dk_163 0 6 (dk_at dksJ11_hugeLength_2 4 rfl rfl)
theorem dJ11_hugeLength_55 : decode cJ11_hugeLength 55 = .ok (.ldc 200, 2) := dk_18 200 (dk_at dksJ11_hugeLength_2 7 rfl rfl)
theorem dJ11_hugeLength_57 : decode cJ11_hugeLength 57 = .ok (.ireturn, 1) := dk_172 (dk_at dksJ11_hugeLength_2 9 rfl rfl)
theorem dJ11_hugeLength_58 : decode cJ11_hugeLength 58 = .ok (.iload_n 2, 1) := dk_28 (dk_at dksJ11_hugeLength_2 10 rfl rfl)
theorem dJ11_hugeLength_59 : decode cJ11_hugeLength 59 = .ok (.ireturn, 1) := dk_172 (dk_at dksJ11_hugeLength_2 11 rfl rfl)
theorem q128 : (Jvm.Cond.initialized "jdk/internal/util/ArraysSupport") ∈ lw_all := lw_g (lw_at lw_m1 16 rfl) rfl
theorem q358 : (Jvm.Cond.static ({ cls := "jdk/internal/util/ArraysSupport", name := "newLength", desc := "(III)I" } : Jvm.MethodName)) ∈ lw_all := lw_g (lw_at lw_m2 6 rfl) rfl
theorem q359 : (Jvm.Cond.code ({ cls := "jdk/internal/util/ArraysSupport", name := "newLength", desc := "(III)I" } : Jvm.MethodName) prog_54_method_27_code (4 : Nat) (Option.some Jvm.ClassFile.FieldType.int)) ∈ lw_all := lw_g (lw_at lw_m2 7 rfl) rfl
theorem q360 : (Jvm.Cond.methodLink "jdk/internal/util/ArraysSupport" (194 : Nat) ({ cls := "java/lang/Math", name := "max", desc := "(II)I" } : Jvm.MethodName)) ∈ lw_all := lw_g (lw_at lw_m2 8 rfl) rfl
theorem q363 : (Jvm.Cond.constant "jdk/internal/util/ArraysSupport" (200 : Nat) (2147483639 : Int32)) ∈ lw_all := lw_g (lw_at lw_m2 11 rfl) rfl
theorem q364 : (Jvm.Cond.methodLink "jdk/internal/util/ArraysSupport" (201 : Nat) ({ cls := "jdk/internal/util/ArraysSupport", name := "hugeLength", desc := "(II)I" } : Jvm.MethodName)) ∈ lw_all := lw_g (lw_at lw_m2 12 rfl) rfl
theorem q365 : (Jvm.Cond.static ({ cls := "jdk/internal/util/ArraysSupport", name := "hugeLength", desc := "(II)I" } : Jvm.MethodName)) ∈ lw_all := lw_g (lw_at lw_m2 13 rfl) rfl
theorem q366 : (Jvm.Cond.code ({ cls := "jdk/internal/util/ArraysSupport", name := "hugeLength", desc := "(II)I" } : Jvm.MethodName) prog_54_method_28_code (3 : Nat) (Option.some Jvm.ClassFile.FieldType.int)) ∈ lw_all := lw_g (lw_at lw_m2 14 rfl) rfl
/-! java/lang/Math -/
set_option maxRecDepth 100000
def RJ12 : String := "java/lang/Math"
abbrev cJ12_max : ByteArray := prog_28_method_65_code
def yJ12_max : MethodName := ⟨RJ12, "max", "(II)I"⟩
def dkwJ12_max_0 : List UInt8 := [26, 27, 161, 0, 7, 26, 167, 0, 4, 27, 172]
abbrev dktJ12_max_0 : List UInt8 := dkwJ12_max_0 ++ []
theorem dksJ12_max_0 : cJ12_max.data.toList.drop 0 = dktJ12_max_0 := by decide +kernel
theorem dJ12_max_0 : decode cJ12_max 0 = .ok (.iload_n 0, 1) := dk_26 (dk_at dksJ12_max_0 0 rfl rfl)
theorem dJ12_max_1 : decode cJ12_max 1 = .ok (.iload_n 1, 1) := dk_27 (dk_at dksJ12_max_0 1 rfl rfl)
theorem dJ12_max_2 : decode cJ12_max 2 = .ok (.if_icmp .lt 7, 3) := dk_161 0 7 (dk_at dksJ12_max_0 2 rfl rfl)
theorem dJ12_max_5 : decode cJ12_max 5 = .ok (.iload_n 0, 1) := dk_26 (dk_at dksJ12_max_0 5 rfl rfl)
theorem dJ12_max_6 : decode cJ12_max 6 = .ok (.goto 4, 3) := dk_167 0 4 (dk_at dksJ12_max_0 6 rfl rfl)
theorem dJ12_max_9 : decode cJ12_max 9 = .ok (.iload_n 1, 1) := dk_27 (dk_at dksJ12_max_0 9 rfl rfl)
theorem dJ12_max_10 : decode cJ12_max 10 = .ok (.ireturn, 1) := dk_172 (dk_at dksJ12_max_0 10 rfl rfl)
abbrev cJ12_min : ByteArray := prog_28_method_69_code
def yJ12_min : MethodName := ⟨RJ12, "min", "(II)I"⟩
def dkwJ12_min_0 : List UInt8 := [26, 27, 163, 0, 7, 26, 167, 0, 4, 27, 172]
abbrev dktJ12_min_0 : List UInt8 := dkwJ12_min_0 ++ []
theorem dksJ12_min_0 : cJ12_min.data.toList.drop 0 = dktJ12_min_0 := by decide +kernel
theorem dJ12_min_0 : decode cJ12_min 0 = .ok (.iload_n 0, 1) := dk_26 (dk_at dksJ12_min_0 0 rfl rfl)
theorem dJ12_min_1 : decode cJ12_min 1 = .ok (.iload_n 1, 1) := dk_27 (dk_at dksJ12_min_0 1 rfl rfl)
theorem dJ12_min_2 : decode cJ12_min 2 = .ok (.if_icmp .gt 7, 3) := dk_163 0 7 (dk_at dksJ12_min_0 2 rfl rfl)
theorem dJ12_min_5 : decode cJ12_min 5 = .ok (.iload_n 0, 1) := dk_26 (dk_at dksJ12_min_0 5 rfl rfl)
theorem dJ12_min_6 : decode cJ12_min 6 = .ok (.goto 4, 3) := dk_167 0 4 (dk_at dksJ12_min_0 6 rfl rfl)
theorem dJ12_min_9 : decode cJ12_min 9 = .ok (.iload_n 1, 1) := dk_27 (dk_at dksJ12_min_0 9 rfl rfl)
theorem dJ12_min_10 : decode cJ12_min 10 = .ok (.ireturn, 1) := dk_172 (dk_at dksJ12_min_0 10 rfl rfl)
abbrev cJ12_abs : ByteArray := prog_28_method_59_code
def yJ12_abs : MethodName := ⟨RJ12, "abs", "(I)I"⟩
def dkwJ12_abs_0 : List UInt8 := [26, 156, 0, 8, 26, 116, 167, 0, 4, 26, 172]
abbrev dktJ12_abs_0 : List UInt8 := dkwJ12_abs_0 ++ []
theorem dksJ12_abs_0 : cJ12_abs.data.toList.drop 0 = dktJ12_abs_0 := by decide +kernel
theorem dJ12_abs_0 : decode cJ12_abs 0 = .ok (.iload_n 0, 1) := dk_26 (dk_at dksJ12_abs_0 0 rfl rfl)
theorem dJ12_abs_1 : decode cJ12_abs 1 = .ok (.ifCond .ge 8, 3) := dk_156 0 8 (dk_at dksJ12_abs_0 1 rfl rfl)
theorem dJ12_abs_4 : decode cJ12_abs 4 = .ok (.iload_n 0, 1) := dk_26 (dk_at dksJ12_abs_0 4 rfl rfl)
theorem dJ12_abs_5 : decode cJ12_abs 5 = .ok (.ineg, 1) := dk_116 (dk_at dksJ12_abs_0 5 rfl rfl)
theorem dJ12_abs_6 : decode cJ12_abs 6 = .ok (.goto 4, 3) := dk_167 0 4 (dk_at dksJ12_abs_0 6 rfl rfl)
theorem dJ12_abs_9 : decode cJ12_abs 9 = .ok (.iload_n 0, 1) := dk_26 (dk_at dksJ12_abs_0 9 rfl rfl)
theorem dJ12_abs_10 : decode cJ12_abs 10 = .ok (.ireturn, 1) := dk_172 (dk_at dksJ12_abs_0 10 rfl rfl)
theorem q129 : (Jvm.Cond.initialized "java/lang/Math") ∈ lw_all := lw_g (lw_at lw_m1 17 rfl) rfl
theorem q361 : (Jvm.Cond.static ({ cls := "java/lang/Math", name := "max", desc := "(II)I" } : Jvm.MethodName)) ∈ lw_all := lw_g (lw_at lw_m2 9 rfl) rfl
theorem q362 : (Jvm.Cond.code ({ cls := "java/lang/Math", name := "max", desc := "(II)I" } : Jvm.MethodName) prog_28_method_65_code (2 : Nat) (Option.some Jvm.ClassFile.FieldType.int)) ∈ lw_all := lw_g (lw_at lw_m2 10 rfl) rfl
theorem q377 : (Jvm.Cond.static ({ cls := "java/lang/Math", name := "min", desc := "(II)I" } : Jvm.MethodName)) ∈ lw_all := lw_g (lw_at lw_m2 25 rfl) rfl
theorem q378 : (Jvm.Cond.code ({ cls := "java/lang/Math", name := "min", desc := "(II)I" } : Jvm.MethodName) prog_28_method_69_code (2 : Nat) (Option.some Jvm.ClassFile.FieldType.int)) ∈ lw_all := lw_g (lw_at lw_m2 26 rfl) rfl
theorem q869 : (Jvm.Cond.static ({ cls := "java/lang/Math", name := "abs", desc := "(I)I" } : Jvm.MethodName)) ∈ lw_all := lw_g (lw_at lw_m4 37 rfl) rfl
theorem q870 : (Jvm.Cond.code ({ cls := "java/lang/Math", name := "abs", desc := "(I)I" } : Jvm.MethodName) prog_28_method_59_code (1 : Nat) (Option.some Jvm.ClassFile.FieldType.int)) ∈ lw_all := lw_g (lw_at lw_m4 38 rfl) rfl
/-! java/util/Arrays -/
set_option maxRecDepth 100000
def RJ13 : String := "java/util/Arrays"
abbrev cJ13_copyOf : ByteArray := prog_45_method_121_code
def yJ13_copyOf : MethodName := ⟨RJ13, "copyOf", "([BI)[B"⟩
def dkwJ13_copyOf_1 : List UInt8 := [27, 184, 1, 48, 184, 0, 150, 44, 176]
abbrev dktJ13_copyOf_1 : List UInt8 := dkwJ13_copyOf_1 ++ []
def dkwJ13_copyOf_0 : List UInt8 := [27, 42, 190, 160, 0, 11, 42, 182, 1, 54, 192, 1, 55, 176, 27, 188, 8, 77, 42, 3, 44, 3, 42, 190]
abbrev dktJ13_copyOf_0 : List UInt8 := dkwJ13_copyOf_0 ++ dktJ13_copyOf_1
theorem dksJ13_copyOf_0 : cJ13_copyOf.data.toList.drop 0 = dktJ13_copyOf_0 := by decide +kernel
theorem dksJ13_copyOf_1 : cJ13_copyOf.data.toList.drop 24 = dktJ13_copyOf_1 := dk_seg dksJ13_copyOf_0 24 rfl rfl
theorem dJ13_copyOf_0 : decode cJ13_copyOf 0 = .ok (.iload_n 1, 1) := dk_27 (dk_at dksJ13_copyOf_0 0 rfl rfl)
theorem dJ13_copyOf_1 : decode cJ13_copyOf 1 = .ok (.aload_n 0, 1) := dk_42 (dk_at dksJ13_copyOf_0 1 rfl rfl)
theorem dJ13_copyOf_2 : decode cJ13_copyOf 2 = .ok (.arraylength, 1) := dk_190 (dk_at dksJ13_copyOf_0 2 rfl rfl)
theorem dJ13_copyOf_3 : decode cJ13_copyOf 3 = .ok (.if_icmp .ne 11, 3) := dk_160 0 11 (dk_at dksJ13_copyOf_0 3 rfl rfl)
theorem dJ13_copyOf_6 : decode cJ13_copyOf 6 = .ok (.aload_n 0, 1) := dk_42 (dk_at dksJ13_copyOf_0 6 rfl rfl)
theorem dJ13_copyOf_7 : decode cJ13_copyOf 7 = .ok (.invokevirtual 310, 3) := dk_182 1 54 (dk_at dksJ13_copyOf_0 7 rfl rfl)
theorem dJ13_copyOf_10 : decode cJ13_copyOf 10 = .ok (.checkcast 311, 3) := dk_192 1 55 (dk_at dksJ13_copyOf_0 10 rfl rfl)
theorem dJ13_copyOf_13 : decode cJ13_copyOf 13 = .ok (.areturn, 1) := dk_176 (dk_at dksJ13_copyOf_0 13 rfl rfl)
theorem dJ13_copyOf_14 : decode cJ13_copyOf 14 = .ok (.iload_n 1, 1) := dk_27 (dk_at dksJ13_copyOf_0 14 rfl rfl)
theorem dJ13_copyOf_15 : decode cJ13_copyOf 15 = .ok (.newarray .byte, 2) := dk_188_8 (dk_at dksJ13_copyOf_0 15 rfl rfl)
theorem dJ13_copyOf_17 : decode cJ13_copyOf 17 = .ok (.astore_n 2, 1) := dk_77 (dk_at dksJ13_copyOf_0 17 rfl rfl)
theorem dJ13_copyOf_18 : decode cJ13_copyOf 18 = .ok (.aload_n 0, 1) := dk_42 (dk_at dksJ13_copyOf_0 18 rfl rfl)
theorem dJ13_copyOf_19 : decode cJ13_copyOf 19 = .ok (.iconst 0, 1) := dk_3 (dk_at dksJ13_copyOf_0 19 rfl rfl)
theorem dJ13_copyOf_20 : decode cJ13_copyOf 20 = .ok (.aload_n 2, 1) := dk_44 (dk_at dksJ13_copyOf_0 20 rfl rfl)
theorem dJ13_copyOf_21 : decode cJ13_copyOf 21 = .ok (.iconst 0, 1) := dk_3 (dk_at dksJ13_copyOf_0 21 rfl rfl)
theorem dJ13_copyOf_22 : decode cJ13_copyOf 22 = .ok (.aload_n 0, 1) := dk_42 (dk_at dksJ13_copyOf_0 22 rfl rfl)
theorem dJ13_copyOf_23 : decode cJ13_copyOf 23 = .ok (.arraylength, 1) := dk_190 (dk_at dksJ13_copyOf_0 23 rfl rfl)
theorem dJ13_copyOf_24 : decode cJ13_copyOf 24 = .ok (.iload_n 1, 1) := dk_27 (dk_at dksJ13_copyOf_1 0 rfl rfl)
theorem dJ13_copyOf_25 : decode cJ13_copyOf 25 = .ok (.invokestatic 304, 3) := dk_184 1 48 (dk_at dksJ13_copyOf_1 1 rfl rfl)
theorem dJ13_copyOf_28 : decode cJ13_copyOf 28 = .ok (.invokestatic 150, 3) := dk_184 0 150 (dk_at dksJ13_copyOf_1 4 rfl rfl)
theorem dJ13_copyOf_31 : decode cJ13_copyOf 31 = .ok (.aload_n 2, 1) := dk_44 (dk_at dksJ13_copyOf_1 7 rfl rfl)
theorem dJ13_copyOf_32 : decode cJ13_copyOf 32 = .ok (.areturn, 1) := dk_176 (dk_at dksJ13_copyOf_1 8 rfl rfl)
abbrev cJ13_copyOfRange : ByteArray := prog_45_method_132_code
def yJ13_copyOfRange : MethodName := ⟨RJ13, "copyOfRange", "([BII)[B"⟩
def dkwJ13_copyOfRange_1 : List UInt8 := [176]
abbrev dktJ13_copyOfRange_1 : List UInt8 := dkwJ13_copyOfRange_1 ++ []
def dkwJ13_copyOfRange_0 : List UInt8 := [27, 154, 0, 9, 28, 42, 190, 159, 0, 10, 42, 27, 28, 184, 1, 83, 176, 42, 182, 1, 54, 192, 1, 55]
abbrev dktJ13_copyOfRange_0 : List UInt8 := dkwJ13_copyOfRange_0 ++ dktJ13_copyOfRange_1
theorem dksJ13_copyOfRange_0 : cJ13_copyOfRange.data.toList.drop 0 = dktJ13_copyOfRange_0 := by decide +kernel
theorem dksJ13_copyOfRange_1 : cJ13_copyOfRange.data.toList.drop 24 = dktJ13_copyOfRange_1 := dk_seg dksJ13_copyOfRange_0 24 rfl rfl
theorem dJ13_copyOfRange_0 : decode cJ13_copyOfRange 0 = .ok (.iload_n 1, 1) := dk_27 (dk_at dksJ13_copyOfRange_0 0 rfl rfl)
theorem dJ13_copyOfRange_1 : decode cJ13_copyOfRange 1 = .ok (.ifCond .ne 9, 3) := dk_154 0 9 (dk_at dksJ13_copyOfRange_0 1 rfl rfl)
theorem dJ13_copyOfRange_4 : decode cJ13_copyOfRange 4 = .ok (.iload_n 2, 1) := dk_28 (dk_at dksJ13_copyOfRange_0 4 rfl rfl)
theorem dJ13_copyOfRange_5 : decode cJ13_copyOfRange 5 = .ok (.aload_n 0, 1) := dk_42 (dk_at dksJ13_copyOfRange_0 5 rfl rfl)
theorem dJ13_copyOfRange_6 : decode cJ13_copyOfRange 6 = .ok (.arraylength, 1) := dk_190 (dk_at dksJ13_copyOfRange_0 6 rfl rfl)
theorem dJ13_copyOfRange_7 : decode cJ13_copyOfRange 7 = .ok (.if_icmp .eq 10, 3) := dk_159 0 10 (dk_at dksJ13_copyOfRange_0 7 rfl rfl)
theorem dJ13_copyOfRange_10 : decode cJ13_copyOfRange 10 = .ok (.aload_n 0, 1) := dk_42 (dk_at dksJ13_copyOfRange_0 10 rfl rfl)
theorem dJ13_copyOfRange_11 : decode cJ13_copyOfRange 11 = .ok (.iload_n 1, 1) := dk_27 (dk_at dksJ13_copyOfRange_0 11 rfl rfl)
theorem dJ13_copyOfRange_12 : decode cJ13_copyOfRange 12 = .ok (.iload_n 2, 1) := dk_28 (dk_at dksJ13_copyOfRange_0 12 rfl rfl)
theorem dJ13_copyOfRange_13 : decode cJ13_copyOfRange 13 = .ok (.invokestatic 339, 3) := dk_184 1 83 (dk_at dksJ13_copyOfRange_0 13 rfl rfl)
theorem dJ13_copyOfRange_16 : decode cJ13_copyOfRange 16 = .ok (.areturn, 1) := dk_176 (dk_at dksJ13_copyOfRange_0 16 rfl rfl)
theorem dJ13_copyOfRange_17 : decode cJ13_copyOfRange 17 = .ok (.aload_n 0, 1) := dk_42 (dk_at dksJ13_copyOfRange_0 17 rfl rfl)
theorem dJ13_copyOfRange_18 : decode cJ13_copyOfRange 18 = .ok (.invokevirtual 310, 3) := dk_182 1 54 (dk_at dksJ13_copyOfRange_0 18 rfl rfl)
theorem dJ13_copyOfRange_21 : decode cJ13_copyOfRange 21 = .ok (.checkcast 311, 3) := dk_192 1 55 (dk_at dksJ13_copyOfRange_0 21 rfl rfl)
theorem dJ13_copyOfRange_24 : decode cJ13_copyOfRange 24 = .ok (.areturn, 1) := dk_176 (dk_at dksJ13_copyOfRange_1 0 rfl rfl)
abbrev cJ13_copyOfRangeByte : ByteArray := prog_45_method_133_code
def yJ13_copyOfRangeByte : MethodName := ⟨RJ13, "copyOfRangeByte", "([BII)[B"⟩
def dkwJ13_copyOfRangeByte_1 : List UInt8 := [184, 1, 48, 184, 0, 150, 25, 4, 176]
abbrev dktJ13_copyOfRangeByte_1 : List UInt8 := dkwJ13_copyOfRangeByte_1 ++ []
def dkwJ13_copyOfRangeByte_0 : List UInt8 := [27, 28, 184, 1, 87, 28, 27, 100, 62, 29, 188, 8, 58, 4, 42, 27, 25, 4, 3, 42, 190, 27, 100, 29]
abbrev dktJ13_copyOfRangeByte_0 : List UInt8 := dkwJ13_copyOfRangeByte_0 ++ dktJ13_copyOfRangeByte_1
theorem dksJ13_copyOfRangeByte_0 : cJ13_copyOfRangeByte.data.toList.drop 0 = dktJ13_copyOfRangeByte_0 := by decide +kernel
theorem dksJ13_copyOfRangeByte_1 : cJ13_copyOfRangeByte.data.toList.drop 24 = dktJ13_copyOfRangeByte_1 := dk_seg dksJ13_copyOfRangeByte_0 24 rfl rfl
theorem dJ13_copyOfRangeByte_0 : decode cJ13_copyOfRangeByte 0 = .ok (.iload_n 1, 1) := dk_27 (dk_at dksJ13_copyOfRangeByte_0 0 rfl rfl)
theorem dJ13_copyOfRangeByte_1 : decode cJ13_copyOfRangeByte 1 = .ok (.iload_n 2, 1) := dk_28 (dk_at dksJ13_copyOfRangeByte_0 1 rfl rfl)
theorem dJ13_copyOfRangeByte_2 : decode cJ13_copyOfRangeByte 2 = .ok (.invokestatic 343, 3) := dk_184 1 87 (dk_at dksJ13_copyOfRangeByte_0 2 rfl rfl)
theorem dJ13_copyOfRangeByte_5 : decode cJ13_copyOfRangeByte 5 = .ok (.iload_n 2, 1) := dk_28 (dk_at dksJ13_copyOfRangeByte_0 5 rfl rfl)
theorem dJ13_copyOfRangeByte_6 : decode cJ13_copyOfRangeByte 6 = .ok (.iload_n 1, 1) := dk_27 (dk_at dksJ13_copyOfRangeByte_0 6 rfl rfl)
theorem dJ13_copyOfRangeByte_7 : decode cJ13_copyOfRangeByte 7 = .ok (.isub, 1) := dk_100 (dk_at dksJ13_copyOfRangeByte_0 7 rfl rfl)
theorem dJ13_copyOfRangeByte_8 : decode cJ13_copyOfRangeByte 8 = .ok (.istore_n 3, 1) := dk_62 (dk_at dksJ13_copyOfRangeByte_0 8 rfl rfl)
theorem dJ13_copyOfRangeByte_9 : decode cJ13_copyOfRangeByte 9 = .ok (.iload_n 3, 1) := dk_29 (dk_at dksJ13_copyOfRangeByte_0 9 rfl rfl)
theorem dJ13_copyOfRangeByte_10 : decode cJ13_copyOfRangeByte 10 = .ok (.newarray .byte, 2) := dk_188_8 (dk_at dksJ13_copyOfRangeByte_0 10 rfl rfl)
theorem dJ13_copyOfRangeByte_12 : decode cJ13_copyOfRangeByte 12 = .ok (.astore 4, 2) := dk_58 4 (dk_at dksJ13_copyOfRangeByte_0 12 rfl rfl)
theorem dJ13_copyOfRangeByte_14 : decode cJ13_copyOfRangeByte 14 = .ok (.aload_n 0, 1) := dk_42 (dk_at dksJ13_copyOfRangeByte_0 14 rfl rfl)
theorem dJ13_copyOfRangeByte_15 : decode cJ13_copyOfRangeByte 15 = .ok (.iload_n 1, 1) := dk_27 (dk_at dksJ13_copyOfRangeByte_0 15 rfl rfl)
theorem dJ13_copyOfRangeByte_16 : decode cJ13_copyOfRangeByte 16 = .ok (.aload 4, 2) := dk_25 4 (dk_at dksJ13_copyOfRangeByte_0 16 rfl rfl)
theorem dJ13_copyOfRangeByte_18 : decode cJ13_copyOfRangeByte 18 = .ok (.iconst 0, 1) := dk_3 (dk_at dksJ13_copyOfRangeByte_0 18 rfl rfl)
theorem dJ13_copyOfRangeByte_19 : decode cJ13_copyOfRangeByte 19 = .ok (.aload_n 0, 1) := dk_42 (dk_at dksJ13_copyOfRangeByte_0 19 rfl rfl)
theorem dJ13_copyOfRangeByte_20 : decode cJ13_copyOfRangeByte 20 = .ok (.arraylength, 1) := dk_190 (dk_at dksJ13_copyOfRangeByte_0 20 rfl rfl)
theorem dJ13_copyOfRangeByte_21 : decode cJ13_copyOfRangeByte 21 = .ok (.iload_n 1, 1) := dk_27 (dk_at dksJ13_copyOfRangeByte_0 21 rfl rfl)
theorem dJ13_copyOfRangeByte_22 : decode cJ13_copyOfRangeByte 22 = .ok (.isub, 1) := dk_100 (dk_at dksJ13_copyOfRangeByte_0 22 rfl rfl)
theorem dJ13_copyOfRangeByte_23 : decode cJ13_copyOfRangeByte 23 = .ok (.iload_n 3, 1) := dk_29 (dk_at dksJ13_copyOfRangeByte_0 23 rfl rfl)
theorem dJ13_copyOfRangeByte_24 : decode cJ13_copyOfRangeByte 24 = .ok (.invokestatic 304, 3) := dk_184 1 48 (dk_at dksJ13_copyOfRangeByte_1 0 rfl rfl)
theorem dJ13_copyOfRangeByte_27 : decode cJ13_copyOfRangeByte 27 = .ok (.invokestatic 150, 3) := dk_184 0 150 (dk_at dksJ13_copyOfRangeByte_1 3 rfl rfl)
theorem dJ13_copyOfRangeByte_30 : decode cJ13_copyOfRangeByte 30 = .ok (.aload 4, 2) := dk_25 4 (dk_at dksJ13_copyOfRangeByte_1 6 rfl rfl)
theorem dJ13_copyOfRangeByte_32 : decode cJ13_copyOfRangeByte 32 = .ok (.areturn, 1) := dk_176 (dk_at dksJ13_copyOfRangeByte_1 8 rfl rfl)
abbrev cJ13_checkLength : ByteArray := prog_45_method_131_code
def yJ13_checkLength : MethodName := ⟨RJ13, "checkLength", "(II)V"⟩
def dkwJ13_checkLength_1 : List UInt8 := [182, 0, 50, 27, 182, 0, 54, 182, 0, 61, 183, 0, 65, 191, 177]
abbrev dktJ13_checkLength_1 : List UInt8 := dkwJ13_checkLength_1 ++ []
def dkwJ13_checkLength_0 : List UInt8 := [27, 26, 162, 0, 35, 187, 0, 43, 89, 187, 0, 45, 89, 183, 0, 47, 26, 182, 0, 54, 19, 1, 81]
abbrev dktJ13_checkLength_0 : List UInt8 := dkwJ13_checkLength_0 ++ dktJ13_checkLength_1
theorem dksJ13_checkLength_0 : cJ13_checkLength.data.toList.drop 0 = dktJ13_checkLength_0 := by decide +kernel
theorem dksJ13_checkLength_1 : cJ13_checkLength.data.toList.drop 23 = dktJ13_checkLength_1 := dk_seg dksJ13_checkLength_0 23 rfl rfl
theorem dJ13_checkLength_0 : decode cJ13_checkLength 0 = .ok (.iload_n 1, 1) := dk_27 (dk_at dksJ13_checkLength_0 0 rfl rfl)
theorem dJ13_checkLength_1 : decode cJ13_checkLength 1 = .ok (.iload_n 0, 1) := dk_26 (dk_at dksJ13_checkLength_0 1 rfl rfl)
theorem dJ13_checkLength_2 : decode cJ13_checkLength 2 = .ok (.if_icmp .ge 35, 3) := dk_162 0 35 (dk_at dksJ13_checkLength_0 2 rfl rfl)
theorem dJ13_checkLength_5 : decode cJ13_checkLength 5 = .ok (.new 43, 3) := dk_187 0 43 (dk_at dksJ13_checkLength_0 5 rfl rfl)
theorem dJ13_checkLength_8 : decode cJ13_checkLength 8 = .ok (.dup, 1) := dk_89 (dk_at dksJ13_checkLength_0 8 rfl rfl)
theorem dJ13_checkLength_9 : decode cJ13_checkLength 9 = .ok (.new 45, 3) := dk_187 0 45 (dk_at dksJ13_checkLength_0 9 rfl rfl)
theorem dJ13_checkLength_12 : decode cJ13_checkLength 12 = .ok (.dup, 1) := dk_89 (dk_at dksJ13_checkLength_0 12 rfl rfl)
theorem dJ13_checkLength_13 : decode cJ13_checkLength 13 = .ok (.invokespecial 47, 3) := dk_183 0 47 (dk_at dksJ13_checkLength_0 13 rfl rfl)
theorem dJ13_checkLength_16 : decode cJ13_checkLength 16 = .ok (.iload_n 0, 1) := dk_26 (dk_at dksJ13_checkLength_0 16 rfl rfl)
theorem dJ13_checkLength_17 : decode cJ13_checkLength 17 = .ok (.invokevirtual 54, 3) := dk_182 0 54 (dk_at dksJ13_checkLength_0 17 rfl rfl)
theorem dJ13_checkLength_20 : decode cJ13_checkLength 20 = .ok (.ldc_w 337, 3) := dk_19 1 81 (dk_at dksJ13_checkLength_0 20 rfl rfl)
theorem dJ13_checkLength_23 : decode cJ13_checkLength 23 = .ok (.invokevirtual 50, 3) := dk_182 0 50 (dk_at dksJ13_checkLength_1 0 rfl rfl)
theorem dJ13_checkLength_26 : decode cJ13_checkLength 26 = .ok (.iload_n 1, 1) := dk_27 (dk_at dksJ13_checkLength_1 3 rfl rfl)
theorem dJ13_checkLength_27 : decode cJ13_checkLength 27 = .ok (.invokevirtual 54, 3) := dk_182 0 54 (dk_at dksJ13_checkLength_1 4 rfl rfl)
theorem dJ13_checkLength_30 : decode cJ13_checkLength 30 = .ok (.invokevirtual 61, 3) := dk_182 0 61 (dk_at dksJ13_checkLength_1 7 rfl rfl)
theorem dJ13_checkLength_33 : decode cJ13_checkLength 33 = .ok (.invokespecial 65, 3) := dk_183 0 65 (dk_at dksJ13_checkLength_1 10 rfl rfl)
theorem dJ13_checkLength_36 : decode cJ13_checkLength 36 = .ok (.athrow, 1) := dk_191 (dk_at dksJ13_checkLength_1 13 rfl rfl)
theorem dJ13_checkLength_37 : decode cJ13_checkLength 37 = .ok (.return_, 1) := dk_177 (dk_at dksJ13_checkLength_1 14 rfl rfl)
abbrev cJ13_copyOf_2 : ByteArray := prog_45_method_119_code
def yJ13_copyOf_2 : MethodName := ⟨RJ13, "copyOf", "([Ljava/lang/Object;I)[Ljava/lang/Object;"⟩
def dkwJ13_copyOf_2_0 : List UInt8 := [42, 27, 42, 182, 0, 86, 184, 1, 44, 176]
abbrev dktJ13_copyOf_2_0 : List UInt8 := dkwJ13_copyOf_2_0 ++ []
theorem dksJ13_copyOf_2_0 : cJ13_copyOf_2.data.toList.drop 0 = dktJ13_copyOf_2_0 := by decide +kernel
theorem dJ13_copyOf_2_0 : decode cJ13_copyOf_2 0 = .ok (.aload_n 0, 1) := dk_42 (dk_at dksJ13_copyOf_2_0 0 rfl rfl)
theorem dJ13_copyOf_2_1 : decode cJ13_copyOf_2 1 = .ok (.iload_n 1, 1) := dk_27 (dk_at dksJ13_copyOf_2_0 1 rfl rfl)
theorem dJ13_copyOf_2_2 : decode cJ13_copyOf_2 2 = .ok (.aload_n 0, 1) := dk_42 (dk_at dksJ13_copyOf_2_0 2 rfl rfl)
theorem dJ13_copyOf_2_3 : decode cJ13_copyOf_2 3 = .ok (.invokevirtual 86, 3) := dk_182 0 86 (dk_at dksJ13_copyOf_2_0 3 rfl rfl)
theorem dJ13_copyOf_2_6 : decode cJ13_copyOf_2 6 = .ok (.invokestatic 300, 3) := dk_184 1 44 (dk_at dksJ13_copyOf_2_0 6 rfl rfl)
theorem dJ13_copyOf_2_9 : decode cJ13_copyOf_2 9 = .ok (.areturn, 1) := dk_176 (dk_at dksJ13_copyOf_2_0 9 rfl rfl)
abbrev cJ13_copyOf_3 : ByteArray := prog_45_method_120_code
def yJ13_copyOf_3 : MethodName := ⟨RJ13, "copyOf", "([Ljava/lang/Object;ILjava/lang/Class;)[Ljava/lang/Object;"⟩
def dkwJ13_copyOf_3_1 : List UInt8 := [78, 42, 3, 45, 3, 42, 190, 27, 184, 1, 48, 184, 0, 150, 45, 176]
abbrev dktJ13_copyOf_3_1 : List UInt8 := dkwJ13_copyOf_3_1 ++ []
def dkwJ13_copyOf_3_0 : List UInt8 := [44, 18, 110, 166, 0, 10, 27, 189, 0, 2, 167, 0, 14, 44, 182, 0, 90, 27, 184, 0, 95, 192, 0, 110]
abbrev dktJ13_copyOf_3_0 : List UInt8 := dkwJ13_copyOf_3_0 ++ dktJ13_copyOf_3_1
theorem dksJ13_copyOf_3_0 : cJ13_copyOf_3.data.toList.drop 0 = dktJ13_copyOf_3_0 := by decide +kernel
theorem dksJ13_copyOf_3_1 : cJ13_copyOf_3.data.toList.drop 24 = dktJ13_copyOf_3_1 := dk_seg dksJ13_copyOf_3_0 24 rfl rfl
theorem dJ13_copyOf_3_0 : decode cJ13_copyOf_3 0 = .ok (.aload_n 2, 1) := dk_44 (dk_at dksJ13_copyOf_3_0 0 rfl rfl)
theorem dJ13_copyOf_3_1 : decode cJ13_copyOf_3 1 = .ok (.ldc 110, 2) := dk_18 110 (dk_at dksJ13_copyOf_3_0 1 rfl rfl)
theorem dJ13_copyOf_3_3 : decode cJ13_copyOf_3 3 = .ok (.if_acmp .ne 10, 3) := dk_166 0 10 (dk_at dksJ13_copyOf_3_0 3 rfl rfl)
theorem dJ13_copyOf_3_6 : decode cJ13_copyOf_3 6 = .ok (.iload_n 1, 1) := dk_27 (dk_at dksJ13_copyOf_3_0 6 rfl rfl)
theorem dJ13_copyOf_3_7 : decode cJ13_copyOf_3 7 = .ok (.anewarray 2, 3) := dk_189 0 2 (dk_at dksJ13_copyOf_3_0 7 rfl rfl)
theorem dJ13_copyOf_3_10 : decode cJ13_copyOf_3 10 = .ok (.goto 14, 3) := dk_167 0 14 (dk_at dksJ13_copyOf_3_0 10 rfl rfl)
theorem dJ13_copyOf_3_13 : decode cJ13_copyOf_3 13 = .ok (.aload_n 2, 1) := dk_44 (dk_at dksJ13_copyOf_3_0 13 rfl rfl)
theorem dJ13_copyOf_3_14 : decode cJ13_copyOf_3 14 = .ok (.invokevirtual 90, 3) := dk_182 0 90 (dk_at dksJ13_copyOf_3_0 14 rfl rfl)
theorem dJ13_copyOf_3_17 : decode cJ13_copyOf_3 17 = .ok (.iload_n 1, 1) := dk_27 (dk_at dksJ13_copyOf_3_0 17 rfl rfl)
theorem dJ13_copyOf_3_18 : decode cJ13_copyOf_3 18 = .ok (.invokestatic 95, 3) := dk_184 0 95 (dk_at dksJ13_copyOf_3_0 18 rfl rfl)
theorem dJ13_copyOf_3_21 : decode cJ13_copyOf_3 21 = .ok (.checkcast 110, 3) := dk_192 0 110 (dk_at dksJ13_copyOf_3_0 21 rfl rfl)
theorem dJ13_copyOf_3_24 : decode cJ13_copyOf_3 24 = .ok (.astore_n 3, 1) := dk_78 (dk_at dksJ13_copyOf_3_1 0 rfl rfl)
theorem dJ13_copyOf_3_25 : decode cJ13_copyOf_3 25 = .ok (.aload_n 0, 1) := dk_42 (dk_at dksJ13_copyOf_3_1 1 rfl rfl)
theorem dJ13_copyOf_3_26 : decode cJ13_copyOf_3 26 = .ok (.iconst 0, 1) := dk_3 (dk_at dksJ13_copyOf_3_1 2 rfl rfl)
theorem dJ13_copyOf_3_27 : decode cJ13_copyOf_3 27 = .ok (.aload_n 3, 1) := dk_45 (dk_at dksJ13_copyOf_3_1 3 rfl rfl)
theorem dJ13_copyOf_3_28 : decode cJ13_copyOf_3 28 = .ok (.iconst 0, 1) := dk_3 (dk_at dksJ13_copyOf_3_1 4 rfl rfl)
theorem dJ13_copyOf_3_29 : decode cJ13_copyOf_3 29 = .ok (.aload_n 0, 1) := dk_42 (dk_at dksJ13_copyOf_3_1 5 rfl rfl)
theorem dJ13_copyOf_3_30 : decode cJ13_copyOf_3 30 = .ok (.arraylength, 1) := dk_190 (dk_at dksJ13_copyOf_3_1 6 rfl rfl)
theorem dJ13_copyOf_3_31 : decode cJ13_copyOf_3 31 = .ok (.iload_n 1, 1) := dk_27 (dk_at dksJ13_copyOf_3_1 7 rfl rfl)
theorem dJ13_copyOf_3_32 : decode cJ13_copyOf_3 32 = .ok (.invokestatic 304, 3) := dk_184 1 48 (dk_at dksJ13_copyOf_3_1 8 rfl rfl)
theorem dJ13_copyOf_3_35 : decode cJ13_copyOf_3 35 = .ok (.invokestatic 150, 3) := dk_184 0 150 (dk_at dksJ13_copyOf_3_1 11 rfl rfl)
theorem dJ13_copyOf_3_38 : decode cJ13_copyOf_3 38 = .ok (.aload_n 3, 1) := dk_45 (dk_at dksJ13_copyOf_3_1 14 rfl rfl)
theorem dJ13_copyOf_3_39 : decode cJ13_copyOf_3 39 = .ok (.areturn, 1) := dk_176 (dk_at dksJ13_copyOf_3_1 15 rfl rfl)
abbrev cJ13_fill : ByteArray := prog_45_method_110_code
def yJ13_fill : MethodName := ⟨RJ13, "fill", "([BIIB)V"⟩
def dkwJ13_fill_1 : List UInt8 := [167, 255, 242, 177]
abbrev dktJ13_fill_1 : List UInt8 := dkwJ13_fill_1 ++ []
def dkwJ13_fill_0 : List UInt8 := [42, 190, 27, 28, 184, 0, 13, 27, 54, 4, 21, 4, 28, 162, 0, 14, 42, 21, 4, 29, 84, 132, 4, 1]
abbrev dktJ13_fill_0 : List UInt8 := dkwJ13_fill_0 ++ dktJ13_fill_1
theorem dksJ13_fill_0 : cJ13_fill.data.toList.drop 0 = dktJ13_fill_0 := by decide +kernel
theorem dksJ13_fill_1 : cJ13_fill.data.toList.drop 24 = dktJ13_fill_1 := dk_seg dksJ13_fill_0 24 rfl rfl
theorem dJ13_fill_0 : decode cJ13_fill 0 = .ok (.aload_n 0, 1) := dk_42 (dk_at dksJ13_fill_0 0 rfl rfl)
theorem dJ13_fill_1 : decode cJ13_fill 1 = .ok (.arraylength, 1) := dk_190 (dk_at dksJ13_fill_0 1 rfl rfl)
theorem dJ13_fill_2 : decode cJ13_fill 2 = .ok (.iload_n 1, 1) := dk_27 (dk_at dksJ13_fill_0 2 rfl rfl)
theorem dJ13_fill_3 : decode cJ13_fill 3 = .ok (.iload_n 2, 1) := dk_28 (dk_at dksJ13_fill_0 3 rfl rfl)
theorem dJ13_fill_4 : decode cJ13_fill 4 = .ok (.invokestatic 13, 3) := dk_184 0 13 (dk_at dksJ13_fill_0 4 rfl rfl)
theorem dJ13_fill_7 : decode cJ13_fill 7 = .ok (.iload_n 1, 1) := dk_27 (dk_at dksJ13_fill_0 7 rfl rfl)
theorem dJ13_fill_8 : decode cJ13_fill 8 = .ok (.istore 4, 2) := dk_54 4 (dk_at dksJ13_fill_0 8 rfl rfl)
theorem dJ13_fill_10 : decode cJ13_fill 10 = .ok (.iload 4, 2) := dk_21 4 (dk_at dksJ13_fill_0 10 rfl rfl)
theorem dJ13_fill_12 : decode cJ13_fill 12 = .ok (.iload_n 2, 1) := dk_28 (dk_at dksJ13_fill_0 12 rfl rfl)
theorem dJ13_fill_13 : decode cJ13_fill 13 = .ok (.if_icmp .ge 14, 3) := dk_162 0 14 (dk_at dksJ13_fill_0 13 rfl rfl)
theorem dJ13_fill_16 : decode cJ13_fill 16 = .ok (.aload_n 0, 1) := dk_42 (dk_at dksJ13_fill_0 16 rfl rfl)
theorem dJ13_fill_17 : decode cJ13_fill 17 = .ok (.iload 4, 2) := dk_21 4 (dk_at dksJ13_fill_0 17 rfl rfl)
theorem dJ13_fill_19 : decode cJ13_fill 19 = .ok (.iload_n 3, 1) := dk_29 (dk_at dksJ13_fill_0 19 rfl rfl)
theorem dJ13_fill_20 : decode cJ13_fill 20 = .ok (.bastore, 1) := dk_84 (dk_at dksJ13_fill_0 20 rfl rfl)
theorem dJ13_fill_21 : decode cJ13_fill 21 = .ok (.iinc 4 1, 3) := dk_132 4 1 (dk_at dksJ13_fill_0 21 rfl rfl)
theorem dJ13_fill_24 : decode cJ13_fill 24 = .ok (.goto (-14), 3) := dk_167 255 242 (dk_at dksJ13_fill_1 0 rfl rfl)
theorem dJ13_fill_27 : decode cJ13_fill 27 = .ok (.return_, 1) := dk_177 (dk_at dksJ13_fill_1 3 rfl rfl)
abbrev cJ13_rangeCheck : ByteArray := prog_45_method_30_code
def yJ13_rangeCheck : MethodName := ⟨RJ13, "rangeCheck", "(III)V"⟩
def dkwJ13_rangeCheck_3 : List UInt8 := [183, 0, 70, 191, 177]
abbrev dktJ13_rangeCheck_3 : List UInt8 := dkwJ13_rangeCheck_3 ++ []
def dkwJ13_rangeCheck_2 : List UInt8 := [27, 156, 0, 12, 187, 0, 68, 89, 27, 183, 0, 70, 191, 28, 26, 164, 0, 12, 187, 0, 68, 89, 28]
abbrev dktJ13_rangeCheck_2 : List UInt8 := dkwJ13_rangeCheck_2 ++ dktJ13_rangeCheck_3
def dkwJ13_rangeCheck_1 : List UInt8 := [182, 0, 54, 18, 57, 182, 0, 50, 28, 182, 0, 54, 18, 59, 182, 0, 50, 182, 0, 61, 183, 0, 65, 191]
abbrev dktJ13_rangeCheck_1 : List UInt8 := dkwJ13_rangeCheck_1 ++ dktJ13_rangeCheck_2
def dkwJ13_rangeCheck_0 : List UInt8 := [27, 28, 164, 0, 44, 187, 0, 43, 89, 187, 0, 45, 89, 183, 0, 47, 18, 48, 182, 0, 50, 27]
abbrev dktJ13_rangeCheck_0 : List UInt8 := dkwJ13_rangeCheck_0 ++ dktJ13_rangeCheck_1
theorem dksJ13_rangeCheck_0 : cJ13_rangeCheck.data.toList.drop 0 = dktJ13_rangeCheck_0 := by decide +kernel
theorem dksJ13_rangeCheck_1 : cJ13_rangeCheck.data.toList.drop 22 = dktJ13_rangeCheck_1 := dk_seg dksJ13_rangeCheck_0 22 rfl rfl
theorem dksJ13_rangeCheck_2 : cJ13_rangeCheck.data.toList.drop 46 = dktJ13_rangeCheck_2 := dk_seg dksJ13_rangeCheck_1 24 rfl rfl
theorem dksJ13_rangeCheck_3 : cJ13_rangeCheck.data.toList.drop 69 = dktJ13_rangeCheck_3 := dk_seg dksJ13_rangeCheck_2 23 rfl rfl
theorem dJ13_rangeCheck_0 : decode cJ13_rangeCheck 0 = .ok (.iload_n 1, 1) := dk_27 (dk_at dksJ13_rangeCheck_0 0 rfl rfl)
theorem dJ13_rangeCheck_1 : decode cJ13_rangeCheck 1 = .ok (.iload_n 2, 1) := dk_28 (dk_at dksJ13_rangeCheck_0 1 rfl rfl)
theorem dJ13_rangeCheck_2 : decode cJ13_rangeCheck 2 = .ok (.if_icmp .le 44, 3) := dk_164 0 44 (dk_at dksJ13_rangeCheck_0 2 rfl rfl)
theorem dJ13_rangeCheck_5 : decode cJ13_rangeCheck 5 = .ok (.new 43, 3) := dk_187 0 43 (dk_at dksJ13_rangeCheck_0 5 rfl rfl)
theorem dJ13_rangeCheck_8 : decode cJ13_rangeCheck 8 = .ok (.dup, 1) := dk_89 (dk_at dksJ13_rangeCheck_0 8 rfl rfl)
theorem dJ13_rangeCheck_9 : decode cJ13_rangeCheck 9 = .ok (.new 45, 3) := dk_187 0 45 (dk_at dksJ13_rangeCheck_0 9 rfl rfl)
theorem dJ13_rangeCheck_12 : decode cJ13_rangeCheck 12 = .ok (.dup, 1) := dk_89 (dk_at dksJ13_rangeCheck_0 12 rfl rfl)
theorem dJ13_rangeCheck_13 : decode cJ13_rangeCheck 13 = .ok (.invokespecial 47, 3) := dk_183 0 47 (dk_at dksJ13_rangeCheck_0 13 rfl rfl)
theorem dJ13_rangeCheck_16 : decode cJ13_rangeCheck 16 = .ok (.ldc 48, 2) := dk_18 48 (dk_at dksJ13_rangeCheck_0 16 rfl rfl)
theorem dJ13_rangeCheck_18 : decode cJ13_rangeCheck 18 = .ok (.invokevirtual 50, 3) := dk_182 0 50 (dk_at dksJ13_rangeCheck_0 18 rfl rfl)
theorem dJ13_rangeCheck_21 : decode cJ13_rangeCheck 21 = .ok (.iload_n 1, 1) := dk_27 (dk_at dksJ13_rangeCheck_0 21 rfl rfl)
theorem dJ13_rangeCheck_22 : decode cJ13_rangeCheck 22 = .ok (.invokevirtual 54, 3) := dk_182 0 54 (dk_at dksJ13_rangeCheck_1 0 rfl rfl)
theorem dJ13_rangeCheck_25 : decode cJ13_rangeCheck 25 = .ok (.ldc 57, 2) := dk_18 57 (dk_at dksJ13_rangeCheck_1 3 rfl rfl)
theorem dJ13_rangeCheck_27 : decode cJ13_rangeCheck 27 = .ok (.invokevirtual 50, 3) := dk_182 0 50 (dk_at dksJ13_rangeCheck_1 5 rfl rfl)
theorem dJ13_rangeCheck_30 : decode cJ13_rangeCheck 30 = .ok (.iload_n 2, 1) := dk_28 (dk_at dksJ13_rangeCheck_1 8 rfl rfl)
theorem dJ13_rangeCheck_31 : decode cJ13_rangeCheck 31 = .ok (.invokevirtual 54, 3) := dk_182 0 54 (dk_at dksJ13_rangeCheck_1 9 rfl rfl)
theorem dJ13_rangeCheck_34 : decode cJ13_rangeCheck 34 = .ok (.ldc 59, 2) := dk_18 59 (dk_at dksJ13_rangeCheck_1 12 rfl rfl)
theorem dJ13_rangeCheck_36 : decode cJ13_rangeCheck 36 = .ok (.invokevirtual 50, 3) := dk_182 0 50 (dk_at dksJ13_rangeCheck_1 14 rfl rfl)
theorem dJ13_rangeCheck_39 : decode cJ13_rangeCheck 39 = .ok (.invokevirtual 61, 3) := dk_182 0 61 (dk_at dksJ13_rangeCheck_1 17 rfl rfl)
theorem dJ13_rangeCheck_42 : decode cJ13_rangeCheck 42 = .ok (.invokespecial 65, 3) := dk_183 0 65 (dk_at dksJ13_rangeCheck_1 20 rfl rfl)
theorem dJ13_rangeCheck_45 : decode cJ13_rangeCheck 45 = .ok (.athrow, 1) := dk_191 (dk_at dksJ13_rangeCheck_1 23 rfl rfl)
theorem dJ13_rangeCheck_46 : decode cJ13_rangeCheck 46 = .ok (.iload_n 1, 1) := dk_27 (dk_at dksJ13_rangeCheck_2 0 rfl rfl)
theorem dJ13_rangeCheck_47 : decode cJ13_rangeCheck 47 = .ok (.ifCond .ge 12, 3) := dk_156 0 12 (dk_at dksJ13_rangeCheck_2 1 rfl rfl)
theorem dJ13_rangeCheck_50 : decode cJ13_rangeCheck 50 = .ok (.new 68, 3) := dk_187 0 68 (dk_at dksJ13_rangeCheck_2 4 rfl rfl)
theorem dJ13_rangeCheck_53 : decode cJ13_rangeCheck 53 = .ok (.dup, 1) := dk_89 (dk_at dksJ13_rangeCheck_2 7 rfl rfl)
theorem dJ13_rangeCheck_54 : decode cJ13_rangeCheck 54 = .ok (.iload_n 1, 1) := dk_27 (dk_at dksJ13_rangeCheck_2 8 rfl rfl)
theorem dJ13_rangeCheck_55 : decode cJ13_rangeCheck 55 = .ok (.invokespecial 70, 3) := dk_183 0 70 (dk_at dksJ13_rangeCheck_2 9 rfl rfl)
theorem dJ13_rangeCheck_58 : decode cJ13_rangeCheck 58 = .ok (.athrow, 1) := dk_191 (dk_at dksJ13_rangeCheck_2 12 rfl rfl)
theorem dJ13_rangeCheck_59 : decode cJ13_rangeCheck 59 = .ok (.iload_n 2, 1) := dk_28 (dk_at dksJ13_rangeCheck_2 13 rfl rfl)
theorem dJ13_rangeCheck_60 : decode cJ13_rangeCheck 60 = .ok (.iload_n 0, 1) := dk_26 (dk_at dksJ13_rangeCheck_2 14 rfl rfl)
theorem dJ13_rangeCheck_61 : decode cJ13_rangeCheck 61 = .ok (.if_icmp .le 12, 3) := dk_164 0 12 (dk_at dksJ13_rangeCheck_2 15 rfl rfl)
theorem dJ13_rangeCheck_64 : decode cJ13_rangeCheck 64 = .ok (.new 68, 3) := dk_187 0 68 (dk_at dksJ13_rangeCheck_2 18 rfl rfl)
theorem dJ13_rangeCheck_67 : decode cJ13_rangeCheck 67 = .ok (.dup, 1) := dk_89 (dk_at dksJ13_rangeCheck_2 21 rfl rfl)
theorem dJ13_rangeCheck_68 : decode cJ13_rangeCheck 68 = .ok (.iload_n 2, 1) := dk_28 (dk_at dksJ13_rangeCheck_2 22 rfl rfl)
theorem dJ13_rangeCheck_69 : decode cJ13_rangeCheck 69 = .ok (.invokespecial 70, 3) := dk_183 0 70 (dk_at dksJ13_rangeCheck_3 0 rfl rfl)
theorem dJ13_rangeCheck_72 : decode cJ13_rangeCheck 72 = .ok (.athrow, 1) := dk_191 (dk_at dksJ13_rangeCheck_3 3 rfl rfl)
theorem dJ13_rangeCheck_73 : decode cJ13_rangeCheck 73 = .ok (.return_, 1) := dk_177 (dk_at dksJ13_rangeCheck_3 4 rfl rfl)
abbrev cJ13_copyOfRange_2 : ByteArray := prog_45_method_130_code
def yJ13_copyOfRange_2 : MethodName := ⟨RJ13, "copyOfRange", "([Ljava/lang/Object;IILjava/lang/Class;)[Ljava/lang/Object;"⟩
def dkwJ13_copyOfRange_2_3 : List UInt8 := [58, 5, 42, 27, 25, 5, 3, 42, 190, 27, 100, 21, 4, 184, 1, 48, 184, 0, 150, 25, 5, 176]
abbrev dktJ13_copyOfRange_2_3 : List UInt8 := dkwJ13_copyOfRange_2_3 ++ []
def dkwJ13_copyOfRange_2_2 : List UInt8 := [166, 0, 11, 21, 4, 189, 0, 2, 167, 0, 15, 45, 182, 0, 90, 21, 4, 184, 0, 95, 192, 0, 110]
abbrev dktJ13_copyOfRange_2_2 : List UInt8 := dkwJ13_copyOfRange_2_2 ++ dktJ13_copyOfRange_2_3
def dkwJ13_copyOfRange_2_1 : List UInt8 := [182, 0, 54, 19, 1, 81, 182, 0, 50, 28, 182, 0, 54, 182, 0, 61, 183, 0, 65, 191, 45, 18, 110]
abbrev dktJ13_copyOfRange_2_1 : List UInt8 := dkwJ13_copyOfRange_2_1 ++ dktJ13_copyOfRange_2_2
def dkwJ13_copyOfRange_2_0 : List UInt8 := [28, 27, 100, 54, 4, 21, 4, 156, 0, 35, 187, 0, 43, 89, 187, 0, 45, 89, 183, 0, 47, 27]
abbrev dktJ13_copyOfRange_2_0 : List UInt8 := dkwJ13_copyOfRange_2_0 ++ dktJ13_copyOfRange_2_1
theorem dksJ13_copyOfRange_2_0 : cJ13_copyOfRange_2.data.toList.drop 0 = dktJ13_copyOfRange_2_0 := by decide +kernel
theorem dksJ13_copyOfRange_2_1 : cJ13_copyOfRange_2.data.toList.drop 22 = dktJ13_copyOfRange_2_1 := dk_seg dksJ13_copyOfRange_2_0 22 rfl rfl
theorem dksJ13_copyOfRange_2_2 : cJ13_copyOfRange_2.data.toList.drop 45 = dktJ13_copyOfRange_2_2 := dk_seg dksJ13_copyOfRange_2_1 23 rfl rfl
theorem dksJ13_copyOfRange_2_3 : cJ13_copyOfRange_2.data.toList.drop 68 = dktJ13_copyOfRange_2_3 := dk_seg dksJ13_copyOfRange_2_2 23 rfl rfl
theorem dJ13_copyOfRange_2_0 : decode cJ13_copyOfRange_2 0 = .ok (.iload_n 2, 1) := dk_28 (dk_at dksJ13_copyOfRange_2_0 0 rfl rfl)
theorem dJ13_copyOfRange_2_1 : decode cJ13_copyOfRange_2 1 = .ok (.iload_n 1, 1) := dk_27 (dk_at dksJ13_copyOfRange_2_0 1 rfl rfl)
theorem dJ13_copyOfRange_2_2 : decode cJ13_copyOfRange_2 2 = .ok (.isub, 1) := dk_100 (dk_at dksJ13_copyOfRange_2_0 2 rfl rfl)
theorem dJ13_copyOfRange_2_3 : decode cJ13_copyOfRange_2 3 = .ok (.istore 4, 2) := dk_54 4 (dk_at dksJ13_copyOfRange_2_0 3 rfl rfl)
theorem dJ13_copyOfRange_2_5 : decode cJ13_copyOfRange_2 5 = .ok (.iload 4, 2) := dk_21 4 (dk_at dksJ13_copyOfRange_2_0 5 rfl rfl)
theorem dJ13_copyOfRange_2_7 : decode cJ13_copyOfRange_2 7 = .ok (.ifCond .ge 35, 3) := dk_156 0 35 (dk_at dksJ13_copyOfRange_2_0 7 rfl rfl)
theorem dJ13_copyOfRange_2_10 : decode cJ13_copyOfRange_2 10 = .ok (.new 43, 3) := dk_187 0 43 (dk_at dksJ13_copyOfRange_2_0 10 rfl rfl)
theorem dJ13_copyOfRange_2_13 : decode cJ13_copyOfRange_2 13 = .ok (.dup, 1) := dk_89 (dk_at dksJ13_copyOfRange_2_0 13 rfl rfl)
theorem dJ13_copyOfRange_2_14 : decode cJ13_copyOfRange_2 14 = .ok (.new 45, 3) := dk_187 0 45 (dk_at dksJ13_copyOfRange_2_0 14 rfl rfl)
theorem dJ13_copyOfRange_2_17 : decode cJ13_copyOfRange_2 17 = .ok (.dup, 1) := dk_89 (dk_at dksJ13_copyOfRange_2_0 17 rfl rfl)
theorem dJ13_copyOfRange_2_18 : decode cJ13_copyOfRange_2 18 = .ok (.invokespecial 47, 3) := dk_183 0 47 (dk_at dksJ13_copyOfRange_2_0 18 rfl rfl)
theorem dJ13_copyOfRange_2_21 : decode cJ13_copyOfRange_2 21 = .ok (.iload_n 1, 1) := dk_27 (dk_at dksJ13_copyOfRange_2_0 21 rfl rfl)
theorem dJ13_copyOfRange_2_22 : decode cJ13_copyOfRange_2 22 = .ok (.invokevirtual 54, 3) := dk_182 0 54 (dk_at dksJ13_copyOfRange_2_1 0 rfl rfl)
theorem dJ13_copyOfRange_2_25 : decode cJ13_copyOfRange_2 25 = .ok (.ldc_w 337, 3) := dk_19 1 81 (dk_at dksJ13_copyOfRange_2_1 3 rfl rfl)
theorem dJ13_copyOfRange_2_28 : decode cJ13_copyOfRange_2 28 = .ok (.invokevirtual 50, 3) := dk_182 0 50 (dk_at dksJ13_copyOfRange_2_1 6 rfl rfl)
theorem dJ13_copyOfRange_2_31 : decode cJ13_copyOfRange_2 31 = .ok (.iload_n 2, 1) := dk_28 (dk_at dksJ13_copyOfRange_2_1 9 rfl rfl)
theorem dJ13_copyOfRange_2_32 : decode cJ13_copyOfRange_2 32 = .ok (.invokevirtual 54, 3) := dk_182 0 54 (dk_at dksJ13_copyOfRange_2_1 10 rfl rfl)
theorem dJ13_copyOfRange_2_35 : decode cJ13_copyOfRange_2 35 = .ok (.invokevirtual 61, 3) := dk_182 0 61 (dk_at dksJ13_copyOfRange_2_1 13 rfl rfl)
theorem dJ13_copyOfRange_2_38 : decode cJ13_copyOfRange_2 38 = .ok (.invokespecial 65, 3) := dk_183 0 65 (dk_at dksJ13_copyOfRange_2_1 16 rfl rfl)
theorem dJ13_copyOfRange_2_41 : decode cJ13_copyOfRange_2 41 = .ok (.athrow, 1) := dk_191 (dk_at dksJ13_copyOfRange_2_1 19 rfl rfl)
theorem dJ13_copyOfRange_2_42 : decode cJ13_copyOfRange_2 42 = .ok (.aload_n 3, 1) := dk_45 (dk_at dksJ13_copyOfRange_2_1 20 rfl rfl)
theorem dJ13_copyOfRange_2_43 : decode cJ13_copyOfRange_2 43 = .ok (.ldc 110, 2) := dk_18 110 (dk_at dksJ13_copyOfRange_2_1 21 rfl rfl)
theorem dJ13_copyOfRange_2_45 : decode cJ13_copyOfRange_2 45 = .ok (.if_acmp .ne 11, 3) := dk_166 0 11 (dk_at dksJ13_copyOfRange_2_2 0 rfl rfl)
theorem dJ13_copyOfRange_2_48 : decode cJ13_copyOfRange_2 48 = .ok (.iload 4, 2) := dk_21 4 (dk_at dksJ13_copyOfRange_2_2 3 rfl rfl)
theorem dJ13_copyOfRange_2_50 : decode cJ13_copyOfRange_2 50 = .ok (.anewarray 2, 3) := dk_189 0 2 (dk_at dksJ13_copyOfRange_2_2 5 rfl rfl)
theorem dJ13_copyOfRange_2_53 : decode cJ13_copyOfRange_2 53 = .ok (.goto 15, 3) := dk_167 0 15 (dk_at dksJ13_copyOfRange_2_2 8 rfl rfl)
theorem dJ13_copyOfRange_2_56 : decode cJ13_copyOfRange_2 56 = .ok (.aload_n 3, 1) := dk_45 (dk_at dksJ13_copyOfRange_2_2 11 rfl rfl)
theorem dJ13_copyOfRange_2_57 : decode cJ13_copyOfRange_2 57 = .ok (.invokevirtual 90, 3) := dk_182 0 90 (dk_at dksJ13_copyOfRange_2_2 12 rfl rfl)
theorem dJ13_copyOfRange_2_60 : decode cJ13_copyOfRange_2 60 = .ok (.iload 4, 2) := dk_21 4 (dk_at dksJ13_copyOfRange_2_2 15 rfl rfl)
theorem dJ13_copyOfRange_2_62 : decode cJ13_copyOfRange_2 62 = .ok (.invokestatic 95, 3) := dk_184 0 95 (dk_at dksJ13_copyOfRange_2_2 17 rfl rfl)
theorem dJ13_copyOfRange_2_65 : decode cJ13_copyOfRange_2 65 = .ok (.checkcast 110, 3) := dk_192 0 110 (dk_at dksJ13_copyOfRange_2_2 20 rfl rfl)
theorem dJ13_copyOfRange_2_68 : decode cJ13_copyOfRange_2 68 = .ok (.astore 5, 2) := dk_58 5 (dk_at dksJ13_copyOfRange_2_3 0 rfl rfl)
theorem dJ13_copyOfRange_2_70 : decode cJ13_copyOfRange_2 70 = .ok (.aload_n 0, 1) := dk_42 (dk_at dksJ13_copyOfRange_2_3 2 rfl rfl)
theorem dJ13_copyOfRange_2_71 : decode cJ13_copyOfRange_2 71 = .ok (.iload_n 1, 1) := dk_27 (dk_at dksJ13_copyOfRange_2_3 3 rfl rfl)
theorem dJ13_copyOfRange_2_72 : decode cJ13_copyOfRange_2 72 = .ok (.aload 5, 2) := dk_25 5 (dk_at dksJ13_copyOfRange_2_3 4 rfl rfl)
theorem dJ13_copyOfRange_2_74 : decode cJ13_copyOfRange_2 74 = .ok (.iconst 0, 1) := dk_3 (dk_at dksJ13_copyOfRange_2_3 6 rfl rfl)
theorem dJ13_copyOfRange_2_75 : decode cJ13_copyOfRange_2 75 = .ok (.aload_n 0, 1) := dk_42 (dk_at dksJ13_copyOfRange_2_3 7 rfl rfl)
theorem dJ13_copyOfRange_2_76 : decode cJ13_copyOfRange_2 76 = .ok (.arraylength, 1) := dk_190 (dk_at dksJ13_copyOfRange_2_3 8 rfl rfl)
theorem dJ13_copyOfRange_2_77 : decode cJ13_copyOfRange_2 77 = .ok (.iload_n 1, 1) := dk_27 (dk_at dksJ13_copyOfRange_2_3 9 rfl rfl)
theorem dJ13_copyOfRange_2_78 : decode cJ13_copyOfRange_2 78 = .ok (.isub, 1) := dk_100 (dk_at dksJ13_copyOfRange_2_3 10 rfl rfl)
theorem dJ13_copyOfRange_2_79 : decode cJ13_copyOfRange_2 79 = .ok (.iload 4, 2) := dk_21 4 (dk_at dksJ13_copyOfRange_2_3 11 rfl rfl)
theorem dJ13_copyOfRange_2_81 : decode cJ13_copyOfRange_2 81 = .ok (.invokestatic 304, 3) := dk_184 1 48 (dk_at dksJ13_copyOfRange_2_3 13 rfl rfl)
theorem dJ13_copyOfRange_2_84 : decode cJ13_copyOfRange_2 84 = .ok (.invokestatic 150, 3) := dk_184 0 150 (dk_at dksJ13_copyOfRange_2_3 16 rfl rfl)
theorem dJ13_copyOfRange_2_87 : decode cJ13_copyOfRange_2 87 = .ok (.aload 5, 2) := dk_25 5 (dk_at dksJ13_copyOfRange_2_3 19 rfl rfl)
theorem dJ13_copyOfRange_2_89 : decode cJ13_copyOfRange_2 89 = .ok (.areturn, 1) := dk_176 (dk_at dksJ13_copyOfRange_2_3 21 rfl rfl)
theorem q130 : (Jvm.Cond.initialized "java/util/Arrays") ∈ lw_all := lw_g (lw_at lw_m1 18 rfl) rfl
theorem q369 : (Jvm.Cond.static ({ cls := "java/util/Arrays", name := "copyOf", desc := "([BI)[B" } : Jvm.MethodName)) ∈ lw_all := lw_g (lw_at lw_m2 17 rfl) rfl
theorem q370 : (Jvm.Cond.code ({ cls := "java/util/Arrays", name := "copyOf", desc := "([BI)[B" } : Jvm.MethodName) prog_45_method_121_code (3 : Nat) (Option.some (Jvm.ClassFile.FieldType.array Jvm.ClassFile.FieldType.byte))) ∈ lw_all := lw_g (lw_at lw_m2 18 rfl) rfl
theorem q371 : (Jvm.Cond.methodLink "java/util/Arrays" (310 : Nat) ({ cls := "[B", name := "clone", desc := "()Ljava/lang/Object;" } : Jvm.MethodName)) ∈ lw_all := lw_g (lw_at lw_m2 19 rfl) rfl
theorem q375 : (Jvm.Cond.classLink "java/util/Arrays" (311 : Nat) "[B") ∈ lw_all := lw_g (lw_at lw_m2 23 rfl) rfl
theorem q376 : (Jvm.Cond.methodLink "java/util/Arrays" (304 : Nat) ({ cls := "java/lang/Math", name := "min", desc := "(II)I" } : Jvm.MethodName)) ∈ lw_all := lw_g (lw_at lw_m2 24 rfl) rfl
theorem q379 : (Jvm.Cond.methodLink "java/util/Arrays" (150 : Nat) ({ cls := "java/lang/System", name := "arraycopy", desc := "(Ljava/lang/Object;ILjava/lang/Object;II)V" } : Jvm.MethodName)) ∈ lw_all := lw_g (lw_at lw_m2 27 rfl) rfl
theorem q509 : (Jvm.Cond.static ({ cls := "java/util/Arrays", name := "copyOfRange", desc := "([BII)[B" } : Jvm.MethodName)) ∈ lw_all := lw_g (lw_at lw_m2 157 rfl) rfl
theorem q510 : (Jvm.Cond.code ({ cls := "java/util/Arrays", name := "copyOfRange", desc := "([BII)[B" } : Jvm.MethodName) prog_45_method_132_code (3 : Nat) (Option.some (Jvm.ClassFile.FieldType.array Jvm.ClassFile.FieldType.byte))) ∈ lw_all := lw_g (lw_at lw_m2 158 rfl) rfl
theorem q511 : (Jvm.Cond.methodLink "java/util/Arrays" (339 : Nat) ({ cls := "java/util/Arrays", name := "copyOfRangeByte", desc := "([BII)[B" } : Jvm.MethodName)) ∈ lw_all := lw_g (lw_at lw_m2 159 rfl) rfl
theorem q512 : (Jvm.Cond.static ({ cls := "java/util/Arrays", name := "copyOfRangeByte", desc := "([BII)[B" } : Jvm.MethodName)) ∈ lw_all := lw_g (lw_at lw_m2 160 rfl) rfl
theorem q513 : (Jvm.Cond.code ({ cls := "java/util/Arrays", name := "copyOfRangeByte", desc := "([BII)[B" } : Jvm.MethodName) prog_45_method_133_code (5 : Nat) (Option.some (Jvm.ClassFile.FieldType.array Jvm.ClassFile.FieldType.byte))) ∈ lw_all := lw_g (lw_at lw_m2 161 rfl) rfl
theorem q514 : (Jvm.Cond.methodLink "java/util/Arrays" (343 : Nat) ({ cls := "java/util/Arrays", name := "checkLength", desc := "(II)V" } : Jvm.MethodName)) ∈ lw_all := lw_g (lw_at lw_m2 162 rfl) rfl
theorem q515 : (Jvm.Cond.static ({ cls := "java/util/Arrays", name := "checkLength", desc := "(II)V" } : Jvm.MethodName)) ∈ lw_all := lw_g (lw_at lw_m2 163 rfl) rfl
theorem q516 : (Jvm.Cond.code ({ cls := "java/util/Arrays", name := "checkLength", desc := "(II)V" } : Jvm.MethodName) prog_45_method_131_code (2 : Nat) (Option.none : Option Jvm.ClassFile.FieldType)) ∈ lw_all := lw_g (lw_at lw_m2 164 rfl) rfl
theorem q517 : (Jvm.Cond.classLink "java/util/Arrays" (43 : Nat) "java/lang/IllegalArgumentException") ∈ lw_all := lw_g (lw_at lw_m2 165 rfl) rfl
theorem q518 : (Jvm.Cond.classLink "java/util/Arrays" (45 : Nat) "java/lang/StringBuilder") ∈ lw_all := lw_g (lw_at lw_m2 166 rfl) rfl
theorem q519 : (Jvm.Cond.methodLink "java/util/Arrays" (47 : Nat) ({ cls := "java/lang/StringBuilder", name := "<init>", desc := "()V" } : Jvm.MethodName)) ∈ lw_all := lw_g (lw_at lw_m2 167 rfl) rfl
theorem q520 : (Jvm.Cond.methodLink "java/util/Arrays" (54 : Nat) ({ cls := "java/lang/StringBuilder", name := "append", desc := "(I)Ljava/lang/StringBuilder;" } : Jvm.MethodName)) ∈ lw_all := lw_g (lw_at lw_m2 168 rfl) rfl
theorem q521 : (Jvm.Cond.stringRef "java/util/Arrays" (337 : Nat) " > ") ∈ lw_tbl := lw_at lw_m2 169 rfl
theorem q522 : (Jvm.Cond.methodLink "java/util/Arrays" (50 : Nat) ({ cls := "java/lang/StringBuilder", name := "append", desc := "(Ljava/lang/String;)Ljava/lang/StringBuilder;" } : Jvm.MethodName)) ∈ lw_all := lw_g (lw_at lw_m2 170 rfl) rfl
theorem q523 : (Jvm.Cond.methodLink "java/util/Arrays" (61 : Nat) ({ cls := "java/lang/StringBuilder", name := "toString", desc := "()Ljava/lang/String;" } : Jvm.MethodName)) ∈ lw_all := lw_g (lw_at lw_m2 171 rfl) rfl
theorem q524 : (Jvm.Cond.methodLink "java/util/Arrays" (65 : Nat) ({ cls := "java/lang/IllegalArgumentException", name := "<init>", desc := "(Ljava/lang/String;)V" } : Jvm.MethodName)) ∈ lw_all := lw_g (lw_at lw_m2 172 rfl) rfl
theorem q954 : (Jvm.Cond.static ({ cls := "java/util/Arrays", name := "copyOf", desc := "([Ljava/lang/Object;I)[Ljava/lang/Object;" } : Jvm.MethodName)) ∈ lw_all := lw_g (lw_at lw_m4 122 rfl) rfl
theorem q955 : (Jvm.Cond.code ({ cls := "java/util/Arrays", name := "copyOf", desc := "([Ljava/lang/Object;I)[Ljava/lang/Object;" } : Jvm.MethodName) prog_45_method_119_code (2 : Nat) (Option.some (Jvm.ClassFile.FieldType.array (Jvm.ClassFile.FieldType.object "java/lang/Object")))) ∈ lw_all := lw_g (lw_at lw_m4 123 rfl) rfl
theorem q956 : (Jvm.Cond.methodLink "java/util/Arrays" (86 : Nat) ({ cls := "java/lang/Object", name := "getClass", desc := "()Ljava/lang/Class;" } : Jvm.MethodName)) ∈ lw_all := lw_g (lw_at lw_m4 124 rfl) rfl
theorem q981 : (Jvm.Cond.methodLink "java/util/Arrays" (300 : Nat) ({ cls := "java/util/Arrays", name := "copyOf", desc := "([Ljava/lang/Object;ILjava/lang/Class;)[Ljava/lang/Object;" } : Jvm.MethodName)) ∈ lw_all := lw_g (lw_at lw_m4 149 rfl) rfl
theorem q982 : (Jvm.Cond.static ({ cls := "java/util/Arrays", name := "copyOf", desc := "([Ljava/lang/Object;ILjava/lang/Class;)[Ljava/lang/Object;" } : Jvm.MethodName)) ∈ lw_all := lw_g (lw_at lw_m4 150 rfl) rfl
theorem q983 : (Jvm.Cond.code ({ cls := "java/util/Arrays", name := "copyOf", desc := "([Ljava/lang/Object;ILjava/lang/Class;)[Ljava/lang/Object;" } : Jvm.MethodName) prog_45_method_120_code (4 : Nat) (Option.some (Jvm.ClassFile.FieldType.array (Jvm.ClassFile.FieldType.object "java/lang/Object")))) ∈ lw_all := lw_g (lw_at lw_m4 151 rfl) rfl
theorem q984 : (Jvm.Cond.classLink "java/util/Arrays" (110 : Nat) "[Ljava/lang/Object;") ∈ lw_all := lw_g (lw_at lw_m4 152 rfl) rfl
theorem q985 : (Jvm.Cond.classLink "java/util/Arrays" (2 : Nat) "java/lang/Object") ∈ lw_all := lw_g (lw_at lw_m4 153 rfl) rfl
theorem q1220 : (Jvm.Cond.static ({ cls := "java/util/Arrays", name := "fill", desc := "([BIIB)V" } : Jvm.MethodName)) ∈ lw_all := lw_g (lw_at lw_m5 148 rfl) rfl
theorem q1221 : (Jvm.Cond.code ({ cls := "java/util/Arrays", name := "fill", desc := "([BIIB)V" } : Jvm.MethodName) prog_45_method_110_code (5 : Nat) (Option.none : Option Jvm.ClassFile.FieldType)) ∈ lw_all := lw_g (lw_at lw_m5 149 rfl) rfl
theorem q1222 : (Jvm.Cond.methodLink "java/util/Arrays" (13 : Nat) ({ cls := "java/util/Arrays", name := "rangeCheck", desc := "(III)V" } : Jvm.MethodName)) ∈ lw_all := lw_g (lw_at lw_m5 150 rfl) rfl
theorem q1223 : (Jvm.Cond.static ({ cls := "java/util/Arrays", name := "rangeCheck", desc := "(III)V" } : Jvm.MethodName)) ∈ lw_all := lw_g (lw_at lw_m5 151 rfl) rfl
theorem q1224 : (Jvm.Cond.code ({ cls := "java/util/Arrays", name := "rangeCheck", desc := "(III)V" } : Jvm.MethodName) prog_45_method_30_code (3 : Nat) (Option.none : Option Jvm.ClassFile.FieldType)) ∈ lw_all := lw_g (lw_at lw_m5 152 rfl) rfl
theorem q1225 : (Jvm.Cond.stringRef "java/util/Arrays" (48 : Nat) "fromIndex(") ∈ lw_tbl := lw_at lw_m5 153 rfl
theorem q1226 : (Jvm.Cond.stringRef "java/util/Arrays" (57 : Nat) ") > toIndex(") ∈ lw_tbl := lw_at lw_m5 154 rfl
theorem q1227 : (Jvm.Cond.stringRef "java/util/Arrays" (59 : Nat) ")") ∈ lw_tbl := lw_at lw_m5 155 rfl
theorem q1228 : (Jvm.Cond.classLink "java/util/Arrays" (68 : Nat) "java/lang/ArrayIndexOutOfBoundsException") ∈ lw_all := lw_g (lw_at lw_m5 156 rfl) rfl
theorem q1239 : (Jvm.Cond.methodLink "java/util/Arrays" (70 : Nat) ({ cls := "java/lang/ArrayIndexOutOfBoundsException", name := "<init>", desc := "(I)V" } : Jvm.MethodName)) ∈ lw_all := lw_g (lw_at lw_m5 167 rfl) rfl
theorem q1514 : (Jvm.Cond.static ({ cls := "java/util/Arrays", name := "copyOfRange", desc := "([Ljava/lang/Object;IILjava/lang/Class;)[Ljava/lang/Object;" } : Jvm.MethodName)) ∈ lw_all := lw_g (lw_at lw_m6 202 rfl) rfl
theorem q1515 : (Jvm.Cond.code ({ cls := "java/util/Arrays", name := "copyOfRange", desc := "([Ljava/lang/Object;IILjava/lang/Class;)[Ljava/lang/Object;" } : Jvm.MethodName) prog_45_method_130_code (6 : Nat) (Option.some (Jvm.ClassFile.FieldType.array (Jvm.ClassFile.FieldType.object "java/lang/Object")))) ∈ lw_all := lw_g (lw_at lw_m6 203 rfl) rfl
/-! jdk/internal/util/Preconditions -/
set_option maxRecDepth 100000
def RJ14 : String := "jdk/internal/util/Preconditions"
abbrev cJ14_checkFromToIndex : ByteArray := prog_55_method_12_code
def yJ14_checkFromToIndex : MethodName := ⟨RJ14, "checkFromToIndex", "(IIILjava/util/function/BiFunction;)I"⟩
def dkwJ14_checkFromToIndex_0 : List UInt8 := [26, 155, 0, 13, 26, 27, 163, 0, 8, 27, 28, 164, 0, 11, 45, 26, 27, 28, 184, 0, 99, 191, 26, 172]
abbrev dktJ14_checkFromToIndex_0 : List UInt8 := dkwJ14_checkFromToIndex_0 ++ []
theorem dksJ14_checkFromToIndex_0 : cJ14_checkFromToIndex.data.toList.drop 0 = dktJ14_checkFromToIndex_0 := by decide +kernel
theorem dJ14_checkFromToIndex_0 : decode cJ14_checkFromToIndex 0 = .ok (.iload_n 0, 1) := dk_26 (dk_at dksJ14_checkFromToIndex_0 0 rfl rfl)
theorem dJ14_checkFromToIndex_1 : decode cJ14_checkFromToIndex 1 = .ok (.ifCond .lt 13, 3) := dk_155 0 13 (dk_at dksJ14_checkFromToIndex_0 1 rfl rfl)
theorem dJ14_checkFromToIndex_4 : decode cJ14_checkFromToIndex 4 = .ok (.iload_n 0, 1) := dk_26 (dk_at dksJ14_checkFromToIndex_0 4 rfl rfl)
theorem dJ14_checkFromToIndex_5 : decode cJ14_checkFromToIndex 5 = .ok (.iload_n 1, 1) := dk_27 (dk_at dksJ14_checkFromToIndex_0 5 rfl rfl)
theorem dJ14_checkFromToIndex_6 : decode cJ14_checkFromToIndex 6 = .ok (.if_icmp .gt 8, 3) := dk_163 0 8 (dk_at dksJ14_checkFromToIndex_0 6 rfl rfl)
theorem dJ14_checkFromToIndex_9 : decode cJ14_checkFromToIndex 9 = .ok (.iload_n 1, 1) := dk_27 (dk_at dksJ14_checkFromToIndex_0 9 rfl rfl)
theorem dJ14_checkFromToIndex_10 : decode cJ14_checkFromToIndex 10 = .ok (.iload_n 2, 1) := dk_28 (dk_at dksJ14_checkFromToIndex_0 10 rfl rfl)
theorem dJ14_checkFromToIndex_11 : decode cJ14_checkFromToIndex 11 = .ok (.if_icmp .le 11, 3) := dk_164 0 11 (dk_at dksJ14_checkFromToIndex_0 11 rfl rfl)
theorem dJ14_checkFromToIndex_14 : decode cJ14_checkFromToIndex 14 = .ok (.aload_n 3, 1) := dk_45 (dk_at dksJ14_checkFromToIndex_0 14 rfl rfl)
theorem dJ14_checkFromToIndex_15 : decode cJ14_checkFromToIndex 15 = .ok (.iload_n 0, 1) := dk_26 (dk_at dksJ14_checkFromToIndex_0 15 rfl rfl)
theorem dJ14_checkFromToIndex_16 : decode cJ14_checkFromToIndex 16 = .ok (.iload_n 1, 1) := dk_27 (dk_at dksJ14_checkFromToIndex_0 16 rfl rfl)
theorem dJ14_checkFromToIndex_17 : decode cJ14_checkFromToIndex 17 = .ok (.iload_n 2, 1) := dk_28 (dk_at dksJ14_checkFromToIndex_0 17 rfl rfl)
theorem dJ14_checkFromToIndex_18 : decode cJ14_checkFromToIndex 18 = .ok (.invokestatic 99, 3) := dk_184 0 99 (dk_at dksJ14_checkFromToIndex_0 18 rfl rfl)
theorem dJ14_checkFromToIndex_21 : decode cJ14_checkFromToIndex 21 = .ok (.athrow, 1) := dk_191 (dk_at dksJ14_checkFromToIndex_0 21 rfl rfl)
theorem dJ14_checkFromToIndex_22 : decode cJ14_checkFromToIndex 22 = .ok (.iload_n 0, 1) := dk_26 (dk_at dksJ14_checkFromToIndex_0 22 rfl rfl)
theorem dJ14_checkFromToIndex_23 : decode cJ14_checkFromToIndex 23 = .ok (.ireturn, 1) := dk_172 (dk_at dksJ14_checkFromToIndex_0 23 rfl rfl)
abbrev cJ14_checkFromIndexSize : ByteArray := prog_55_method_13_code
def yJ14_checkFromIndexSize : MethodName := ⟨RJ14, "checkFromIndexSize", "(IIILjava/util/function/BiFunction;)I"⟩
def dkwJ14_checkFromIndexSize_1 : List UInt8 := [172]
abbrev dktJ14_checkFromIndexSize_1 : List UInt8 := dkwJ14_checkFromIndexSize_1 ++ []
def dkwJ14_checkFromIndexSize_0 : List UInt8 := [28, 26, 128, 27, 128, 155, 0, 10, 27, 28, 26, 100, 164, 0, 11, 45, 26, 27, 28, 184, 0, 103, 191, 26]
abbrev dktJ14_checkFromIndexSize_0 : List UInt8 := dkwJ14_checkFromIndexSize_0 ++ dktJ14_checkFromIndexSize_1
theorem dksJ14_checkFromIndexSize_0 : cJ14_checkFromIndexSize.data.toList.drop 0 = dktJ14_checkFromIndexSize_0 := by decide +kernel
theorem dksJ14_checkFromIndexSize_1 : cJ14_checkFromIndexSize.data.toList.drop 24 = dktJ14_checkFromIndexSize_1 := dk_seg dksJ14_checkFromIndexSize_0 24 rfl rfl
theorem dJ14_checkFromIndexSize_0 : decode cJ14_checkFromIndexSize 0 = .ok (.iload_n 2, 1) := dk_28 (dk_at dksJ14_checkFromIndexSize_0 0 rfl rfl)
theorem dJ14_checkFromIndexSize_1 : decode cJ14_checkFromIndexSize 1 = .ok (.iload_n 0, 1) := dk_26 (dk_at dksJ14_checkFromIndexSize_0 1 rfl rfl)
theorem dJ14_checkFromIndexSize_2 : decode cJ14_checkFromIndexSize 2 = .ok (.ior, 1) := dk_128 (dk_at dksJ14_checkFromIndexSize_0 2 rfl rfl)
theorem dJ14_checkFromIndexSize_3 : decode cJ14_checkFromIndexSize 3 = .ok (.iload_n 1, 1) := dk_27 (dk_at dksJ14_checkFromIndexSize_0 3 rfl rfl)
theorem dJ14_checkFromIndexSize_4 : decode cJ14_checkFromIndexSize 4 = .ok (.ior, 1) := dk_128 (dk_at dksJ14_checkFromIndexSize_0 4 rfl rfl)
theorem dJ14_checkFromIndexSize_5 : decode cJ14_checkFromIndexSize 5 = .ok (.ifCond .lt 10, 3) := dk_155 0 10 (dk_at dksJ14_checkFromIndexSize_0 5 rfl rfl)
theorem dJ14_checkFromIndexSize_8 : decode cJ14_checkFromIndexSize 8 = .ok (.iload_n 1, 1) := dk_27 (dk_at dksJ14_checkFromIndexSize_0 8 rfl rfl)
theorem dJ14_checkFromIndexSize_9 : decode cJ14_checkFromIndexSize 9 = .ok (.iload_n 2, 1) := dk_28 (dk_at dksJ14_checkFromIndexSize_0 9 rfl rfl)
theorem dJ14_checkFromIndexSize_10 : decode cJ14_checkFromIndexSize 10 = .ok (.iload_n 0, 1) := dk_26 (dk_at dksJ14_checkFromIndexSize_0 10 rfl rfl)
theorem dJ14_checkFromIndexSize_11 : decode cJ14_checkFromIndexSize 11 = .ok (.isub, 1) := dk_100 (dk_at dksJ14_checkFromIndexSize_0 11 rfl rfl)
theorem dJ14_checkFromIndexSize_12 : decode cJ14_checkFromIndexSize 12 = .ok (.if_icmp .le 11, 3) := dk_164 0 11 (dk_at dksJ14_checkFromIndexSize_0 12 rfl rfl)
theorem dJ14_checkFromIndexSize_15 : decode cJ14_checkFromIndexSize 15 = .ok (.aload_n 3, 1) := dk_45 (dk_at dksJ14_checkFromIndexSize_0 15 rfl rfl)
theorem dJ14_checkFromIndexSize_16 : decode cJ14_checkFromIndexSize 16 = .ok (.iload_n 0, 1) := dk_26 (dk_at dksJ14_checkFromIndexSize_0 16 rfl rfl)
theorem dJ14_checkFromIndexSize_17 : decode cJ14_checkFromIndexSize 17 = .ok (.iload_n 1, 1) := dk_27 (dk_at dksJ14_checkFromIndexSize_0 17 rfl rfl)
theorem dJ14_checkFromIndexSize_18 : decode cJ14_checkFromIndexSize 18 = .ok (.iload_n 2, 1) := dk_28 (dk_at dksJ14_checkFromIndexSize_0 18 rfl rfl)
theorem dJ14_checkFromIndexSize_19 : decode cJ14_checkFromIndexSize 19 = .ok (.invokestatic 103, 3) := dk_184 0 103 (dk_at dksJ14_checkFromIndexSize_0 19 rfl rfl)
theorem dJ14_checkFromIndexSize_22 : decode cJ14_checkFromIndexSize 22 = .ok (.athrow, 1) := dk_191 (dk_at dksJ14_checkFromIndexSize_0 22 rfl rfl)
theorem dJ14_checkFromIndexSize_23 : decode cJ14_checkFromIndexSize 23 = .ok (.iload_n 0, 1) := dk_26 (dk_at dksJ14_checkFromIndexSize_0 23 rfl rfl)
theorem dJ14_checkFromIndexSize_24 : decode cJ14_checkFromIndexSize 24 = .ok (.ireturn, 1) := dk_172 (dk_at dksJ14_checkFromIndexSize_1 0 rfl rfl)
abbrev cJ14_checkIndex : ByteArray := prog_55_method_11_code
def yJ14_checkIndex : MethodName := ⟨RJ14, "checkIndex", "(IILjava/util/function/BiFunction;)I"⟩
def dkwJ14_checkIndex_0 : List UInt8 := [26, 155, 0, 8, 26, 27, 161, 0, 10, 44, 26, 27, 184, 0, 95, 191, 26, 172]
abbrev dktJ14_checkIndex_0 : List UInt8 := dkwJ14_checkIndex_0 ++ []
theorem dksJ14_checkIndex_0 : cJ14_checkIndex.data.toList.drop 0 = dktJ14_checkIndex_0 := by decide +kernel
theorem dJ14_checkIndex_0 : decode cJ14_checkIndex 0 = .ok (.iload_n 0, 1) := dk_26 (dk_at dksJ14_checkIndex_0 0 rfl rfl)
theorem dJ14_checkIndex_1 : decode cJ14_checkIndex 1 = .ok (.ifCond .lt 8, 3) := dk_155 0 8 (dk_at dksJ14_checkIndex_0 1 rfl rfl)
theorem dJ14_checkIndex_4 : decode cJ14_checkIndex 4 = .ok (.iload_n 0, 1) := dk_26 (dk_at dksJ14_checkIndex_0 4 rfl rfl)
theorem dJ14_checkIndex_5 : decode cJ14_checkIndex 5 = .ok (.iload_n 1, 1) := dk_27 (dk_at dksJ14_checkIndex_0 5 rfl rfl)
theorem dJ14_checkIndex_6 : decode cJ14_checkIndex 6 = .ok (.if_icmp .lt 10, 3) := dk_161 0 10 (dk_at dksJ14_checkIndex_0 6 rfl rfl)
theorem dJ14_checkIndex_9 : decode cJ14_checkIndex 9 = .ok (.aload_n 2, 1) := dk_44 (dk_at dksJ14_checkIndex_0 9 rfl rfl)
theorem dJ14_checkIndex_10 : decode cJ14_checkIndex 10 = .ok (.iload_n 0, 1) := dk_26 (dk_at dksJ14_checkIndex_0 10 rfl rfl)
theorem dJ14_checkIndex_11 : decode cJ14_checkIndex 11 = .ok (.iload_n 1, 1) := dk_27 (dk_at dksJ14_checkIndex_0 11 rfl rfl)
theorem dJ14_checkIndex_12 : decode cJ14_checkIndex 12 = .ok (.invokestatic 95, 3) := dk_184 0 95 (dk_at dksJ14_checkIndex_0 12 rfl rfl)
theorem dJ14_checkIndex_15 : decode cJ14_checkIndex 15 = .ok (.athrow, 1) := dk_191 (dk_at dksJ14_checkIndex_0 15 rfl rfl)
theorem dJ14_checkIndex_16 : decode cJ14_checkIndex 16 = .ok (.iload_n 0, 1) := dk_26 (dk_at dksJ14_checkIndex_0 16 rfl rfl)
theorem dJ14_checkIndex_17 : decode cJ14_checkIndex 17 = .ok (.ireturn, 1) := dk_172 (dk_at dksJ14_checkIndex_0 17 rfl rfl)
theorem q132 : (Jvm.Cond.initialized "jdk/internal/util/Preconditions") ∈ lw_all := lw_g (lw_at lw_m1 20 rfl) rfl
theorem q400 : (Jvm.Cond.laysStatic "jdk/internal/util/Preconditions" "SIOOBE_FORMATTER" "Ljava/util/function/BiFunction;") ∈ lw_tbl := lw_at lw_m2 48 rfl
theorem q402 : (Jvm.Cond.static ({ cls := "jdk/internal/util/Preconditions", name := "checkFromToIndex", desc := "(IIILjava/util/function/BiFunction;)I" } : Jvm.MethodName)) ∈ lw_all := lw_g (lw_at lw_m2 50 rfl) rfl
theorem q403 : (Jvm.Cond.code ({ cls := "jdk/internal/util/Preconditions", name := "checkFromToIndex", desc := "(IIILjava/util/function/BiFunction;)I" } : Jvm.MethodName) prog_55_method_12_code (4 : Nat) (Option.some Jvm.ClassFile.FieldType.int)) ∈ lw_all := lw_g (lw_at lw_m2 51 rfl) rfl
theorem q448 : (Jvm.Cond.static ({ cls := "jdk/internal/util/Preconditions", name := "checkFromIndexSize", desc := "(IIILjava/util/function/BiFunction;)I" } : Jvm.MethodName)) ∈ lw_all := lw_g (lw_at lw_m2 96 rfl) rfl
theorem q449 : (Jvm.Cond.code ({ cls := "jdk/internal/util/Preconditions", name := "checkFromIndexSize", desc := "(IIILjava/util/function/BiFunction;)I" } : Jvm.MethodName) prog_55_method_13_code (4 : Nat) (Option.some Jvm.ClassFile.FieldType.int)) ∈ lw_all := lw_g (lw_at lw_m2 97 rfl) rfl
theorem q792 : (Jvm.Cond.static ({ cls := "jdk/internal/util/Preconditions", name := "checkIndex", desc := "(IILjava/util/function/BiFunction;)I" } : Jvm.MethodName)) ∈ lw_all := lw_g (lw_at lw_m3 200 rfl) rfl
theorem q793 : (Jvm.Cond.code ({ cls := "jdk/internal/util/Preconditions", name := "checkIndex", desc := "(IILjava/util/function/BiFunction;)I" } : Jvm.MethodName) prog_55_method_11_code (3 : Nat) (Option.some Jvm.ClassFile.FieldType.int)) ∈ lw_all := lw_g (lw_at lw_m3 201 rfl) rfl
/-! java/lang/StringLatin1 -/
set_option maxRecDepth 100000
def RJ15 : String := "java/lang/StringLatin1"
abbrev cJ15_inflate : ByteArray := prog_34_method_50_code
def yJ15_inflate : MethodName := ⟨RJ15, "inflate", "([BI[BII)V"⟩
def dkwJ15_inflate_0 : List UInt8 := [42, 27, 44, 29, 21, 4, 184, 0, 240, 177]
abbrev dktJ15_inflate_0 : List UInt8 := dkwJ15_inflate_0 ++ []
theorem dksJ15_inflate_0 : cJ15_inflate.data.toList.drop 0 = dktJ15_inflate_0 := by decide +kernel
theorem dJ15_inflate_0 : decode cJ15_inflate 0 = .ok (.aload_n 0, 1) := dk_42 (dk_at dksJ15_inflate_0 0 rfl rfl)
theorem dJ15_inflate_1 : decode cJ15_inflate 1 = .ok (.iload_n 1, 1) := dk_27 (dk_at dksJ15_inflate_0 1 rfl rfl)
theorem dJ15_inflate_2 : decode cJ15_inflate 2 = .ok (.aload_n 2, 1) := dk_44 (dk_at dksJ15_inflate_0 2 rfl rfl)
theorem dJ15_inflate_3 : decode cJ15_inflate 3 = .ok (.iload_n 3, 1) := dk_29 (dk_at dksJ15_inflate_0 3 rfl rfl)
theorem dJ15_inflate_4 : decode cJ15_inflate 4 = .ok (.iload 4, 2) := dk_21 4 (dk_at dksJ15_inflate_0 4 rfl rfl)
theorem dJ15_inflate_6 : decode cJ15_inflate 6 = .ok (.invokestatic 240, 3) := dk_184 0 240 (dk_at dksJ15_inflate_0 6 rfl rfl)
theorem dJ15_inflate_9 : decode cJ15_inflate 9 = .ok (.return_, 1) := dk_177 (dk_at dksJ15_inflate_0 9 rfl rfl)
abbrev cJ15_fillNull : ByteArray := prog_34_method_48_code
def yJ15_fillNull : MethodName := ⟨RJ15, "fillNull", "([BII)V"⟩
def dkwJ15_fillNull_0 : List UInt8 := [42, 27, 28, 3, 184, 0, 236, 177]
abbrev dktJ15_fillNull_0 : List UInt8 := dkwJ15_fillNull_0 ++ []
theorem dksJ15_fillNull_0 : cJ15_fillNull.data.toList.drop 0 = dktJ15_fillNull_0 := by decide +kernel
theorem dJ15_fillNull_0 : decode cJ15_fillNull 0 = .ok (.aload_n 0, 1) := dk_42 (dk_at dksJ15_fillNull_0 0 rfl rfl)
theorem dJ15_fillNull_1 : decode cJ15_fillNull 1 = .ok (.iload_n 1, 1) := dk_27 (dk_at dksJ15_fillNull_0 1 rfl rfl)
theorem dJ15_fillNull_2 : decode cJ15_fillNull 2 = .ok (.iload_n 2, 1) := dk_28 (dk_at dksJ15_fillNull_0 2 rfl rfl)
theorem dJ15_fillNull_3 : decode cJ15_fillNull 3 = .ok (.iconst 0, 1) := dk_3 (dk_at dksJ15_fillNull_0 3 rfl rfl)
theorem dJ15_fillNull_4 : decode cJ15_fillNull 4 = .ok (.invokestatic 236, 3) := dk_184 0 236 (dk_at dksJ15_fillNull_0 4 rfl rfl)
theorem dJ15_fillNull_7 : decode cJ15_fillNull 7 = .ok (.return_, 1) := dk_177 (dk_at dksJ15_fillNull_0 7 rfl rfl)
abbrev cJ15_canEncode : ByteArray := prog_34_method_3_code
def yJ15_canEncode : MethodName := ⟨RJ15, "canEncode", "(C)Z"⟩
def dkwJ15_canEncode_0 : List UInt8 := [26, 17, 0, 255, 163, 0, 7, 4, 167, 0, 4, 3, 172]
abbrev dktJ15_canEncode_0 : List UInt8 := dkwJ15_canEncode_0 ++ []
theorem dksJ15_canEncode_0 : cJ15_canEncode.data.toList.drop 0 = dktJ15_canEncode_0 := by decide +kernel
theorem dJ15_canEncode_0 : decode cJ15_canEncode 0 = .ok (.iload_n 0, 1) := dk_26 (dk_at dksJ15_canEncode_0 0 rfl rfl)
theorem dJ15_canEncode_1 : decode cJ15_canEncode 1 = .ok (.sipush 255, 3) := dk_17 0 255 (dk_at dksJ15_canEncode_0 1 rfl rfl)
theorem dJ15_canEncode_4 : decode cJ15_canEncode 4 = .ok (.if_icmp .gt 7, 3) := dk_163 0 7 (dk_at dksJ15_canEncode_0 4 rfl rfl)
theorem dJ15_canEncode_7 : decode cJ15_canEncode 7 = .ok (.iconst 1, 1) := dk_4 (dk_at dksJ15_canEncode_0 7 rfl rfl)
theorem dJ15_canEncode_8 : decode cJ15_canEncode 8 = .ok (.goto 4, 3) := dk_167 0 4 (dk_at dksJ15_canEncode_0 8 rfl rfl)
theorem dJ15_canEncode_11 : decode cJ15_canEncode 11 = .ok (.iconst 0, 1) := dk_3 (dk_at dksJ15_canEncode_0 11 rfl rfl)
theorem dJ15_canEncode_12 : decode cJ15_canEncode 12 = .ok (.ireturn, 1) := dk_172 (dk_at dksJ15_canEncode_0 12 rfl rfl)
abbrev cJ15_charAt : ByteArray := prog_34_method_2_code
def yJ15_charAt : MethodName := ⟨RJ15, "charAt", "([BI)C"⟩
def dkwJ15_charAt_0 : List UInt8 := [27, 42, 190, 184, 0, 9, 42, 27, 51, 17, 0, 255, 126, 146, 172]
abbrev dktJ15_charAt_0 : List UInt8 := dkwJ15_charAt_0 ++ []
theorem dksJ15_charAt_0 : cJ15_charAt.data.toList.drop 0 = dktJ15_charAt_0 := by decide +kernel
theorem dJ15_charAt_0 : decode cJ15_charAt 0 = .ok (.iload_n 1, 1) := dk_27 (dk_at dksJ15_charAt_0 0 rfl rfl)
theorem dJ15_charAt_1 : decode cJ15_charAt 1 = .ok (.aload_n 0, 1) := dk_42 (dk_at dksJ15_charAt_0 1 rfl rfl)
theorem dJ15_charAt_2 : decode cJ15_charAt 2 = .ok (.arraylength, 1) := dk_190 (dk_at dksJ15_charAt_0 2 rfl rfl)
theorem dJ15_charAt_3 : decode cJ15_charAt 3 = .ok (.invokestatic 9, 3) := dk_184 0 9 (dk_at dksJ15_charAt_0 3 rfl rfl)
theorem dJ15_charAt_6 : decode cJ15_charAt 6 = .ok (.aload_n 0, 1) := dk_42 (dk_at dksJ15_charAt_0 6 rfl rfl)
theorem dJ15_charAt_7 : decode cJ15_charAt 7 = .ok (.iload_n 1, 1) := dk_27 (dk_at dksJ15_charAt_0 7 rfl rfl)
theorem dJ15_charAt_8 : decode cJ15_charAt 8 = .ok (.baload, 1) := dk_51 (dk_at dksJ15_charAt_0 8 rfl rfl)
theorem dJ15_charAt_9 : decode cJ15_charAt 9 = .ok (.sipush 255, 3) := dk_17 0 255 (dk_at dksJ15_charAt_0 9 rfl rfl)
theorem dJ15_charAt_12 : decode cJ15_charAt 12 = .ok (.iand, 1) := dk_126 (dk_at dksJ15_charAt_0 12 rfl rfl)
theorem dJ15_charAt_13 : decode cJ15_charAt 13 = .ok (.i2c, 1) := dk_146 (dk_at dksJ15_charAt_0 13 rfl rfl)
theorem dJ15_charAt_14 : decode cJ15_charAt 14 = .ok (.ireturn, 1) := dk_172 (dk_at dksJ15_charAt_0 14 rfl rfl)
theorem q133 : (Jvm.Cond.initialized "java/lang/StringLatin1") ∈ lw_all := lw_g (lw_at lw_m1 21 rfl) rfl
theorem q436 : (Jvm.Cond.static ({ cls := "java/lang/StringLatin1", name := "inflate", desc := "([BI[BII)V" } : Jvm.MethodName)) ∈ lw_all := lw_g (lw_at lw_m2 84 rfl) rfl
theorem q437 : (Jvm.Cond.code ({ cls := "java/lang/StringLatin1", name := "inflate", desc := "([BI[BII)V" } : Jvm.MethodName) prog_34_method_50_code (5 : Nat) (Option.none : Option Jvm.ClassFile.FieldType)) ∈ lw_all := lw_g (lw_at lw_m2 85 rfl) rfl
theorem q438 : (Jvm.Cond.methodLink "java/lang/StringLatin1" (240 : Nat) ({ cls := "java/lang/StringUTF16", name := "inflate", desc := "([BI[BII)V" } : Jvm.MethodName)) ∈ lw_all := lw_g (lw_at lw_m2 86 rfl) rfl
theorem q1217 : (Jvm.Cond.static ({ cls := "java/lang/StringLatin1", name := "fillNull", desc := "([BII)V" } : Jvm.MethodName)) ∈ lw_all := lw_g (lw_at lw_m5 145 rfl) rfl
theorem q1218 : (Jvm.Cond.code ({ cls := "java/lang/StringLatin1", name := "fillNull", desc := "([BII)V" } : Jvm.MethodName) prog_34_method_48_code (3 : Nat) (Option.none : Option Jvm.ClassFile.FieldType)) ∈ lw_all := lw_g (lw_at lw_m5 146 rfl) rfl
theorem q1219 : (Jvm.Cond.methodLink "java/lang/StringLatin1" (236 : Nat) ({ cls := "java/util/Arrays", name := "fill", desc := "([BIIB)V" } : Jvm.MethodName)) ∈ lw_all := lw_g (lw_at lw_m5 147 rfl) rfl
theorem q1278 : (Jvm.Cond.static ({ cls := "java/lang/StringLatin1", name := "canEncode", desc := "(C)Z" } : Jvm.MethodName)) ∈ lw_all := lw_g (lw_at lw_m5 206 rfl) rfl
theorem q1279 : (Jvm.Cond.code ({ cls := "java/lang/StringLatin1", name := "canEncode", desc := "(C)Z" } : Jvm.MethodName) prog_34_method_3_code (1 : Nat) (Option.some Jvm.ClassFile.FieldType.boolean)) ∈ lw_all := lw_g (lw_at lw_m5 207 rfl) rfl
theorem q1384 : (Jvm.Cond.static ({ cls := "java/lang/StringLatin1", name := "charAt", desc := "([BI)C" } : Jvm.MethodName)) ∈ lw_all := lw_g (lw_at lw_m6 72 rfl) rfl
theorem q1385 : (Jvm.Cond.code ({ cls := "java/lang/StringLatin1", name := "charAt", desc := "([BI)C" } : Jvm.MethodName) prog_34_method_2_code (2 : Nat) (Option.some Jvm.ClassFile.FieldType.char)) ∈ lw_all := lw_g (lw_at lw_m6 73 rfl) rfl
theorem q1386 : (Jvm.Cond.methodLink "java/lang/StringLatin1" (9 : Nat) ({ cls := "java/lang/String", name := "checkIndex", desc := "(II)V" } : Jvm.MethodName)) ∈ lw_all := lw_g (lw_at lw_m6 74 rfl) rfl
/-! java/lang/Integer -/
set_option maxRecDepth 100000
def RJ16 : String := "java/lang/Integer"
abbrev cJ16_stringSize : ByteArray := prog_26_method_13_code
def yJ16_stringSize : MethodName := ⟨RJ16, "stringSize", "(I)I"⟩
def dkwJ16_stringSize_1 : List UInt8 := [164, 0, 7, 29, 27, 96, 172, 16, 10, 28, 104, 61, 132, 3, 1, 167, 255, 233, 16, 10, 27, 96, 172]
abbrev dktJ16_stringSize_1 : List UInt8 := dkwJ16_stringSize_1 ++ []
def dkwJ16_stringSize_0 : List UInt8 := [4, 60, 26, 155, 0, 8, 3, 60, 26, 116, 59, 16, 246, 61, 4, 62, 29, 16, 10, 162, 0, 23, 26, 28]
abbrev dktJ16_stringSize_0 : List UInt8 := dkwJ16_stringSize_0 ++ dktJ16_stringSize_1
theorem dksJ16_stringSize_0 : cJ16_stringSize.data.toList.drop 0 = dktJ16_stringSize_0 := by decide +kernel
theorem dksJ16_stringSize_1 : cJ16_stringSize.data.toList.drop 24 = dktJ16_stringSize_1 := dk_seg dksJ16_stringSize_0 24 rfl rfl
theorem dJ16_stringSize_0 : decode cJ16_stringSize 0 = .ok (.iconst 1, 1) := dk_4 (dk_at dksJ16_stringSize_0 0 rfl rfl)
theorem dJ16_stringSize_1 : decode cJ16_stringSize 1 = .ok (.istore_n 1, 1) := dk_60 (dk_at dksJ16_stringSize_0 1 rfl rfl)
theorem dJ16_stringSize_2 : decode cJ16_stringSize 2 = .ok (.iload_n 0, 1) := dk_26 (dk_at dksJ16_stringSize_0 2 rfl rfl)
theorem dJ16_stringSize_3 : decode cJ16_stringSize 3 = .ok (.ifCond .lt 8, 3) := dk_155 0 8 (dk_at dksJ16_stringSize_0 3 rfl rfl)
theorem dJ16_stringSize_6 : decode cJ16_stringSize 6 = .ok (.iconst 0, 1) := dk_3 (dk_at dksJ16_stringSize_0 6 rfl rfl)
theorem dJ16_stringSize_7 : decode cJ16_stringSize 7 = .ok (.istore_n 1, 1) := dk_60 (dk_at dksJ16_stringSize_0 7 rfl rfl)
theorem dJ16_stringSize_8 : decode cJ16_stringSize 8 = .ok (.iload_n 0, 1) := dk_26 (dk_at dksJ16_stringSize_0 8 rfl rfl)
theorem dJ16_stringSize_9 : decode cJ16_stringSize 9 = .ok (.ineg, 1) := dk_116 (dk_at dksJ16_stringSize_0 9 rfl rfl)
theorem dJ16_stringSize_10 : decode cJ16_stringSize 10 = .ok (.istore_n 0, 1) := dk_59 (dk_at dksJ16_stringSize_0 10 rfl rfl)
theorem dJ16_stringSize_11 : decode cJ16_stringSize 11 = .ok (.bipush (-10), 2) := dk_16 246 (dk_at dksJ16_stringSize_0 11 rfl rfl)
theorem dJ16_stringSize_13 : decode cJ16_stringSize 13 = .ok (.istore_n 2, 1) := dk_61 (dk_at dksJ16_stringSize_0 13 rfl rfl)
theorem dJ16_stringSize_14 : decode cJ16_stringSize 14 = .ok (.iconst 1, 1) := dk_4 (dk_at dksJ16_stringSize_0 14 rfl rfl)
theorem dJ16_stringSize_15 : decode cJ16_stringSize 15 = .ok (.istore_n 3, 1) := dk_62 (dk_at dksJ16_stringSize_0 15 rfl rfl)
theorem dJ16_stringSize_16 : decode cJ16_stringSize 16 = .ok (.iload_n 3, 1) := dk_29 (dk_at dksJ16_stringSize_0 16 rfl rfl)
theorem dJ16_stringSize_17 : decode cJ16_stringSize 17 = .ok (.bipush 10, 2) := dk_16 10 (dk_at dksJ16_stringSize_0 17 rfl rfl)
theorem dJ16_stringSize_19 : decode cJ16_stringSize 19 = .ok (.if_icmp .ge 23, 3) := dk_162 0 23 (dk_at dksJ16_stringSize_0 19 rfl rfl)
theorem dJ16_stringSize_22 : decode cJ16_stringSize 22 = .ok (.iload_n 0, 1) := dk_26 (dk_at dksJ16_stringSize_0 22 rfl rfl)
theorem dJ16_stringSize_23 : decode cJ16_stringSize 23 = .ok (.iload_n 2, 1) := dk_28 (dk_at dksJ16_stringSize_0 23 rfl rfl)
theorem dJ16_stringSize_24 : decode cJ16_stringSize 24 = .ok (.if_icmp .le 7, 3) := dk_164 0 7 (dk_at dksJ16_stringSize_1 0 rfl rfl)
theorem dJ16_stringSize_27 : decode cJ16_stringSize 27 = .ok (.iload_n 3, 1) := dk_29 (dk_at dksJ16_stringSize_1 3 rfl rfl)
theorem dJ16_stringSize_28 : decode cJ16_stringSize 28 = .ok (.iload_n 1, 1) := dk_27 (dk_at dksJ16_stringSize_1 4 rfl rfl)
theorem dJ16_stringSize_29 : decode cJ16_stringSize 29 = .ok (.iadd, 1) := dk_96 (dk_at dksJ16_stringSize_1 5 rfl rfl)
theorem dJ16_stringSize_30 : decode cJ16_stringSize 30 = .ok (.ireturn, 1) := dk_172 (dk_at dksJ16_stringSize_1 6 rfl rfl)
theorem dJ16_stringSize_31 : decode cJ16_stringSize 31 = .ok (.bipush 10, 2) := dk_16 10 (dk_at dksJ16_stringSize_1 7 rfl rfl)
theorem dJ16_stringSize_33 : decode cJ16_stringSize 33 = .ok (.iload_n 2, 1) := dk_28 (dk_at dksJ16_stringSize_1 9 rfl rfl)
theorem dJ16_stringSize_34 : decode cJ16_stringSize 34 = .ok (.imul, 1) := dk_104 (dk_at dksJ16_stringSize_1 10 rfl rfl)
theorem dJ16_stringSize_35 : decode cJ16_stringSize 35 = .ok (.istore_n 2, 1) := dk_61 (dk_at dksJ16_stringSize_1 11 rfl rfl)
theorem dJ16_stringSize_36 : decode cJ16_stringSize 36 = .ok (.iinc 3 1, 3) := dk_132 3 1 (dk_at dksJ16_stringSize_1 12 rfl rfl)
theorem dJ16_stringSize_39 : decode cJ16_stringSize 39 = .ok (.goto (-23), 3) := dk_167 255 233 (dk_at dksJ16_stringSize_1 15 rfl rfl)
theorem dJ16_stringSize_42 : decode cJ16_stringSize 42 = .ok (.bipush 10, 2) := dk_16 10 (dk_at dksJ16_stringSize_1 18 rfl rfl)
theorem dJ16_stringSize_44 : decode cJ16_stringSize 44 = .ok (.iload_n 1, 1) := dk_27 (dk_at dksJ16_stringSize_1 20 rfl rfl)
theorem dJ16_stringSize_45 : decode cJ16_stringSize 45 = .ok (.iadd, 1) := dk_96 (dk_at dksJ16_stringSize_1 21 rfl rfl)
theorem dJ16_stringSize_46 : decode cJ16_stringSize 46 = .ok (.ireturn, 1) := dk_172 (dk_at dksJ16_stringSize_1 22 rfl rfl)
abbrev cJ16_getChars : ByteArray := prog_26_method_12_code
def yJ16_getChars : MethodName := ⟨RJ16, "getChars", "(II[B)I"⟩
def dkwJ16_getChars_5 : List UInt8 := [16, 45, 84, 21, 5, 172]
abbrev dktJ16_getChars_5 : List UInt8 := dkwJ16_getChars_5 ++ []
def dkwJ16_getChars_4 : List UInt8 := [132, 5, 255, 21, 5, 178, 0, 87, 26, 116, 51, 84, 21, 6, 153, 0, 12, 44, 132, 5, 255, 21, 5]
abbrev dktJ16_getChars_4 : List UInt8 := dkwJ16_getChars_4 ++ dktJ16_getChars_5
def dkwJ16_getChars_3 : List UInt8 := [167, 255, 209, 44, 132, 5, 255, 21, 5, 178, 0, 83, 26, 116, 51, 84, 26, 16, 247, 162, 0, 16, 44]
abbrev dktJ16_getChars_3 : List UInt8 := dkwJ16_getChars_3 ++ dktJ16_getChars_4
def dkwJ16_getChars_2 : List UInt8 := [21, 5, 178, 0, 83, 21, 4, 51, 84, 44, 132, 5, 255, 21, 5, 178, 0, 87, 21, 4, 51, 84]
abbrev dktJ16_getChars_2 : List UInt8 := dkwJ16_getChars_2 ++ dktJ16_getChars_3
def dkwJ16_getChars_1 : List UInt8 := [16, 156, 163, 0, 47, 26, 16, 100, 108, 62, 29, 16, 100, 104, 26, 100, 54, 4, 29, 59, 44, 132, 5, 255]
abbrev dktJ16_getChars_1 : List UInt8 := dkwJ16_getChars_1 ++ dktJ16_getChars_2
def dkwJ16_getChars_0 : List UInt8 := [27, 54, 5, 26, 156, 0, 7, 4, 167, 0, 4, 3, 54, 6, 21, 6, 154, 0, 6, 26, 116, 59, 26]
abbrev dktJ16_getChars_0 : List UInt8 := dkwJ16_getChars_0 ++ dktJ16_getChars_1
theorem dksJ16_getChars_0 : cJ16_getChars.data.toList.drop 0 = dktJ16_getChars_0 := by decide +kernel
theorem dksJ16_getChars_1 : cJ16_getChars.data.toList.drop 23 = dktJ16_getChars_1 := dk_seg dksJ16_getChars_0 23 rfl rfl
theorem dksJ16_getChars_2 : cJ16_getChars.data.toList.drop 47 = dktJ16_getChars_2 := dk_seg dksJ16_getChars_1 24 rfl rfl
theorem dksJ16_getChars_3 : cJ16_getChars.data.toList.drop 69 = dktJ16_getChars_3 := dk_seg dksJ16_getChars_2 22 rfl rfl
theorem dksJ16_getChars_4 : cJ16_getChars.data.toList.drop 92 = dktJ16_getChars_4 := dk_seg dksJ16_getChars_3 23 rfl rfl
theorem dksJ16_getChars_5 : cJ16_getChars.data.toList.drop 115 = dktJ16_getChars_5 := dk_seg dksJ16_getChars_4 23 rfl rfl
theorem dJ16_getChars_0 : decode cJ16_getChars 0 = .ok (.iload_n 1, 1) := dk_27 (dk_at dksJ16_getChars_0 0 rfl rfl)
theorem dJ16_getChars_1 : decode cJ16_getChars 1 = .ok (.istore 5, 2) := dk_54 5 (dk_at dksJ16_getChars_0 1 rfl rfl)
theorem dJ16_getChars_3 : decode cJ16_getChars 3 = .ok (.iload_n 0, 1) := dk_26 (dk_at dksJ16_getChars_0 3 rfl rfl)
theorem dJ16_getChars_4 : decode cJ16_getChars 4 = .ok (.ifCond .ge 7, 3) := dk_156 0 7 (dk_at dksJ16_getChars_0 4 rfl rfl)
theorem dJ16_getChars_7 : decode cJ16_getChars 7 = .ok (.iconst 1, 1) := dk_4 (dk_at dksJ16_getChars_0 7 rfl rfl)
theorem dJ16_getChars_8 : decode cJ16_getChars 8 = .ok (.goto 4, 3) := dk_167 0 4 (dk_at dksJ16_getChars_0 8 rfl rfl)
theorem dJ16_getChars_11 : decode cJ16_getChars 11 = .ok (.iconst 0, 1) := dk_3 (dk_at dksJ16_getChars_0 11 rfl rfl)
theorem dJ16_getChars_12 : decode cJ16_getChars 12 = .ok (.istore 6, 2) := dk_54 6 (dk_at dksJ16_getChars_0 12 rfl rfl)
theorem dJ16_getChars_14 : decode cJ16_getChars 14 = .ok (.iload 6, 2) := dk_21 6 (dk_at dksJ16_getChars_0 14 rfl rfl)
theorem dJ16_getChars_16 : decode cJ16_getChars 16 = .ok (.ifCond .ne 6, 3) := dk_154 0 6 (dk_at dksJ16_getChars_0 16 rfl rfl)
theorem dJ16_getChars_19 : decode cJ16_getChars 19 = .ok (.iload_n 0, 1) := dk_26 (dk_at dksJ16_getChars_0 19 rfl rfl)
theorem dJ16_getChars_20 : decode cJ16_getChars 20 = .ok (.ineg, 1) := dk_116 (dk_at dksJ16_getChars_0 20 rfl rfl)
theorem dJ16_getChars_21 : decode cJ16_getChars 21 = .ok (.istore_n 0, 1) := dk_59 (dk_at dksJ16_getChars_0 21 rfl rfl)
theorem dJ16_getChars_22 : decode cJ16_getChars 22 = .ok (.iload_n 0, 1) := dk_26 (dk_at dksJ16_getChars_0 22 rfl rfl)
theorem dJ16_getChars_23 : decode cJ16_getChars 23 = .ok (.bipush (-100), 2) := dk_16 156 (dk_at dksJ16_getChars_1 0 rfl rfl)
theorem dJ16_getChars_25 : decode cJ16_getChars 25 = .ok (.if_icmp .gt 47, 3) := dk_163 0 47 (dk_at dksJ16_getChars_1 2 rfl rfl)
theorem dJ16_getChars_28 : decode cJ16_getChars 28 = .ok (.iload_n 0, 1) := dk_26 (dk_at dksJ16_getChars_1 5 rfl rfl)
theorem dJ16_getChars_29 : decode cJ16_getChars 29 = .ok (.bipush 100, 2) := dk_16 100 (dk_at dksJ16_getChars_1 6 rfl rfl)
theorem dJ16_getChars_31 : decode cJ16_getChars 31 = .ok (.idiv, 1) := dk_108 (dk_at dksJ16_getChars_1 8 rfl rfl)
theorem dJ16_getChars_32 : decode cJ16_getChars 32 = .ok (.istore_n 3, 1) := dk_62 (dk_at dksJ16_getChars_1 9 rfl rfl)
theorem dJ16_getChars_33 : decode cJ16_getChars 33 = .ok (.iload_n 3, 1) := dk_29 (dk_at dksJ16_getChars_1 10 rfl rfl)
theorem dJ16_getChars_34 : decode cJ16_getChars 34 = .ok (.bipush 100, 2) := dk_16 100 (dk_at dksJ16_getChars_1 11 rfl rfl)
theorem dJ16_getChars_36 : decode cJ16_getChars 36 = .ok (.imul, 1) := dk_104 (dk_at dksJ16_getChars_1 13 rfl rfl)
theorem dJ16_getChars_37 : decode cJ16_getChars 37 = .ok (.iload_n 0, 1) := dk_26 (dk_at dksJ16_getChars_1 14 rfl rfl)
theorem dJ16_getChars_38 : decode cJ16_getChars 38 = .ok (.isub, 1) := dk_100 (dk_at dksJ16_getChars_1 15 rfl rfl)
theorem dJ16_getChars_39 : decode cJ16_getChars 39 = .ok (.istore 4, 2) := dk_54 4 (dk_at dksJ16_getChars_1 16 rfl rfl)
theorem dJ16_getChars_41 : decode cJ16_getChars 41 = .ok (.iload_n 3, 1) := dk_29 (dk_at dksJ16_getChars_1 18 rfl rfl)
theorem dJ16_getChars_42 : decode cJ16_getChars 42 = .ok (.istore_n 0, 1) := dk_59 (dk_at dksJ16_getChars_1 19 rfl rfl)
theorem dJ16_getChars_43 : decode cJ16_getChars 43 = .ok (.aload_n 2, 1) := dk_44 (dk_at dksJ16_getChars_1 20 rfl rfl)
theorem dJ16_getChars_44 : decode cJ16_getChars 44 = .ok (.iinc 5 (-1), 3) := dk_132 5 255 (dk_at dksJ16_getChars_1 21 rfl rfl)
theorem dJ16_getChars_47 : decode cJ16_getChars 47 = .ok (.iload 5, 2) := dk_21 5 (dk_at dksJ16_getChars_2 0 rfl rfl)
theorem dJ16_getChars_49 : decode cJ16_getChars 49 = .ok (.getstatic 83, 3) := dk_178 0 83 (dk_at dksJ16_getChars_2 2 rfl rfl)
theorem dJ16_getChars_52 : decode cJ16_getChars 52 = .ok (.iload 4, 2) := dk_21 4 (dk_at dksJ16_getChars_2 5 rfl rfl)
theorem dJ16_getChars_54 : decode cJ16_getChars 54 = .ok (.baload, 1) := dk_51 (dk_at dksJ16_getChars_2 7 rfl rfl)
theorem dJ16_getChars_55 : decode cJ16_getChars 55 = .ok (.bastore, 1) := dk_84 (dk_at dksJ16_getChars_2 8 rfl rfl)
theorem dJ16_getChars_56 : decode cJ16_getChars 56 = .ok (.aload_n 2, 1) := dk_44 (dk_at dksJ16_getChars_2 9 rfl rfl)
theorem dJ16_getChars_57 : decode cJ16_getChars 57 = .ok (.iinc 5 (-1), 3) := dk_132 5 255 (dk_at dksJ16_getChars_2 10 rfl rfl)
theorem dJ16_getChars_60 : decode cJ16_getChars 60 = .ok (.iload 5, 2) := dk_21 5 (dk_at dksJ16_getChars_2 13 rfl rfl)
theorem dJ16_getChars_62 : decode cJ16_getChars 62 = .ok (.getstatic 87, 3) := dk_178 0 87 (dk_at dksJ16_getChars_2 15 rfl rfl)
theorem dJ16_getChars_65 : decode cJ16_getChars 65 = .ok (.iload 4, 2) := dk_21 4 (dk_at dksJ16_getChars_2 18 rfl rfl)
theorem dJ16_getChars_67 : decode cJ16_getChars 67 = .ok (.baload, 1) := dk_51 (dk_at dksJ16_getChars_2 20 rfl rfl)
theorem dJ16_getChars_68 : decode cJ16_getChars 68 = .ok (.bastore, 1) := dk_84 (dk_at dksJ16_getChars_2 21 rfl rfl)
theorem dJ16_getChars_69 : decode cJ16_getChars 69 = .ok (.goto (-47), 3) := dk_167 255 209 (dk_at dksJ16_getChars_3 0 rfl rfl)
theorem dJ16_getChars_72 : decode cJ16_getChars 72 = .ok (.aload_n 2, 1) := dk_44 (dk_at dksJ16_getChars_3 3 rfl rfl)
theorem dJ16_getChars_73 : decode cJ16_getChars 73 = .ok (.iinc 5 (-1), 3) := dk_132 5 255 (dk_at dksJ16_getChars_3 4 rfl rfl)
theorem dJ16_getChars_76 : decode cJ16_getChars 76 = .ok (.iload 5, 2) := dk_21 5 (dk_at dksJ16_getChars_3 7 rfl rfl)
theorem dJ16_getChars_78 : decode cJ16_getChars 78 = .ok (.getstatic 83, 3) := dk_178 0 83 (dk_at dksJ16_getChars_3 9 rfl rfl)
theorem dJ16_getChars_81 : decode cJ16_getChars 81 = .ok (.iload_n 0, 1) := dk_26 (dk_at dksJ16_getChars_3 12 rfl rfl)
theorem dJ16_getChars_82 : decode cJ16_getChars 82 = .ok (.ineg, 1) := dk_116 (dk_at dksJ16_getChars_3 13 rfl rfl)
theorem dJ16_getChars_83 : decode cJ16_getChars 83 = .ok (.baload, 1) := dk_51 (dk_at dksJ16_getChars_3 14 rfl rfl)
theorem dJ16_getChars_84 : decode cJ16_getChars 84 = .ok (.bastore, 1) := dk_84 (dk_at dksJ16_getChars_3 15 rfl rfl)
theorem dJ16_getChars_85 : decode cJ16_getChars 85 = .ok (.iload_n 0, 1) := dk_26 (dk_at dksJ16_getChars_3 16 rfl rfl)
theorem dJ16_getChars_86 : decode cJ16_getChars 86 = .ok (.bipush (-9), 2) := dk_16 247 (dk_at dksJ16_getChars_3 17 rfl rfl)
theorem dJ16_getChars_88 : decode cJ16_getChars 88 = .ok (.if_icmp .ge 16, 3) := dk_162 0 16 (dk_at dksJ16_getChars_3 19 rfl rfl)
theorem dJ16_getChars_91 : decode cJ16_getChars 91 = .ok (.aload_n 2, 1) := dk_44 (dk_at dksJ16_getChars_3 22 rfl rfl)
theorem dJ16_getChars_92 : decode cJ16_getChars 92 = .ok (.iinc 5 (-1), 3) := dk_132 5 255 (dk_at dksJ16_getChars_4 0 rfl rfl)
theorem dJ16_getChars_95 : decode cJ16_getChars 95 = .ok (.iload 5, 2) := dk_21 5 (dk_at dksJ16_getChars_4 3 rfl rfl)
theorem dJ16_getChars_97 : decode cJ16_getChars 97 = .ok (.getstatic 87, 3) := dk_178 0 87 (dk_at dksJ16_getChars_4 5 rfl rfl)
theorem dJ16_getChars_100 : decode cJ16_getChars 100 = .ok (.iload_n 0, 1) := dk_26 (dk_at dksJ16_getChars_4 8 rfl rfl)
theorem dJ16_getChars_101 : decode cJ16_getChars 101 = .ok (.ineg, 1) := dk_116 (dk_at dksJ16_getChars_4 9 rfl rfl)
theorem dJ16_getChars_102 : decode cJ16_getChars 102 = .ok (.baload, 1) := dk_51 (dk_at dksJ16_getChars_4 10 rfl rfl)
theorem dJ16_getChars_103 : decode cJ16_getChars 103 = .ok (.bastore, 1) := dk_84 (dk_at dksJ16_getChars_4 11 rfl rfl)
theorem dJ16_getChars_104 : decode cJ16_getChars 104 = .ok (.iload 6, 2) := dk_21 6 (dk_at dksJ16_getChars_4 12 rfl rfl)
theorem dJ16_getChars_106 : decode cJ16_getChars 106 = .ok (.ifCond .eq 12, 3) := dk_153 0 12 (dk_at dksJ16_getChars_4 14 rfl rfl)
theorem dJ16_getChars_109 : decode cJ16_getChars 109 = .ok (.aload_n 2, 1) := dk_44 (dk_at dksJ16_getChars_4 17 rfl rfl)
theorem dJ16_getChars_110 : decode cJ16_getChars 110 = .ok (.iinc 5 (-1), 3) := dk_132 5 255 (dk_at dksJ16_getChars_4 18 rfl rfl)
theorem dJ16_getChars_113 : decode cJ16_getChars 113 = .ok (.iload 5, 2) := dk_21 5 (dk_at dksJ16_getChars_4 21 rfl rfl)
theorem dJ16_getChars_115 : decode cJ16_getChars 115 = .ok (.bipush 45, 2) := dk_16 45 (dk_at dksJ16_getChars_5 0 rfl rfl)
theorem dJ16_getChars_117 : decode cJ16_getChars 117 = .ok (.bastore, 1) := dk_84 (dk_at dksJ16_getChars_5 2 rfl rfl)
theorem dJ16_getChars_118 : decode cJ16_getChars 118 = .ok (.iload 5, 2) := dk_21 5 (dk_at dksJ16_getChars_5 3 rfl rfl)
theorem dJ16_getChars_120 : decode cJ16_getChars 120 = .ok (.ireturn, 1) := dk_172 (dk_at dksJ16_getChars_5 5 rfl rfl)
theorem q135 : (Jvm.Cond.initialized "java/lang/Integer") ∈ lw_all := lw_g (lw_at lw_m1 23 rfl) rfl
theorem q464 : (Jvm.Cond.static ({ cls := "java/lang/Integer", name := "stringSize", desc := "(I)I" } : Jvm.MethodName)) ∈ lw_all := lw_g (lw_at lw_m2 112 rfl) rfl
theorem q465 : (Jvm.Cond.code ({ cls := "java/lang/Integer", name := "stringSize", desc := "(I)I" } : Jvm.MethodName) prog_26_method_13_code (4 : Nat) (Option.some Jvm.ClassFile.FieldType.int)) ∈ lw_all := lw_g (lw_at lw_m2 113 rfl) rfl
theorem q467 : (Jvm.Cond.static ({ cls := "java/lang/Integer", name := "getChars", desc := "(II[B)I" } : Jvm.MethodName)) ∈ lw_all := lw_g (lw_at lw_m2 115 rfl) rfl
theorem q468 : (Jvm.Cond.code ({ cls := "java/lang/Integer", name := "getChars", desc := "(II[B)I" } : Jvm.MethodName) prog_26_method_12_code (7 : Nat) (Option.some Jvm.ClassFile.FieldType.int)) ∈ lw_all := lw_g (lw_at lw_m2 116 rfl) rfl
theorem q469 : (Jvm.Cond.fieldLink "java/lang/Integer" (83 : Nat) "java/lang/Integer" "DigitOnes" "[B") ∈ lw_all := lw_g (lw_at lw_m2 117 rfl) rfl
theorem q470 : (Jvm.Cond.laysStatic "java/lang/Integer" "DigitOnes" "[B") ∈ lw_tbl := lw_at lw_m2 118 rfl
theorem q471 : (Jvm.Cond.fieldLink "java/lang/Integer" (87 : Nat) "java/lang/Integer" "DigitTens" "[B") ∈ lw_all := lw_g (lw_at lw_m2 119 rfl) rfl
theorem q472 : (Jvm.Cond.laysStatic "java/lang/Integer" "DigitTens" "[B") ∈ lw_tbl := lw_at lw_m2 120 rfl
/-! java/util/ArrayDeque -/
set_option maxRecDepth 100000
def RJ17 : String := "java/util/ArrayDeque"
def TJ17 : u_T := fun k => match k with
  | 0 => ("java/util/ArrayDeque", "elements", "[Ljava/lang/Object;", false)
  | 1 => ("java/util/ArrayDeque", "head", "I", false)
  | _ => ("java/util/ArrayDeque", "tail", "I", false)
def tyJ17 : Nat → FieldType := fun k => match k with
  | 0 => .array (.object "java/lang/Object")
  | 1 => .int
  | _ => .int
abbrev wsJ170 : List Cond := u_ws RJ17 TJ17 3
theorem nmJ17 : ∀ a, a < 3 → ∀ b, b < 3 → a ≠ b → (TJ17 a).2.1 ≠ (TJ17 b).2.1 := by decide +kernel
theorem tyJ17_ok : ∀ k, k < 3 → parseFieldDescriptor (TJ17 k).2.2.1 = some (tyJ17 k) := by decide +kernel
abbrev cJ17_init : ByteArray := prog_42_method_4_code
def yJ17_init : MethodName := ⟨RJ17, "<init>", "(I)V"⟩
def dkwJ17_init_1 : List UInt8 := [167, 0, 6, 27, 4, 96, 189, 0, 47, 181, 0, 3, 177]
abbrev dktJ17_init_1 : List UInt8 := dkwJ17_init_1 ++ []
def dkwJ17_init_0 : List UInt8 := [42, 183, 0, 42, 42, 27, 4, 162, 0, 7, 4, 167, 0, 17, 27, 18, 41, 160, 0, 8, 18, 41]
abbrev dktJ17_init_0 : List UInt8 := dkwJ17_init_0 ++ dktJ17_init_1
theorem dksJ17_init_0 : cJ17_init.data.toList.drop 0 = dktJ17_init_0 := by decide +kernel
theorem dksJ17_init_1 : cJ17_init.data.toList.drop 22 = dktJ17_init_1 := dk_seg dksJ17_init_0 22 rfl rfl
theorem dJ17_init_0 : decode cJ17_init 0 = .ok (.aload_n 0, 1) := dk_42 (dk_at dksJ17_init_0 0 rfl rfl)
theorem dJ17_init_1 : decode cJ17_init 1 = .ok (.invokespecial 42, 3) := dk_183 0 42 (dk_at dksJ17_init_0 1 rfl rfl)
theorem dJ17_init_4 : decode cJ17_init 4 = .ok (.aload_n 0, 1) := dk_42 (dk_at dksJ17_init_0 4 rfl rfl)
theorem dJ17_init_5 : decode cJ17_init 5 = .ok (.iload_n 1, 1) := dk_27 (dk_at dksJ17_init_0 5 rfl rfl)
theorem dJ17_init_6 : decode cJ17_init 6 = .ok (.iconst 1, 1) := dk_4 (dk_at dksJ17_init_0 6 rfl rfl)
theorem dJ17_init_7 : decode cJ17_init 7 = .ok (.if_icmp .ge 7, 3) := dk_162 0 7 (dk_at dksJ17_init_0 7 rfl rfl)
theorem dJ17_init_10 : decode cJ17_init 10 = .ok (.iconst 1, 1) := dk_4 (dk_at dksJ17_init_0 10 rfl rfl)
theorem dJ17_init_11 : decode cJ17_init 11 = .ok (.goto 17, 3) := dk_167 0 17 (dk_at dksJ17_init_0 11 rfl rfl)
theorem dJ17_init_14 : decode cJ17_init 14 = .ok (.iload_n 1, 1) := dk_27 (dk_at dksJ17_init_0 14 rfl rfl)
theorem dJ17_init_15 : decode cJ17_init 15 = .ok (.ldc 41, 2) := dk_18 41 (dk_at dksJ17_init_0 15 rfl rfl)
theorem dJ17_init_17 : decode cJ17_init 17 = .ok (.if_icmp .ne 8, 3) := dk_160 0 8 (dk_at dksJ17_init_0 17 rfl rfl)
theorem dJ17_init_20 : decode cJ17_init 20 = .ok (.ldc 41, 2) := dk_18 41 (dk_at dksJ17_init_0 20 rfl rfl)
theorem dJ17_init_22 : decode cJ17_init 22 = .ok (.goto 6, 3) := dk_167 0 6 (dk_at dksJ17_init_1 0 rfl rfl)
theorem dJ17_init_25 : decode cJ17_init 25 = .ok (.iload_n 1, 1) := dk_27 (dk_at dksJ17_init_1 3 rfl rfl)
theorem dJ17_init_26 : decode cJ17_init 26 = .ok (.iconst 1, 1) := dk_4 (dk_at dksJ17_init_1 4 rfl rfl)
theorem dJ17_init_27 : decode cJ17_init 27 = .ok (.iadd, 1) := dk_96 (dk_at dksJ17_init_1 5 rfl rfl)
theorem dJ17_init_28 : decode cJ17_init 28 = .ok (.anewarray 47, 3) := dk_189 0 47 (dk_at dksJ17_init_1 6 rfl rfl)
theorem dJ17_init_31 : decode cJ17_init 31 = .ok (.putfield 3, 3) := dk_181 0 3 (dk_at dksJ17_init_1 9 rfl rfl)
theorem dJ17_init_34 : decode cJ17_init 34 = .ok (.return_, 1) := dk_177 (dk_at dksJ17_init_1 12 rfl rfl)
abbrev cJ17_clear : ByteArray := prog_42_method_53_code
def yJ17_clear : MethodName := ⟨RJ17, "clear", "()V"⟩
def dkwJ17_clear_1 : List UInt8 := [181, 0, 24, 177]
abbrev dktJ17_clear_1 : List UInt8 := dkwJ17_clear_1 ++ []
def dkwJ17_clear_0 : List UInt8 := [42, 180, 0, 3, 42, 180, 0, 24, 42, 180, 0, 20, 184, 0, 181, 42, 42, 3, 90, 181, 0, 20]
abbrev dktJ17_clear_0 : List UInt8 := dkwJ17_clear_0 ++ dktJ17_clear_1
theorem dksJ17_clear_0 : cJ17_clear.data.toList.drop 0 = dktJ17_clear_0 := by decide +kernel
theorem dksJ17_clear_1 : cJ17_clear.data.toList.drop 22 = dktJ17_clear_1 := dk_seg dksJ17_clear_0 22 rfl rfl
theorem dJ17_clear_0 : decode cJ17_clear 0 = .ok (.aload_n 0, 1) := dk_42 (dk_at dksJ17_clear_0 0 rfl rfl)
theorem dJ17_clear_1 : decode cJ17_clear 1 = .ok (.getfield 3, 3) := dk_180 0 3 (dk_at dksJ17_clear_0 1 rfl rfl)
theorem dJ17_clear_4 : decode cJ17_clear 4 = .ok (.aload_n 0, 1) := dk_42 (dk_at dksJ17_clear_0 4 rfl rfl)
theorem dJ17_clear_5 : decode cJ17_clear 5 = .ok (.getfield 24, 3) := dk_180 0 24 (dk_at dksJ17_clear_0 5 rfl rfl)
theorem dJ17_clear_8 : decode cJ17_clear 8 = .ok (.aload_n 0, 1) := dk_42 (dk_at dksJ17_clear_0 8 rfl rfl)
theorem dJ17_clear_9 : decode cJ17_clear 9 = .ok (.getfield 20, 3) := dk_180 0 20 (dk_at dksJ17_clear_0 9 rfl rfl)
theorem dJ17_clear_12 : decode cJ17_clear 12 = .ok (.invokestatic 181, 3) := dk_184 0 181 (dk_at dksJ17_clear_0 12 rfl rfl)
theorem dJ17_clear_15 : decode cJ17_clear 15 = .ok (.aload_n 0, 1) := dk_42 (dk_at dksJ17_clear_0 15 rfl rfl)
theorem dJ17_clear_16 : decode cJ17_clear 16 = .ok (.aload_n 0, 1) := dk_42 (dk_at dksJ17_clear_0 16 rfl rfl)
theorem dJ17_clear_17 : decode cJ17_clear 17 = .ok (.iconst 0, 1) := dk_3 (dk_at dksJ17_clear_0 17 rfl rfl)
theorem dJ17_clear_18 : decode cJ17_clear 18 = .ok (.dup_x1, 1) := dk_90 (dk_at dksJ17_clear_0 18 rfl rfl)
theorem dJ17_clear_19 : decode cJ17_clear 19 = .ok (.putfield 20, 3) := dk_181 0 20 (dk_at dksJ17_clear_0 19 rfl rfl)
theorem dJ17_clear_22 : decode cJ17_clear 22 = .ok (.putfield 24, 3) := dk_181 0 24 (dk_at dksJ17_clear_1 0 rfl rfl)
theorem dJ17_clear_25 : decode cJ17_clear 25 = .ok (.return_, 1) := dk_177 (dk_at dksJ17_clear_1 3 rfl rfl)
abbrev cJ17_circularClear : ByteArray := prog_42_method_54_code
def yJ17_circularClear : MethodName := ⟨RJ17, "circularClear", "([Ljava/lang/Object;II)V"⟩
def dkwJ17_circularClear_1 : List UInt8 := [167, 255, 244, 29, 28, 160, 0, 6, 167, 0, 10, 3, 60, 28, 62, 167, 255, 229, 177]
abbrev dktJ17_circularClear_1 : List UInt8 := dkwJ17_circularClear_1 ++ []
def dkwJ17_circularClear_0 : List UInt8 := [27, 28, 163, 0, 7, 28, 167, 0, 5, 42, 190, 62, 27, 29, 162, 0, 13, 42, 27, 1, 83, 132, 1, 1]
abbrev dktJ17_circularClear_0 : List UInt8 := dkwJ17_circularClear_0 ++ dktJ17_circularClear_1
theorem dksJ17_circularClear_0 : cJ17_circularClear.data.toList.drop 0 = dktJ17_circularClear_0 := by decide +kernel
theorem dksJ17_circularClear_1 : cJ17_circularClear.data.toList.drop 24 = dktJ17_circularClear_1 := dk_seg dksJ17_circularClear_0 24 rfl rfl
theorem dJ17_circularClear_0 : decode cJ17_circularClear 0 = .ok (.iload_n 1, 1) := dk_27 (dk_at dksJ17_circularClear_0 0 rfl rfl)
theorem dJ17_circularClear_1 : decode cJ17_circularClear 1 = .ok (.iload_n 2, 1) := dk_28 (dk_at dksJ17_circularClear_0 1 rfl rfl)
theorem dJ17_circularClear_2 : decode cJ17_circularClear 2 = .ok (.if_icmp .gt 7, 3) := dk_163 0 7 (dk_at dksJ17_circularClear_0 2 rfl rfl)
theorem dJ17_circularClear_5 : decode cJ17_circularClear 5 = .ok (.iload_n 2, 1) := dk_28 (dk_at dksJ17_circularClear_0 5 rfl rfl)
theorem dJ17_circularClear_6 : decode cJ17_circularClear 6 = .ok (.goto 5, 3) := dk_167 0 5 (dk_at dksJ17_circularClear_0 6 rfl rfl)
theorem dJ17_circularClear_9 : decode cJ17_circularClear 9 = .ok (.aload_n 0, 1) := dk_42 (dk_at dksJ17_circularClear_0 9 rfl rfl)
theorem dJ17_circularClear_10 : decode cJ17_circularClear 10 = .ok (.arraylength, 1) := dk_190 (dk_at dksJ17_circularClear_0 10 rfl rfl)
theorem dJ17_circularClear_11 : decode cJ17_circularClear 11 = .ok (.istore_n 3, 1) := dk_62 (dk_at dksJ17_circularClear_0 11 rfl rfl)
theorem dJ17_circularClear_12 : decode cJ17_circularClear 12 = .ok (.iload_n 1, 1) := dk_27 (dk_at dksJ17_circularClear_0 12 rfl rfl)
theorem dJ17_circularClear_13 : decode cJ17_circularClear 13 = .ok (.iload_n 3, 1) := dk_29 (dk_at dksJ17_circularClear_0 13 rfl rfl)
theorem dJ17_circularClear_14 : decode cJ17_circularClear 14 = .ok (.if_icmp .ge 13, 3) := dk_162 0 13 (dk_at dksJ17_circularClear_0 14 rfl rfl)
theorem dJ17_circularClear_17 : decode cJ17_circularClear 17 = .ok (.aload_n 0, 1) := dk_42 (dk_at dksJ17_circularClear_0 17 rfl rfl)
theorem dJ17_circularClear_18 : decode cJ17_circularClear 18 = .ok (.iload_n 1, 1) := dk_27 (dk_at dksJ17_circularClear_0 18 rfl rfl)
theorem dJ17_circularClear_19 : decode cJ17_circularClear 19 = .ok (.aconst_null, 1) := dk_1 (dk_at dksJ17_circularClear_0 19 rfl rfl)
theorem dJ17_circularClear_20 : decode cJ17_circularClear 20 = .ok (.aastore, 1) := dk_83 (dk_at dksJ17_circularClear_0 20 rfl rfl)
theorem dJ17_circularClear_21 : decode cJ17_circularClear 21 = .ok (.iinc 1 1, 3) := dk_132 1 1 (dk_at dksJ17_circularClear_0 21 rfl rfl)
theorem dJ17_circularClear_24 : decode cJ17_circularClear 24 = .ok (.goto (-12), 3) := dk_167 255 244 (dk_at dksJ17_circularClear_1 0 rfl rfl)
theorem dJ17_circularClear_27 : decode cJ17_circularClear 27 = .ok (.iload_n 3, 1) := dk_29 (dk_at dksJ17_circularClear_1 3 rfl rfl)
theorem dJ17_circularClear_28 : decode cJ17_circularClear 28 = .ok (.iload_n 2, 1) := dk_28 (dk_at dksJ17_circularClear_1 4 rfl rfl)
theorem dJ17_circularClear_29 : decode cJ17_circularClear 29 = .ok (.if_icmp .ne 6, 3) := dk_160 0 6 (dk_at dksJ17_circularClear_1 5 rfl rfl)
theorem dJ17_circularClear_32 : decode cJ17_circularClear 32 = .ok (.goto 10, 3) := dk_167 0 10 (dk_at dksJ17_circularClear_1 8 rfl rfl)
theorem dJ17_circularClear_35 : decode cJ17_circularClear 35 = .ok (.iconst 0, 1) := dk_3 (dk_at dksJ17_circularClear_1 11 rfl rfl)
theorem dJ17_circularClear_36 : decode cJ17_circularClear 36 = .ok (.istore_n 1, 1) := dk_60 (dk_at dksJ17_circularClear_1 12 rfl rfl)
theorem dJ17_circularClear_37 : decode cJ17_circularClear 37 = .ok (.iload_n 2, 1) := dk_28 (dk_at dksJ17_circularClear_1 13 rfl rfl)
theorem dJ17_circularClear_38 : decode cJ17_circularClear 38 = .ok (.istore_n 3, 1) := dk_62 (dk_at dksJ17_circularClear_1 14 rfl rfl)
theorem dJ17_circularClear_39 : decode cJ17_circularClear 39 = .ok (.goto (-27), 3) := dk_167 255 229 (dk_at dksJ17_circularClear_1 15 rfl rfl)
theorem dJ17_circularClear_42 : decode cJ17_circularClear 42 = .ok (.return_, 1) := dk_177 (dk_at dksJ17_circularClear_1 18 rfl rfl)
abbrev cJ17_toArray : ByteArray := prog_42_method_55_code
def yJ17_toArray : MethodName := ⟨RJ17, "toArray", "()[Ljava/lang/Object;"⟩
def dkwJ17_toArray_0 : List UInt8 := [42, 18, 188, 182, 0, 189, 176]
abbrev dktJ17_toArray_0 : List UInt8 := dkwJ17_toArray_0 ++ []
theorem dksJ17_toArray_0 : cJ17_toArray.data.toList.drop 0 = dktJ17_toArray_0 := by decide +kernel
theorem dJ17_toArray_0 : decode cJ17_toArray 0 = .ok (.aload_n 0, 1) := dk_42 (dk_at dksJ17_toArray_0 0 rfl rfl)
theorem dJ17_toArray_1 : decode cJ17_toArray 1 = .ok (.ldc 188, 2) := dk_18 188 (dk_at dksJ17_toArray_0 1 rfl rfl)
theorem dJ17_toArray_3 : decode cJ17_toArray 3 = .ok (.invokevirtual 189, 3) := dk_182 0 189 (dk_at dksJ17_toArray_0 3 rfl rfl)
theorem dJ17_toArray_6 : decode cJ17_toArray 6 = .ok (.areturn, 1) := dk_176 (dk_at dksJ17_toArray_0 6 rfl rfl)
abbrev cJ17_toArray_2 : ByteArray := prog_42_method_56_code
def yJ17_toArray_2 : MethodName := ⟨RJ17, "toArray", "(Ljava/lang/Class;)[Ljava/lang/Object;"⟩
def dkwJ17_toArray_2_4 : List UInt8 := [21, 5, 184, 0, 27, 45, 176]
abbrev dktJ17_toArray_2_4 : List UInt8 := dkwJ17_toArray_2_4 ++ []
def dkwJ17_toArray_2_3 : List UInt8 := [44, 190, 21, 4, 100, 184, 0, 27, 21, 6, 21, 5, 159, 0, 16, 44, 3, 45, 44, 190, 21, 4, 100]
abbrev dktJ17_toArray_2_3 : List UInt8 := dkwJ17_toArray_2_3 ++ dktJ17_toArray_2_4
def dkwJ17_toArray_2_2 : List UInt8 := [184, 0, 193, 78, 167, 0, 28, 44, 3, 21, 6, 21, 4, 100, 43, 184, 0, 193, 78, 44, 21, 4, 45, 3]
abbrev dktJ17_toArray_2_2 : List UInt8 := dkwJ17_toArray_2_2 ++ dktJ17_toArray_2_3
def dkwJ17_toArray_2_1 : List UInt8 := [163, 0, 7, 3, 167, 0, 5, 44, 190, 96, 89, 54, 6, 155, 0, 16, 44, 21, 4, 21, 6, 43]
abbrev dktJ17_toArray_2_1 : List UInt8 := dkwJ17_toArray_2_1 ++ dktJ17_toArray_2_2
def dkwJ17_toArray_2_0 : List UInt8 := [42, 180, 0, 3, 77, 42, 180, 0, 24, 54, 4, 42, 180, 0, 20, 54, 5, 21, 5, 21, 4, 21, 5]
abbrev dktJ17_toArray_2_0 : List UInt8 := dkwJ17_toArray_2_0 ++ dktJ17_toArray_2_1
theorem dksJ17_toArray_2_0 : cJ17_toArray_2.data.toList.drop 0 = dktJ17_toArray_2_0 := by decide +kernel
theorem dksJ17_toArray_2_1 : cJ17_toArray_2.data.toList.drop 23 = dktJ17_toArray_2_1 := dk_seg dksJ17_toArray_2_0 23 rfl rfl
theorem dksJ17_toArray_2_2 : cJ17_toArray_2.data.toList.drop 45 = dktJ17_toArray_2_2 := dk_seg dksJ17_toArray_2_1 22 rfl rfl
theorem dksJ17_toArray_2_3 : cJ17_toArray_2.data.toList.drop 69 = dktJ17_toArray_2_3 := dk_seg dksJ17_toArray_2_2 24 rfl rfl
theorem dksJ17_toArray_2_4 : cJ17_toArray_2.data.toList.drop 92 = dktJ17_toArray_2_4 := dk_seg dksJ17_toArray_2_3 23 rfl rfl
theorem dJ17_toArray_2_0 : decode cJ17_toArray_2 0 = .ok (.aload_n 0, 1) := dk_42 (dk_at dksJ17_toArray_2_0 0 rfl rfl)
theorem dJ17_toArray_2_1 : decode cJ17_toArray_2 1 = .ok (.getfield 3, 3) := dk_180 0 3 (dk_at dksJ17_toArray_2_0 1 rfl rfl)
theorem dJ17_toArray_2_4 : decode cJ17_toArray_2 4 = .ok (.astore_n 2, 1) := dk_77 (dk_at dksJ17_toArray_2_0 4 rfl rfl)
theorem dJ17_toArray_2_5 : decode cJ17_toArray_2 5 = .ok (.aload_n 0, 1) := dk_42 (dk_at dksJ17_toArray_2_0 5 rfl rfl)
theorem dJ17_toArray_2_6 : decode cJ17_toArray_2 6 = .ok (.getfield 24, 3) := dk_180 0 24 (dk_at dksJ17_toArray_2_0 6 rfl rfl)
theorem dJ17_toArray_2_9 : decode cJ17_toArray_2 9 = .ok (.istore 4, 2) := dk_54 4 (dk_at dksJ17_toArray_2_0 9 rfl rfl)
theorem dJ17_toArray_2_11 : decode cJ17_toArray_2 11 = .ok (.aload_n 0, 1) := dk_42 (dk_at dksJ17_toArray_2_0 11 rfl rfl)
theorem dJ17_toArray_2_12 : decode cJ17_toArray_2 12 = .ok (.getfield 20, 3) := dk_180 0 20 (dk_at dksJ17_toArray_2_0 12 rfl rfl)
theorem dJ17_toArray_2_15 : decode cJ17_toArray_2 15 = .ok (.istore 5, 2) := dk_54 5 (dk_at dksJ17_toArray_2_0 15 rfl rfl)
theorem dJ17_toArray_2_17 : decode cJ17_toArray_2 17 = .ok (.iload 5, 2) := dk_21 5 (dk_at dksJ17_toArray_2_0 17 rfl rfl)
theorem dJ17_toArray_2_19 : decode cJ17_toArray_2 19 = .ok (.iload 4, 2) := dk_21 4 (dk_at dksJ17_toArray_2_0 19 rfl rfl)
theorem dJ17_toArray_2_21 : decode cJ17_toArray_2 21 = .ok (.iload 5, 2) := dk_21 5 (dk_at dksJ17_toArray_2_0 21 rfl rfl)
theorem dJ17_toArray_2_23 : decode cJ17_toArray_2 23 = .ok (.if_icmp .gt 7, 3) := dk_163 0 7 (dk_at dksJ17_toArray_2_1 0 rfl rfl)
theorem dJ17_toArray_2_26 : decode cJ17_toArray_2 26 = .ok (.iconst 0, 1) := dk_3 (dk_at dksJ17_toArray_2_1 3 rfl rfl)
theorem dJ17_toArray_2_27 : decode cJ17_toArray_2 27 = .ok (.goto 5, 3) := dk_167 0 5 (dk_at dksJ17_toArray_2_1 4 rfl rfl)
theorem dJ17_toArray_2_30 : decode cJ17_toArray_2 30 = .ok (.aload_n 2, 1) := dk_44 (dk_at dksJ17_toArray_2_1 7 rfl rfl)
theorem dJ17_toArray_2_31 : decode cJ17_toArray_2 31 = .ok (.arraylength, 1) := dk_190 (dk_at dksJ17_toArray_2_1 8 rfl rfl)
theorem dJ17_toArray_2_32 : decode cJ17_toArray_2 32 = .ok (.iadd, 1) := dk_96 (dk_at dksJ17_toArray_2_1 9 rfl rfl)
theorem dJ17_toArray_2_33 : decode cJ17_toArray_2 33 = .ok (.dup, 1) := dk_89 (dk_at dksJ17_toArray_2_1 10 rfl rfl)
theorem dJ17_toArray_2_34 : decode cJ17_toArray_2 34 = .ok (.istore 6, 2) := dk_54 6 (dk_at dksJ17_toArray_2_1 11 rfl rfl)
theorem dJ17_toArray_2_36 : decode cJ17_toArray_2 36 = .ok (.ifCond .lt 16, 3) := dk_155 0 16 (dk_at dksJ17_toArray_2_1 13 rfl rfl)
theorem dJ17_toArray_2_39 : decode cJ17_toArray_2 39 = .ok (.aload_n 2, 1) := dk_44 (dk_at dksJ17_toArray_2_1 16 rfl rfl)
theorem dJ17_toArray_2_40 : decode cJ17_toArray_2 40 = .ok (.iload 4, 2) := dk_21 4 (dk_at dksJ17_toArray_2_1 17 rfl rfl)
theorem dJ17_toArray_2_42 : decode cJ17_toArray_2 42 = .ok (.iload 6, 2) := dk_21 6 (dk_at dksJ17_toArray_2_1 19 rfl rfl)
theorem dJ17_toArray_2_44 : decode cJ17_toArray_2 44 = .ok (.aload_n 1, 1) := dk_43 (dk_at dksJ17_toArray_2_1 21 rfl rfl)
theorem dJ17_toArray_2_45 : decode cJ17_toArray_2 45 = .ok (.invokestatic 193, 3) := dk_184 0 193 (dk_at dksJ17_toArray_2_2 0 rfl rfl)
theorem dJ17_toArray_2_48 : decode cJ17_toArray_2 48 = .ok (.astore_n 3, 1) := dk_78 (dk_at dksJ17_toArray_2_2 3 rfl rfl)
theorem dJ17_toArray_2_49 : decode cJ17_toArray_2 49 = .ok (.goto 28, 3) := dk_167 0 28 (dk_at dksJ17_toArray_2_2 4 rfl rfl)
theorem dJ17_toArray_2_52 : decode cJ17_toArray_2 52 = .ok (.aload_n 2, 1) := dk_44 (dk_at dksJ17_toArray_2_2 7 rfl rfl)
theorem dJ17_toArray_2_53 : decode cJ17_toArray_2 53 = .ok (.iconst 0, 1) := dk_3 (dk_at dksJ17_toArray_2_2 8 rfl rfl)
theorem dJ17_toArray_2_54 : decode cJ17_toArray_2 54 = .ok (.iload 6, 2) := dk_21 6 (dk_at dksJ17_toArray_2_2 9 rfl rfl)
theorem dJ17_toArray_2_56 : decode cJ17_toArray_2 56 = .ok (.iload 4, 2) := dk_21 4 (dk_at dksJ17_toArray_2_2 11 rfl rfl)
theorem dJ17_toArray_2_58 : decode cJ17_toArray_2 58 = .ok (.isub, 1) := dk_100 (dk_at dksJ17_toArray_2_2 13 rfl rfl)
theorem dJ17_toArray_2_59 : decode cJ17_toArray_2 59 = .ok (.aload_n 1, 1) := dk_43 (dk_at dksJ17_toArray_2_2 14 rfl rfl)
theorem dJ17_toArray_2_60 : decode cJ17_toArray_2 60 = .ok (.invokestatic 193, 3) := dk_184 0 193 (dk_at dksJ17_toArray_2_2 15 rfl rfl)
theorem dJ17_toArray_2_63 : decode cJ17_toArray_2 63 = .ok (.astore_n 3, 1) := dk_78 (dk_at dksJ17_toArray_2_2 18 rfl rfl)
theorem dJ17_toArray_2_64 : decode cJ17_toArray_2 64 = .ok (.aload_n 2, 1) := dk_44 (dk_at dksJ17_toArray_2_2 19 rfl rfl)
theorem dJ17_toArray_2_65 : decode cJ17_toArray_2 65 = .ok (.iload 4, 2) := dk_21 4 (dk_at dksJ17_toArray_2_2 20 rfl rfl)
theorem dJ17_toArray_2_67 : decode cJ17_toArray_2 67 = .ok (.aload_n 3, 1) := dk_45 (dk_at dksJ17_toArray_2_2 22 rfl rfl)
theorem dJ17_toArray_2_68 : decode cJ17_toArray_2 68 = .ok (.iconst 0, 1) := dk_3 (dk_at dksJ17_toArray_2_2 23 rfl rfl)
theorem dJ17_toArray_2_69 : decode cJ17_toArray_2 69 = .ok (.aload_n 2, 1) := dk_44 (dk_at dksJ17_toArray_2_3 0 rfl rfl)
theorem dJ17_toArray_2_70 : decode cJ17_toArray_2 70 = .ok (.arraylength, 1) := dk_190 (dk_at dksJ17_toArray_2_3 1 rfl rfl)
theorem dJ17_toArray_2_71 : decode cJ17_toArray_2 71 = .ok (.iload 4, 2) := dk_21 4 (dk_at dksJ17_toArray_2_3 2 rfl rfl)
theorem dJ17_toArray_2_73 : decode cJ17_toArray_2 73 = .ok (.isub, 1) := dk_100 (dk_at dksJ17_toArray_2_3 4 rfl rfl)
theorem dJ17_toArray_2_74 : decode cJ17_toArray_2 74 = .ok (.invokestatic 27, 3) := dk_184 0 27 (dk_at dksJ17_toArray_2_3 5 rfl rfl)
theorem dJ17_toArray_2_77 : decode cJ17_toArray_2 77 = .ok (.iload 6, 2) := dk_21 6 (dk_at dksJ17_toArray_2_3 8 rfl rfl)
theorem dJ17_toArray_2_79 : decode cJ17_toArray_2 79 = .ok (.iload 5, 2) := dk_21 5 (dk_at dksJ17_toArray_2_3 10 rfl rfl)
theorem dJ17_toArray_2_81 : decode cJ17_toArray_2 81 = .ok (.if_icmp .eq 16, 3) := dk_159 0 16 (dk_at dksJ17_toArray_2_3 12 rfl rfl)
theorem dJ17_toArray_2_84 : decode cJ17_toArray_2 84 = .ok (.aload_n 2, 1) := dk_44 (dk_at dksJ17_toArray_2_3 15 rfl rfl)
theorem dJ17_toArray_2_85 : decode cJ17_toArray_2 85 = .ok (.iconst 0, 1) := dk_3 (dk_at dksJ17_toArray_2_3 16 rfl rfl)
theorem dJ17_toArray_2_86 : decode cJ17_toArray_2 86 = .ok (.aload_n 3, 1) := dk_45 (dk_at dksJ17_toArray_2_3 17 rfl rfl)
theorem dJ17_toArray_2_87 : decode cJ17_toArray_2 87 = .ok (.aload_n 2, 1) := dk_44 (dk_at dksJ17_toArray_2_3 18 rfl rfl)
theorem dJ17_toArray_2_88 : decode cJ17_toArray_2 88 = .ok (.arraylength, 1) := dk_190 (dk_at dksJ17_toArray_2_3 19 rfl rfl)
theorem dJ17_toArray_2_89 : decode cJ17_toArray_2 89 = .ok (.iload 4, 2) := dk_21 4 (dk_at dksJ17_toArray_2_3 20 rfl rfl)
theorem dJ17_toArray_2_91 : decode cJ17_toArray_2 91 = .ok (.isub, 1) := dk_100 (dk_at dksJ17_toArray_2_3 22 rfl rfl)
theorem dJ17_toArray_2_92 : decode cJ17_toArray_2 92 = .ok (.iload 5, 2) := dk_21 5 (dk_at dksJ17_toArray_2_4 0 rfl rfl)
theorem dJ17_toArray_2_94 : decode cJ17_toArray_2 94 = .ok (.invokestatic 27, 3) := dk_184 0 27 (dk_at dksJ17_toArray_2_4 2 rfl rfl)
theorem dJ17_toArray_2_97 : decode cJ17_toArray_2 97 = .ok (.aload_n 3, 1) := dk_45 (dk_at dksJ17_toArray_2_4 5 rfl rfl)
theorem dJ17_toArray_2_98 : decode cJ17_toArray_2 98 = .ok (.areturn, 1) := dk_176 (dk_at dksJ17_toArray_2_4 6 rfl rfl)
abbrev cJ17_size : ByteArray := prog_42_method_37_code
def yJ17_size : MethodName := ⟨RJ17, "size", "()I"⟩
def dkwJ17_size_0 : List UInt8 := [42, 180, 0, 20, 42, 180, 0, 24, 42, 180, 0, 3, 190, 184, 0, 127, 172]
abbrev dktJ17_size_0 : List UInt8 := dkwJ17_size_0 ++ []
theorem dksJ17_size_0 : cJ17_size.data.toList.drop 0 = dktJ17_size_0 := by decide +kernel
theorem dJ17_size_0 : decode cJ17_size 0 = .ok (.aload_n 0, 1) := dk_42 (dk_at dksJ17_size_0 0 rfl rfl)
theorem dJ17_size_1 : decode cJ17_size 1 = .ok (.getfield 20, 3) := dk_180 0 20 (dk_at dksJ17_size_0 1 rfl rfl)
theorem dJ17_size_4 : decode cJ17_size 4 = .ok (.aload_n 0, 1) := dk_42 (dk_at dksJ17_size_0 4 rfl rfl)
theorem dJ17_size_5 : decode cJ17_size 5 = .ok (.getfield 24, 3) := dk_180 0 24 (dk_at dksJ17_size_0 5 rfl rfl)
theorem dJ17_size_8 : decode cJ17_size 8 = .ok (.aload_n 0, 1) := dk_42 (dk_at dksJ17_size_0 8 rfl rfl)
theorem dJ17_size_9 : decode cJ17_size 9 = .ok (.getfield 3, 3) := dk_180 0 3 (dk_at dksJ17_size_0 9 rfl rfl)
theorem dJ17_size_12 : decode cJ17_size 12 = .ok (.arraylength, 1) := dk_190 (dk_at dksJ17_size_0 12 rfl rfl)
theorem dJ17_size_13 : decode cJ17_size 13 = .ok (.invokestatic 127, 3) := dk_184 0 127 (dk_at dksJ17_size_0 13 rfl rfl)
theorem dJ17_size_16 : decode cJ17_size 16 = .ok (.ireturn, 1) := dk_172 (dk_at dksJ17_size_0 16 rfl rfl)
abbrev cJ17_sub : ByteArray := prog_42_method_9_code
def yJ17_sub : MethodName := ⟨RJ17, "sub", "(III)I"⟩
def dkwJ17_sub_0 : List UInt8 := [26, 27, 100, 89, 59, 156, 0, 7, 26, 28, 96, 59, 26, 172]
abbrev dktJ17_sub_0 : List UInt8 := dkwJ17_sub_0 ++ []
theorem dksJ17_sub_0 : cJ17_sub.data.toList.drop 0 = dktJ17_sub_0 := by decide +kernel
theorem dJ17_sub_0 : decode cJ17_sub 0 = .ok (.iload_n 0, 1) := dk_26 (dk_at dksJ17_sub_0 0 rfl rfl)
theorem dJ17_sub_1 : decode cJ17_sub 1 = .ok (.iload_n 1, 1) := dk_27 (dk_at dksJ17_sub_0 1 rfl rfl)
theorem dJ17_sub_2 : decode cJ17_sub 2 = .ok (.isub, 1) := dk_100 (dk_at dksJ17_sub_0 2 rfl rfl)
theorem dJ17_sub_3 : decode cJ17_sub 3 = .ok (.dup, 1) := dk_89 (dk_at dksJ17_sub_0 3 rfl rfl)
theorem dJ17_sub_4 : decode cJ17_sub 4 = .ok (.istore_n 0, 1) := dk_59 (dk_at dksJ17_sub_0 4 rfl rfl)
theorem dJ17_sub_5 : decode cJ17_sub 5 = .ok (.ifCond .ge 7, 3) := dk_156 0 7 (dk_at dksJ17_sub_0 5 rfl rfl)
theorem dJ17_sub_8 : decode cJ17_sub 8 = .ok (.iload_n 0, 1) := dk_26 (dk_at dksJ17_sub_0 8 rfl rfl)
theorem dJ17_sub_9 : decode cJ17_sub 9 = .ok (.iload_n 2, 1) := dk_28 (dk_at dksJ17_sub_0 9 rfl rfl)
theorem dJ17_sub_10 : decode cJ17_sub 10 = .ok (.iadd, 1) := dk_96 (dk_at dksJ17_sub_0 10 rfl rfl)
theorem dJ17_sub_11 : decode cJ17_sub 11 = .ok (.istore_n 0, 1) := dk_59 (dk_at dksJ17_sub_0 11 rfl rfl)
theorem dJ17_sub_12 : decode cJ17_sub 12 = .ok (.iload_n 0, 1) := dk_26 (dk_at dksJ17_sub_0 12 rfl rfl)
theorem dJ17_sub_13 : decode cJ17_sub 13 = .ok (.ireturn, 1) := dk_172 (dk_at dksJ17_sub_0 13 rfl rfl)
abbrev cJ17_removeFirst : ByteArray := prog_42_method_18_code
def yJ17_removeFirst : MethodName := ⟨RJ17, "removeFirst", "()Ljava/lang/Object;"⟩
def dkwJ17_removeFirst_0 : List UInt8 := [42, 182, 0, 93, 76, 43, 199, 0, 11, 187, 0, 97, 89, 183, 0, 99, 191, 43, 176]
abbrev dktJ17_removeFirst_0 : List UInt8 := dkwJ17_removeFirst_0 ++ []
theorem dksJ17_removeFirst_0 : cJ17_removeFirst.data.toList.drop 0 = dktJ17_removeFirst_0 := by decide +kernel
theorem dJ17_removeFirst_0 : decode cJ17_removeFirst 0 = .ok (.aload_n 0, 1) := dk_42 (dk_at dksJ17_removeFirst_0 0 rfl rfl)
theorem dJ17_removeFirst_1 : decode cJ17_removeFirst 1 = .ok (.invokevirtual 93, 3) := dk_182 0 93 (dk_at dksJ17_removeFirst_0 1 rfl rfl)
theorem dJ17_removeFirst_4 : decode cJ17_removeFirst 4 = .ok (.astore_n 1, 1) := dk_76 (dk_at dksJ17_removeFirst_0 4 rfl rfl)
theorem dJ17_removeFirst_5 : decode cJ17_removeFirst 5 = .ok (.aload_n 1, 1) := dk_43 (dk_at dksJ17_removeFirst_0 5 rfl rfl)
theorem dJ17_removeFirst_6 : decode cJ17_removeFirst 6 = .ok (.ifnonnull 11, 3) := dk_199 0 11 (dk_at dksJ17_removeFirst_0 6 rfl rfl)
theorem dJ17_removeFirst_9 : decode cJ17_removeFirst 9 = .ok (.new 97, 3) := dk_187 0 97 (dk_at dksJ17_removeFirst_0 9 rfl rfl)
theorem dJ17_removeFirst_12 : decode cJ17_removeFirst 12 = .ok (.dup, 1) := dk_89 (dk_at dksJ17_removeFirst_0 12 rfl rfl)
theorem dJ17_removeFirst_13 : decode cJ17_removeFirst 13 = .ok (.invokespecial 99, 3) := dk_183 0 99 (dk_at dksJ17_removeFirst_0 13 rfl rfl)
theorem dJ17_removeFirst_16 : decode cJ17_removeFirst 16 = .ok (.athrow, 1) := dk_191 (dk_at dksJ17_removeFirst_0 16 rfl rfl)
theorem dJ17_removeFirst_17 : decode cJ17_removeFirst 17 = .ok (.aload_n 1, 1) := dk_43 (dk_at dksJ17_removeFirst_0 17 rfl rfl)
theorem dJ17_removeFirst_18 : decode cJ17_removeFirst 18 = .ok (.areturn, 1) := dk_176 (dk_at dksJ17_removeFirst_0 18 rfl rfl)
abbrev cJ17_pollFirst : ByteArray := prog_42_method_20_code
def yJ17_pollFirst : MethodName := ⟨RJ17, "pollFirst", "()Ljava/lang/Object;"⟩
def dkwJ17_pollFirst_1 : List UInt8 := [42, 28, 43, 190, 184, 0, 74, 181, 0, 24, 45, 176]
abbrev dktJ17_pollFirst_1 : List UInt8 := dkwJ17_pollFirst_1 ++ []
def dkwJ17_pollFirst_0 : List UInt8 := [42, 180, 0, 3, 89, 76, 42, 180, 0, 24, 89, 61, 184, 0, 103, 78, 45, 198, 0, 17, 43, 28, 1, 83]
abbrev dktJ17_pollFirst_0 : List UInt8 := dkwJ17_pollFirst_0 ++ dktJ17_pollFirst_1
theorem dksJ17_pollFirst_0 : cJ17_pollFirst.data.toList.drop 0 = dktJ17_pollFirst_0 := by decide +kernel
theorem dksJ17_pollFirst_1 : cJ17_pollFirst.data.toList.drop 24 = dktJ17_pollFirst_1 := dk_seg dksJ17_pollFirst_0 24 rfl rfl
theorem dJ17_pollFirst_0 : decode cJ17_pollFirst 0 = .ok (.aload_n 0, 1) := dk_42 (dk_at dksJ17_pollFirst_0 0 rfl rfl)
theorem dJ17_pollFirst_1 : decode cJ17_pollFirst 1 = .ok (.getfield 3, 3) := dk_180 0 3 (dk_at dksJ17_pollFirst_0 1 rfl rfl)
theorem dJ17_pollFirst_4 : decode cJ17_pollFirst 4 = .ok (.dup, 1) := dk_89 (dk_at dksJ17_pollFirst_0 4 rfl rfl)
theorem dJ17_pollFirst_5 : decode cJ17_pollFirst 5 = .ok (.astore_n 1, 1) := dk_76 (dk_at dksJ17_pollFirst_0 5 rfl rfl)
theorem dJ17_pollFirst_6 : decode cJ17_pollFirst 6 = .ok (.aload_n 0, 1) := dk_42 (dk_at dksJ17_pollFirst_0 6 rfl rfl)
theorem dJ17_pollFirst_7 : decode cJ17_pollFirst 7 = .ok (.getfield 24, 3) := dk_180 0 24 (dk_at dksJ17_pollFirst_0 7 rfl rfl)
theorem dJ17_pollFirst_10 : decode cJ17_pollFirst 10 = .ok (.dup, 1) := dk_89 (dk_at dksJ17_pollFirst_0 10 rfl rfl)
theorem dJ17_pollFirst_11 : decode cJ17_pollFirst 11 = .ok (.istore_n 2, 1) := dk_61 (dk_at dksJ17_pollFirst_0 11 rfl rfl)
theorem dJ17_pollFirst_12 : decode cJ17_pollFirst 12 = .ok (.invokestatic 103, 3) := dk_184 0 103 (dk_at dksJ17_pollFirst_0 12 rfl rfl)
theorem dJ17_pollFirst_15 : decode cJ17_pollFirst 15 = .ok (.astore_n 3, 1) := dk_78 (dk_at dksJ17_pollFirst_0 15 rfl rfl)
theorem dJ17_pollFirst_16 : decode cJ17_pollFirst 16 = .ok (.aload_n 3, 1) := dk_45 (dk_at dksJ17_pollFirst_0 16 rfl rfl)
theorem dJ17_pollFirst_17 : decode cJ17_pollFirst 17 = .ok (.ifnull 17, 3) := dk_198 0 17 (dk_at dksJ17_pollFirst_0 17 rfl rfl)
theorem dJ17_pollFirst_20 : decode cJ17_pollFirst 20 = .ok (.aload_n 1, 1) := dk_43 (dk_at dksJ17_pollFirst_0 20 rfl rfl)
theorem dJ17_pollFirst_21 : decode cJ17_pollFirst 21 = .ok (.iload_n 2, 1) := dk_28 (dk_at dksJ17_pollFirst_0 21 rfl rfl)
theorem dJ17_pollFirst_22 : decode cJ17_pollFirst 22 = .ok (.aconst_null, 1) := dk_1 (dk_at dksJ17_pollFirst_0 22 rfl rfl)
theorem dJ17_pollFirst_23 : decode cJ17_pollFirst 23 = .ok (.aastore, 1) := dk_83 (dk_at dksJ17_pollFirst_0 23 rfl rfl)
theorem dJ17_pollFirst_24 : decode cJ17_pollFirst 24 = .ok (.aload_n 0, 1) := dk_42 (dk_at dksJ17_pollFirst_1 0 rfl rfl)
theorem dJ17_pollFirst_25 : decode cJ17_pollFirst 25 = .ok (.iload_n 2, 1) := dk_28 (dk_at dksJ17_pollFirst_1 1 rfl rfl)
theorem dJ17_pollFirst_26 : decode cJ17_pollFirst 26 = .ok (.aload_n 1, 1) := dk_43 (dk_at dksJ17_pollFirst_1 2 rfl rfl)
theorem dJ17_pollFirst_27 : decode cJ17_pollFirst 27 = .ok (.arraylength, 1) := dk_190 (dk_at dksJ17_pollFirst_1 3 rfl rfl)
theorem dJ17_pollFirst_28 : decode cJ17_pollFirst 28 = .ok (.invokestatic 74, 3) := dk_184 0 74 (dk_at dksJ17_pollFirst_1 4 rfl rfl)
theorem dJ17_pollFirst_31 : decode cJ17_pollFirst 31 = .ok (.putfield 24, 3) := dk_181 0 24 (dk_at dksJ17_pollFirst_1 7 rfl rfl)
theorem dJ17_pollFirst_34 : decode cJ17_pollFirst 34 = .ok (.aload_n 3, 1) := dk_45 (dk_at dksJ17_pollFirst_1 10 rfl rfl)
theorem dJ17_pollFirst_35 : decode cJ17_pollFirst 35 = .ok (.areturn, 1) := dk_176 (dk_at dksJ17_pollFirst_1 11 rfl rfl)
abbrev cJ17_elementAt : ByteArray := prog_42_method_10_code
def yJ17_elementAt : MethodName := ⟨RJ17, "elementAt", "([Ljava/lang/Object;I)Ljava/lang/Object;"⟩
def dkwJ17_elementAt_0 : List UInt8 := [42, 27, 50, 176]
abbrev dktJ17_elementAt_0 : List UInt8 := dkwJ17_elementAt_0 ++ []
theorem dksJ17_elementAt_0 : cJ17_elementAt.data.toList.drop 0 = dktJ17_elementAt_0 := by decide +kernel
theorem dJ17_elementAt_0 : decode cJ17_elementAt 0 = .ok (.aload_n 0, 1) := dk_42 (dk_at dksJ17_elementAt_0 0 rfl rfl)
theorem dJ17_elementAt_1 : decode cJ17_elementAt 1 = .ok (.iload_n 1, 1) := dk_27 (dk_at dksJ17_elementAt_0 1 rfl rfl)
theorem dJ17_elementAt_2 : decode cJ17_elementAt 2 = .ok (.aaload, 1) := dk_50 (dk_at dksJ17_elementAt_0 2 rfl rfl)
theorem dJ17_elementAt_3 : decode cJ17_elementAt 3 = .ok (.areturn, 1) := dk_176 (dk_at dksJ17_elementAt_0 3 rfl rfl)
abbrev cJ17_inc : ByteArray := prog_42_method_6_code
def yJ17_inc : MethodName := ⟨RJ17, "inc", "(II)I"⟩
def dkwJ17_inc_0 : List UInt8 := [132, 0, 1, 26, 27, 161, 0, 5, 3, 59, 26, 172]
abbrev dktJ17_inc_0 : List UInt8 := dkwJ17_inc_0 ++ []
theorem dksJ17_inc_0 : cJ17_inc.data.toList.drop 0 = dktJ17_inc_0 := by decide +kernel
theorem dJ17_inc_0 : decode cJ17_inc 0 = .ok (.iinc 0 1, 3) := dk_132 0 1 (dk_at dksJ17_inc_0 0 rfl rfl)
theorem dJ17_inc_3 : decode cJ17_inc 3 = .ok (.iload_n 0, 1) := dk_26 (dk_at dksJ17_inc_0 3 rfl rfl)
theorem dJ17_inc_4 : decode cJ17_inc 4 = .ok (.iload_n 1, 1) := dk_27 (dk_at dksJ17_inc_0 4 rfl rfl)
theorem dJ17_inc_5 : decode cJ17_inc 5 = .ok (.if_icmp .lt 5, 3) := dk_161 0 5 (dk_at dksJ17_inc_0 5 rfl rfl)
theorem dJ17_inc_8 : decode cJ17_inc 8 = .ok (.iconst 0, 1) := dk_3 (dk_at dksJ17_inc_0 8 rfl rfl)
theorem dJ17_inc_9 : decode cJ17_inc 9 = .ok (.istore_n 0, 1) := dk_59 (dk_at dksJ17_inc_0 9 rfl rfl)
theorem dJ17_inc_10 : decode cJ17_inc 10 = .ok (.iload_n 0, 1) := dk_26 (dk_at dksJ17_inc_0 10 rfl rfl)
theorem dJ17_inc_11 : decode cJ17_inc 11 = .ok (.ireturn, 1) := dk_172 (dk_at dksJ17_inc_0 11 rfl rfl)
abbrev cJ17_addLast : ByteArray := prog_42_method_13_code
def yJ17_addLast : MethodName := ⟨RJ17, "addLast", "(Ljava/lang/Object;)V"⟩
def dkwJ17_addLast_2 : List UInt8 := [182, 0, 71, 177]
abbrev dktJ17_addLast_2 : List UInt8 := dkwJ17_addLast_2 ++ []
def dkwJ17_addLast_1 : List UInt8 := [42, 180, 0, 24, 42, 42, 180, 0, 20, 44, 190, 184, 0, 74, 90, 181, 0, 20, 160, 0, 8, 42, 4]
abbrev dktJ17_addLast_1 : List UInt8 := dkwJ17_addLast_1 ++ dktJ17_addLast_2
def dkwJ17_addLast_0 : List UInt8 := [43, 199, 0, 11, 187, 0, 65, 89, 183, 0, 67, 191, 42, 180, 0, 3, 77, 44, 42, 180, 0, 20, 43, 83]
abbrev dktJ17_addLast_0 : List UInt8 := dkwJ17_addLast_0 ++ dktJ17_addLast_1
theorem dksJ17_addLast_0 : cJ17_addLast.data.toList.drop 0 = dktJ17_addLast_0 := by decide +kernel
theorem dksJ17_addLast_1 : cJ17_addLast.data.toList.drop 24 = dktJ17_addLast_1 := dk_seg dksJ17_addLast_0 24 rfl rfl
theorem dksJ17_addLast_2 : cJ17_addLast.data.toList.drop 47 = dktJ17_addLast_2 := dk_seg dksJ17_addLast_1 23 rfl rfl
theorem dJ17_addLast_0 : decode cJ17_addLast 0 = .ok (.aload_n 1, 1) := dk_43 (dk_at dksJ17_addLast_0 0 rfl rfl)
theorem dJ17_addLast_1 : decode cJ17_addLast 1 = .ok (.ifnonnull 11, 3) := dk_199 0 11 (dk_at dksJ17_addLast_0 1 rfl rfl)
theorem dJ17_addLast_4 : decode cJ17_addLast 4 = .ok (.new 65, 3) := dk_187 0 65 (dk_at dksJ17_addLast_0 4 rfl rfl)
theorem dJ17_addLast_7 : decode cJ17_addLast 7 = .ok (.dup, 1) := dk_89 (dk_at dksJ17_addLast_0 7 rfl rfl)
theorem dJ17_addLast_8 : decode cJ17_addLast 8 = .ok (.invokespecial 67, 3) := dk_183 0 67 (dk_at dksJ17_addLast_0 8 rfl rfl)
theorem dJ17_addLast_11 : decode cJ17_addLast 11 = .ok (.athrow, 1) := dk_191 (dk_at dksJ17_addLast_0 11 rfl rfl)
theorem dJ17_addLast_12 : decode cJ17_addLast 12 = .ok (.aload_n 0, 1) := dk_42 (dk_at dksJ17_addLast_0 12 rfl rfl)
theorem dJ17_addLast_13 : decode cJ17_addLast 13 = .ok (.getfield 3, 3) := dk_180 0 3 (dk_at dksJ17_addLast_0 13 rfl rfl)
theorem dJ17_addLast_16 : decode cJ17_addLast 16 = .ok (.astore_n 2, 1) := dk_77 (dk_at dksJ17_addLast_0 16 rfl rfl)
theorem dJ17_addLast_17 : decode cJ17_addLast 17 = .ok (.aload_n 2, 1) := dk_44 (dk_at dksJ17_addLast_0 17 rfl rfl)
theorem dJ17_addLast_18 : decode cJ17_addLast 18 = .ok (.aload_n 0, 1) := dk_42 (dk_at dksJ17_addLast_0 18 rfl rfl)
theorem dJ17_addLast_19 : decode cJ17_addLast 19 = .ok (.getfield 20, 3) := dk_180 0 20 (dk_at dksJ17_addLast_0 19 rfl rfl)
theorem dJ17_addLast_22 : decode cJ17_addLast 22 = .ok (.aload_n 1, 1) := dk_43 (dk_at dksJ17_addLast_0 22 rfl rfl)
theorem dJ17_addLast_23 : decode cJ17_addLast 23 = .ok (.aastore, 1) := dk_83 (dk_at dksJ17_addLast_0 23 rfl rfl)
theorem dJ17_addLast_24 : decode cJ17_addLast 24 = .ok (.aload_n 0, 1) := dk_42 (dk_at dksJ17_addLast_1 0 rfl rfl)
theorem dJ17_addLast_25 : decode cJ17_addLast 25 = .ok (.getfield 24, 3) := dk_180 0 24 (dk_at dksJ17_addLast_1 1 rfl rfl)
theorem dJ17_addLast_28 : decode cJ17_addLast 28 = .ok (.aload_n 0, 1) := dk_42 (dk_at dksJ17_addLast_1 4 rfl rfl)
theorem dJ17_addLast_29 : decode cJ17_addLast 29 = .ok (.aload_n 0, 1) := dk_42 (dk_at dksJ17_addLast_1 5 rfl rfl)
theorem dJ17_addLast_30 : decode cJ17_addLast 30 = .ok (.getfield 20, 3) := dk_180 0 20 (dk_at dksJ17_addLast_1 6 rfl rfl)
theorem dJ17_addLast_33 : decode cJ17_addLast 33 = .ok (.aload_n 2, 1) := dk_44 (dk_at dksJ17_addLast_1 9 rfl rfl)
theorem dJ17_addLast_34 : decode cJ17_addLast 34 = .ok (.arraylength, 1) := dk_190 (dk_at dksJ17_addLast_1 10 rfl rfl)
theorem dJ17_addLast_35 : decode cJ17_addLast 35 = .ok (.invokestatic 74, 3) := dk_184 0 74 (dk_at dksJ17_addLast_1 11 rfl rfl)
theorem dJ17_addLast_38 : decode cJ17_addLast 38 = .ok (.dup_x1, 1) := dk_90 (dk_at dksJ17_addLast_1 14 rfl rfl)
theorem dJ17_addLast_39 : decode cJ17_addLast 39 = .ok (.putfield 20, 3) := dk_181 0 20 (dk_at dksJ17_addLast_1 15 rfl rfl)
theorem dJ17_addLast_42 : decode cJ17_addLast 42 = .ok (.if_icmp .ne 8, 3) := dk_160 0 8 (dk_at dksJ17_addLast_1 18 rfl rfl)
theorem dJ17_addLast_45 : decode cJ17_addLast 45 = .ok (.aload_n 0, 1) := dk_42 (dk_at dksJ17_addLast_1 21 rfl rfl)
theorem dJ17_addLast_46 : decode cJ17_addLast 46 = .ok (.iconst 1, 1) := dk_4 (dk_at dksJ17_addLast_1 22 rfl rfl)
theorem dJ17_addLast_47 : decode cJ17_addLast 47 = .ok (.invokevirtual 71, 3) := dk_182 0 71 (dk_at dksJ17_addLast_2 0 rfl rfl)
theorem dJ17_addLast_50 : decode cJ17_addLast 50 = .ok (.return_, 1) := dk_177 (dk_at dksJ17_addLast_2 3 rfl rfl)
abbrev cJ17_grow : ByteArray := prog_42_method_1_code
def yJ17_grow : MethodName := ⟨RJ17, "grow", "(I)V"⟩
def dkwJ17_grow_7 : List UInt8 := [177]
abbrev dktJ17_grow_7 : List UInt8 := dkwJ17_grow_7 ++ []
def dkwJ17_grow_6 : List UInt8 := [181, 0, 24, 54, 8, 21, 7, 21, 8, 162, 0, 15, 25, 5, 21, 7, 1, 83, 132, 7, 1, 167, 255, 240]
abbrev dktJ17_grow_6 : List UInt8 := dkwJ17_grow_6 ++ dktJ17_grow_7
def dkwJ17_grow_5 : List UInt8 := [42, 180, 0, 24, 100, 184, 0, 27, 42, 180, 0, 24, 54, 7, 42, 89, 180, 0, 24, 21, 6, 96, 90]
abbrev dktJ17_grow_5 : List UInt8 := dkwJ17_grow_5 ++ dktJ17_grow_6
def dkwJ17_grow_4 : List UInt8 := [198, 0, 71, 29, 28, 100, 54, 6, 25, 5, 42, 180, 0, 24, 25, 5, 42, 180, 0, 24, 21, 6, 96, 28]
abbrev dktJ17_grow_4 : List UInt8 := dkwJ17_grow_4 ++ dktJ17_grow_5
def dkwJ17_grow_3 : List UInt8 := [180, 0, 24, 161, 0, 24, 42, 180, 0, 20, 42, 180, 0, 24, 160, 0, 81, 25, 5, 42, 180, 0, 24, 50]
abbrev dktJ17_grow_3 : List UInt8 := dkwJ17_grow_3 ++ dktJ17_grow_4
def dkwJ17_grow_2 : List UInt8 := [182, 0, 10, 62, 42, 42, 180, 0, 3, 29, 184, 0, 14, 90, 181, 0, 3, 58, 5, 42, 180, 0, 20, 42]
abbrev dktJ17_grow_2 : List UInt8 := dkwJ17_grow_2 ++ dktJ17_grow_3
def dkwJ17_grow_1 : List UInt8 := [21, 4, 27, 161, 0, 15, 28, 21, 4, 96, 89, 62, 18, 9, 100, 158, 0, 11, 42, 27, 21, 4]
abbrev dktJ17_grow_1 : List UInt8 := dkwJ17_grow_1 ++ dktJ17_grow_2
def dkwJ17_grow_0 : List UInt8 := [42, 180, 0, 3, 190, 61, 28, 16, 64, 162, 0, 9, 28, 5, 96, 167, 0, 6, 28, 4, 122, 54, 4]
abbrev dktJ17_grow_0 : List UInt8 := dkwJ17_grow_0 ++ dktJ17_grow_1
theorem dksJ17_grow_0 : cJ17_grow.data.toList.drop 0 = dktJ17_grow_0 := by decide +kernel
theorem dksJ17_grow_1 : cJ17_grow.data.toList.drop 23 = dktJ17_grow_1 := dk_seg dksJ17_grow_0 23 rfl rfl
theorem dksJ17_grow_2 : cJ17_grow.data.toList.drop 45 = dktJ17_grow_2 := dk_seg dksJ17_grow_1 22 rfl rfl
theorem dksJ17_grow_3 : cJ17_grow.data.toList.drop 69 = dktJ17_grow_3 := dk_seg dksJ17_grow_2 24 rfl rfl
theorem dksJ17_grow_4 : cJ17_grow.data.toList.drop 93 = dktJ17_grow_4 := dk_seg dksJ17_grow_3 24 rfl rfl
theorem dksJ17_grow_5 : cJ17_grow.data.toList.drop 117 = dktJ17_grow_5 := dk_seg dksJ17_grow_4 24 rfl rfl
theorem dksJ17_grow_6 : cJ17_grow.data.toList.drop 140 = dktJ17_grow_6 := dk_seg dksJ17_grow_5 23 rfl rfl
theorem dksJ17_grow_7 : cJ17_grow.data.toList.drop 164 = dktJ17_grow_7 := dk_seg dksJ17_grow_6 24 rfl rfl
theorem dJ17_grow_0 : decode cJ17_grow 0 = .ok (.aload_n 0, 1) := dk_42 (dk_at dksJ17_grow_0 0 rfl rfl)
theorem dJ17_grow_1 : decode cJ17_grow 1 = .ok (.getfield 3, 3) := dk_180 0 3 (dk_at dksJ17_grow_0 1 rfl rfl)
theorem dJ17_grow_4 : decode cJ17_grow 4 = .ok (.arraylength, 1) := dk_190 (dk_at dksJ17_grow_0 4 rfl rfl)
theorem dJ17_grow_5 : decode cJ17_grow 5 = .ok (.istore_n 2, 1) := dk_61 (dk_at dksJ17_grow_0 5 rfl rfl)
theorem dJ17_grow_6 : decode cJ17_grow 6 = .ok (.iload_n 2, 1) := dk_28 (dk_at dksJ17_grow_0 6 rfl rfl)
theorem dJ17_grow_7 : decode cJ17_grow 7 = .ok (.bipush 64, 2) := dk_16 64 (dk_at dksJ17_grow_0 7 rfl rfl)
theorem dJ17_grow_9 : decode cJ17_grow 9 = .ok (.if_icmp .ge 9, 3) := dk_162 0 9 (dk_at dksJ17_grow_0 9 rfl rfl)
theorem dJ17_grow_12 : decode cJ17_grow 12 = .ok (.iload_n 2, 1) := dk_28 (dk_at dksJ17_grow_0 12 rfl rfl)
theorem dJ17_grow_13 : decode cJ17_grow 13 = .ok (.iconst 2, 1) := dk_5 (dk_at dksJ17_grow_0 13 rfl rfl)
theorem dJ17_grow_14 : decode cJ17_grow 14 = .ok (.iadd, 1) := dk_96 (dk_at dksJ17_grow_0 14 rfl rfl)
theorem dJ17_grow_15 : decode cJ17_grow 15 = .ok (.goto 6, 3) := dk_167 0 6 (dk_at dksJ17_grow_0 15 rfl rfl)
theorem dJ17_grow_18 : decode cJ17_grow 18 = .ok (.iload_n 2, 1) := dk_28 (dk_at dksJ17_grow_0 18 rfl rfl)
theorem dJ17_grow_19 : decode cJ17_grow 19 = .ok (.iconst 1, 1) := dk_4 (dk_at dksJ17_grow_0 19 rfl rfl)
theorem dJ17_grow_20 : decode cJ17_grow 20 = .ok (.ishr, 1) := dk_122 (dk_at dksJ17_grow_0 20 rfl rfl)
theorem dJ17_grow_21 : decode cJ17_grow 21 = .ok (.istore 4, 2) := dk_54 4 (dk_at dksJ17_grow_0 21 rfl rfl)
theorem dJ17_grow_23 : decode cJ17_grow 23 = .ok (.iload 4, 2) := dk_21 4 (dk_at dksJ17_grow_1 0 rfl rfl)
theorem dJ17_grow_25 : decode cJ17_grow 25 = .ok (.iload_n 1, 1) := dk_27 (dk_at dksJ17_grow_1 2 rfl rfl)
theorem dJ17_grow_26 : decode cJ17_grow 26 = .ok (.if_icmp .lt 15, 3) := dk_161 0 15 (dk_at dksJ17_grow_1 3 rfl rfl)
theorem dJ17_grow_29 : decode cJ17_grow 29 = .ok (.iload_n 2, 1) := dk_28 (dk_at dksJ17_grow_1 6 rfl rfl)
theorem dJ17_grow_30 : decode cJ17_grow 30 = .ok (.iload 4, 2) := dk_21 4 (dk_at dksJ17_grow_1 7 rfl rfl)
theorem dJ17_grow_32 : decode cJ17_grow 32 = .ok (.iadd, 1) := dk_96 (dk_at dksJ17_grow_1 9 rfl rfl)
theorem dJ17_grow_33 : decode cJ17_grow 33 = .ok (.dup, 1) := dk_89 (dk_at dksJ17_grow_1 10 rfl rfl)
theorem dJ17_grow_34 : decode cJ17_grow 34 = .ok (.istore_n 3, 1) := dk_62 (dk_at dksJ17_grow_1 11 rfl rfl)
theorem dJ17_grow_35 : decode cJ17_grow 35 = .ok (.ldc 9, 2) := dk_18 9 (dk_at dksJ17_grow_1 12 rfl rfl)
theorem dJ17_grow_37 : decode cJ17_grow 37 = .ok (.isub, 1) := dk_100 (dk_at dksJ17_grow_1 14 rfl rfl)
theorem dJ17_grow_38 : decode cJ17_grow 38 = .ok (.ifCond .le 11, 3) := dk_158 0 11 (dk_at dksJ17_grow_1 15 rfl rfl)
theorem dJ17_grow_41 : decode cJ17_grow 41 = .ok (.aload_n 0, 1) := dk_42 (dk_at dksJ17_grow_1 18 rfl rfl)
theorem dJ17_grow_42 : decode cJ17_grow 42 = .ok (.iload_n 1, 1) := dk_27 (dk_at dksJ17_grow_1 19 rfl rfl)
theorem dJ17_grow_43 : decode cJ17_grow 43 = .ok (.iload 4, 2) := dk_21 4 (dk_at dksJ17_grow_1 20 rfl rfl)
theorem dJ17_grow_45 : decode cJ17_grow 45 = .ok (.invokevirtual 10, 3) := dk_182 0 10 (dk_at dksJ17_grow_2 0 rfl rfl)
theorem dJ17_grow_48 : decode cJ17_grow 48 = .ok (.istore_n 3, 1) := dk_62 (dk_at dksJ17_grow_2 3 rfl rfl)
theorem dJ17_grow_49 : decode cJ17_grow 49 = .ok (.aload_n 0, 1) := dk_42 (dk_at dksJ17_grow_2 4 rfl rfl)
theorem dJ17_grow_50 : decode cJ17_grow 50 = .ok (.aload_n 0, 1) := dk_42 (dk_at dksJ17_grow_2 5 rfl rfl)
theorem dJ17_grow_51 : decode cJ17_grow 51 = .ok (.getfield 3, 3) := dk_180 0 3 (dk_at dksJ17_grow_2 6 rfl rfl)
theorem dJ17_grow_54 : decode cJ17_grow 54 = .ok (.iload_n 3, 1) := dk_29 (dk_at dksJ17_grow_2 9 rfl rfl)
theorem dJ17_grow_55 : decode cJ17_grow 55 = .ok (.invokestatic 14, 3) := dk_184 0 14 (dk_at dksJ17_grow_2 10 rfl rfl)
theorem dJ17_grow_58 : decode cJ17_grow 58 = .ok (.dup_x1, 1) := dk_90 (dk_at dksJ17_grow_2 13 rfl rfl)
theorem dJ17_grow_59 : decode cJ17_grow 59 = .ok (.putfield 3, 3) := dk_181 0 3 (dk_at dksJ17_grow_2 14 rfl rfl)
theorem dJ17_grow_62 : decode cJ17_grow 62 = .ok (.astore 5, 2) := dk_58 5 (dk_at dksJ17_grow_2 17 rfl rfl)
theorem dJ17_grow_64 : decode cJ17_grow 64 = .ok (.aload_n 0, 1) := dk_42 (dk_at dksJ17_grow_2 19 rfl rfl)
theorem dJ17_grow_65 : decode cJ17_grow 65 = .ok (.getfield 20, 3) := dk_180 0 20 (dk_at dksJ17_grow_2 20 rfl rfl)
theorem dJ17_grow_68 : decode cJ17_grow 68 = .ok (.aload_n 0, 1) := dk_42 (dk_at dksJ17_grow_2 23 rfl rfl)
theorem dJ17_grow_69 : decode cJ17_grow 69 = .ok (.getfield 24, 3) := dk_180 0 24 (dk_at dksJ17_grow_3 0 rfl rfl)
theorem dJ17_grow_72 : decode cJ17_grow 72 = .ok (.if_icmp .lt 24, 3) := dk_161 0 24 (dk_at dksJ17_grow_3 3 rfl rfl)
theorem dJ17_grow_75 : decode cJ17_grow 75 = .ok (.aload_n 0, 1) := dk_42 (dk_at dksJ17_grow_3 6 rfl rfl)
theorem dJ17_grow_76 : decode cJ17_grow 76 = .ok (.getfield 20, 3) := dk_180 0 20 (dk_at dksJ17_grow_3 7 rfl rfl)
theorem dJ17_grow_79 : decode cJ17_grow 79 = .ok (.aload_n 0, 1) := dk_42 (dk_at dksJ17_grow_3 10 rfl rfl)
theorem dJ17_grow_80 : decode cJ17_grow 80 = .ok (.getfield 24, 3) := dk_180 0 24 (dk_at dksJ17_grow_3 11 rfl rfl)
theorem dJ17_grow_83 : decode cJ17_grow 83 = .ok (.if_icmp .ne 81, 3) := dk_160 0 81 (dk_at dksJ17_grow_3 14 rfl rfl)
theorem dJ17_grow_86 : decode cJ17_grow 86 = .ok (.aload 5, 2) := dk_25 5 (dk_at dksJ17_grow_3 17 rfl rfl)
theorem dJ17_grow_88 : decode cJ17_grow 88 = .ok (.aload_n 0, 1) := dk_42 (dk_at dksJ17_grow_3 19 rfl rfl)
theorem dJ17_grow_89 : decode cJ17_grow 89 = .ok (.getfield 24, 3) := dk_180 0 24 (dk_at dksJ17_grow_3 20 rfl rfl)
theorem dJ17_grow_92 : decode cJ17_grow 92 = .ok (.aaload, 1) := dk_50 (dk_at dksJ17_grow_3 23 rfl rfl)
theorem dJ17_grow_93 : decode cJ17_grow 93 = .ok (.ifnull 71, 3) := dk_198 0 71 (dk_at dksJ17_grow_4 0 rfl rfl)
theorem dJ17_grow_96 : decode cJ17_grow 96 = .ok (.iload_n 3, 1) := dk_29 (dk_at dksJ17_grow_4 3 rfl rfl)
theorem dJ17_grow_97 : decode cJ17_grow 97 = .ok (.iload_n 2, 1) := dk_28 (dk_at dksJ17_grow_4 4 rfl rfl)
theorem dJ17_grow_98 : decode cJ17_grow 98 = .ok (.isub, 1) := dk_100 (dk_at dksJ17_grow_4 5 rfl rfl)
theorem dJ17_grow_99 : decode cJ17_grow 99 = .ok (.istore 6, 2) := dk_54 6 (dk_at dksJ17_grow_4 6 rfl rfl)
theorem dJ17_grow_101 : decode cJ17_grow 101 = .ok (.aload 5, 2) := dk_25 5 (dk_at dksJ17_grow_4 8 rfl rfl)
theorem dJ17_grow_103 : decode cJ17_grow 103 = .ok (.aload_n 0, 1) := dk_42 (dk_at dksJ17_grow_4 10 rfl rfl)
theorem dJ17_grow_104 : decode cJ17_grow 104 = .ok (.getfield 24, 3) := dk_180 0 24 (dk_at dksJ17_grow_4 11 rfl rfl)
theorem dJ17_grow_107 : decode cJ17_grow 107 = .ok (.aload 5, 2) := dk_25 5 (dk_at dksJ17_grow_4 14 rfl rfl)
theorem dJ17_grow_109 : decode cJ17_grow 109 = .ok (.aload_n 0, 1) := dk_42 (dk_at dksJ17_grow_4 16 rfl rfl)
theorem dJ17_grow_110 : decode cJ17_grow 110 = .ok (.getfield 24, 3) := dk_180 0 24 (dk_at dksJ17_grow_4 17 rfl rfl)
theorem dJ17_grow_113 : decode cJ17_grow 113 = .ok (.iload 6, 2) := dk_21 6 (dk_at dksJ17_grow_4 20 rfl rfl)
theorem dJ17_grow_115 : decode cJ17_grow 115 = .ok (.iadd, 1) := dk_96 (dk_at dksJ17_grow_4 22 rfl rfl)
theorem dJ17_grow_116 : decode cJ17_grow 116 = .ok (.iload_n 2, 1) := dk_28 (dk_at dksJ17_grow_4 23 rfl rfl)
theorem dJ17_grow_117 : decode cJ17_grow 117 = .ok (.aload_n 0, 1) := dk_42 (dk_at dksJ17_grow_5 0 rfl rfl)
theorem dJ17_grow_118 : decode cJ17_grow 118 = .ok (.getfield 24, 3) := dk_180 0 24 (dk_at dksJ17_grow_5 1 rfl rfl)
theorem dJ17_grow_121 : decode cJ17_grow 121 = .ok (.isub, 1) := dk_100 (dk_at dksJ17_grow_5 4 rfl rfl)
theorem dJ17_grow_122 : decode cJ17_grow 122 = .ok (.invokestatic 27, 3) := dk_184 0 27 (dk_at dksJ17_grow_5 5 rfl rfl)
theorem dJ17_grow_125 : decode cJ17_grow 125 = .ok (.aload_n 0, 1) := dk_42 (dk_at dksJ17_grow_5 8 rfl rfl)
theorem dJ17_grow_126 : decode cJ17_grow 126 = .ok (.getfield 24, 3) := dk_180 0 24 (dk_at dksJ17_grow_5 9 rfl rfl)
theorem dJ17_grow_129 : decode cJ17_grow 129 = .ok (.istore 7, 2) := dk_54 7 (dk_at dksJ17_grow_5 12 rfl rfl)
theorem dJ17_grow_131 : decode cJ17_grow 131 = .ok (.aload_n 0, 1) := dk_42 (dk_at dksJ17_grow_5 14 rfl rfl)
theorem dJ17_grow_132 : decode cJ17_grow 132 = .ok (.dup, 1) := dk_89 (dk_at dksJ17_grow_5 15 rfl rfl)
theorem dJ17_grow_133 : decode cJ17_grow 133 = .ok (.getfield 24, 3) := dk_180 0 24 (dk_at dksJ17_grow_5 16 rfl rfl)
theorem dJ17_grow_136 : decode cJ17_grow 136 = .ok (.iload 6, 2) := dk_21 6 (dk_at dksJ17_grow_5 19 rfl rfl)
theorem dJ17_grow_138 : decode cJ17_grow 138 = .ok (.iadd, 1) := dk_96 (dk_at dksJ17_grow_5 21 rfl rfl)
theorem dJ17_grow_139 : decode cJ17_grow 139 = .ok (.dup_x1, 1) := dk_90 (dk_at dksJ17_grow_5 22 rfl rfl)
theorem dJ17_grow_140 : decode cJ17_grow 140 = .ok (.putfield 24, 3) := dk_181 0 24 (dk_at dksJ17_grow_6 0 rfl rfl)
theorem dJ17_grow_143 : decode cJ17_grow 143 = .ok (.istore 8, 2) := dk_54 8 (dk_at dksJ17_grow_6 3 rfl rfl)
theorem dJ17_grow_145 : decode cJ17_grow 145 = .ok (.iload 7, 2) := dk_21 7 (dk_at dksJ17_grow_6 5 rfl rfl)
theorem dJ17_grow_147 : decode cJ17_grow 147 = .ok (.iload 8, 2) := dk_21 8 (dk_at dksJ17_grow_6 7 rfl rfl)
theorem dJ17_grow_149 : decode cJ17_grow 149 = .ok (.if_icmp .ge 15, 3) := dk_162 0 15 (dk_at dksJ17_grow_6 9 rfl rfl)
theorem dJ17_grow_152 : decode cJ17_grow 152 = .ok (.aload 5, 2) := dk_25 5 (dk_at dksJ17_grow_6 12 rfl rfl)
theorem dJ17_grow_154 : decode cJ17_grow 154 = .ok (.iload 7, 2) := dk_21 7 (dk_at dksJ17_grow_6 14 rfl rfl)
theorem dJ17_grow_156 : decode cJ17_grow 156 = .ok (.aconst_null, 1) := dk_1 (dk_at dksJ17_grow_6 16 rfl rfl)
theorem dJ17_grow_157 : decode cJ17_grow 157 = .ok (.aastore, 1) := dk_83 (dk_at dksJ17_grow_6 17 rfl rfl)
theorem dJ17_grow_158 : decode cJ17_grow 158 = .ok (.iinc 7 1, 3) := dk_132 7 1 (dk_at dksJ17_grow_6 18 rfl rfl)
theorem dJ17_grow_161 : decode cJ17_grow 161 = .ok (.goto (-16), 3) := dk_167 255 240 (dk_at dksJ17_grow_6 21 rfl rfl)
theorem dJ17_grow_164 : decode cJ17_grow 164 = .ok (.return_, 1) := dk_177 (dk_at dksJ17_grow_7 0 rfl rfl)
abbrev cJ17_newCapacity : ByteArray := prog_42_method_2_code
def yJ17_newCapacity : MethodName := ⟨RJ17, "newCapacity", "(II)I"⟩
def dkwJ17_newCapacity_2 : List UInt8 := [18, 9, 100, 156, 0, 9, 29, 28, 96, 167, 0, 5, 18, 9, 172]
abbrev dktJ17_newCapacity_2 : List UInt8 := dkwJ17_newCapacity_2 ++ []
def dkwJ17_newCapacity_1 : List UInt8 := [187, 0, 33, 89, 18, 35, 183, 0, 37, 191, 18, 41, 172, 27, 28, 164, 0, 6, 21, 4, 172, 29, 28, 96]
abbrev dktJ17_newCapacity_1 : List UInt8 := dkwJ17_newCapacity_1 ++ dktJ17_newCapacity_2
def dkwJ17_newCapacity_0 : List UInt8 := [42, 180, 0, 3, 190, 62, 29, 27, 96, 89, 54, 4, 18, 9, 100, 158, 0, 21, 21, 4, 156, 0, 13]
abbrev dktJ17_newCapacity_0 : List UInt8 := dkwJ17_newCapacity_0 ++ dktJ17_newCapacity_1
theorem dksJ17_newCapacity_0 : cJ17_newCapacity.data.toList.drop 0 = dktJ17_newCapacity_0 := by decide +kernel
theorem dksJ17_newCapacity_1 : cJ17_newCapacity.data.toList.drop 23 = dktJ17_newCapacity_1 := dk_seg dksJ17_newCapacity_0 23 rfl rfl
theorem dksJ17_newCapacity_2 : cJ17_newCapacity.data.toList.drop 47 = dktJ17_newCapacity_2 := dk_seg dksJ17_newCapacity_1 24 rfl rfl
theorem dJ17_newCapacity_0 : decode cJ17_newCapacity 0 = .ok (.aload_n 0, 1) := dk_42 (dk_at dksJ17_newCapacity_0 0 rfl rfl)
theorem dJ17_newCapacity_1 : decode cJ17_newCapacity 1 = .ok (.getfield 3, 3) := dk_180 0 3 (dk_at dksJ17_newCapacity_0 1 rfl rfl)
theorem dJ17_newCapacity_4 : decode cJ17_newCapacity 4 = .ok (.arraylength, 1) := dk_190 (dk_at dksJ17_newCapacity_0 4 rfl rfl)
theorem dJ17_newCapacity_5 : decode cJ17_newCapacity 5 = .ok (.istore_n 3, 1) := dk_62 (dk_at dksJ17_newCapacity_0 5 rfl rfl)
theorem dJ17_newCapacity_6 : decode cJ17_newCapacity 6 = .ok (.iload_n 3, 1) := dk_29 (dk_at dksJ17_newCapacity_0 6 rfl rfl)
theorem dJ17_newCapacity_7 : decode cJ17_newCapacity 7 = .ok (.iload_n 1, 1) := dk_27 (dk_at dksJ17_newCapacity_0 7 rfl rfl)
theorem dJ17_newCapacity_8 : decode cJ17_newCapacity 8 = .ok (.iadd, 1) := dk_96 (dk_at dksJ17_newCapacity_0 8 rfl rfl)
theorem dJ17_newCapacity_9 : decode cJ17_newCapacity 9 = .ok (.dup, 1) := dk_89 (dk_at dksJ17_newCapacity_0 9 rfl rfl)
theorem dJ17_newCapacity_10 : decode cJ17_newCapacity 10 = .ok (.istore 4, 2) := dk_54 4 (dk_at dksJ17_newCapacity_0 10 rfl rfl)
theorem dJ17_newCapacity_12 : decode cJ17_newCapacity 12 = .ok (.ldc 9, 2) := dk_18 9 (dk_at dksJ17_newCapacity_0 12 rfl rfl)
theorem dJ17_newCapacity_14 : decode cJ17_newCapacity 14 = .ok (.isub, 1) := dk_100 (dk_at dksJ17_newCapacity_0 14 rfl rfl)
theorem dJ17_newCapacity_15 : decode cJ17_newCapacity 15 = .ok (.ifCond .le 21, 3) := dk_158 0 21 (dk_at dksJ17_newCapacity_0 15 rfl rfl)
theorem dJ17_newCapacity_18 : decode cJ17_newCapacity 18 = .ok (.iload 4, 2) := dk_21 4 (dk_at dksJ17_newCapacity_0 18 rfl rfl)
theorem dJ17_newCapacity_20 : decode cJ17_newCapacity 20 = .ok (.ifCond .ge 13, 3) := dk_156 0 13 (dk_at dksJ17_newCapacity_0 20 rfl rfl)
theorem dJ17_newCapacity_23 : decode cJ17_newCapacity 23 = .ok (.new 33, 3) := dk_187 0 33 (dk_at dksJ17_newCapacity_1 0 rfl rfl)
theorem dJ17_newCapacity_26 : decode cJ17_newCapacity 26 = .ok (.dup, 1) := dk_89 (dk_at dksJ17_newCapacity_1 3 rfl rfl)
theorem dJ17_newCapacity_27 : decode cJ17_newCapacity 27 = .ok (.ldc 35, 2) := dk_18 35 (dk_at dksJ17_newCapacity_1 4 rfl rfl)
theorem dJ17_newCapacity_29 : decode cJ17_newCapacity 29 = .ok (.invokespecial 37, 3) := dk_183 0 37 (dk_at dksJ17_newCapacity_1 6 rfl rfl)
theorem dJ17_newCapacity_32 : decode cJ17_newCapacity 32 = .ok (.athrow, 1) := dk_191 (dk_at dksJ17_newCapacity_1 9 rfl rfl)
theorem dJ17_newCapacity_33 : decode cJ17_newCapacity 33 = .ok (.ldc 41, 2) := dk_18 41 (dk_at dksJ17_newCapacity_1 10 rfl rfl)
theorem dJ17_newCapacity_35 : decode cJ17_newCapacity 35 = .ok (.ireturn, 1) := dk_172 (dk_at dksJ17_newCapacity_1 12 rfl rfl)
theorem dJ17_newCapacity_36 : decode cJ17_newCapacity 36 = .ok (.iload_n 1, 1) := dk_27 (dk_at dksJ17_newCapacity_1 13 rfl rfl)
theorem dJ17_newCapacity_37 : decode cJ17_newCapacity 37 = .ok (.iload_n 2, 1) := dk_28 (dk_at dksJ17_newCapacity_1 14 rfl rfl)
theorem dJ17_newCapacity_38 : decode cJ17_newCapacity 38 = .ok (.if_icmp .le 6, 3) := dk_164 0 6 (dk_at dksJ17_newCapacity_1 15 rfl rfl)
theorem dJ17_newCapacity_41 : decode cJ17_newCapacity 41 = .ok (.iload 4, 2) := dk_21 4 (dk_at dksJ17_newCapacity_1 18 rfl rfl)
theorem dJ17_newCapacity_43 : decode cJ17_newCapacity 43 = .ok (.ireturn, 1) := dk_172 (dk_at dksJ17_newCapacity_1 20 rfl rfl)
theorem dJ17_newCapacity_44 : decode cJ17_newCapacity 44 = .ok (.iload_n 3, 1) := dk_29 (dk_at dksJ17_newCapacity_1 21 rfl rfl)
theorem dJ17_newCapacity_45 : decode cJ17_newCapacity 45 = .ok (.iload_n 2, 1) := dk_28 (dk_at dksJ17_newCapacity_1 22 rfl rfl)
theorem dJ17_newCapacity_46 : decode cJ17_newCapacity 46 = .ok (.iadd, 1) := dk_96 (dk_at dksJ17_newCapacity_1 23 rfl rfl)
theorem dJ17_newCapacity_47 : decode cJ17_newCapacity 47 = .ok (.ldc 9, 2) := dk_18 9 (dk_at dksJ17_newCapacity_2 0 rfl rfl)
theorem dJ17_newCapacity_49 : decode cJ17_newCapacity 49 = .ok (.isub, 1) := dk_100 (dk_at dksJ17_newCapacity_2 2 rfl rfl)
theorem dJ17_newCapacity_50 : decode cJ17_newCapacity 50 = .ok (.ifCond .ge 9, 3) := dk_156 0 9 (dk_at dksJ17_newCapacity_2 3 rfl rfl)
theorem dJ17_newCapacity_53 : decode cJ17_newCapacity 53 = .ok (.iload_n 3, 1) := dk_29 (dk_at dksJ17_newCapacity_2 6 rfl rfl)
theorem dJ17_newCapacity_54 : decode cJ17_newCapacity 54 = .ok (.iload_n 2, 1) := dk_28 (dk_at dksJ17_newCapacity_2 7 rfl rfl)
theorem dJ17_newCapacity_55 : decode cJ17_newCapacity 55 = .ok (.iadd, 1) := dk_96 (dk_at dksJ17_newCapacity_2 8 rfl rfl)
theorem dJ17_newCapacity_56 : decode cJ17_newCapacity 56 = .ok (.goto 5, 3) := dk_167 0 5 (dk_at dksJ17_newCapacity_2 9 rfl rfl)
theorem dJ17_newCapacity_59 : decode cJ17_newCapacity 59 = .ok (.ldc 9, 2) := dk_18 9 (dk_at dksJ17_newCapacity_2 12 rfl rfl)
theorem dJ17_newCapacity_61 : decode cJ17_newCapacity 61 = .ok (.ireturn, 1) := dk_172 (dk_at dksJ17_newCapacity_2 14 rfl rfl)
abbrev cJ17_isEmpty : ByteArray := prog_42_method_38_code
def yJ17_isEmpty : MethodName := ⟨RJ17, "isEmpty", "()Z"⟩
def dkwJ17_isEmpty_0 : List UInt8 := [42, 180, 0, 24, 42, 180, 0, 20, 160, 0, 7, 4, 167, 0, 4, 3, 172]
abbrev dktJ17_isEmpty_0 : List UInt8 := dkwJ17_isEmpty_0 ++ []
theorem dksJ17_isEmpty_0 : cJ17_isEmpty.data.toList.drop 0 = dktJ17_isEmpty_0 := by decide +kernel
theorem dJ17_isEmpty_0 : decode cJ17_isEmpty 0 = .ok (.aload_n 0, 1) := dk_42 (dk_at dksJ17_isEmpty_0 0 rfl rfl)
theorem dJ17_isEmpty_1 : decode cJ17_isEmpty 1 = .ok (.getfield 24, 3) := dk_180 0 24 (dk_at dksJ17_isEmpty_0 1 rfl rfl)
theorem dJ17_isEmpty_4 : decode cJ17_isEmpty 4 = .ok (.aload_n 0, 1) := dk_42 (dk_at dksJ17_isEmpty_0 4 rfl rfl)
theorem dJ17_isEmpty_5 : decode cJ17_isEmpty 5 = .ok (.getfield 20, 3) := dk_180 0 20 (dk_at dksJ17_isEmpty_0 5 rfl rfl)
theorem dJ17_isEmpty_8 : decode cJ17_isEmpty 8 = .ok (.if_icmp .ne 7, 3) := dk_160 0 7 (dk_at dksJ17_isEmpty_0 8 rfl rfl)
theorem dJ17_isEmpty_11 : decode cJ17_isEmpty 11 = .ok (.iconst 1, 1) := dk_4 (dk_at dksJ17_isEmpty_0 11 rfl rfl)
theorem dJ17_isEmpty_12 : decode cJ17_isEmpty 12 = .ok (.goto 4, 3) := dk_167 0 4 (dk_at dksJ17_isEmpty_0 12 rfl rfl)
theorem dJ17_isEmpty_15 : decode cJ17_isEmpty 15 = .ok (.iconst 0, 1) := dk_3 (dk_at dksJ17_isEmpty_0 15 rfl rfl)
theorem dJ17_isEmpty_16 : decode cJ17_isEmpty 16 = .ok (.ireturn, 1) := dk_172 (dk_at dksJ17_isEmpty_0 16 rfl rfl)
abbrev cJ17_removeLast : ByteArray := prog_42_method_19_code
def yJ17_removeLast : MethodName := ⟨RJ17, "removeLast", "()Ljava/lang/Object;"⟩
def dkwJ17_removeLast_0 : List UInt8 := [42, 182, 0, 100, 76, 43, 199, 0, 11, 187, 0, 97, 89, 183, 0, 99, 191, 43, 176]
abbrev dktJ17_removeLast_0 : List UInt8 := dkwJ17_removeLast_0 ++ []
theorem dksJ17_removeLast_0 : cJ17_removeLast.data.toList.drop 0 = dktJ17_removeLast_0 := by decide +kernel
theorem dJ17_removeLast_0 : decode cJ17_removeLast 0 = .ok (.aload_n 0, 1) := dk_42 (dk_at dksJ17_removeLast_0 0 rfl rfl)
theorem dJ17_removeLast_1 : decode cJ17_removeLast 1 = .ok (.invokevirtual 100, 3) := dk_182 0 100 (dk_at dksJ17_removeLast_0 1 rfl rfl)
theorem dJ17_removeLast_4 : decode cJ17_removeLast 4 = .ok (.astore_n 1, 1) := dk_76 (dk_at dksJ17_removeLast_0 4 rfl rfl)
theorem dJ17_removeLast_5 : decode cJ17_removeLast 5 = .ok (.aload_n 1, 1) := dk_43 (dk_at dksJ17_removeLast_0 5 rfl rfl)
theorem dJ17_removeLast_6 : decode cJ17_removeLast 6 = .ok (.ifnonnull 11, 3) := dk_199 0 11 (dk_at dksJ17_removeLast_0 6 rfl rfl)
theorem dJ17_removeLast_9 : decode cJ17_removeLast 9 = .ok (.new 97, 3) := dk_187 0 97 (dk_at dksJ17_removeLast_0 9 rfl rfl)
theorem dJ17_removeLast_12 : decode cJ17_removeLast 12 = .ok (.dup, 1) := dk_89 (dk_at dksJ17_removeLast_0 12 rfl rfl)
theorem dJ17_removeLast_13 : decode cJ17_removeLast 13 = .ok (.invokespecial 99, 3) := dk_183 0 99 (dk_at dksJ17_removeLast_0 13 rfl rfl)
theorem dJ17_removeLast_16 : decode cJ17_removeLast 16 = .ok (.athrow, 1) := dk_191 (dk_at dksJ17_removeLast_0 16 rfl rfl)
theorem dJ17_removeLast_17 : decode cJ17_removeLast 17 = .ok (.aload_n 1, 1) := dk_43 (dk_at dksJ17_removeLast_0 17 rfl rfl)
theorem dJ17_removeLast_18 : decode cJ17_removeLast 18 = .ok (.areturn, 1) := dk_176 (dk_at dksJ17_removeLast_0 18 rfl rfl)
abbrev cJ17_pollLast : ByteArray := prog_42_method_21_code
def yJ17_pollLast : MethodName := ⟨RJ17, "pollLast", "()Ljava/lang/Object;"⟩
def dkwJ17_pollLast_1 : List UInt8 := [198, 0, 12, 43, 42, 28, 90, 181, 0, 20, 1, 83, 45, 176]
abbrev dktJ17_pollLast_1 : List UInt8 := dkwJ17_pollLast_1 ++ []
def dkwJ17_pollLast_0 : List UInt8 := [42, 180, 0, 3, 89, 76, 42, 180, 0, 20, 43, 190, 184, 0, 68, 89, 61, 184, 0, 103, 78, 45]
abbrev dktJ17_pollLast_0 : List UInt8 := dkwJ17_pollLast_0 ++ dktJ17_pollLast_1
theorem dksJ17_pollLast_0 : cJ17_pollLast.data.toList.drop 0 = dktJ17_pollLast_0 := by decide +kernel
theorem dksJ17_pollLast_1 : cJ17_pollLast.data.toList.drop 22 = dktJ17_pollLast_1 := dk_seg dksJ17_pollLast_0 22 rfl rfl
theorem dJ17_pollLast_0 : decode cJ17_pollLast 0 = .ok (.aload_n 0, 1) := dk_42 (dk_at dksJ17_pollLast_0 0 rfl rfl)
theorem dJ17_pollLast_1 : decode cJ17_pollLast 1 = .ok (.getfield 3, 3) := dk_180 0 3 (dk_at dksJ17_pollLast_0 1 rfl rfl)
theorem dJ17_pollLast_4 : decode cJ17_pollLast 4 = .ok (.dup, 1) := dk_89 (dk_at dksJ17_pollLast_0 4 rfl rfl)
theorem dJ17_pollLast_5 : decode cJ17_pollLast 5 = .ok (.astore_n 1, 1) := dk_76 (dk_at dksJ17_pollLast_0 5 rfl rfl)
theorem dJ17_pollLast_6 : decode cJ17_pollLast 6 = .ok (.aload_n 0, 1) := dk_42 (dk_at dksJ17_pollLast_0 6 rfl rfl)
theorem dJ17_pollLast_7 : decode cJ17_pollLast 7 = .ok (.getfield 20, 3) := dk_180 0 20 (dk_at dksJ17_pollLast_0 7 rfl rfl)
theorem dJ17_pollLast_10 : decode cJ17_pollLast 10 = .ok (.aload_n 1, 1) := dk_43 (dk_at dksJ17_pollLast_0 10 rfl rfl)
theorem dJ17_pollLast_11 : decode cJ17_pollLast 11 = .ok (.arraylength, 1) := dk_190 (dk_at dksJ17_pollLast_0 11 rfl rfl)
theorem dJ17_pollLast_12 : decode cJ17_pollLast 12 = .ok (.invokestatic 68, 3) := dk_184 0 68 (dk_at dksJ17_pollLast_0 12 rfl rfl)
theorem dJ17_pollLast_15 : decode cJ17_pollLast 15 = .ok (.dup, 1) := dk_89 (dk_at dksJ17_pollLast_0 15 rfl rfl)
theorem dJ17_pollLast_16 : decode cJ17_pollLast 16 = .ok (.istore_n 2, 1) := dk_61 (dk_at dksJ17_pollLast_0 16 rfl rfl)
theorem dJ17_pollLast_17 : decode cJ17_pollLast 17 = .ok (.invokestatic 103, 3) := dk_184 0 103 (dk_at dksJ17_pollLast_0 17 rfl rfl)
theorem dJ17_pollLast_20 : decode cJ17_pollLast 20 = .ok (.astore_n 3, 1) := dk_78 (dk_at dksJ17_pollLast_0 20 rfl rfl)
theorem dJ17_pollLast_21 : decode cJ17_pollLast 21 = .ok (.aload_n 3, 1) := dk_45 (dk_at dksJ17_pollLast_0 21 rfl rfl)
theorem dJ17_pollLast_22 : decode cJ17_pollLast 22 = .ok (.ifnull 12, 3) := dk_198 0 12 (dk_at dksJ17_pollLast_1 0 rfl rfl)
theorem dJ17_pollLast_25 : decode cJ17_pollLast 25 = .ok (.aload_n 1, 1) := dk_43 (dk_at dksJ17_pollLast_1 3 rfl rfl)
theorem dJ17_pollLast_26 : decode cJ17_pollLast 26 = .ok (.aload_n 0, 1) := dk_42 (dk_at dksJ17_pollLast_1 4 rfl rfl)
theorem dJ17_pollLast_27 : decode cJ17_pollLast 27 = .ok (.iload_n 2, 1) := dk_28 (dk_at dksJ17_pollLast_1 5 rfl rfl)
theorem dJ17_pollLast_28 : decode cJ17_pollLast 28 = .ok (.dup_x1, 1) := dk_90 (dk_at dksJ17_pollLast_1 6 rfl rfl)
theorem dJ17_pollLast_29 : decode cJ17_pollLast 29 = .ok (.putfield 20, 3) := dk_181 0 20 (dk_at dksJ17_pollLast_1 7 rfl rfl)
theorem dJ17_pollLast_32 : decode cJ17_pollLast 32 = .ok (.aconst_null, 1) := dk_1 (dk_at dksJ17_pollLast_1 10 rfl rfl)
theorem dJ17_pollLast_33 : decode cJ17_pollLast 33 = .ok (.aastore, 1) := dk_83 (dk_at dksJ17_pollLast_1 11 rfl rfl)
theorem dJ17_pollLast_34 : decode cJ17_pollLast 34 = .ok (.aload_n 3, 1) := dk_45 (dk_at dksJ17_pollLast_1 12 rfl rfl)
theorem dJ17_pollLast_35 : decode cJ17_pollLast 35 = .ok (.areturn, 1) := dk_176 (dk_at dksJ17_pollLast_1 13 rfl rfl)
abbrev cJ17_dec : ByteArray := prog_42_method_7_code
def yJ17_dec : MethodName := ⟨RJ17, "dec", "(II)I"⟩
def dkwJ17_dec_0 : List UInt8 := [132, 0, 255, 26, 156, 0, 7, 27, 4, 100, 59, 26, 172]
abbrev dktJ17_dec_0 : List UInt8 := dkwJ17_dec_0 ++ []
theorem dksJ17_dec_0 : cJ17_dec.data.toList.drop 0 = dktJ17_dec_0 := by decide +kernel
theorem dJ17_dec_0 : decode cJ17_dec 0 = .ok (.iinc 0 (-1), 3) := dk_132 0 255 (dk_at dksJ17_dec_0 0 rfl rfl)
theorem dJ17_dec_3 : decode cJ17_dec 3 = .ok (.iload_n 0, 1) := dk_26 (dk_at dksJ17_dec_0 3 rfl rfl)
theorem dJ17_dec_4 : decode cJ17_dec 4 = .ok (.ifCond .ge 7, 3) := dk_156 0 7 (dk_at dksJ17_dec_0 4 rfl rfl)
theorem dJ17_dec_7 : decode cJ17_dec 7 = .ok (.iload_n 1, 1) := dk_27 (dk_at dksJ17_dec_0 7 rfl rfl)
theorem dJ17_dec_8 : decode cJ17_dec 8 = .ok (.iconst 1, 1) := dk_4 (dk_at dksJ17_dec_0 8 rfl rfl)
theorem dJ17_dec_9 : decode cJ17_dec 9 = .ok (.isub, 1) := dk_100 (dk_at dksJ17_dec_0 9 rfl rfl)
theorem dJ17_dec_10 : decode cJ17_dec 10 = .ok (.istore_n 0, 1) := dk_59 (dk_at dksJ17_dec_0 10 rfl rfl)
theorem dJ17_dec_11 : decode cJ17_dec 11 = .ok (.iload_n 0, 1) := dk_26 (dk_at dksJ17_dec_0 11 rfl rfl)
theorem dJ17_dec_12 : decode cJ17_dec 12 = .ok (.ireturn, 1) := dk_172 (dk_at dksJ17_dec_0 12 rfl rfl)
theorem q136 : (Jvm.Cond.initialized "java/util/ArrayDeque") ∈ lw_all := lw_g (lw_at lw_m1 24 rfl) rfl
theorem q700 : (Jvm.Cond.instantiable "java/util/ArrayDeque" (3 : Nat)) ∈ lw_all := lw_g (lw_at lw_m3 108 rfl) rfl
theorem q702 : (Jvm.Cond.instanceMethod ({ cls := "java/util/ArrayDeque", name := "<init>", desc := "(I)V" } : Jvm.MethodName)) ∈ lw_all := lw_g (lw_at lw_m3 110 rfl) rfl
theorem q703 : (Jvm.Cond.code ({ cls := "java/util/ArrayDeque", name := "<init>", desc := "(I)V" } : Jvm.MethodName) prog_42_method_4_code (2 : Nat) (Option.none : Option Jvm.ClassFile.FieldType)) ∈ lw_all := lw_g (lw_at lw_m3 111 rfl) rfl
theorem q704 : (Jvm.Cond.methodLink "java/util/ArrayDeque" (42 : Nat) ({ cls := "java/util/AbstractCollection", name := "<init>", desc := "()V" } : Jvm.MethodName)) ∈ lw_all := lw_g (lw_at lw_m3 112 rfl) rfl
theorem q705 : (Jvm.Cond.constant "java/util/ArrayDeque" (41 : Nat) (2147483647 : Int32)) ∈ lw_all := lw_g (lw_at lw_m3 113 rfl) rfl
theorem q706 : (Jvm.Cond.classLink "java/util/ArrayDeque" (47 : Nat) "java/lang/Object") ∈ lw_all := lw_g (lw_at lw_m3 114 rfl) rfl
theorem q707 : (Jvm.Cond.fieldLink "java/util/ArrayDeque" (3 : Nat) "java/util/ArrayDeque" "elements" "[Ljava/lang/Object;") ∈ lw_all := lw_g (lw_at lw_m3 115 rfl) rfl
theorem q708 : (Jvm.Cond.fieldLink "java/util/ArrayDeque" (24 : Nat) "java/util/ArrayDeque" "head" "I") ∈ lw_all := lw_g (lw_at lw_m3 116 rfl) rfl
theorem q709 : (Jvm.Cond.fieldLink "java/util/ArrayDeque" (20 : Nat) "java/util/ArrayDeque" "tail" "I") ∈ lw_all := lw_g (lw_at lw_m3 117 rfl) rfl
theorem q710 : (Jvm.Cond.lays "java/util/ArrayDeque" "java/util/ArrayDeque" "elements" "[Ljava/lang/Object;") ∈ lw_all := lw_g (lw_at lw_m3 118 rfl) rfl
theorem q711 : (Jvm.Cond.soleField "java/util/ArrayDeque" "elements") ∈ lw_all := lw_g (lw_at lw_m3 119 rfl) rfl
theorem q712 : (Jvm.Cond.lays "java/util/ArrayDeque" "java/util/ArrayDeque" "head" "I") ∈ lw_all := lw_g (lw_at lw_m3 120 rfl) rfl
theorem q713 : (Jvm.Cond.soleField "java/util/ArrayDeque" "head") ∈ lw_all := lw_g (lw_at lw_m3 121 rfl) rfl
theorem q714 : (Jvm.Cond.lays "java/util/ArrayDeque" "java/util/ArrayDeque" "tail" "I") ∈ lw_all := lw_g (lw_at lw_m3 122 rfl) rfl
theorem q715 : (Jvm.Cond.soleField "java/util/ArrayDeque" "tail") ∈ lw_all := lw_g (lw_at lw_m3 123 rfl) rfl
theorem q716 : (Jvm.Cond.superclass "java/util/ArrayDeque" "java/util/AbstractCollection") ∈ lw_all := lw_g (lw_at lw_m3 124 rfl) rfl
theorem q977 : (Jvm.Cond.selects "java/util/ArrayDeque" ({ cls := "java/lang/Object", name := "getClass", desc := "()Ljava/lang/Class;" } : Jvm.MethodName) ({ cls := "java/lang/Object", name := "getClass", desc := "()Ljava/lang/Class;" } : Jvm.MethodName)) ∈ lw_all := lw_g (lw_at lw_m4 145 rfl) rfl
theorem q1112 : (Jvm.Cond.instanceMethod ({ cls := "java/util/ArrayDeque", name := "clear", desc := "()V" } : Jvm.MethodName)) ∈ lw_all := lw_g (lw_at lw_m5 40 rfl) rfl
theorem q1113 : (Jvm.Cond.selects "java/util/ArrayDeque" ({ cls := "java/util/ArrayDeque", name := "clear", desc := "()V" } : Jvm.MethodName) ({ cls := "java/util/ArrayDeque", name := "clear", desc := "()V" } : Jvm.MethodName)) ∈ lw_all := lw_g (lw_at lw_m5 41 rfl) rfl
theorem q1114 : (Jvm.Cond.code ({ cls := "java/util/ArrayDeque", name := "clear", desc := "()V" } : Jvm.MethodName) prog_42_method_53_code (1 : Nat) (Option.none : Option Jvm.ClassFile.FieldType)) ∈ lw_all := lw_g (lw_at lw_m5 42 rfl) rfl
theorem q1115 : (Jvm.Cond.methodLink "java/util/ArrayDeque" (181 : Nat) ({ cls := "java/util/ArrayDeque", name := "circularClear", desc := "([Ljava/lang/Object;II)V" } : Jvm.MethodName)) ∈ lw_all := lw_g (lw_at lw_m5 43 rfl) rfl
theorem q1116 : (Jvm.Cond.static ({ cls := "java/util/ArrayDeque", name := "circularClear", desc := "([Ljava/lang/Object;II)V" } : Jvm.MethodName)) ∈ lw_all := lw_g (lw_at lw_m5 44 rfl) rfl
theorem q1117 : (Jvm.Cond.code ({ cls := "java/util/ArrayDeque", name := "circularClear", desc := "([Ljava/lang/Object;II)V" } : Jvm.MethodName) prog_42_method_54_code (4 : Nat) (Option.none : Option Jvm.ClassFile.FieldType)) ∈ lw_all := lw_g (lw_at lw_m5 45 rfl) rfl
theorem q1502 : (Jvm.Cond.castable "java/util/ArrayDeque" "java/util/Collection") ∈ lw_tbl := lw_at lw_m6 190 rfl
theorem q1503 : (Jvm.Cond.selects "java/util/ArrayDeque" ({ cls := "java/util/Collection", name := "toArray", desc := "()[Ljava/lang/Object;" } : Jvm.MethodName) ({ cls := "java/util/ArrayDeque", name := "toArray", desc := "()[Ljava/lang/Object;" } : Jvm.MethodName)) ∈ lw_all := lw_g (lw_at lw_m6 191 rfl) rfl
theorem q1504 : (Jvm.Cond.unhidden "java/util/ArrayDeque" "toArray" "()[Ljava/lang/Object;") ∈ lw_tbl := lw_at lw_m6 192 rfl
theorem q1505 : (Jvm.Cond.instanceMethod ({ cls := "java/util/ArrayDeque", name := "toArray", desc := "()[Ljava/lang/Object;" } : Jvm.MethodName)) ∈ lw_all := lw_g (lw_at lw_m6 193 rfl) rfl
theorem q1506 : (Jvm.Cond.publicMethod ({ cls := "java/util/ArrayDeque", name := "toArray", desc := "()[Ljava/lang/Object;" } : Jvm.MethodName)) ∈ lw_tbl := lw_at lw_m6 194 rfl
theorem q1507 : (Jvm.Cond.code ({ cls := "java/util/ArrayDeque", name := "toArray", desc := "()[Ljava/lang/Object;" } : Jvm.MethodName) prog_42_method_55_code (1 : Nat) (Option.some (Jvm.ClassFile.FieldType.array (Jvm.ClassFile.FieldType.object "java/lang/Object")))) ∈ lw_all := lw_g (lw_at lw_m6 195 rfl) rfl
theorem q1508 : (Jvm.Cond.classLink "java/util/ArrayDeque" (188 : Nat) "[Ljava/lang/Object;") ∈ lw_all := lw_g (lw_at lw_m6 196 rfl) rfl
theorem q1509 : (Jvm.Cond.methodLink "java/util/ArrayDeque" (189 : Nat) ({ cls := "java/util/ArrayDeque", name := "toArray", desc := "(Ljava/lang/Class;)[Ljava/lang/Object;" } : Jvm.MethodName)) ∈ lw_all := lw_g (lw_at lw_m6 197 rfl) rfl
theorem q1510 : (Jvm.Cond.privateMethod ({ cls := "java/util/ArrayDeque", name := "toArray", desc := "(Ljava/lang/Class;)[Ljava/lang/Object;" } : Jvm.MethodName)) ∈ lw_tbl := lw_at lw_m6 198 rfl
theorem q1511 : (Jvm.Cond.instanceMethod ({ cls := "java/util/ArrayDeque", name := "toArray", desc := "(Ljava/lang/Class;)[Ljava/lang/Object;" } : Jvm.MethodName)) ∈ lw_all := lw_g (lw_at lw_m6 199 rfl) rfl
theorem q1512 : (Jvm.Cond.code ({ cls := "java/util/ArrayDeque", name := "toArray", desc := "(Ljava/lang/Class;)[Ljava/lang/Object;" } : Jvm.MethodName) prog_42_method_56_code (7 : Nat) (Option.some (Jvm.ClassFile.FieldType.array (Jvm.ClassFile.FieldType.object "java/lang/Object")))) ∈ lw_all := lw_g (lw_at lw_m6 200 rfl) rfl
theorem q1513 : (Jvm.Cond.methodLink "java/util/ArrayDeque" (193 : Nat) ({ cls := "java/util/Arrays", name := "copyOfRange", desc := "([Ljava/lang/Object;IILjava/lang/Class;)[Ljava/lang/Object;" } : Jvm.MethodName)) ∈ lw_all := lw_g (lw_at lw_m6 201 rfl) rfl
theorem q1516 : (Jvm.Cond.methodLink "java/util/ArrayDeque" (27 : Nat) ({ cls := "java/lang/System", name := "arraycopy", desc := "(Ljava/lang/Object;ILjava/lang/Object;II)V" } : Jvm.MethodName)) ∈ lw_all := lw_g (lw_at lw_m6 204 rfl) rfl
theorem q1526 : (Jvm.Cond.instanceMethod ({ cls := "java/util/ArrayDeque", name := "size", desc := "()I" } : Jvm.MethodName)) ∈ lw_all := lw_g (lw_at lw_m6 214 rfl) rfl
theorem q1527 : (Jvm.Cond.selects "java/util/ArrayDeque" ({ cls := "java/util/ArrayDeque", name := "size", desc := "()I" } : Jvm.MethodName) ({ cls := "java/util/ArrayDeque", name := "size", desc := "()I" } : Jvm.MethodName)) ∈ lw_all := lw_g (lw_at lw_m6 215 rfl) rfl
theorem q1528 : (Jvm.Cond.code ({ cls := "java/util/ArrayDeque", name := "size", desc := "()I" } : Jvm.MethodName) prog_42_method_37_code (1 : Nat) (Option.some Jvm.ClassFile.FieldType.int)) ∈ lw_all := lw_g (lw_at lw_m6 216 rfl) rfl
theorem q1529 : (Jvm.Cond.methodLink "java/util/ArrayDeque" (127 : Nat) ({ cls := "java/util/ArrayDeque", name := "sub", desc := "(III)I" } : Jvm.MethodName)) ∈ lw_all := lw_g (lw_at lw_m6 217 rfl) rfl
theorem q1530 : (Jvm.Cond.static ({ cls := "java/util/ArrayDeque", name := "sub", desc := "(III)I" } : Jvm.MethodName)) ∈ lw_all := lw_g (lw_at lw_m6 218 rfl) rfl
theorem q1531 : (Jvm.Cond.code ({ cls := "java/util/ArrayDeque", name := "sub", desc := "(III)I" } : Jvm.MethodName) prog_42_method_9_code (3 : Nat) (Option.some Jvm.ClassFile.FieldType.int)) ∈ lw_all := lw_g (lw_at lw_m6 219 rfl) rfl
theorem q1533 : (Jvm.Cond.instanceMethod ({ cls := "java/util/ArrayDeque", name := "removeFirst", desc := "()Ljava/lang/Object;" } : Jvm.MethodName)) ∈ lw_all := lw_g (lw_at lw_m6 221 rfl) rfl
theorem q1534 : (Jvm.Cond.selects "java/util/ArrayDeque" ({ cls := "java/util/ArrayDeque", name := "removeFirst", desc := "()Ljava/lang/Object;" } : Jvm.MethodName) ({ cls := "java/util/ArrayDeque", name := "removeFirst", desc := "()Ljava/lang/Object;" } : Jvm.MethodName)) ∈ lw_all := lw_g (lw_at lw_m6 222 rfl) rfl
theorem q1535 : (Jvm.Cond.code ({ cls := "java/util/ArrayDeque", name := "removeFirst", desc := "()Ljava/lang/Object;" } : Jvm.MethodName) prog_42_method_18_code (2 : Nat) (Option.some (Jvm.ClassFile.FieldType.object "java/lang/Object"))) ∈ lw_all := lw_g (lw_at lw_m6 223 rfl) rfl
theorem q1536 : (Jvm.Cond.methodLink "java/util/ArrayDeque" (93 : Nat) ({ cls := "java/util/ArrayDeque", name := "pollFirst", desc := "()Ljava/lang/Object;" } : Jvm.MethodName)) ∈ lw_all := lw_g (lw_at lw_m6 224 rfl) rfl
theorem q1537 : (Jvm.Cond.instanceMethod ({ cls := "java/util/ArrayDeque", name := "pollFirst", desc := "()Ljava/lang/Object;" } : Jvm.MethodName)) ∈ lw_all := lw_g (lw_at lw_m6 225 rfl) rfl
theorem q1538 : (Jvm.Cond.selects "java/util/ArrayDeque" ({ cls := "java/util/ArrayDeque", name := "pollFirst", desc := "()Ljava/lang/Object;" } : Jvm.MethodName) ({ cls := "java/util/ArrayDeque", name := "pollFirst", desc := "()Ljava/lang/Object;" } : Jvm.MethodName)) ∈ lw_all := lw_g (lw_at lw_m6 226 rfl) rfl
theorem q1539 : (Jvm.Cond.code ({ cls := "java/util/ArrayDeque", name := "pollFirst", desc := "()Ljava/lang/Object;" } : Jvm.MethodName) prog_42_method_20_code (4 : Nat) (Option.some (Jvm.ClassFile.FieldType.object "java/lang/Object"))) ∈ lw_all := lw_g (lw_at lw_m6 227 rfl) rfl
theorem q1540 : (Jvm.Cond.methodLink "java/util/ArrayDeque" (103 : Nat) ({ cls := "java/util/ArrayDeque", name := "elementAt", desc := "([Ljava/lang/Object;I)Ljava/lang/Object;" } : Jvm.MethodName)) ∈ lw_all := lw_g (lw_at lw_m6 228 rfl) rfl
theorem q1541 : (Jvm.Cond.static ({ cls := "java/util/ArrayDeque", name := "elementAt", desc := "([Ljava/lang/Object;I)Ljava/lang/Object;" } : Jvm.MethodName)) ∈ lw_all := lw_g (lw_at lw_m6 229 rfl) rfl
theorem q1542 : (Jvm.Cond.code ({ cls := "java/util/ArrayDeque", name := "elementAt", desc := "([Ljava/lang/Object;I)Ljava/lang/Object;" } : Jvm.MethodName) prog_42_method_10_code (2 : Nat) (Option.some (Jvm.ClassFile.FieldType.object "java/lang/Object"))) ∈ lw_all := lw_g (lw_at lw_m6 230 rfl) rfl
theorem q1543 : (Jvm.Cond.methodLink "java/util/ArrayDeque" (74 : Nat) ({ cls := "java/util/ArrayDeque", name := "inc", desc := "(II)I" } : Jvm.MethodName)) ∈ lw_all := lw_g (lw_at lw_m6 231 rfl) rfl
theorem q1544 : (Jvm.Cond.static ({ cls := "java/util/ArrayDeque", name := "inc", desc := "(II)I" } : Jvm.MethodName)) ∈ lw_all := lw_g (lw_at lw_m6 232 rfl) rfl
theorem q1545 : (Jvm.Cond.code ({ cls := "java/util/ArrayDeque", name := "inc", desc := "(II)I" } : Jvm.MethodName) prog_42_method_6_code (2 : Nat) (Option.some Jvm.ClassFile.FieldType.int)) ∈ lw_all := lw_g (lw_at lw_m6 233 rfl) rfl
theorem q1547 : (Jvm.Cond.instanceMethod ({ cls := "java/util/ArrayDeque", name := "addLast", desc := "(Ljava/lang/Object;)V" } : Jvm.MethodName)) ∈ lw_all := lw_g (lw_at lw_m6 235 rfl) rfl
theorem q1548 : (Jvm.Cond.selects "java/util/ArrayDeque" ({ cls := "java/util/ArrayDeque", name := "addLast", desc := "(Ljava/lang/Object;)V" } : Jvm.MethodName) ({ cls := "java/util/ArrayDeque", name := "addLast", desc := "(Ljava/lang/Object;)V" } : Jvm.MethodName)) ∈ lw_all := lw_g (lw_at lw_m6 236 rfl) rfl
theorem q1549 : (Jvm.Cond.code ({ cls := "java/util/ArrayDeque", name := "addLast", desc := "(Ljava/lang/Object;)V" } : Jvm.MethodName) prog_42_method_13_code (3 : Nat) (Option.none : Option Jvm.ClassFile.FieldType)) ∈ lw_all := lw_g (lw_at lw_m6 237 rfl) rfl
theorem q1550 : (Jvm.Cond.methodLink "java/util/ArrayDeque" (71 : Nat) ({ cls := "java/util/ArrayDeque", name := "grow", desc := "(I)V" } : Jvm.MethodName)) ∈ lw_all := lw_g (lw_at lw_m6 238 rfl) rfl
theorem q1551 : (Jvm.Cond.privateMethod ({ cls := "java/util/ArrayDeque", name := "grow", desc := "(I)V" } : Jvm.MethodName)) ∈ lw_tbl := lw_at lw_m6 239 rfl
theorem q1552 : (Jvm.Cond.instanceMethod ({ cls := "java/util/ArrayDeque", name := "grow", desc := "(I)V" } : Jvm.MethodName)) ∈ lw_all := lw_g (lw_at lw_m7 0 rfl) rfl
theorem q1553 : (Jvm.Cond.code ({ cls := "java/util/ArrayDeque", name := "grow", desc := "(I)V" } : Jvm.MethodName) prog_42_method_1_code (9 : Nat) (Option.none : Option Jvm.ClassFile.FieldType)) ∈ lw_all := lw_g (lw_at lw_m7 1 rfl) rfl
theorem q1554 : (Jvm.Cond.constant "java/util/ArrayDeque" (9 : Nat) (2147483639 : Int32)) ∈ lw_all := lw_g (lw_at lw_m7 2 rfl) rfl
theorem q1555 : (Jvm.Cond.methodLink "java/util/ArrayDeque" (10 : Nat) ({ cls := "java/util/ArrayDeque", name := "newCapacity", desc := "(II)I" } : Jvm.MethodName)) ∈ lw_all := lw_g (lw_at lw_m7 3 rfl) rfl
theorem q1556 : (Jvm.Cond.privateMethod ({ cls := "java/util/ArrayDeque", name := "newCapacity", desc := "(II)I" } : Jvm.MethodName)) ∈ lw_tbl := lw_at lw_m7 4 rfl
theorem q1557 : (Jvm.Cond.instanceMethod ({ cls := "java/util/ArrayDeque", name := "newCapacity", desc := "(II)I" } : Jvm.MethodName)) ∈ lw_all := lw_g (lw_at lw_m7 5 rfl) rfl
theorem q1558 : (Jvm.Cond.code ({ cls := "java/util/ArrayDeque", name := "newCapacity", desc := "(II)I" } : Jvm.MethodName) prog_42_method_2_code (5 : Nat) (Option.some Jvm.ClassFile.FieldType.int)) ∈ lw_all := lw_g (lw_at lw_m7 6 rfl) rfl
theorem q1559 : (Jvm.Cond.classLink "java/util/ArrayDeque" (33 : Nat) "java/lang/IllegalStateException") ∈ lw_all := lw_g (lw_at lw_m7 7 rfl) rfl
theorem q1568 : (Jvm.Cond.stringRef "java/util/ArrayDeque" (35 : Nat) "Sorry, deque too big") ∈ lw_tbl := lw_at lw_m7 16 rfl
theorem q1569 : (Jvm.Cond.methodLink "java/util/ArrayDeque" (37 : Nat) ({ cls := "java/lang/IllegalStateException", name := "<init>", desc := "(Ljava/lang/String;)V" } : Jvm.MethodName)) ∈ lw_all := lw_g (lw_at lw_m7 17 rfl) rfl
theorem q1575 : (Jvm.Cond.methodLink "java/util/ArrayDeque" (14 : Nat) ({ cls := "java/util/Arrays", name := "copyOf", desc := "([Ljava/lang/Object;I)[Ljava/lang/Object;" } : Jvm.MethodName)) ∈ lw_all := lw_g (lw_at lw_m7 23 rfl) rfl
theorem q1591 : (Jvm.Cond.instanceMethod ({ cls := "java/util/ArrayDeque", name := "isEmpty", desc := "()Z" } : Jvm.MethodName)) ∈ lw_all := lw_g (lw_at lw_m7 39 rfl) rfl
theorem q1592 : (Jvm.Cond.selects "java/util/ArrayDeque" ({ cls := "java/util/ArrayDeque", name := "isEmpty", desc := "()Z" } : Jvm.MethodName) ({ cls := "java/util/ArrayDeque", name := "isEmpty", desc := "()Z" } : Jvm.MethodName)) ∈ lw_all := lw_g (lw_at lw_m7 40 rfl) rfl
theorem q1593 : (Jvm.Cond.code ({ cls := "java/util/ArrayDeque", name := "isEmpty", desc := "()Z" } : Jvm.MethodName) prog_42_method_38_code (1 : Nat) (Option.some Jvm.ClassFile.FieldType.boolean)) ∈ lw_all := lw_g (lw_at lw_m7 41 rfl) rfl
theorem q1595 : (Jvm.Cond.instanceMethod ({ cls := "java/util/ArrayDeque", name := "removeLast", desc := "()Ljava/lang/Object;" } : Jvm.MethodName)) ∈ lw_all := lw_g (lw_at lw_m7 43 rfl) rfl
theorem q1596 : (Jvm.Cond.selects "java/util/ArrayDeque" ({ cls := "java/util/ArrayDeque", name := "removeLast", desc := "()Ljava/lang/Object;" } : Jvm.MethodName) ({ cls := "java/util/ArrayDeque", name := "removeLast", desc := "()Ljava/lang/Object;" } : Jvm.MethodName)) ∈ lw_all := lw_g (lw_at lw_m7 44 rfl) rfl
theorem q1597 : (Jvm.Cond.code ({ cls := "java/util/ArrayDeque", name := "removeLast", desc := "()Ljava/lang/Object;" } : Jvm.MethodName) prog_42_method_19_code (2 : Nat) (Option.some (Jvm.ClassFile.FieldType.object "java/lang/Object"))) ∈ lw_all := lw_g (lw_at lw_m7 45 rfl) rfl
theorem q1598 : (Jvm.Cond.methodLink "java/util/ArrayDeque" (100 : Nat) ({ cls := "java/util/ArrayDeque", name := "pollLast", desc := "()Ljava/lang/Object;" } : Jvm.MethodName)) ∈ lw_all := lw_g (lw_at lw_m7 46 rfl) rfl
theorem q1599 : (Jvm.Cond.instanceMethod ({ cls := "java/util/ArrayDeque", name := "pollLast", desc := "()Ljava/lang/Object;" } : Jvm.MethodName)) ∈ lw_all := lw_g (lw_at lw_m7 47 rfl) rfl
theorem q1600 : (Jvm.Cond.selects "java/util/ArrayDeque" ({ cls := "java/util/ArrayDeque", name := "pollLast", desc := "()Ljava/lang/Object;" } : Jvm.MethodName) ({ cls := "java/util/ArrayDeque", name := "pollLast", desc := "()Ljava/lang/Object;" } : Jvm.MethodName)) ∈ lw_all := lw_g (lw_at lw_m7 48 rfl) rfl
theorem q1601 : (Jvm.Cond.code ({ cls := "java/util/ArrayDeque", name := "pollLast", desc := "()Ljava/lang/Object;" } : Jvm.MethodName) prog_42_method_21_code (4 : Nat) (Option.some (Jvm.ClassFile.FieldType.object "java/lang/Object"))) ∈ lw_all := lw_g (lw_at lw_m7 49 rfl) rfl
theorem q1602 : (Jvm.Cond.methodLink "java/util/ArrayDeque" (68 : Nat) ({ cls := "java/util/ArrayDeque", name := "dec", desc := "(II)I" } : Jvm.MethodName)) ∈ lw_all := lw_g (lw_at lw_m7 50 rfl) rfl
theorem q1603 : (Jvm.Cond.static ({ cls := "java/util/ArrayDeque", name := "dec", desc := "(II)I" } : Jvm.MethodName)) ∈ lw_all := lw_g (lw_at lw_m7 51 rfl) rfl
theorem q1604 : (Jvm.Cond.code ({ cls := "java/util/ArrayDeque", name := "dec", desc := "(II)I" } : Jvm.MethodName) prog_42_method_7_code (2 : Nat) (Option.some Jvm.ClassFile.FieldType.int)) ∈ lw_all := lw_g (lw_at lw_m7 52 rfl) rfl
theorem q2563 : (Jvm.Cond.castable "java/util/ArrayDeque" "java/lang/Object") ∈ lw_tbl := lw_at lw_m11 51 rfl
theorem in_J17 : ∀ w ∈ wsJ170, w ∈ lw_all := lw_in wsJ170 [710, 712, 714] (by decide +kernel) (by decide +kernel)
/-! java/lang/IllegalStateException -/
set_option maxRecDepth 100000
def RJ18 : String := "java/lang/IllegalStateException"
def TJ18 : u_T := fun k => match k with
  | 0 => ("java/lang/Throwable", "cause", "Ljava/lang/Throwable;", false)
  | 1 => ("java/lang/Throwable", "stackTrace", "[Ljava/lang/StackTraceElement;", false)
  | 2 => ("java/lang/Throwable", "suppressedExceptions", "Ljava/util/List;", false)
  | 3 => ("java/lang/Throwable", "detailMessage", "Ljava/lang/String;", false)
  | 4 => ("java/lang/Throwable", "backtrace", "Ljava/lang/Object;", false)
  | _ => ("java/lang/Throwable", "depth", "I", false)
def tyJ18 : Nat → FieldType := fun k => match k with
  | 0 => .object "java/lang/Throwable"
  | 1 => .array (.object "java/lang/StackTraceElement")
  | 2 => .object "java/util/List"
  | 3 => .object "java/lang/String"
  | 4 => .object "java/lang/Object"
  | _ => .int
abbrev wsJ180 : List Cond := u_ws RJ18 TJ18 6
theorem nmJ18 : ∀ a, a < 6 → ∀ b, b < 6 → a ≠ b → (TJ18 a).2.1 ≠ (TJ18 b).2.1 := by decide +kernel
theorem tyJ18_ok : ∀ k, k < 6 → parseFieldDescriptor (TJ18 k).2.2.1 = some (tyJ18 k) := by decide +kernel
abbrev cJ18_init : ByteArray := prog_24_method_2_code
def yJ18_init : MethodName := ⟨RJ18, "<init>", "(Ljava/lang/String;)V"⟩
def dkwJ18_init_0 : List UInt8 := [42, 43, 183, 0, 7, 177]
abbrev dktJ18_init_0 : List UInt8 := dkwJ18_init_0 ++ []
theorem dksJ18_init_0 : cJ18_init.data.toList.drop 0 = dktJ18_init_0 := by decide +kernel
theorem dJ18_init_0 : decode cJ18_init 0 = .ok (.aload_n 0, 1) := dk_42 (dk_at dksJ18_init_0 0 rfl rfl)
theorem dJ18_init_1 : decode cJ18_init 1 = .ok (.aload_n 1, 1) := dk_43 (dk_at dksJ18_init_0 1 rfl rfl)
theorem dJ18_init_2 : decode cJ18_init 2 = .ok (.invokespecial 7, 3) := dk_183 0 7 (dk_at dksJ18_init_0 2 rfl rfl)
theorem dJ18_init_5 : decode cJ18_init 5 = .ok (.return_, 1) := dk_177 (dk_at dksJ18_init_0 5 rfl rfl)
theorem q138 : (Jvm.Cond.initialized "java/lang/IllegalStateException") ∈ lw_all := lw_g (lw_at lw_m1 26 rfl) rfl
theorem q295 : (Jvm.Cond.selects "java/lang/IllegalStateException" ({ cls := "java/lang/Throwable", name := "fillInStackTrace", desc := "()Ljava/lang/Throwable;" } : Jvm.MethodName) ({ cls := "java/lang/Throwable", name := "fillInStackTrace", desc := "()Ljava/lang/Throwable;" } : Jvm.MethodName)) ∈ lw_all := lw_g (lw_at lw_m1 183 rfl) rfl
theorem q972 : (Jvm.Cond.selects "java/lang/IllegalStateException" ({ cls := "java/lang/Object", name := "getClass", desc := "()Ljava/lang/Class;" } : Jvm.MethodName) ({ cls := "java/lang/Object", name := "getClass", desc := "()Ljava/lang/Class;" } : Jvm.MethodName)) ∈ lw_all := lw_g (lw_at lw_m4 140 rfl) rfl
theorem q1560 : (Jvm.Cond.instantiable "java/lang/IllegalStateException" (6 : Nat)) ∈ lw_all := lw_g (lw_at lw_m7 8 rfl) rfl
theorem q1561 : (Jvm.Cond.castable "java/lang/IllegalStateException" "java/lang/IllegalStateException") ∈ lw_tbl := lw_at lw_m7 9 rfl
theorem q1562 : (Jvm.Cond.selects "java/lang/IllegalStateException" ({ cls := "java/lang/Throwable", name := "fillInStackTrace", desc := "(I)Ljava/lang/Throwable;" } : Jvm.MethodName) ({ cls := "java/lang/Throwable", name := "fillInStackTrace", desc := "(I)Ljava/lang/Throwable;" } : Jvm.MethodName)) ∈ lw_all := lw_g (lw_at lw_m7 10 rfl) rfl
theorem q1563 : (Jvm.Cond.lays "java/lang/IllegalStateException" "java/lang/Throwable" "cause" "Ljava/lang/Throwable;") ∈ lw_all := lw_g (lw_at lw_m7 11 rfl) rfl
theorem q1564 : (Jvm.Cond.lays "java/lang/IllegalStateException" "java/lang/Throwable" "stackTrace" "[Ljava/lang/StackTraceElement;") ∈ lw_all := lw_g (lw_at lw_m7 12 rfl) rfl
theorem q1565 : (Jvm.Cond.lays "java/lang/IllegalStateException" "java/lang/Throwable" "suppressedExceptions" "Ljava/util/List;") ∈ lw_all := lw_g (lw_at lw_m7 13 rfl) rfl
theorem q1566 : (Jvm.Cond.lays "java/lang/IllegalStateException" "java/lang/Throwable" "detailMessage" "Ljava/lang/String;") ∈ lw_all := lw_g (lw_at lw_m7 14 rfl) rfl
theorem q1567 : (Jvm.Cond.lays "java/lang/IllegalStateException" "java/lang/Throwable" "backtrace" "Ljava/lang/Object;") ∈ lw_all := lw_g (lw_at lw_m7 15 rfl) rfl
theorem q1570 : (Jvm.Cond.instanceMethod ({ cls := "java/lang/IllegalStateException", name := "<init>", desc := "(Ljava/lang/String;)V" } : Jvm.MethodName)) ∈ lw_all := lw_g (lw_at lw_m7 18 rfl) rfl
theorem q1571 : (Jvm.Cond.code ({ cls := "java/lang/IllegalStateException", name := "<init>", desc := "(Ljava/lang/String;)V" } : Jvm.MethodName) prog_24_method_2_code (2 : Nat) (Option.none : Option Jvm.ClassFile.FieldType)) ∈ lw_all := lw_g (lw_at lw_m7 19 rfl) rfl
theorem q1572 : (Jvm.Cond.methodLink "java/lang/IllegalStateException" (7 : Nat) ({ cls := "java/lang/RuntimeException", name := "<init>", desc := "(Ljava/lang/String;)V" } : Jvm.MethodName)) ∈ lw_all := lw_g (lw_at lw_m7 20 rfl) rfl
theorem q1573 : (Jvm.Cond.lays "java/lang/IllegalStateException" "java/lang/Throwable" "depth" "I") ∈ lw_all := lw_g (lw_at lw_m7 21 rfl) rfl
theorem q1574 : (Jvm.Cond.superclass "java/lang/IllegalStateException" "java/lang/RuntimeException") ∈ lw_all := lw_g (lw_at lw_m7 22 rfl) rfl
theorem q2565 : (Jvm.Cond.castable "java/lang/IllegalStateException" "java/lang/Object") ∈ lw_tbl := lw_at lw_m11 53 rfl
theorem in_J18 : ∀ w ∈ wsJ180, w ∈ lw_all := lw_in wsJ180 [1563, 1564, 1565, 1566, 1567, 1573] (by decide +kernel) (by decide +kernel)
/-! java/util/Objects -/
set_option maxRecDepth 100000
def RJ19 : String := "java/util/Objects"
abbrev cJ19_checkIndex : ByteArray := prog_50_method_17_code
def yJ19_checkIndex : MethodName := ⟨RJ19, "checkIndex", "(II)I"⟩
def dkwJ19_checkIndex_0 : List UInt8 := [26, 27, 1, 184, 0, 105, 172]
abbrev dktJ19_checkIndex_0 : List UInt8 := dkwJ19_checkIndex_0 ++ []
theorem dksJ19_checkIndex_0 : cJ19_checkIndex.data.toList.drop 0 = dktJ19_checkIndex_0 := by decide +kernel
theorem dJ19_checkIndex_0 : decode cJ19_checkIndex 0 = .ok (.iload_n 0, 1) := dk_26 (dk_at dksJ19_checkIndex_0 0 rfl rfl)
theorem dJ19_checkIndex_1 : decode cJ19_checkIndex 1 = .ok (.iload_n 1, 1) := dk_27 (dk_at dksJ19_checkIndex_0 1 rfl rfl)
theorem dJ19_checkIndex_2 : decode cJ19_checkIndex 2 = .ok (.aconst_null, 1) := dk_1 (dk_at dksJ19_checkIndex_0 2 rfl rfl)
theorem dJ19_checkIndex_3 : decode cJ19_checkIndex 3 = .ok (.invokestatic 105, 3) := dk_184 0 105 (dk_at dksJ19_checkIndex_0 3 rfl rfl)
theorem dJ19_checkIndex_6 : decode cJ19_checkIndex 6 = .ok (.ireturn, 1) := dk_172 (dk_at dksJ19_checkIndex_0 6 rfl rfl)
theorem q143 : (Jvm.Cond.initialized "java/util/Objects") ∈ lw_all := lw_g (lw_at lw_m1 31 rfl) rfl
theorem q789 : (Jvm.Cond.static ({ cls := "java/util/Objects", name := "checkIndex", desc := "(II)I" } : Jvm.MethodName)) ∈ lw_all := lw_g (lw_at lw_m3 197 rfl) rfl
theorem q790 : (Jvm.Cond.code ({ cls := "java/util/Objects", name := "checkIndex", desc := "(II)I" } : Jvm.MethodName) prog_50_method_17_code (2 : Nat) (Option.some Jvm.ClassFile.FieldType.int)) ∈ lw_all := lw_g (lw_at lw_m3 198 rfl) rfl
theorem q791 : (Jvm.Cond.methodLink "java/util/Objects" (105 : Nat) ({ cls := "jdk/internal/util/Preconditions", name := "checkIndex", desc := "(IILjava/util/function/BiFunction;)I" } : Jvm.MethodName)) ∈ lw_all := lw_g (lw_at lw_m3 199 rfl) rfl
/-! java/lang/IndexOutOfBoundsException -/
set_option maxRecDepth 100000
def RJ20 : String := "java/lang/IndexOutOfBoundsException"
def TJ20 : u_T := fun k => match k with
  | 0 => ("java/lang/Throwable", "cause", "Ljava/lang/Throwable;", false)
  | 1 => ("java/lang/Throwable", "stackTrace", "[Ljava/lang/StackTraceElement;", false)
  | 2 => ("java/lang/Throwable", "suppressedExceptions", "Ljava/util/List;", false)
  | 3 => ("java/lang/Throwable", "detailMessage", "Ljava/lang/String;", false)
  | 4 => ("java/lang/Throwable", "backtrace", "Ljava/lang/Object;", false)
  | _ => ("java/lang/Throwable", "depth", "I", false)
def tyJ20 : Nat → FieldType := fun k => match k with
  | 0 => .object "java/lang/Throwable"
  | 1 => .array (.object "java/lang/StackTraceElement")
  | 2 => .object "java/util/List"
  | 3 => .object "java/lang/String"
  | 4 => .object "java/lang/Object"
  | _ => .int
abbrev wsJ200 : List Cond := u_ws RJ20 TJ20 6
theorem nmJ20 : ∀ a, a < 6 → ∀ b, b < 6 → a ≠ b → (TJ20 a).2.1 ≠ (TJ20 b).2.1 := by decide +kernel
theorem tyJ20_ok : ∀ k, k < 6 → parseFieldDescriptor (TJ20 k).2.2.1 = some (tyJ20 k) := by decide +kernel
abbrev cJ20_init : ByteArray := prog_25_method_2_code
def yJ20_init : MethodName := ⟨RJ20, "<init>", "(Ljava/lang/String;)V"⟩
def dkwJ20_init_0 : List UInt8 := [42, 43, 183, 0, 7, 177]
abbrev dktJ20_init_0 : List UInt8 := dkwJ20_init_0 ++ []
theorem dksJ20_init_0 : cJ20_init.data.toList.drop 0 = dktJ20_init_0 := by decide +kernel
theorem dJ20_init_0 : decode cJ20_init 0 = .ok (.aload_n 0, 1) := dk_42 (dk_at dksJ20_init_0 0 rfl rfl)
theorem dJ20_init_1 : decode cJ20_init 1 = .ok (.aload_n 1, 1) := dk_43 (dk_at dksJ20_init_0 1 rfl rfl)
theorem dJ20_init_2 : decode cJ20_init 2 = .ok (.invokespecial 7, 3) := dk_183 0 7 (dk_at dksJ20_init_0 2 rfl rfl)
theorem dJ20_init_5 : decode cJ20_init 5 = .ok (.return_, 1) := dk_177 (dk_at dksJ20_init_0 5 rfl rfl)
theorem q144 : (Jvm.Cond.initialized "java/lang/IndexOutOfBoundsException") ∈ lw_all := lw_g (lw_at lw_m1 32 rfl) rfl
theorem q296 : (Jvm.Cond.selects "java/lang/IndexOutOfBoundsException" ({ cls := "java/lang/Throwable", name := "fillInStackTrace", desc := "()Ljava/lang/Throwable;" } : Jvm.MethodName) ({ cls := "java/lang/Throwable", name := "fillInStackTrace", desc := "()Ljava/lang/Throwable;" } : Jvm.MethodName)) ∈ lw_all := lw_g (lw_at lw_m1 184 rfl) rfl
theorem q973 : (Jvm.Cond.selects "java/lang/IndexOutOfBoundsException" ({ cls := "java/lang/Object", name := "getClass", desc := "()Ljava/lang/Class;" } : Jvm.MethodName) ({ cls := "java/lang/Object", name := "getClass", desc := "()Ljava/lang/Class;" } : Jvm.MethodName)) ∈ lw_all := lw_g (lw_at lw_m4 141 rfl) rfl
theorem q1206 : (Jvm.Cond.instanceMethod ({ cls := "java/lang/IndexOutOfBoundsException", name := "<init>", desc := "(Ljava/lang/String;)V" } : Jvm.MethodName)) ∈ lw_all := lw_g (lw_at lw_m5 134 rfl) rfl
theorem q1207 : (Jvm.Cond.code ({ cls := "java/lang/IndexOutOfBoundsException", name := "<init>", desc := "(Ljava/lang/String;)V" } : Jvm.MethodName) prog_25_method_2_code (2 : Nat) (Option.none : Option Jvm.ClassFile.FieldType)) ∈ lw_all := lw_g (lw_at lw_m5 135 rfl) rfl
theorem q1208 : (Jvm.Cond.methodLink "java/lang/IndexOutOfBoundsException" (7 : Nat) ({ cls := "java/lang/RuntimeException", name := "<init>", desc := "(Ljava/lang/String;)V" } : Jvm.MethodName)) ∈ lw_all := lw_g (lw_at lw_m5 136 rfl) rfl
theorem q1231 : (Jvm.Cond.declares ({ cls := "java/lang/IndexOutOfBoundsException", name := "<init>", desc := "()V" } : Jvm.MethodName)) ∈ lw_tbl := lw_at lw_m5 159 rfl
theorem q1232 : (Jvm.Cond.declares ({ cls := "java/lang/IndexOutOfBoundsException", name := "<init>", desc := "(Ljava/lang/String;)V" } : Jvm.MethodName)) ∈ lw_tbl := lw_at lw_m5 160 rfl
theorem q1681 : (Jvm.Cond.instantiable "java/lang/IndexOutOfBoundsException" (6 : Nat)) ∈ lw_all := lw_g (lw_at lw_m7 129 rfl) rfl
theorem q1682 : (Jvm.Cond.castable "java/lang/IndexOutOfBoundsException" "java/lang/IndexOutOfBoundsException") ∈ lw_tbl := lw_at lw_m7 130 rfl
theorem q1683 : (Jvm.Cond.selects "java/lang/IndexOutOfBoundsException" ({ cls := "java/lang/Throwable", name := "fillInStackTrace", desc := "(I)Ljava/lang/Throwable;" } : Jvm.MethodName) ({ cls := "java/lang/Throwable", name := "fillInStackTrace", desc := "(I)Ljava/lang/Throwable;" } : Jvm.MethodName)) ∈ lw_all := lw_g (lw_at lw_m7 131 rfl) rfl
theorem q1684 : (Jvm.Cond.lays "java/lang/IndexOutOfBoundsException" "java/lang/Throwable" "cause" "Ljava/lang/Throwable;") ∈ lw_all := lw_g (lw_at lw_m7 132 rfl) rfl
theorem q1685 : (Jvm.Cond.lays "java/lang/IndexOutOfBoundsException" "java/lang/Throwable" "stackTrace" "[Ljava/lang/StackTraceElement;") ∈ lw_all := lw_g (lw_at lw_m7 133 rfl) rfl
theorem q1686 : (Jvm.Cond.lays "java/lang/IndexOutOfBoundsException" "java/lang/Throwable" "suppressedExceptions" "Ljava/util/List;") ∈ lw_all := lw_g (lw_at lw_m7 134 rfl) rfl
theorem q1687 : (Jvm.Cond.lays "java/lang/IndexOutOfBoundsException" "java/lang/Throwable" "detailMessage" "Ljava/lang/String;") ∈ lw_all := lw_g (lw_at lw_m7 135 rfl) rfl
theorem q1688 : (Jvm.Cond.lays "java/lang/IndexOutOfBoundsException" "java/lang/Throwable" "backtrace" "Ljava/lang/Object;") ∈ lw_all := lw_g (lw_at lw_m7 136 rfl) rfl
theorem q1691 : (Jvm.Cond.lays "java/lang/IndexOutOfBoundsException" "java/lang/Throwable" "depth" "I") ∈ lw_all := lw_g (lw_at lw_m7 139 rfl) rfl
theorem q1692 : (Jvm.Cond.superclass "java/lang/IndexOutOfBoundsException" "java/lang/RuntimeException") ∈ lw_all := lw_g (lw_at lw_m7 140 rfl) rfl
theorem q2570 : (Jvm.Cond.castable "java/lang/IndexOutOfBoundsException" "java/lang/Object") ∈ lw_tbl := lw_at lw_m11 58 rfl
theorem in_J20 : ∀ w ∈ wsJ200, w ∈ lw_all := lw_in wsJ200 [1684, 1685, 1686, 1687, 1688, 1691] (by decide +kernel) (by decide +kernel)
/-! java/lang/ArrayIndexOutOfBoundsException -/
set_option maxRecDepth 100000
def RJ21 : String := "java/lang/ArrayIndexOutOfBoundsException"
def TJ21 : u_T := fun k => match k with
  | 0 => ("java/lang/Throwable", "cause", "Ljava/lang/Throwable;", false)
  | 1 => ("java/lang/Throwable", "stackTrace", "[Ljava/lang/StackTraceElement;", false)
  | 2 => ("java/lang/Throwable", "suppressedExceptions", "Ljava/util/List;", false)
  | 3 => ("java/lang/Throwable", "detailMessage", "Ljava/lang/String;", false)
  | 4 => ("java/lang/Throwable", "backtrace", "Ljava/lang/Object;", false)
  | _ => ("java/lang/Throwable", "depth", "I", false)
def tyJ21 : Nat → FieldType := fun k => match k with
  | 0 => .object "java/lang/Throwable"
  | 1 => .array (.object "java/lang/StackTraceElement")
  | 2 => .object "java/util/List"
  | 3 => .object "java/lang/String"
  | 4 => .object "java/lang/Object"
  | _ => .int
abbrev wsJ210 : List Cond := u_ws RJ21 TJ21 6
theorem nmJ21 : ∀ a, a < 6 → ∀ b, b < 6 → a ≠ b → (TJ21 a).2.1 ≠ (TJ21 b).2.1 := by decide +kernel
theorem tyJ21_ok : ∀ k, k < 6 → parseFieldDescriptor (TJ21 k).2.2.1 = some (tyJ21 k) := by decide +kernel
abbrev cJ21_init : ByteArray := prog_18_method_3_code
def yJ21_init : MethodName := ⟨RJ21, "<init>", "(I)V"⟩
def dkwJ21_init_0 : List UInt8 := [42, 187, 0, 10, 89, 183, 0, 12, 18, 13, 182, 0, 15, 27, 182, 0, 19, 182, 0, 22, 183, 0, 7, 177]
abbrev dktJ21_init_0 : List UInt8 := dkwJ21_init_0 ++ []
theorem dksJ21_init_0 : cJ21_init.data.toList.drop 0 = dktJ21_init_0 := by decide +kernel
theorem dJ21_init_0 : decode cJ21_init 0 = .ok (.aload_n 0, 1) := dk_42 (dk_at dksJ21_init_0 0 rfl rfl)
theorem dJ21_init_1 : decode cJ21_init 1 = .ok (.new 10, 3) := dk_187 0 10 (dk_at dksJ21_init_0 1 rfl rfl)
theorem dJ21_init_4 : decode cJ21_init 4 = .ok (.dup, 1) := dk_89 (dk_at dksJ21_init_0 4 rfl rfl)
theorem dJ21_init_5 : decode cJ21_init 5 = .ok (.invokespecial 12, 3) := dk_183 0 12 (dk_at dksJ21_init_0 5 rfl rfl)
theorem dJ21_init_8 : decode cJ21_init 8 = .ok (.ldc 13, 2) := dk_18 13 (dk_at dksJ21_init_0 8 rfl rfl)
theorem dJ21_init_10 : decode cJ21_init 10 = .ok (.invokevirtual 15, 3) := dk_182 0 15 (dk_at dksJ21_init_0 10 rfl rfl)
theorem dJ21_init_13 : decode cJ21_init 13 = .ok (.iload_n 1, 1) := dk_27 (dk_at dksJ21_init_0 13 rfl rfl)
theorem dJ21_init_14 : decode cJ21_init 14 = .ok (.invokevirtual 19, 3) := dk_182 0 19 (dk_at dksJ21_init_0 14 rfl rfl)
theorem dJ21_init_17 : decode cJ21_init 17 = .ok (.invokevirtual 22, 3) := dk_182 0 22 (dk_at dksJ21_init_0 17 rfl rfl)
theorem dJ21_init_20 : decode cJ21_init 20 = .ok (.invokespecial 7, 3) := dk_183 0 7 (dk_at dksJ21_init_0 20 rfl rfl)
theorem dJ21_init_23 : decode cJ21_init 23 = .ok (.return_, 1) := dk_177 (dk_at dksJ21_init_0 23 rfl rfl)
abbrev cJ21_init_2 : ByteArray := prog_18_method_2_code
def yJ21_init_2 : MethodName := ⟨RJ21, "<init>", "(Ljava/lang/String;)V"⟩
def dkwJ21_init_2_0 : List UInt8 := [42, 43, 183, 0, 7, 177]
abbrev dktJ21_init_2_0 : List UInt8 := dkwJ21_init_2_0 ++ []
theorem dksJ21_init_2_0 : cJ21_init_2.data.toList.drop 0 = dktJ21_init_2_0 := by decide +kernel
theorem dJ21_init_2_0 : decode cJ21_init_2 0 = .ok (.aload_n 0, 1) := dk_42 (dk_at dksJ21_init_2_0 0 rfl rfl)
theorem dJ21_init_2_1 : decode cJ21_init_2 1 = .ok (.aload_n 1, 1) := dk_43 (dk_at dksJ21_init_2_0 1 rfl rfl)
theorem dJ21_init_2_2 : decode cJ21_init_2 2 = .ok (.invokespecial 7, 3) := dk_183 0 7 (dk_at dksJ21_init_2_0 2 rfl rfl)
theorem dJ21_init_2_5 : decode cJ21_init_2 5 = .ok (.return_, 1) := dk_177 (dk_at dksJ21_init_2_0 5 rfl rfl)
theorem q145 : (Jvm.Cond.initialized "java/lang/ArrayIndexOutOfBoundsException") ∈ lw_all := lw_g (lw_at lw_m1 33 rfl) rfl
theorem q294 : (Jvm.Cond.selects "java/lang/ArrayIndexOutOfBoundsException" ({ cls := "java/lang/Throwable", name := "fillInStackTrace", desc := "()Ljava/lang/Throwable;" } : Jvm.MethodName) ({ cls := "java/lang/Throwable", name := "fillInStackTrace", desc := "()Ljava/lang/Throwable;" } : Jvm.MethodName)) ∈ lw_all := lw_g (lw_at lw_m1 182 rfl) rfl
theorem q970 : (Jvm.Cond.selects "java/lang/ArrayIndexOutOfBoundsException" ({ cls := "java/lang/Object", name := "getClass", desc := "()Ljava/lang/Class;" } : Jvm.MethodName) ({ cls := "java/lang/Object", name := "getClass", desc := "()Ljava/lang/Class;" } : Jvm.MethodName)) ∈ lw_all := lw_g (lw_at lw_m4 138 rfl) rfl
theorem q1229 : (Jvm.Cond.instantiable "java/lang/ArrayIndexOutOfBoundsException" (6 : Nat)) ∈ lw_all := lw_g (lw_at lw_m5 157 rfl) rfl
theorem q1230 : (Jvm.Cond.castable "java/lang/ArrayIndexOutOfBoundsException" "java/lang/ArrayIndexOutOfBoundsException") ∈ lw_tbl := lw_at lw_m5 158 rfl
theorem q1233 : (Jvm.Cond.selects "java/lang/ArrayIndexOutOfBoundsException" ({ cls := "java/lang/Throwable", name := "fillInStackTrace", desc := "(I)Ljava/lang/Throwable;" } : Jvm.MethodName) ({ cls := "java/lang/Throwable", name := "fillInStackTrace", desc := "(I)Ljava/lang/Throwable;" } : Jvm.MethodName)) ∈ lw_all := lw_g (lw_at lw_m5 161 rfl) rfl
theorem q1234 : (Jvm.Cond.lays "java/lang/ArrayIndexOutOfBoundsException" "java/lang/Throwable" "cause" "Ljava/lang/Throwable;") ∈ lw_all := lw_g (lw_at lw_m5 162 rfl) rfl
theorem q1235 : (Jvm.Cond.lays "java/lang/ArrayIndexOutOfBoundsException" "java/lang/Throwable" "stackTrace" "[Ljava/lang/StackTraceElement;") ∈ lw_all := lw_g (lw_at lw_m5 163 rfl) rfl
theorem q1236 : (Jvm.Cond.lays "java/lang/ArrayIndexOutOfBoundsException" "java/lang/Throwable" "suppressedExceptions" "Ljava/util/List;") ∈ lw_all := lw_g (lw_at lw_m5 164 rfl) rfl
theorem q1237 : (Jvm.Cond.lays "java/lang/ArrayIndexOutOfBoundsException" "java/lang/Throwable" "detailMessage" "Ljava/lang/String;") ∈ lw_all := lw_g (lw_at lw_m5 165 rfl) rfl
theorem q1238 : (Jvm.Cond.lays "java/lang/ArrayIndexOutOfBoundsException" "java/lang/Throwable" "backtrace" "Ljava/lang/Object;") ∈ lw_all := lw_g (lw_at lw_m5 166 rfl) rfl
theorem q1240 : (Jvm.Cond.instanceMethod ({ cls := "java/lang/ArrayIndexOutOfBoundsException", name := "<init>", desc := "(I)V" } : Jvm.MethodName)) ∈ lw_all := lw_g (lw_at lw_m5 168 rfl) rfl
theorem q1241 : (Jvm.Cond.code ({ cls := "java/lang/ArrayIndexOutOfBoundsException", name := "<init>", desc := "(I)V" } : Jvm.MethodName) prog_18_method_3_code (2 : Nat) (Option.none : Option Jvm.ClassFile.FieldType)) ∈ lw_all := lw_g (lw_at lw_m5 169 rfl) rfl
theorem q1242 : (Jvm.Cond.classLink "java/lang/ArrayIndexOutOfBoundsException" (10 : Nat) "java/lang/StringBuilder") ∈ lw_all := lw_g (lw_at lw_m5 170 rfl) rfl
theorem q1243 : (Jvm.Cond.methodLink "java/lang/ArrayIndexOutOfBoundsException" (12 : Nat) ({ cls := "java/lang/StringBuilder", name := "<init>", desc := "()V" } : Jvm.MethodName)) ∈ lw_all := lw_g (lw_at lw_m5 171 rfl) rfl
theorem q1244 : (Jvm.Cond.stringRef "java/lang/ArrayIndexOutOfBoundsException" (13 : Nat) "Array index out of range: ") ∈ lw_tbl := lw_at lw_m5 172 rfl
theorem q1245 : (Jvm.Cond.methodLink "java/lang/ArrayIndexOutOfBoundsException" (15 : Nat) ({ cls := "java/lang/StringBuilder", name := "append", desc := "(Ljava/lang/String;)Ljava/lang/StringBuilder;" } : Jvm.MethodName)) ∈ lw_all := lw_g (lw_at lw_m5 173 rfl) rfl
theorem q1246 : (Jvm.Cond.methodLink "java/lang/ArrayIndexOutOfBoundsException" (19 : Nat) ({ cls := "java/lang/StringBuilder", name := "append", desc := "(I)Ljava/lang/StringBuilder;" } : Jvm.MethodName)) ∈ lw_all := lw_g (lw_at lw_m5 174 rfl) rfl
theorem q1247 : (Jvm.Cond.methodLink "java/lang/ArrayIndexOutOfBoundsException" (22 : Nat) ({ cls := "java/lang/StringBuilder", name := "toString", desc := "()Ljava/lang/String;" } : Jvm.MethodName)) ∈ lw_all := lw_g (lw_at lw_m5 175 rfl) rfl
theorem q1248 : (Jvm.Cond.methodLink "java/lang/ArrayIndexOutOfBoundsException" (7 : Nat) ({ cls := "java/lang/IndexOutOfBoundsException", name := "<init>", desc := "(Ljava/lang/String;)V" } : Jvm.MethodName)) ∈ lw_all := lw_g (lw_at lw_m5 176 rfl) rfl
theorem q1249 : (Jvm.Cond.lays "java/lang/ArrayIndexOutOfBoundsException" "java/lang/Throwable" "depth" "I") ∈ lw_all := lw_g (lw_at lw_m5 177 rfl) rfl
theorem q1250 : (Jvm.Cond.superclass "java/lang/ArrayIndexOutOfBoundsException" "java/lang/IndexOutOfBoundsException") ∈ lw_all := lw_g (lw_at lw_m5 178 rfl) rfl
theorem q1671 : (Jvm.Cond.instanceMethod ({ cls := "java/lang/ArrayIndexOutOfBoundsException", name := "<init>", desc := "(Ljava/lang/String;)V" } : Jvm.MethodName)) ∈ lw_all := lw_g (lw_at lw_m7 119 rfl) rfl
theorem q1672 : (Jvm.Cond.code ({ cls := "java/lang/ArrayIndexOutOfBoundsException", name := "<init>", desc := "(Ljava/lang/String;)V" } : Jvm.MethodName) prog_18_method_2_code (2 : Nat) (Option.none : Option Jvm.ClassFile.FieldType)) ∈ lw_all := lw_g (lw_at lw_m7 120 rfl) rfl
theorem q2550 : (Jvm.Cond.castable "java/lang/ArrayIndexOutOfBoundsException" "java/lang/IndexOutOfBoundsException") ∈ lw_tbl := lw_at lw_m11 38 rfl
theorem q2569 : (Jvm.Cond.castable "java/lang/ArrayIndexOutOfBoundsException" "java/lang/Object") ∈ lw_tbl := lw_at lw_m11 57 rfl
theorem in_J21 : ∀ w ∈ wsJ210, w ∈ lw_all := lw_in wsJ210 [1234, 1235, 1236, 1237, 1238, 1249] (by decide +kernel) (by decide +kernel)
/-! java/util/ArrayList$Itr -/
set_option maxRecDepth 100000
def RJ22 : String := "java/util/ArrayList$Itr"
def TJ22 : u_T := fun k => match k with
  | 0 => ("java/util/ArrayList$Itr", "cursor", "I", false)
  | 1 => ("java/util/ArrayList$Itr", "lastRet", "I", false)
  | 2 => ("java/util/ArrayList$Itr", "expectedModCount", "I", false)
  | _ => ("java/util/ArrayList$Itr", "this$0", "Ljava/util/ArrayList;", true)
def tyJ22 : Nat → FieldType := fun k => match k with
  | 0 => .int
  | 1 => .int
  | 2 => .int
  | _ => .object "java/util/ArrayList"
abbrev wsJ220 : List Cond := u_ws RJ22 TJ22 4
theorem nmJ22 : ∀ a, a < 4 → ∀ b, b < 4 → a ≠ b → (TJ22 a).2.1 ≠ (TJ22 b).2.1 := by decide +kernel
theorem tyJ22_ok : ∀ k, k < 4 → parseFieldDescriptor (TJ22 k).2.2.1 = some (tyJ22 k) := by decide +kernel
abbrev cJ22_init : ByteArray := prog_44_method_1_code
def yJ22_init : MethodName := ⟨RJ22, "<init>", "(Ljava/util/ArrayList;)V"⟩
def dkwJ22_init_1 : List UInt8 := [181, 0, 22, 177]
abbrev dktJ22_init_1 : List UInt8 := dkwJ22_init_1 ++ []
def dkwJ22_init_0 : List UInt8 := [42, 43, 181, 0, 1, 42, 183, 0, 7, 42, 2, 181, 0, 13, 42, 42, 180, 0, 1, 180, 0, 17]
abbrev dktJ22_init_0 : List UInt8 := dkwJ22_init_0 ++ dktJ22_init_1
theorem dksJ22_init_0 : cJ22_init.data.toList.drop 0 = dktJ22_init_0 := by decide +kernel
theorem dksJ22_init_1 : cJ22_init.data.toList.drop 22 = dktJ22_init_1 := dk_seg dksJ22_init_0 22 rfl rfl
theorem dJ22_init_0 : decode cJ22_init 0 = .ok (.aload_n 0, 1) := dk_42 (dk_at dksJ22_init_0 0 rfl rfl)
theorem dJ22_init_1 : decode cJ22_init 1 = .ok (.aload_n 1, 1) := dk_43 (dk_at dksJ22_init_0 1 rfl rfl)
theorem dJ22_init_2 : decode cJ22_init 2 = .ok (.putfield 1, 3) := dk_181 0 1 (dk_at dksJ22_init_0 2 rfl rfl)
theorem dJ22_init_5 : decode cJ22_init 5 = .ok (.aload_n 0, 1) := dk_42 (dk_at dksJ22_init_0 5 rfl rfl)
theorem dJ22_init_6 : decode cJ22_init 6 = .ok (.invokespecial 7, 3) := dk_183 0 7 (dk_at dksJ22_init_0 6 rfl rfl)
theorem dJ22_init_9 : decode cJ22_init 9 = .ok (.aload_n 0, 1) := dk_42 (dk_at dksJ22_init_0 9 rfl rfl)
theorem dJ22_init_10 : decode cJ22_init 10 = .ok (.iconst (-1), 1) := dk_2 (dk_at dksJ22_init_0 10 rfl rfl)
theorem dJ22_init_11 : decode cJ22_init 11 = .ok (.putfield 13, 3) := dk_181 0 13 (dk_at dksJ22_init_0 11 rfl rfl)
theorem dJ22_init_14 : decode cJ22_init 14 = .ok (.aload_n 0, 1) := dk_42 (dk_at dksJ22_init_0 14 rfl rfl)
theorem dJ22_init_15 : decode cJ22_init 15 = .ok (.aload_n 0, 1) := dk_42 (dk_at dksJ22_init_0 15 rfl rfl)
theorem dJ22_init_16 : decode cJ22_init 16 = .ok (.getfield 1, 3) := dk_180 0 1 (dk_at dksJ22_init_0 16 rfl rfl)
theorem dJ22_init_19 : decode cJ22_init 19 = .ok (.getfield 17, 3) := dk_180 0 17 (dk_at dksJ22_init_0 19 rfl rfl)
theorem dJ22_init_22 : decode cJ22_init 22 = .ok (.putfield 22, 3) := dk_181 0 22 (dk_at dksJ22_init_1 0 rfl rfl)
theorem dJ22_init_25 : decode cJ22_init 25 = .ok (.return_, 1) := dk_177 (dk_at dksJ22_init_1 3 rfl rfl)
abbrev cJ22_hasNext : ByteArray := prog_44_method_2_code
def yJ22_hasNext : MethodName := ⟨RJ22, "hasNext", "()Z"⟩
def dkwJ22_hasNext_0 : List UInt8 := [42, 180, 0, 25, 42, 180, 0, 1, 180, 0, 28, 159, 0, 7, 4, 167, 0, 4, 3, 172]
abbrev dktJ22_hasNext_0 : List UInt8 := dkwJ22_hasNext_0 ++ []
theorem dksJ22_hasNext_0 : cJ22_hasNext.data.toList.drop 0 = dktJ22_hasNext_0 := by decide +kernel
theorem dJ22_hasNext_0 : decode cJ22_hasNext 0 = .ok (.aload_n 0, 1) := dk_42 (dk_at dksJ22_hasNext_0 0 rfl rfl)
theorem dJ22_hasNext_1 : decode cJ22_hasNext 1 = .ok (.getfield 25, 3) := dk_180 0 25 (dk_at dksJ22_hasNext_0 1 rfl rfl)
theorem dJ22_hasNext_4 : decode cJ22_hasNext 4 = .ok (.aload_n 0, 1) := dk_42 (dk_at dksJ22_hasNext_0 4 rfl rfl)
theorem dJ22_hasNext_5 : decode cJ22_hasNext 5 = .ok (.getfield 1, 3) := dk_180 0 1 (dk_at dksJ22_hasNext_0 5 rfl rfl)
theorem dJ22_hasNext_8 : decode cJ22_hasNext 8 = .ok (.getfield 28, 3) := dk_180 0 28 (dk_at dksJ22_hasNext_0 8 rfl rfl)
theorem dJ22_hasNext_11 : decode cJ22_hasNext 11 = .ok (.if_icmp .eq 7, 3) := dk_159 0 7 (dk_at dksJ22_hasNext_0 11 rfl rfl)
theorem dJ22_hasNext_14 : decode cJ22_hasNext 14 = .ok (.iconst 1, 1) := dk_4 (dk_at dksJ22_hasNext_0 14 rfl rfl)
theorem dJ22_hasNext_15 : decode cJ22_hasNext 15 = .ok (.goto 4, 3) := dk_167 0 4 (dk_at dksJ22_hasNext_0 15 rfl rfl)
theorem dJ22_hasNext_18 : decode cJ22_hasNext 18 = .ok (.iconst 0, 1) := dk_3 (dk_at dksJ22_hasNext_0 18 rfl rfl)
theorem dJ22_hasNext_19 : decode cJ22_hasNext 19 = .ok (.ireturn, 1) := dk_172 (dk_at dksJ22_hasNext_0 19 rfl rfl)
abbrev cJ22_next : ByteArray := prog_44_method_3_code
def yJ22_next : MethodName := ⟨RJ22, "next", "()Ljava/lang/Object;"⟩
def dkwJ22_next_2 : List UInt8 := [183, 0, 43, 191, 42, 27, 4, 96, 181, 0, 25, 44, 42, 27, 90, 181, 0, 13, 50, 176]
abbrev dktJ22_next_2 : List UInt8 := dkwJ22_next_2 ++ []
def dkwJ22_next_1 : List UInt8 := [183, 0, 36, 191, 42, 180, 0, 1, 180, 0, 37, 77, 27, 44, 190, 161, 0, 11, 187, 0, 41, 89]
abbrev dktJ22_next_1 : List UInt8 := dkwJ22_next_1 ++ dktJ22_next_2
def dkwJ22_next_0 : List UInt8 := [42, 182, 0, 31, 42, 180, 0, 25, 60, 27, 42, 180, 0, 1, 180, 0, 28, 161, 0, 11, 187, 0, 34, 89]
abbrev dktJ22_next_0 : List UInt8 := dkwJ22_next_0 ++ dktJ22_next_1
theorem dksJ22_next_0 : cJ22_next.data.toList.drop 0 = dktJ22_next_0 := by decide +kernel
theorem dksJ22_next_1 : cJ22_next.data.toList.drop 24 = dktJ22_next_1 := dk_seg dksJ22_next_0 24 rfl rfl
theorem dksJ22_next_2 : cJ22_next.data.toList.drop 46 = dktJ22_next_2 := dk_seg dksJ22_next_1 22 rfl rfl
theorem dJ22_next_0 : decode cJ22_next 0 = .ok (.aload_n 0, 1) := dk_42 (dk_at dksJ22_next_0 0 rfl rfl)
theorem dJ22_next_1 : decode cJ22_next 1 = .ok (.invokevirtual 31, 3) := dk_182 0 31 (dk_at dksJ22_next_0 1 rfl rfl)
theorem dJ22_next_4 : decode cJ22_next 4 = .ok (.aload_n 0, 1) := dk_42 (dk_at dksJ22_next_0 4 rfl rfl)
theorem dJ22_next_5 : decode cJ22_next 5 = .ok (.getfield 25, 3) := dk_180 0 25 (dk_at dksJ22_next_0 5 rfl rfl)
theorem dJ22_next_8 : decode cJ22_next 8 = .ok (.istore_n 1, 1) := dk_60 (dk_at dksJ22_next_0 8 rfl rfl)
theorem dJ22_next_9 : decode cJ22_next 9 = .ok (.iload_n 1, 1) := dk_27 (dk_at dksJ22_next_0 9 rfl rfl)
theorem dJ22_next_10 : decode cJ22_next 10 = .ok (.aload_n 0, 1) := dk_42 (dk_at dksJ22_next_0 10 rfl rfl)
theorem dJ22_next_11 : decode cJ22_next 11 = .ok (.getfield 1, 3) := dk_180 0 1 (dk_at dksJ22_next_0 11 rfl rfl)
theorem dJ22_next_14 : decode cJ22_next 14 = .ok (.getfield 28, 3) := dk_180 0 28 (dk_at dksJ22_next_0 14 rfl rfl)
theorem dJ22_next_17 : decode cJ22_next 17 = .ok (.if_icmp .lt 11, 3) := dk_161 0 11 (dk_at dksJ22_next_0 17 rfl rfl)
theorem dJ22_next_20 : decode cJ22_next 20 = .ok (.new 34, 3) := dk_187 0 34 (dk_at dksJ22_next_0 20 rfl rfl)
theorem dJ22_next_23 : decode cJ22_next 23 = .ok (.dup, 1) := dk_89 (dk_at dksJ22_next_0 23 rfl rfl)
theorem dJ22_next_24 : decode cJ22_next 24 = .ok (.invokespecial 36, 3) := dk_183 0 36 (dk_at dksJ22_next_1 0 rfl rfl)
theorem dJ22_next_27 : decode cJ22_next 27 = .ok (.athrow, 1) := dk_191 (dk_at dksJ22_next_1 3 rfl rfl)
theorem dJ22_next_28 : decode cJ22_next 28 = .ok (.aload_n 0, 1) := dk_42 (dk_at dksJ22_next_1 4 rfl rfl)
theorem dJ22_next_29 : decode cJ22_next 29 = .ok (.getfield 1, 3) := dk_180 0 1 (dk_at dksJ22_next_1 5 rfl rfl)
theorem dJ22_next_32 : decode cJ22_next 32 = .ok (.getfield 37, 3) := dk_180 0 37 (dk_at dksJ22_next_1 8 rfl rfl)
theorem dJ22_next_35 : decode cJ22_next 35 = .ok (.astore_n 2, 1) := dk_77 (dk_at dksJ22_next_1 11 rfl rfl)
theorem dJ22_next_36 : decode cJ22_next 36 = .ok (.iload_n 1, 1) := dk_27 (dk_at dksJ22_next_1 12 rfl rfl)
theorem dJ22_next_37 : decode cJ22_next 37 = .ok (.aload_n 2, 1) := dk_44 (dk_at dksJ22_next_1 13 rfl rfl)
theorem dJ22_next_38 : decode cJ22_next 38 = .ok (.arraylength, 1) := dk_190 (dk_at dksJ22_next_1 14 rfl rfl)
theorem dJ22_next_39 : decode cJ22_next 39 = .ok (.if_icmp .lt 11, 3) := dk_161 0 11 (dk_at dksJ22_next_1 15 rfl rfl)
theorem dJ22_next_42 : decode cJ22_next 42 = .ok (.new 41, 3) := dk_187 0 41 (dk_at dksJ22_next_1 18 rfl rfl)
theorem dJ22_next_45 : decode cJ22_next 45 = .ok (.dup, 1) := dk_89 (dk_at dksJ22_next_1 21 rfl rfl)
theorem dJ22_next_46 : decode cJ22_next 46 = .ok (.invokespecial 43, 3) := dk_183 0 43 (dk_at dksJ22_next_2 0 rfl rfl)
theorem dJ22_next_49 : decode cJ22_next 49 = .ok (.athrow, 1) := dk_191 (dk_at dksJ22_next_2 3 rfl rfl)
theorem dJ22_next_50 : decode cJ22_next 50 = .ok (.aload_n 0, 1) := dk_42 (dk_at dksJ22_next_2 4 rfl rfl)
theorem dJ22_next_51 : decode cJ22_next 51 = .ok (.iload_n 1, 1) := dk_27 (dk_at dksJ22_next_2 5 rfl rfl)
theorem dJ22_next_52 : decode cJ22_next 52 = .ok (.iconst 1, 1) := dk_4 (dk_at dksJ22_next_2 6 rfl rfl)
theorem dJ22_next_53 : decode cJ22_next 53 = .ok (.iadd, 1) := dk_96 (dk_at dksJ22_next_2 7 rfl rfl)
theorem dJ22_next_54 : decode cJ22_next 54 = .ok (.putfield 25, 3) := dk_181 0 25 (dk_at dksJ22_next_2 8 rfl rfl)
theorem dJ22_next_57 : decode cJ22_next 57 = .ok (.aload_n 2, 1) := dk_44 (dk_at dksJ22_next_2 11 rfl rfl)
theorem dJ22_next_58 : decode cJ22_next 58 = .ok (.aload_n 0, 1) := dk_42 (dk_at dksJ22_next_2 12 rfl rfl)
theorem dJ22_next_59 : decode cJ22_next 59 = .ok (.iload_n 1, 1) := dk_27 (dk_at dksJ22_next_2 13 rfl rfl)
theorem dJ22_next_60 : decode cJ22_next 60 = .ok (.dup_x1, 1) := dk_90 (dk_at dksJ22_next_2 14 rfl rfl)
theorem dJ22_next_61 : decode cJ22_next 61 = .ok (.putfield 13, 3) := dk_181 0 13 (dk_at dksJ22_next_2 15 rfl rfl)
theorem dJ22_next_64 : decode cJ22_next 64 = .ok (.aaload, 1) := dk_50 (dk_at dksJ22_next_2 18 rfl rfl)
theorem dJ22_next_65 : decode cJ22_next 65 = .ok (.areturn, 1) := dk_176 (dk_at dksJ22_next_2 19 rfl rfl)
abbrev cJ22_checkForComodification : ByteArray := prog_44_method_6_code
def yJ22_checkForComodification : MethodName := ⟨RJ22, "checkForComodification", "()V"⟩
def dkwJ22_checkForComodification_0 : List UInt8 := [42, 180, 0, 1, 180, 0, 17, 42, 180, 0, 22, 159, 0, 11, 187, 0, 41, 89, 183, 0, 43, 191, 177]
abbrev dktJ22_checkForComodification_0 : List UInt8 := dkwJ22_checkForComodification_0 ++ []
theorem dksJ22_checkForComodification_0 : cJ22_checkForComodification.data.toList.drop 0 = dktJ22_checkForComodification_0 := by decide +kernel
theorem dJ22_checkForComodification_0 : decode cJ22_checkForComodification 0 = .ok (.aload_n 0, 1) := dk_42 (dk_at dksJ22_checkForComodification_0 0 rfl rfl)
theorem dJ22_checkForComodification_1 : decode cJ22_checkForComodification 1 = .ok (.getfield 1, 3) := dk_180 0 1 (dk_at dksJ22_checkForComodification_0 1 rfl rfl)
theorem dJ22_checkForComodification_4 : decode cJ22_checkForComodification 4 = .ok (.getfield 17, 3) := dk_180 0 17 (dk_at dksJ22_checkForComodification_0 4 rfl rfl)
theorem dJ22_checkForComodification_7 : decode cJ22_checkForComodification 7 = .ok (.aload_n 0, 1) := dk_42 (dk_at dksJ22_checkForComodification_0 7 rfl rfl)
theorem dJ22_checkForComodification_8 : decode cJ22_checkForComodification 8 = .ok (.getfield 22, 3) := dk_180 0 22 (dk_at dksJ22_checkForComodification_0 8 rfl rfl)
theorem dJ22_checkForComodification_11 : decode cJ22_checkForComodification 11 = .ok (.if_icmp .eq 11, 3) := dk_159 0 11 (dk_at dksJ22_checkForComodification_0 11 rfl rfl)
theorem dJ22_checkForComodification_14 : decode cJ22_checkForComodification 14 = .ok (.new 41, 3) := dk_187 0 41 (dk_at dksJ22_checkForComodification_0 14 rfl rfl)
theorem dJ22_checkForComodification_17 : decode cJ22_checkForComodification 17 = .ok (.dup, 1) := dk_89 (dk_at dksJ22_checkForComodification_0 17 rfl rfl)
theorem dJ22_checkForComodification_18 : decode cJ22_checkForComodification 18 = .ok (.invokespecial 43, 3) := dk_183 0 43 (dk_at dksJ22_checkForComodification_0 18 rfl rfl)
theorem dJ22_checkForComodification_21 : decode cJ22_checkForComodification 21 = .ok (.athrow, 1) := dk_191 (dk_at dksJ22_checkForComodification_0 21 rfl rfl)
theorem dJ22_checkForComodification_22 : decode cJ22_checkForComodification 22 = .ok (.return_, 1) := dk_177 (dk_at dksJ22_checkForComodification_0 22 rfl rfl)
theorem q146 : (Jvm.Cond.initialized "java/util/ArrayList$Itr") ∈ lw_all := lw_g (lw_at lw_m1 34 rfl) rfl
theorem q191 : (Jvm.Cond.fieldLink "java/util/ArrayList$Itr" (37 : Nat) "java/util/ArrayList" "elementData" "[Ljava/lang/Object;") ∈ lw_all := lw_g (lw_at lw_m1 79 rfl) rfl
theorem q192 : (Jvm.Cond.fieldLinkNest "java/util/ArrayList$Itr" (28 : Nat) "java/util/ArrayList" "size" "I" "java/util/ArrayList") ∈ lw_tbl := lw_at lw_m1 80 rfl
theorem q195 : (Jvm.Cond.fieldLink "java/util/ArrayList$Itr" (17 : Nat) "java/util/ArrayList" "modCount" "I") ∈ lw_all := lw_g (lw_at lw_m1 83 rfl) rfl
theorem q979 : (Jvm.Cond.selects "java/util/ArrayList$Itr" ({ cls := "java/lang/Object", name := "getClass", desc := "()Ljava/lang/Class;" } : Jvm.MethodName) ({ cls := "java/lang/Object", name := "getClass", desc := "()Ljava/lang/Class;" } : Jvm.MethodName)) ∈ lw_all := lw_g (lw_at lw_m4 147 rfl) rfl
theorem q1142 : (Jvm.Cond.instantiable "java/util/ArrayList$Itr" (4 : Nat)) ∈ lw_all := lw_g (lw_at lw_m5 70 rfl) rfl
theorem q1144 : (Jvm.Cond.instanceMethod ({ cls := "java/util/ArrayList$Itr", name := "<init>", desc := "(Ljava/util/ArrayList;)V" } : Jvm.MethodName)) ∈ lw_all := lw_g (lw_at lw_m5 72 rfl) rfl
theorem q1145 : (Jvm.Cond.code ({ cls := "java/util/ArrayList$Itr", name := "<init>", desc := "(Ljava/util/ArrayList;)V" } : Jvm.MethodName) prog_44_method_1_code (2 : Nat) (Option.none : Option Jvm.ClassFile.FieldType)) ∈ lw_all := lw_g (lw_at lw_m5 73 rfl) rfl
theorem q1146 : (Jvm.Cond.methodLink "java/util/ArrayList$Itr" (7 : Nat) ({ cls := "java/lang/Object", name := "<init>", desc := "()V" } : Jvm.MethodName)) ∈ lw_all := lw_g (lw_at lw_m5 74 rfl) rfl
theorem q1147 : (Jvm.Cond.fieldLink "java/util/ArrayList$Itr" (25 : Nat) "java/util/ArrayList$Itr" "cursor" "I") ∈ lw_all := lw_g (lw_at lw_m5 75 rfl) rfl
theorem q1148 : (Jvm.Cond.fieldLink "java/util/ArrayList$Itr" (13 : Nat) "java/util/ArrayList$Itr" "lastRet" "I") ∈ lw_all := lw_g (lw_at lw_m5 76 rfl) rfl
theorem q1149 : (Jvm.Cond.fieldLink "java/util/ArrayList$Itr" (22 : Nat) "java/util/ArrayList$Itr" "expectedModCount" "I") ∈ lw_all := lw_g (lw_at lw_m5 77 rfl) rfl
theorem q1150 : (Jvm.Cond.fieldLink "java/util/ArrayList$Itr" (1 : Nat) "java/util/ArrayList$Itr" "this$0" "Ljava/util/ArrayList;") ∈ lw_all := lw_g (lw_at lw_m5 78 rfl) rfl
theorem q1151 : (Jvm.Cond.lays "java/util/ArrayList$Itr" "java/util/ArrayList$Itr" "cursor" "I") ∈ lw_all := lw_g (lw_at lw_m5 79 rfl) rfl
theorem q1152 : (Jvm.Cond.soleField "java/util/ArrayList$Itr" "cursor") ∈ lw_all := lw_g (lw_at lw_m5 80 rfl) rfl
theorem q1153 : (Jvm.Cond.lays "java/util/ArrayList$Itr" "java/util/ArrayList$Itr" "lastRet" "I") ∈ lw_all := lw_g (lw_at lw_m5 81 rfl) rfl
theorem q1154 : (Jvm.Cond.soleField "java/util/ArrayList$Itr" "lastRet") ∈ lw_all := lw_g (lw_at lw_m5 82 rfl) rfl
theorem q1155 : (Jvm.Cond.lays "java/util/ArrayList$Itr" "java/util/ArrayList$Itr" "expectedModCount" "I") ∈ lw_all := lw_g (lw_at lw_m5 83 rfl) rfl
theorem q1156 : (Jvm.Cond.soleField "java/util/ArrayList$Itr" "expectedModCount") ∈ lw_all := lw_g (lw_at lw_m5 84 rfl) rfl
theorem q1157 : (Jvm.Cond.laysFinal "java/util/ArrayList$Itr" "java/util/ArrayList$Itr" "this$0" "Ljava/util/ArrayList;") ∈ lw_all := lw_g (lw_at lw_m5 85 rfl) rfl
theorem q1158 : (Jvm.Cond.soleField "java/util/ArrayList$Itr" "this$0") ∈ lw_all := lw_g (lw_at lw_m5 86 rfl) rfl
theorem q1159 : (Jvm.Cond.superclass "java/util/ArrayList$Itr" "java/lang/Object") ∈ lw_all := lw_g (lw_at lw_m5 87 rfl) rfl
theorem q1164 : (Jvm.Cond.castable "java/util/ArrayList$Itr" "java/util/Iterator") ∈ lw_tbl := lw_at lw_m5 92 rfl
theorem q1165 : (Jvm.Cond.selects "java/util/ArrayList$Itr" ({ cls := "java/util/Iterator", name := "hasNext", desc := "()Z" } : Jvm.MethodName) ({ cls := "java/util/ArrayList$Itr", name := "hasNext", desc := "()Z" } : Jvm.MethodName)) ∈ lw_all := lw_g (lw_at lw_m5 93 rfl) rfl
theorem q1166 : (Jvm.Cond.unhidden "java/util/ArrayList$Itr" "hasNext" "()Z") ∈ lw_tbl := lw_at lw_m5 94 rfl
theorem q1167 : (Jvm.Cond.instanceMethod ({ cls := "java/util/ArrayList$Itr", name := "hasNext", desc := "()Z" } : Jvm.MethodName)) ∈ lw_all := lw_g (lw_at lw_m5 95 rfl) rfl
theorem q1168 : (Jvm.Cond.publicMethod ({ cls := "java/util/ArrayList$Itr", name := "hasNext", desc := "()Z" } : Jvm.MethodName)) ∈ lw_tbl := lw_at lw_m5 96 rfl
theorem q1169 : (Jvm.Cond.code ({ cls := "java/util/ArrayList$Itr", name := "hasNext", desc := "()Z" } : Jvm.MethodName) prog_44_method_2_code (1 : Nat) (Option.some Jvm.ClassFile.FieldType.boolean)) ∈ lw_all := lw_g (lw_at lw_m5 97 rfl) rfl
theorem q1174 : (Jvm.Cond.selects "java/util/ArrayList$Itr" ({ cls := "java/util/Iterator", name := "next", desc := "()Ljava/lang/Object;" } : Jvm.MethodName) ({ cls := "java/util/ArrayList$Itr", name := "next", desc := "()Ljava/lang/Object;" } : Jvm.MethodName)) ∈ lw_all := lw_g (lw_at lw_m5 102 rfl) rfl
theorem q1175 : (Jvm.Cond.unhidden "java/util/ArrayList$Itr" "next" "()Ljava/lang/Object;") ∈ lw_tbl := lw_at lw_m5 103 rfl
theorem q1176 : (Jvm.Cond.instanceMethod ({ cls := "java/util/ArrayList$Itr", name := "next", desc := "()Ljava/lang/Object;" } : Jvm.MethodName)) ∈ lw_all := lw_g (lw_at lw_m5 104 rfl) rfl
theorem q1177 : (Jvm.Cond.publicMethod ({ cls := "java/util/ArrayList$Itr", name := "next", desc := "()Ljava/lang/Object;" } : Jvm.MethodName)) ∈ lw_tbl := lw_at lw_m5 105 rfl
theorem q1178 : (Jvm.Cond.code ({ cls := "java/util/ArrayList$Itr", name := "next", desc := "()Ljava/lang/Object;" } : Jvm.MethodName) prog_44_method_3_code (3 : Nat) (Option.some (Jvm.ClassFile.FieldType.object "java/lang/Object"))) ∈ lw_all := lw_g (lw_at lw_m5 106 rfl) rfl
theorem q1179 : (Jvm.Cond.methodLink "java/util/ArrayList$Itr" (31 : Nat) ({ cls := "java/util/ArrayList$Itr", name := "checkForComodification", desc := "()V" } : Jvm.MethodName)) ∈ lw_all := lw_g (lw_at lw_m5 107 rfl) rfl
theorem q1180 : (Jvm.Cond.instanceMethod ({ cls := "java/util/ArrayList$Itr", name := "checkForComodification", desc := "()V" } : Jvm.MethodName)) ∈ lw_all := lw_g (lw_at lw_m5 108 rfl) rfl
theorem q1181 : (Jvm.Cond.selects "java/util/ArrayList$Itr" ({ cls := "java/util/ArrayList$Itr", name := "checkForComodification", desc := "()V" } : Jvm.MethodName) ({ cls := "java/util/ArrayList$Itr", name := "checkForComodification", desc := "()V" } : Jvm.MethodName)) ∈ lw_all := lw_g (lw_at lw_m5 109 rfl) rfl
theorem q1182 : (Jvm.Cond.code ({ cls := "java/util/ArrayList$Itr", name := "checkForComodification", desc := "()V" } : Jvm.MethodName) prog_44_method_6_code (1 : Nat) (Option.none : Option Jvm.ClassFile.FieldType)) ∈ lw_all := lw_g (lw_at lw_m5 110 rfl) rfl
theorem q2571 : (Jvm.Cond.castable "java/util/ArrayList$Itr" "java/lang/Object") ∈ lw_tbl := lw_at lw_m11 59 rfl
theorem in_J22 : ∀ w ∈ wsJ220, w ∈ lw_all := lw_in wsJ220 [1151, 1153, 1155, 1157] (by decide +kernel) (by decide +kernel)
/-! java/lang/StringIndexOutOfBoundsException -/
set_option maxRecDepth 100000
def RJ23 : String := "java/lang/StringIndexOutOfBoundsException"
def TJ23 : u_T := fun k => match k with
  | 0 => ("java/lang/Throwable", "backtrace", "Ljava/lang/Object;", false)
  | 1 => ("java/lang/Throwable", "detailMessage", "Ljava/lang/String;", false)
  | 2 => ("java/lang/Throwable", "cause", "Ljava/lang/Throwable;", false)
  | 3 => ("java/lang/Throwable", "stackTrace", "[Ljava/lang/StackTraceElement;", false)
  | 4 => ("java/lang/Throwable", "depth", "I", false)
  | _ => ("java/lang/Throwable", "suppressedExceptions", "Ljava/util/List;", false)
def tyJ23 : Nat → FieldType := fun k => match k with
  | 0 => .object "java/lang/Object"
  | 1 => .object "java/lang/String"
  | 2 => .object "java/lang/Throwable"
  | 3 => .array (.object "java/lang/StackTraceElement")
  | 4 => .int
  | _ => .object "java/util/List"
abbrev wsJ230 : List Cond := u_ws RJ23 TJ23 6
theorem nmJ23 : ∀ a, a < 6 → ∀ b, b < 6 → a ≠ b → (TJ23 a).2.1 ≠ (TJ23 b).2.1 := by decide +kernel
theorem tyJ23_ok : ∀ k, k < 6 → parseFieldDescriptor (TJ23 k).2.2.1 = some (tyJ23 k) := by decide +kernel
abbrev cJ23_init : ByteArray := prog_33_method_3_code
def yJ23_init : MethodName := ⟨RJ23, "<init>", "(I)V"⟩
def dkwJ23_init_0 : List UInt8 := [42, 187, 0, 10, 89, 183, 0, 12, 18, 13, 182, 0, 15, 27, 182, 0, 19, 182, 0, 22, 183, 0, 7, 177]
abbrev dktJ23_init_0 : List UInt8 := dkwJ23_init_0 ++ []
theorem dksJ23_init_0 : cJ23_init.data.toList.drop 0 = dktJ23_init_0 := by decide +kernel
theorem dJ23_init_0 : decode cJ23_init 0 = .ok (.aload_n 0, 1) := dk_42 (dk_at dksJ23_init_0 0 rfl rfl)
theorem dJ23_init_1 : decode cJ23_init 1 = .ok (.new 10, 3) := dk_187 0 10 (dk_at dksJ23_init_0 1 rfl rfl)
theorem dJ23_init_4 : decode cJ23_init 4 = .ok (.dup, 1) := dk_89 (dk_at dksJ23_init_0 4 rfl rfl)
theorem dJ23_init_5 : decode cJ23_init 5 = .ok (.invokespecial 12, 3) := dk_183 0 12 (dk_at dksJ23_init_0 5 rfl rfl)
theorem dJ23_init_8 : decode cJ23_init 8 = .ok (.ldc 13, 2) := dk_18 13 (dk_at dksJ23_init_0 8 rfl rfl)
theorem dJ23_init_10 : decode cJ23_init 10 = .ok (.invokevirtual 15, 3) := dk_182 0 15 (dk_at dksJ23_init_0 10 rfl rfl)
theorem dJ23_init_13 : decode cJ23_init 13 = .ok (.iload_n 1, 1) := dk_27 (dk_at dksJ23_init_0 13 rfl rfl)
theorem dJ23_init_14 : decode cJ23_init 14 = .ok (.invokevirtual 19, 3) := dk_182 0 19 (dk_at dksJ23_init_0 14 rfl rfl)
theorem dJ23_init_17 : decode cJ23_init 17 = .ok (.invokevirtual 22, 3) := dk_182 0 22 (dk_at dksJ23_init_0 17 rfl rfl)
theorem dJ23_init_20 : decode cJ23_init 20 = .ok (.invokespecial 7, 3) := dk_183 0 7 (dk_at dksJ23_init_0 20 rfl rfl)
theorem dJ23_init_23 : decode cJ23_init 23 = .ok (.return_, 1) := dk_177 (dk_at dksJ23_init_0 23 rfl rfl)
theorem q149 : (Jvm.Cond.initialized "java/lang/StringIndexOutOfBoundsException") ∈ lw_all := lw_g (lw_at lw_m1 37 rfl) rfl
theorem q297 : (Jvm.Cond.selects "java/lang/StringIndexOutOfBoundsException" ({ cls := "java/lang/Throwable", name := "fillInStackTrace", desc := "()Ljava/lang/Throwable;" } : Jvm.MethodName) ({ cls := "java/lang/Throwable", name := "fillInStackTrace", desc := "()Ljava/lang/Throwable;" } : Jvm.MethodName)) ∈ lw_all := lw_g (lw_at lw_m1 185 rfl) rfl
theorem q976 : (Jvm.Cond.selects "java/lang/StringIndexOutOfBoundsException" ({ cls := "java/lang/Object", name := "getClass", desc := "()Ljava/lang/Class;" } : Jvm.MethodName) ({ cls := "java/lang/Object", name := "getClass", desc := "()Ljava/lang/Class;" } : Jvm.MethodName)) ∈ lw_all := lw_g (lw_at lw_m4 144 rfl) rfl
theorem q1195 : (Jvm.Cond.instantiable "java/lang/StringIndexOutOfBoundsException" (6 : Nat)) ∈ lw_all := lw_g (lw_at lw_m5 123 rfl) rfl
theorem q1197 : (Jvm.Cond.instanceMethod ({ cls := "java/lang/StringIndexOutOfBoundsException", name := "<init>", desc := "(I)V" } : Jvm.MethodName)) ∈ lw_all := lw_g (lw_at lw_m5 125 rfl) rfl
theorem q1198 : (Jvm.Cond.code ({ cls := "java/lang/StringIndexOutOfBoundsException", name := "<init>", desc := "(I)V" } : Jvm.MethodName) prog_33_method_3_code (2 : Nat) (Option.none : Option Jvm.ClassFile.FieldType)) ∈ lw_all := lw_g (lw_at lw_m5 126 rfl) rfl
theorem q1199 : (Jvm.Cond.classLink "java/lang/StringIndexOutOfBoundsException" (10 : Nat) "java/lang/StringBuilder") ∈ lw_all := lw_g (lw_at lw_m5 127 rfl) rfl
theorem q1200 : (Jvm.Cond.methodLink "java/lang/StringIndexOutOfBoundsException" (12 : Nat) ({ cls := "java/lang/StringBuilder", name := "<init>", desc := "()V" } : Jvm.MethodName)) ∈ lw_all := lw_g (lw_at lw_m5 128 rfl) rfl
theorem q1201 : (Jvm.Cond.stringRef "java/lang/StringIndexOutOfBoundsException" (13 : Nat) "String index out of range: ") ∈ lw_tbl := lw_at lw_m5 129 rfl
theorem q1202 : (Jvm.Cond.methodLink "java/lang/StringIndexOutOfBoundsException" (15 : Nat) ({ cls := "java/lang/StringBuilder", name := "append", desc := "(Ljava/lang/String;)Ljava/lang/StringBuilder;" } : Jvm.MethodName)) ∈ lw_all := lw_g (lw_at lw_m5 130 rfl) rfl
theorem q1203 : (Jvm.Cond.methodLink "java/lang/StringIndexOutOfBoundsException" (19 : Nat) ({ cls := "java/lang/StringBuilder", name := "append", desc := "(I)Ljava/lang/StringBuilder;" } : Jvm.MethodName)) ∈ lw_all := lw_g (lw_at lw_m5 131 rfl) rfl
theorem q1204 : (Jvm.Cond.methodLink "java/lang/StringIndexOutOfBoundsException" (22 : Nat) ({ cls := "java/lang/StringBuilder", name := "toString", desc := "()Ljava/lang/String;" } : Jvm.MethodName)) ∈ lw_all := lw_g (lw_at lw_m5 132 rfl) rfl
theorem q1205 : (Jvm.Cond.methodLink "java/lang/StringIndexOutOfBoundsException" (7 : Nat) ({ cls := "java/lang/IndexOutOfBoundsException", name := "<init>", desc := "(Ljava/lang/String;)V" } : Jvm.MethodName)) ∈ lw_all := lw_g (lw_at lw_m5 133 rfl) rfl
theorem q1209 : (Jvm.Cond.lays "java/lang/StringIndexOutOfBoundsException" "java/lang/Throwable" "backtrace" "Ljava/lang/Object;") ∈ lw_all := lw_g (lw_at lw_m5 137 rfl) rfl
theorem q1210 : (Jvm.Cond.lays "java/lang/StringIndexOutOfBoundsException" "java/lang/Throwable" "detailMessage" "Ljava/lang/String;") ∈ lw_all := lw_g (lw_at lw_m5 138 rfl) rfl
theorem q1211 : (Jvm.Cond.lays "java/lang/StringIndexOutOfBoundsException" "java/lang/Throwable" "cause" "Ljava/lang/Throwable;") ∈ lw_all := lw_g (lw_at lw_m5 139 rfl) rfl
theorem q1212 : (Jvm.Cond.lays "java/lang/StringIndexOutOfBoundsException" "java/lang/Throwable" "stackTrace" "[Ljava/lang/StackTraceElement;") ∈ lw_all := lw_g (lw_at lw_m5 140 rfl) rfl
theorem q1213 : (Jvm.Cond.lays "java/lang/StringIndexOutOfBoundsException" "java/lang/Throwable" "depth" "I") ∈ lw_all := lw_g (lw_at lw_m5 141 rfl) rfl
theorem q1214 : (Jvm.Cond.lays "java/lang/StringIndexOutOfBoundsException" "java/lang/Throwable" "suppressedExceptions" "Ljava/util/List;") ∈ lw_all := lw_g (lw_at lw_m5 142 rfl) rfl
theorem q1215 : (Jvm.Cond.superclass "java/lang/StringIndexOutOfBoundsException" "java/lang/IndexOutOfBoundsException") ∈ lw_all := lw_g (lw_at lw_m5 143 rfl) rfl
theorem q2551 : (Jvm.Cond.castable "java/lang/StringIndexOutOfBoundsException" "java/lang/IndexOutOfBoundsException") ∈ lw_tbl := lw_at lw_m11 39 rfl
theorem q2574 : (Jvm.Cond.castable "java/lang/StringIndexOutOfBoundsException" "java/lang/Object") ∈ lw_tbl := lw_at lw_m11 62 rfl
theorem in_J23 : ∀ w ∈ wsJ230, w ∈ lw_all := lw_in wsJ230 [1209, 1210, 1211, 1212, 1213, 1214] (by decide +kernel) (by decide +kernel)
/-! java/lang/Object -/
set_option maxRecDepth 100000
def RJ24 : String := "java/lang/Object"
abbrev cJ24_init : ByteArray := object_method_1_code
def yJ24_init : MethodName := ⟨RJ24, "<init>", "()V"⟩
theorem dJ24_init_0 : decode cJ24_init 0 = .ok (.return_, 1) := by decide +kernel
theorem q156 : (Jvm.Cond.instanceMethod ({ cls := "java/lang/Object", name := "<init>", desc := "()V" } : Jvm.MethodName)) ∈ lw_all := lw_g (lw_at lw_m1 44 rfl) rfl
theorem q157 : (Jvm.Cond.code ({ cls := "java/lang/Object", name := "<init>", desc := "()V" } : Jvm.MethodName) object_method_1_code (1 : Nat) (Option.none : Option Jvm.ClassFile.FieldType)) ∈ lw_all := lw_g (lw_at lw_m1 45 rfl) rfl
theorem q167 : (Jvm.Cond.native ({ cls := "java/lang/Object", name := "clone", desc := "()Ljava/lang/Object;" } : Jvm.MethodName)) ∈ lw_all := lw_g (lw_at lw_m1 55 rfl) rfl
theorem q168 : (Jvm.Cond.instanceMethod ({ cls := "java/lang/Object", name := "clone", desc := "()Ljava/lang/Object;" } : Jvm.MethodName)) ∈ lw_all := lw_g (lw_at lw_m1 56 rfl) rfl
theorem q957 : (Jvm.Cond.instanceMethod ({ cls := "java/lang/Object", name := "getClass", desc := "()Ljava/lang/Class;" } : Jvm.MethodName)) ∈ lw_all := lw_g (lw_at lw_m4 125 rfl) rfl
theorem q958 : (Jvm.Cond.sameMethod "java/lang/Object" "java/lang/Object" "getClass" "()Ljava/lang/Class;") ∈ lw_all := lw_g (lw_at lw_m4 126 rfl) rfl
theorem q980 : (Jvm.Cond.native ({ cls := "java/lang/Object", name := "getClass", desc := "()Ljava/lang/Class;" } : Jvm.MethodName)) ∈ lw_all := lw_g (lw_at lw_m4 148 rfl) rfl
theorem q2549 : (Jvm.Cond.initialized "java/lang/Object") ∈ lw_all := lw_g (lw_at lw_m11 37 rfl) rfl
theorem q2578 : (Jvm.Cond.declares ({ cls := "java/lang/Object", name := "getClass", desc := "()Ljava/lang/Class;" } : Jvm.MethodName)) ∈ lw_tbl := lw_at lw_m11 66 rfl
theorem q2590 : (Jvm.Cond.instantiable "java/lang/Object" (0 : Nat)) ∈ lw_all := lw_g (lw_at lw_m11 78 rfl) rfl
theorem q1774 : (Jvm.Cond.interfaceMethod "FlashZones$Asked" "FlashZones$Asked" "of" "(LFlashZones$Unit;)I") ∈ lw_tbl := lw_at lw_m7 222 rfl
set_option maxRecDepth 100000
theorem q1775 : (Jvm.Cond.declares ({ cls := "FlashZones$Asked", name := "of", desc := "(LFlashZones$Unit;)I" } : Jvm.MethodName)) ∈ lw_tbl := lw_at lw_m7 223 rfl
theorem q2556 : (Jvm.Cond.castable "FlashZones$Asked" "java/lang/Object") ∈ lw_tbl := lw_at lw_m11 44 rfl
theorem q853 : (Jvm.Cond.interfaceMethod "FlashZones$Guesser" "FlashZones$Guesser" "tells" "(III)I") ∈ lw_tbl := lw_at lw_m4 21 rfl
set_option maxRecDepth 100000
theorem q854 : (Jvm.Cond.declares ({ cls := "FlashZones$Guesser", name := "tells", desc := "(III)I" } : Jvm.MethodName)) ∈ lw_tbl := lw_at lw_m4 22 rfl
theorem q2553 : (Jvm.Cond.castable "FlashZones$Guesser" "java/lang/Object") ∈ lw_tbl := lw_at lw_m11 41 rfl
theorem q372 : (Jvm.Cond.sameMethod "[B" "java/lang/Object" "clone" "()Ljava/lang/Object;") ∈ lw_all := lw_g (lw_at lw_m2 20 rfl) rfl
set_option maxRecDepth 100000
theorem q373 : (Jvm.Cond.selects "[B" ({ cls := "[B", name := "clone", desc := "()Ljava/lang/Object;" } : Jvm.MethodName) ({ cls := "java/lang/Object", name := "clone", desc := "()Ljava/lang/Object;" } : Jvm.MethodName)) ∈ lw_all := lw_g (lw_at lw_m2 21 rfl) rfl
theorem q374 : (Jvm.Cond.castable "[B" "java/lang/Cloneable") ∈ lw_tbl := lw_at lw_m2 22 rfl
theorem q2583 : (Jvm.Cond.castable "[B" "java/lang/Object") ∈ lw_tbl := lw_at lw_m11 71 rfl
theorem q2589 : (Jvm.Cond.castable "[D" "java/lang/Object") ∈ lw_tbl := lw_at lw_m11 77 rfl
set_option maxRecDepth 100000
theorem q166 : (Jvm.Cond.sameMethod "[I" "java/lang/Object" "clone" "()Ljava/lang/Object;") ∈ lw_all := lw_g (lw_at lw_m1 54 rfl) rfl
set_option maxRecDepth 100000
theorem q169 : (Jvm.Cond.selects "[I" ({ cls := "[I", name := "clone", desc := "()Ljava/lang/Object;" } : Jvm.MethodName) ({ cls := "java/lang/Object", name := "clone", desc := "()Ljava/lang/Object;" } : Jvm.MethodName)) ∈ lw_all := lw_g (lw_at lw_m1 57 rfl) rfl
theorem q170 : (Jvm.Cond.castable "[I" "java/lang/Cloneable") ∈ lw_tbl := lw_at lw_m1 58 rfl
theorem q2579 : (Jvm.Cond.castable "[I" "java/lang/Object") ∈ lw_tbl := lw_at lw_m11 67 rfl
theorem q2588 : (Jvm.Cond.castable "[J" "java/lang/Object") ∈ lw_tbl := lw_at lw_m11 76 rfl
set_option maxRecDepth 100000
theorem q2585 : (Jvm.Cond.castable "[LFlashZones$Act;" "java/lang/Object") ∈ lw_tbl := lw_at lw_m11 73 rfl
set_option maxRecDepth 100000
theorem q2586 : (Jvm.Cond.castable "[LFlashZones$Asked;" "java/lang/Object") ∈ lw_tbl := lw_at lw_m11 74 rfl
set_option maxRecDepth 100000
theorem q2584 : (Jvm.Cond.castable "[LFlashZones$Book;" "java/lang/Object") ∈ lw_tbl := lw_at lw_m11 72 rfl
set_option maxRecDepth 100000
theorem q2581 : (Jvm.Cond.castable "[LFlashZones$Guesser;" "java/lang/Object") ∈ lw_tbl := lw_at lw_m11 69 rfl
set_option maxRecDepth 100000
theorem q2580 : (Jvm.Cond.castable "[LFlashZones$Zone;" "java/lang/Object") ∈ lw_tbl := lw_at lw_m11 68 rfl
set_option maxRecDepth 100000
theorem q2576 : (Jvm.Cond.sameMethod "[Ljava/lang/Object;" "java/lang/Object" "getClass" "()Ljava/lang/Class;") ∈ lw_all := lw_g (lw_at lw_m11 64 rfl) rfl
set_option maxRecDepth 100000
theorem q2577 : (Jvm.Cond.selects "[Ljava/lang/Object;" ({ cls := "java/lang/Object", name := "getClass", desc := "()Ljava/lang/Class;" } : Jvm.MethodName) ({ cls := "java/lang/Object", name := "getClass", desc := "()Ljava/lang/Class;" } : Jvm.MethodName)) ∈ lw_all := lw_g (lw_at lw_m11 65 rfl) rfl
theorem q2582 : (Jvm.Cond.castable "[Ljava/lang/Object;" "java/lang/Object") ∈ lw_tbl := lw_at lw_m11 70 rfl
theorem q2587 : (Jvm.Cond.castable "[Z" "java/lang/Object") ∈ lw_tbl := lw_at lw_m11 75 rfl
set_option maxRecDepth 100000
theorem q134 : (Jvm.Cond.initialized "java/lang/Number") ∈ lw_all := lw_g (lw_at lw_m1 22 rfl) rfl
set_option maxRecDepth 100000
theorem q131 : (Jvm.Cond.initialized "java/lang/System") ∈ lw_all := lw_g (lw_at lw_m1 19 rfl) rfl
set_option maxRecDepth 100000
theorem q380 : (Jvm.Cond.static ({ cls := "java/lang/System", name := "arraycopy", desc := "(Ljava/lang/Object;ILjava/lang/Object;II)V" } : Jvm.MethodName)) ∈ lw_all := lw_g (lw_at lw_m2 28 rfl) rfl
theorem q381 : (Jvm.Cond.native ({ cls := "java/lang/System", name := "arraycopy", desc := "(Ljava/lang/Object;ILjava/lang/Object;II)V" } : Jvm.MethodName)) ∈ lw_all := lw_g (lw_at lw_m2 29 rfl) rfl
theorem q1500 : (Jvm.Cond.interfaceMethod "java/util/Collection" "java/util/Collection" "toArray" "()[Ljava/lang/Object;") ∈ lw_tbl := lw_at lw_m6 188 rfl
set_option maxRecDepth 100000
theorem q1501 : (Jvm.Cond.declares ({ cls := "java/util/Collection", name := "toArray", desc := "()[Ljava/lang/Object;" } : Jvm.MethodName)) ∈ lw_tbl := lw_at lw_m6 189 rfl
theorem q1162 : (Jvm.Cond.interfaceMethod "java/util/Iterator" "java/util/Iterator" "hasNext" "()Z") ∈ lw_tbl := lw_at lw_m5 90 rfl
set_option maxRecDepth 100000
theorem q1163 : (Jvm.Cond.declares ({ cls := "java/util/Iterator", name := "hasNext", desc := "()Z" } : Jvm.MethodName)) ∈ lw_tbl := lw_at lw_m5 91 rfl
theorem q1172 : (Jvm.Cond.interfaceMethod "java/util/Iterator" "java/util/Iterator" "next" "()Ljava/lang/Object;") ∈ lw_tbl := lw_at lw_m5 100 rfl
theorem q1173 : (Jvm.Cond.declares ({ cls := "java/util/Iterator", name := "next", desc := "()Ljava/lang/Object;" } : Jvm.MethodName)) ∈ lw_tbl := lw_at lw_m5 101 rfl
theorem q771 : (Jvm.Cond.interfaceMethod "java/util/List" "java/util/List" "size" "()I") ∈ lw_tbl := lw_at lw_m3 179 rfl
set_option maxRecDepth 100000
theorem q772 : (Jvm.Cond.declares ({ cls := "java/util/List", name := "size", desc := "()I" } : Jvm.MethodName)) ∈ lw_tbl := lw_at lw_m3 180 rfl
theorem q781 : (Jvm.Cond.interfaceMethod "java/util/List" "java/util/List" "get" "(I)Ljava/lang/Object;") ∈ lw_tbl := lw_at lw_m3 189 rfl
theorem q782 : (Jvm.Cond.declares ({ cls := "java/util/List", name := "get", desc := "(I)Ljava/lang/Object;" } : Jvm.MethodName)) ∈ lw_tbl := lw_at lw_m3 190 rfl
theorem q933 : (Jvm.Cond.interfaceMethod "java/util/List" "java/util/List" "add" "(Ljava/lang/Object;)Z") ∈ lw_tbl := lw_at lw_m4 101 rfl
theorem q934 : (Jvm.Cond.declares ({ cls := "java/util/List", name := "add", desc := "(Ljava/lang/Object;)Z" } : Jvm.MethodName)) ∈ lw_tbl := lw_at lw_m4 102 rfl
theorem q1037 : (Jvm.Cond.interfaceMethod "java/util/List" "java/util/List" "clear" "()V") ∈ lw_tbl := lw_at lw_m4 205 rfl
theorem q1038 : (Jvm.Cond.declares ({ cls := "java/util/List", name := "clear", desc := "()V" } : Jvm.MethodName)) ∈ lw_tbl := lw_at lw_m4 206 rfl
theorem q1134 : (Jvm.Cond.interfaceMethod "java/util/List" "java/util/List" "iterator" "()Ljava/util/Iterator;") ∈ lw_tbl := lw_at lw_m5 62 rfl
theorem q1135 : (Jvm.Cond.declares ({ cls := "java/util/List", name := "iterator", desc := "()Ljava/util/Iterator;" } : Jvm.MethodName)) ∈ lw_tbl := lw_at lw_m5 63 rfl
theorem q1491 : (Jvm.Cond.interfaceMethod "java/util/List" "java/util/List" "addAll" "(Ljava/util/Collection;)Z") ∈ lw_tbl := lw_at lw_m6 179 rfl
theorem q1492 : (Jvm.Cond.declares ({ cls := "java/util/List", name := "addAll", desc := "(Ljava/util/Collection;)Z" } : Jvm.MethodName)) ∈ lw_tbl := lw_at lw_m6 180 rfl
theorem q1646 : (Jvm.Cond.interfaceMethod "java/util/List" "java/util/List" "isEmpty" "()Z") ∈ lw_tbl := lw_at lw_m7 94 rfl
theorem q1647 : (Jvm.Cond.declares ({ cls := "java/util/List", name := "isEmpty", desc := "()Z" } : Jvm.MethodName)) ∈ lw_tbl := lw_at lw_m7 95 rfl
theorem q205 : (Jvm.Cond.arrayClass Jvm.ClassFile.FieldType.int) ∈ lw_all := lw_g (lw_at lw_m1 93 rfl) rfl
set_option maxRecDepth 100000
theorem q215 : (Jvm.Cond.arrayOver (Jvm.ClassFile.FieldType.object "FlashZones$Zone")) ∈ lw_tbl := lw_at lw_m1 103 rfl
theorem q217 : (Jvm.Cond.arrayOver (Jvm.ClassFile.FieldType.object "FlashZones$Guesser")) ∈ lw_tbl := lw_at lw_m1 105 rfl
theorem q257 : (Jvm.Cond.arrayOver (Jvm.ClassFile.FieldType.object "java/lang/Object")) ∈ lw_tbl := lw_at lw_m1 145 rfl
theorem q336 : (Jvm.Cond.arrayClass Jvm.ClassFile.FieldType.byte) ∈ lw_all := lw_g (lw_at lw_m1 224 rfl) rfl
theorem q717 : (Jvm.Cond.arrayOver (Jvm.ClassFile.FieldType.object "FlashZones$Book")) ∈ lw_tbl := lw_at lw_m3 125 rfl
theorem q1321 : (Jvm.Cond.arrayOver (Jvm.ClassFile.FieldType.object "FlashZones$Act")) ∈ lw_tbl := lw_at lw_m6 9 rfl
theorem q1754 : (Jvm.Cond.arrayOver (Jvm.ClassFile.FieldType.object "FlashZones$Asked")) ∈ lw_tbl := lw_at lw_m7 202 rfl
theorem q2070 : (Jvm.Cond.arrayClass Jvm.ClassFile.FieldType.boolean) ∈ lw_all := lw_g (lw_at lw_m9 38 rfl) rfl
theorem q2534 : (Jvm.Cond.arrayClass Jvm.ClassFile.FieldType.long) ∈ lw_all := lw_g (lw_at lw_m11 22 rfl) rfl
theorem q2535 : (Jvm.Cond.arrayClass Jvm.ClassFile.FieldType.double) ∈ lw_all := lw_g (lw_at lw_m11 23 rfl) rfl
