/-! DECODE ROWS BY BYTES: one lemma an opcode; a method's code is cut into short pieces once, and a row reads its own piece alone. -/
set_option maxRecDepth 100000
/-- the code has just these bytes from pc on -/
def DkAt (code : ByteArray) (pc : Nat) (bs : List UInt8) : Prop := ∀ (j : Nat) (b : UInt8), bs[j]? = some b → code.data.toList[pc + j]? = some b
/-- the piece W has the bytes bs from its place j on -/
def dkIn (W : List UInt8) (j : Nat) (bs : List UInt8) : Bool := decide ((W.drop j).take bs.length = bs)
theorem dk_seg {l W T : List UInt8} {o o2 : Nat} (h : l.drop o = W ++ T) (n : Nat) (hn : W.length = n) (ho : o + n = o2) : l.drop o2 = T := by
  subst ho
  rw [← List.drop_drop, h, List.drop_left' hn]
theorem dk_at {code : ByteArray} {W T bs : List UInt8} {o pc : Nat} (h : code.data.toList.drop o = W ++ T) (j : Nat) (hp : o + j = pc) (hw : dkIn W j bs = true) : DkAt code pc bs := by
  subst hp
  intro i b e
  have h1 := of_decide_eq_true hw
  have h2 : i < bs.length := (List.getElem?_eq_some_iff.mp e).1
  have h3 : W[j + i]? = some b := by
    rw [← h1, List.getElem?_take, if_pos h2, List.getElem?_drop] at e
    exact e
  have h4 : j + i < W.length := (List.getElem?_eq_some_iff.mp h3).1
  have h5 : (code.data.toList.drop o)[j + i]? = some b := by
    rw [h, List.getElem?_append_left h4]
    exact h3
  rw [List.getElem?_drop, ← Nat.add_assoc] at h5
  exact h5
theorem dk_u1 {A : ByteArray} {p : Nat} {b : UInt8} (h : A.data.toList[p]? = some b) : (Reader.u1 : Reader DecodeError Nat) A p = .ok (b.toNat, p + 1) := by
  obtain ⟨h1, h2⟩ := List.getElem?_eq_some_iff.mp h
  have h3 : p < A.size := by simpa using h1
  have h4 : A[p]'h3 = b := h2
  have e : (Reader.u1 : Reader DecodeError Nat) A p = (if h : p < A.size then .ok (A[p].toNat, p + 1) else .error (HasTruncated.truncated p)) := by
    show (do if h : p < A.size then do set (p + 1); Pure.pure A[p].toNat else MonadExcept.throw (HasTruncated.truncated p) : Reader DecodeError Nat) A p = _
    by_cases hi : p < A.size
    · rw [dif_pos hi, dif_pos hi]; rfl
    · rw [dif_neg hi, dif_neg hi]; rfl
  rw [e, dif_pos h3, h4]
theorem dk_bind {α β : Type} {r : Reader DecodeError α} {f : α → Reader DecodeError β} {A : ByteArray} {p s : Nat} {a : α} (h : r A p = .ok (a, s)) : (r >>= f) A p = f a A s := by
  show (do let (a, s) ← r A p; f a A s : Except DecodeError (β × Nat)) = _
  rw [h]
  rfl
theorem dk_map {α β : Type} {r : Reader DecodeError α} {g : α → β} {A : ByteArray} {p s : Nat} {a : α} (h : r A p = .ok (a, s)) : (g <$> r) A p = .ok (g a, s) := by
  show (do let (a, s) ← r A p; .ok (g a, s) : Except DecodeError (β × Nat)) = _
  rw [h]
  rfl
theorem dk_u2 {A : ByteArray} {p : Nat} {a b : UInt8} (h : A.data.toList[p]? = some a) (h2 : A.data.toList[p + 1]? = some b) : (Reader.u2 : Reader DecodeError Nat) A p = .ok (a.toNat * 256 + b.toNat, p + 2) := by
  show (Reader.u1 >>= fun hi => Reader.u1 >>= fun lo => Pure.pure (hi * 256 + lo) : Reader DecodeError Nat) A p = _
  rw [dk_bind (dk_u1 h), dk_bind (dk_u1 h2)]
  rfl
theorem dk_of {code : ByteArray} {pc n : Nat} {i : Instr} (h : Decoder.instr pc code pc = .ok (i, pc + n)) : decode code pc = .ok (i, n) := by
  have e : decode code pc = (match Decoder.instr pc code pc with | .error x => .error x | .ok (j, s) => .ok (j, s - pc)) := by
    show (do let (j, s) ← Decoder.instr pc code pc; Pure.pure (j, s - pc) : Except DecodeError (Instr × Nat)) = _
    cases Decoder.instr pc code pc <;> rfl
  rw [e, h]
  show Except.ok (i, pc + n - pc) = _
  rw [Nat.add_sub_cancel_left]
theorem dk_1 {code : ByteArray} {pc : Nat} (h : DkAt code pc [1]) : decode code pc = .ok (.aconst_null, 1) := dk_of ((dk_bind (dk_u1 (h 0 _ rfl))).trans rfl)
theorem dk_2 {code : ByteArray} {pc : Nat} (h : DkAt code pc [2]) : decode code pc = .ok (.iconst (-1), 1) := dk_of ((dk_bind (dk_u1 (h 0 _ rfl))).trans rfl)
theorem dk_3 {code : ByteArray} {pc : Nat} (h : DkAt code pc [3]) : decode code pc = .ok (.iconst 0, 1) := dk_of ((dk_bind (dk_u1 (h 0 _ rfl))).trans rfl)
theorem dk_4 {code : ByteArray} {pc : Nat} (h : DkAt code pc [4]) : decode code pc = .ok (.iconst 1, 1) := dk_of ((dk_bind (dk_u1 (h 0 _ rfl))).trans rfl)
theorem dk_5 {code : ByteArray} {pc : Nat} (h : DkAt code pc [5]) : decode code pc = .ok (.iconst 2, 1) := dk_of ((dk_bind (dk_u1 (h 0 _ rfl))).trans rfl)
theorem dk_6 {code : ByteArray} {pc : Nat} (h : DkAt code pc [6]) : decode code pc = .ok (.iconst 3, 1) := dk_of ((dk_bind (dk_u1 (h 0 _ rfl))).trans rfl)
theorem dk_7 {code : ByteArray} {pc : Nat} (h : DkAt code pc [7]) : decode code pc = .ok (.iconst 4, 1) := dk_of ((dk_bind (dk_u1 (h 0 _ rfl))).trans rfl)
theorem dk_8 {code : ByteArray} {pc : Nat} (h : DkAt code pc [8]) : decode code pc = .ok (.iconst 5, 1) := dk_of ((dk_bind (dk_u1 (h 0 _ rfl))).trans rfl)
theorem dk_9 {code : ByteArray} {pc : Nat} (h : DkAt code pc [9]) : decode code pc = .ok (.lconst 0, 1) := dk_of ((dk_bind (dk_u1 (h 0 _ rfl))).trans rfl)
theorem dk_10 {code : ByteArray} {pc : Nat} (h : DkAt code pc [10]) : decode code pc = .ok (.lconst 1, 1) := dk_of ((dk_bind (dk_u1 (h 0 _ rfl))).trans rfl)
theorem dk_16 {code : ByteArray} {pc : Nat} (a : UInt8) (h : DkAt code pc [16, a]) : decode code pc = .ok (.bipush (Reader.signed 8 a.toNat), 2) := dk_of ((dk_bind (dk_u1 (h 0 _ rfl))).trans ((dk_bind (dk_map (dk_u1 (h 1 _ rfl)))).trans rfl))
theorem dk_17 {code : ByteArray} {pc : Nat} (a b : UInt8) (h : DkAt code pc [17, a, b]) : decode code pc = .ok (.sipush (Reader.signed 16 (a.toNat * 256 + b.toNat)), 3) := dk_of ((dk_bind (dk_u1 (h 0 _ rfl))).trans ((dk_bind (dk_map (dk_u2 (h 1 _ rfl) (h 2 _ rfl)))).trans rfl))
theorem dk_18 {code : ByteArray} {pc : Nat} (a : UInt8) (h : DkAt code pc [18, a]) : decode code pc = .ok (.ldc a.toNat, 2) := dk_of ((dk_bind (dk_u1 (h 0 _ rfl))).trans ((dk_bind (dk_u1 (h 1 _ rfl))).trans rfl))
theorem dk_19 {code : ByteArray} {pc : Nat} (a b : UInt8) (h : DkAt code pc [19, a, b]) : decode code pc = .ok (.ldc_w (a.toNat * 256 + b.toNat), 3) := dk_of ((dk_bind (dk_u1 (h 0 _ rfl))).trans ((dk_bind (dk_u2 (h 1 _ rfl) (h 2 _ rfl))).trans rfl))
theorem dk_20 {code : ByteArray} {pc : Nat} (a b : UInt8) (h : DkAt code pc [20, a, b]) : decode code pc = .ok (.ldc2_w (a.toNat * 256 + b.toNat), 3) := dk_of ((dk_bind (dk_u1 (h 0 _ rfl))).trans ((dk_bind (dk_u2 (h 1 _ rfl) (h 2 _ rfl))).trans rfl))
theorem dk_21 {code : ByteArray} {pc : Nat} (a : UInt8) (h : DkAt code pc [21, a]) : decode code pc = .ok (.iload a.toNat, 2) := dk_of ((dk_bind (dk_u1 (h 0 _ rfl))).trans ((dk_bind (dk_u1 (h 1 _ rfl))).trans rfl))
theorem dk_22 {code : ByteArray} {pc : Nat} (a : UInt8) (h : DkAt code pc [22, a]) : decode code pc = .ok (.lload a.toNat, 2) := dk_of ((dk_bind (dk_u1 (h 0 _ rfl))).trans ((dk_bind (dk_u1 (h 1 _ rfl))).trans rfl))
theorem dk_25 {code : ByteArray} {pc : Nat} (a : UInt8) (h : DkAt code pc [25, a]) : decode code pc = .ok (.aload a.toNat, 2) := dk_of ((dk_bind (dk_u1 (h 0 _ rfl))).trans ((dk_bind (dk_u1 (h 1 _ rfl))).trans rfl))
theorem dk_26 {code : ByteArray} {pc : Nat} (h : DkAt code pc [26]) : decode code pc = .ok (.iload_n 0, 1) := dk_of ((dk_bind (dk_u1 (h 0 _ rfl))).trans rfl)
theorem dk_27 {code : ByteArray} {pc : Nat} (h : DkAt code pc [27]) : decode code pc = .ok (.iload_n 1, 1) := dk_of ((dk_bind (dk_u1 (h 0 _ rfl))).trans rfl)
theorem dk_28 {code : ByteArray} {pc : Nat} (h : DkAt code pc [28]) : decode code pc = .ok (.iload_n 2, 1) := dk_of ((dk_bind (dk_u1 (h 0 _ rfl))).trans rfl)
theorem dk_29 {code : ByteArray} {pc : Nat} (h : DkAt code pc [29]) : decode code pc = .ok (.iload_n 3, 1) := dk_of ((dk_bind (dk_u1 (h 0 _ rfl))).trans rfl)
theorem dk_30 {code : ByteArray} {pc : Nat} (h : DkAt code pc [30]) : decode code pc = .ok (.lload_n 0, 1) := dk_of ((dk_bind (dk_u1 (h 0 _ rfl))).trans rfl)
theorem dk_31 {code : ByteArray} {pc : Nat} (h : DkAt code pc [31]) : decode code pc = .ok (.lload_n 1, 1) := dk_of ((dk_bind (dk_u1 (h 0 _ rfl))).trans rfl)
theorem dk_32 {code : ByteArray} {pc : Nat} (h : DkAt code pc [32]) : decode code pc = .ok (.lload_n 2, 1) := dk_of ((dk_bind (dk_u1 (h 0 _ rfl))).trans rfl)
theorem dk_42 {code : ByteArray} {pc : Nat} (h : DkAt code pc [42]) : decode code pc = .ok (.aload_n 0, 1) := dk_of ((dk_bind (dk_u1 (h 0 _ rfl))).trans rfl)
theorem dk_43 {code : ByteArray} {pc : Nat} (h : DkAt code pc [43]) : decode code pc = .ok (.aload_n 1, 1) := dk_of ((dk_bind (dk_u1 (h 0 _ rfl))).trans rfl)
theorem dk_44 {code : ByteArray} {pc : Nat} (h : DkAt code pc [44]) : decode code pc = .ok (.aload_n 2, 1) := dk_of ((dk_bind (dk_u1 (h 0 _ rfl))).trans rfl)
theorem dk_45 {code : ByteArray} {pc : Nat} (h : DkAt code pc [45]) : decode code pc = .ok (.aload_n 3, 1) := dk_of ((dk_bind (dk_u1 (h 0 _ rfl))).trans rfl)
theorem dk_46 {code : ByteArray} {pc : Nat} (h : DkAt code pc [46]) : decode code pc = .ok (.iaload, 1) := dk_of ((dk_bind (dk_u1 (h 0 _ rfl))).trans rfl)
theorem dk_50 {code : ByteArray} {pc : Nat} (h : DkAt code pc [50]) : decode code pc = .ok (.aaload, 1) := dk_of ((dk_bind (dk_u1 (h 0 _ rfl))).trans rfl)
theorem dk_51 {code : ByteArray} {pc : Nat} (h : DkAt code pc [51]) : decode code pc = .ok (.baload, 1) := dk_of ((dk_bind (dk_u1 (h 0 _ rfl))).trans rfl)
theorem dk_53 {code : ByteArray} {pc : Nat} (h : DkAt code pc [53]) : decode code pc = .ok (.saload, 1) := dk_of ((dk_bind (dk_u1 (h 0 _ rfl))).trans rfl)
theorem dk_54 {code : ByteArray} {pc : Nat} (a : UInt8) (h : DkAt code pc [54, a]) : decode code pc = .ok (.istore a.toNat, 2) := dk_of ((dk_bind (dk_u1 (h 0 _ rfl))).trans ((dk_bind (dk_u1 (h 1 _ rfl))).trans rfl))
theorem dk_55 {code : ByteArray} {pc : Nat} (a : UInt8) (h : DkAt code pc [55, a]) : decode code pc = .ok (.lstore a.toNat, 2) := dk_of ((dk_bind (dk_u1 (h 0 _ rfl))).trans ((dk_bind (dk_u1 (h 1 _ rfl))).trans rfl))
theorem dk_58 {code : ByteArray} {pc : Nat} (a : UInt8) (h : DkAt code pc [58, a]) : decode code pc = .ok (.astore a.toNat, 2) := dk_of ((dk_bind (dk_u1 (h 0 _ rfl))).trans ((dk_bind (dk_u1 (h 1 _ rfl))).trans rfl))
theorem dk_59 {code : ByteArray} {pc : Nat} (h : DkAt code pc [59]) : decode code pc = .ok (.istore_n 0, 1) := dk_of ((dk_bind (dk_u1 (h 0 _ rfl))).trans rfl)
theorem dk_60 {code : ByteArray} {pc : Nat} (h : DkAt code pc [60]) : decode code pc = .ok (.istore_n 1, 1) := dk_of ((dk_bind (dk_u1 (h 0 _ rfl))).trans rfl)
theorem dk_61 {code : ByteArray} {pc : Nat} (h : DkAt code pc [61]) : decode code pc = .ok (.istore_n 2, 1) := dk_of ((dk_bind (dk_u1 (h 0 _ rfl))).trans rfl)
theorem dk_62 {code : ByteArray} {pc : Nat} (h : DkAt code pc [62]) : decode code pc = .ok (.istore_n 3, 1) := dk_of ((dk_bind (dk_u1 (h 0 _ rfl))).trans rfl)
theorem dk_76 {code : ByteArray} {pc : Nat} (h : DkAt code pc [76]) : decode code pc = .ok (.astore_n 1, 1) := dk_of ((dk_bind (dk_u1 (h 0 _ rfl))).trans rfl)
theorem dk_77 {code : ByteArray} {pc : Nat} (h : DkAt code pc [77]) : decode code pc = .ok (.astore_n 2, 1) := dk_of ((dk_bind (dk_u1 (h 0 _ rfl))).trans rfl)
theorem dk_78 {code : ByteArray} {pc : Nat} (h : DkAt code pc [78]) : decode code pc = .ok (.astore_n 3, 1) := dk_of ((dk_bind (dk_u1 (h 0 _ rfl))).trans rfl)
theorem dk_79 {code : ByteArray} {pc : Nat} (h : DkAt code pc [79]) : decode code pc = .ok (.iastore, 1) := dk_of ((dk_bind (dk_u1 (h 0 _ rfl))).trans rfl)
theorem dk_83 {code : ByteArray} {pc : Nat} (h : DkAt code pc [83]) : decode code pc = .ok (.aastore, 1) := dk_of ((dk_bind (dk_u1 (h 0 _ rfl))).trans rfl)
theorem dk_84 {code : ByteArray} {pc : Nat} (h : DkAt code pc [84]) : decode code pc = .ok (.bastore, 1) := dk_of ((dk_bind (dk_u1 (h 0 _ rfl))).trans rfl)
theorem dk_86 {code : ByteArray} {pc : Nat} (h : DkAt code pc [86]) : decode code pc = .ok (.sastore, 1) := dk_of ((dk_bind (dk_u1 (h 0 _ rfl))).trans rfl)
theorem dk_87 {code : ByteArray} {pc : Nat} (h : DkAt code pc [87]) : decode code pc = .ok (.pop, 1) := dk_of ((dk_bind (dk_u1 (h 0 _ rfl))).trans rfl)
theorem dk_89 {code : ByteArray} {pc : Nat} (h : DkAt code pc [89]) : decode code pc = .ok (.dup, 1) := dk_of ((dk_bind (dk_u1 (h 0 _ rfl))).trans rfl)
theorem dk_92 {code : ByteArray} {pc : Nat} (h : DkAt code pc [92]) : decode code pc = .ok (.dup2, 1) := dk_of ((dk_bind (dk_u1 (h 0 _ rfl))).trans rfl)
theorem dk_96 {code : ByteArray} {pc : Nat} (h : DkAt code pc [96]) : decode code pc = .ok (.iadd, 1) := dk_of ((dk_bind (dk_u1 (h 0 _ rfl))).trans rfl)
theorem dk_97 {code : ByteArray} {pc : Nat} (h : DkAt code pc [97]) : decode code pc = .ok (.ladd, 1) := dk_of ((dk_bind (dk_u1 (h 0 _ rfl))).trans rfl)
theorem dk_100 {code : ByteArray} {pc : Nat} (h : DkAt code pc [100]) : decode code pc = .ok (.isub, 1) := dk_of ((dk_bind (dk_u1 (h 0 _ rfl))).trans rfl)
theorem dk_101 {code : ByteArray} {pc : Nat} (h : DkAt code pc [101]) : decode code pc = .ok (.lsub, 1) := dk_of ((dk_bind (dk_u1 (h 0 _ rfl))).trans rfl)
theorem dk_104 {code : ByteArray} {pc : Nat} (h : DkAt code pc [104]) : decode code pc = .ok (.imul, 1) := dk_of ((dk_bind (dk_u1 (h 0 _ rfl))).trans rfl)
theorem dk_105 {code : ByteArray} {pc : Nat} (h : DkAt code pc [105]) : decode code pc = .ok (.lmul, 1) := dk_of ((dk_bind (dk_u1 (h 0 _ rfl))).trans rfl)
theorem dk_108 {code : ByteArray} {pc : Nat} (h : DkAt code pc [108]) : decode code pc = .ok (.idiv, 1) := dk_of ((dk_bind (dk_u1 (h 0 _ rfl))).trans rfl)
theorem dk_112 {code : ByteArray} {pc : Nat} (h : DkAt code pc [112]) : decode code pc = .ok (.irem, 1) := dk_of ((dk_bind (dk_u1 (h 0 _ rfl))).trans rfl)
theorem dk_116 {code : ByteArray} {pc : Nat} (h : DkAt code pc [116]) : decode code pc = .ok (.ineg, 1) := dk_of ((dk_bind (dk_u1 (h 0 _ rfl))).trans rfl)
theorem dk_120 {code : ByteArray} {pc : Nat} (h : DkAt code pc [120]) : decode code pc = .ok (.ishl, 1) := dk_of ((dk_bind (dk_u1 (h 0 _ rfl))).trans rfl)
theorem dk_122 {code : ByteArray} {pc : Nat} (h : DkAt code pc [122]) : decode code pc = .ok (.ishr, 1) := dk_of ((dk_bind (dk_u1 (h 0 _ rfl))).trans rfl)
theorem dk_124 {code : ByteArray} {pc : Nat} (h : DkAt code pc [124]) : decode code pc = .ok (.iushr, 1) := dk_of ((dk_bind (dk_u1 (h 0 _ rfl))).trans rfl)
theorem dk_126 {code : ByteArray} {pc : Nat} (h : DkAt code pc [126]) : decode code pc = .ok (.iand, 1) := dk_of ((dk_bind (dk_u1 (h 0 _ rfl))).trans rfl)
theorem dk_128 {code : ByteArray} {pc : Nat} (h : DkAt code pc [128]) : decode code pc = .ok (.ior, 1) := dk_of ((dk_bind (dk_u1 (h 0 _ rfl))).trans rfl)
theorem dk_130 {code : ByteArray} {pc : Nat} (h : DkAt code pc [130]) : decode code pc = .ok (.ixor, 1) := dk_of ((dk_bind (dk_u1 (h 0 _ rfl))).trans rfl)
theorem dk_132 {code : ByteArray} {pc : Nat} (a b : UInt8) (h : DkAt code pc [132, a, b]) : decode code pc = .ok (.iinc a.toNat (Reader.signed 8 b.toNat), 3) := dk_of ((dk_bind (dk_u1 (h 0 _ rfl))).trans ((dk_bind (dk_u1 (h 1 _ rfl))).trans ((dk_bind (dk_map (dk_u1 (h 2 _ rfl)))).trans rfl)))
theorem dk_133 {code : ByteArray} {pc : Nat} (h : DkAt code pc [133]) : decode code pc = .ok (.i2l, 1) := dk_of ((dk_bind (dk_u1 (h 0 _ rfl))).trans rfl)
theorem dk_136 {code : ByteArray} {pc : Nat} (h : DkAt code pc [136]) : decode code pc = .ok (.l2i, 1) := dk_of ((dk_bind (dk_u1 (h 0 _ rfl))).trans rfl)
theorem dk_145 {code : ByteArray} {pc : Nat} (h : DkAt code pc [145]) : decode code pc = .ok (.i2b, 1) := dk_of ((dk_bind (dk_u1 (h 0 _ rfl))).trans rfl)
theorem dk_146 {code : ByteArray} {pc : Nat} (h : DkAt code pc [146]) : decode code pc = .ok (.i2c, 1) := dk_of ((dk_bind (dk_u1 (h 0 _ rfl))).trans rfl)
theorem dk_147 {code : ByteArray} {pc : Nat} (h : DkAt code pc [147]) : decode code pc = .ok (.i2s, 1) := dk_of ((dk_bind (dk_u1 (h 0 _ rfl))).trans rfl)
theorem dk_148 {code : ByteArray} {pc : Nat} (h : DkAt code pc [148]) : decode code pc = .ok (.lcmp, 1) := dk_of ((dk_bind (dk_u1 (h 0 _ rfl))).trans rfl)
theorem dk_153 {code : ByteArray} {pc : Nat} (a b : UInt8) (h : DkAt code pc [153, a, b]) : decode code pc = .ok (.ifCond .eq (Reader.signed 16 (a.toNat * 256 + b.toNat)), 3) := dk_of ((dk_bind (dk_u1 (h 0 _ rfl))).trans ((dk_bind (dk_map (dk_u2 (h 1 _ rfl) (h 2 _ rfl)))).trans rfl))
theorem dk_154 {code : ByteArray} {pc : Nat} (a b : UInt8) (h : DkAt code pc [154, a, b]) : decode code pc = .ok (.ifCond .ne (Reader.signed 16 (a.toNat * 256 + b.toNat)), 3) := dk_of ((dk_bind (dk_u1 (h 0 _ rfl))).trans ((dk_bind (dk_map (dk_u2 (h 1 _ rfl) (h 2 _ rfl)))).trans rfl))
theorem dk_155 {code : ByteArray} {pc : Nat} (a b : UInt8) (h : DkAt code pc [155, a, b]) : decode code pc = .ok (.ifCond .lt (Reader.signed 16 (a.toNat * 256 + b.toNat)), 3) := dk_of ((dk_bind (dk_u1 (h 0 _ rfl))).trans ((dk_bind (dk_map (dk_u2 (h 1 _ rfl) (h 2 _ rfl)))).trans rfl))
theorem dk_156 {code : ByteArray} {pc : Nat} (a b : UInt8) (h : DkAt code pc [156, a, b]) : decode code pc = .ok (.ifCond .ge (Reader.signed 16 (a.toNat * 256 + b.toNat)), 3) := dk_of ((dk_bind (dk_u1 (h 0 _ rfl))).trans ((dk_bind (dk_map (dk_u2 (h 1 _ rfl) (h 2 _ rfl)))).trans rfl))
theorem dk_157 {code : ByteArray} {pc : Nat} (a b : UInt8) (h : DkAt code pc [157, a, b]) : decode code pc = .ok (.ifCond .gt (Reader.signed 16 (a.toNat * 256 + b.toNat)), 3) := dk_of ((dk_bind (dk_u1 (h 0 _ rfl))).trans ((dk_bind (dk_map (dk_u2 (h 1 _ rfl) (h 2 _ rfl)))).trans rfl))
theorem dk_158 {code : ByteArray} {pc : Nat} (a b : UInt8) (h : DkAt code pc [158, a, b]) : decode code pc = .ok (.ifCond .le (Reader.signed 16 (a.toNat * 256 + b.toNat)), 3) := dk_of ((dk_bind (dk_u1 (h 0 _ rfl))).trans ((dk_bind (dk_map (dk_u2 (h 1 _ rfl) (h 2 _ rfl)))).trans rfl))
theorem dk_159 {code : ByteArray} {pc : Nat} (a b : UInt8) (h : DkAt code pc [159, a, b]) : decode code pc = .ok (.if_icmp .eq (Reader.signed 16 (a.toNat * 256 + b.toNat)), 3) := dk_of ((dk_bind (dk_u1 (h 0 _ rfl))).trans ((dk_bind (dk_map (dk_u2 (h 1 _ rfl) (h 2 _ rfl)))).trans rfl))
theorem dk_160 {code : ByteArray} {pc : Nat} (a b : UInt8) (h : DkAt code pc [160, a, b]) : decode code pc = .ok (.if_icmp .ne (Reader.signed 16 (a.toNat * 256 + b.toNat)), 3) := dk_of ((dk_bind (dk_u1 (h 0 _ rfl))).trans ((dk_bind (dk_map (dk_u2 (h 1 _ rfl) (h 2 _ rfl)))).trans rfl))
theorem dk_161 {code : ByteArray} {pc : Nat} (a b : UInt8) (h : DkAt code pc [161, a, b]) : decode code pc = .ok (.if_icmp .lt (Reader.signed 16 (a.toNat * 256 + b.toNat)), 3) := dk_of ((dk_bind (dk_u1 (h 0 _ rfl))).trans ((dk_bind (dk_map (dk_u2 (h 1 _ rfl) (h 2 _ rfl)))).trans rfl))
theorem dk_162 {code : ByteArray} {pc : Nat} (a b : UInt8) (h : DkAt code pc [162, a, b]) : decode code pc = .ok (.if_icmp .ge (Reader.signed 16 (a.toNat * 256 + b.toNat)), 3) := dk_of ((dk_bind (dk_u1 (h 0 _ rfl))).trans ((dk_bind (dk_map (dk_u2 (h 1 _ rfl) (h 2 _ rfl)))).trans rfl))
theorem dk_163 {code : ByteArray} {pc : Nat} (a b : UInt8) (h : DkAt code pc [163, a, b]) : decode code pc = .ok (.if_icmp .gt (Reader.signed 16 (a.toNat * 256 + b.toNat)), 3) := dk_of ((dk_bind (dk_u1 (h 0 _ rfl))).trans ((dk_bind (dk_map (dk_u2 (h 1 _ rfl) (h 2 _ rfl)))).trans rfl))
theorem dk_164 {code : ByteArray} {pc : Nat} (a b : UInt8) (h : DkAt code pc [164, a, b]) : decode code pc = .ok (.if_icmp .le (Reader.signed 16 (a.toNat * 256 + b.toNat)), 3) := dk_of ((dk_bind (dk_u1 (h 0 _ rfl))).trans ((dk_bind (dk_map (dk_u2 (h 1 _ rfl) (h 2 _ rfl)))).trans rfl))
theorem dk_167 {code : ByteArray} {pc : Nat} (a b : UInt8) (h : DkAt code pc [167, a, b]) : decode code pc = .ok (.goto (Reader.signed 16 (a.toNat * 256 + b.toNat)), 3) := dk_of ((dk_bind (dk_u1 (h 0 _ rfl))).trans ((dk_bind (dk_map (dk_u2 (h 1 _ rfl) (h 2 _ rfl)))).trans rfl))
theorem dk_172 {code : ByteArray} {pc : Nat} (h : DkAt code pc [172]) : decode code pc = .ok (.ireturn, 1) := dk_of ((dk_bind (dk_u1 (h 0 _ rfl))).trans rfl)
theorem dk_173 {code : ByteArray} {pc : Nat} (h : DkAt code pc [173]) : decode code pc = .ok (.lreturn, 1) := dk_of ((dk_bind (dk_u1 (h 0 _ rfl))).trans rfl)
theorem dk_176 {code : ByteArray} {pc : Nat} (h : DkAt code pc [176]) : decode code pc = .ok (.areturn, 1) := dk_of ((dk_bind (dk_u1 (h 0 _ rfl))).trans rfl)
theorem dk_177 {code : ByteArray} {pc : Nat} (h : DkAt code pc [177]) : decode code pc = .ok (.return_, 1) := dk_of ((dk_bind (dk_u1 (h 0 _ rfl))).trans rfl)
theorem dk_178 {code : ByteArray} {pc : Nat} (a b : UInt8) (h : DkAt code pc [178, a, b]) : decode code pc = .ok (.getstatic (a.toNat * 256 + b.toNat), 3) := dk_of ((dk_bind (dk_u1 (h 0 _ rfl))).trans ((dk_bind (dk_u2 (h 1 _ rfl) (h 2 _ rfl))).trans rfl))
theorem dk_180 {code : ByteArray} {pc : Nat} (a b : UInt8) (h : DkAt code pc [180, a, b]) : decode code pc = .ok (.getfield (a.toNat * 256 + b.toNat), 3) := dk_of ((dk_bind (dk_u1 (h 0 _ rfl))).trans ((dk_bind (dk_u2 (h 1 _ rfl) (h 2 _ rfl))).trans rfl))
theorem dk_181 {code : ByteArray} {pc : Nat} (a b : UInt8) (h : DkAt code pc [181, a, b]) : decode code pc = .ok (.putfield (a.toNat * 256 + b.toNat), 3) := dk_of ((dk_bind (dk_u1 (h 0 _ rfl))).trans ((dk_bind (dk_u2 (h 1 _ rfl) (h 2 _ rfl))).trans rfl))
theorem dk_182 {code : ByteArray} {pc : Nat} (a b : UInt8) (h : DkAt code pc [182, a, b]) : decode code pc = .ok (.invokevirtual (a.toNat * 256 + b.toNat), 3) := dk_of ((dk_bind (dk_u1 (h 0 _ rfl))).trans ((dk_bind (dk_u2 (h 1 _ rfl) (h 2 _ rfl))).trans rfl))
theorem dk_183 {code : ByteArray} {pc : Nat} (a b : UInt8) (h : DkAt code pc [183, a, b]) : decode code pc = .ok (.invokespecial (a.toNat * 256 + b.toNat), 3) := dk_of ((dk_bind (dk_u1 (h 0 _ rfl))).trans ((dk_bind (dk_u2 (h 1 _ rfl) (h 2 _ rfl))).trans rfl))
theorem dk_184 {code : ByteArray} {pc : Nat} (a b : UInt8) (h : DkAt code pc [184, a, b]) : decode code pc = .ok (.invokestatic (a.toNat * 256 + b.toNat), 3) := dk_of ((dk_bind (dk_u1 (h 0 _ rfl))).trans ((dk_bind (dk_u2 (h 1 _ rfl) (h 2 _ rfl))).trans rfl))
theorem dk_187 {code : ByteArray} {pc : Nat} (a b : UInt8) (h : DkAt code pc [187, a, b]) : decode code pc = .ok (.new (a.toNat * 256 + b.toNat), 3) := dk_of ((dk_bind (dk_u1 (h 0 _ rfl))).trans ((dk_bind (dk_u2 (h 1 _ rfl) (h 2 _ rfl))).trans rfl))
theorem dk_188_8 {code : ByteArray} {pc : Nat} (h : DkAt code pc [188, 8]) : decode code pc = .ok (.newarray .byte, 2) := dk_of ((dk_bind (dk_u1 (h 0 _ rfl))).trans ((dk_bind (dk_u1 (h 1 _ rfl))).trans rfl))
theorem dk_188_9 {code : ByteArray} {pc : Nat} (h : DkAt code pc [188, 9]) : decode code pc = .ok (.newarray .short, 2) := dk_of ((dk_bind (dk_u1 (h 0 _ rfl))).trans ((dk_bind (dk_u1 (h 1 _ rfl))).trans rfl))
theorem dk_188_10 {code : ByteArray} {pc : Nat} (h : DkAt code pc [188, 10]) : decode code pc = .ok (.newarray .int, 2) := dk_of ((dk_bind (dk_u1 (h 0 _ rfl))).trans ((dk_bind (dk_u1 (h 1 _ rfl))).trans rfl))
theorem dk_189 {code : ByteArray} {pc : Nat} (a b : UInt8) (h : DkAt code pc [189, a, b]) : decode code pc = .ok (.anewarray (a.toNat * 256 + b.toNat), 3) := dk_of ((dk_bind (dk_u1 (h 0 _ rfl))).trans ((dk_bind (dk_u2 (h 1 _ rfl) (h 2 _ rfl))).trans rfl))
theorem dk_190 {code : ByteArray} {pc : Nat} (h : DkAt code pc [190]) : decode code pc = .ok (.arraylength, 1) := dk_of ((dk_bind (dk_u1 (h 0 _ rfl))).trans rfl)
theorem dk_191 {code : ByteArray} {pc : Nat} (h : DkAt code pc [191]) : decode code pc = .ok (.athrow, 1) := dk_of ((dk_bind (dk_u1 (h 0 _ rfl))).trans rfl)
theorem dk_192 {code : ByteArray} {pc : Nat} (a b : UInt8) (h : DkAt code pc [192, a, b]) : decode code pc = .ok (.checkcast (a.toNat * 256 + b.toNat), 3) := dk_of ((dk_bind (dk_u1 (h 0 _ rfl))).trans ((dk_bind (dk_u2 (h 1 _ rfl) (h 2 _ rfl))).trans rfl))
theorem dk_193 {code : ByteArray} {pc : Nat} (a b : UInt8) (h : DkAt code pc [193, a, b]) : decode code pc = .ok (.instanceof (a.toNat * 256 + b.toNat), 3) := dk_of ((dk_bind (dk_u1 (h 0 _ rfl))).trans ((dk_bind (dk_u2 (h 1 _ rfl) (h 2 _ rfl))).trans rfl))
theorem dk_198 {code : ByteArray} {pc : Nat} (a b : UInt8) (h : DkAt code pc [198, a, b]) : decode code pc = .ok (.ifnull (Reader.signed 16 (a.toNat * 256 + b.toNat)), 3) := dk_of ((dk_bind (dk_u1 (h 0 _ rfl))).trans ((dk_bind (dk_map (dk_u2 (h 1 _ rfl) (h 2 _ rfl)))).trans rfl))
theorem dk_199 {code : ByteArray} {pc : Nat} (a b : UInt8) (h : DkAt code pc [199, a, b]) : decode code pc = .ok (.ifnonnull (Reader.signed 16 (a.toNat * 256 + b.toNat)), 3) := dk_of ((dk_bind (dk_u1 (h 0 _ rfl))).trans ((dk_bind (dk_map (dk_u2 (h 1 _ rfl) (h 2 _ rfl)))).trans rfl))
/-! java/lang/Throwable -/
set_option maxRecDepth 100000
def RJ0 : String := "java/lang/Throwable"
def TJ0 : u_T := fun k => match k with
  | 0 => ("java/lang/Throwable", "cause", "Ljava/lang/Throwable;", false)
  | 1 => ("java/lang/Throwable", "stackTrace", "[Ljava/lang/StackTraceElement;", false)
  | 2 => ("java/lang/Throwable", "suppressedExceptions", "Ljava/util/List;", false)
  | 3 => ("java/lang/Throwable", "detailMessage", "Ljava/lang/String;", false)
  | _ => ("java/lang/Throwable", "backtrace", "Ljava/lang/Object;", false)
def tyJ0 : Nat → FieldType := fun k => match k with
  | 0 => .object "java/lang/Throwable"
  | 1 => .array (.object "java/lang/StackTraceElement")
  | 2 => .object "java/util/List"
  | 3 => .object "java/lang/String"
  | _ => .object "java/lang/Object"
abbrev wsJ00 : List Cond := u_ws RJ0 TJ0 5
theorem nmJ0 : ∀ a, a < 5 → ∀ b, b < 5 → a ≠ b → (TJ0 a).2.1 ≠ (TJ0 b).2.1 := by decide +kernel
theorem tyJ0_ok : ∀ k, k < 5 → parseFieldDescriptor (TJ0 k).2.2.1 = some (tyJ0 k) := by decide +kernel
abbrev cJ0_init : ByteArray := prog_25_method_1_code
def yJ0_init : MethodName := ⟨RJ0, "<init>", "()V"⟩
def dkwJ0_init_1 : List UInt8 := [182, 0, 27, 87, 177]
abbrev dktJ0_init_1 : List UInt8 := dkwJ0_init_1 ++ []
def dkwJ0_init_0 : List UInt8 := [42, 183, 0, 1, 42, 42, 181, 0, 7, 42, 178, 0, 13, 181, 0, 17, 42, 178, 0, 20, 181, 0, 24, 42]
abbrev dktJ0_init_0 : List UInt8 := dkwJ0_init_0 ++ dktJ0_init_1
theorem dksJ0_init_0 : cJ0_init.data.toList.drop 0 = dktJ0_init_0 := by decide +kernel
theorem dksJ0_init_1 : cJ0_init.data.toList.drop 24 = dktJ0_init_1 := dk_seg dksJ0_init_0 24 rfl rfl
theorem dJ0_init_0 : decode cJ0_init 0 = .ok (.aload_n 0, 1) := dk_42 (dk_at dksJ0_init_0 0 rfl rfl)
theorem dJ0_init_1 : decode cJ0_init 1 = .ok (.invokespecial 1, 3) := dk_183 0 1 (dk_at dksJ0_init_0 1 rfl rfl)
theorem dJ0_init_4 : decode cJ0_init 4 = .ok (.aload_n 0, 1) := dk_42 (dk_at dksJ0_init_0 4 rfl rfl)
theorem dJ0_init_5 : decode cJ0_init 5 = .ok (.aload_n 0, 1) := dk_42 (dk_at dksJ0_init_0 5 rfl rfl)
theorem dJ0_init_6 : decode cJ0_init 6 = .ok (.putfield 7, 3) := dk_181 0 7 (dk_at dksJ0_init_0 6 rfl rfl)
theorem dJ0_init_9 : decode cJ0_init 9 = .ok (.aload_n 0, 1) := dk_42 (dk_at dksJ0_init_0 9 rfl rfl)
theorem dJ0_init_10 : decode cJ0_init 10 = .ok (.getstatic 13, 3) := dk_178 0 13 (dk_at dksJ0_init_0 10 rfl rfl)
theorem dJ0_init_13 : decode cJ0_init 13 = .ok (.putfield 17, 3) := dk_181 0 17 (dk_at dksJ0_init_0 13 rfl rfl)
theorem dJ0_init_16 : decode cJ0_init 16 = .ok (.aload_n 0, 1) := dk_42 (dk_at dksJ0_init_0 16 rfl rfl)
theorem dJ0_init_17 : decode cJ0_init 17 = .ok (.getstatic 20, 3) := dk_178 0 20 (dk_at dksJ0_init_0 17 rfl rfl)
theorem dJ0_init_20 : decode cJ0_init 20 = .ok (.putfield 24, 3) := dk_181 0 24 (dk_at dksJ0_init_0 20 rfl rfl)
theorem dJ0_init_23 : decode cJ0_init 23 = .ok (.aload_n 0, 1) := dk_42 (dk_at dksJ0_init_0 23 rfl rfl)
theorem dJ0_init_24 : decode cJ0_init 24 = .ok (.invokevirtual 27, 3) := dk_182 0 27 (dk_at dksJ0_init_1 0 rfl rfl)
theorem dJ0_init_27 : decode cJ0_init 27 = .ok (.pop, 1) := dk_87 (dk_at dksJ0_init_1 3 rfl rfl)
theorem dJ0_init_28 : decode cJ0_init 28 = .ok (.return_, 1) := dk_177 (dk_at dksJ0_init_1 4 rfl rfl)
abbrev cJ0_init_2 : ByteArray := prog_25_method_5_code
def yJ0_init_2 : MethodName := ⟨RJ0, "<init>", "(Ljava/lang/String;Ljava/lang/Throwable;ZZ)V"⟩
def dkwJ0_init_2_2 : List UInt8 := [44, 181, 0, 7, 29, 154, 0, 8, 42, 1, 181, 0, 24, 177]
abbrev dktJ0_init_2_2 : List UInt8 := dkwJ0_init_2_2 ++ []
def dkwJ0_init_2_1 : List UInt8 := [21, 4, 153, 0, 11, 42, 182, 0, 27, 87, 167, 0, 8, 42, 1, 181, 0, 17, 42, 43, 181, 0, 31, 42]
abbrev dktJ0_init_2_1 : List UInt8 := dkwJ0_init_2_1 ++ dktJ0_init_2_2
def dkwJ0_init_2_0 : List UInt8 := [42, 183, 0, 1, 42, 42, 181, 0, 7, 42, 178, 0, 13, 181, 0, 17, 42, 178, 0, 20, 181, 0, 24]
abbrev dktJ0_init_2_0 : List UInt8 := dkwJ0_init_2_0 ++ dktJ0_init_2_1
theorem dksJ0_init_2_0 : cJ0_init_2.data.toList.drop 0 = dktJ0_init_2_0 := by decide +kernel
theorem dksJ0_init_2_1 : cJ0_init_2.data.toList.drop 23 = dktJ0_init_2_1 := dk_seg dksJ0_init_2_0 23 rfl rfl
theorem dksJ0_init_2_2 : cJ0_init_2.data.toList.drop 47 = dktJ0_init_2_2 := dk_seg dksJ0_init_2_1 24 rfl rfl
theorem dJ0_init_2_0 : decode cJ0_init_2 0 = .ok (.aload_n 0, 1) := dk_42 (dk_at dksJ0_init_2_0 0 rfl rfl)
theorem dJ0_init_2_1 : decode cJ0_init_2 1 = .ok (.invokespecial 1, 3) := dk_183 0 1 (dk_at dksJ0_init_2_0 1 rfl rfl)
theorem dJ0_init_2_4 : decode cJ0_init_2 4 = .ok (.aload_n 0, 1) := dk_42 (dk_at dksJ0_init_2_0 4 rfl rfl)
theorem dJ0_init_2_5 : decode cJ0_init_2 5 = .ok (.aload_n 0, 1) := dk_42 (dk_at dksJ0_init_2_0 5 rfl rfl)
theorem dJ0_init_2_6 : decode cJ0_init_2 6 = .ok (.putfield 7, 3) := dk_181 0 7 (dk_at dksJ0_init_2_0 6 rfl rfl)
theorem dJ0_init_2_9 : decode cJ0_init_2 9 = .ok (.aload_n 0, 1) := dk_42 (dk_at dksJ0_init_2_0 9 rfl rfl)
theorem dJ0_init_2_10 : decode cJ0_init_2 10 = .ok (.getstatic 13, 3) := dk_178 0 13 (dk_at dksJ0_init_2_0 10 rfl rfl)
theorem dJ0_init_2_13 : decode cJ0_init_2 13 = .ok (.putfield 17, 3) := dk_181 0 17 (dk_at dksJ0_init_2_0 13 rfl rfl)
theorem dJ0_init_2_16 : decode cJ0_init_2 16 = .ok (.aload_n 0, 1) := dk_42 (dk_at dksJ0_init_2_0 16 rfl rfl)
theorem dJ0_init_2_17 : decode cJ0_init_2 17 = .ok (.getstatic 20, 3) := dk_178 0 20 (dk_at dksJ0_init_2_0 17 rfl rfl)
theorem dJ0_init_2_20 : decode cJ0_init_2 20 = .ok (.putfield 24, 3) := dk_181 0 24 (dk_at dksJ0_init_2_0 20 rfl rfl)
theorem dJ0_init_2_23 : decode cJ0_init_2 23 = .ok (.iload 4, 2) := dk_21 4 (dk_at dksJ0_init_2_1 0 rfl rfl)
theorem dJ0_init_2_25 : decode cJ0_init_2 25 = .ok (.ifCond .eq 11, 3) := dk_153 0 11 (dk_at dksJ0_init_2_1 2 rfl rfl)
theorem dJ0_init_2_28 : decode cJ0_init_2 28 = .ok (.aload_n 0, 1) := dk_42 (dk_at dksJ0_init_2_1 5 rfl rfl)
theorem dJ0_init_2_29 : decode cJ0_init_2 29 = .ok (.invokevirtual 27, 3) := dk_182 0 27 (dk_at dksJ0_init_2_1 6 rfl rfl)
theorem dJ0_init_2_32 : decode cJ0_init_2 32 = .ok (.pop, 1) := dk_87 (dk_at dksJ0_init_2_1 9 rfl rfl)
theorem dJ0_init_2_33 : decode cJ0_init_2 33 = .ok (.goto 8, 3) := dk_167 0 8 (dk_at dksJ0_init_2_1 10 rfl rfl)
theorem dJ0_init_2_36 : decode cJ0_init_2 36 = .ok (.aload_n 0, 1) := dk_42 (dk_at dksJ0_init_2_1 13 rfl rfl)
theorem dJ0_init_2_37 : decode cJ0_init_2 37 = .ok (.aconst_null, 1) := dk_1 (dk_at dksJ0_init_2_1 14 rfl rfl)
theorem dJ0_init_2_38 : decode cJ0_init_2 38 = .ok (.putfield 17, 3) := dk_181 0 17 (dk_at dksJ0_init_2_1 15 rfl rfl)
theorem dJ0_init_2_41 : decode cJ0_init_2 41 = .ok (.aload_n 0, 1) := dk_42 (dk_at dksJ0_init_2_1 18 rfl rfl)
theorem dJ0_init_2_42 : decode cJ0_init_2 42 = .ok (.aload_n 1, 1) := dk_43 (dk_at dksJ0_init_2_1 19 rfl rfl)
theorem dJ0_init_2_43 : decode cJ0_init_2 43 = .ok (.putfield 31, 3) := dk_181 0 31 (dk_at dksJ0_init_2_1 20 rfl rfl)
theorem dJ0_init_2_46 : decode cJ0_init_2 46 = .ok (.aload_n 0, 1) := dk_42 (dk_at dksJ0_init_2_1 23 rfl rfl)
theorem dJ0_init_2_47 : decode cJ0_init_2 47 = .ok (.aload_n 2, 1) := dk_44 (dk_at dksJ0_init_2_2 0 rfl rfl)
theorem dJ0_init_2_48 : decode cJ0_init_2 48 = .ok (.putfield 7, 3) := dk_181 0 7 (dk_at dksJ0_init_2_2 1 rfl rfl)
theorem dJ0_init_2_51 : decode cJ0_init_2 51 = .ok (.iload_n 3, 1) := dk_29 (dk_at dksJ0_init_2_2 4 rfl rfl)
theorem dJ0_init_2_52 : decode cJ0_init_2 52 = .ok (.ifCond .ne 8, 3) := dk_154 0 8 (dk_at dksJ0_init_2_2 5 rfl rfl)
theorem dJ0_init_2_55 : decode cJ0_init_2 55 = .ok (.aload_n 0, 1) := dk_42 (dk_at dksJ0_init_2_2 8 rfl rfl)
theorem dJ0_init_2_56 : decode cJ0_init_2 56 = .ok (.aconst_null, 1) := dk_1 (dk_at dksJ0_init_2_2 9 rfl rfl)
theorem dJ0_init_2_57 : decode cJ0_init_2 57 = .ok (.putfield 24, 3) := dk_181 0 24 (dk_at dksJ0_init_2_2 10 rfl rfl)
theorem dJ0_init_2_60 : decode cJ0_init_2 60 = .ok (.return_, 1) := dk_177 (dk_at dksJ0_init_2_2 13 rfl rfl)
theorem q92 : (Jvm.Cond.initialized "java/lang/Throwable") ∈ lw_all := lw_g (lw_at lw_m1 2 rfl) rfl
theorem q130 : (Jvm.Cond.declares ({ cls := "java/lang/Throwable", name := "<init>", desc := "()V" } : Jvm.MethodName)) ∈ lw_tbl := lw_at lw_m1 40 rfl
theorem q131 : (Jvm.Cond.declares ({ cls := "java/lang/Throwable", name := "<init>", desc := "(Ljava/lang/String;)V" } : Jvm.MethodName)) ∈ lw_tbl := lw_at lw_m1 41 rfl
theorem q135 : (Jvm.Cond.lays "java/lang/Throwable" "java/lang/Throwable" "cause" "Ljava/lang/Throwable;") ∈ lw_all := lw_g (lw_at lw_m1 45 rfl) rfl
theorem q137 : (Jvm.Cond.lays "java/lang/Throwable" "java/lang/Throwable" "stackTrace" "[Ljava/lang/StackTraceElement;") ∈ lw_all := lw_g (lw_at lw_m1 47 rfl) rfl
theorem q139 : (Jvm.Cond.lays "java/lang/Throwable" "java/lang/Throwable" "suppressedExceptions" "Ljava/util/List;") ∈ lw_all := lw_g (lw_at lw_m1 49 rfl) rfl
theorem q141 : (Jvm.Cond.lays "java/lang/Throwable" "java/lang/Throwable" "detailMessage" "Ljava/lang/String;") ∈ lw_all := lw_g (lw_at lw_m1 51 rfl) rfl
theorem q143 : (Jvm.Cond.lays "java/lang/Throwable" "java/lang/Throwable" "backtrace" "Ljava/lang/Object;") ∈ lw_all := lw_g (lw_at lw_m1 53 rfl) rfl
theorem q144 : (Jvm.Cond.fieldLink "java/lang/Throwable" (198 : Nat) "java/lang/Throwable" "backtrace" "Ljava/lang/Object;") ∈ lw_all := lw_g (lw_at lw_m1 54 rfl) rfl
theorem q145 : (Jvm.Cond.superclass "java/lang/Throwable" "java/lang/Object") ∈ lw_all := lw_g (lw_at lw_m1 55 rfl) rfl
theorem q146 : (Jvm.Cond.instanceMethod ({ cls := "java/lang/Throwable", name := "<init>", desc := "()V" } : Jvm.MethodName)) ∈ lw_all := lw_g (lw_at lw_m1 56 rfl) rfl
theorem q147 : (Jvm.Cond.code ({ cls := "java/lang/Throwable", name := "<init>", desc := "()V" } : Jvm.MethodName) prog_25_method_1_code (1 : Nat) (Option.none : Option Jvm.ClassFile.FieldType)) ∈ lw_all := lw_g (lw_at lw_m1 57 rfl) rfl
theorem q148 : (Jvm.Cond.methodLink "java/lang/Throwable" (1 : Nat) ({ cls := "java/lang/Object", name := "<init>", desc := "()V" } : Jvm.MethodName)) ∈ lw_all := lw_g (lw_at lw_m1 58 rfl) rfl
theorem q149 : (Jvm.Cond.fieldLink "java/lang/Throwable" (13 : Nat) "java/lang/Throwable" "UNASSIGNED_STACK" "[Ljava/lang/StackTraceElement;") ∈ lw_all := lw_g (lw_at lw_m1 59 rfl) rfl
theorem q150 : (Jvm.Cond.laysStatic "java/lang/Throwable" "UNASSIGNED_STACK" "[Ljava/lang/StackTraceElement;") ∈ lw_tbl := lw_at lw_m1 60 rfl
theorem q151 : (Jvm.Cond.fieldLink "java/lang/Throwable" (20 : Nat) "java/lang/Throwable" "SUPPRESSED_SENTINEL" "Ljava/util/List;") ∈ lw_all := lw_g (lw_at lw_m1 61 rfl) rfl
theorem q152 : (Jvm.Cond.laysStatic "java/lang/Throwable" "SUPPRESSED_SENTINEL" "Ljava/util/List;") ∈ lw_tbl := lw_at lw_m1 62 rfl
theorem q153 : (Jvm.Cond.methodLink "java/lang/Throwable" (27 : Nat) ({ cls := "java/lang/Throwable", name := "fillInStackTrace", desc := "()Ljava/lang/Throwable;" } : Jvm.MethodName)) ∈ lw_all := lw_g (lw_at lw_m1 63 rfl) rfl
theorem q154 : (Jvm.Cond.instanceMethod ({ cls := "java/lang/Throwable", name := "fillInStackTrace", desc := "()Ljava/lang/Throwable;" } : Jvm.MethodName)) ∈ lw_all := lw_g (lw_at lw_m1 64 rfl) rfl
theorem q155 : (Jvm.Cond.sameMethod "java/lang/Throwable" "java/lang/Throwable" "fillInStackTrace" "()Ljava/lang/Throwable;") ∈ lw_all := lw_g (lw_at lw_m1 65 rfl) rfl
theorem q157 : (Jvm.Cond.codeSync ({ cls := "java/lang/Throwable", name := "fillInStackTrace", desc := "()Ljava/lang/Throwable;" } : Jvm.MethodName) prog_25_method_18_code (1 : Nat) (Option.some (Jvm.ClassFile.FieldType.object "java/lang/Throwable"))) ∈ lw_all := lw_g (lw_at lw_m1 67 rfl) rfl
theorem q158 : (Jvm.Cond.methodLink "java/lang/Throwable" (202 : Nat) ({ cls := "java/lang/Throwable", name := "fillInStackTrace", desc := "(I)Ljava/lang/Throwable;" } : Jvm.MethodName)) ∈ lw_all := lw_g (lw_at lw_m1 68 rfl) rfl
theorem q159 : (Jvm.Cond.privateMethod ({ cls := "java/lang/Throwable", name := "fillInStackTrace", desc := "(I)Ljava/lang/Throwable;" } : Jvm.MethodName)) ∈ lw_tbl := lw_at lw_m1 69 rfl
theorem q160 : (Jvm.Cond.instanceMethod ({ cls := "java/lang/Throwable", name := "fillInStackTrace", desc := "(I)Ljava/lang/Throwable;" } : Jvm.MethodName)) ∈ lw_all := lw_g (lw_at lw_m1 70 rfl) rfl
theorem q161 : (Jvm.Cond.instantiable "java/lang/Throwable" (6 : Nat)) ∈ lw_all := lw_g (lw_at lw_m1 71 rfl) rfl
theorem q162 : (Jvm.Cond.native ({ cls := "java/lang/Throwable", name := "fillInStackTrace", desc := "(I)Ljava/lang/Throwable;" } : Jvm.MethodName)) ∈ lw_all := lw_g (lw_at lw_m1 72 rfl) rfl
theorem q173 : (Jvm.Cond.instanceMethod ({ cls := "java/lang/Throwable", name := "<init>", desc := "(Ljava/lang/String;Ljava/lang/Throwable;ZZ)V" } : Jvm.MethodName)) ∈ lw_all := lw_g (lw_at lw_m1 83 rfl) rfl
theorem q174 : (Jvm.Cond.code ({ cls := "java/lang/Throwable", name := "<init>", desc := "(Ljava/lang/String;Ljava/lang/Throwable;ZZ)V" } : Jvm.MethodName) prog_25_method_5_code (5 : Nat) (Option.none : Option Jvm.ClassFile.FieldType)) ∈ lw_all := lw_g (lw_at lw_m1 84 rfl) rfl
theorem q176 : (Jvm.Cond.fieldLink "java/lang/Throwable" (198 : Nat) "java/lang/Throwable" "backtrace" "Ljava/lang/Object;") ∈ lw_all := lw_g (lw_at lw_m1 86 rfl) rfl
theorem q177 : (Jvm.Cond.fieldLink "java/lang/Throwable" (31 : Nat) "java/lang/Throwable" "detailMessage" "Ljava/lang/String;") ∈ lw_all := lw_g (lw_at lw_m1 87 rfl) rfl
theorem q178 : (Jvm.Cond.fieldLink "java/lang/Throwable" (7 : Nat) "java/lang/Throwable" "cause" "Ljava/lang/Throwable;") ∈ lw_all := lw_g (lw_at lw_m1 88 rfl) rfl
theorem q179 : (Jvm.Cond.fieldLink "java/lang/Throwable" (17 : Nat) "java/lang/Throwable" "stackTrace" "[Ljava/lang/StackTraceElement;") ∈ lw_all := lw_g (lw_at lw_m1 89 rfl) rfl
theorem q180 : (Jvm.Cond.fieldLink "java/lang/Throwable" (24 : Nat) "java/lang/Throwable" "suppressedExceptions" "Ljava/util/List;") ∈ lw_all := lw_g (lw_at lw_m1 90 rfl) rfl
theorem q183 : (Jvm.Cond.soleField "java/lang/Throwable" "backtrace") ∈ lw_all := lw_g (lw_at lw_m1 93 rfl) rfl
theorem q184 : (Jvm.Cond.soleField "java/lang/Throwable" "detailMessage") ∈ lw_all := lw_g (lw_at lw_m1 94 rfl) rfl
theorem q185 : (Jvm.Cond.soleField "java/lang/Throwable" "cause") ∈ lw_all := lw_g (lw_at lw_m1 95 rfl) rfl
theorem q186 : (Jvm.Cond.soleField "java/lang/Throwable" "stackTrace") ∈ lw_all := lw_g (lw_at lw_m1 96 rfl) rfl
theorem q188 : (Jvm.Cond.soleField "java/lang/Throwable" "depth") ∈ lw_all := lw_g (lw_at lw_m1 98 rfl) rfl
theorem q189 : (Jvm.Cond.soleField "java/lang/Throwable" "suppressedExceptions") ∈ lw_all := lw_g (lw_at lw_m1 99 rfl) rfl
theorem q1629 : (Jvm.Cond.sameMethod "java/lang/Throwable" "java/lang/Throwable" "fillInStackTrace" "(I)Ljava/lang/Throwable;") ∈ lw_all := lw_g (lw_at lw_m7 99 rfl) rfl
theorem in_J0 : ∀ w ∈ wsJ00, w ∈ lw_all := lw_in wsJ00 [135, 137, 139, 141, 143] (by decide +kernel) (by decide +kernel)
/-! java/lang/Exception -/
set_option maxRecDepth 100000
def RJ1 : String := "java/lang/Exception"
abbrev cJ1_init : ByteArray := prog_17_method_5_code
def yJ1_init : MethodName := ⟨RJ1, "<init>", "(Ljava/lang/String;Ljava/lang/Throwable;ZZ)V"⟩
def dkwJ1_init_0 : List UInt8 := [42, 43, 44, 29, 21, 4, 183, 0, 16, 177]
abbrev dktJ1_init_0 : List UInt8 := dkwJ1_init_0 ++ []
theorem dksJ1_init_0 : cJ1_init.data.toList.drop 0 = dktJ1_init_0 := by decide +kernel
theorem dJ1_init_0 : decode cJ1_init 0 = .ok (.aload_n 0, 1) := dk_42 (dk_at dksJ1_init_0 0 rfl rfl)
theorem dJ1_init_1 : decode cJ1_init 1 = .ok (.aload_n 1, 1) := dk_43 (dk_at dksJ1_init_0 1 rfl rfl)
theorem dJ1_init_2 : decode cJ1_init 2 = .ok (.aload_n 2, 1) := dk_44 (dk_at dksJ1_init_0 2 rfl rfl)
theorem dJ1_init_3 : decode cJ1_init 3 = .ok (.iload_n 3, 1) := dk_29 (dk_at dksJ1_init_0 3 rfl rfl)
theorem dJ1_init_4 : decode cJ1_init 4 = .ok (.iload 4, 2) := dk_21 4 (dk_at dksJ1_init_0 4 rfl rfl)
theorem dJ1_init_6 : decode cJ1_init 6 = .ok (.invokespecial 16, 3) := dk_183 0 16 (dk_at dksJ1_init_0 6 rfl rfl)
theorem dJ1_init_9 : decode cJ1_init 9 = .ok (.return_, 1) := dk_177 (dk_at dksJ1_init_0 9 rfl rfl)
theorem q93 : (Jvm.Cond.initialized "java/lang/Exception") ∈ lw_all := lw_g (lw_at lw_m1 3 rfl) rfl
theorem q128 : (Jvm.Cond.declares ({ cls := "java/lang/Exception", name := "<init>", desc := "()V" } : Jvm.MethodName)) ∈ lw_tbl := lw_at lw_m1 38 rfl
theorem q129 : (Jvm.Cond.declares ({ cls := "java/lang/Exception", name := "<init>", desc := "(Ljava/lang/String;)V" } : Jvm.MethodName)) ∈ lw_tbl := lw_at lw_m1 39 rfl
theorem q170 : (Jvm.Cond.instanceMethod ({ cls := "java/lang/Exception", name := "<init>", desc := "(Ljava/lang/String;Ljava/lang/Throwable;ZZ)V" } : Jvm.MethodName)) ∈ lw_all := lw_g (lw_at lw_m1 80 rfl) rfl
theorem q171 : (Jvm.Cond.code ({ cls := "java/lang/Exception", name := "<init>", desc := "(Ljava/lang/String;Ljava/lang/Throwable;ZZ)V" } : Jvm.MethodName) prog_17_method_5_code (5 : Nat) (Option.none : Option Jvm.ClassFile.FieldType)) ∈ lw_all := lw_g (lw_at lw_m1 81 rfl) rfl
theorem q172 : (Jvm.Cond.methodLink "java/lang/Exception" (16 : Nat) ({ cls := "java/lang/Throwable", name := "<init>", desc := "(Ljava/lang/String;Ljava/lang/Throwable;ZZ)V" } : Jvm.MethodName)) ∈ lw_all := lw_g (lw_at lw_m1 82 rfl) rfl
/-! java/lang/RuntimeException -/
set_option maxRecDepth 100000
def RJ2 : String := "java/lang/RuntimeException"
abbrev cJ2_init : ByteArray := prog_20_method_5_code
def yJ2_init : MethodName := ⟨RJ2, "<init>", "(Ljava/lang/String;Ljava/lang/Throwable;ZZ)V"⟩
def dkwJ2_init_0 : List UInt8 := [42, 43, 44, 29, 21, 4, 183, 0, 16, 177]
abbrev dktJ2_init_0 : List UInt8 := dkwJ2_init_0 ++ []
theorem dksJ2_init_0 : cJ2_init.data.toList.drop 0 = dktJ2_init_0 := by decide +kernel
theorem dJ2_init_0 : decode cJ2_init 0 = .ok (.aload_n 0, 1) := dk_42 (dk_at dksJ2_init_0 0 rfl rfl)
theorem dJ2_init_1 : decode cJ2_init 1 = .ok (.aload_n 1, 1) := dk_43 (dk_at dksJ2_init_0 1 rfl rfl)
theorem dJ2_init_2 : decode cJ2_init 2 = .ok (.aload_n 2, 1) := dk_44 (dk_at dksJ2_init_0 2 rfl rfl)
theorem dJ2_init_3 : decode cJ2_init 3 = .ok (.iload_n 3, 1) := dk_29 (dk_at dksJ2_init_0 3 rfl rfl)
theorem dJ2_init_4 : decode cJ2_init 4 = .ok (.iload 4, 2) := dk_21 4 (dk_at dksJ2_init_0 4 rfl rfl)
theorem dJ2_init_6 : decode cJ2_init 6 = .ok (.invokespecial 16, 3) := dk_183 0 16 (dk_at dksJ2_init_0 6 rfl rfl)
theorem dJ2_init_9 : decode cJ2_init 9 = .ok (.return_, 1) := dk_177 (dk_at dksJ2_init_0 9 rfl rfl)
theorem q94 : (Jvm.Cond.initialized "java/lang/RuntimeException") ∈ lw_all := lw_g (lw_at lw_m1 4 rfl) rfl
theorem q126 : (Jvm.Cond.declares ({ cls := "java/lang/RuntimeException", name := "<init>", desc := "()V" } : Jvm.MethodName)) ∈ lw_tbl := lw_at lw_m1 36 rfl
theorem q127 : (Jvm.Cond.declares ({ cls := "java/lang/RuntimeException", name := "<init>", desc := "(Ljava/lang/String;)V" } : Jvm.MethodName)) ∈ lw_tbl := lw_at lw_m1 37 rfl
theorem q167 : (Jvm.Cond.instanceMethod ({ cls := "java/lang/RuntimeException", name := "<init>", desc := "(Ljava/lang/String;Ljava/lang/Throwable;ZZ)V" } : Jvm.MethodName)) ∈ lw_all := lw_g (lw_at lw_m1 77 rfl) rfl
theorem q168 : (Jvm.Cond.code ({ cls := "java/lang/RuntimeException", name := "<init>", desc := "(Ljava/lang/String;Ljava/lang/Throwable;ZZ)V" } : Jvm.MethodName) prog_20_method_5_code (5 : Nat) (Option.none : Option Jvm.ClassFile.FieldType)) ∈ lw_all := lw_g (lw_at lw_m1 78 rfl) rfl
theorem q169 : (Jvm.Cond.methodLink "java/lang/RuntimeException" (16 : Nat) ({ cls := "java/lang/Exception", name := "<init>", desc := "(Ljava/lang/String;Ljava/lang/Throwable;ZZ)V" } : Jvm.MethodName)) ∈ lw_all := lw_g (lw_at lw_m1 79 rfl) rfl
/-! java/lang/Math -/
set_option maxRecDepth 100000
def RJ3 : String := "java/lang/Math"
abbrev cJ3_max : ByteArray := prog_19_method_65_code
def yJ3_max : MethodName := ⟨RJ3, "max", "(II)I"⟩
def dkwJ3_max_0 : List UInt8 := [26, 27, 161, 0, 7, 26, 167, 0, 4, 27, 172]
abbrev dktJ3_max_0 : List UInt8 := dkwJ3_max_0 ++ []
theorem dksJ3_max_0 : cJ3_max.data.toList.drop 0 = dktJ3_max_0 := by decide +kernel
theorem dJ3_max_0 : decode cJ3_max 0 = .ok (.iload_n 0, 1) := dk_26 (dk_at dksJ3_max_0 0 rfl rfl)
theorem dJ3_max_1 : decode cJ3_max 1 = .ok (.iload_n 1, 1) := dk_27 (dk_at dksJ3_max_0 1 rfl rfl)
theorem dJ3_max_2 : decode cJ3_max 2 = .ok (.if_icmp .lt 7, 3) := dk_161 0 7 (dk_at dksJ3_max_0 2 rfl rfl)
theorem dJ3_max_5 : decode cJ3_max 5 = .ok (.iload_n 0, 1) := dk_26 (dk_at dksJ3_max_0 5 rfl rfl)
theorem dJ3_max_6 : decode cJ3_max 6 = .ok (.goto 4, 3) := dk_167 0 4 (dk_at dksJ3_max_0 6 rfl rfl)
theorem dJ3_max_9 : decode cJ3_max 9 = .ok (.iload_n 1, 1) := dk_27 (dk_at dksJ3_max_0 9 rfl rfl)
theorem dJ3_max_10 : decode cJ3_max 10 = .ok (.ireturn, 1) := dk_172 (dk_at dksJ3_max_0 10 rfl rfl)
abbrev cJ3_min : ByteArray := prog_19_method_69_code
def yJ3_min : MethodName := ⟨RJ3, "min", "(II)I"⟩
def dkwJ3_min_0 : List UInt8 := [26, 27, 163, 0, 7, 26, 167, 0, 4, 27, 172]
abbrev dktJ3_min_0 : List UInt8 := dkwJ3_min_0 ++ []
theorem dksJ3_min_0 : cJ3_min.data.toList.drop 0 = dktJ3_min_0 := by decide +kernel
theorem dJ3_min_0 : decode cJ3_min 0 = .ok (.iload_n 0, 1) := dk_26 (dk_at dksJ3_min_0 0 rfl rfl)
theorem dJ3_min_1 : decode cJ3_min 1 = .ok (.iload_n 1, 1) := dk_27 (dk_at dksJ3_min_0 1 rfl rfl)
theorem dJ3_min_2 : decode cJ3_min 2 = .ok (.if_icmp .gt 7, 3) := dk_163 0 7 (dk_at dksJ3_min_0 2 rfl rfl)
theorem dJ3_min_5 : decode cJ3_min 5 = .ok (.iload_n 0, 1) := dk_26 (dk_at dksJ3_min_0 5 rfl rfl)
theorem dJ3_min_6 : decode cJ3_min 6 = .ok (.goto 4, 3) := dk_167 0 4 (dk_at dksJ3_min_0 6 rfl rfl)
theorem dJ3_min_9 : decode cJ3_min 9 = .ok (.iload_n 1, 1) := dk_27 (dk_at dksJ3_min_0 9 rfl rfl)
theorem dJ3_min_10 : decode cJ3_min 10 = .ok (.ireturn, 1) := dk_172 (dk_at dksJ3_min_0 10 rfl rfl)
theorem q108 : (Jvm.Cond.initialized "java/lang/Math") ∈ lw_all := lw_g (lw_at lw_m1 18 rfl) rfl
theorem q595 : (Jvm.Cond.static ({ cls := "java/lang/Math", name := "max", desc := "(II)I" } : Jvm.MethodName)) ∈ lw_all := lw_g (lw_at lw_m3 25 rfl) rfl
theorem q596 : (Jvm.Cond.code ({ cls := "java/lang/Math", name := "max", desc := "(II)I" } : Jvm.MethodName) prog_19_method_65_code (2 : Nat) (Option.some Jvm.ClassFile.FieldType.int)) ∈ lw_all := lw_g (lw_at lw_m3 26 rfl) rfl
theorem q686 : (Jvm.Cond.static ({ cls := "java/lang/Math", name := "min", desc := "(II)I" } : Jvm.MethodName)) ∈ lw_all := lw_g (lw_at lw_m3 116 rfl) rfl
theorem q687 : (Jvm.Cond.code ({ cls := "java/lang/Math", name := "min", desc := "(II)I" } : Jvm.MethodName) prog_19_method_69_code (2 : Nat) (Option.some Jvm.ClassFile.FieldType.int)) ∈ lw_all := lw_g (lw_at lw_m3 117 rfl) rfl
/-! java/lang/Integer -/
set_option maxRecDepth 100000
def RJ4 : String := "java/lang/Integer"
abbrev cJ4_bitCount : ByteArray := prog_18_method_49_code
def yJ4_bitCount : MethodName := ⟨RJ4, "bitCount", "(I)I"⟩
def dkwJ4_bitCount_2 : List UInt8 := [26, 16, 63, 126, 172]
abbrev dktJ4_bitCount_2 : List UInt8 := dkwJ4_bitCount_2 ++ []
def dkwJ4_bitCount_1 : List UInt8 := [26, 26, 7, 124, 96, 19, 1, 11, 126, 59, 26, 26, 16, 8, 124, 96, 59, 26, 26, 16, 16, 124, 96, 59]
abbrev dktJ4_bitCount_1 : List UInt8 := dkwJ4_bitCount_1 ++ dktJ4_bitCount_2
def dkwJ4_bitCount_0 : List UInt8 := [26, 26, 4, 124, 19, 1, 9, 126, 100, 59, 26, 19, 1, 10, 126, 26, 5, 124, 19, 1, 10, 126, 96, 59]
abbrev dktJ4_bitCount_0 : List UInt8 := dkwJ4_bitCount_0 ++ dktJ4_bitCount_1
theorem dksJ4_bitCount_0 : cJ4_bitCount.data.toList.drop 0 = dktJ4_bitCount_0 := by decide +kernel
theorem dksJ4_bitCount_1 : cJ4_bitCount.data.toList.drop 24 = dktJ4_bitCount_1 := dk_seg dksJ4_bitCount_0 24 rfl rfl
theorem dksJ4_bitCount_2 : cJ4_bitCount.data.toList.drop 48 = dktJ4_bitCount_2 := dk_seg dksJ4_bitCount_1 24 rfl rfl
theorem dJ4_bitCount_0 : decode cJ4_bitCount 0 = .ok (.iload_n 0, 1) := dk_26 (dk_at dksJ4_bitCount_0 0 rfl rfl)
theorem dJ4_bitCount_1 : decode cJ4_bitCount 1 = .ok (.iload_n 0, 1) := dk_26 (dk_at dksJ4_bitCount_0 1 rfl rfl)
theorem dJ4_bitCount_2 : decode cJ4_bitCount 2 = .ok (.iconst 1, 1) := dk_4 (dk_at dksJ4_bitCount_0 2 rfl rfl)
theorem dJ4_bitCount_3 : decode cJ4_bitCount 3 = .ok (.iushr, 1) := dk_124 (dk_at dksJ4_bitCount_0 3 rfl rfl)
theorem dJ4_bitCount_4 : decode cJ4_bitCount 4 = .ok (.ldc_w 265, 3) := dk_19 1 9 (dk_at dksJ4_bitCount_0 4 rfl rfl)
theorem dJ4_bitCount_7 : decode cJ4_bitCount 7 = .ok (.iand, 1) := dk_126 (dk_at dksJ4_bitCount_0 7 rfl rfl)
theorem dJ4_bitCount_8 : decode cJ4_bitCount 8 = .ok (.isub, 1) := dk_100 (dk_at dksJ4_bitCount_0 8 rfl rfl)
theorem dJ4_bitCount_9 : decode cJ4_bitCount 9 = .ok (.istore_n 0, 1) := dk_59 (dk_at dksJ4_bitCount_0 9 rfl rfl)
theorem dJ4_bitCount_10 : decode cJ4_bitCount 10 = .ok (.iload_n 0, 1) := dk_26 (dk_at dksJ4_bitCount_0 10 rfl rfl)
theorem dJ4_bitCount_11 : decode cJ4_bitCount 11 = .ok (.ldc_w 266, 3) := dk_19 1 10 (dk_at dksJ4_bitCount_0 11 rfl rfl)
theorem dJ4_bitCount_14 : decode cJ4_bitCount 14 = .ok (.iand, 1) := dk_126 (dk_at dksJ4_bitCount_0 14 rfl rfl)
theorem dJ4_bitCount_15 : decode cJ4_bitCount 15 = .ok (.iload_n 0, 1) := dk_26 (dk_at dksJ4_bitCount_0 15 rfl rfl)
theorem dJ4_bitCount_16 : decode cJ4_bitCount 16 = .ok (.iconst 2, 1) := dk_5 (dk_at dksJ4_bitCount_0 16 rfl rfl)
theorem dJ4_bitCount_17 : decode cJ4_bitCount 17 = .ok (.iushr, 1) := dk_124 (dk_at dksJ4_bitCount_0 17 rfl rfl)
theorem dJ4_bitCount_18 : decode cJ4_bitCount 18 = .ok (.ldc_w 266, 3) := dk_19 1 10 (dk_at dksJ4_bitCount_0 18 rfl rfl)
theorem dJ4_bitCount_21 : decode cJ4_bitCount 21 = .ok (.iand, 1) := dk_126 (dk_at dksJ4_bitCount_0 21 rfl rfl)
theorem dJ4_bitCount_22 : decode cJ4_bitCount 22 = .ok (.iadd, 1) := dk_96 (dk_at dksJ4_bitCount_0 22 rfl rfl)
theorem dJ4_bitCount_23 : decode cJ4_bitCount 23 = .ok (.istore_n 0, 1) := dk_59 (dk_at dksJ4_bitCount_0 23 rfl rfl)
theorem dJ4_bitCount_24 : decode cJ4_bitCount 24 = .ok (.iload_n 0, 1) := dk_26 (dk_at dksJ4_bitCount_1 0 rfl rfl)
theorem dJ4_bitCount_25 : decode cJ4_bitCount 25 = .ok (.iload_n 0, 1) := dk_26 (dk_at dksJ4_bitCount_1 1 rfl rfl)
theorem dJ4_bitCount_26 : decode cJ4_bitCount 26 = .ok (.iconst 4, 1) := dk_7 (dk_at dksJ4_bitCount_1 2 rfl rfl)
theorem dJ4_bitCount_27 : decode cJ4_bitCount 27 = .ok (.iushr, 1) := dk_124 (dk_at dksJ4_bitCount_1 3 rfl rfl)
theorem dJ4_bitCount_28 : decode cJ4_bitCount 28 = .ok (.iadd, 1) := dk_96 (dk_at dksJ4_bitCount_1 4 rfl rfl)
theorem dJ4_bitCount_29 : decode cJ4_bitCount 29 = .ok (.ldc_w 267, 3) := dk_19 1 11 (dk_at dksJ4_bitCount_1 5 rfl rfl)
theorem dJ4_bitCount_32 : decode cJ4_bitCount 32 = .ok (.iand, 1) := dk_126 (dk_at dksJ4_bitCount_1 8 rfl rfl)
theorem dJ4_bitCount_33 : decode cJ4_bitCount 33 = .ok (.istore_n 0, 1) := dk_59 (dk_at dksJ4_bitCount_1 9 rfl rfl)
theorem dJ4_bitCount_34 : decode cJ4_bitCount 34 = .ok (.iload_n 0, 1) := dk_26 (dk_at dksJ4_bitCount_1 10 rfl rfl)
theorem dJ4_bitCount_35 : decode cJ4_bitCount 35 = .ok (.iload_n 0, 1) := dk_26 (dk_at dksJ4_bitCount_1 11 rfl rfl)
theorem dJ4_bitCount_36 : decode cJ4_bitCount 36 = .ok (.bipush 8, 2) := dk_16 8 (dk_at dksJ4_bitCount_1 12 rfl rfl)
theorem dJ4_bitCount_38 : decode cJ4_bitCount 38 = .ok (.iushr, 1) := dk_124 (dk_at dksJ4_bitCount_1 14 rfl rfl)
theorem dJ4_bitCount_39 : decode cJ4_bitCount 39 = .ok (.iadd, 1) := dk_96 (dk_at dksJ4_bitCount_1 15 rfl rfl)
theorem dJ4_bitCount_40 : decode cJ4_bitCount 40 = .ok (.istore_n 0, 1) := dk_59 (dk_at dksJ4_bitCount_1 16 rfl rfl)
theorem dJ4_bitCount_41 : decode cJ4_bitCount 41 = .ok (.iload_n 0, 1) := dk_26 (dk_at dksJ4_bitCount_1 17 rfl rfl)
theorem dJ4_bitCount_42 : decode cJ4_bitCount 42 = .ok (.iload_n 0, 1) := dk_26 (dk_at dksJ4_bitCount_1 18 rfl rfl)
theorem dJ4_bitCount_43 : decode cJ4_bitCount 43 = .ok (.bipush 16, 2) := dk_16 16 (dk_at dksJ4_bitCount_1 19 rfl rfl)
theorem dJ4_bitCount_45 : decode cJ4_bitCount 45 = .ok (.iushr, 1) := dk_124 (dk_at dksJ4_bitCount_1 21 rfl rfl)
theorem dJ4_bitCount_46 : decode cJ4_bitCount 46 = .ok (.iadd, 1) := dk_96 (dk_at dksJ4_bitCount_1 22 rfl rfl)
theorem dJ4_bitCount_47 : decode cJ4_bitCount 47 = .ok (.istore_n 0, 1) := dk_59 (dk_at dksJ4_bitCount_1 23 rfl rfl)
theorem dJ4_bitCount_48 : decode cJ4_bitCount 48 = .ok (.iload_n 0, 1) := dk_26 (dk_at dksJ4_bitCount_2 0 rfl rfl)
theorem dJ4_bitCount_49 : decode cJ4_bitCount 49 = .ok (.bipush 63, 2) := dk_16 63 (dk_at dksJ4_bitCount_2 1 rfl rfl)
theorem dJ4_bitCount_51 : decode cJ4_bitCount 51 = .ok (.iand, 1) := dk_126 (dk_at dksJ4_bitCount_2 3 rfl rfl)
theorem dJ4_bitCount_52 : decode cJ4_bitCount 52 = .ok (.ireturn, 1) := dk_172 (dk_at dksJ4_bitCount_2 4 rfl rfl)
theorem q109 : (Jvm.Cond.initialized "java/lang/Integer") ∈ lw_all := lw_g (lw_at lw_m1 19 rfl) rfl
theorem q737 : (Jvm.Cond.static ({ cls := "java/lang/Integer", name := "bitCount", desc := "(I)I" } : Jvm.MethodName)) ∈ lw_all := lw_g (lw_at lw_m3 167 rfl) rfl
theorem q738 : (Jvm.Cond.code ({ cls := "java/lang/Integer", name := "bitCount", desc := "(I)I" } : Jvm.MethodName) prog_18_method_49_code (1 : Nat) (Option.some Jvm.ClassFile.FieldType.int)) ∈ lw_all := lw_g (lw_at lw_m3 168 rfl) rfl
theorem q739 : (Jvm.Cond.constant "java/lang/Integer" (265 : Nat) (1431655765 : Int32)) ∈ lw_all := lw_g (lw_at lw_m3 169 rfl) rfl
theorem q740 : (Jvm.Cond.constant "java/lang/Integer" (266 : Nat) (858993459 : Int32)) ∈ lw_all := lw_g (lw_at lw_m3 170 rfl) rfl
theorem q741 : (Jvm.Cond.constant "java/lang/Integer" (267 : Nat) (252645135 : Int32)) ∈ lw_all := lw_g (lw_at lw_m3 171 rfl) rfl
/-! java/lang/String -/
set_option maxRecDepth 100000
def RJ5 : String := "java/lang/String"
abbrev cJ5_charAt : ByteArray := prog_21_method_56_code
def yJ5_charAt : MethodName := ⟨RJ5, "charAt", "(I)C"⟩
def dkwJ5_charAt_1 : List UInt8 := [172]
abbrev dktJ5_charAt_1 : List UInt8 := dkwJ5_charAt_1 ++ []
def dkwJ5_charAt_0 : List UInt8 := [42, 182, 1, 236, 153, 0, 12, 42, 180, 0, 9, 27, 184, 1, 239, 172, 42, 180, 0, 9, 27, 184, 1, 242]
abbrev dktJ5_charAt_0 : List UInt8 := dkwJ5_charAt_0 ++ dktJ5_charAt_1
theorem dksJ5_charAt_0 : cJ5_charAt.data.toList.drop 0 = dktJ5_charAt_0 := by decide +kernel
theorem dksJ5_charAt_1 : cJ5_charAt.data.toList.drop 24 = dktJ5_charAt_1 := dk_seg dksJ5_charAt_0 24 rfl rfl
theorem dJ5_charAt_0 : decode cJ5_charAt 0 = .ok (.aload_n 0, 1) := dk_42 (dk_at dksJ5_charAt_0 0 rfl rfl)
theorem dJ5_charAt_1 : decode cJ5_charAt 1 = .ok (.invokevirtual 492, 3) := dk_182 1 236 (dk_at dksJ5_charAt_0 1 rfl rfl)
theorem dJ5_charAt_4 : decode cJ5_charAt 4 = .ok (.ifCond .eq 12, 3) := dk_153 0 12 (dk_at dksJ5_charAt_0 4 rfl rfl)
theorem dJ5_charAt_7 : decode cJ5_charAt 7 = .ok (.aload_n 0, 1) := dk_42 (dk_at dksJ5_charAt_0 7 rfl rfl)
theorem dJ5_charAt_8 : decode cJ5_charAt 8 = .ok (.getfield 9, 3) := dk_180 0 9 (dk_at dksJ5_charAt_0 8 rfl rfl)
theorem dJ5_charAt_11 : decode cJ5_charAt 11 = .ok (.iload_n 1, 1) := dk_27 (dk_at dksJ5_charAt_0 11 rfl rfl)
theorem dJ5_charAt_12 : decode cJ5_charAt 12 = .ok (.invokestatic 495, 3) := dk_184 1 239 (dk_at dksJ5_charAt_0 12 rfl rfl)
theorem dJ5_charAt_15 : decode cJ5_charAt 15 = .ok (.ireturn, 1) := dk_172 (dk_at dksJ5_charAt_0 15 rfl rfl)
theorem dJ5_charAt_16 : decode cJ5_charAt 16 = .ok (.aload_n 0, 1) := dk_42 (dk_at dksJ5_charAt_0 16 rfl rfl)
theorem dJ5_charAt_17 : decode cJ5_charAt 17 = .ok (.getfield 9, 3) := dk_180 0 9 (dk_at dksJ5_charAt_0 17 rfl rfl)
theorem dJ5_charAt_20 : decode cJ5_charAt 20 = .ok (.iload_n 1, 1) := dk_27 (dk_at dksJ5_charAt_0 20 rfl rfl)
theorem dJ5_charAt_21 : decode cJ5_charAt 21 = .ok (.invokestatic 498, 3) := dk_184 1 242 (dk_at dksJ5_charAt_0 21 rfl rfl)
theorem dJ5_charAt_24 : decode cJ5_charAt 24 = .ok (.ireturn, 1) := dk_172 (dk_at dksJ5_charAt_1 0 rfl rfl)
abbrev cJ5_isLatin1 : ByteArray := prog_21_method_154_code
def yJ5_isLatin1 : MethodName := ⟨RJ5, "isLatin1", "()Z"⟩
def dkwJ5_isLatin1_0 : List UInt8 := [178, 0, 38, 153, 0, 14, 42, 180, 0, 15, 154, 0, 7, 4, 167, 0, 4, 3, 172]
abbrev dktJ5_isLatin1_0 : List UInt8 := dkwJ5_isLatin1_0 ++ []
theorem dksJ5_isLatin1_0 : cJ5_isLatin1.data.toList.drop 0 = dktJ5_isLatin1_0 := by decide +kernel
theorem dJ5_isLatin1_0 : decode cJ5_isLatin1 0 = .ok (.getstatic 38, 3) := dk_178 0 38 (dk_at dksJ5_isLatin1_0 0 rfl rfl)
theorem dJ5_isLatin1_3 : decode cJ5_isLatin1 3 = .ok (.ifCond .eq 14, 3) := dk_153 0 14 (dk_at dksJ5_isLatin1_0 3 rfl rfl)
theorem dJ5_isLatin1_6 : decode cJ5_isLatin1 6 = .ok (.aload_n 0, 1) := dk_42 (dk_at dksJ5_isLatin1_0 6 rfl rfl)
theorem dJ5_isLatin1_7 : decode cJ5_isLatin1 7 = .ok (.getfield 15, 3) := dk_180 0 15 (dk_at dksJ5_isLatin1_0 7 rfl rfl)
theorem dJ5_isLatin1_10 : decode cJ5_isLatin1 10 = .ok (.ifCond .ne 7, 3) := dk_154 0 7 (dk_at dksJ5_isLatin1_0 10 rfl rfl)
theorem dJ5_isLatin1_13 : decode cJ5_isLatin1 13 = .ok (.iconst 1, 1) := dk_4 (dk_at dksJ5_isLatin1_0 13 rfl rfl)
theorem dJ5_isLatin1_14 : decode cJ5_isLatin1 14 = .ok (.goto 4, 3) := dk_167 0 4 (dk_at dksJ5_isLatin1_0 14 rfl rfl)
theorem dJ5_isLatin1_17 : decode cJ5_isLatin1 17 = .ok (.iconst 0, 1) := dk_3 (dk_at dksJ5_isLatin1_0 17 rfl rfl)
theorem dJ5_isLatin1_18 : decode cJ5_isLatin1 18 = .ok (.ireturn, 1) := dk_172 (dk_at dksJ5_isLatin1_0 18 rfl rfl)
abbrev cJ5_checkIndex : ByteArray := prog_21_method_155_code
def yJ5_checkIndex : MethodName := ⟨RJ5, "checkIndex", "(II)V"⟩
def dkwJ5_checkIndex_0 : List UInt8 := [26, 27, 178, 4, 29, 184, 4, 35, 87, 177]
abbrev dktJ5_checkIndex_0 : List UInt8 := dkwJ5_checkIndex_0 ++ []
theorem dksJ5_checkIndex_0 : cJ5_checkIndex.data.toList.drop 0 = dktJ5_checkIndex_0 := by decide +kernel
theorem dJ5_checkIndex_0 : decode cJ5_checkIndex 0 = .ok (.iload_n 0, 1) := dk_26 (dk_at dksJ5_checkIndex_0 0 rfl rfl)
theorem dJ5_checkIndex_1 : decode cJ5_checkIndex 1 = .ok (.iload_n 1, 1) := dk_27 (dk_at dksJ5_checkIndex_0 1 rfl rfl)
theorem dJ5_checkIndex_2 : decode cJ5_checkIndex 2 = .ok (.getstatic 1053, 3) := dk_178 4 29 (dk_at dksJ5_checkIndex_0 2 rfl rfl)
theorem dJ5_checkIndex_5 : decode cJ5_checkIndex 5 = .ok (.invokestatic 1059, 3) := dk_184 4 35 (dk_at dksJ5_checkIndex_0 5 rfl rfl)
theorem dJ5_checkIndex_8 : decode cJ5_checkIndex 8 = .ok (.pop, 1) := dk_87 (dk_at dksJ5_checkIndex_0 8 rfl rfl)
theorem dJ5_checkIndex_9 : decode cJ5_checkIndex 9 = .ok (.return_, 1) := dk_177 (dk_at dksJ5_checkIndex_0 9 rfl rfl)
theorem q111 : (Jvm.Cond.initialized "java/lang/String") ∈ lw_all := lw_g (lw_at lw_m1 21 rfl) rfl
theorem q974 : (Jvm.Cond.instanceMethod ({ cls := "java/lang/String", name := "charAt", desc := "(I)C" } : Jvm.MethodName)) ∈ lw_all := lw_g (lw_at lw_m4 164 rfl) rfl
theorem q975 : (Jvm.Cond.selects "java/lang/String" ({ cls := "java/lang/String", name := "charAt", desc := "(I)C" } : Jvm.MethodName) ({ cls := "java/lang/String", name := "charAt", desc := "(I)C" } : Jvm.MethodName)) ∈ lw_all := lw_g (lw_at lw_m4 165 rfl) rfl
theorem q976 : (Jvm.Cond.code ({ cls := "java/lang/String", name := "charAt", desc := "(I)C" } : Jvm.MethodName) prog_21_method_56_code (2 : Nat) (Option.some Jvm.ClassFile.FieldType.char)) ∈ lw_all := lw_g (lw_at lw_m4 166 rfl) rfl
theorem q977 : (Jvm.Cond.methodLink "java/lang/String" (492 : Nat) ({ cls := "java/lang/String", name := "isLatin1", desc := "()Z" } : Jvm.MethodName)) ∈ lw_all := lw_g (lw_at lw_m4 167 rfl) rfl
theorem q978 : (Jvm.Cond.instanceMethod ({ cls := "java/lang/String", name := "isLatin1", desc := "()Z" } : Jvm.MethodName)) ∈ lw_all := lw_g (lw_at lw_m4 168 rfl) rfl
theorem q979 : (Jvm.Cond.selects "java/lang/String" ({ cls := "java/lang/String", name := "isLatin1", desc := "()Z" } : Jvm.MethodName) ({ cls := "java/lang/String", name := "isLatin1", desc := "()Z" } : Jvm.MethodName)) ∈ lw_all := lw_g (lw_at lw_m4 169 rfl) rfl
theorem q980 : (Jvm.Cond.code ({ cls := "java/lang/String", name := "isLatin1", desc := "()Z" } : Jvm.MethodName) prog_21_method_154_code (1 : Nat) (Option.some Jvm.ClassFile.FieldType.boolean)) ∈ lw_all := lw_g (lw_at lw_m4 170 rfl) rfl
theorem q981 : (Jvm.Cond.fieldLink "java/lang/String" (38 : Nat) "java/lang/String" "COMPACT_STRINGS" "Z") ∈ lw_all := lw_g (lw_at lw_m4 171 rfl) rfl
theorem q982 : (Jvm.Cond.laysStatic "java/lang/String" "COMPACT_STRINGS" "Z") ∈ lw_tbl := lw_at lw_m4 172 rfl
theorem q983 : (Jvm.Cond.methodLink "java/lang/String" (495 : Nat) ({ cls := "java/lang/StringLatin1", name := "charAt", desc := "([BI)C" } : Jvm.MethodName)) ∈ lw_all := lw_g (lw_at lw_m4 173 rfl) rfl
theorem q987 : (Jvm.Cond.static ({ cls := "java/lang/String", name := "checkIndex", desc := "(II)V" } : Jvm.MethodName)) ∈ lw_all := lw_g (lw_at lw_m4 177 rfl) rfl
theorem q988 : (Jvm.Cond.code ({ cls := "java/lang/String", name := "checkIndex", desc := "(II)V" } : Jvm.MethodName) prog_21_method_155_code (2 : Nat) (Option.none : Option Jvm.ClassFile.FieldType)) ∈ lw_all := lw_g (lw_at lw_m4 178 rfl) rfl
theorem q989 : (Jvm.Cond.fieldLink "java/lang/String" (1053 : Nat) "jdk/internal/util/Preconditions" "SIOOBE_FORMATTER" "Ljava/util/function/BiFunction;") ∈ lw_all := lw_g (lw_at lw_m4 179 rfl) rfl
theorem q991 : (Jvm.Cond.methodLink "java/lang/String" (1059 : Nat) ({ cls := "jdk/internal/util/Preconditions", name := "checkIndex", desc := "(IILjava/util/function/BiFunction;)I" } : Jvm.MethodName)) ∈ lw_all := lw_g (lw_at lw_m4 181 rfl) rfl
theorem q994 : (Jvm.Cond.methodLink "java/lang/String" (498 : Nat) ({ cls := "java/lang/StringUTF16", name := "charAt", desc := "([BI)C" } : Jvm.MethodName)) ∈ lw_all := lw_g (lw_at lw_m4 184 rfl) rfl
theorem q1656 : (Jvm.Cond.fieldLink "java/lang/String" (15 : Nat) "java/lang/String" "coder" "B") ∈ lw_all := lw_g (lw_at lw_m7 126 rfl) rfl
theorem q1657 : (Jvm.Cond.fieldLink "java/lang/String" (9 : Nat) "java/lang/String" "value" "[B") ∈ lw_all := lw_g (lw_at lw_m7 127 rfl) rfl
/-! java/lang/StringLatin1 -/
set_option maxRecDepth 100000
def RJ6 : String := "java/lang/StringLatin1"
abbrev cJ6_charAt : ByteArray := prog_22_method_2_code
def yJ6_charAt : MethodName := ⟨RJ6, "charAt", "([BI)C"⟩
def dkwJ6_charAt_0 : List UInt8 := [27, 42, 190, 184, 0, 9, 42, 27, 51, 17, 0, 255, 126, 146, 172]
abbrev dktJ6_charAt_0 : List UInt8 := dkwJ6_charAt_0 ++ []
theorem dksJ6_charAt_0 : cJ6_charAt.data.toList.drop 0 = dktJ6_charAt_0 := by decide +kernel
theorem dJ6_charAt_0 : decode cJ6_charAt 0 = .ok (.iload_n 1, 1) := dk_27 (dk_at dksJ6_charAt_0 0 rfl rfl)
theorem dJ6_charAt_1 : decode cJ6_charAt 1 = .ok (.aload_n 0, 1) := dk_42 (dk_at dksJ6_charAt_0 1 rfl rfl)
theorem dJ6_charAt_2 : decode cJ6_charAt 2 = .ok (.arraylength, 1) := dk_190 (dk_at dksJ6_charAt_0 2 rfl rfl)
theorem dJ6_charAt_3 : decode cJ6_charAt 3 = .ok (.invokestatic 9, 3) := dk_184 0 9 (dk_at dksJ6_charAt_0 3 rfl rfl)
theorem dJ6_charAt_6 : decode cJ6_charAt 6 = .ok (.aload_n 0, 1) := dk_42 (dk_at dksJ6_charAt_0 6 rfl rfl)
theorem dJ6_charAt_7 : decode cJ6_charAt 7 = .ok (.iload_n 1, 1) := dk_27 (dk_at dksJ6_charAt_0 7 rfl rfl)
theorem dJ6_charAt_8 : decode cJ6_charAt 8 = .ok (.baload, 1) := dk_51 (dk_at dksJ6_charAt_0 8 rfl rfl)
theorem dJ6_charAt_9 : decode cJ6_charAt 9 = .ok (.sipush 255, 3) := dk_17 0 255 (dk_at dksJ6_charAt_0 9 rfl rfl)
theorem dJ6_charAt_12 : decode cJ6_charAt 12 = .ok (.iand, 1) := dk_126 (dk_at dksJ6_charAt_0 12 rfl rfl)
theorem dJ6_charAt_13 : decode cJ6_charAt 13 = .ok (.i2c, 1) := dk_146 (dk_at dksJ6_charAt_0 13 rfl rfl)
theorem dJ6_charAt_14 : decode cJ6_charAt 14 = .ok (.ireturn, 1) := dk_172 (dk_at dksJ6_charAt_0 14 rfl rfl)
theorem q112 : (Jvm.Cond.initialized "java/lang/StringLatin1") ∈ lw_all := lw_g (lw_at lw_m1 22 rfl) rfl
theorem q984 : (Jvm.Cond.static ({ cls := "java/lang/StringLatin1", name := "charAt", desc := "([BI)C" } : Jvm.MethodName)) ∈ lw_all := lw_g (lw_at lw_m4 174 rfl) rfl
theorem q985 : (Jvm.Cond.code ({ cls := "java/lang/StringLatin1", name := "charAt", desc := "([BI)C" } : Jvm.MethodName) prog_22_method_2_code (2 : Nat) (Option.some Jvm.ClassFile.FieldType.char)) ∈ lw_all := lw_g (lw_at lw_m4 175 rfl) rfl
theorem q986 : (Jvm.Cond.methodLink "java/lang/StringLatin1" (9 : Nat) ({ cls := "java/lang/String", name := "checkIndex", desc := "(II)V" } : Jvm.MethodName)) ∈ lw_all := lw_g (lw_at lw_m4 176 rfl) rfl
/-! jdk/internal/util/Preconditions -/
set_option maxRecDepth 100000
def RJ7 : String := "jdk/internal/util/Preconditions"
abbrev cJ7_checkIndex : ByteArray := prog_26_method_11_code
def yJ7_checkIndex : MethodName := ⟨RJ7, "checkIndex", "(IILjava/util/function/BiFunction;)I"⟩
def dkwJ7_checkIndex_0 : List UInt8 := [26, 155, 0, 8, 26, 27, 161, 0, 10, 44, 26, 27, 184, 0, 95, 191, 26, 172]
abbrev dktJ7_checkIndex_0 : List UInt8 := dkwJ7_checkIndex_0 ++ []
theorem dksJ7_checkIndex_0 : cJ7_checkIndex.data.toList.drop 0 = dktJ7_checkIndex_0 := by decide +kernel
theorem dJ7_checkIndex_0 : decode cJ7_checkIndex 0 = .ok (.iload_n 0, 1) := dk_26 (dk_at dksJ7_checkIndex_0 0 rfl rfl)
theorem dJ7_checkIndex_1 : decode cJ7_checkIndex 1 = .ok (.ifCond .lt 8, 3) := dk_155 0 8 (dk_at dksJ7_checkIndex_0 1 rfl rfl)
theorem dJ7_checkIndex_4 : decode cJ7_checkIndex 4 = .ok (.iload_n 0, 1) := dk_26 (dk_at dksJ7_checkIndex_0 4 rfl rfl)
theorem dJ7_checkIndex_5 : decode cJ7_checkIndex 5 = .ok (.iload_n 1, 1) := dk_27 (dk_at dksJ7_checkIndex_0 5 rfl rfl)
theorem dJ7_checkIndex_6 : decode cJ7_checkIndex 6 = .ok (.if_icmp .lt 10, 3) := dk_161 0 10 (dk_at dksJ7_checkIndex_0 6 rfl rfl)
theorem dJ7_checkIndex_9 : decode cJ7_checkIndex 9 = .ok (.aload_n 2, 1) := dk_44 (dk_at dksJ7_checkIndex_0 9 rfl rfl)
theorem dJ7_checkIndex_10 : decode cJ7_checkIndex 10 = .ok (.iload_n 0, 1) := dk_26 (dk_at dksJ7_checkIndex_0 10 rfl rfl)
theorem dJ7_checkIndex_11 : decode cJ7_checkIndex 11 = .ok (.iload_n 1, 1) := dk_27 (dk_at dksJ7_checkIndex_0 11 rfl rfl)
theorem dJ7_checkIndex_12 : decode cJ7_checkIndex 12 = .ok (.invokestatic 95, 3) := dk_184 0 95 (dk_at dksJ7_checkIndex_0 12 rfl rfl)
theorem dJ7_checkIndex_15 : decode cJ7_checkIndex 15 = .ok (.athrow, 1) := dk_191 (dk_at dksJ7_checkIndex_0 15 rfl rfl)
theorem dJ7_checkIndex_16 : decode cJ7_checkIndex 16 = .ok (.iload_n 0, 1) := dk_26 (dk_at dksJ7_checkIndex_0 16 rfl rfl)
theorem dJ7_checkIndex_17 : decode cJ7_checkIndex 17 = .ok (.ireturn, 1) := dk_172 (dk_at dksJ7_checkIndex_0 17 rfl rfl)
theorem q113 : (Jvm.Cond.initialized "jdk/internal/util/Preconditions") ∈ lw_all := lw_g (lw_at lw_m1 23 rfl) rfl
theorem q990 : (Jvm.Cond.laysStatic "jdk/internal/util/Preconditions" "SIOOBE_FORMATTER" "Ljava/util/function/BiFunction;") ∈ lw_tbl := lw_at lw_m4 180 rfl
theorem q992 : (Jvm.Cond.static ({ cls := "jdk/internal/util/Preconditions", name := "checkIndex", desc := "(IILjava/util/function/BiFunction;)I" } : Jvm.MethodName)) ∈ lw_all := lw_g (lw_at lw_m4 182 rfl) rfl
theorem q993 : (Jvm.Cond.code ({ cls := "jdk/internal/util/Preconditions", name := "checkIndex", desc := "(IILjava/util/function/BiFunction;)I" } : Jvm.MethodName) prog_26_method_11_code (3 : Nat) (Option.some Jvm.ClassFile.FieldType.int)) ∈ lw_all := lw_g (lw_at lw_m4 183 rfl) rfl
/-! java/lang/StringUTF16 -/
set_option maxRecDepth 100000
def RJ8 : String := "java/lang/StringUTF16"
abbrev cJ8_charAt : ByteArray := prog_23_method_83_code
def yJ8_charAt : MethodName := ⟨RJ8, "charAt", "([BI)C"⟩
def dkwJ8_charAt_0 : List UInt8 := [27, 42, 184, 0, 67, 42, 27, 184, 0, 71, 172]
abbrev dktJ8_charAt_0 : List UInt8 := dkwJ8_charAt_0 ++ []
theorem dksJ8_charAt_0 : cJ8_charAt.data.toList.drop 0 = dktJ8_charAt_0 := by decide +kernel
theorem dJ8_charAt_0 : decode cJ8_charAt 0 = .ok (.iload_n 1, 1) := dk_27 (dk_at dksJ8_charAt_0 0 rfl rfl)
theorem dJ8_charAt_1 : decode cJ8_charAt 1 = .ok (.aload_n 0, 1) := dk_42 (dk_at dksJ8_charAt_0 1 rfl rfl)
theorem dJ8_charAt_2 : decode cJ8_charAt 2 = .ok (.invokestatic 67, 3) := dk_184 0 67 (dk_at dksJ8_charAt_0 2 rfl rfl)
theorem dJ8_charAt_5 : decode cJ8_charAt 5 = .ok (.aload_n 0, 1) := dk_42 (dk_at dksJ8_charAt_0 5 rfl rfl)
theorem dJ8_charAt_6 : decode cJ8_charAt 6 = .ok (.iload_n 1, 1) := dk_27 (dk_at dksJ8_charAt_0 6 rfl rfl)
theorem dJ8_charAt_7 : decode cJ8_charAt 7 = .ok (.invokestatic 71, 3) := dk_184 0 71 (dk_at dksJ8_charAt_0 7 rfl rfl)
theorem dJ8_charAt_10 : decode cJ8_charAt 10 = .ok (.ireturn, 1) := dk_172 (dk_at dksJ8_charAt_0 10 rfl rfl)
abbrev cJ8_checkIndex : ByteArray := prog_23_method_91_code
def yJ8_checkIndex : MethodName := ⟨RJ8, "checkIndex", "(I[B)V"⟩
def dkwJ8_checkIndex_0 : List UInt8 := [26, 43, 184, 0, 48, 184, 1, 158, 177]
abbrev dktJ8_checkIndex_0 : List UInt8 := dkwJ8_checkIndex_0 ++ []
theorem dksJ8_checkIndex_0 : cJ8_checkIndex.data.toList.drop 0 = dktJ8_checkIndex_0 := by decide +kernel
theorem dJ8_checkIndex_0 : decode cJ8_checkIndex 0 = .ok (.iload_n 0, 1) := dk_26 (dk_at dksJ8_checkIndex_0 0 rfl rfl)
theorem dJ8_checkIndex_1 : decode cJ8_checkIndex 1 = .ok (.aload_n 1, 1) := dk_43 (dk_at dksJ8_checkIndex_0 1 rfl rfl)
theorem dJ8_checkIndex_2 : decode cJ8_checkIndex 2 = .ok (.invokestatic 48, 3) := dk_184 0 48 (dk_at dksJ8_checkIndex_0 2 rfl rfl)
theorem dJ8_checkIndex_5 : decode cJ8_checkIndex 5 = .ok (.invokestatic 414, 3) := dk_184 1 158 (dk_at dksJ8_checkIndex_0 5 rfl rfl)
theorem dJ8_checkIndex_8 : decode cJ8_checkIndex 8 = .ok (.return_, 1) := dk_177 (dk_at dksJ8_checkIndex_0 8 rfl rfl)
abbrev cJ8_length : ByteArray := prog_23_method_6_code
def yJ8_length : MethodName := ⟨RJ8, "length", "([B)I"⟩
def dkwJ8_length_0 : List UInt8 := [42, 190, 4, 122, 172]
abbrev dktJ8_length_0 : List UInt8 := dkwJ8_length_0 ++ []
theorem dksJ8_length_0 : cJ8_length.data.toList.drop 0 = dktJ8_length_0 := by decide +kernel
theorem dJ8_length_0 : decode cJ8_length 0 = .ok (.aload_n 0, 1) := dk_42 (dk_at dksJ8_length_0 0 rfl rfl)
theorem dJ8_length_1 : decode cJ8_length 1 = .ok (.arraylength, 1) := dk_190 (dk_at dksJ8_length_0 1 rfl rfl)
theorem dJ8_length_2 : decode cJ8_length 2 = .ok (.iconst 1, 1) := dk_4 (dk_at dksJ8_length_0 2 rfl rfl)
theorem dJ8_length_3 : decode cJ8_length 3 = .ok (.ishr, 1) := dk_122 (dk_at dksJ8_length_0 3 rfl rfl)
theorem dJ8_length_4 : decode cJ8_length 4 = .ok (.ireturn, 1) := dk_172 (dk_at dksJ8_length_0 4 rfl rfl)
abbrev cJ8_getChar : ByteArray := prog_23_method_5_code
def yJ8_getChar : MethodName := ⟨RJ8, "getChar", "([BI)C"⟩
def dkwJ8_getChar_2 : List UInt8 := [51, 17, 0, 255, 126, 178, 0, 63, 120, 128, 146, 172]
abbrev dktJ8_getChar_2 : List UInt8 := dkwJ8_getChar_2 ++ []
def dkwJ8_getChar_1 : List UInt8 := [183, 0, 56, 191, 27, 4, 120, 60, 42, 27, 132, 1, 1, 51, 17, 0, 255, 126, 178, 0, 59, 120, 42, 27]
abbrev dktJ8_getChar_1 : List UInt8 := dkwJ8_getChar_1 ++ dktJ8_getChar_2
def dkwJ8_getChar_0 : List UInt8 := [178, 0, 44, 154, 0, 25, 27, 155, 0, 11, 27, 42, 184, 0, 48, 161, 0, 13, 187, 0, 52, 89, 18, 54]
abbrev dktJ8_getChar_0 : List UInt8 := dkwJ8_getChar_0 ++ dktJ8_getChar_1
theorem dksJ8_getChar_0 : cJ8_getChar.data.toList.drop 0 = dktJ8_getChar_0 := by decide +kernel
theorem dksJ8_getChar_1 : cJ8_getChar.data.toList.drop 24 = dktJ8_getChar_1 := dk_seg dksJ8_getChar_0 24 rfl rfl
theorem dksJ8_getChar_2 : cJ8_getChar.data.toList.drop 48 = dktJ8_getChar_2 := dk_seg dksJ8_getChar_1 24 rfl rfl
theorem dJ8_getChar_0 : decode cJ8_getChar 0 = .ok (.getstatic 44, 3) := dk_178 0 44 (dk_at dksJ8_getChar_0 0 rfl rfl)
theorem dJ8_getChar_3 : decode cJ8_getChar 3 = .ok (.ifCond .ne 25, 3) := dk_154 0 25 (dk_at dksJ8_getChar_0 3 rfl rfl)
theorem dJ8_getChar_6 : decode cJ8_getChar 6 = .ok (.iload_n 1, 1) := dk_27 (dk_at dksJ8_getChar_0 6 rfl rfl)
theorem dJ8_getChar_7 : decode cJ8_getChar 7 = .ok (.ifCond .lt 11, 3) := dk_155 0 11 (dk_at dksJ8_getChar_0 7 rfl rfl)
theorem dJ8_getChar_10 : decode cJ8_getChar 10 = .ok (.iload_n 1, 1) := dk_27 (dk_at dksJ8_getChar_0 10 rfl rfl)
theorem dJ8_getChar_11 : decode cJ8_getChar 11 = .ok (.aload_n 0, 1) := dk_42 (dk_at dksJ8_getChar_0 11 rfl rfl)
theorem dJ8_getChar_12 : decode cJ8_getChar 12 = .ok (.invokestatic 48, 3) := dk_184 0 48 (dk_at dksJ8_getChar_0 12 rfl rfl)
theorem dJ8_getChar_15 : decode cJ8_getChar 15 = .ok (.if_icmp .lt 13, 3) := dk_161 0 13 (dk_at dksJ8_getChar_0 15 rfl rfl)
theorem dJ8_getChar_18 : decode cJ8_getChar 18 = .ok (.new 52, 3) := dk_187 0 52 (dk_at dksJ8_getChar_0 18 rfl rfl)
theorem dJ8_getChar_21 : decode cJ8_getChar 21 = .ok (.dup, 1) := dk_89 (dk_at dksJ8_getChar_0 21 rfl rfl)
theorem dJ8_getChar_22 : decode cJ8_getChar 22 = .ok (.ldc 54, 2) := dk_18 54 (dk_at dksJ8_getChar_0 22 rfl rfl)
theorem dJ8_getChar_24 : decode cJ8_getChar 24 = .ok (.invokespecial 56, 3) := dk_183 0 56 (dk_at dksJ8_getChar_1 0 rfl rfl)
theorem dJ8_getChar_27 : decode cJ8_getChar 27 = .ok (.athrow, 1) := dk_191 (dk_at dksJ8_getChar_1 3 rfl rfl)
theorem dJ8_getChar_28 : decode cJ8_getChar 28 = .ok (.iload_n 1, 1) := dk_27 (dk_at dksJ8_getChar_1 4 rfl rfl)
theorem dJ8_getChar_29 : decode cJ8_getChar 29 = .ok (.iconst 1, 1) := dk_4 (dk_at dksJ8_getChar_1 5 rfl rfl)
theorem dJ8_getChar_30 : decode cJ8_getChar 30 = .ok (.ishl, 1) := dk_120 (dk_at dksJ8_getChar_1 6 rfl rfl)
theorem dJ8_getChar_31 : decode cJ8_getChar 31 = .ok (.istore_n 1, 1) := dk_60 (dk_at dksJ8_getChar_1 7 rfl rfl)
theorem dJ8_getChar_32 : decode cJ8_getChar 32 = .ok (.aload_n 0, 1) := dk_42 (dk_at dksJ8_getChar_1 8 rfl rfl)
theorem dJ8_getChar_33 : decode cJ8_getChar 33 = .ok (.iload_n 1, 1) := dk_27 (dk_at dksJ8_getChar_1 9 rfl rfl)
theorem dJ8_getChar_34 : decode cJ8_getChar 34 = .ok (.iinc 1 1, 3) := dk_132 1 1 (dk_at dksJ8_getChar_1 10 rfl rfl)
theorem dJ8_getChar_37 : decode cJ8_getChar 37 = .ok (.baload, 1) := dk_51 (dk_at dksJ8_getChar_1 13 rfl rfl)
theorem dJ8_getChar_38 : decode cJ8_getChar 38 = .ok (.sipush 255, 3) := dk_17 0 255 (dk_at dksJ8_getChar_1 14 rfl rfl)
theorem dJ8_getChar_41 : decode cJ8_getChar 41 = .ok (.iand, 1) := dk_126 (dk_at dksJ8_getChar_1 17 rfl rfl)
theorem dJ8_getChar_42 : decode cJ8_getChar 42 = .ok (.getstatic 59, 3) := dk_178 0 59 (dk_at dksJ8_getChar_1 18 rfl rfl)
theorem dJ8_getChar_45 : decode cJ8_getChar 45 = .ok (.ishl, 1) := dk_120 (dk_at dksJ8_getChar_1 21 rfl rfl)
theorem dJ8_getChar_46 : decode cJ8_getChar 46 = .ok (.aload_n 0, 1) := dk_42 (dk_at dksJ8_getChar_1 22 rfl rfl)
theorem dJ8_getChar_47 : decode cJ8_getChar 47 = .ok (.iload_n 1, 1) := dk_27 (dk_at dksJ8_getChar_1 23 rfl rfl)
theorem dJ8_getChar_48 : decode cJ8_getChar 48 = .ok (.baload, 1) := dk_51 (dk_at dksJ8_getChar_2 0 rfl rfl)
theorem dJ8_getChar_49 : decode cJ8_getChar 49 = .ok (.sipush 255, 3) := dk_17 0 255 (dk_at dksJ8_getChar_2 1 rfl rfl)
theorem dJ8_getChar_52 : decode cJ8_getChar 52 = .ok (.iand, 1) := dk_126 (dk_at dksJ8_getChar_2 4 rfl rfl)
theorem dJ8_getChar_53 : decode cJ8_getChar 53 = .ok (.getstatic 63, 3) := dk_178 0 63 (dk_at dksJ8_getChar_2 5 rfl rfl)
theorem dJ8_getChar_56 : decode cJ8_getChar 56 = .ok (.ishl, 1) := dk_120 (dk_at dksJ8_getChar_2 8 rfl rfl)
theorem dJ8_getChar_57 : decode cJ8_getChar 57 = .ok (.ior, 1) := dk_128 (dk_at dksJ8_getChar_2 9 rfl rfl)
theorem dJ8_getChar_58 : decode cJ8_getChar 58 = .ok (.i2c, 1) := dk_146 (dk_at dksJ8_getChar_2 10 rfl rfl)
theorem dJ8_getChar_59 : decode cJ8_getChar 59 = .ok (.ireturn, 1) := dk_172 (dk_at dksJ8_getChar_2 11 rfl rfl)
theorem q114 : (Jvm.Cond.initialized "java/lang/StringUTF16") ∈ lw_all := lw_g (lw_at lw_m1 24 rfl) rfl
theorem q995 : (Jvm.Cond.static ({ cls := "java/lang/StringUTF16", name := "charAt", desc := "([BI)C" } : Jvm.MethodName)) ∈ lw_all := lw_g (lw_at lw_m4 185 rfl) rfl
theorem q996 : (Jvm.Cond.code ({ cls := "java/lang/StringUTF16", name := "charAt", desc := "([BI)C" } : Jvm.MethodName) prog_23_method_83_code (2 : Nat) (Option.some Jvm.ClassFile.FieldType.char)) ∈ lw_all := lw_g (lw_at lw_m4 186 rfl) rfl
theorem q997 : (Jvm.Cond.methodLink "java/lang/StringUTF16" (67 : Nat) ({ cls := "java/lang/StringUTF16", name := "checkIndex", desc := "(I[B)V" } : Jvm.MethodName)) ∈ lw_all := lw_g (lw_at lw_m4 187 rfl) rfl
theorem q998 : (Jvm.Cond.static ({ cls := "java/lang/StringUTF16", name := "checkIndex", desc := "(I[B)V" } : Jvm.MethodName)) ∈ lw_all := lw_g (lw_at lw_m4 188 rfl) rfl
theorem q999 : (Jvm.Cond.code ({ cls := "java/lang/StringUTF16", name := "checkIndex", desc := "(I[B)V" } : Jvm.MethodName) prog_23_method_91_code (2 : Nat) (Option.none : Option Jvm.ClassFile.FieldType)) ∈ lw_all := lw_g (lw_at lw_m4 189 rfl) rfl
theorem q1000 : (Jvm.Cond.methodLink "java/lang/StringUTF16" (48 : Nat) ({ cls := "java/lang/StringUTF16", name := "length", desc := "([B)I" } : Jvm.MethodName)) ∈ lw_all := lw_g (lw_at lw_m4 190 rfl) rfl
theorem q1001 : (Jvm.Cond.static ({ cls := "java/lang/StringUTF16", name := "length", desc := "([B)I" } : Jvm.MethodName)) ∈ lw_all := lw_g (lw_at lw_m4 191 rfl) rfl
theorem q1002 : (Jvm.Cond.code ({ cls := "java/lang/StringUTF16", name := "length", desc := "([B)I" } : Jvm.MethodName) prog_23_method_6_code (1 : Nat) (Option.some Jvm.ClassFile.FieldType.int)) ∈ lw_all := lw_g (lw_at lw_m4 192 rfl) rfl
theorem q1003 : (Jvm.Cond.methodLink "java/lang/StringUTF16" (414 : Nat) ({ cls := "java/lang/String", name := "checkIndex", desc := "(II)V" } : Jvm.MethodName)) ∈ lw_all := lw_g (lw_at lw_m4 193 rfl) rfl
theorem q1004 : (Jvm.Cond.methodLink "java/lang/StringUTF16" (71 : Nat) ({ cls := "java/lang/StringUTF16", name := "getChar", desc := "([BI)C" } : Jvm.MethodName)) ∈ lw_all := lw_g (lw_at lw_m4 194 rfl) rfl
theorem q1005 : (Jvm.Cond.static ({ cls := "java/lang/StringUTF16", name := "getChar", desc := "([BI)C" } : Jvm.MethodName)) ∈ lw_all := lw_g (lw_at lw_m4 195 rfl) rfl
theorem q1006 : (Jvm.Cond.code ({ cls := "java/lang/StringUTF16", name := "getChar", desc := "([BI)C" } : Jvm.MethodName) prog_23_method_5_code (2 : Nat) (Option.some Jvm.ClassFile.FieldType.char)) ∈ lw_all := lw_g (lw_at lw_m4 196 rfl) rfl
theorem q1007 : (Jvm.Cond.fieldLink "java/lang/StringUTF16" (44 : Nat) "java/lang/StringUTF16" "$assertionsDisabled" "Z") ∈ lw_all := lw_g (lw_at lw_m4 197 rfl) rfl
theorem q1008 : (Jvm.Cond.laysStatic "java/lang/StringUTF16" "$assertionsDisabled" "Z") ∈ lw_tbl := lw_at lw_m4 198 rfl
theorem q1009 : (Jvm.Cond.fieldLink "java/lang/StringUTF16" (59 : Nat) "java/lang/StringUTF16" "HI_BYTE_SHIFT" "I") ∈ lw_all := lw_g (lw_at lw_m4 199 rfl) rfl
theorem q1010 : (Jvm.Cond.laysStatic "java/lang/StringUTF16" "HI_BYTE_SHIFT" "I") ∈ lw_tbl := lw_at lw_m4 200 rfl
theorem q1011 : (Jvm.Cond.fieldLink "java/lang/StringUTF16" (63 : Nat) "java/lang/StringUTF16" "LO_BYTE_SHIFT" "I") ∈ lw_all := lw_g (lw_at lw_m4 201 rfl) rfl
theorem q1012 : (Jvm.Cond.laysStatic "java/lang/StringUTF16" "LO_BYTE_SHIFT" "I") ∈ lw_tbl := lw_at lw_m4 202 rfl
/-! java/lang/Object -/
set_option maxRecDepth 100000
def RJ9 : String := "java/lang/Object"
abbrev cJ9_init : ByteArray := object_method_1_code
def yJ9_init : MethodName := ⟨RJ9, "<init>", "()V"⟩
theorem dJ9_init_0 : decode cJ9_init 0 = .ok (.return_, 1) := by decide +kernel
theorem q121 : (Jvm.Cond.instanceMethod ({ cls := "java/lang/Object", name := "<init>", desc := "()V" } : Jvm.MethodName)) ∈ lw_all := lw_g (lw_at lw_m1 31 rfl) rfl
theorem q122 : (Jvm.Cond.code ({ cls := "java/lang/Object", name := "<init>", desc := "()V" } : Jvm.MethodName) object_method_1_code (1 : Nat) (Option.none : Option Jvm.ClassFile.FieldType)) ∈ lw_all := lw_g (lw_at lw_m1 32 rfl) rfl
/-! LeftGloves$Refusal -/
set_option maxRecDepth 100000
def RX1 : String := "LeftGloves$Refusal"
def TX1 : u_T := fun k => match k with
  | 0 => ("java/lang/Throwable", "cause", "Ljava/lang/Throwable;", false)
  | 1 => ("java/lang/Throwable", "stackTrace", "[Ljava/lang/StackTraceElement;", false)
  | 2 => ("java/lang/Throwable", "suppressedExceptions", "Ljava/util/List;", false)
  | 3 => ("java/lang/Throwable", "detailMessage", "Ljava/lang/String;", false)
  | 4 => ("java/lang/Throwable", "backtrace", "Ljava/lang/Object;", false)
  | 5 => ("java/lang/Throwable", "depth", "I", false)
  | _ => ("LeftGloves$Refusal", "finding", "I", false)
def tyX1 : Nat → FieldType := fun k => match k with
  | 0 => .object "java/lang/Throwable"
  | 1 => .array (.object "java/lang/StackTraceElement")
  | 2 => .object "java/util/List"
  | 3 => .object "java/lang/String"
  | 4 => .object "java/lang/Object"
  | 5 => .int
  | _ => .int
abbrev wsX10 : List Cond := u_ws RX1 TX1 7
theorem nmX1 : ∀ a, a < 7 → ∀ b, b < 7 → a ≠ b → (TX1 a).2.1 ≠ (TX1 b).2.1 := by decide +kernel
theorem tyX1_ok : ∀ k, k < 7 → parseFieldDescriptor (TX1 k).2.2.1 = some (tyX1 k) := by decide +kernel
abbrev cX1_init : ByteArray := prog_10_method_1_code
def yX1_init : MethodName := ⟨RX1, "<init>", "()V"⟩
def dkwX1_init_0 : List UInt8 := [42, 1, 1, 3, 3, 183, 0, 1, 177]
abbrev dktX1_init_0 : List UInt8 := dkwX1_init_0 ++ []
theorem dksX1_init_0 : cX1_init.data.toList.drop 0 = dktX1_init_0 := by decide +kernel
theorem dX1_init_0 : decode cX1_init 0 = .ok (.aload_n 0, 1) := dk_42 (dk_at dksX1_init_0 0 rfl rfl)
theorem dX1_init_1 : decode cX1_init 1 = .ok (.aconst_null, 1) := dk_1 (dk_at dksX1_init_0 1 rfl rfl)
theorem dX1_init_2 : decode cX1_init 2 = .ok (.aconst_null, 1) := dk_1 (dk_at dksX1_init_0 2 rfl rfl)
theorem dX1_init_3 : decode cX1_init 3 = .ok (.iconst 0, 1) := dk_3 (dk_at dksX1_init_0 3 rfl rfl)
theorem dX1_init_4 : decode cX1_init 4 = .ok (.iconst 0, 1) := dk_3 (dk_at dksX1_init_0 4 rfl rfl)
theorem dX1_init_5 : decode cX1_init 5 = .ok (.invokespecial 1, 3) := dk_183 0 1 (dk_at dksX1_init_0 5 rfl rfl)
theorem dX1_init_8 : decode cX1_init 8 = .ok (.return_, 1) := dk_177 (dk_at dksX1_init_0 8 rfl rfl)
theorem q95 : (Jvm.Cond.initialized "LeftGloves$Refusal") ∈ lw_all := lw_g (lw_at lw_m1 5 rfl) rfl
theorem q124 : (Jvm.Cond.instantiable "LeftGloves$Refusal" (7 : Nat)) ∈ lw_all := lw_g (lw_at lw_m1 34 rfl) rfl
theorem q125 : (Jvm.Cond.castable "LeftGloves$Refusal" "LeftGloves$Refusal") ∈ lw_tbl := lw_at lw_m1 35 rfl
theorem q132 : (Jvm.Cond.selects "LeftGloves$Refusal" ({ cls := "java/lang/Throwable", name := "fillInStackTrace", desc := "(I)Ljava/lang/Throwable;" } : Jvm.MethodName) ({ cls := "java/lang/Throwable", name := "fillInStackTrace", desc := "(I)Ljava/lang/Throwable;" } : Jvm.MethodName)) ∈ lw_all := lw_g (lw_at lw_m1 42 rfl) rfl
theorem q133 : (Jvm.Cond.selects "LeftGloves$Refusal" ({ cls := "java/lang/Throwable", name := "fillInStackTrace", desc := "()Ljava/lang/Throwable;" } : Jvm.MethodName) ({ cls := "java/lang/Throwable", name := "fillInStackTrace", desc := "()Ljava/lang/Throwable;" } : Jvm.MethodName)) ∈ lw_all := lw_g (lw_at lw_m1 43 rfl) rfl
theorem q134 : (Jvm.Cond.lays "LeftGloves$Refusal" "java/lang/Throwable" "cause" "Ljava/lang/Throwable;") ∈ lw_all := lw_g (lw_at lw_m1 44 rfl) rfl
theorem q136 : (Jvm.Cond.lays "LeftGloves$Refusal" "java/lang/Throwable" "stackTrace" "[Ljava/lang/StackTraceElement;") ∈ lw_all := lw_g (lw_at lw_m1 46 rfl) rfl
theorem q138 : (Jvm.Cond.lays "LeftGloves$Refusal" "java/lang/Throwable" "suppressedExceptions" "Ljava/util/List;") ∈ lw_all := lw_g (lw_at lw_m1 48 rfl) rfl
theorem q140 : (Jvm.Cond.lays "LeftGloves$Refusal" "java/lang/Throwable" "detailMessage" "Ljava/lang/String;") ∈ lw_all := lw_g (lw_at lw_m1 50 rfl) rfl
theorem q142 : (Jvm.Cond.lays "LeftGloves$Refusal" "java/lang/Throwable" "backtrace" "Ljava/lang/Object;") ∈ lw_all := lw_g (lw_at lw_m1 52 rfl) rfl
theorem q164 : (Jvm.Cond.instanceMethod ({ cls := "LeftGloves$Refusal", name := "<init>", desc := "()V" } : Jvm.MethodName)) ∈ lw_all := lw_g (lw_at lw_m1 74 rfl) rfl
theorem q165 : (Jvm.Cond.code ({ cls := "LeftGloves$Refusal", name := "<init>", desc := "()V" } : Jvm.MethodName) prog_10_method_1_code (1 : Nat) (Option.none : Option Jvm.ClassFile.FieldType)) ∈ lw_all := lw_g (lw_at lw_m1 75 rfl) rfl
theorem q166 : (Jvm.Cond.methodLink "LeftGloves$Refusal" (1 : Nat) ({ cls := "java/lang/RuntimeException", name := "<init>", desc := "(Ljava/lang/String;Ljava/lang/Throwable;ZZ)V" } : Jvm.MethodName)) ∈ lw_all := lw_g (lw_at lw_m1 76 rfl) rfl
theorem q181 : (Jvm.Cond.lays "LeftGloves$Refusal" "LeftGloves$Refusal" "finding" "I") ∈ lw_all := lw_g (lw_at lw_m1 91 rfl) rfl
theorem q182 : (Jvm.Cond.soleField "LeftGloves$Refusal" "finding") ∈ lw_all := lw_g (lw_at lw_m1 92 rfl) rfl
theorem q187 : (Jvm.Cond.lays "LeftGloves$Refusal" "java/lang/Throwable" "depth" "I") ∈ lw_all := lw_g (lw_at lw_m1 97 rfl) rfl
theorem q190 : (Jvm.Cond.superclass "LeftGloves$Refusal" "java/lang/RuntimeException") ∈ lw_all := lw_g (lw_at lw_m1 100 rfl) rfl
theorem in_X1 : ∀ w ∈ wsX10, w ∈ lw_all := lw_in wsX10 [134, 136, 138, 140, 142, 187, 181] (by decide +kernel) (by decide +kernel)
/-! LeftGloves$Reader -/
set_option maxRecDepth 100000
def RX2 : String := "LeftGloves$Reader"
def TX2 : u_T := fun k => match k with
  | 0 => ("LeftGloves$Reader", "wrong", "LLeftGloves$Wrong;", true)
  | 1 => ("LeftGloves$Reader", "tape", "[B", true)
  | 2 => ("LeftGloves$Reader", "told", "LLeftGloves$World;", true)
  | 3 => ("LeftGloves$Reader", "length", "I", false)
  | 4 => ("LeftGloves$Reader", "at", "I", false)
  | 5 => ("LeftGloves$Reader", "begin", "I", false)
  | 6 => ("LeftGloves$Reader", "token", "I", false)
  | _ => ("LeftGloves$Reader", "value", "I", false)
def tyX2 : Nat → FieldType := fun k => match k with
  | 0 => .object "LeftGloves$Wrong"
  | 1 => .array .byte
  | 2 => .object "LeftGloves$World"
  | 3 => .int
  | 4 => .int
  | 5 => .int
  | 6 => .int
  | _ => .int
abbrev wsX20 : List Cond := u_ws RX2 TX2 8
theorem nmX2 : ∀ a, a < 8 → ∀ b, b < 8 → a ≠ b → (TX2 a).2.1 ≠ (TX2 b).2.1 := by decide +kernel
theorem tyX2_ok : ∀ k, k < 8 → parseFieldDescriptor (TX2 k).2.2.1 = some (tyX2 k) := by decide +kernel
abbrev cX2_init : ByteArray := prog_9_method_1_code
def yX2_init : MethodName := ⟨RX2, "<init>", "()V"⟩
def dkwX2_init_1 : List UInt8 := [187, 0, 22, 89, 183, 0, 24, 181, 0, 25, 177]
abbrev dktX2_init_1 : List UInt8 := dkwX2_init_1 ++ []
def dkwX2_init_0 : List UInt8 := [42, 183, 0, 3, 42, 187, 0, 9, 89, 183, 0, 11, 181, 0, 12, 42, 16, 120, 188, 8, 181, 0, 18, 42]
abbrev dktX2_init_0 : List UInt8 := dkwX2_init_0 ++ dktX2_init_1
theorem dksX2_init_0 : cX2_init.data.toList.drop 0 = dktX2_init_0 := by decide +kernel
theorem dksX2_init_1 : cX2_init.data.toList.drop 24 = dktX2_init_1 := dk_seg dksX2_init_0 24 rfl rfl
theorem dX2_init_0 : decode cX2_init 0 = .ok (.aload_n 0, 1) := dk_42 (dk_at dksX2_init_0 0 rfl rfl)
theorem dX2_init_1 : decode cX2_init 1 = .ok (.invokespecial 3, 3) := dk_183 0 3 (dk_at dksX2_init_0 1 rfl rfl)
theorem dX2_init_4 : decode cX2_init 4 = .ok (.aload_n 0, 1) := dk_42 (dk_at dksX2_init_0 4 rfl rfl)
theorem dX2_init_5 : decode cX2_init 5 = .ok (.new 9, 3) := dk_187 0 9 (dk_at dksX2_init_0 5 rfl rfl)
theorem dX2_init_8 : decode cX2_init 8 = .ok (.dup, 1) := dk_89 (dk_at dksX2_init_0 8 rfl rfl)
theorem dX2_init_9 : decode cX2_init 9 = .ok (.invokespecial 11, 3) := dk_183 0 11 (dk_at dksX2_init_0 9 rfl rfl)
theorem dX2_init_12 : decode cX2_init 12 = .ok (.putfield 12, 3) := dk_181 0 12 (dk_at dksX2_init_0 12 rfl rfl)
theorem dX2_init_15 : decode cX2_init 15 = .ok (.aload_n 0, 1) := dk_42 (dk_at dksX2_init_0 15 rfl rfl)
theorem dX2_init_16 : decode cX2_init 16 = .ok (.bipush 120, 2) := dk_16 120 (dk_at dksX2_init_0 16 rfl rfl)
theorem dX2_init_18 : decode cX2_init 18 = .ok (.newarray .byte, 2) := dk_188_8 (dk_at dksX2_init_0 18 rfl rfl)
theorem dX2_init_20 : decode cX2_init 20 = .ok (.putfield 18, 3) := dk_181 0 18 (dk_at dksX2_init_0 20 rfl rfl)
theorem dX2_init_23 : decode cX2_init 23 = .ok (.aload_n 0, 1) := dk_42 (dk_at dksX2_init_0 23 rfl rfl)
theorem dX2_init_24 : decode cX2_init 24 = .ok (.new 22, 3) := dk_187 0 22 (dk_at dksX2_init_1 0 rfl rfl)
theorem dX2_init_27 : decode cX2_init 27 = .ok (.dup, 1) := dk_89 (dk_at dksX2_init_1 3 rfl rfl)
theorem dX2_init_28 : decode cX2_init 28 = .ok (.invokespecial 24, 3) := dk_183 0 24 (dk_at dksX2_init_1 4 rfl rfl)
theorem dX2_init_31 : decode cX2_init 31 = .ok (.putfield 25, 3) := dk_181 0 25 (dk_at dksX2_init_1 7 rfl rfl)
theorem dX2_init_34 : decode cX2_init 34 = .ok (.return_, 1) := dk_177 (dk_at dksX2_init_1 10 rfl rfl)
abbrev cX2_whole : ByteArray := prog_9_method_18_code
def yX2_whole : MethodName := ⟨RX2, "whole", "()I"⟩
def dkwX2_whole_2 : List UInt8 := [167, 0, 4, 3, 182, 0, 63, 27, 172]
abbrev dktX2_whole_2 : List UInt8 := dkwX2_whole_2 ++ []
def dkwX2_whole_1 : List UInt8 := [182, 0, 83, 42, 182, 0, 129, 132, 1, 1, 167, 255, 237, 42, 42, 180, 0, 47, 154, 0, 7, 4]
abbrev dktX2_whole_1 : List UInt8 := dkwX2_whole_1 ++ dktX2_whole_2
def dkwX2_whole_0 : List UInt8 := [42, 3, 181, 0, 37, 42, 182, 0, 83, 42, 182, 0, 129, 4, 60, 42, 180, 0, 47, 6, 160, 0, 17, 42]
abbrev dktX2_whole_0 : List UInt8 := dkwX2_whole_0 ++ dktX2_whole_1
theorem dksX2_whole_0 : cX2_whole.data.toList.drop 0 = dktX2_whole_0 := by decide +kernel
theorem dksX2_whole_1 : cX2_whole.data.toList.drop 24 = dktX2_whole_1 := dk_seg dksX2_whole_0 24 rfl rfl
theorem dksX2_whole_2 : cX2_whole.data.toList.drop 46 = dktX2_whole_2 := dk_seg dksX2_whole_1 22 rfl rfl
theorem dX2_whole_0 : decode cX2_whole 0 = .ok (.aload_n 0, 1) := dk_42 (dk_at dksX2_whole_0 0 rfl rfl)
theorem dX2_whole_1 : decode cX2_whole 1 = .ok (.iconst 0, 1) := dk_3 (dk_at dksX2_whole_0 1 rfl rfl)
theorem dX2_whole_2 : decode cX2_whole 2 = .ok (.putfield 37, 3) := dk_181 0 37 (dk_at dksX2_whole_0 2 rfl rfl)
theorem dX2_whole_5 : decode cX2_whole 5 = .ok (.aload_n 0, 1) := dk_42 (dk_at dksX2_whole_0 5 rfl rfl)
theorem dX2_whole_6 : decode cX2_whole 6 = .ok (.invokevirtual 83, 3) := dk_182 0 83 (dk_at dksX2_whole_0 6 rfl rfl)
theorem dX2_whole_9 : decode cX2_whole 9 = .ok (.aload_n 0, 1) := dk_42 (dk_at dksX2_whole_0 9 rfl rfl)
theorem dX2_whole_10 : decode cX2_whole 10 = .ok (.invokevirtual 129, 3) := dk_182 0 129 (dk_at dksX2_whole_0 10 rfl rfl)
theorem dX2_whole_13 : decode cX2_whole 13 = .ok (.iconst 1, 1) := dk_4 (dk_at dksX2_whole_0 13 rfl rfl)
theorem dX2_whole_14 : decode cX2_whole 14 = .ok (.istore_n 1, 1) := dk_60 (dk_at dksX2_whole_0 14 rfl rfl)
theorem dX2_whole_15 : decode cX2_whole 15 = .ok (.aload_n 0, 1) := dk_42 (dk_at dksX2_whole_0 15 rfl rfl)
theorem dX2_whole_16 : decode cX2_whole 16 = .ok (.getfield 47, 3) := dk_180 0 47 (dk_at dksX2_whole_0 16 rfl rfl)
theorem dX2_whole_19 : decode cX2_whole 19 = .ok (.iconst 3, 1) := dk_6 (dk_at dksX2_whole_0 19 rfl rfl)
theorem dX2_whole_20 : decode cX2_whole 20 = .ok (.if_icmp .ne 17, 3) := dk_160 0 17 (dk_at dksX2_whole_0 20 rfl rfl)
theorem dX2_whole_23 : decode cX2_whole 23 = .ok (.aload_n 0, 1) := dk_42 (dk_at dksX2_whole_0 23 rfl rfl)
theorem dX2_whole_24 : decode cX2_whole 24 = .ok (.invokevirtual 83, 3) := dk_182 0 83 (dk_at dksX2_whole_1 0 rfl rfl)
theorem dX2_whole_27 : decode cX2_whole 27 = .ok (.aload_n 0, 1) := dk_42 (dk_at dksX2_whole_1 3 rfl rfl)
theorem dX2_whole_28 : decode cX2_whole 28 = .ok (.invokevirtual 129, 3) := dk_182 0 129 (dk_at dksX2_whole_1 4 rfl rfl)
theorem dX2_whole_31 : decode cX2_whole 31 = .ok (.iinc 1 1, 3) := dk_132 1 1 (dk_at dksX2_whole_1 7 rfl rfl)
theorem dX2_whole_34 : decode cX2_whole 34 = .ok (.goto (-19), 3) := dk_167 255 237 (dk_at dksX2_whole_1 10 rfl rfl)
theorem dX2_whole_37 : decode cX2_whole 37 = .ok (.aload_n 0, 1) := dk_42 (dk_at dksX2_whole_1 13 rfl rfl)
theorem dX2_whole_38 : decode cX2_whole 38 = .ok (.aload_n 0, 1) := dk_42 (dk_at dksX2_whole_1 14 rfl rfl)
theorem dX2_whole_39 : decode cX2_whole 39 = .ok (.getfield 47, 3) := dk_180 0 47 (dk_at dksX2_whole_1 15 rfl rfl)
theorem dX2_whole_42 : decode cX2_whole 42 = .ok (.ifCond .ne 7, 3) := dk_154 0 7 (dk_at dksX2_whole_1 18 rfl rfl)
theorem dX2_whole_45 : decode cX2_whole 45 = .ok (.iconst 1, 1) := dk_4 (dk_at dksX2_whole_1 21 rfl rfl)
theorem dX2_whole_46 : decode cX2_whole 46 = .ok (.goto 4, 3) := dk_167 0 4 (dk_at dksX2_whole_2 0 rfl rfl)
theorem dX2_whole_49 : decode cX2_whole 49 = .ok (.iconst 0, 1) := dk_3 (dk_at dksX2_whole_2 3 rfl rfl)
theorem dX2_whole_50 : decode cX2_whole 50 = .ok (.invokevirtual 63, 3) := dk_182 0 63 (dk_at dksX2_whole_2 4 rfl rfl)
theorem dX2_whole_53 : decode cX2_whole 53 = .ok (.iload_n 1, 1) := dk_27 (dk_at dksX2_whole_2 7 rfl rfl)
theorem dX2_whole_54 : decode cX2_whole 54 = .ok (.ireturn, 1) := dk_172 (dk_at dksX2_whole_2 8 rfl rfl)
abbrev cX2_next : ByteArray := prog_9_method_6_code
def yX2_next : MethodName := ⟨RX2, "next", "()V"⟩
def dkwX2_next_4 : List UInt8 := [3, 182, 0, 63, 42, 6, 181, 0, 47, 42, 89, 180, 0, 37, 4, 96, 181, 0, 37, 177]
abbrev dktX2_next_4 : List UInt8 := dkwX2_next_4 ++ []
def dkwX2_next_3 : List UInt8 := [184, 0, 57, 153, 0, 10, 42, 182, 0, 60, 167, 0, 33, 42, 27, 16, 59, 160, 0, 7, 4, 167, 0, 4]
abbrev dktX2_next_3 : List UInt8 := dkwX2_next_3 ++ dktX2_next_4
def dkwX2_next_2 : List UInt8 := [42, 3, 181, 0, 47, 167, 0, 61, 27, 184, 0, 50, 153, 0, 10, 42, 182, 0, 54, 167, 0, 47, 27]
abbrev dktX2_next_2 : List UInt8 := dkwX2_next_2 ++ dktX2_next_3
def dkwX2_next_1 : List UInt8 := [167, 255, 233, 42, 42, 180, 0, 37, 181, 0, 44, 42, 42, 180, 0, 37, 182, 0, 40, 60, 27, 156, 0, 11]
abbrev dktX2_next_1 : List UInt8 := dkwX2_next_1 ++ dktX2_next_2
def dkwX2_next_0 : List UInt8 := [42, 42, 180, 0, 37, 182, 0, 40, 16, 32, 160, 0, 16, 42, 89, 180, 0, 37, 4, 96, 181, 0, 37]
abbrev dktX2_next_0 : List UInt8 := dkwX2_next_0 ++ dktX2_next_1
theorem dksX2_next_0 : cX2_next.data.toList.drop 0 = dktX2_next_0 := by decide +kernel
theorem dksX2_next_1 : cX2_next.data.toList.drop 23 = dktX2_next_1 := dk_seg dksX2_next_0 23 rfl rfl
theorem dksX2_next_2 : cX2_next.data.toList.drop 47 = dktX2_next_2 := dk_seg dksX2_next_1 24 rfl rfl
theorem dksX2_next_3 : cX2_next.data.toList.drop 70 = dktX2_next_3 := dk_seg dksX2_next_2 23 rfl rfl
theorem dksX2_next_4 : cX2_next.data.toList.drop 94 = dktX2_next_4 := dk_seg dksX2_next_3 24 rfl rfl
theorem dX2_next_0 : decode cX2_next 0 = .ok (.aload_n 0, 1) := dk_42 (dk_at dksX2_next_0 0 rfl rfl)
theorem dX2_next_1 : decode cX2_next 1 = .ok (.aload_n 0, 1) := dk_42 (dk_at dksX2_next_0 1 rfl rfl)
theorem dX2_next_2 : decode cX2_next 2 = .ok (.getfield 37, 3) := dk_180 0 37 (dk_at dksX2_next_0 2 rfl rfl)
theorem dX2_next_5 : decode cX2_next 5 = .ok (.invokevirtual 40, 3) := dk_182 0 40 (dk_at dksX2_next_0 5 rfl rfl)
theorem dX2_next_8 : decode cX2_next 8 = .ok (.bipush 32, 2) := dk_16 32 (dk_at dksX2_next_0 8 rfl rfl)
theorem dX2_next_10 : decode cX2_next 10 = .ok (.if_icmp .ne 16, 3) := dk_160 0 16 (dk_at dksX2_next_0 10 rfl rfl)
theorem dX2_next_13 : decode cX2_next 13 = .ok (.aload_n 0, 1) := dk_42 (dk_at dksX2_next_0 13 rfl rfl)
theorem dX2_next_14 : decode cX2_next 14 = .ok (.dup, 1) := dk_89 (dk_at dksX2_next_0 14 rfl rfl)
theorem dX2_next_15 : decode cX2_next 15 = .ok (.getfield 37, 3) := dk_180 0 37 (dk_at dksX2_next_0 15 rfl rfl)
theorem dX2_next_18 : decode cX2_next 18 = .ok (.iconst 1, 1) := dk_4 (dk_at dksX2_next_0 18 rfl rfl)
theorem dX2_next_19 : decode cX2_next 19 = .ok (.iadd, 1) := dk_96 (dk_at dksX2_next_0 19 rfl rfl)
theorem dX2_next_20 : decode cX2_next 20 = .ok (.putfield 37, 3) := dk_181 0 37 (dk_at dksX2_next_0 20 rfl rfl)
theorem dX2_next_23 : decode cX2_next 23 = .ok (.goto (-23), 3) := dk_167 255 233 (dk_at dksX2_next_1 0 rfl rfl)
theorem dX2_next_26 : decode cX2_next 26 = .ok (.aload_n 0, 1) := dk_42 (dk_at dksX2_next_1 3 rfl rfl)
theorem dX2_next_27 : decode cX2_next 27 = .ok (.aload_n 0, 1) := dk_42 (dk_at dksX2_next_1 4 rfl rfl)
theorem dX2_next_28 : decode cX2_next 28 = .ok (.getfield 37, 3) := dk_180 0 37 (dk_at dksX2_next_1 5 rfl rfl)
theorem dX2_next_31 : decode cX2_next 31 = .ok (.putfield 44, 3) := dk_181 0 44 (dk_at dksX2_next_1 8 rfl rfl)
theorem dX2_next_34 : decode cX2_next 34 = .ok (.aload_n 0, 1) := dk_42 (dk_at dksX2_next_1 11 rfl rfl)
theorem dX2_next_35 : decode cX2_next 35 = .ok (.aload_n 0, 1) := dk_42 (dk_at dksX2_next_1 12 rfl rfl)
theorem dX2_next_36 : decode cX2_next 36 = .ok (.getfield 37, 3) := dk_180 0 37 (dk_at dksX2_next_1 13 rfl rfl)
theorem dX2_next_39 : decode cX2_next 39 = .ok (.invokevirtual 40, 3) := dk_182 0 40 (dk_at dksX2_next_1 16 rfl rfl)
theorem dX2_next_42 : decode cX2_next 42 = .ok (.istore_n 1, 1) := dk_60 (dk_at dksX2_next_1 19 rfl rfl)
theorem dX2_next_43 : decode cX2_next 43 = .ok (.iload_n 1, 1) := dk_27 (dk_at dksX2_next_1 20 rfl rfl)
theorem dX2_next_44 : decode cX2_next 44 = .ok (.ifCond .ge 11, 3) := dk_156 0 11 (dk_at dksX2_next_1 21 rfl rfl)
theorem dX2_next_47 : decode cX2_next 47 = .ok (.aload_n 0, 1) := dk_42 (dk_at dksX2_next_2 0 rfl rfl)
theorem dX2_next_48 : decode cX2_next 48 = .ok (.iconst 0, 1) := dk_3 (dk_at dksX2_next_2 1 rfl rfl)
theorem dX2_next_49 : decode cX2_next 49 = .ok (.putfield 47, 3) := dk_181 0 47 (dk_at dksX2_next_2 2 rfl rfl)
theorem dX2_next_52 : decode cX2_next 52 = .ok (.goto 61, 3) := dk_167 0 61 (dk_at dksX2_next_2 5 rfl rfl)
theorem dX2_next_55 : decode cX2_next 55 = .ok (.iload_n 1, 1) := dk_27 (dk_at dksX2_next_2 8 rfl rfl)
theorem dX2_next_56 : decode cX2_next 56 = .ok (.invokestatic 50, 3) := dk_184 0 50 (dk_at dksX2_next_2 9 rfl rfl)
theorem dX2_next_59 : decode cX2_next 59 = .ok (.ifCond .eq 10, 3) := dk_153 0 10 (dk_at dksX2_next_2 12 rfl rfl)
theorem dX2_next_62 : decode cX2_next 62 = .ok (.aload_n 0, 1) := dk_42 (dk_at dksX2_next_2 15 rfl rfl)
theorem dX2_next_63 : decode cX2_next 63 = .ok (.invokevirtual 54, 3) := dk_182 0 54 (dk_at dksX2_next_2 16 rfl rfl)
theorem dX2_next_66 : decode cX2_next 66 = .ok (.goto 47, 3) := dk_167 0 47 (dk_at dksX2_next_2 19 rfl rfl)
theorem dX2_next_69 : decode cX2_next 69 = .ok (.iload_n 1, 1) := dk_27 (dk_at dksX2_next_2 22 rfl rfl)
theorem dX2_next_70 : decode cX2_next 70 = .ok (.invokestatic 57, 3) := dk_184 0 57 (dk_at dksX2_next_3 0 rfl rfl)
theorem dX2_next_73 : decode cX2_next 73 = .ok (.ifCond .eq 10, 3) := dk_153 0 10 (dk_at dksX2_next_3 3 rfl rfl)
theorem dX2_next_76 : decode cX2_next 76 = .ok (.aload_n 0, 1) := dk_42 (dk_at dksX2_next_3 6 rfl rfl)
theorem dX2_next_77 : decode cX2_next 77 = .ok (.invokevirtual 60, 3) := dk_182 0 60 (dk_at dksX2_next_3 7 rfl rfl)
theorem dX2_next_80 : decode cX2_next 80 = .ok (.goto 33, 3) := dk_167 0 33 (dk_at dksX2_next_3 10 rfl rfl)
theorem dX2_next_83 : decode cX2_next 83 = .ok (.aload_n 0, 1) := dk_42 (dk_at dksX2_next_3 13 rfl rfl)
theorem dX2_next_84 : decode cX2_next 84 = .ok (.iload_n 1, 1) := dk_27 (dk_at dksX2_next_3 14 rfl rfl)
theorem dX2_next_85 : decode cX2_next 85 = .ok (.bipush 59, 2) := dk_16 59 (dk_at dksX2_next_3 15 rfl rfl)
theorem dX2_next_87 : decode cX2_next 87 = .ok (.if_icmp .ne 7, 3) := dk_160 0 7 (dk_at dksX2_next_3 17 rfl rfl)
theorem dX2_next_90 : decode cX2_next 90 = .ok (.iconst 1, 1) := dk_4 (dk_at dksX2_next_3 20 rfl rfl)
theorem dX2_next_91 : decode cX2_next 91 = .ok (.goto 4, 3) := dk_167 0 4 (dk_at dksX2_next_3 21 rfl rfl)
theorem dX2_next_94 : decode cX2_next 94 = .ok (.iconst 0, 1) := dk_3 (dk_at dksX2_next_4 0 rfl rfl)
theorem dX2_next_95 : decode cX2_next 95 = .ok (.invokevirtual 63, 3) := dk_182 0 63 (dk_at dksX2_next_4 1 rfl rfl)
theorem dX2_next_98 : decode cX2_next 98 = .ok (.aload_n 0, 1) := dk_42 (dk_at dksX2_next_4 4 rfl rfl)
theorem dX2_next_99 : decode cX2_next 99 = .ok (.iconst 3, 1) := dk_6 (dk_at dksX2_next_4 5 rfl rfl)
theorem dX2_next_100 : decode cX2_next 100 = .ok (.putfield 47, 3) := dk_181 0 47 (dk_at dksX2_next_4 6 rfl rfl)
theorem dX2_next_103 : decode cX2_next 103 = .ok (.aload_n 0, 1) := dk_42 (dk_at dksX2_next_4 9 rfl rfl)
theorem dX2_next_104 : decode cX2_next 104 = .ok (.dup, 1) := dk_89 (dk_at dksX2_next_4 10 rfl rfl)
theorem dX2_next_105 : decode cX2_next 105 = .ok (.getfield 37, 3) := dk_180 0 37 (dk_at dksX2_next_4 11 rfl rfl)
theorem dX2_next_108 : decode cX2_next 108 = .ok (.iconst 1, 1) := dk_4 (dk_at dksX2_next_4 14 rfl rfl)
theorem dX2_next_109 : decode cX2_next 109 = .ok (.iadd, 1) := dk_96 (dk_at dksX2_next_4 15 rfl rfl)
theorem dX2_next_110 : decode cX2_next 110 = .ok (.putfield 37, 3) := dk_181 0 37 (dk_at dksX2_next_4 16 rfl rfl)
theorem dX2_next_113 : decode cX2_next 113 = .ok (.return_, 1) := dk_177 (dk_at dksX2_next_4 19 rfl rfl)
abbrev cX2_byteAt : ByteArray := prog_9_method_3_code
def yX2_byteAt : MethodName := ⟨RX2, "byteAt", "(I)I"⟩
def dkwX2_byteAt_0 : List UInt8 := [27, 42, 180, 0, 29, 162, 0, 16, 42, 180, 0, 18, 27, 51, 17, 0, 255, 126, 167, 0, 4, 2, 172]
abbrev dktX2_byteAt_0 : List UInt8 := dkwX2_byteAt_0 ++ []
theorem dksX2_byteAt_0 : cX2_byteAt.data.toList.drop 0 = dktX2_byteAt_0 := by decide +kernel
theorem dX2_byteAt_0 : decode cX2_byteAt 0 = .ok (.iload_n 1, 1) := dk_27 (dk_at dksX2_byteAt_0 0 rfl rfl)
theorem dX2_byteAt_1 : decode cX2_byteAt 1 = .ok (.aload_n 0, 1) := dk_42 (dk_at dksX2_byteAt_0 1 rfl rfl)
theorem dX2_byteAt_2 : decode cX2_byteAt 2 = .ok (.getfield 29, 3) := dk_180 0 29 (dk_at dksX2_byteAt_0 2 rfl rfl)
theorem dX2_byteAt_5 : decode cX2_byteAt 5 = .ok (.if_icmp .ge 16, 3) := dk_162 0 16 (dk_at dksX2_byteAt_0 5 rfl rfl)
theorem dX2_byteAt_8 : decode cX2_byteAt 8 = .ok (.aload_n 0, 1) := dk_42 (dk_at dksX2_byteAt_0 8 rfl rfl)
theorem dX2_byteAt_9 : decode cX2_byteAt 9 = .ok (.getfield 18, 3) := dk_180 0 18 (dk_at dksX2_byteAt_0 9 rfl rfl)
theorem dX2_byteAt_12 : decode cX2_byteAt 12 = .ok (.iload_n 1, 1) := dk_27 (dk_at dksX2_byteAt_0 12 rfl rfl)
theorem dX2_byteAt_13 : decode cX2_byteAt 13 = .ok (.baload, 1) := dk_51 (dk_at dksX2_byteAt_0 13 rfl rfl)
theorem dX2_byteAt_14 : decode cX2_byteAt 14 = .ok (.sipush 255, 3) := dk_17 0 255 (dk_at dksX2_byteAt_0 14 rfl rfl)
theorem dX2_byteAt_17 : decode cX2_byteAt 17 = .ok (.iand, 1) := dk_126 (dk_at dksX2_byteAt_0 17 rfl rfl)
theorem dX2_byteAt_18 : decode cX2_byteAt 18 = .ok (.goto 4, 3) := dk_167 0 4 (dk_at dksX2_byteAt_0 18 rfl rfl)
theorem dX2_byteAt_21 : decode cX2_byteAt 21 = .ok (.iconst (-1), 1) := dk_2 (dk_at dksX2_byteAt_0 21 rfl rfl)
theorem dX2_byteAt_22 : decode cX2_byteAt 22 = .ok (.ireturn, 1) := dk_172 (dk_at dksX2_byteAt_0 22 rfl rfl)
abbrev cX2_isLetter : ByteArray := prog_9_method_5_code
def yX2_isLetter : MethodName := ⟨RX2, "isLetter", "(I)Z"⟩
def dkwX2_isLetter_0 : List UInt8 := [26, 16, 97, 16, 122, 184, 0, 33, 172]
abbrev dktX2_isLetter_0 : List UInt8 := dkwX2_isLetter_0 ++ []
theorem dksX2_isLetter_0 : cX2_isLetter.data.toList.drop 0 = dktX2_isLetter_0 := by decide +kernel
theorem dX2_isLetter_0 : decode cX2_isLetter 0 = .ok (.iload_n 0, 1) := dk_26 (dk_at dksX2_isLetter_0 0 rfl rfl)
theorem dX2_isLetter_1 : decode cX2_isLetter 1 = .ok (.bipush 97, 2) := dk_16 97 (dk_at dksX2_isLetter_0 1 rfl rfl)
theorem dX2_isLetter_3 : decode cX2_isLetter 3 = .ok (.bipush 122, 2) := dk_16 122 (dk_at dksX2_isLetter_0 3 rfl rfl)
theorem dX2_isLetter_5 : decode cX2_isLetter 5 = .ok (.invokestatic 33, 3) := dk_184 0 33 (dk_at dksX2_isLetter_0 5 rfl rfl)
theorem dX2_isLetter_8 : decode cX2_isLetter 8 = .ok (.ireturn, 1) := dk_172 (dk_at dksX2_isLetter_0 8 rfl rfl)
abbrev cX2_word : ByteArray := prog_9_method_8_code
def yX2_word : MethodName := ⟨RX2, "word", "()V"⟩
def dkwX2_word_3 : List UInt8 := [182, 0, 63, 42, 5, 181, 0, 47, 42, 27, 181, 0, 68, 177]
abbrev dktX2_word_3 : List UInt8 := dkwX2_word_3 ++ []
def dkwX2_word_2 : List UInt8 := [182, 0, 71, 154, 0, 9, 132, 1, 1, 167, 255, 230, 42, 27, 16, 13, 162, 0, 7, 4, 167, 0, 4, 3]
abbrev dktX2_word_2 : List UInt8 := dkwX2_word_2 ++ dktX2_word_3
def dkwX2_word_1 : List UInt8 := [167, 255, 232, 3, 60, 27, 16, 13, 162, 0, 26, 42, 27, 42, 180, 0, 37, 42, 180, 0, 44, 100]
abbrev dktX2_word_1 : List UInt8 := dkwX2_word_1 ++ dktX2_word_2
def dkwX2_word_0 : List UInt8 := [42, 42, 180, 0, 37, 182, 0, 40, 184, 0, 50, 153, 0, 16, 42, 89, 180, 0, 37, 4, 96, 181, 0, 37]
abbrev dktX2_word_0 : List UInt8 := dkwX2_word_0 ++ dktX2_word_1
theorem dksX2_word_0 : cX2_word.data.toList.drop 0 = dktX2_word_0 := by decide +kernel
theorem dksX2_word_1 : cX2_word.data.toList.drop 24 = dktX2_word_1 := dk_seg dksX2_word_0 24 rfl rfl
theorem dksX2_word_2 : cX2_word.data.toList.drop 46 = dktX2_word_2 := dk_seg dksX2_word_1 22 rfl rfl
theorem dksX2_word_3 : cX2_word.data.toList.drop 70 = dktX2_word_3 := dk_seg dksX2_word_2 24 rfl rfl
theorem dX2_word_0 : decode cX2_word 0 = .ok (.aload_n 0, 1) := dk_42 (dk_at dksX2_word_0 0 rfl rfl)
theorem dX2_word_1 : decode cX2_word 1 = .ok (.aload_n 0, 1) := dk_42 (dk_at dksX2_word_0 1 rfl rfl)
theorem dX2_word_2 : decode cX2_word 2 = .ok (.getfield 37, 3) := dk_180 0 37 (dk_at dksX2_word_0 2 rfl rfl)
theorem dX2_word_5 : decode cX2_word 5 = .ok (.invokevirtual 40, 3) := dk_182 0 40 (dk_at dksX2_word_0 5 rfl rfl)
theorem dX2_word_8 : decode cX2_word 8 = .ok (.invokestatic 50, 3) := dk_184 0 50 (dk_at dksX2_word_0 8 rfl rfl)
theorem dX2_word_11 : decode cX2_word 11 = .ok (.ifCond .eq 16, 3) := dk_153 0 16 (dk_at dksX2_word_0 11 rfl rfl)
theorem dX2_word_14 : decode cX2_word 14 = .ok (.aload_n 0, 1) := dk_42 (dk_at dksX2_word_0 14 rfl rfl)
theorem dX2_word_15 : decode cX2_word 15 = .ok (.dup, 1) := dk_89 (dk_at dksX2_word_0 15 rfl rfl)
theorem dX2_word_16 : decode cX2_word 16 = .ok (.getfield 37, 3) := dk_180 0 37 (dk_at dksX2_word_0 16 rfl rfl)
theorem dX2_word_19 : decode cX2_word 19 = .ok (.iconst 1, 1) := dk_4 (dk_at dksX2_word_0 19 rfl rfl)
theorem dX2_word_20 : decode cX2_word 20 = .ok (.iadd, 1) := dk_96 (dk_at dksX2_word_0 20 rfl rfl)
theorem dX2_word_21 : decode cX2_word 21 = .ok (.putfield 37, 3) := dk_181 0 37 (dk_at dksX2_word_0 21 rfl rfl)
theorem dX2_word_24 : decode cX2_word 24 = .ok (.goto (-24), 3) := dk_167 255 232 (dk_at dksX2_word_1 0 rfl rfl)
theorem dX2_word_27 : decode cX2_word 27 = .ok (.iconst 0, 1) := dk_3 (dk_at dksX2_word_1 3 rfl rfl)
theorem dX2_word_28 : decode cX2_word 28 = .ok (.istore_n 1, 1) := dk_60 (dk_at dksX2_word_1 4 rfl rfl)
theorem dX2_word_29 : decode cX2_word 29 = .ok (.iload_n 1, 1) := dk_27 (dk_at dksX2_word_1 5 rfl rfl)
theorem dX2_word_30 : decode cX2_word 30 = .ok (.bipush 13, 2) := dk_16 13 (dk_at dksX2_word_1 6 rfl rfl)
theorem dX2_word_32 : decode cX2_word 32 = .ok (.if_icmp .ge 26, 3) := dk_162 0 26 (dk_at dksX2_word_1 8 rfl rfl)
theorem dX2_word_35 : decode cX2_word 35 = .ok (.aload_n 0, 1) := dk_42 (dk_at dksX2_word_1 11 rfl rfl)
theorem dX2_word_36 : decode cX2_word 36 = .ok (.iload_n 1, 1) := dk_27 (dk_at dksX2_word_1 12 rfl rfl)
theorem dX2_word_37 : decode cX2_word 37 = .ok (.aload_n 0, 1) := dk_42 (dk_at dksX2_word_1 13 rfl rfl)
theorem dX2_word_38 : decode cX2_word 38 = .ok (.getfield 37, 3) := dk_180 0 37 (dk_at dksX2_word_1 14 rfl rfl)
theorem dX2_word_41 : decode cX2_word 41 = .ok (.aload_n 0, 1) := dk_42 (dk_at dksX2_word_1 17 rfl rfl)
theorem dX2_word_42 : decode cX2_word 42 = .ok (.getfield 44, 3) := dk_180 0 44 (dk_at dksX2_word_1 18 rfl rfl)
theorem dX2_word_45 : decode cX2_word 45 = .ok (.isub, 1) := dk_100 (dk_at dksX2_word_1 21 rfl rfl)
theorem dX2_word_46 : decode cX2_word 46 = .ok (.invokevirtual 71, 3) := dk_182 0 71 (dk_at dksX2_word_2 0 rfl rfl)
theorem dX2_word_49 : decode cX2_word 49 = .ok (.ifCond .ne 9, 3) := dk_154 0 9 (dk_at dksX2_word_2 3 rfl rfl)
theorem dX2_word_52 : decode cX2_word 52 = .ok (.iinc 1 1, 3) := dk_132 1 1 (dk_at dksX2_word_2 6 rfl rfl)
theorem dX2_word_55 : decode cX2_word 55 = .ok (.goto (-26), 3) := dk_167 255 230 (dk_at dksX2_word_2 9 rfl rfl)
theorem dX2_word_58 : decode cX2_word 58 = .ok (.aload_n 0, 1) := dk_42 (dk_at dksX2_word_2 12 rfl rfl)
theorem dX2_word_59 : decode cX2_word 59 = .ok (.iload_n 1, 1) := dk_27 (dk_at dksX2_word_2 13 rfl rfl)
theorem dX2_word_60 : decode cX2_word 60 = .ok (.bipush 13, 2) := dk_16 13 (dk_at dksX2_word_2 14 rfl rfl)
theorem dX2_word_62 : decode cX2_word 62 = .ok (.if_icmp .ge 7, 3) := dk_162 0 7 (dk_at dksX2_word_2 16 rfl rfl)
theorem dX2_word_65 : decode cX2_word 65 = .ok (.iconst 1, 1) := dk_4 (dk_at dksX2_word_2 19 rfl rfl)
theorem dX2_word_66 : decode cX2_word 66 = .ok (.goto 4, 3) := dk_167 0 4 (dk_at dksX2_word_2 20 rfl rfl)
theorem dX2_word_69 : decode cX2_word 69 = .ok (.iconst 0, 1) := dk_3 (dk_at dksX2_word_2 23 rfl rfl)
theorem dX2_word_70 : decode cX2_word 70 = .ok (.invokevirtual 63, 3) := dk_182 0 63 (dk_at dksX2_word_3 0 rfl rfl)
theorem dX2_word_73 : decode cX2_word 73 = .ok (.aload_n 0, 1) := dk_42 (dk_at dksX2_word_3 3 rfl rfl)
theorem dX2_word_74 : decode cX2_word 74 = .ok (.iconst 2, 1) := dk_5 (dk_at dksX2_word_3 4 rfl rfl)
theorem dX2_word_75 : decode cX2_word 75 = .ok (.putfield 47, 3) := dk_181 0 47 (dk_at dksX2_word_3 5 rfl rfl)
theorem dX2_word_78 : decode cX2_word 78 = .ok (.aload_n 0, 1) := dk_42 (dk_at dksX2_word_3 8 rfl rfl)
theorem dX2_word_79 : decode cX2_word 79 = .ok (.iload_n 1, 1) := dk_27 (dk_at dksX2_word_3 9 rfl rfl)
theorem dX2_word_80 : decode cX2_word 80 = .ok (.putfield 68, 3) := dk_181 0 68 (dk_at dksX2_word_3 10 rfl rfl)
theorem dX2_word_83 : decode cX2_word 83 = .ok (.return_, 1) := dk_177 (dk_at dksX2_word_3 13 rfl rfl)
abbrev cX2_isKey : ByteArray := prog_9_method_9_code
def yX2_isKey : MethodName := ⟨RX2, "isKey", "(II)Z"⟩
def dkwX2_isKey_3 : List UInt8 := [160, 0, 7, 4, 167, 0, 4, 3, 62, 132, 4, 1, 167, 255, 211, 29, 172]
abbrev dktX2_isKey_3 : List UInt8 := dkwX2_isKey_3 ++ []
def dkwX2_isKey_2 : List UInt8 := [18, 75, 16, 7, 27, 104, 21, 4, 96, 182, 0, 77, 42, 42, 180, 0, 44, 21, 4, 96, 182, 0, 40]
abbrev dktX2_isKey_2 : List UInt8 := dkwX2_isKey_2 ++ dktX2_isKey_3
def dkwX2_isKey_1 : List UInt8 := [16, 32, 160, 0, 7, 4, 167, 0, 4, 3, 62, 3, 54, 4, 21, 4, 28, 162, 0, 45, 29, 153, 0, 41]
abbrev dktX2_isKey_1 : List UInt8 := dkwX2_isKey_1 ++ dktX2_isKey_2
def dkwX2_isKey_0 : List UInt8 := [28, 16, 7, 163, 0, 29, 28, 16, 7, 159, 0, 19, 18, 75, 16, 7, 27, 104, 28, 96, 182, 0, 77]
abbrev dktX2_isKey_0 : List UInt8 := dkwX2_isKey_0 ++ dktX2_isKey_1
theorem dksX2_isKey_0 : cX2_isKey.data.toList.drop 0 = dktX2_isKey_0 := by decide +kernel
theorem dksX2_isKey_1 : cX2_isKey.data.toList.drop 23 = dktX2_isKey_1 := dk_seg dksX2_isKey_0 23 rfl rfl
theorem dksX2_isKey_2 : cX2_isKey.data.toList.drop 47 = dktX2_isKey_2 := dk_seg dksX2_isKey_1 24 rfl rfl
theorem dksX2_isKey_3 : cX2_isKey.data.toList.drop 70 = dktX2_isKey_3 := dk_seg dksX2_isKey_2 23 rfl rfl
theorem dX2_isKey_0 : decode cX2_isKey 0 = .ok (.iload_n 2, 1) := dk_28 (dk_at dksX2_isKey_0 0 rfl rfl)
theorem dX2_isKey_1 : decode cX2_isKey 1 = .ok (.bipush 7, 2) := dk_16 7 (dk_at dksX2_isKey_0 1 rfl rfl)
theorem dX2_isKey_3 : decode cX2_isKey 3 = .ok (.if_icmp .gt 29, 3) := dk_163 0 29 (dk_at dksX2_isKey_0 3 rfl rfl)
theorem dX2_isKey_6 : decode cX2_isKey 6 = .ok (.iload_n 2, 1) := dk_28 (dk_at dksX2_isKey_0 6 rfl rfl)
theorem dX2_isKey_7 : decode cX2_isKey 7 = .ok (.bipush 7, 2) := dk_16 7 (dk_at dksX2_isKey_0 7 rfl rfl)
theorem dX2_isKey_9 : decode cX2_isKey 9 = .ok (.if_icmp .eq 19, 3) := dk_159 0 19 (dk_at dksX2_isKey_0 9 rfl rfl)
theorem dX2_isKey_12 : decode cX2_isKey 12 = .ok (.ldc 75, 2) := dk_18 75 (dk_at dksX2_isKey_0 12 rfl rfl)
theorem dX2_isKey_14 : decode cX2_isKey 14 = .ok (.bipush 7, 2) := dk_16 7 (dk_at dksX2_isKey_0 14 rfl rfl)
theorem dX2_isKey_16 : decode cX2_isKey 16 = .ok (.iload_n 1, 1) := dk_27 (dk_at dksX2_isKey_0 16 rfl rfl)
theorem dX2_isKey_17 : decode cX2_isKey 17 = .ok (.imul, 1) := dk_104 (dk_at dksX2_isKey_0 17 rfl rfl)
theorem dX2_isKey_18 : decode cX2_isKey 18 = .ok (.iload_n 2, 1) := dk_28 (dk_at dksX2_isKey_0 18 rfl rfl)
theorem dX2_isKey_19 : decode cX2_isKey 19 = .ok (.iadd, 1) := dk_96 (dk_at dksX2_isKey_0 19 rfl rfl)
theorem dX2_isKey_20 : decode cX2_isKey 20 = .ok (.invokevirtual 77, 3) := dk_182 0 77 (dk_at dksX2_isKey_0 20 rfl rfl)
theorem dX2_isKey_23 : decode cX2_isKey 23 = .ok (.bipush 32, 2) := dk_16 32 (dk_at dksX2_isKey_1 0 rfl rfl)
theorem dX2_isKey_25 : decode cX2_isKey 25 = .ok (.if_icmp .ne 7, 3) := dk_160 0 7 (dk_at dksX2_isKey_1 2 rfl rfl)
theorem dX2_isKey_28 : decode cX2_isKey 28 = .ok (.iconst 1, 1) := dk_4 (dk_at dksX2_isKey_1 5 rfl rfl)
theorem dX2_isKey_29 : decode cX2_isKey 29 = .ok (.goto 4, 3) := dk_167 0 4 (dk_at dksX2_isKey_1 6 rfl rfl)
theorem dX2_isKey_32 : decode cX2_isKey 32 = .ok (.iconst 0, 1) := dk_3 (dk_at dksX2_isKey_1 9 rfl rfl)
theorem dX2_isKey_33 : decode cX2_isKey 33 = .ok (.istore_n 3, 1) := dk_62 (dk_at dksX2_isKey_1 10 rfl rfl)
theorem dX2_isKey_34 : decode cX2_isKey 34 = .ok (.iconst 0, 1) := dk_3 (dk_at dksX2_isKey_1 11 rfl rfl)
theorem dX2_isKey_35 : decode cX2_isKey 35 = .ok (.istore 4, 2) := dk_54 4 (dk_at dksX2_isKey_1 12 rfl rfl)
theorem dX2_isKey_37 : decode cX2_isKey 37 = .ok (.iload 4, 2) := dk_21 4 (dk_at dksX2_isKey_1 14 rfl rfl)
theorem dX2_isKey_39 : decode cX2_isKey 39 = .ok (.iload_n 2, 1) := dk_28 (dk_at dksX2_isKey_1 16 rfl rfl)
theorem dX2_isKey_40 : decode cX2_isKey 40 = .ok (.if_icmp .ge 45, 3) := dk_162 0 45 (dk_at dksX2_isKey_1 17 rfl rfl)
theorem dX2_isKey_43 : decode cX2_isKey 43 = .ok (.iload_n 3, 1) := dk_29 (dk_at dksX2_isKey_1 20 rfl rfl)
theorem dX2_isKey_44 : decode cX2_isKey 44 = .ok (.ifCond .eq 41, 3) := dk_153 0 41 (dk_at dksX2_isKey_1 21 rfl rfl)
theorem dX2_isKey_47 : decode cX2_isKey 47 = .ok (.ldc 75, 2) := dk_18 75 (dk_at dksX2_isKey_2 0 rfl rfl)
theorem dX2_isKey_49 : decode cX2_isKey 49 = .ok (.bipush 7, 2) := dk_16 7 (dk_at dksX2_isKey_2 2 rfl rfl)
theorem dX2_isKey_51 : decode cX2_isKey 51 = .ok (.iload_n 1, 1) := dk_27 (dk_at dksX2_isKey_2 4 rfl rfl)
theorem dX2_isKey_52 : decode cX2_isKey 52 = .ok (.imul, 1) := dk_104 (dk_at dksX2_isKey_2 5 rfl rfl)
theorem dX2_isKey_53 : decode cX2_isKey 53 = .ok (.iload 4, 2) := dk_21 4 (dk_at dksX2_isKey_2 6 rfl rfl)
theorem dX2_isKey_55 : decode cX2_isKey 55 = .ok (.iadd, 1) := dk_96 (dk_at dksX2_isKey_2 8 rfl rfl)
theorem dX2_isKey_56 : decode cX2_isKey 56 = .ok (.invokevirtual 77, 3) := dk_182 0 77 (dk_at dksX2_isKey_2 9 rfl rfl)
theorem dX2_isKey_59 : decode cX2_isKey 59 = .ok (.aload_n 0, 1) := dk_42 (dk_at dksX2_isKey_2 12 rfl rfl)
theorem dX2_isKey_60 : decode cX2_isKey 60 = .ok (.aload_n 0, 1) := dk_42 (dk_at dksX2_isKey_2 13 rfl rfl)
theorem dX2_isKey_61 : decode cX2_isKey 61 = .ok (.getfield 44, 3) := dk_180 0 44 (dk_at dksX2_isKey_2 14 rfl rfl)
theorem dX2_isKey_64 : decode cX2_isKey 64 = .ok (.iload 4, 2) := dk_21 4 (dk_at dksX2_isKey_2 17 rfl rfl)
theorem dX2_isKey_66 : decode cX2_isKey 66 = .ok (.iadd, 1) := dk_96 (dk_at dksX2_isKey_2 19 rfl rfl)
theorem dX2_isKey_67 : decode cX2_isKey 67 = .ok (.invokevirtual 40, 3) := dk_182 0 40 (dk_at dksX2_isKey_2 20 rfl rfl)
theorem dX2_isKey_70 : decode cX2_isKey 70 = .ok (.if_icmp .ne 7, 3) := dk_160 0 7 (dk_at dksX2_isKey_3 0 rfl rfl)
theorem dX2_isKey_73 : decode cX2_isKey 73 = .ok (.iconst 1, 1) := dk_4 (dk_at dksX2_isKey_3 3 rfl rfl)
theorem dX2_isKey_74 : decode cX2_isKey 74 = .ok (.goto 4, 3) := dk_167 0 4 (dk_at dksX2_isKey_3 4 rfl rfl)
theorem dX2_isKey_77 : decode cX2_isKey 77 = .ok (.iconst 0, 1) := dk_3 (dk_at dksX2_isKey_3 7 rfl rfl)
theorem dX2_isKey_78 : decode cX2_isKey 78 = .ok (.istore_n 3, 1) := dk_62 (dk_at dksX2_isKey_3 8 rfl rfl)
theorem dX2_isKey_79 : decode cX2_isKey 79 = .ok (.iinc 4 1, 3) := dk_132 4 1 (dk_at dksX2_isKey_3 9 rfl rfl)
theorem dX2_isKey_82 : decode cX2_isKey 82 = .ok (.goto (-45), 3) := dk_167 255 211 (dk_at dksX2_isKey_3 12 rfl rfl)
theorem dX2_isKey_85 : decode cX2_isKey 85 = .ok (.iload_n 3, 1) := dk_29 (dk_at dksX2_isKey_3 15 rfl rfl)
theorem dX2_isKey_86 : decode cX2_isKey 86 = .ok (.ireturn, 1) := dk_172 (dk_at dksX2_isKey_3 16 rfl rfl)
abbrev cX2_need : ByteArray := prog_9_method_2_code
def yX2_need : MethodName := ⟨RX2, "need", "(Z)V"⟩
def dkwX2_need_0 : List UInt8 := [27, 154, 0, 8, 42, 180, 0, 12, 191, 177]
abbrev dktX2_need_0 : List UInt8 := dkwX2_need_0 ++ []
theorem dksX2_need_0 : cX2_need.data.toList.drop 0 = dktX2_need_0 := by decide +kernel
theorem dX2_need_0 : decode cX2_need 0 = .ok (.iload_n 1, 1) := dk_27 (dk_at dksX2_need_0 0 rfl rfl)
theorem dX2_need_1 : decode cX2_need 1 = .ok (.ifCond .ne 8, 3) := dk_154 0 8 (dk_at dksX2_need_0 1 rfl rfl)
theorem dX2_need_4 : decode cX2_need 4 = .ok (.aload_n 0, 1) := dk_42 (dk_at dksX2_need_0 4 rfl rfl)
theorem dX2_need_5 : decode cX2_need 5 = .ok (.getfield 12, 3) := dk_180 0 12 (dk_at dksX2_need_0 5 rfl rfl)
theorem dX2_need_8 : decode cX2_need 8 = .ok (.athrow, 1) := dk_191 (dk_at dksX2_need_0 8 rfl rfl)
theorem dX2_need_9 : decode cX2_need 9 = .ok (.return_, 1) := dk_177 (dk_at dksX2_need_0 9 rfl rfl)
abbrev cX2_isDigit : ByteArray := prog_9_method_4_code
def yX2_isDigit : MethodName := ⟨RX2, "isDigit", "(I)Z"⟩
def dkwX2_isDigit_0 : List UInt8 := [26, 16, 48, 16, 57, 184, 0, 33, 172]
abbrev dktX2_isDigit_0 : List UInt8 := dkwX2_isDigit_0 ++ []
theorem dksX2_isDigit_0 : cX2_isDigit.data.toList.drop 0 = dktX2_isDigit_0 := by decide +kernel
theorem dX2_isDigit_0 : decode cX2_isDigit 0 = .ok (.iload_n 0, 1) := dk_26 (dk_at dksX2_isDigit_0 0 rfl rfl)
theorem dX2_isDigit_1 : decode cX2_isDigit 1 = .ok (.bipush 48, 2) := dk_16 48 (dk_at dksX2_isDigit_0 1 rfl rfl)
theorem dX2_isDigit_3 : decode cX2_isDigit 3 = .ok (.bipush 57, 2) := dk_16 57 (dk_at dksX2_isDigit_0 3 rfl rfl)
theorem dX2_isDigit_5 : decode cX2_isDigit 5 = .ok (.invokestatic 33, 3) := dk_184 0 33 (dk_at dksX2_isDigit_0 5 rfl rfl)
theorem dX2_isDigit_8 : decode cX2_isDigit 8 = .ok (.ireturn, 1) := dk_172 (dk_at dksX2_isDigit_0 8 rfl rfl)
abbrev cX2_digits : ByteArray := prog_9_method_7_code
def yX2_digits : MethodName := ⟨RX2, "digits", "()V"⟩
def dkwX2_digits_3 : List UInt8 := [18, 67, 163, 0, 7, 4, 167, 0, 4, 3, 182, 0, 63, 177]
abbrev dktX2_digits_3 : List UInt8 := dkwX2_digits_3 ++ []
def dkwX2_digits_2 : List UInt8 := [180, 0, 37, 4, 96, 181, 0, 37, 167, 255, 205, 42, 4, 181, 0, 47, 42, 27, 181, 0, 68, 42, 27]
abbrev dktX2_digits_2 : List UInt8 := dkwX2_digits_2 ++ dktX2_digits_3
def dkwX2_digits_1 : List UInt8 := [167, 0, 19, 16, 10, 27, 104, 42, 42, 180, 0, 37, 182, 0, 40, 96, 16, 48, 100, 60, 42, 89]
abbrev dktX2_digits_1 : List UInt8 := dkwX2_digits_1 ++ dktX2_digits_2
def dkwX2_digits_0 : List UInt8 := [3, 60, 42, 42, 180, 0, 37, 182, 0, 40, 184, 0, 57, 153, 0, 43, 27, 18, 67, 164, 0, 7, 27]
abbrev dktX2_digits_0 : List UInt8 := dkwX2_digits_0 ++ dktX2_digits_1
theorem dksX2_digits_0 : cX2_digits.data.toList.drop 0 = dktX2_digits_0 := by decide +kernel
theorem dksX2_digits_1 : cX2_digits.data.toList.drop 23 = dktX2_digits_1 := dk_seg dksX2_digits_0 23 rfl rfl
theorem dksX2_digits_2 : cX2_digits.data.toList.drop 45 = dktX2_digits_2 := dk_seg dksX2_digits_1 22 rfl rfl
theorem dksX2_digits_3 : cX2_digits.data.toList.drop 68 = dktX2_digits_3 := dk_seg dksX2_digits_2 23 rfl rfl
theorem dX2_digits_0 : decode cX2_digits 0 = .ok (.iconst 0, 1) := dk_3 (dk_at dksX2_digits_0 0 rfl rfl)
theorem dX2_digits_1 : decode cX2_digits 1 = .ok (.istore_n 1, 1) := dk_60 (dk_at dksX2_digits_0 1 rfl rfl)
theorem dX2_digits_2 : decode cX2_digits 2 = .ok (.aload_n 0, 1) := dk_42 (dk_at dksX2_digits_0 2 rfl rfl)
theorem dX2_digits_3 : decode cX2_digits 3 = .ok (.aload_n 0, 1) := dk_42 (dk_at dksX2_digits_0 3 rfl rfl)
theorem dX2_digits_4 : decode cX2_digits 4 = .ok (.getfield 37, 3) := dk_180 0 37 (dk_at dksX2_digits_0 4 rfl rfl)
theorem dX2_digits_7 : decode cX2_digits 7 = .ok (.invokevirtual 40, 3) := dk_182 0 40 (dk_at dksX2_digits_0 7 rfl rfl)
theorem dX2_digits_10 : decode cX2_digits 10 = .ok (.invokestatic 57, 3) := dk_184 0 57 (dk_at dksX2_digits_0 10 rfl rfl)
theorem dX2_digits_13 : decode cX2_digits 13 = .ok (.ifCond .eq 43, 3) := dk_153 0 43 (dk_at dksX2_digits_0 13 rfl rfl)
theorem dX2_digits_16 : decode cX2_digits 16 = .ok (.iload_n 1, 1) := dk_27 (dk_at dksX2_digits_0 16 rfl rfl)
theorem dX2_digits_17 : decode cX2_digits 17 = .ok (.ldc 67, 2) := dk_18 67 (dk_at dksX2_digits_0 17 rfl rfl)
theorem dX2_digits_19 : decode cX2_digits 19 = .ok (.if_icmp .le 7, 3) := dk_164 0 7 (dk_at dksX2_digits_0 19 rfl rfl)
theorem dX2_digits_22 : decode cX2_digits 22 = .ok (.iload_n 1, 1) := dk_27 (dk_at dksX2_digits_0 22 rfl rfl)
theorem dX2_digits_23 : decode cX2_digits 23 = .ok (.goto 19, 3) := dk_167 0 19 (dk_at dksX2_digits_1 0 rfl rfl)
theorem dX2_digits_26 : decode cX2_digits 26 = .ok (.bipush 10, 2) := dk_16 10 (dk_at dksX2_digits_1 3 rfl rfl)
theorem dX2_digits_28 : decode cX2_digits 28 = .ok (.iload_n 1, 1) := dk_27 (dk_at dksX2_digits_1 5 rfl rfl)
theorem dX2_digits_29 : decode cX2_digits 29 = .ok (.imul, 1) := dk_104 (dk_at dksX2_digits_1 6 rfl rfl)
theorem dX2_digits_30 : decode cX2_digits 30 = .ok (.aload_n 0, 1) := dk_42 (dk_at dksX2_digits_1 7 rfl rfl)
theorem dX2_digits_31 : decode cX2_digits 31 = .ok (.aload_n 0, 1) := dk_42 (dk_at dksX2_digits_1 8 rfl rfl)
theorem dX2_digits_32 : decode cX2_digits 32 = .ok (.getfield 37, 3) := dk_180 0 37 (dk_at dksX2_digits_1 9 rfl rfl)
theorem dX2_digits_35 : decode cX2_digits 35 = .ok (.invokevirtual 40, 3) := dk_182 0 40 (dk_at dksX2_digits_1 12 rfl rfl)
theorem dX2_digits_38 : decode cX2_digits 38 = .ok (.iadd, 1) := dk_96 (dk_at dksX2_digits_1 15 rfl rfl)
theorem dX2_digits_39 : decode cX2_digits 39 = .ok (.bipush 48, 2) := dk_16 48 (dk_at dksX2_digits_1 16 rfl rfl)
theorem dX2_digits_41 : decode cX2_digits 41 = .ok (.isub, 1) := dk_100 (dk_at dksX2_digits_1 18 rfl rfl)
theorem dX2_digits_42 : decode cX2_digits 42 = .ok (.istore_n 1, 1) := dk_60 (dk_at dksX2_digits_1 19 rfl rfl)
theorem dX2_digits_43 : decode cX2_digits 43 = .ok (.aload_n 0, 1) := dk_42 (dk_at dksX2_digits_1 20 rfl rfl)
theorem dX2_digits_44 : decode cX2_digits 44 = .ok (.dup, 1) := dk_89 (dk_at dksX2_digits_1 21 rfl rfl)
theorem dX2_digits_45 : decode cX2_digits 45 = .ok (.getfield 37, 3) := dk_180 0 37 (dk_at dksX2_digits_2 0 rfl rfl)
theorem dX2_digits_48 : decode cX2_digits 48 = .ok (.iconst 1, 1) := dk_4 (dk_at dksX2_digits_2 3 rfl rfl)
theorem dX2_digits_49 : decode cX2_digits 49 = .ok (.iadd, 1) := dk_96 (dk_at dksX2_digits_2 4 rfl rfl)
theorem dX2_digits_50 : decode cX2_digits 50 = .ok (.putfield 37, 3) := dk_181 0 37 (dk_at dksX2_digits_2 5 rfl rfl)
theorem dX2_digits_53 : decode cX2_digits 53 = .ok (.goto (-51), 3) := dk_167 255 205 (dk_at dksX2_digits_2 8 rfl rfl)
theorem dX2_digits_56 : decode cX2_digits 56 = .ok (.aload_n 0, 1) := dk_42 (dk_at dksX2_digits_2 11 rfl rfl)
theorem dX2_digits_57 : decode cX2_digits 57 = .ok (.iconst 1, 1) := dk_4 (dk_at dksX2_digits_2 12 rfl rfl)
theorem dX2_digits_58 : decode cX2_digits 58 = .ok (.putfield 47, 3) := dk_181 0 47 (dk_at dksX2_digits_2 13 rfl rfl)
theorem dX2_digits_61 : decode cX2_digits 61 = .ok (.aload_n 0, 1) := dk_42 (dk_at dksX2_digits_2 16 rfl rfl)
theorem dX2_digits_62 : decode cX2_digits 62 = .ok (.iload_n 1, 1) := dk_27 (dk_at dksX2_digits_2 17 rfl rfl)
theorem dX2_digits_63 : decode cX2_digits 63 = .ok (.putfield 68, 3) := dk_181 0 68 (dk_at dksX2_digits_2 18 rfl rfl)
theorem dX2_digits_66 : decode cX2_digits 66 = .ok (.aload_n 0, 1) := dk_42 (dk_at dksX2_digits_2 21 rfl rfl)
theorem dX2_digits_67 : decode cX2_digits 67 = .ok (.iload_n 1, 1) := dk_27 (dk_at dksX2_digits_2 22 rfl rfl)
theorem dX2_digits_68 : decode cX2_digits 68 = .ok (.ldc 67, 2) := dk_18 67 (dk_at dksX2_digits_3 0 rfl rfl)
theorem dX2_digits_70 : decode cX2_digits 70 = .ok (.if_icmp .gt 7, 3) := dk_163 0 7 (dk_at dksX2_digits_3 2 rfl rfl)
theorem dX2_digits_73 : decode cX2_digits 73 = .ok (.iconst 1, 1) := dk_4 (dk_at dksX2_digits_3 5 rfl rfl)
theorem dX2_digits_74 : decode cX2_digits 74 = .ok (.goto 4, 3) := dk_167 0 4 (dk_at dksX2_digits_3 6 rfl rfl)
theorem dX2_digits_77 : decode cX2_digits 77 = .ok (.iconst 0, 1) := dk_3 (dk_at dksX2_digits_3 9 rfl rfl)
theorem dX2_digits_78 : decode cX2_digits 78 = .ok (.invokevirtual 63, 3) := dk_182 0 63 (dk_at dksX2_digits_3 10 rfl rfl)
theorem dX2_digits_81 : decode cX2_digits 81 = .ok (.return_, 1) := dk_177 (dk_at dksX2_digits_3 13 rfl rfl)
abbrev cX2_item : ByteArray := prog_9_method_17_code
def yX2_item : MethodName := ⟨RX2, "item", "()V"⟩
def dkwX2_item_3 : List UInt8 := [42, 182, 0, 120, 167, 0, 18, 42, 182, 0, 123, 167, 0, 11, 42, 42, 180, 0, 68, 182, 0, 126, 177]
abbrev dktX2_item_3 : List UInt8 := dkwX2_item_3 ++ []
def dkwX2_item_2 : List UInt8 := [171, 0, 0, 0, 0, 40, 0, 0, 0, 2, 0, 0, 0, 7, 0, 0, 0, 26, 0, 0, 0, 8, 0, 0, 0, 33]
abbrev dktX2_item_2 : List UInt8 := dkwX2_item_2 ++ dktX2_item_3
def dkwX2_item_1 : List UInt8 := [182, 0, 63, 42, 180, 0, 68]
abbrev dktX2_item_1 : List UInt8 := dkwX2_item_1 ++ dktX2_item_2
def dkwX2_item_0 : List UInt8 := [42, 42, 180, 0, 47, 5, 160, 0, 16, 42, 180, 0, 68, 16, 8, 163, 0, 7, 4, 167, 0, 4, 3]
abbrev dktX2_item_0 : List UInt8 := dkwX2_item_0 ++ dktX2_item_1
theorem dksX2_item_0 : cX2_item.data.toList.drop 0 = dktX2_item_0 := by decide +kernel
theorem dksX2_item_1 : cX2_item.data.toList.drop 23 = dktX2_item_1 := dk_seg dksX2_item_0 23 rfl rfl
theorem dksX2_item_2 : cX2_item.data.toList.drop 30 = dktX2_item_2 := dk_seg dksX2_item_1 7 rfl rfl
theorem dksX2_item_3 : cX2_item.data.toList.drop 56 = dktX2_item_3 := dk_seg dksX2_item_2 26 rfl rfl
theorem dX2_item_0 : decode cX2_item 0 = .ok (.aload_n 0, 1) := dk_42 (dk_at dksX2_item_0 0 rfl rfl)
theorem dX2_item_1 : decode cX2_item 1 = .ok (.aload_n 0, 1) := dk_42 (dk_at dksX2_item_0 1 rfl rfl)
theorem dX2_item_2 : decode cX2_item 2 = .ok (.getfield 47, 3) := dk_180 0 47 (dk_at dksX2_item_0 2 rfl rfl)
theorem dX2_item_5 : decode cX2_item 5 = .ok (.iconst 2, 1) := dk_5 (dk_at dksX2_item_0 5 rfl rfl)
theorem dX2_item_6 : decode cX2_item 6 = .ok (.if_icmp .ne 16, 3) := dk_160 0 16 (dk_at dksX2_item_0 6 rfl rfl)
theorem dX2_item_9 : decode cX2_item 9 = .ok (.aload_n 0, 1) := dk_42 (dk_at dksX2_item_0 9 rfl rfl)
theorem dX2_item_10 : decode cX2_item 10 = .ok (.getfield 68, 3) := dk_180 0 68 (dk_at dksX2_item_0 10 rfl rfl)
theorem dX2_item_13 : decode cX2_item 13 = .ok (.bipush 8, 2) := dk_16 8 (dk_at dksX2_item_0 13 rfl rfl)
theorem dX2_item_15 : decode cX2_item 15 = .ok (.if_icmp .gt 7, 3) := dk_163 0 7 (dk_at dksX2_item_0 15 rfl rfl)
theorem dX2_item_18 : decode cX2_item 18 = .ok (.iconst 1, 1) := dk_4 (dk_at dksX2_item_0 18 rfl rfl)
theorem dX2_item_19 : decode cX2_item 19 = .ok (.goto 4, 3) := dk_167 0 4 (dk_at dksX2_item_0 19 rfl rfl)
theorem dX2_item_22 : decode cX2_item 22 = .ok (.iconst 0, 1) := dk_3 (dk_at dksX2_item_0 22 rfl rfl)
theorem dX2_item_23 : decode cX2_item 23 = .ok (.invokevirtual 63, 3) := dk_182 0 63 (dk_at dksX2_item_1 0 rfl rfl)
theorem dX2_item_26 : decode cX2_item 26 = .ok (.aload_n 0, 1) := dk_42 (dk_at dksX2_item_1 3 rfl rfl)
theorem dX2_item_27 : decode cX2_item 27 = .ok (.getfield 68, 3) := dk_180 0 68 (dk_at dksX2_item_1 4 rfl rfl)
theorem dX2_item_30 : decode cX2_item 30 = .ok (.lookupswitch 40 #[(7, 26), (8, 33)], 26) := by decide +kernel
theorem dX2_item_56 : decode cX2_item 56 = .ok (.aload_n 0, 1) := dk_42 (dk_at dksX2_item_3 0 rfl rfl)
theorem dX2_item_57 : decode cX2_item 57 = .ok (.invokevirtual 120, 3) := dk_182 0 120 (dk_at dksX2_item_3 1 rfl rfl)
theorem dX2_item_60 : decode cX2_item 60 = .ok (.goto 18, 3) := dk_167 0 18 (dk_at dksX2_item_3 4 rfl rfl)
theorem dX2_item_63 : decode cX2_item 63 = .ok (.aload_n 0, 1) := dk_42 (dk_at dksX2_item_3 7 rfl rfl)
theorem dX2_item_64 : decode cX2_item 64 = .ok (.invokevirtual 123, 3) := dk_182 0 123 (dk_at dksX2_item_3 8 rfl rfl)
theorem dX2_item_67 : decode cX2_item 67 = .ok (.goto 11, 3) := dk_167 0 11 (dk_at dksX2_item_3 11 rfl rfl)
theorem dX2_item_70 : decode cX2_item 70 = .ok (.aload_n 0, 1) := dk_42 (dk_at dksX2_item_3 14 rfl rfl)
theorem dX2_item_71 : decode cX2_item 71 = .ok (.aload_n 0, 1) := dk_42 (dk_at dksX2_item_3 15 rfl rfl)
theorem dX2_item_72 : decode cX2_item 72 = .ok (.getfield 68, 3) := dk_180 0 68 (dk_at dksX2_item_3 16 rfl rfl)
theorem dX2_item_75 : decode cX2_item 75 = .ok (.invokevirtual 126, 3) := dk_182 0 126 (dk_at dksX2_item_3 19 rfl rfl)
theorem dX2_item_78 : decode cX2_item 78 = .ok (.return_, 1) := dk_177 (dk_at dksX2_item_3 22 rfl rfl)
abbrev cX2_said : ByteArray := prog_9_method_15_code
def yX2_said : MethodName := ⟨RX2, "said", "()V"⟩
def dkwX2_said_1 : List UInt8 := [180, 0, 25, 180, 0, 112, 27, 28, 29, 42, 3, 16, 9, 182, 0, 86, 184, 0, 116, 79, 177]
abbrev dktX2_said_1 : List UInt8 := dkwX2_said_1 ++ []
def dkwX2_said_0 : List UInt8 := [42, 3, 8, 182, 0, 100, 60, 42, 3, 8, 182, 0, 86, 61, 42, 3, 16, 15, 182, 0, 86, 62, 42]
abbrev dktX2_said_0 : List UInt8 := dkwX2_said_0 ++ dktX2_said_1
theorem dksX2_said_0 : cX2_said.data.toList.drop 0 = dktX2_said_0 := by decide +kernel
theorem dksX2_said_1 : cX2_said.data.toList.drop 23 = dktX2_said_1 := dk_seg dksX2_said_0 23 rfl rfl
theorem dX2_said_0 : decode cX2_said 0 = .ok (.aload_n 0, 1) := dk_42 (dk_at dksX2_said_0 0 rfl rfl)
theorem dX2_said_1 : decode cX2_said 1 = .ok (.iconst 0, 1) := dk_3 (dk_at dksX2_said_0 1 rfl rfl)
theorem dX2_said_2 : decode cX2_said 2 = .ok (.iconst 5, 1) := dk_8 (dk_at dksX2_said_0 2 rfl rfl)
theorem dX2_said_3 : decode cX2_said 3 = .ok (.invokevirtual 100, 3) := dk_182 0 100 (dk_at dksX2_said_0 3 rfl rfl)
theorem dX2_said_6 : decode cX2_said 6 = .ok (.istore_n 1, 1) := dk_60 (dk_at dksX2_said_0 6 rfl rfl)
theorem dX2_said_7 : decode cX2_said 7 = .ok (.aload_n 0, 1) := dk_42 (dk_at dksX2_said_0 7 rfl rfl)
theorem dX2_said_8 : decode cX2_said 8 = .ok (.iconst 0, 1) := dk_3 (dk_at dksX2_said_0 8 rfl rfl)
theorem dX2_said_9 : decode cX2_said 9 = .ok (.iconst 5, 1) := dk_8 (dk_at dksX2_said_0 9 rfl rfl)
theorem dX2_said_10 : decode cX2_said 10 = .ok (.invokevirtual 86, 3) := dk_182 0 86 (dk_at dksX2_said_0 10 rfl rfl)
theorem dX2_said_13 : decode cX2_said 13 = .ok (.istore_n 2, 1) := dk_61 (dk_at dksX2_said_0 13 rfl rfl)
theorem dX2_said_14 : decode cX2_said 14 = .ok (.aload_n 0, 1) := dk_42 (dk_at dksX2_said_0 14 rfl rfl)
theorem dX2_said_15 : decode cX2_said 15 = .ok (.iconst 0, 1) := dk_3 (dk_at dksX2_said_0 15 rfl rfl)
theorem dX2_said_16 : decode cX2_said 16 = .ok (.bipush 15, 2) := dk_16 15 (dk_at dksX2_said_0 16 rfl rfl)
theorem dX2_said_18 : decode cX2_said 18 = .ok (.invokevirtual 86, 3) := dk_182 0 86 (dk_at dksX2_said_0 18 rfl rfl)
theorem dX2_said_21 : decode cX2_said 21 = .ok (.istore_n 3, 1) := dk_62 (dk_at dksX2_said_0 21 rfl rfl)
theorem dX2_said_22 : decode cX2_said 22 = .ok (.aload_n 0, 1) := dk_42 (dk_at dksX2_said_0 22 rfl rfl)
theorem dX2_said_23 : decode cX2_said 23 = .ok (.getfield 25, 3) := dk_180 0 25 (dk_at dksX2_said_1 0 rfl rfl)
theorem dX2_said_26 : decode cX2_said 26 = .ok (.getfield 112, 3) := dk_180 0 112 (dk_at dksX2_said_1 3 rfl rfl)
theorem dX2_said_29 : decode cX2_said 29 = .ok (.iload_n 1, 1) := dk_27 (dk_at dksX2_said_1 6 rfl rfl)
theorem dX2_said_30 : decode cX2_said 30 = .ok (.iload_n 2, 1) := dk_28 (dk_at dksX2_said_1 7 rfl rfl)
theorem dX2_said_31 : decode cX2_said 31 = .ok (.iload_n 3, 1) := dk_29 (dk_at dksX2_said_1 8 rfl rfl)
theorem dX2_said_32 : decode cX2_said 32 = .ok (.aload_n 0, 1) := dk_42 (dk_at dksX2_said_1 9 rfl rfl)
theorem dX2_said_33 : decode cX2_said 33 = .ok (.iconst 0, 1) := dk_3 (dk_at dksX2_said_1 10 rfl rfl)
theorem dX2_said_34 : decode cX2_said 34 = .ok (.bipush 9, 2) := dk_16 9 (dk_at dksX2_said_1 11 rfl rfl)
theorem dX2_said_36 : decode cX2_said 36 = .ok (.invokevirtual 86, 3) := dk_182 0 86 (dk_at dksX2_said_1 13 rfl rfl)
theorem dX2_said_39 : decode cX2_said 39 = .ok (.invokestatic 116, 3) := dk_184 0 116 (dk_at dksX2_said_1 16 rfl rfl)
theorem dX2_said_42 : decode cX2_said 42 = .ok (.iastore, 1) := dk_79 (dk_at dksX2_said_1 19 rfl rfl)
theorem dX2_said_43 : decode cX2_said 43 = .ok (.return_, 1) := dk_177 (dk_at dksX2_said_1 20 rfl rfl)
abbrev cX2_behind : ByteArray := prog_9_method_12_code
def yX2_behind : MethodName := ⟨RX2, "behind", "(II)I"⟩
def dkwX2_behind_0 : List UInt8 := [42, 182, 0, 83, 42, 27, 28, 182, 0, 86, 172]
abbrev dktX2_behind_0 : List UInt8 := dkwX2_behind_0 ++ []
theorem dksX2_behind_0 : cX2_behind.data.toList.drop 0 = dktX2_behind_0 := by decide +kernel
theorem dX2_behind_0 : decode cX2_behind 0 = .ok (.aload_n 0, 1) := dk_42 (dk_at dksX2_behind_0 0 rfl rfl)
theorem dX2_behind_1 : decode cX2_behind 1 = .ok (.invokevirtual 83, 3) := dk_182 0 83 (dk_at dksX2_behind_0 1 rfl rfl)
theorem dX2_behind_4 : decode cX2_behind 4 = .ok (.aload_n 0, 1) := dk_42 (dk_at dksX2_behind_0 4 rfl rfl)
theorem dX2_behind_5 : decode cX2_behind 5 = .ok (.iload_n 1, 1) := dk_27 (dk_at dksX2_behind_0 5 rfl rfl)
theorem dX2_behind_6 : decode cX2_behind 6 = .ok (.iload_n 2, 1) := dk_28 (dk_at dksX2_behind_0 6 rfl rfl)
theorem dX2_behind_7 : decode cX2_behind 7 = .ok (.invokevirtual 86, 3) := dk_182 0 86 (dk_at dksX2_behind_0 7 rfl rfl)
theorem dX2_behind_10 : decode cX2_behind 10 = .ok (.ireturn, 1) := dk_172 (dk_at dksX2_behind_0 10 rfl rfl)
abbrev cX2_number : ByteArray := prog_9_method_11_code
def yX2_number : MethodName := ⟨RX2, "number", "(II)I"⟩
def dkwX2_number_1 : List UInt8 := [167, 0, 4, 3, 182, 0, 63, 42, 180, 0, 68, 62, 42, 182, 0, 83, 29, 172]
abbrev dktX2_number_1 : List UInt8 := dkwX2_number_1 ++ []
def dkwX2_number_0 : List UInt8 := [42, 42, 180, 0, 47, 4, 160, 0, 19, 42, 180, 0, 68, 27, 28, 184, 0, 33, 153, 0, 7, 4]
abbrev dktX2_number_0 : List UInt8 := dkwX2_number_0 ++ dktX2_number_1
theorem dksX2_number_0 : cX2_number.data.toList.drop 0 = dktX2_number_0 := by decide +kernel
theorem dksX2_number_1 : cX2_number.data.toList.drop 22 = dktX2_number_1 := dk_seg dksX2_number_0 22 rfl rfl
theorem dX2_number_0 : decode cX2_number 0 = .ok (.aload_n 0, 1) := dk_42 (dk_at dksX2_number_0 0 rfl rfl)
theorem dX2_number_1 : decode cX2_number 1 = .ok (.aload_n 0, 1) := dk_42 (dk_at dksX2_number_0 1 rfl rfl)
theorem dX2_number_2 : decode cX2_number 2 = .ok (.getfield 47, 3) := dk_180 0 47 (dk_at dksX2_number_0 2 rfl rfl)
theorem dX2_number_5 : decode cX2_number 5 = .ok (.iconst 1, 1) := dk_4 (dk_at dksX2_number_0 5 rfl rfl)
theorem dX2_number_6 : decode cX2_number 6 = .ok (.if_icmp .ne 19, 3) := dk_160 0 19 (dk_at dksX2_number_0 6 rfl rfl)
theorem dX2_number_9 : decode cX2_number 9 = .ok (.aload_n 0, 1) := dk_42 (dk_at dksX2_number_0 9 rfl rfl)
theorem dX2_number_10 : decode cX2_number 10 = .ok (.getfield 68, 3) := dk_180 0 68 (dk_at dksX2_number_0 10 rfl rfl)
theorem dX2_number_13 : decode cX2_number 13 = .ok (.iload_n 1, 1) := dk_27 (dk_at dksX2_number_0 13 rfl rfl)
theorem dX2_number_14 : decode cX2_number 14 = .ok (.iload_n 2, 1) := dk_28 (dk_at dksX2_number_0 14 rfl rfl)
theorem dX2_number_15 : decode cX2_number 15 = .ok (.invokestatic 33, 3) := dk_184 0 33 (dk_at dksX2_number_0 15 rfl rfl)
theorem dX2_number_18 : decode cX2_number 18 = .ok (.ifCond .eq 7, 3) := dk_153 0 7 (dk_at dksX2_number_0 18 rfl rfl)
theorem dX2_number_21 : decode cX2_number 21 = .ok (.iconst 1, 1) := dk_4 (dk_at dksX2_number_0 21 rfl rfl)
theorem dX2_number_22 : decode cX2_number 22 = .ok (.goto 4, 3) := dk_167 0 4 (dk_at dksX2_number_1 0 rfl rfl)
theorem dX2_number_25 : decode cX2_number 25 = .ok (.iconst 0, 1) := dk_3 (dk_at dksX2_number_1 3 rfl rfl)
theorem dX2_number_26 : decode cX2_number 26 = .ok (.invokevirtual 63, 3) := dk_182 0 63 (dk_at dksX2_number_1 4 rfl rfl)
theorem dX2_number_29 : decode cX2_number 29 = .ok (.aload_n 0, 1) := dk_42 (dk_at dksX2_number_1 7 rfl rfl)
theorem dX2_number_30 : decode cX2_number 30 = .ok (.getfield 68, 3) := dk_180 0 68 (dk_at dksX2_number_1 8 rfl rfl)
theorem dX2_number_33 : decode cX2_number 33 = .ok (.istore_n 3, 1) := dk_62 (dk_at dksX2_number_1 11 rfl rfl)
theorem dX2_number_34 : decode cX2_number 34 = .ok (.aload_n 0, 1) := dk_42 (dk_at dksX2_number_1 12 rfl rfl)
theorem dX2_number_35 : decode cX2_number 35 = .ok (.invokevirtual 83, 3) := dk_182 0 83 (dk_at dksX2_number_1 13 rfl rfl)
theorem dX2_number_38 : decode cX2_number 38 = .ok (.iload_n 3, 1) := dk_29 (dk_at dksX2_number_1 16 rfl rfl)
theorem dX2_number_39 : decode cX2_number 39 = .ok (.ireturn, 1) := dk_172 (dk_at dksX2_number_1 17 rfl rfl)
abbrev cX2_hand : ByteArray := prog_9_method_16_code
def yX2_hand : MethodName := ⟨RX2, "hand", "()V"⟩
def dkwX2_hand_1 : List UInt8 := [27, 42, 3, 18, 111, 182, 0, 86, 79, 177]
abbrev dktX2_hand_1 : List UInt8 := dkwX2_hand_1 ++ []
def dkwX2_hand_0 : List UInt8 := [42, 3, 42, 180, 0, 25, 180, 0, 97, 4, 100, 182, 0, 100, 60, 42, 180, 0, 25, 180, 0, 93, 8, 50]
abbrev dktX2_hand_0 : List UInt8 := dkwX2_hand_0 ++ dktX2_hand_1
theorem dksX2_hand_0 : cX2_hand.data.toList.drop 0 = dktX2_hand_0 := by decide +kernel
theorem dksX2_hand_1 : cX2_hand.data.toList.drop 24 = dktX2_hand_1 := dk_seg dksX2_hand_0 24 rfl rfl
theorem dX2_hand_0 : decode cX2_hand 0 = .ok (.aload_n 0, 1) := dk_42 (dk_at dksX2_hand_0 0 rfl rfl)
theorem dX2_hand_1 : decode cX2_hand 1 = .ok (.iconst 0, 1) := dk_3 (dk_at dksX2_hand_0 1 rfl rfl)
theorem dX2_hand_2 : decode cX2_hand 2 = .ok (.aload_n 0, 1) := dk_42 (dk_at dksX2_hand_0 2 rfl rfl)
theorem dX2_hand_3 : decode cX2_hand 3 = .ok (.getfield 25, 3) := dk_180 0 25 (dk_at dksX2_hand_0 3 rfl rfl)
theorem dX2_hand_6 : decode cX2_hand 6 = .ok (.getfield 97, 3) := dk_180 0 97 (dk_at dksX2_hand_0 6 rfl rfl)
theorem dX2_hand_9 : decode cX2_hand 9 = .ok (.iconst 1, 1) := dk_4 (dk_at dksX2_hand_0 9 rfl rfl)
theorem dX2_hand_10 : decode cX2_hand 10 = .ok (.isub, 1) := dk_100 (dk_at dksX2_hand_0 10 rfl rfl)
theorem dX2_hand_11 : decode cX2_hand 11 = .ok (.invokevirtual 100, 3) := dk_182 0 100 (dk_at dksX2_hand_0 11 rfl rfl)
theorem dX2_hand_14 : decode cX2_hand 14 = .ok (.istore_n 1, 1) := dk_60 (dk_at dksX2_hand_0 14 rfl rfl)
theorem dX2_hand_15 : decode cX2_hand 15 = .ok (.aload_n 0, 1) := dk_42 (dk_at dksX2_hand_0 15 rfl rfl)
theorem dX2_hand_16 : decode cX2_hand 16 = .ok (.getfield 25, 3) := dk_180 0 25 (dk_at dksX2_hand_0 16 rfl rfl)
theorem dX2_hand_19 : decode cX2_hand 19 = .ok (.getfield 93, 3) := dk_180 0 93 (dk_at dksX2_hand_0 19 rfl rfl)
theorem dX2_hand_22 : decode cX2_hand 22 = .ok (.iconst 5, 1) := dk_8 (dk_at dksX2_hand_0 22 rfl rfl)
theorem dX2_hand_23 : decode cX2_hand 23 = .ok (.aaload, 1) := dk_50 (dk_at dksX2_hand_0 23 rfl rfl)
theorem dX2_hand_24 : decode cX2_hand 24 = .ok (.iload_n 1, 1) := dk_27 (dk_at dksX2_hand_1 0 rfl rfl)
theorem dX2_hand_25 : decode cX2_hand 25 = .ok (.aload_n 0, 1) := dk_42 (dk_at dksX2_hand_1 1 rfl rfl)
theorem dX2_hand_26 : decode cX2_hand 26 = .ok (.iconst 0, 1) := dk_3 (dk_at dksX2_hand_1 2 rfl rfl)
theorem dX2_hand_27 : decode cX2_hand 27 = .ok (.ldc 111, 2) := dk_18 111 (dk_at dksX2_hand_1 3 rfl rfl)
theorem dX2_hand_29 : decode cX2_hand 29 = .ok (.invokevirtual 86, 3) := dk_182 0 86 (dk_at dksX2_hand_1 5 rfl rfl)
theorem dX2_hand_32 : decode cX2_hand 32 = .ok (.iastore, 1) := dk_79 (dk_at dksX2_hand_1 8 rfl rfl)
theorem dX2_hand_33 : decode cX2_hand 33 = .ok (.return_, 1) := dk_177 (dk_at dksX2_hand_1 9 rfl rfl)
abbrev cX2_glove : ByteArray := prog_9_method_14_code
def yX2_glove : MethodName := ⟨RX2, "glove", "(I)V"⟩
def dkwX2_glove_3 : List UInt8 := [182, 0, 107, 42, 16, 12, 7, 17, 39, 15, 182, 0, 107, 177]
abbrev dktX2_glove_3 : List UInt8 := dkwX2_glove_3 ++ []
def dkwX2_glove_2 : List UInt8 := [167, 0, 4, 3, 182, 0, 103, 42, 16, 10, 5, 16, 9, 182, 0, 107, 42, 16, 11, 6, 18, 111]
abbrev dktX2_glove_2 : List UInt8 := dkwX2_glove_2 ++ dktX2_glove_3
def dkwX2_glove_1 : List UInt8 := [182, 0, 83, 42, 180, 0, 25, 27, 42, 16, 9, 182, 0, 90, 153, 0, 12, 42, 3, 8, 182, 0, 100]
abbrev dktX2_glove_1 : List UInt8 := dkwX2_glove_1 ++ dktX2_glove_2
def dkwX2_glove_0 : List UInt8 := [42, 42, 180, 0, 25, 180, 0, 97, 16, 8, 162, 0, 7, 4, 167, 0, 4, 3, 182, 0, 63, 42]
abbrev dktX2_glove_0 : List UInt8 := dkwX2_glove_0 ++ dktX2_glove_1
theorem dksX2_glove_0 : cX2_glove.data.toList.drop 0 = dktX2_glove_0 := by decide +kernel
theorem dksX2_glove_1 : cX2_glove.data.toList.drop 22 = dktX2_glove_1 := dk_seg dksX2_glove_0 22 rfl rfl
theorem dksX2_glove_2 : cX2_glove.data.toList.drop 45 = dktX2_glove_2 := dk_seg dksX2_glove_1 23 rfl rfl
theorem dksX2_glove_3 : cX2_glove.data.toList.drop 67 = dktX2_glove_3 := dk_seg dksX2_glove_2 22 rfl rfl
theorem dX2_glove_0 : decode cX2_glove 0 = .ok (.aload_n 0, 1) := dk_42 (dk_at dksX2_glove_0 0 rfl rfl)
theorem dX2_glove_1 : decode cX2_glove 1 = .ok (.aload_n 0, 1) := dk_42 (dk_at dksX2_glove_0 1 rfl rfl)
theorem dX2_glove_2 : decode cX2_glove 2 = .ok (.getfield 25, 3) := dk_180 0 25 (dk_at dksX2_glove_0 2 rfl rfl)
theorem dX2_glove_5 : decode cX2_glove 5 = .ok (.getfield 97, 3) := dk_180 0 97 (dk_at dksX2_glove_0 5 rfl rfl)
theorem dX2_glove_8 : decode cX2_glove 8 = .ok (.bipush 8, 2) := dk_16 8 (dk_at dksX2_glove_0 8 rfl rfl)
theorem dX2_glove_10 : decode cX2_glove 10 = .ok (.if_icmp .ge 7, 3) := dk_162 0 7 (dk_at dksX2_glove_0 10 rfl rfl)
theorem dX2_glove_13 : decode cX2_glove 13 = .ok (.iconst 1, 1) := dk_4 (dk_at dksX2_glove_0 13 rfl rfl)
theorem dX2_glove_14 : decode cX2_glove 14 = .ok (.goto 4, 3) := dk_167 0 4 (dk_at dksX2_glove_0 14 rfl rfl)
theorem dX2_glove_17 : decode cX2_glove 17 = .ok (.iconst 0, 1) := dk_3 (dk_at dksX2_glove_0 17 rfl rfl)
theorem dX2_glove_18 : decode cX2_glove 18 = .ok (.invokevirtual 63, 3) := dk_182 0 63 (dk_at dksX2_glove_0 18 rfl rfl)
theorem dX2_glove_21 : decode cX2_glove 21 = .ok (.aload_n 0, 1) := dk_42 (dk_at dksX2_glove_0 21 rfl rfl)
theorem dX2_glove_22 : decode cX2_glove 22 = .ok (.invokevirtual 83, 3) := dk_182 0 83 (dk_at dksX2_glove_1 0 rfl rfl)
theorem dX2_glove_25 : decode cX2_glove 25 = .ok (.aload_n 0, 1) := dk_42 (dk_at dksX2_glove_1 3 rfl rfl)
theorem dX2_glove_26 : decode cX2_glove 26 = .ok (.getfield 25, 3) := dk_180 0 25 (dk_at dksX2_glove_1 4 rfl rfl)
theorem dX2_glove_29 : decode cX2_glove 29 = .ok (.iload_n 1, 1) := dk_27 (dk_at dksX2_glove_1 7 rfl rfl)
theorem dX2_glove_30 : decode cX2_glove 30 = .ok (.aload_n 0, 1) := dk_42 (dk_at dksX2_glove_1 8 rfl rfl)
theorem dX2_glove_31 : decode cX2_glove 31 = .ok (.bipush 9, 2) := dk_16 9 (dk_at dksX2_glove_1 9 rfl rfl)
theorem dX2_glove_33 : decode cX2_glove 33 = .ok (.invokevirtual 90, 3) := dk_182 0 90 (dk_at dksX2_glove_1 11 rfl rfl)
theorem dX2_glove_36 : decode cX2_glove 36 = .ok (.ifCond .eq 12, 3) := dk_153 0 12 (dk_at dksX2_glove_1 14 rfl rfl)
theorem dX2_glove_39 : decode cX2_glove 39 = .ok (.aload_n 0, 1) := dk_42 (dk_at dksX2_glove_1 17 rfl rfl)
theorem dX2_glove_40 : decode cX2_glove 40 = .ok (.iconst 0, 1) := dk_3 (dk_at dksX2_glove_1 18 rfl rfl)
theorem dX2_glove_41 : decode cX2_glove 41 = .ok (.iconst 5, 1) := dk_8 (dk_at dksX2_glove_1 19 rfl rfl)
theorem dX2_glove_42 : decode cX2_glove 42 = .ok (.invokevirtual 100, 3) := dk_182 0 100 (dk_at dksX2_glove_1 20 rfl rfl)
theorem dX2_glove_45 : decode cX2_glove 45 = .ok (.goto 4, 3) := dk_167 0 4 (dk_at dksX2_glove_2 0 rfl rfl)
theorem dX2_glove_48 : decode cX2_glove 48 = .ok (.iconst 0, 1) := dk_3 (dk_at dksX2_glove_2 3 rfl rfl)
theorem dX2_glove_49 : decode cX2_glove 49 = .ok (.invokevirtual 103, 3) := dk_182 0 103 (dk_at dksX2_glove_2 4 rfl rfl)
theorem dX2_glove_52 : decode cX2_glove 52 = .ok (.aload_n 0, 1) := dk_42 (dk_at dksX2_glove_2 7 rfl rfl)
theorem dX2_glove_53 : decode cX2_glove 53 = .ok (.bipush 10, 2) := dk_16 10 (dk_at dksX2_glove_2 8 rfl rfl)
theorem dX2_glove_55 : decode cX2_glove 55 = .ok (.iconst 2, 1) := dk_5 (dk_at dksX2_glove_2 10 rfl rfl)
theorem dX2_glove_56 : decode cX2_glove 56 = .ok (.bipush 9, 2) := dk_16 9 (dk_at dksX2_glove_2 11 rfl rfl)
theorem dX2_glove_58 : decode cX2_glove 58 = .ok (.invokevirtual 107, 3) := dk_182 0 107 (dk_at dksX2_glove_2 13 rfl rfl)
theorem dX2_glove_61 : decode cX2_glove 61 = .ok (.aload_n 0, 1) := dk_42 (dk_at dksX2_glove_2 16 rfl rfl)
theorem dX2_glove_62 : decode cX2_glove 62 = .ok (.bipush 11, 2) := dk_16 11 (dk_at dksX2_glove_2 17 rfl rfl)
theorem dX2_glove_64 : decode cX2_glove 64 = .ok (.iconst 3, 1) := dk_6 (dk_at dksX2_glove_2 19 rfl rfl)
theorem dX2_glove_65 : decode cX2_glove 65 = .ok (.ldc 111, 2) := dk_18 111 (dk_at dksX2_glove_2 20 rfl rfl)
theorem dX2_glove_67 : decode cX2_glove 67 = .ok (.invokevirtual 107, 3) := dk_182 0 107 (dk_at dksX2_glove_3 0 rfl rfl)
theorem dX2_glove_70 : decode cX2_glove 70 = .ok (.aload_n 0, 1) := dk_42 (dk_at dksX2_glove_3 3 rfl rfl)
theorem dX2_glove_71 : decode cX2_glove 71 = .ok (.bipush 12, 2) := dk_16 12 (dk_at dksX2_glove_3 4 rfl rfl)
theorem dX2_glove_73 : decode cX2_glove 73 = .ok (.iconst 4, 1) := dk_7 (dk_at dksX2_glove_3 6 rfl rfl)
theorem dX2_glove_74 : decode cX2_glove 74 = .ok (.sipush 9999, 3) := dk_17 39 15 (dk_at dksX2_glove_3 7 rfl rfl)
theorem dX2_glove_77 : decode cX2_glove 77 = .ok (.invokevirtual 107, 3) := dk_182 0 107 (dk_at dksX2_glove_3 10 rfl rfl)
theorem dX2_glove_80 : decode cX2_glove 80 = .ok (.return_, 1) := dk_177 (dk_at dksX2_glove_3 13 rfl rfl)
abbrev cX2_isWord : ByteArray := prog_9_method_10_code
def yX2_isWord : MethodName := ⟨RX2, "isWord", "(I)Z"⟩
def dkwX2_isWord_0 : List UInt8 := [42, 180, 0, 47, 5, 160, 0, 15, 42, 180, 0, 68, 27, 160, 0, 7, 4, 167, 0, 4, 3, 172]
abbrev dktX2_isWord_0 : List UInt8 := dkwX2_isWord_0 ++ []
theorem dksX2_isWord_0 : cX2_isWord.data.toList.drop 0 = dktX2_isWord_0 := by decide +kernel
theorem dX2_isWord_0 : decode cX2_isWord 0 = .ok (.aload_n 0, 1) := dk_42 (dk_at dksX2_isWord_0 0 rfl rfl)
theorem dX2_isWord_1 : decode cX2_isWord 1 = .ok (.getfield 47, 3) := dk_180 0 47 (dk_at dksX2_isWord_0 1 rfl rfl)
theorem dX2_isWord_4 : decode cX2_isWord 4 = .ok (.iconst 2, 1) := dk_5 (dk_at dksX2_isWord_0 4 rfl rfl)
theorem dX2_isWord_5 : decode cX2_isWord 5 = .ok (.if_icmp .ne 15, 3) := dk_160 0 15 (dk_at dksX2_isWord_0 5 rfl rfl)
theorem dX2_isWord_8 : decode cX2_isWord 8 = .ok (.aload_n 0, 1) := dk_42 (dk_at dksX2_isWord_0 8 rfl rfl)
theorem dX2_isWord_9 : decode cX2_isWord 9 = .ok (.getfield 68, 3) := dk_180 0 68 (dk_at dksX2_isWord_0 9 rfl rfl)
theorem dX2_isWord_12 : decode cX2_isWord 12 = .ok (.iload_n 1, 1) := dk_27 (dk_at dksX2_isWord_0 12 rfl rfl)
theorem dX2_isWord_13 : decode cX2_isWord 13 = .ok (.if_icmp .ne 7, 3) := dk_160 0 7 (dk_at dksX2_isWord_0 13 rfl rfl)
theorem dX2_isWord_16 : decode cX2_isWord 16 = .ok (.iconst 1, 1) := dk_4 (dk_at dksX2_isWord_0 16 rfl rfl)
theorem dX2_isWord_17 : decode cX2_isWord 17 = .ok (.goto 4, 3) := dk_167 0 4 (dk_at dksX2_isWord_0 17 rfl rfl)
theorem dX2_isWord_20 : decode cX2_isWord 20 = .ok (.iconst 0, 1) := dk_3 (dk_at dksX2_isWord_0 20 rfl rfl)
theorem dX2_isWord_21 : decode cX2_isWord 21 = .ok (.ireturn, 1) := dk_172 (dk_at dksX2_isWord_0 21 rfl rfl)
abbrev cX2_perhaps : ByteArray := prog_9_method_13_code
def yX2_perhaps : MethodName := ⟨RX2, "perhaps", "(III)V"⟩
def dkwX2_perhaps_1 : List UInt8 := [4, 100, 42, 3, 29, 182, 0, 100, 79, 177]
abbrev dktX2_perhaps_1 : List UInt8 := dkwX2_perhaps_1 ++ []
def dkwX2_perhaps_0 : List UInt8 := [42, 27, 182, 0, 90, 153, 0, 28, 42, 180, 0, 25, 180, 0, 93, 28, 50, 42, 180, 0, 25, 180, 0, 97]
abbrev dktX2_perhaps_0 : List UInt8 := dkwX2_perhaps_0 ++ dktX2_perhaps_1
theorem dksX2_perhaps_0 : cX2_perhaps.data.toList.drop 0 = dktX2_perhaps_0 := by decide +kernel
theorem dksX2_perhaps_1 : cX2_perhaps.data.toList.drop 24 = dktX2_perhaps_1 := dk_seg dksX2_perhaps_0 24 rfl rfl
theorem dX2_perhaps_0 : decode cX2_perhaps 0 = .ok (.aload_n 0, 1) := dk_42 (dk_at dksX2_perhaps_0 0 rfl rfl)
theorem dX2_perhaps_1 : decode cX2_perhaps 1 = .ok (.iload_n 1, 1) := dk_27 (dk_at dksX2_perhaps_0 1 rfl rfl)
theorem dX2_perhaps_2 : decode cX2_perhaps 2 = .ok (.invokevirtual 90, 3) := dk_182 0 90 (dk_at dksX2_perhaps_0 2 rfl rfl)
theorem dX2_perhaps_5 : decode cX2_perhaps 5 = .ok (.ifCond .eq 28, 3) := dk_153 0 28 (dk_at dksX2_perhaps_0 5 rfl rfl)
theorem dX2_perhaps_8 : decode cX2_perhaps 8 = .ok (.aload_n 0, 1) := dk_42 (dk_at dksX2_perhaps_0 8 rfl rfl)
theorem dX2_perhaps_9 : decode cX2_perhaps 9 = .ok (.getfield 25, 3) := dk_180 0 25 (dk_at dksX2_perhaps_0 9 rfl rfl)
theorem dX2_perhaps_12 : decode cX2_perhaps 12 = .ok (.getfield 93, 3) := dk_180 0 93 (dk_at dksX2_perhaps_0 12 rfl rfl)
theorem dX2_perhaps_15 : decode cX2_perhaps 15 = .ok (.iload_n 2, 1) := dk_28 (dk_at dksX2_perhaps_0 15 rfl rfl)
theorem dX2_perhaps_16 : decode cX2_perhaps 16 = .ok (.aaload, 1) := dk_50 (dk_at dksX2_perhaps_0 16 rfl rfl)
theorem dX2_perhaps_17 : decode cX2_perhaps 17 = .ok (.aload_n 0, 1) := dk_42 (dk_at dksX2_perhaps_0 17 rfl rfl)
theorem dX2_perhaps_18 : decode cX2_perhaps 18 = .ok (.getfield 25, 3) := dk_180 0 25 (dk_at dksX2_perhaps_0 18 rfl rfl)
theorem dX2_perhaps_21 : decode cX2_perhaps 21 = .ok (.getfield 97, 3) := dk_180 0 97 (dk_at dksX2_perhaps_0 21 rfl rfl)
theorem dX2_perhaps_24 : decode cX2_perhaps 24 = .ok (.iconst 1, 1) := dk_4 (dk_at dksX2_perhaps_1 0 rfl rfl)
theorem dX2_perhaps_25 : decode cX2_perhaps 25 = .ok (.isub, 1) := dk_100 (dk_at dksX2_perhaps_1 1 rfl rfl)
theorem dX2_perhaps_26 : decode cX2_perhaps 26 = .ok (.aload_n 0, 1) := dk_42 (dk_at dksX2_perhaps_1 2 rfl rfl)
theorem dX2_perhaps_27 : decode cX2_perhaps 27 = .ok (.iconst 0, 1) := dk_3 (dk_at dksX2_perhaps_1 3 rfl rfl)
theorem dX2_perhaps_28 : decode cX2_perhaps 28 = .ok (.iload_n 3, 1) := dk_29 (dk_at dksX2_perhaps_1 4 rfl rfl)
theorem dX2_perhaps_29 : decode cX2_perhaps 29 = .ok (.invokevirtual 100, 3) := dk_182 0 100 (dk_at dksX2_perhaps_1 5 rfl rfl)
theorem dX2_perhaps_32 : decode cX2_perhaps 32 = .ok (.iastore, 1) := dk_79 (dk_at dksX2_perhaps_1 8 rfl rfl)
theorem dX2_perhaps_33 : decode cX2_perhaps 33 = .ok (.return_, 1) := dk_177 (dk_at dksX2_perhaps_1 9 rfl rfl)
theorem q96 : (Jvm.Cond.initialized "LeftGloves$Reader") ∈ lw_all := lw_g (lw_at lw_m1 6 rfl) rfl
theorem q192 : (Jvm.Cond.instantiable "LeftGloves$Reader" (8 : Nat)) ∈ lw_all := lw_g (lw_at lw_m1 102 rfl) rfl
theorem q194 : (Jvm.Cond.instanceMethod ({ cls := "LeftGloves$Reader", name := "<init>", desc := "()V" } : Jvm.MethodName)) ∈ lw_all := lw_g (lw_at lw_m1 104 rfl) rfl
theorem q195 : (Jvm.Cond.code ({ cls := "LeftGloves$Reader", name := "<init>", desc := "()V" } : Jvm.MethodName) prog_9_method_1_code (1 : Nat) (Option.none : Option Jvm.ClassFile.FieldType)) ∈ lw_all := lw_g (lw_at lw_m1 105 rfl) rfl
theorem q196 : (Jvm.Cond.methodLink "LeftGloves$Reader" (3 : Nat) ({ cls := "java/lang/Object", name := "<init>", desc := "()V" } : Jvm.MethodName)) ∈ lw_all := lw_g (lw_at lw_m1 106 rfl) rfl
theorem q197 : (Jvm.Cond.classLink "LeftGloves$Reader" (9 : Nat) "LeftGloves$Wrong") ∈ lw_all := lw_g (lw_at lw_m1 107 rfl) rfl
theorem q206 : (Jvm.Cond.methodLink "LeftGloves$Reader" (11 : Nat) ({ cls := "LeftGloves$Wrong", name := "<init>", desc := "()V" } : Jvm.MethodName)) ∈ lw_all := lw_g (lw_at lw_m1 116 rfl) rfl
theorem q212 : (Jvm.Cond.classLink "LeftGloves$Reader" (22 : Nat) "LeftGloves$World") ∈ lw_all := lw_g (lw_at lw_m1 122 rfl) rfl
theorem q214 : (Jvm.Cond.methodLink "LeftGloves$Reader" (24 : Nat) ({ cls := "LeftGloves$World", name := "<init>", desc := "()V" } : Jvm.MethodName)) ∈ lw_all := lw_g (lw_at lw_m1 124 rfl) rfl
theorem q224 : (Jvm.Cond.fieldLinkNest "LeftGloves$Reader" (112 : Nat) "LeftGloves$World" "list" "[I" "LeftGloves") ∈ lw_tbl := lw_at lw_m1 134 rfl
theorem q227 : (Jvm.Cond.fieldLinkNest "LeftGloves$Reader" (97 : Nat) "LeftGloves$World" "gloves" "I" "LeftGloves") ∈ lw_tbl := lw_at lw_m1 137 rfl
theorem q231 : (Jvm.Cond.fieldLinkNest "LeftGloves$Reader" (93 : Nat) "LeftGloves$World" "glove" "[[I" "LeftGloves") ∈ lw_tbl := lw_at lw_m1 141 rfl
theorem q258 : (Jvm.Cond.fieldLink "LeftGloves$Reader" (12 : Nat) "LeftGloves$Reader" "wrong" "LLeftGloves$Wrong;") ∈ lw_all := lw_g (lw_at lw_m1 168 rfl) rfl
theorem q259 : (Jvm.Cond.fieldLink "LeftGloves$Reader" (18 : Nat) "LeftGloves$Reader" "tape" "[B") ∈ lw_all := lw_g (lw_at lw_m1 169 rfl) rfl
theorem q261 : (Jvm.Cond.fieldLink "LeftGloves$Reader" (25 : Nat) "LeftGloves$Reader" "told" "LLeftGloves$World;") ∈ lw_all := lw_g (lw_at lw_m1 171 rfl) rfl
theorem q263 : (Jvm.Cond.fieldLink "LeftGloves$Reader" (29 : Nat) "LeftGloves$Reader" "length" "I") ∈ lw_all := lw_g (lw_at lw_m1 173 rfl) rfl
theorem q265 : (Jvm.Cond.fieldLink "LeftGloves$Reader" (37 : Nat) "LeftGloves$Reader" "at" "I") ∈ lw_all := lw_g (lw_at lw_m1 175 rfl) rfl
theorem q266 : (Jvm.Cond.fieldLink "LeftGloves$Reader" (44 : Nat) "LeftGloves$Reader" "begin" "I") ∈ lw_all := lw_g (lw_at lw_m1 176 rfl) rfl
theorem q268 : (Jvm.Cond.fieldLink "LeftGloves$Reader" (47 : Nat) "LeftGloves$Reader" "token" "I") ∈ lw_all := lw_g (lw_at lw_m1 178 rfl) rfl
theorem q269 : (Jvm.Cond.fieldLink "LeftGloves$Reader" (68 : Nat) "LeftGloves$Reader" "value" "I") ∈ lw_all := lw_g (lw_at lw_m1 179 rfl) rfl
theorem q270 : (Jvm.Cond.laysFinal "LeftGloves$Reader" "LeftGloves$Reader" "wrong" "LLeftGloves$Wrong;") ∈ lw_all := lw_g (lw_at lw_m1 180 rfl) rfl
theorem q271 : (Jvm.Cond.soleField "LeftGloves$Reader" "wrong") ∈ lw_all := lw_g (lw_at lw_m1 181 rfl) rfl
theorem q272 : (Jvm.Cond.laysFinal "LeftGloves$Reader" "LeftGloves$Reader" "tape" "[B") ∈ lw_all := lw_g (lw_at lw_m1 182 rfl) rfl
theorem q273 : (Jvm.Cond.soleField "LeftGloves$Reader" "tape") ∈ lw_all := lw_g (lw_at lw_m1 183 rfl) rfl
theorem q274 : (Jvm.Cond.laysFinal "LeftGloves$Reader" "LeftGloves$Reader" "told" "LLeftGloves$World;") ∈ lw_all := lw_g (lw_at lw_m1 184 rfl) rfl
theorem q275 : (Jvm.Cond.soleField "LeftGloves$Reader" "told") ∈ lw_all := lw_g (lw_at lw_m1 185 rfl) rfl
theorem q276 : (Jvm.Cond.lays "LeftGloves$Reader" "LeftGloves$Reader" "length" "I") ∈ lw_all := lw_g (lw_at lw_m1 186 rfl) rfl
theorem q277 : (Jvm.Cond.soleField "LeftGloves$Reader" "length") ∈ lw_all := lw_g (lw_at lw_m1 187 rfl) rfl
theorem q278 : (Jvm.Cond.lays "LeftGloves$Reader" "LeftGloves$Reader" "at" "I") ∈ lw_all := lw_g (lw_at lw_m1 188 rfl) rfl
theorem q279 : (Jvm.Cond.soleField "LeftGloves$Reader" "at") ∈ lw_all := lw_g (lw_at lw_m1 189 rfl) rfl
theorem q280 : (Jvm.Cond.lays "LeftGloves$Reader" "LeftGloves$Reader" "begin" "I") ∈ lw_all := lw_g (lw_at lw_m1 190 rfl) rfl
theorem q281 : (Jvm.Cond.soleField "LeftGloves$Reader" "begin") ∈ lw_all := lw_g (lw_at lw_m1 191 rfl) rfl
theorem q282 : (Jvm.Cond.lays "LeftGloves$Reader" "LeftGloves$Reader" "token" "I") ∈ lw_all := lw_g (lw_at lw_m1 192 rfl) rfl
theorem q283 : (Jvm.Cond.soleField "LeftGloves$Reader" "token") ∈ lw_all := lw_g (lw_at lw_m1 193 rfl) rfl
theorem q284 : (Jvm.Cond.lays "LeftGloves$Reader" "LeftGloves$Reader" "value" "I") ∈ lw_all := lw_g (lw_at lw_m1 194 rfl) rfl
theorem q285 : (Jvm.Cond.soleField "LeftGloves$Reader" "value") ∈ lw_all := lw_g (lw_at lw_m1 195 rfl) rfl
theorem q286 : (Jvm.Cond.superclass "LeftGloves$Reader" "java/lang/Object") ∈ lw_all := lw_g (lw_at lw_m1 196 rfl) rfl
theorem q949 : (Jvm.Cond.instanceMethod ({ cls := "LeftGloves$Reader", name := "whole", desc := "()I" } : Jvm.MethodName)) ∈ lw_all := lw_g (lw_at lw_m4 139 rfl) rfl
theorem q950 : (Jvm.Cond.selects "LeftGloves$Reader" ({ cls := "LeftGloves$Reader", name := "whole", desc := "()I" } : Jvm.MethodName) ({ cls := "LeftGloves$Reader", name := "whole", desc := "()I" } : Jvm.MethodName)) ∈ lw_all := lw_g (lw_at lw_m4 140 rfl) rfl
theorem q951 : (Jvm.Cond.code ({ cls := "LeftGloves$Reader", name := "whole", desc := "()I" } : Jvm.MethodName) prog_9_method_18_code (2 : Nat) (Option.some Jvm.ClassFile.FieldType.int)) ∈ lw_all := lw_g (lw_at lw_m4 141 rfl) rfl
theorem q952 : (Jvm.Cond.methodLink "LeftGloves$Reader" (83 : Nat) ({ cls := "LeftGloves$Reader", name := "next", desc := "()V" } : Jvm.MethodName)) ∈ lw_all := lw_g (lw_at lw_m4 142 rfl) rfl
theorem q953 : (Jvm.Cond.privateMethod ({ cls := "LeftGloves$Reader", name := "next", desc := "()V" } : Jvm.MethodName)) ∈ lw_tbl := lw_at lw_m4 143 rfl
theorem q954 : (Jvm.Cond.instanceMethod ({ cls := "LeftGloves$Reader", name := "next", desc := "()V" } : Jvm.MethodName)) ∈ lw_all := lw_g (lw_at lw_m4 144 rfl) rfl
theorem q955 : (Jvm.Cond.code ({ cls := "LeftGloves$Reader", name := "next", desc := "()V" } : Jvm.MethodName) prog_9_method_6_code (2 : Nat) (Option.none : Option Jvm.ClassFile.FieldType)) ∈ lw_all := lw_g (lw_at lw_m4 145 rfl) rfl
theorem q956 : (Jvm.Cond.methodLink "LeftGloves$Reader" (40 : Nat) ({ cls := "LeftGloves$Reader", name := "byteAt", desc := "(I)I" } : Jvm.MethodName)) ∈ lw_all := lw_g (lw_at lw_m4 146 rfl) rfl
theorem q957 : (Jvm.Cond.privateMethod ({ cls := "LeftGloves$Reader", name := "byteAt", desc := "(I)I" } : Jvm.MethodName)) ∈ lw_tbl := lw_at lw_m4 147 rfl
theorem q958 : (Jvm.Cond.instanceMethod ({ cls := "LeftGloves$Reader", name := "byteAt", desc := "(I)I" } : Jvm.MethodName)) ∈ lw_all := lw_g (lw_at lw_m4 148 rfl) rfl
theorem q959 : (Jvm.Cond.code ({ cls := "LeftGloves$Reader", name := "byteAt", desc := "(I)I" } : Jvm.MethodName) prog_9_method_3_code (2 : Nat) (Option.some Jvm.ClassFile.FieldType.int)) ∈ lw_all := lw_g (lw_at lw_m4 149 rfl) rfl
theorem q960 : (Jvm.Cond.methodLink "LeftGloves$Reader" (50 : Nat) ({ cls := "LeftGloves$Reader", name := "isLetter", desc := "(I)Z" } : Jvm.MethodName)) ∈ lw_all := lw_g (lw_at lw_m4 150 rfl) rfl
theorem q961 : (Jvm.Cond.static ({ cls := "LeftGloves$Reader", name := "isLetter", desc := "(I)Z" } : Jvm.MethodName)) ∈ lw_all := lw_g (lw_at lw_m4 151 rfl) rfl
theorem q962 : (Jvm.Cond.code ({ cls := "LeftGloves$Reader", name := "isLetter", desc := "(I)Z" } : Jvm.MethodName) prog_9_method_5_code (1 : Nat) (Option.some Jvm.ClassFile.FieldType.boolean)) ∈ lw_all := lw_g (lw_at lw_m4 152 rfl) rfl
theorem q963 : (Jvm.Cond.methodLinkNest "LeftGloves$Reader" (33 : Nat) ({ cls := "LeftGloves", name := "in", desc := "(III)Z" } : Jvm.MethodName) "LeftGloves") ∈ lw_tbl := lw_at lw_m4 153 rfl
theorem q964 : (Jvm.Cond.methodLink "LeftGloves$Reader" (54 : Nat) ({ cls := "LeftGloves$Reader", name := "word", desc := "()V" } : Jvm.MethodName)) ∈ lw_all := lw_g (lw_at lw_m4 154 rfl) rfl
theorem q965 : (Jvm.Cond.privateMethod ({ cls := "LeftGloves$Reader", name := "word", desc := "()V" } : Jvm.MethodName)) ∈ lw_tbl := lw_at lw_m4 155 rfl
theorem q966 : (Jvm.Cond.instanceMethod ({ cls := "LeftGloves$Reader", name := "word", desc := "()V" } : Jvm.MethodName)) ∈ lw_all := lw_g (lw_at lw_m4 156 rfl) rfl
theorem q967 : (Jvm.Cond.code ({ cls := "LeftGloves$Reader", name := "word", desc := "()V" } : Jvm.MethodName) prog_9_method_8_code (2 : Nat) (Option.none : Option Jvm.ClassFile.FieldType)) ∈ lw_all := lw_g (lw_at lw_m4 157 rfl) rfl
theorem q968 : (Jvm.Cond.methodLink "LeftGloves$Reader" (71 : Nat) ({ cls := "LeftGloves$Reader", name := "isKey", desc := "(II)Z" } : Jvm.MethodName)) ∈ lw_all := lw_g (lw_at lw_m4 158 rfl) rfl
theorem q969 : (Jvm.Cond.privateMethod ({ cls := "LeftGloves$Reader", name := "isKey", desc := "(II)Z" } : Jvm.MethodName)) ∈ lw_tbl := lw_at lw_m4 159 rfl
theorem q970 : (Jvm.Cond.instanceMethod ({ cls := "LeftGloves$Reader", name := "isKey", desc := "(II)Z" } : Jvm.MethodName)) ∈ lw_all := lw_g (lw_at lw_m4 160 rfl) rfl
theorem q971 : (Jvm.Cond.code ({ cls := "LeftGloves$Reader", name := "isKey", desc := "(II)Z" } : Jvm.MethodName) prog_9_method_9_code (5 : Nat) (Option.some Jvm.ClassFile.FieldType.boolean)) ∈ lw_all := lw_g (lw_at lw_m4 161 rfl) rfl
theorem q972 : (Jvm.Cond.stringRef "LeftGloves$Reader" (75 : Nat) "glove  kidskinmitten lady   burnt  stiff  double said   hand   in     open   knows  lies   ") ∈ lw_tbl := lw_at lw_m4 162 rfl
theorem q973 : (Jvm.Cond.methodLink "LeftGloves$Reader" (77 : Nat) ({ cls := "java/lang/String", name := "charAt", desc := "(I)C" } : Jvm.MethodName)) ∈ lw_all := lw_g (lw_at lw_m4 163 rfl) rfl
theorem q1013 : (Jvm.Cond.methodLink "LeftGloves$Reader" (63 : Nat) ({ cls := "LeftGloves$Reader", name := "need", desc := "(Z)V" } : Jvm.MethodName)) ∈ lw_all := lw_g (lw_at lw_m4 203 rfl) rfl
theorem q1014 : (Jvm.Cond.privateMethod ({ cls := "LeftGloves$Reader", name := "need", desc := "(Z)V" } : Jvm.MethodName)) ∈ lw_tbl := lw_at lw_m4 204 rfl
theorem q1015 : (Jvm.Cond.instanceMethod ({ cls := "LeftGloves$Reader", name := "need", desc := "(Z)V" } : Jvm.MethodName)) ∈ lw_all := lw_g (lw_at lw_m4 205 rfl) rfl
theorem q1016 : (Jvm.Cond.code ({ cls := "LeftGloves$Reader", name := "need", desc := "(Z)V" } : Jvm.MethodName) prog_9_method_2_code (2 : Nat) (Option.none : Option Jvm.ClassFile.FieldType)) ∈ lw_all := lw_g (lw_at lw_m4 206 rfl) rfl
theorem q1017 : (Jvm.Cond.methodLink "LeftGloves$Reader" (57 : Nat) ({ cls := "LeftGloves$Reader", name := "isDigit", desc := "(I)Z" } : Jvm.MethodName)) ∈ lw_all := lw_g (lw_at lw_m4 207 rfl) rfl
theorem q1018 : (Jvm.Cond.static ({ cls := "LeftGloves$Reader", name := "isDigit", desc := "(I)Z" } : Jvm.MethodName)) ∈ lw_all := lw_g (lw_at lw_m4 208 rfl) rfl
theorem q1019 : (Jvm.Cond.code ({ cls := "LeftGloves$Reader", name := "isDigit", desc := "(I)Z" } : Jvm.MethodName) prog_9_method_4_code (1 : Nat) (Option.some Jvm.ClassFile.FieldType.boolean)) ∈ lw_all := lw_g (lw_at lw_m4 209 rfl) rfl
theorem q1020 : (Jvm.Cond.methodLink "LeftGloves$Reader" (60 : Nat) ({ cls := "LeftGloves$Reader", name := "digits", desc := "()V" } : Jvm.MethodName)) ∈ lw_all := lw_g (lw_at lw_m4 210 rfl) rfl
theorem q1021 : (Jvm.Cond.privateMethod ({ cls := "LeftGloves$Reader", name := "digits", desc := "()V" } : Jvm.MethodName)) ∈ lw_tbl := lw_at lw_m4 211 rfl
theorem q1022 : (Jvm.Cond.instanceMethod ({ cls := "LeftGloves$Reader", name := "digits", desc := "()V" } : Jvm.MethodName)) ∈ lw_all := lw_g (lw_at lw_m4 212 rfl) rfl
theorem q1023 : (Jvm.Cond.code ({ cls := "LeftGloves$Reader", name := "digits", desc := "()V" } : Jvm.MethodName) prog_9_method_7_code (2 : Nat) (Option.none : Option Jvm.ClassFile.FieldType)) ∈ lw_all := lw_g (lw_at lw_m4 213 rfl) rfl
theorem q1024 : (Jvm.Cond.constant "LeftGloves$Reader" (67 : Nat) (99999 : Int32)) ∈ lw_all := lw_g (lw_at lw_m4 214 rfl) rfl
theorem q1025 : (Jvm.Cond.methodLink "LeftGloves$Reader" (129 : Nat) ({ cls := "LeftGloves$Reader", name := "item", desc := "()V" } : Jvm.MethodName)) ∈ lw_all := lw_g (lw_at lw_m4 215 rfl) rfl
theorem q1026 : (Jvm.Cond.privateMethod ({ cls := "LeftGloves$Reader", name := "item", desc := "()V" } : Jvm.MethodName)) ∈ lw_tbl := lw_at lw_m4 216 rfl
theorem q1027 : (Jvm.Cond.instanceMethod ({ cls := "LeftGloves$Reader", name := "item", desc := "()V" } : Jvm.MethodName)) ∈ lw_all := lw_g (lw_at lw_m4 217 rfl) rfl
theorem q1028 : (Jvm.Cond.code ({ cls := "LeftGloves$Reader", name := "item", desc := "()V" } : Jvm.MethodName) prog_9_method_17_code (1 : Nat) (Option.none : Option Jvm.ClassFile.FieldType)) ∈ lw_all := lw_g (lw_at lw_m4 218 rfl) rfl
theorem q1029 : (Jvm.Cond.methodLink "LeftGloves$Reader" (120 : Nat) ({ cls := "LeftGloves$Reader", name := "said", desc := "()V" } : Jvm.MethodName)) ∈ lw_all := lw_g (lw_at lw_m4 219 rfl) rfl
theorem q1030 : (Jvm.Cond.privateMethod ({ cls := "LeftGloves$Reader", name := "said", desc := "()V" } : Jvm.MethodName)) ∈ lw_tbl := lw_at lw_m4 220 rfl
theorem q1031 : (Jvm.Cond.instanceMethod ({ cls := "LeftGloves$Reader", name := "said", desc := "()V" } : Jvm.MethodName)) ∈ lw_all := lw_g (lw_at lw_m4 221 rfl) rfl
theorem q1032 : (Jvm.Cond.code ({ cls := "LeftGloves$Reader", name := "said", desc := "()V" } : Jvm.MethodName) prog_9_method_15_code (4 : Nat) (Option.none : Option Jvm.ClassFile.FieldType)) ∈ lw_all := lw_g (lw_at lw_m4 222 rfl) rfl
theorem q1033 : (Jvm.Cond.methodLink "LeftGloves$Reader" (100 : Nat) ({ cls := "LeftGloves$Reader", name := "behind", desc := "(II)I" } : Jvm.MethodName)) ∈ lw_all := lw_g (lw_at lw_m4 223 rfl) rfl
theorem q1034 : (Jvm.Cond.privateMethod ({ cls := "LeftGloves$Reader", name := "behind", desc := "(II)I" } : Jvm.MethodName)) ∈ lw_tbl := lw_at lw_m4 224 rfl
theorem q1035 : (Jvm.Cond.instanceMethod ({ cls := "LeftGloves$Reader", name := "behind", desc := "(II)I" } : Jvm.MethodName)) ∈ lw_all := lw_g (lw_at lw_m4 225 rfl) rfl
theorem q1036 : (Jvm.Cond.code ({ cls := "LeftGloves$Reader", name := "behind", desc := "(II)I" } : Jvm.MethodName) prog_9_method_12_code (3 : Nat) (Option.some Jvm.ClassFile.FieldType.int)) ∈ lw_all := lw_g (lw_at lw_m4 226 rfl) rfl
theorem q1037 : (Jvm.Cond.methodLink "LeftGloves$Reader" (86 : Nat) ({ cls := "LeftGloves$Reader", name := "number", desc := "(II)I" } : Jvm.MethodName)) ∈ lw_all := lw_g (lw_at lw_m4 227 rfl) rfl
theorem q1038 : (Jvm.Cond.privateMethod ({ cls := "LeftGloves$Reader", name := "number", desc := "(II)I" } : Jvm.MethodName)) ∈ lw_tbl := lw_at lw_m4 228 rfl
theorem q1039 : (Jvm.Cond.instanceMethod ({ cls := "LeftGloves$Reader", name := "number", desc := "(II)I" } : Jvm.MethodName)) ∈ lw_all := lw_g (lw_at lw_m4 229 rfl) rfl
theorem q1040 : (Jvm.Cond.code ({ cls := "LeftGloves$Reader", name := "number", desc := "(II)I" } : Jvm.MethodName) prog_9_method_11_code (4 : Nat) (Option.some Jvm.ClassFile.FieldType.int)) ∈ lw_all := lw_g (lw_at lw_m4 230 rfl) rfl
theorem q1041 : (Jvm.Cond.methodLinkNest "LeftGloves$Reader" (116 : Nat) ({ cls := "LeftGloves", name := "saying", desc := "(III)I" } : Jvm.MethodName) "LeftGloves") ∈ lw_tbl := lw_at lw_m4 231 rfl
theorem q1042 : (Jvm.Cond.methodLink "LeftGloves$Reader" (123 : Nat) ({ cls := "LeftGloves$Reader", name := "hand", desc := "()V" } : Jvm.MethodName)) ∈ lw_all := lw_g (lw_at lw_m4 232 rfl) rfl
theorem q1043 : (Jvm.Cond.privateMethod ({ cls := "LeftGloves$Reader", name := "hand", desc := "()V" } : Jvm.MethodName)) ∈ lw_tbl := lw_at lw_m4 233 rfl
theorem q1044 : (Jvm.Cond.instanceMethod ({ cls := "LeftGloves$Reader", name := "hand", desc := "()V" } : Jvm.MethodName)) ∈ lw_all := lw_g (lw_at lw_m4 234 rfl) rfl
theorem q1045 : (Jvm.Cond.code ({ cls := "LeftGloves$Reader", name := "hand", desc := "()V" } : Jvm.MethodName) prog_9_method_16_code (2 : Nat) (Option.none : Option Jvm.ClassFile.FieldType)) ∈ lw_all := lw_g (lw_at lw_m4 235 rfl) rfl
theorem q1046 : (Jvm.Cond.constant "LeftGloves$Reader" (111 : Nat) (65535 : Int32)) ∈ lw_all := lw_g (lw_at lw_m4 236 rfl) rfl
theorem q1047 : (Jvm.Cond.methodLink "LeftGloves$Reader" (126 : Nat) ({ cls := "LeftGloves$Reader", name := "glove", desc := "(I)V" } : Jvm.MethodName)) ∈ lw_all := lw_g (lw_at lw_m4 237 rfl) rfl
theorem q1048 : (Jvm.Cond.privateMethod ({ cls := "LeftGloves$Reader", name := "glove", desc := "(I)V" } : Jvm.MethodName)) ∈ lw_tbl := lw_at lw_m4 238 rfl
theorem q1049 : (Jvm.Cond.instanceMethod ({ cls := "LeftGloves$Reader", name := "glove", desc := "(I)V" } : Jvm.MethodName)) ∈ lw_all := lw_g (lw_at lw_m4 239 rfl) rfl
theorem q1050 : (Jvm.Cond.code ({ cls := "LeftGloves$Reader", name := "glove", desc := "(I)V" } : Jvm.MethodName) prog_9_method_14_code (2 : Nat) (Option.none : Option Jvm.ClassFile.FieldType)) ∈ lw_all := lw_g (lw_at lw_m5 0 rfl) rfl
theorem q1051 : (Jvm.Cond.methodLink "LeftGloves$Reader" (90 : Nat) ({ cls := "LeftGloves$Reader", name := "isWord", desc := "(I)Z" } : Jvm.MethodName)) ∈ lw_all := lw_g (lw_at lw_m5 1 rfl) rfl
theorem q1052 : (Jvm.Cond.privateMethod ({ cls := "LeftGloves$Reader", name := "isWord", desc := "(I)Z" } : Jvm.MethodName)) ∈ lw_tbl := lw_at lw_m5 2 rfl
theorem q1053 : (Jvm.Cond.instanceMethod ({ cls := "LeftGloves$Reader", name := "isWord", desc := "(I)Z" } : Jvm.MethodName)) ∈ lw_all := lw_g (lw_at lw_m5 3 rfl) rfl
theorem q1054 : (Jvm.Cond.code ({ cls := "LeftGloves$Reader", name := "isWord", desc := "(I)Z" } : Jvm.MethodName) prog_9_method_10_code (2 : Nat) (Option.some Jvm.ClassFile.FieldType.boolean)) ∈ lw_all := lw_g (lw_at lw_m5 4 rfl) rfl
theorem q1055 : (Jvm.Cond.methodLink "LeftGloves$Reader" (103 : Nat) ({ cls := "LeftGloves$World", name := "add", desc := "(II)V" } : Jvm.MethodName)) ∈ lw_all := lw_g (lw_at lw_m5 5 rfl) rfl
theorem q1056 : (Jvm.Cond.methodLink "LeftGloves$Reader" (107 : Nat) ({ cls := "LeftGloves$Reader", name := "perhaps", desc := "(III)V" } : Jvm.MethodName)) ∈ lw_all := lw_g (lw_at lw_m5 6 rfl) rfl
theorem q1057 : (Jvm.Cond.privateMethod ({ cls := "LeftGloves$Reader", name := "perhaps", desc := "(III)V" } : Jvm.MethodName)) ∈ lw_tbl := lw_at lw_m5 7 rfl
theorem q1058 : (Jvm.Cond.instanceMethod ({ cls := "LeftGloves$Reader", name := "perhaps", desc := "(III)V" } : Jvm.MethodName)) ∈ lw_all := lw_g (lw_at lw_m5 8 rfl) rfl
theorem q1059 : (Jvm.Cond.code ({ cls := "LeftGloves$Reader", name := "perhaps", desc := "(III)V" } : Jvm.MethodName) prog_9_method_13_code (4 : Nat) (Option.none : Option Jvm.ClassFile.FieldType)) ∈ lw_all := lw_g (lw_at lw_m5 9 rfl) rfl
theorem in_X2 : ∀ w ∈ wsX20, w ∈ lw_all := lw_in wsX20 [270, 272, 274, 276, 278, 280, 282, 284] (by decide +kernel) (by decide +kernel)
/-! LeftGloves$Wrong -/
set_option maxRecDepth 100000
def RX3 : String := "LeftGloves$Wrong"
def TX3 : u_T := fun k => match k with
  | 0 => ("java/lang/Throwable", "cause", "Ljava/lang/Throwable;", false)
  | 1 => ("java/lang/Throwable", "stackTrace", "[Ljava/lang/StackTraceElement;", false)
  | 2 => ("java/lang/Throwable", "suppressedExceptions", "Ljava/util/List;", false)
  | 3 => ("java/lang/Throwable", "detailMessage", "Ljava/lang/String;", false)
  | 4 => ("java/lang/Throwable", "backtrace", "Ljava/lang/Object;", false)
  | _ => ("java/lang/Throwable", "depth", "I", false)
def tyX3 : Nat → FieldType := fun k => match k with
  | 0 => .object "java/lang/Throwable"
  | 1 => .array (.object "java/lang/StackTraceElement")
  | 2 => .object "java/util/List"
  | 3 => .object "java/lang/String"
  | 4 => .object "java/lang/Object"
  | _ => .int
abbrev wsX30 : List Cond := u_ws RX3 TX3 6
theorem nmX3 : ∀ a, a < 6 → ∀ b, b < 6 → a ≠ b → (TX3 a).2.1 ≠ (TX3 b).2.1 := by decide +kernel
theorem tyX3_ok : ∀ k, k < 6 → parseFieldDescriptor (TX3 k).2.2.1 = some (tyX3 k) := by decide +kernel
abbrev cX3_init : ByteArray := prog_14_method_1_code
def yX3_init : MethodName := ⟨RX3, "<init>", "()V"⟩
def dkwX3_init_0 : List UInt8 := [42, 1, 1, 3, 3, 183, 0, 1, 177]
abbrev dktX3_init_0 : List UInt8 := dkwX3_init_0 ++ []
theorem dksX3_init_0 : cX3_init.data.toList.drop 0 = dktX3_init_0 := by decide +kernel
theorem dX3_init_0 : decode cX3_init 0 = .ok (.aload_n 0, 1) := dk_42 (dk_at dksX3_init_0 0 rfl rfl)
theorem dX3_init_1 : decode cX3_init 1 = .ok (.aconst_null, 1) := dk_1 (dk_at dksX3_init_0 1 rfl rfl)
theorem dX3_init_2 : decode cX3_init 2 = .ok (.aconst_null, 1) := dk_1 (dk_at dksX3_init_0 2 rfl rfl)
theorem dX3_init_3 : decode cX3_init 3 = .ok (.iconst 0, 1) := dk_3 (dk_at dksX3_init_0 3 rfl rfl)
theorem dX3_init_4 : decode cX3_init 4 = .ok (.iconst 0, 1) := dk_3 (dk_at dksX3_init_0 4 rfl rfl)
theorem dX3_init_5 : decode cX3_init 5 = .ok (.invokespecial 1, 3) := dk_183 0 1 (dk_at dksX3_init_0 5 rfl rfl)
theorem dX3_init_8 : decode cX3_init 8 = .ok (.return_, 1) := dk_177 (dk_at dksX3_init_0 8 rfl rfl)
theorem q97 : (Jvm.Cond.initialized "LeftGloves$Wrong") ∈ lw_all := lw_g (lw_at lw_m1 7 rfl) rfl
theorem q156 : (Jvm.Cond.selects "LeftGloves$Wrong" ({ cls := "java/lang/Throwable", name := "fillInStackTrace", desc := "()Ljava/lang/Throwable;" } : Jvm.MethodName) ({ cls := "java/lang/Throwable", name := "fillInStackTrace", desc := "()Ljava/lang/Throwable;" } : Jvm.MethodName)) ∈ lw_all := lw_g (lw_at lw_m1 66 rfl) rfl
theorem q198 : (Jvm.Cond.instantiable "LeftGloves$Wrong" (6 : Nat)) ∈ lw_all := lw_g (lw_at lw_m1 108 rfl) rfl
theorem q199 : (Jvm.Cond.castable "LeftGloves$Wrong" "LeftGloves$Wrong") ∈ lw_tbl := lw_at lw_m1 109 rfl
theorem q200 : (Jvm.Cond.selects "LeftGloves$Wrong" ({ cls := "java/lang/Throwable", name := "fillInStackTrace", desc := "(I)Ljava/lang/Throwable;" } : Jvm.MethodName) ({ cls := "java/lang/Throwable", name := "fillInStackTrace", desc := "(I)Ljava/lang/Throwable;" } : Jvm.MethodName)) ∈ lw_all := lw_g (lw_at lw_m1 110 rfl) rfl
theorem q201 : (Jvm.Cond.lays "LeftGloves$Wrong" "java/lang/Throwable" "cause" "Ljava/lang/Throwable;") ∈ lw_all := lw_g (lw_at lw_m1 111 rfl) rfl
theorem q202 : (Jvm.Cond.lays "LeftGloves$Wrong" "java/lang/Throwable" "stackTrace" "[Ljava/lang/StackTraceElement;") ∈ lw_all := lw_g (lw_at lw_m1 112 rfl) rfl
theorem q203 : (Jvm.Cond.lays "LeftGloves$Wrong" "java/lang/Throwable" "suppressedExceptions" "Ljava/util/List;") ∈ lw_all := lw_g (lw_at lw_m1 113 rfl) rfl
theorem q204 : (Jvm.Cond.lays "LeftGloves$Wrong" "java/lang/Throwable" "detailMessage" "Ljava/lang/String;") ∈ lw_all := lw_g (lw_at lw_m1 114 rfl) rfl
theorem q205 : (Jvm.Cond.lays "LeftGloves$Wrong" "java/lang/Throwable" "backtrace" "Ljava/lang/Object;") ∈ lw_all := lw_g (lw_at lw_m1 115 rfl) rfl
theorem q207 : (Jvm.Cond.instanceMethod ({ cls := "LeftGloves$Wrong", name := "<init>", desc := "()V" } : Jvm.MethodName)) ∈ lw_all := lw_g (lw_at lw_m1 117 rfl) rfl
theorem q208 : (Jvm.Cond.code ({ cls := "LeftGloves$Wrong", name := "<init>", desc := "()V" } : Jvm.MethodName) prog_14_method_1_code (1 : Nat) (Option.none : Option Jvm.ClassFile.FieldType)) ∈ lw_all := lw_g (lw_at lw_m1 118 rfl) rfl
theorem q209 : (Jvm.Cond.methodLink "LeftGloves$Wrong" (1 : Nat) ({ cls := "java/lang/RuntimeException", name := "<init>", desc := "(Ljava/lang/String;Ljava/lang/Throwable;ZZ)V" } : Jvm.MethodName)) ∈ lw_all := lw_g (lw_at lw_m1 119 rfl) rfl
theorem q210 : (Jvm.Cond.lays "LeftGloves$Wrong" "java/lang/Throwable" "depth" "I") ∈ lw_all := lw_g (lw_at lw_m1 120 rfl) rfl
theorem q211 : (Jvm.Cond.superclass "LeftGloves$Wrong" "java/lang/RuntimeException") ∈ lw_all := lw_g (lw_at lw_m1 121 rfl) rfl
theorem in_X3 : ∀ w ∈ wsX30, w ∈ lw_all := lw_in wsX30 [201, 202, 203, 204, 205, 210] (by decide +kernel) (by decide +kernel)
/-! LeftGloves$World -/
set_option maxRecDepth 100000
def RX4 : String := "LeftGloves$World"
def TX4 : u_T := fun k => match k with
  | 0 => ("LeftGloves$World", "list", "[I", true)
  | 1 => ("LeftGloves$World", "gloves", "I", false)
  | 2 => ("LeftGloves$World", "glove", "[[I", true)
  | 3 => ("LeftGloves$World", "gone", "I", false)
  | 4 => ("LeftGloves$World", "day", "I", false)
  | 5 => ("LeftGloves$World", "z", "I", false)
  | _ => ("LeftGloves$World", "holds", "[I", true)
def tyX4 : Nat → FieldType := fun k => match k with
  | 0 => .array .int
  | 1 => .int
  | 2 => .array (.array .int)
  | 3 => .int
  | 4 => .int
  | 5 => .int
  | _ => .array .int
abbrev wsX40 : List Cond := u_ws RX4 TX4 7
theorem nmX4 : ∀ a, a < 7 → ∀ b, b < 7 → a ≠ b → (TX4 a).2.1 ≠ (TX4 b).2.1 := by decide +kernel
theorem tyX4_ok : ∀ k, k < 7 → parseFieldDescriptor (TX4 k).2.2.1 = some (tyX4 k) := by decide +kernel
abbrev cX4_init : ByteArray := prog_13_method_1_code
def yX4_init : MethodName := ⟨RX4, "<init>", "()V"⟩
def dkwX4_init_3 : List UInt8 := [162, 0, 16, 42, 180, 0, 24, 27, 2, 79, 132, 1, 1, 167, 255, 240, 177]
abbrev dktX4_init_3 : List UInt8 := dkwX4_init_3 ++ []
def dkwX4_init_2 : List UInt8 := [180, 0, 9, 27, 27, 27, 8, 184, 0, 27, 79, 132, 1, 1, 167, 255, 235, 3, 60, 27, 16, 10]
abbrev dktX4_init_2 : List UInt8 := dkwX4_init_2 ++ dktX4_init_3
def dkwX4_init_1 : List UInt8 := [42, 4, 181, 0, 20, 42, 16, 10, 188, 10, 181, 0, 24, 3, 60, 27, 16, 6, 162, 0, 21, 42]
abbrev dktX4_init_1 : List UInt8 := dkwX4_init_1 ++ dktX4_init_2
def dkwX4_init_0 : List UInt8 := [42, 183, 0, 3, 42, 16, 6, 188, 10, 181, 0, 9, 42, 16, 7, 16, 8, 197, 0, 15, 2, 181, 0, 17]
abbrev dktX4_init_0 : List UInt8 := dkwX4_init_0 ++ dktX4_init_1
theorem dksX4_init_0 : cX4_init.data.toList.drop 0 = dktX4_init_0 := by decide +kernel
theorem dksX4_init_1 : cX4_init.data.toList.drop 24 = dktX4_init_1 := dk_seg dksX4_init_0 24 rfl rfl
theorem dksX4_init_2 : cX4_init.data.toList.drop 46 = dktX4_init_2 := dk_seg dksX4_init_1 22 rfl rfl
theorem dksX4_init_3 : cX4_init.data.toList.drop 68 = dktX4_init_3 := dk_seg dksX4_init_2 22 rfl rfl
theorem dX4_init_0 : decode cX4_init 0 = .ok (.aload_n 0, 1) := dk_42 (dk_at dksX4_init_0 0 rfl rfl)
theorem dX4_init_1 : decode cX4_init 1 = .ok (.invokespecial 3, 3) := dk_183 0 3 (dk_at dksX4_init_0 1 rfl rfl)
theorem dX4_init_4 : decode cX4_init 4 = .ok (.aload_n 0, 1) := dk_42 (dk_at dksX4_init_0 4 rfl rfl)
theorem dX4_init_5 : decode cX4_init 5 = .ok (.bipush 6, 2) := dk_16 6 (dk_at dksX4_init_0 5 rfl rfl)
theorem dX4_init_7 : decode cX4_init 7 = .ok (.newarray .int, 2) := dk_188_10 (dk_at dksX4_init_0 7 rfl rfl)
theorem dX4_init_9 : decode cX4_init 9 = .ok (.putfield 9, 3) := dk_181 0 9 (dk_at dksX4_init_0 9 rfl rfl)
theorem dX4_init_12 : decode cX4_init 12 = .ok (.aload_n 0, 1) := dk_42 (dk_at dksX4_init_0 12 rfl rfl)
theorem dX4_init_13 : decode cX4_init 13 = .ok (.bipush 7, 2) := dk_16 7 (dk_at dksX4_init_0 13 rfl rfl)
theorem dX4_init_15 : decode cX4_init 15 = .ok (.bipush 8, 2) := dk_16 8 (dk_at dksX4_init_0 15 rfl rfl)
theorem dX4_init_17 : decode cX4_init 17 = .ok (.multianewarray 15 2, 4) := by decide +kernel
theorem dX4_init_21 : decode cX4_init 21 = .ok (.putfield 17, 3) := dk_181 0 17 (dk_at dksX4_init_0 21 rfl rfl)
theorem dX4_init_24 : decode cX4_init 24 = .ok (.aload_n 0, 1) := dk_42 (dk_at dksX4_init_1 0 rfl rfl)
theorem dX4_init_25 : decode cX4_init 25 = .ok (.iconst 1, 1) := dk_4 (dk_at dksX4_init_1 1 rfl rfl)
theorem dX4_init_26 : decode cX4_init 26 = .ok (.putfield 20, 3) := dk_181 0 20 (dk_at dksX4_init_1 2 rfl rfl)
theorem dX4_init_29 : decode cX4_init 29 = .ok (.aload_n 0, 1) := dk_42 (dk_at dksX4_init_1 5 rfl rfl)
theorem dX4_init_30 : decode cX4_init 30 = .ok (.bipush 10, 2) := dk_16 10 (dk_at dksX4_init_1 6 rfl rfl)
theorem dX4_init_32 : decode cX4_init 32 = .ok (.newarray .int, 2) := dk_188_10 (dk_at dksX4_init_1 8 rfl rfl)
theorem dX4_init_34 : decode cX4_init 34 = .ok (.putfield 24, 3) := dk_181 0 24 (dk_at dksX4_init_1 10 rfl rfl)
theorem dX4_init_37 : decode cX4_init 37 = .ok (.iconst 0, 1) := dk_3 (dk_at dksX4_init_1 13 rfl rfl)
theorem dX4_init_38 : decode cX4_init 38 = .ok (.istore_n 1, 1) := dk_60 (dk_at dksX4_init_1 14 rfl rfl)
theorem dX4_init_39 : decode cX4_init 39 = .ok (.iload_n 1, 1) := dk_27 (dk_at dksX4_init_1 15 rfl rfl)
theorem dX4_init_40 : decode cX4_init 40 = .ok (.bipush 6, 2) := dk_16 6 (dk_at dksX4_init_1 16 rfl rfl)
theorem dX4_init_42 : decode cX4_init 42 = .ok (.if_icmp .ge 21, 3) := dk_162 0 21 (dk_at dksX4_init_1 18 rfl rfl)
theorem dX4_init_45 : decode cX4_init 45 = .ok (.aload_n 0, 1) := dk_42 (dk_at dksX4_init_1 21 rfl rfl)
theorem dX4_init_46 : decode cX4_init 46 = .ok (.getfield 9, 3) := dk_180 0 9 (dk_at dksX4_init_2 0 rfl rfl)
theorem dX4_init_49 : decode cX4_init 49 = .ok (.iload_n 1, 1) := dk_27 (dk_at dksX4_init_2 3 rfl rfl)
theorem dX4_init_50 : decode cX4_init 50 = .ok (.iload_n 1, 1) := dk_27 (dk_at dksX4_init_2 4 rfl rfl)
theorem dX4_init_51 : decode cX4_init 51 = .ok (.iload_n 1, 1) := dk_27 (dk_at dksX4_init_2 5 rfl rfl)
theorem dX4_init_52 : decode cX4_init 52 = .ok (.iconst 5, 1) := dk_8 (dk_at dksX4_init_2 6 rfl rfl)
theorem dX4_init_53 : decode cX4_init 53 = .ok (.invokestatic 27, 3) := dk_184 0 27 (dk_at dksX4_init_2 7 rfl rfl)
theorem dX4_init_56 : decode cX4_init 56 = .ok (.iastore, 1) := dk_79 (dk_at dksX4_init_2 10 rfl rfl)
theorem dX4_init_57 : decode cX4_init 57 = .ok (.iinc 1 1, 3) := dk_132 1 1 (dk_at dksX4_init_2 11 rfl rfl)
theorem dX4_init_60 : decode cX4_init 60 = .ok (.goto (-21), 3) := dk_167 255 235 (dk_at dksX4_init_2 14 rfl rfl)
theorem dX4_init_63 : decode cX4_init 63 = .ok (.iconst 0, 1) := dk_3 (dk_at dksX4_init_2 17 rfl rfl)
theorem dX4_init_64 : decode cX4_init 64 = .ok (.istore_n 1, 1) := dk_60 (dk_at dksX4_init_2 18 rfl rfl)
theorem dX4_init_65 : decode cX4_init 65 = .ok (.iload_n 1, 1) := dk_27 (dk_at dksX4_init_2 19 rfl rfl)
theorem dX4_init_66 : decode cX4_init 66 = .ok (.bipush 10, 2) := dk_16 10 (dk_at dksX4_init_2 20 rfl rfl)
theorem dX4_init_68 : decode cX4_init 68 = .ok (.if_icmp .ge 16, 3) := dk_162 0 16 (dk_at dksX4_init_3 0 rfl rfl)
theorem dX4_init_71 : decode cX4_init 71 = .ok (.aload_n 0, 1) := dk_42 (dk_at dksX4_init_3 3 rfl rfl)
theorem dX4_init_72 : decode cX4_init 72 = .ok (.getfield 24, 3) := dk_180 0 24 (dk_at dksX4_init_3 4 rfl rfl)
theorem dX4_init_75 : decode cX4_init 75 = .ok (.iload_n 1, 1) := dk_27 (dk_at dksX4_init_3 7 rfl rfl)
theorem dX4_init_76 : decode cX4_init 76 = .ok (.iconst (-1), 1) := dk_2 (dk_at dksX4_init_3 8 rfl rfl)
theorem dX4_init_77 : decode cX4_init 77 = .ok (.iastore, 1) := dk_79 (dk_at dksX4_init_3 9 rfl rfl)
theorem dX4_init_78 : decode cX4_init 78 = .ok (.iinc 1 1, 3) := dk_132 1 1 (dk_at dksX4_init_3 10 rfl rfl)
theorem dX4_init_81 : decode cX4_init 81 = .ok (.goto (-16), 3) := dk_167 255 240 (dk_at dksX4_init_3 13 rfl rfl)
theorem dX4_init_84 : decode cX4_init 84 = .ok (.return_, 1) := dk_177 (dk_at dksX4_init_3 16 rfl rfl)
abbrev cX4_whatIsIn : ByteArray := prog_13_method_7_code
def yX4_whatIsIn : MethodName := ⟨RX4, "whatIsIn", "(I)I"⟩
def dkwX4_whatIsIn_2 : List UInt8 := [167, 255, 212, 28, 172]
abbrev dktX4_whatIsIn_2 : List UInt8 := dkwX4_whatIsIn_2 ++ []
def dkwX4_whatIsIn_1 : List UInt8 := [42, 180, 0, 17, 4, 50, 29, 46, 27, 160, 0, 9, 4, 29, 120, 167, 0, 4, 3, 128, 61, 132, 3, 1]
abbrev dktX4_whatIsIn_1 : List UInt8 := dkwX4_whatIsIn_1 ++ dktX4_whatIsIn_2
def dkwX4_whatIsIn_0 : List UInt8 := [3, 61, 3, 62, 29, 42, 180, 0, 41, 162, 0, 42, 28, 42, 180, 0, 44, 29, 184, 0, 51, 154, 0, 21]
abbrev dktX4_whatIsIn_0 : List UInt8 := dkwX4_whatIsIn_0 ++ dktX4_whatIsIn_1
theorem dksX4_whatIsIn_0 : cX4_whatIsIn.data.toList.drop 0 = dktX4_whatIsIn_0 := by decide +kernel
theorem dksX4_whatIsIn_1 : cX4_whatIsIn.data.toList.drop 24 = dktX4_whatIsIn_1 := dk_seg dksX4_whatIsIn_0 24 rfl rfl
theorem dksX4_whatIsIn_2 : cX4_whatIsIn.data.toList.drop 48 = dktX4_whatIsIn_2 := dk_seg dksX4_whatIsIn_1 24 rfl rfl
theorem dX4_whatIsIn_0 : decode cX4_whatIsIn 0 = .ok (.iconst 0, 1) := dk_3 (dk_at dksX4_whatIsIn_0 0 rfl rfl)
theorem dX4_whatIsIn_1 : decode cX4_whatIsIn 1 = .ok (.istore_n 2, 1) := dk_61 (dk_at dksX4_whatIsIn_0 1 rfl rfl)
theorem dX4_whatIsIn_2 : decode cX4_whatIsIn 2 = .ok (.iconst 0, 1) := dk_3 (dk_at dksX4_whatIsIn_0 2 rfl rfl)
theorem dX4_whatIsIn_3 : decode cX4_whatIsIn 3 = .ok (.istore_n 3, 1) := dk_62 (dk_at dksX4_whatIsIn_0 3 rfl rfl)
theorem dX4_whatIsIn_4 : decode cX4_whatIsIn 4 = .ok (.iload_n 3, 1) := dk_29 (dk_at dksX4_whatIsIn_0 4 rfl rfl)
theorem dX4_whatIsIn_5 : decode cX4_whatIsIn 5 = .ok (.aload_n 0, 1) := dk_42 (dk_at dksX4_whatIsIn_0 5 rfl rfl)
theorem dX4_whatIsIn_6 : decode cX4_whatIsIn 6 = .ok (.getfield 41, 3) := dk_180 0 41 (dk_at dksX4_whatIsIn_0 6 rfl rfl)
theorem dX4_whatIsIn_9 : decode cX4_whatIsIn 9 = .ok (.if_icmp .ge 42, 3) := dk_162 0 42 (dk_at dksX4_whatIsIn_0 9 rfl rfl)
theorem dX4_whatIsIn_12 : decode cX4_whatIsIn 12 = .ok (.iload_n 2, 1) := dk_28 (dk_at dksX4_whatIsIn_0 12 rfl rfl)
theorem dX4_whatIsIn_13 : decode cX4_whatIsIn 13 = .ok (.aload_n 0, 1) := dk_42 (dk_at dksX4_whatIsIn_0 13 rfl rfl)
theorem dX4_whatIsIn_14 : decode cX4_whatIsIn 14 = .ok (.getfield 44, 3) := dk_180 0 44 (dk_at dksX4_whatIsIn_0 14 rfl rfl)
theorem dX4_whatIsIn_17 : decode cX4_whatIsIn 17 = .ok (.iload_n 3, 1) := dk_29 (dk_at dksX4_whatIsIn_0 17 rfl rfl)
theorem dX4_whatIsIn_18 : decode cX4_whatIsIn 18 = .ok (.invokestatic 51, 3) := dk_184 0 51 (dk_at dksX4_whatIsIn_0 18 rfl rfl)
theorem dX4_whatIsIn_21 : decode cX4_whatIsIn 21 = .ok (.ifCond .ne 21, 3) := dk_154 0 21 (dk_at dksX4_whatIsIn_0 21 rfl rfl)
theorem dX4_whatIsIn_24 : decode cX4_whatIsIn 24 = .ok (.aload_n 0, 1) := dk_42 (dk_at dksX4_whatIsIn_1 0 rfl rfl)
theorem dX4_whatIsIn_25 : decode cX4_whatIsIn 25 = .ok (.getfield 17, 3) := dk_180 0 17 (dk_at dksX4_whatIsIn_1 1 rfl rfl)
theorem dX4_whatIsIn_28 : decode cX4_whatIsIn 28 = .ok (.iconst 1, 1) := dk_4 (dk_at dksX4_whatIsIn_1 4 rfl rfl)
theorem dX4_whatIsIn_29 : decode cX4_whatIsIn 29 = .ok (.aaload, 1) := dk_50 (dk_at dksX4_whatIsIn_1 5 rfl rfl)
theorem dX4_whatIsIn_30 : decode cX4_whatIsIn 30 = .ok (.iload_n 3, 1) := dk_29 (dk_at dksX4_whatIsIn_1 6 rfl rfl)
theorem dX4_whatIsIn_31 : decode cX4_whatIsIn 31 = .ok (.iaload, 1) := dk_46 (dk_at dksX4_whatIsIn_1 7 rfl rfl)
theorem dX4_whatIsIn_32 : decode cX4_whatIsIn 32 = .ok (.iload_n 1, 1) := dk_27 (dk_at dksX4_whatIsIn_1 8 rfl rfl)
theorem dX4_whatIsIn_33 : decode cX4_whatIsIn 33 = .ok (.if_icmp .ne 9, 3) := dk_160 0 9 (dk_at dksX4_whatIsIn_1 9 rfl rfl)
theorem dX4_whatIsIn_36 : decode cX4_whatIsIn 36 = .ok (.iconst 1, 1) := dk_4 (dk_at dksX4_whatIsIn_1 12 rfl rfl)
theorem dX4_whatIsIn_37 : decode cX4_whatIsIn 37 = .ok (.iload_n 3, 1) := dk_29 (dk_at dksX4_whatIsIn_1 13 rfl rfl)
theorem dX4_whatIsIn_38 : decode cX4_whatIsIn 38 = .ok (.ishl, 1) := dk_120 (dk_at dksX4_whatIsIn_1 14 rfl rfl)
theorem dX4_whatIsIn_39 : decode cX4_whatIsIn 39 = .ok (.goto 4, 3) := dk_167 0 4 (dk_at dksX4_whatIsIn_1 15 rfl rfl)
theorem dX4_whatIsIn_42 : decode cX4_whatIsIn 42 = .ok (.iconst 0, 1) := dk_3 (dk_at dksX4_whatIsIn_1 18 rfl rfl)
theorem dX4_whatIsIn_43 : decode cX4_whatIsIn 43 = .ok (.ior, 1) := dk_128 (dk_at dksX4_whatIsIn_1 19 rfl rfl)
theorem dX4_whatIsIn_44 : decode cX4_whatIsIn 44 = .ok (.istore_n 2, 1) := dk_61 (dk_at dksX4_whatIsIn_1 20 rfl rfl)
theorem dX4_whatIsIn_45 : decode cX4_whatIsIn 45 = .ok (.iinc 3 1, 3) := dk_132 3 1 (dk_at dksX4_whatIsIn_1 21 rfl rfl)
theorem dX4_whatIsIn_48 : decode cX4_whatIsIn 48 = .ok (.goto (-44), 3) := dk_167 255 212 (dk_at dksX4_whatIsIn_2 0 rfl rfl)
theorem dX4_whatIsIn_51 : decode cX4_whatIsIn 51 = .ok (.iload_n 2, 1) := dk_28 (dk_at dksX4_whatIsIn_2 3 rfl rfl)
theorem dX4_whatIsIn_52 : decode cX4_whatIsIn 52 = .ok (.ireturn, 1) := dk_172 (dk_at dksX4_whatIsIn_2 4 rfl rfl)
abbrev cX4_known : ByteArray := prog_13_method_8_code
def yX4_known : MethodName := ⟨RX4, "known", "(II)I"⟩
def dkwX4_known_1 : List UInt8 := [42, 180, 0, 17, 27, 50, 21, 4, 46, 167, 0, 4, 3, 128, 62, 132, 4, 1, 167, 255, 219, 29, 172]
abbrev dktX4_known_1 : List UInt8 := dkwX4_known_1 ++ []
def dkwX4_known_0 : List UInt8 := [3, 62, 3, 54, 4, 21, 4, 42, 180, 0, 41, 162, 0, 34, 29, 28, 21, 4, 184, 0, 51, 153, 0, 15]
abbrev dktX4_known_0 : List UInt8 := dkwX4_known_0 ++ dktX4_known_1
theorem dksX4_known_0 : cX4_known.data.toList.drop 0 = dktX4_known_0 := by decide +kernel
theorem dksX4_known_1 : cX4_known.data.toList.drop 24 = dktX4_known_1 := dk_seg dksX4_known_0 24 rfl rfl
theorem dX4_known_0 : decode cX4_known 0 = .ok (.iconst 0, 1) := dk_3 (dk_at dksX4_known_0 0 rfl rfl)
theorem dX4_known_1 : decode cX4_known 1 = .ok (.istore_n 3, 1) := dk_62 (dk_at dksX4_known_0 1 rfl rfl)
theorem dX4_known_2 : decode cX4_known 2 = .ok (.iconst 0, 1) := dk_3 (dk_at dksX4_known_0 2 rfl rfl)
theorem dX4_known_3 : decode cX4_known 3 = .ok (.istore 4, 2) := dk_54 4 (dk_at dksX4_known_0 3 rfl rfl)
theorem dX4_known_5 : decode cX4_known 5 = .ok (.iload 4, 2) := dk_21 4 (dk_at dksX4_known_0 5 rfl rfl)
theorem dX4_known_7 : decode cX4_known 7 = .ok (.aload_n 0, 1) := dk_42 (dk_at dksX4_known_0 7 rfl rfl)
theorem dX4_known_8 : decode cX4_known 8 = .ok (.getfield 41, 3) := dk_180 0 41 (dk_at dksX4_known_0 8 rfl rfl)
theorem dX4_known_11 : decode cX4_known 11 = .ok (.if_icmp .ge 34, 3) := dk_162 0 34 (dk_at dksX4_known_0 11 rfl rfl)
theorem dX4_known_14 : decode cX4_known 14 = .ok (.iload_n 3, 1) := dk_29 (dk_at dksX4_known_0 14 rfl rfl)
theorem dX4_known_15 : decode cX4_known 15 = .ok (.iload_n 2, 1) := dk_28 (dk_at dksX4_known_0 15 rfl rfl)
theorem dX4_known_16 : decode cX4_known 16 = .ok (.iload 4, 2) := dk_21 4 (dk_at dksX4_known_0 16 rfl rfl)
theorem dX4_known_18 : decode cX4_known 18 = .ok (.invokestatic 51, 3) := dk_184 0 51 (dk_at dksX4_known_0 18 rfl rfl)
theorem dX4_known_21 : decode cX4_known 21 = .ok (.ifCond .eq 15, 3) := dk_153 0 15 (dk_at dksX4_known_0 21 rfl rfl)
theorem dX4_known_24 : decode cX4_known 24 = .ok (.aload_n 0, 1) := dk_42 (dk_at dksX4_known_1 0 rfl rfl)
theorem dX4_known_25 : decode cX4_known 25 = .ok (.getfield 17, 3) := dk_180 0 17 (dk_at dksX4_known_1 1 rfl rfl)
theorem dX4_known_28 : decode cX4_known 28 = .ok (.iload_n 1, 1) := dk_27 (dk_at dksX4_known_1 4 rfl rfl)
theorem dX4_known_29 : decode cX4_known 29 = .ok (.aaload, 1) := dk_50 (dk_at dksX4_known_1 5 rfl rfl)
theorem dX4_known_30 : decode cX4_known 30 = .ok (.iload 4, 2) := dk_21 4 (dk_at dksX4_known_1 6 rfl rfl)
theorem dX4_known_32 : decode cX4_known 32 = .ok (.iaload, 1) := dk_46 (dk_at dksX4_known_1 8 rfl rfl)
theorem dX4_known_33 : decode cX4_known 33 = .ok (.goto 4, 3) := dk_167 0 4 (dk_at dksX4_known_1 9 rfl rfl)
theorem dX4_known_36 : decode cX4_known 36 = .ok (.iconst 0, 1) := dk_3 (dk_at dksX4_known_1 12 rfl rfl)
theorem dX4_known_37 : decode cX4_known 37 = .ok (.ior, 1) := dk_128 (dk_at dksX4_known_1 13 rfl rfl)
theorem dX4_known_38 : decode cX4_known 38 = .ok (.istore_n 3, 1) := dk_62 (dk_at dksX4_known_1 14 rfl rfl)
theorem dX4_known_39 : decode cX4_known 39 = .ok (.iinc 4 1, 3) := dk_132 4 1 (dk_at dksX4_known_1 15 rfl rfl)
theorem dX4_known_42 : decode cX4_known 42 = .ok (.goto (-37), 3) := dk_167 255 219 (dk_at dksX4_known_1 18 rfl rfl)
theorem dX4_known_45 : decode cX4_known 45 = .ok (.iload_n 3, 1) := dk_29 (dk_at dksX4_known_1 21 rfl rfl)
theorem dX4_known_46 : decode cX4_known 46 = .ok (.ireturn, 1) := dk_172 (dk_at dksX4_known_1 22 rfl rfl)
abbrev cX4_saidIn : ByteArray := prog_13_method_11_code
def yX4_saidIn : MethodName := ⟨RX4, "saidIn", "(I)I"⟩
def dkwX4_saidIn_2 : List UInt8 := [128, 61, 132, 5, 1, 167, 255, 217, 28, 172]
abbrev dktX4_saidIn_2 : List UInt8 := dkwX4_saidIn_2 ++ []
def dkwX4_saidIn_1 : List UInt8 := [46, 54, 6, 28, 21, 6, 184, 0, 59, 27, 160, 0, 13, 4, 21, 6, 184, 0, 63, 120, 167, 0, 4, 3]
abbrev dktX4_saidIn_1 : List UInt8 := dkwX4_saidIn_1 ++ dktX4_saidIn_2
def dkwX4_saidIn_0 : List UInt8 := [3, 61, 42, 180, 0, 9, 78, 45, 190, 54, 4, 3, 54, 5, 21, 5, 21, 4, 162, 0, 38, 45, 21, 5]
abbrev dktX4_saidIn_0 : List UInt8 := dkwX4_saidIn_0 ++ dktX4_saidIn_1
theorem dksX4_saidIn_0 : cX4_saidIn.data.toList.drop 0 = dktX4_saidIn_0 := by decide +kernel
theorem dksX4_saidIn_1 : cX4_saidIn.data.toList.drop 24 = dktX4_saidIn_1 := dk_seg dksX4_saidIn_0 24 rfl rfl
theorem dksX4_saidIn_2 : cX4_saidIn.data.toList.drop 48 = dktX4_saidIn_2 := dk_seg dksX4_saidIn_1 24 rfl rfl
theorem dX4_saidIn_0 : decode cX4_saidIn 0 = .ok (.iconst 0, 1) := dk_3 (dk_at dksX4_saidIn_0 0 rfl rfl)
theorem dX4_saidIn_1 : decode cX4_saidIn 1 = .ok (.istore_n 2, 1) := dk_61 (dk_at dksX4_saidIn_0 1 rfl rfl)
theorem dX4_saidIn_2 : decode cX4_saidIn 2 = .ok (.aload_n 0, 1) := dk_42 (dk_at dksX4_saidIn_0 2 rfl rfl)
theorem dX4_saidIn_3 : decode cX4_saidIn 3 = .ok (.getfield 9, 3) := dk_180 0 9 (dk_at dksX4_saidIn_0 3 rfl rfl)
theorem dX4_saidIn_6 : decode cX4_saidIn 6 = .ok (.astore_n 3, 1) := dk_78 (dk_at dksX4_saidIn_0 6 rfl rfl)
theorem dX4_saidIn_7 : decode cX4_saidIn 7 = .ok (.aload_n 3, 1) := dk_45 (dk_at dksX4_saidIn_0 7 rfl rfl)
theorem dX4_saidIn_8 : decode cX4_saidIn 8 = .ok (.arraylength, 1) := dk_190 (dk_at dksX4_saidIn_0 8 rfl rfl)
theorem dX4_saidIn_9 : decode cX4_saidIn 9 = .ok (.istore 4, 2) := dk_54 4 (dk_at dksX4_saidIn_0 9 rfl rfl)
theorem dX4_saidIn_11 : decode cX4_saidIn 11 = .ok (.iconst 0, 1) := dk_3 (dk_at dksX4_saidIn_0 11 rfl rfl)
theorem dX4_saidIn_12 : decode cX4_saidIn 12 = .ok (.istore 5, 2) := dk_54 5 (dk_at dksX4_saidIn_0 12 rfl rfl)
theorem dX4_saidIn_14 : decode cX4_saidIn 14 = .ok (.iload 5, 2) := dk_21 5 (dk_at dksX4_saidIn_0 14 rfl rfl)
theorem dX4_saidIn_16 : decode cX4_saidIn 16 = .ok (.iload 4, 2) := dk_21 4 (dk_at dksX4_saidIn_0 16 rfl rfl)
theorem dX4_saidIn_18 : decode cX4_saidIn 18 = .ok (.if_icmp .ge 38, 3) := dk_162 0 38 (dk_at dksX4_saidIn_0 18 rfl rfl)
theorem dX4_saidIn_21 : decode cX4_saidIn 21 = .ok (.aload_n 3, 1) := dk_45 (dk_at dksX4_saidIn_0 21 rfl rfl)
theorem dX4_saidIn_22 : decode cX4_saidIn 22 = .ok (.iload 5, 2) := dk_21 5 (dk_at dksX4_saidIn_0 22 rfl rfl)
theorem dX4_saidIn_24 : decode cX4_saidIn 24 = .ok (.iaload, 1) := dk_46 (dk_at dksX4_saidIn_1 0 rfl rfl)
theorem dX4_saidIn_25 : decode cX4_saidIn 25 = .ok (.istore 6, 2) := dk_54 6 (dk_at dksX4_saidIn_1 1 rfl rfl)
theorem dX4_saidIn_27 : decode cX4_saidIn 27 = .ok (.iload_n 2, 1) := dk_28 (dk_at dksX4_saidIn_1 3 rfl rfl)
theorem dX4_saidIn_28 : decode cX4_saidIn 28 = .ok (.iload 6, 2) := dk_21 6 (dk_at dksX4_saidIn_1 4 rfl rfl)
theorem dX4_saidIn_30 : decode cX4_saidIn 30 = .ok (.invokestatic 59, 3) := dk_184 0 59 (dk_at dksX4_saidIn_1 6 rfl rfl)
theorem dX4_saidIn_33 : decode cX4_saidIn 33 = .ok (.iload_n 1, 1) := dk_27 (dk_at dksX4_saidIn_1 9 rfl rfl)
theorem dX4_saidIn_34 : decode cX4_saidIn 34 = .ok (.if_icmp .ne 13, 3) := dk_160 0 13 (dk_at dksX4_saidIn_1 10 rfl rfl)
theorem dX4_saidIn_37 : decode cX4_saidIn 37 = .ok (.iconst 1, 1) := dk_4 (dk_at dksX4_saidIn_1 13 rfl rfl)
theorem dX4_saidIn_38 : decode cX4_saidIn 38 = .ok (.iload 6, 2) := dk_21 6 (dk_at dksX4_saidIn_1 14 rfl rfl)
theorem dX4_saidIn_40 : decode cX4_saidIn 40 = .ok (.invokestatic 63, 3) := dk_184 0 63 (dk_at dksX4_saidIn_1 16 rfl rfl)
theorem dX4_saidIn_43 : decode cX4_saidIn 43 = .ok (.ishl, 1) := dk_120 (dk_at dksX4_saidIn_1 19 rfl rfl)
theorem dX4_saidIn_44 : decode cX4_saidIn 44 = .ok (.goto 4, 3) := dk_167 0 4 (dk_at dksX4_saidIn_1 20 rfl rfl)
theorem dX4_saidIn_47 : decode cX4_saidIn 47 = .ok (.iconst 0, 1) := dk_3 (dk_at dksX4_saidIn_1 23 rfl rfl)
theorem dX4_saidIn_48 : decode cX4_saidIn 48 = .ok (.ior, 1) := dk_128 (dk_at dksX4_saidIn_2 0 rfl rfl)
theorem dX4_saidIn_49 : decode cX4_saidIn 49 = .ok (.istore_n 2, 1) := dk_61 (dk_at dksX4_saidIn_2 1 rfl rfl)
theorem dX4_saidIn_50 : decode cX4_saidIn 50 = .ok (.iinc 5 1, 3) := dk_132 5 1 (dk_at dksX4_saidIn_2 2 rfl rfl)
theorem dX4_saidIn_53 : decode cX4_saidIn 53 = .ok (.goto (-39), 3) := dk_167 255 217 (dk_at dksX4_saidIn_2 5 rfl rfl)
theorem dX4_saidIn_56 : decode cX4_saidIn 56 = .ok (.iload_n 2, 1) := dk_28 (dk_at dksX4_saidIn_2 8 rfl rfl)
theorem dX4_saidIn_57 : decode cX4_saidIn 57 = .ok (.ireturn, 1) := dk_172 (dk_at dksX4_saidIn_2 9 rfl rfl)
abbrev cX4_add : ByteArray := prog_13_method_5_code
def yX4_add : MethodName := ⟨RX4, "add", "(II)V"⟩
def dkwX4_add_3 : List UInt8 := [181, 0, 41, 177]
abbrev dktX4_add_3 : List UInt8 := dkwX4_add_3 ++ []
def dkwX4_add_2 : List UInt8 := [180, 0, 41, 28, 79, 42, 180, 0, 17, 5, 50, 42, 180, 0, 41, 8, 79, 42, 89, 180, 0, 41, 4, 96]
abbrev dktX4_add_2 : List UInt8 := dkwX4_add_2 ++ dktX4_add_3
def dkwX4_add_1 : List UInt8 := [167, 255, 235, 42, 180, 0, 17, 3, 50, 42, 180, 0, 41, 27, 79, 42, 180, 0, 17, 4, 50, 42]
abbrev dktX4_add_1 : List UInt8 := dkwX4_add_1 ++ dktX4_add_2
def dkwX4_add_0 : List UInt8 := [3, 62, 29, 16, 7, 162, 0, 21, 42, 180, 0, 17, 29, 50, 42, 180, 0, 41, 3, 79, 132, 3, 1]
abbrev dktX4_add_0 : List UInt8 := dkwX4_add_0 ++ dktX4_add_1
theorem dksX4_add_0 : cX4_add.data.toList.drop 0 = dktX4_add_0 := by decide +kernel
theorem dksX4_add_1 : cX4_add.data.toList.drop 23 = dktX4_add_1 := dk_seg dksX4_add_0 23 rfl rfl
theorem dksX4_add_2 : cX4_add.data.toList.drop 45 = dktX4_add_2 := dk_seg dksX4_add_1 22 rfl rfl
theorem dksX4_add_3 : cX4_add.data.toList.drop 69 = dktX4_add_3 := dk_seg dksX4_add_2 24 rfl rfl
theorem dX4_add_0 : decode cX4_add 0 = .ok (.iconst 0, 1) := dk_3 (dk_at dksX4_add_0 0 rfl rfl)
theorem dX4_add_1 : decode cX4_add 1 = .ok (.istore_n 3, 1) := dk_62 (dk_at dksX4_add_0 1 rfl rfl)
theorem dX4_add_2 : decode cX4_add 2 = .ok (.iload_n 3, 1) := dk_29 (dk_at dksX4_add_0 2 rfl rfl)
theorem dX4_add_3 : decode cX4_add 3 = .ok (.bipush 7, 2) := dk_16 7 (dk_at dksX4_add_0 3 rfl rfl)
theorem dX4_add_5 : decode cX4_add 5 = .ok (.if_icmp .ge 21, 3) := dk_162 0 21 (dk_at dksX4_add_0 5 rfl rfl)
theorem dX4_add_8 : decode cX4_add 8 = .ok (.aload_n 0, 1) := dk_42 (dk_at dksX4_add_0 8 rfl rfl)
theorem dX4_add_9 : decode cX4_add 9 = .ok (.getfield 17, 3) := dk_180 0 17 (dk_at dksX4_add_0 9 rfl rfl)
theorem dX4_add_12 : decode cX4_add 12 = .ok (.iload_n 3, 1) := dk_29 (dk_at dksX4_add_0 12 rfl rfl)
theorem dX4_add_13 : decode cX4_add 13 = .ok (.aaload, 1) := dk_50 (dk_at dksX4_add_0 13 rfl rfl)
theorem dX4_add_14 : decode cX4_add 14 = .ok (.aload_n 0, 1) := dk_42 (dk_at dksX4_add_0 14 rfl rfl)
theorem dX4_add_15 : decode cX4_add 15 = .ok (.getfield 41, 3) := dk_180 0 41 (dk_at dksX4_add_0 15 rfl rfl)
theorem dX4_add_18 : decode cX4_add 18 = .ok (.iconst 0, 1) := dk_3 (dk_at dksX4_add_0 18 rfl rfl)
theorem dX4_add_19 : decode cX4_add 19 = .ok (.iastore, 1) := dk_79 (dk_at dksX4_add_0 19 rfl rfl)
theorem dX4_add_20 : decode cX4_add 20 = .ok (.iinc 3 1, 3) := dk_132 3 1 (dk_at dksX4_add_0 20 rfl rfl)
theorem dX4_add_23 : decode cX4_add 23 = .ok (.goto (-21), 3) := dk_167 255 235 (dk_at dksX4_add_1 0 rfl rfl)
theorem dX4_add_26 : decode cX4_add 26 = .ok (.aload_n 0, 1) := dk_42 (dk_at dksX4_add_1 3 rfl rfl)
theorem dX4_add_27 : decode cX4_add 27 = .ok (.getfield 17, 3) := dk_180 0 17 (dk_at dksX4_add_1 4 rfl rfl)
theorem dX4_add_30 : decode cX4_add 30 = .ok (.iconst 0, 1) := dk_3 (dk_at dksX4_add_1 7 rfl rfl)
theorem dX4_add_31 : decode cX4_add 31 = .ok (.aaload, 1) := dk_50 (dk_at dksX4_add_1 8 rfl rfl)
theorem dX4_add_32 : decode cX4_add 32 = .ok (.aload_n 0, 1) := dk_42 (dk_at dksX4_add_1 9 rfl rfl)
theorem dX4_add_33 : decode cX4_add 33 = .ok (.getfield 41, 3) := dk_180 0 41 (dk_at dksX4_add_1 10 rfl rfl)
theorem dX4_add_36 : decode cX4_add 36 = .ok (.iload_n 1, 1) := dk_27 (dk_at dksX4_add_1 13 rfl rfl)
theorem dX4_add_37 : decode cX4_add 37 = .ok (.iastore, 1) := dk_79 (dk_at dksX4_add_1 14 rfl rfl)
theorem dX4_add_38 : decode cX4_add 38 = .ok (.aload_n 0, 1) := dk_42 (dk_at dksX4_add_1 15 rfl rfl)
theorem dX4_add_39 : decode cX4_add 39 = .ok (.getfield 17, 3) := dk_180 0 17 (dk_at dksX4_add_1 16 rfl rfl)
theorem dX4_add_42 : decode cX4_add 42 = .ok (.iconst 1, 1) := dk_4 (dk_at dksX4_add_1 19 rfl rfl)
theorem dX4_add_43 : decode cX4_add 43 = .ok (.aaload, 1) := dk_50 (dk_at dksX4_add_1 20 rfl rfl)
theorem dX4_add_44 : decode cX4_add 44 = .ok (.aload_n 0, 1) := dk_42 (dk_at dksX4_add_1 21 rfl rfl)
theorem dX4_add_45 : decode cX4_add 45 = .ok (.getfield 41, 3) := dk_180 0 41 (dk_at dksX4_add_2 0 rfl rfl)
theorem dX4_add_48 : decode cX4_add 48 = .ok (.iload_n 2, 1) := dk_28 (dk_at dksX4_add_2 3 rfl rfl)
theorem dX4_add_49 : decode cX4_add 49 = .ok (.iastore, 1) := dk_79 (dk_at dksX4_add_2 4 rfl rfl)
theorem dX4_add_50 : decode cX4_add 50 = .ok (.aload_n 0, 1) := dk_42 (dk_at dksX4_add_2 5 rfl rfl)
theorem dX4_add_51 : decode cX4_add 51 = .ok (.getfield 17, 3) := dk_180 0 17 (dk_at dksX4_add_2 6 rfl rfl)
theorem dX4_add_54 : decode cX4_add 54 = .ok (.iconst 2, 1) := dk_5 (dk_at dksX4_add_2 9 rfl rfl)
theorem dX4_add_55 : decode cX4_add 55 = .ok (.aaload, 1) := dk_50 (dk_at dksX4_add_2 10 rfl rfl)
theorem dX4_add_56 : decode cX4_add 56 = .ok (.aload_n 0, 1) := dk_42 (dk_at dksX4_add_2 11 rfl rfl)
theorem dX4_add_57 : decode cX4_add 57 = .ok (.getfield 41, 3) := dk_180 0 41 (dk_at dksX4_add_2 12 rfl rfl)
theorem dX4_add_60 : decode cX4_add 60 = .ok (.iconst 5, 1) := dk_8 (dk_at dksX4_add_2 15 rfl rfl)
theorem dX4_add_61 : decode cX4_add 61 = .ok (.iastore, 1) := dk_79 (dk_at dksX4_add_2 16 rfl rfl)
theorem dX4_add_62 : decode cX4_add 62 = .ok (.aload_n 0, 1) := dk_42 (dk_at dksX4_add_2 17 rfl rfl)
theorem dX4_add_63 : decode cX4_add 63 = .ok (.dup, 1) := dk_89 (dk_at dksX4_add_2 18 rfl rfl)
theorem dX4_add_64 : decode cX4_add 64 = .ok (.getfield 41, 3) := dk_180 0 41 (dk_at dksX4_add_2 19 rfl rfl)
theorem dX4_add_67 : decode cX4_add 67 = .ok (.iconst 1, 1) := dk_4 (dk_at dksX4_add_2 22 rfl rfl)
theorem dX4_add_68 : decode cX4_add 68 = .ok (.iadd, 1) := dk_96 (dk_at dksX4_add_2 23 rfl rfl)
theorem dX4_add_69 : decode cX4_add 69 = .ok (.putfield 41, 3) := dk_181 0 41 (dk_at dksX4_add_3 0 rfl rfl)
theorem dX4_add_72 : decode cX4_add 72 = .ok (.return_, 1) := dk_177 (dk_at dksX4_add_3 3 rfl rfl)
abbrev cX4_isDrawn : ByteArray := prog_13_method_16_code
def yX4_isDrawn : MethodName := ⟨RX4, "isDrawn", "(I)V"⟩
def dkwX4_isDrawn_3 : List UInt8 := [180, 0, 17, 4, 50, 27, 46, 4, 96, 16, 6, 112, 79, 177]
abbrev dktX4_isDrawn_3 : List UInt8 := dkwX4_isDrawn_3 ++ []
def dkwX4_isDrawn_2 : List UInt8 := [42, 180, 0, 17, 16, 6, 50, 27, 46, 4, 96, 184, 0, 69, 79, 42, 180, 0, 17, 4, 50, 27, 42]
abbrev dktX4_isDrawn_2 : List UInt8 := dkwX4_isDrawn_2 ++ dktX4_isDrawn_3
def dkwX4_isDrawn_1 : List UInt8 := [50, 27, 3, 79, 42, 180, 0, 17, 7, 50, 27, 3, 79, 42, 180, 0, 17, 16, 6, 50, 27, 17, 39, 15]
abbrev dktX4_isDrawn_1 : List UInt8 := dkwX4_isDrawn_1 ++ dktX4_isDrawn_2
def dkwX4_isDrawn_0 : List UInt8 := [42, 180, 0, 17, 8, 50, 27, 92, 46, 42, 180, 0, 17, 6, 50, 27, 46, 128, 79, 42, 180, 0, 17, 6]
abbrev dktX4_isDrawn_0 : List UInt8 := dkwX4_isDrawn_0 ++ dktX4_isDrawn_1
theorem dksX4_isDrawn_0 : cX4_isDrawn.data.toList.drop 0 = dktX4_isDrawn_0 := by decide +kernel
theorem dksX4_isDrawn_1 : cX4_isDrawn.data.toList.drop 24 = dktX4_isDrawn_1 := dk_seg dksX4_isDrawn_0 24 rfl rfl
theorem dksX4_isDrawn_2 : cX4_isDrawn.data.toList.drop 48 = dktX4_isDrawn_2 := dk_seg dksX4_isDrawn_1 24 rfl rfl
theorem dksX4_isDrawn_3 : cX4_isDrawn.data.toList.drop 71 = dktX4_isDrawn_3 := dk_seg dksX4_isDrawn_2 23 rfl rfl
theorem dX4_isDrawn_0 : decode cX4_isDrawn 0 = .ok (.aload_n 0, 1) := dk_42 (dk_at dksX4_isDrawn_0 0 rfl rfl)
theorem dX4_isDrawn_1 : decode cX4_isDrawn 1 = .ok (.getfield 17, 3) := dk_180 0 17 (dk_at dksX4_isDrawn_0 1 rfl rfl)
theorem dX4_isDrawn_4 : decode cX4_isDrawn 4 = .ok (.iconst 5, 1) := dk_8 (dk_at dksX4_isDrawn_0 4 rfl rfl)
theorem dX4_isDrawn_5 : decode cX4_isDrawn 5 = .ok (.aaload, 1) := dk_50 (dk_at dksX4_isDrawn_0 5 rfl rfl)
theorem dX4_isDrawn_6 : decode cX4_isDrawn 6 = .ok (.iload_n 1, 1) := dk_27 (dk_at dksX4_isDrawn_0 6 rfl rfl)
theorem dX4_isDrawn_7 : decode cX4_isDrawn 7 = .ok (.dup2, 1) := dk_92 (dk_at dksX4_isDrawn_0 7 rfl rfl)
theorem dX4_isDrawn_8 : decode cX4_isDrawn 8 = .ok (.iaload, 1) := dk_46 (dk_at dksX4_isDrawn_0 8 rfl rfl)
theorem dX4_isDrawn_9 : decode cX4_isDrawn 9 = .ok (.aload_n 0, 1) := dk_42 (dk_at dksX4_isDrawn_0 9 rfl rfl)
theorem dX4_isDrawn_10 : decode cX4_isDrawn 10 = .ok (.getfield 17, 3) := dk_180 0 17 (dk_at dksX4_isDrawn_0 10 rfl rfl)
theorem dX4_isDrawn_13 : decode cX4_isDrawn 13 = .ok (.iconst 3, 1) := dk_6 (dk_at dksX4_isDrawn_0 13 rfl rfl)
theorem dX4_isDrawn_14 : decode cX4_isDrawn 14 = .ok (.aaload, 1) := dk_50 (dk_at dksX4_isDrawn_0 14 rfl rfl)
theorem dX4_isDrawn_15 : decode cX4_isDrawn 15 = .ok (.iload_n 1, 1) := dk_27 (dk_at dksX4_isDrawn_0 15 rfl rfl)
theorem dX4_isDrawn_16 : decode cX4_isDrawn 16 = .ok (.iaload, 1) := dk_46 (dk_at dksX4_isDrawn_0 16 rfl rfl)
theorem dX4_isDrawn_17 : decode cX4_isDrawn 17 = .ok (.ior, 1) := dk_128 (dk_at dksX4_isDrawn_0 17 rfl rfl)
theorem dX4_isDrawn_18 : decode cX4_isDrawn 18 = .ok (.iastore, 1) := dk_79 (dk_at dksX4_isDrawn_0 18 rfl rfl)
theorem dX4_isDrawn_19 : decode cX4_isDrawn 19 = .ok (.aload_n 0, 1) := dk_42 (dk_at dksX4_isDrawn_0 19 rfl rfl)
theorem dX4_isDrawn_20 : decode cX4_isDrawn 20 = .ok (.getfield 17, 3) := dk_180 0 17 (dk_at dksX4_isDrawn_0 20 rfl rfl)
theorem dX4_isDrawn_23 : decode cX4_isDrawn 23 = .ok (.iconst 3, 1) := dk_6 (dk_at dksX4_isDrawn_0 23 rfl rfl)
theorem dX4_isDrawn_24 : decode cX4_isDrawn 24 = .ok (.aaload, 1) := dk_50 (dk_at dksX4_isDrawn_1 0 rfl rfl)
theorem dX4_isDrawn_25 : decode cX4_isDrawn 25 = .ok (.iload_n 1, 1) := dk_27 (dk_at dksX4_isDrawn_1 1 rfl rfl)
theorem dX4_isDrawn_26 : decode cX4_isDrawn 26 = .ok (.iconst 0, 1) := dk_3 (dk_at dksX4_isDrawn_1 2 rfl rfl)
theorem dX4_isDrawn_27 : decode cX4_isDrawn 27 = .ok (.iastore, 1) := dk_79 (dk_at dksX4_isDrawn_1 3 rfl rfl)
theorem dX4_isDrawn_28 : decode cX4_isDrawn 28 = .ok (.aload_n 0, 1) := dk_42 (dk_at dksX4_isDrawn_1 4 rfl rfl)
theorem dX4_isDrawn_29 : decode cX4_isDrawn 29 = .ok (.getfield 17, 3) := dk_180 0 17 (dk_at dksX4_isDrawn_1 5 rfl rfl)
theorem dX4_isDrawn_32 : decode cX4_isDrawn 32 = .ok (.iconst 4, 1) := dk_7 (dk_at dksX4_isDrawn_1 8 rfl rfl)
theorem dX4_isDrawn_33 : decode cX4_isDrawn 33 = .ok (.aaload, 1) := dk_50 (dk_at dksX4_isDrawn_1 9 rfl rfl)
theorem dX4_isDrawn_34 : decode cX4_isDrawn 34 = .ok (.iload_n 1, 1) := dk_27 (dk_at dksX4_isDrawn_1 10 rfl rfl)
theorem dX4_isDrawn_35 : decode cX4_isDrawn 35 = .ok (.iconst 0, 1) := dk_3 (dk_at dksX4_isDrawn_1 11 rfl rfl)
theorem dX4_isDrawn_36 : decode cX4_isDrawn 36 = .ok (.iastore, 1) := dk_79 (dk_at dksX4_isDrawn_1 12 rfl rfl)
theorem dX4_isDrawn_37 : decode cX4_isDrawn 37 = .ok (.aload_n 0, 1) := dk_42 (dk_at dksX4_isDrawn_1 13 rfl rfl)
theorem dX4_isDrawn_38 : decode cX4_isDrawn 38 = .ok (.getfield 17, 3) := dk_180 0 17 (dk_at dksX4_isDrawn_1 14 rfl rfl)
theorem dX4_isDrawn_41 : decode cX4_isDrawn 41 = .ok (.bipush 6, 2) := dk_16 6 (dk_at dksX4_isDrawn_1 17 rfl rfl)
theorem dX4_isDrawn_43 : decode cX4_isDrawn 43 = .ok (.aaload, 1) := dk_50 (dk_at dksX4_isDrawn_1 19 rfl rfl)
theorem dX4_isDrawn_44 : decode cX4_isDrawn 44 = .ok (.iload_n 1, 1) := dk_27 (dk_at dksX4_isDrawn_1 20 rfl rfl)
theorem dX4_isDrawn_45 : decode cX4_isDrawn 45 = .ok (.sipush 9999, 3) := dk_17 39 15 (dk_at dksX4_isDrawn_1 21 rfl rfl)
theorem dX4_isDrawn_48 : decode cX4_isDrawn 48 = .ok (.aload_n 0, 1) := dk_42 (dk_at dksX4_isDrawn_2 0 rfl rfl)
theorem dX4_isDrawn_49 : decode cX4_isDrawn 49 = .ok (.getfield 17, 3) := dk_180 0 17 (dk_at dksX4_isDrawn_2 1 rfl rfl)
theorem dX4_isDrawn_52 : decode cX4_isDrawn 52 = .ok (.bipush 6, 2) := dk_16 6 (dk_at dksX4_isDrawn_2 4 rfl rfl)
theorem dX4_isDrawn_54 : decode cX4_isDrawn 54 = .ok (.aaload, 1) := dk_50 (dk_at dksX4_isDrawn_2 6 rfl rfl)
theorem dX4_isDrawn_55 : decode cX4_isDrawn 55 = .ok (.iload_n 1, 1) := dk_27 (dk_at dksX4_isDrawn_2 7 rfl rfl)
theorem dX4_isDrawn_56 : decode cX4_isDrawn 56 = .ok (.iaload, 1) := dk_46 (dk_at dksX4_isDrawn_2 8 rfl rfl)
theorem dX4_isDrawn_57 : decode cX4_isDrawn 57 = .ok (.iconst 1, 1) := dk_4 (dk_at dksX4_isDrawn_2 9 rfl rfl)
theorem dX4_isDrawn_58 : decode cX4_isDrawn 58 = .ok (.iadd, 1) := dk_96 (dk_at dksX4_isDrawn_2 10 rfl rfl)
theorem dX4_isDrawn_59 : decode cX4_isDrawn 59 = .ok (.invokestatic 69, 3) := dk_184 0 69 (dk_at dksX4_isDrawn_2 11 rfl rfl)
theorem dX4_isDrawn_62 : decode cX4_isDrawn 62 = .ok (.iastore, 1) := dk_79 (dk_at dksX4_isDrawn_2 14 rfl rfl)
theorem dX4_isDrawn_63 : decode cX4_isDrawn 63 = .ok (.aload_n 0, 1) := dk_42 (dk_at dksX4_isDrawn_2 15 rfl rfl)
theorem dX4_isDrawn_64 : decode cX4_isDrawn 64 = .ok (.getfield 17, 3) := dk_180 0 17 (dk_at dksX4_isDrawn_2 16 rfl rfl)
theorem dX4_isDrawn_67 : decode cX4_isDrawn 67 = .ok (.iconst 1, 1) := dk_4 (dk_at dksX4_isDrawn_2 19 rfl rfl)
theorem dX4_isDrawn_68 : decode cX4_isDrawn 68 = .ok (.aaload, 1) := dk_50 (dk_at dksX4_isDrawn_2 20 rfl rfl)
theorem dX4_isDrawn_69 : decode cX4_isDrawn 69 = .ok (.iload_n 1, 1) := dk_27 (dk_at dksX4_isDrawn_2 21 rfl rfl)
theorem dX4_isDrawn_70 : decode cX4_isDrawn 70 = .ok (.aload_n 0, 1) := dk_42 (dk_at dksX4_isDrawn_2 22 rfl rfl)
theorem dX4_isDrawn_71 : decode cX4_isDrawn 71 = .ok (.getfield 17, 3) := dk_180 0 17 (dk_at dksX4_isDrawn_3 0 rfl rfl)
theorem dX4_isDrawn_74 : decode cX4_isDrawn 74 = .ok (.iconst 1, 1) := dk_4 (dk_at dksX4_isDrawn_3 3 rfl rfl)
theorem dX4_isDrawn_75 : decode cX4_isDrawn 75 = .ok (.aaload, 1) := dk_50 (dk_at dksX4_isDrawn_3 4 rfl rfl)
theorem dX4_isDrawn_76 : decode cX4_isDrawn 76 = .ok (.iload_n 1, 1) := dk_27 (dk_at dksX4_isDrawn_3 5 rfl rfl)
theorem dX4_isDrawn_77 : decode cX4_isDrawn 77 = .ok (.iaload, 1) := dk_46 (dk_at dksX4_isDrawn_3 6 rfl rfl)
theorem dX4_isDrawn_78 : decode cX4_isDrawn 78 = .ok (.iconst 1, 1) := dk_4 (dk_at dksX4_isDrawn_3 7 rfl rfl)
theorem dX4_isDrawn_79 : decode cX4_isDrawn 79 = .ok (.iadd, 1) := dk_96 (dk_at dksX4_isDrawn_3 8 rfl rfl)
theorem dX4_isDrawn_80 : decode cX4_isDrawn 80 = .ok (.bipush 6, 2) := dk_16 6 (dk_at dksX4_isDrawn_3 9 rfl rfl)
theorem dX4_isDrawn_82 : decode cX4_isDrawn 82 = .ok (.irem, 1) := dk_112 (dk_at dksX4_isDrawn_3 11 rfl rfl)
theorem dX4_isDrawn_83 : decode cX4_isDrawn 83 = .ok (.iastore, 1) := dk_79 (dk_at dksX4_isDrawn_3 12 rfl rfl)
theorem dX4_isDrawn_84 : decode cX4_isDrawn 84 = .ok (.return_, 1) := dk_177 (dk_at dksX4_isDrawn_3 13 rfl rfl)
abbrev cX4_whoKnows : ByteArray := prog_13_method_10_code
def yX4_whoKnows : MethodName := ⟨RX4, "whoKnows", "(II)I"⟩
def dkwX4_whoKnows_2 : List UInt8 := [172]
abbrev dktX4_whoKnows_2 : List UInt8 := dkwX4_whoKnows_2 ++ []
def dkwX4_whoKnows_1 : List UInt8 := [27, 184, 0, 51, 153, 0, 10, 4, 21, 4, 120, 167, 0, 4, 3, 128, 62, 132, 4, 1, 167, 255, 217, 29]
abbrev dktX4_whoKnows_1 : List UInt8 := dkwX4_whoKnows_1 ++ dktX4_whoKnows_2
def dkwX4_whoKnows_0 : List UInt8 := [3, 62, 3, 54, 4, 21, 4, 42, 180, 0, 41, 162, 0, 36, 29, 42, 180, 0, 17, 28, 50, 21, 4, 46]
abbrev dktX4_whoKnows_0 : List UInt8 := dkwX4_whoKnows_0 ++ dktX4_whoKnows_1
theorem dksX4_whoKnows_0 : cX4_whoKnows.data.toList.drop 0 = dktX4_whoKnows_0 := by decide +kernel
theorem dksX4_whoKnows_1 : cX4_whoKnows.data.toList.drop 24 = dktX4_whoKnows_1 := dk_seg dksX4_whoKnows_0 24 rfl rfl
theorem dksX4_whoKnows_2 : cX4_whoKnows.data.toList.drop 48 = dktX4_whoKnows_2 := dk_seg dksX4_whoKnows_1 24 rfl rfl
theorem dX4_whoKnows_0 : decode cX4_whoKnows 0 = .ok (.iconst 0, 1) := dk_3 (dk_at dksX4_whoKnows_0 0 rfl rfl)
theorem dX4_whoKnows_1 : decode cX4_whoKnows 1 = .ok (.istore_n 3, 1) := dk_62 (dk_at dksX4_whoKnows_0 1 rfl rfl)
theorem dX4_whoKnows_2 : decode cX4_whoKnows 2 = .ok (.iconst 0, 1) := dk_3 (dk_at dksX4_whoKnows_0 2 rfl rfl)
theorem dX4_whoKnows_3 : decode cX4_whoKnows 3 = .ok (.istore 4, 2) := dk_54 4 (dk_at dksX4_whoKnows_0 3 rfl rfl)
theorem dX4_whoKnows_5 : decode cX4_whoKnows 5 = .ok (.iload 4, 2) := dk_21 4 (dk_at dksX4_whoKnows_0 5 rfl rfl)
theorem dX4_whoKnows_7 : decode cX4_whoKnows 7 = .ok (.aload_n 0, 1) := dk_42 (dk_at dksX4_whoKnows_0 7 rfl rfl)
theorem dX4_whoKnows_8 : decode cX4_whoKnows 8 = .ok (.getfield 41, 3) := dk_180 0 41 (dk_at dksX4_whoKnows_0 8 rfl rfl)
theorem dX4_whoKnows_11 : decode cX4_whoKnows 11 = .ok (.if_icmp .ge 36, 3) := dk_162 0 36 (dk_at dksX4_whoKnows_0 11 rfl rfl)
theorem dX4_whoKnows_14 : decode cX4_whoKnows 14 = .ok (.iload_n 3, 1) := dk_29 (dk_at dksX4_whoKnows_0 14 rfl rfl)
theorem dX4_whoKnows_15 : decode cX4_whoKnows 15 = .ok (.aload_n 0, 1) := dk_42 (dk_at dksX4_whoKnows_0 15 rfl rfl)
theorem dX4_whoKnows_16 : decode cX4_whoKnows 16 = .ok (.getfield 17, 3) := dk_180 0 17 (dk_at dksX4_whoKnows_0 16 rfl rfl)
theorem dX4_whoKnows_19 : decode cX4_whoKnows 19 = .ok (.iload_n 2, 1) := dk_28 (dk_at dksX4_whoKnows_0 19 rfl rfl)
theorem dX4_whoKnows_20 : decode cX4_whoKnows 20 = .ok (.aaload, 1) := dk_50 (dk_at dksX4_whoKnows_0 20 rfl rfl)
theorem dX4_whoKnows_21 : decode cX4_whoKnows 21 = .ok (.iload 4, 2) := dk_21 4 (dk_at dksX4_whoKnows_0 21 rfl rfl)
theorem dX4_whoKnows_23 : decode cX4_whoKnows 23 = .ok (.iaload, 1) := dk_46 (dk_at dksX4_whoKnows_0 23 rfl rfl)
theorem dX4_whoKnows_24 : decode cX4_whoKnows 24 = .ok (.iload_n 1, 1) := dk_27 (dk_at dksX4_whoKnows_1 0 rfl rfl)
theorem dX4_whoKnows_25 : decode cX4_whoKnows 25 = .ok (.invokestatic 51, 3) := dk_184 0 51 (dk_at dksX4_whoKnows_1 1 rfl rfl)
theorem dX4_whoKnows_28 : decode cX4_whoKnows 28 = .ok (.ifCond .eq 10, 3) := dk_153 0 10 (dk_at dksX4_whoKnows_1 4 rfl rfl)
theorem dX4_whoKnows_31 : decode cX4_whoKnows 31 = .ok (.iconst 1, 1) := dk_4 (dk_at dksX4_whoKnows_1 7 rfl rfl)
theorem dX4_whoKnows_32 : decode cX4_whoKnows 32 = .ok (.iload 4, 2) := dk_21 4 (dk_at dksX4_whoKnows_1 8 rfl rfl)
theorem dX4_whoKnows_34 : decode cX4_whoKnows 34 = .ok (.ishl, 1) := dk_120 (dk_at dksX4_whoKnows_1 10 rfl rfl)
theorem dX4_whoKnows_35 : decode cX4_whoKnows 35 = .ok (.goto 4, 3) := dk_167 0 4 (dk_at dksX4_whoKnows_1 11 rfl rfl)
theorem dX4_whoKnows_38 : decode cX4_whoKnows 38 = .ok (.iconst 0, 1) := dk_3 (dk_at dksX4_whoKnows_1 14 rfl rfl)
theorem dX4_whoKnows_39 : decode cX4_whoKnows 39 = .ok (.ior, 1) := dk_128 (dk_at dksX4_whoKnows_1 15 rfl rfl)
theorem dX4_whoKnows_40 : decode cX4_whoKnows 40 = .ok (.istore_n 3, 1) := dk_62 (dk_at dksX4_whoKnows_1 16 rfl rfl)
theorem dX4_whoKnows_41 : decode cX4_whoKnows 41 = .ok (.iinc 4 1, 3) := dk_132 4 1 (dk_at dksX4_whoKnows_1 17 rfl rfl)
theorem dX4_whoKnows_44 : decode cX4_whoKnows 44 = .ok (.goto (-39), 3) := dk_167 255 217 (dk_at dksX4_whoKnows_1 20 rfl rfl)
theorem dX4_whoKnows_47 : decode cX4_whoKnows 47 = .ok (.iload_n 3, 1) := dk_29 (dk_at dksX4_whoKnows_1 23 rfl rfl)
theorem dX4_whoKnows_48 : decode cX4_whoKnows 48 = .ok (.ireturn, 1) := dk_172 (dk_at dksX4_whoKnows_2 0 rfl rfl)
abbrev cX4_isLate : ByteArray := prog_13_method_18_code
def yX4_isLate : MethodName := ⟨RX4, "isLate", "(I)Z"⟩
def dkwX4_isLate_0 : List UInt8 := [42, 180, 0, 47, 27, 96, 18, 78, 164, 0, 7, 4, 167, 0, 4, 3, 172]
abbrev dktX4_isLate_0 : List UInt8 := dkwX4_isLate_0 ++ []
theorem dksX4_isLate_0 : cX4_isLate.data.toList.drop 0 = dktX4_isLate_0 := by decide +kernel
theorem dX4_isLate_0 : decode cX4_isLate 0 = .ok (.aload_n 0, 1) := dk_42 (dk_at dksX4_isLate_0 0 rfl rfl)
theorem dX4_isLate_1 : decode cX4_isLate 1 = .ok (.getfield 47, 3) := dk_180 0 47 (dk_at dksX4_isLate_0 1 rfl rfl)
theorem dX4_isLate_4 : decode cX4_isLate 4 = .ok (.iload_n 1, 1) := dk_27 (dk_at dksX4_isLate_0 4 rfl rfl)
theorem dX4_isLate_5 : decode cX4_isLate 5 = .ok (.iadd, 1) := dk_96 (dk_at dksX4_isLate_0 5 rfl rfl)
theorem dX4_isLate_6 : decode cX4_isLate 6 = .ok (.ldc 78, 2) := dk_18 78 (dk_at dksX4_isLate_0 6 rfl rfl)
theorem dX4_isLate_8 : decode cX4_isLate 8 = .ok (.if_icmp .le 7, 3) := dk_164 0 7 (dk_at dksX4_isLate_0 8 rfl rfl)
theorem dX4_isLate_11 : decode cX4_isLate 11 = .ok (.iconst 1, 1) := dk_4 (dk_at dksX4_isLate_0 11 rfl rfl)
theorem dX4_isLate_12 : decode cX4_isLate 12 = .ok (.goto 4, 3) := dk_167 0 4 (dk_at dksX4_isLate_0 12 rfl rfl)
theorem dX4_isLate_15 : decode cX4_isLate 15 = .ok (.iconst 0, 1) := dk_3 (dk_at dksX4_isLate_0 15 rfl rfl)
theorem dX4_isLate_16 : decode cX4_isLate 16 = .ok (.ireturn, 1) := dk_172 (dk_at dksX4_isLate_0 16 rfl rfl)
abbrev cX4_now : ByteArray := prog_13_method_14_code
def yX4_now : MethodName := ⟨RX4, "now", "()I"⟩
def dkwX4_now_0 : List UInt8 := [42, 180, 0, 9, 42, 180, 0, 47, 16, 6, 112, 46, 172]
abbrev dktX4_now_0 : List UInt8 := dkwX4_now_0 ++ []
theorem dksX4_now_0 : cX4_now.data.toList.drop 0 = dktX4_now_0 := by decide +kernel
theorem dX4_now_0 : decode cX4_now 0 = .ok (.aload_n 0, 1) := dk_42 (dk_at dksX4_now_0 0 rfl rfl)
theorem dX4_now_1 : decode cX4_now 1 = .ok (.getfield 9, 3) := dk_180 0 9 (dk_at dksX4_now_0 1 rfl rfl)
theorem dX4_now_4 : decode cX4_now 4 = .ok (.aload_n 0, 1) := dk_42 (dk_at dksX4_now_0 4 rfl rfl)
theorem dX4_now_5 : decode cX4_now 5 = .ok (.getfield 47, 3) := dk_180 0 47 (dk_at dksX4_now_0 5 rfl rfl)
theorem dX4_now_8 : decode cX4_now 8 = .ok (.bipush 6, 2) := dk_16 6 (dk_at dksX4_now_0 8 rfl rfl)
theorem dX4_now_10 : decode cX4_now 10 = .ok (.irem, 1) := dk_112 (dk_at dksX4_now_0 10 rfl rfl)
theorem dX4_now_11 : decode cX4_now 11 = .ok (.iaload, 1) := dk_46 (dk_at dksX4_now_0 11 rfl rfl)
theorem dX4_now_12 : decode cX4_now 12 = .ok (.ireturn, 1) := dk_172 (dk_at dksX4_now_0 12 rfl rfl)
abbrev cX4_learns : ByteArray := prog_13_method_15_code
def yX4_learns : MethodName := ⟨RX4, "learns", "(III)V"⟩
def dkwX4_learns_2 : List UInt8 := [2, 130, 126, 167, 0, 5, 21, 4, 79, 177]
abbrev dktX4_learns_2 : List UInt8 := dkwX4_learns_2 ++ []
def dkwX4_learns_1 : List UInt8 := [42, 180, 0, 17, 6, 50, 27, 21, 4, 184, 0, 66, 29, 164, 0, 17, 21, 4, 21, 5, 21, 5, 116, 126]
abbrev dktX4_learns_1 : List UInt8 := dkwX4_learns_1 ++ dktX4_learns_2
def dkwX4_learns_0 : List UInt8 := [42, 180, 0, 17, 6, 50, 27, 46, 4, 28, 120, 128, 54, 4, 21, 4, 4, 28, 120, 2, 130, 126, 54, 5]
abbrev dktX4_learns_0 : List UInt8 := dkwX4_learns_0 ++ dktX4_learns_1
theorem dksX4_learns_0 : cX4_learns.data.toList.drop 0 = dktX4_learns_0 := by decide +kernel
theorem dksX4_learns_1 : cX4_learns.data.toList.drop 24 = dktX4_learns_1 := dk_seg dksX4_learns_0 24 rfl rfl
theorem dksX4_learns_2 : cX4_learns.data.toList.drop 48 = dktX4_learns_2 := dk_seg dksX4_learns_1 24 rfl rfl
theorem dX4_learns_0 : decode cX4_learns 0 = .ok (.aload_n 0, 1) := dk_42 (dk_at dksX4_learns_0 0 rfl rfl)
theorem dX4_learns_1 : decode cX4_learns 1 = .ok (.getfield 17, 3) := dk_180 0 17 (dk_at dksX4_learns_0 1 rfl rfl)
theorem dX4_learns_4 : decode cX4_learns 4 = .ok (.iconst 3, 1) := dk_6 (dk_at dksX4_learns_0 4 rfl rfl)
theorem dX4_learns_5 : decode cX4_learns 5 = .ok (.aaload, 1) := dk_50 (dk_at dksX4_learns_0 5 rfl rfl)
theorem dX4_learns_6 : decode cX4_learns 6 = .ok (.iload_n 1, 1) := dk_27 (dk_at dksX4_learns_0 6 rfl rfl)
theorem dX4_learns_7 : decode cX4_learns 7 = .ok (.iaload, 1) := dk_46 (dk_at dksX4_learns_0 7 rfl rfl)
theorem dX4_learns_8 : decode cX4_learns 8 = .ok (.iconst 1, 1) := dk_4 (dk_at dksX4_learns_0 8 rfl rfl)
theorem dX4_learns_9 : decode cX4_learns 9 = .ok (.iload_n 2, 1) := dk_28 (dk_at dksX4_learns_0 9 rfl rfl)
theorem dX4_learns_10 : decode cX4_learns 10 = .ok (.ishl, 1) := dk_120 (dk_at dksX4_learns_0 10 rfl rfl)
theorem dX4_learns_11 : decode cX4_learns 11 = .ok (.ior, 1) := dk_128 (dk_at dksX4_learns_0 11 rfl rfl)
theorem dX4_learns_12 : decode cX4_learns 12 = .ok (.istore 4, 2) := dk_54 4 (dk_at dksX4_learns_0 12 rfl rfl)
theorem dX4_learns_14 : decode cX4_learns 14 = .ok (.iload 4, 2) := dk_21 4 (dk_at dksX4_learns_0 14 rfl rfl)
theorem dX4_learns_16 : decode cX4_learns 16 = .ok (.iconst 1, 1) := dk_4 (dk_at dksX4_learns_0 16 rfl rfl)
theorem dX4_learns_17 : decode cX4_learns 17 = .ok (.iload_n 2, 1) := dk_28 (dk_at dksX4_learns_0 17 rfl rfl)
theorem dX4_learns_18 : decode cX4_learns 18 = .ok (.ishl, 1) := dk_120 (dk_at dksX4_learns_0 18 rfl rfl)
theorem dX4_learns_19 : decode cX4_learns 19 = .ok (.iconst (-1), 1) := dk_2 (dk_at dksX4_learns_0 19 rfl rfl)
theorem dX4_learns_20 : decode cX4_learns 20 = .ok (.ixor, 1) := dk_130 (dk_at dksX4_learns_0 20 rfl rfl)
theorem dX4_learns_21 : decode cX4_learns 21 = .ok (.iand, 1) := dk_126 (dk_at dksX4_learns_0 21 rfl rfl)
theorem dX4_learns_22 : decode cX4_learns 22 = .ok (.istore 5, 2) := dk_54 5 (dk_at dksX4_learns_0 22 rfl rfl)
theorem dX4_learns_24 : decode cX4_learns 24 = .ok (.aload_n 0, 1) := dk_42 (dk_at dksX4_learns_1 0 rfl rfl)
theorem dX4_learns_25 : decode cX4_learns 25 = .ok (.getfield 17, 3) := dk_180 0 17 (dk_at dksX4_learns_1 1 rfl rfl)
theorem dX4_learns_28 : decode cX4_learns 28 = .ok (.iconst 3, 1) := dk_6 (dk_at dksX4_learns_1 4 rfl rfl)
theorem dX4_learns_29 : decode cX4_learns 29 = .ok (.aaload, 1) := dk_50 (dk_at dksX4_learns_1 5 rfl rfl)
theorem dX4_learns_30 : decode cX4_learns 30 = .ok (.iload_n 1, 1) := dk_27 (dk_at dksX4_learns_1 6 rfl rfl)
theorem dX4_learns_31 : decode cX4_learns 31 = .ok (.iload 4, 2) := dk_21 4 (dk_at dksX4_learns_1 7 rfl rfl)
theorem dX4_learns_33 : decode cX4_learns 33 = .ok (.invokestatic 66, 3) := dk_184 0 66 (dk_at dksX4_learns_1 9 rfl rfl)
theorem dX4_learns_36 : decode cX4_learns 36 = .ok (.iload_n 3, 1) := dk_29 (dk_at dksX4_learns_1 12 rfl rfl)
theorem dX4_learns_37 : decode cX4_learns 37 = .ok (.if_icmp .le 17, 3) := dk_164 0 17 (dk_at dksX4_learns_1 13 rfl rfl)
theorem dX4_learns_40 : decode cX4_learns 40 = .ok (.iload 4, 2) := dk_21 4 (dk_at dksX4_learns_1 16 rfl rfl)
theorem dX4_learns_42 : decode cX4_learns 42 = .ok (.iload 5, 2) := dk_21 5 (dk_at dksX4_learns_1 18 rfl rfl)
theorem dX4_learns_44 : decode cX4_learns 44 = .ok (.iload 5, 2) := dk_21 5 (dk_at dksX4_learns_1 20 rfl rfl)
theorem dX4_learns_46 : decode cX4_learns 46 = .ok (.ineg, 1) := dk_116 (dk_at dksX4_learns_1 22 rfl rfl)
theorem dX4_learns_47 : decode cX4_learns 47 = .ok (.iand, 1) := dk_126 (dk_at dksX4_learns_1 23 rfl rfl)
theorem dX4_learns_48 : decode cX4_learns 48 = .ok (.iconst (-1), 1) := dk_2 (dk_at dksX4_learns_2 0 rfl rfl)
theorem dX4_learns_49 : decode cX4_learns 49 = .ok (.ixor, 1) := dk_130 (dk_at dksX4_learns_2 1 rfl rfl)
theorem dX4_learns_50 : decode cX4_learns 50 = .ok (.iand, 1) := dk_126 (dk_at dksX4_learns_2 2 rfl rfl)
theorem dX4_learns_51 : decode cX4_learns 51 = .ok (.goto 5, 3) := dk_167 0 5 (dk_at dksX4_learns_2 3 rfl rfl)
theorem dX4_learns_54 : decode cX4_learns 54 = .ok (.iload 4, 2) := dk_21 4 (dk_at dksX4_learns_2 6 rfl rfl)
theorem dX4_learns_56 : decode cX4_learns 56 = .ok (.iastore, 1) := dk_79 (dk_at dksX4_learns_2 8 rfl rfl)
theorem dX4_learns_57 : decode cX4_learns 57 = .ok (.return_, 1) := dk_177 (dk_at dksX4_learns_2 9 rfl rfl)
abbrev cX4_lies : ByteArray := prog_13_method_17_code
def yX4_lies : MethodName := ⟨RX4, "lies", "(II)V"⟩
def dkwX4_lies_1 : List UInt8 := [28, 158, 0, 20, 42, 180, 0, 17, 7, 50, 27, 46, 28, 161, 0, 8, 42, 27, 182, 0, 74, 177]
abbrev dktX4_lies_1 : List UInt8 := dkwX4_lies_1 ++ []
def dkwX4_lies_0 : List UInt8 := [42, 180, 0, 17, 7, 50, 27, 17, 39, 15, 42, 180, 0, 17, 7, 50, 27, 46, 4, 96, 184, 0, 69, 79]
abbrev dktX4_lies_0 : List UInt8 := dkwX4_lies_0 ++ dktX4_lies_1
theorem dksX4_lies_0 : cX4_lies.data.toList.drop 0 = dktX4_lies_0 := by decide +kernel
theorem dksX4_lies_1 : cX4_lies.data.toList.drop 24 = dktX4_lies_1 := dk_seg dksX4_lies_0 24 rfl rfl
theorem dX4_lies_0 : decode cX4_lies 0 = .ok (.aload_n 0, 1) := dk_42 (dk_at dksX4_lies_0 0 rfl rfl)
theorem dX4_lies_1 : decode cX4_lies 1 = .ok (.getfield 17, 3) := dk_180 0 17 (dk_at dksX4_lies_0 1 rfl rfl)
theorem dX4_lies_4 : decode cX4_lies 4 = .ok (.iconst 4, 1) := dk_7 (dk_at dksX4_lies_0 4 rfl rfl)
theorem dX4_lies_5 : decode cX4_lies 5 = .ok (.aaload, 1) := dk_50 (dk_at dksX4_lies_0 5 rfl rfl)
theorem dX4_lies_6 : decode cX4_lies 6 = .ok (.iload_n 1, 1) := dk_27 (dk_at dksX4_lies_0 6 rfl rfl)
theorem dX4_lies_7 : decode cX4_lies 7 = .ok (.sipush 9999, 3) := dk_17 39 15 (dk_at dksX4_lies_0 7 rfl rfl)
theorem dX4_lies_10 : decode cX4_lies 10 = .ok (.aload_n 0, 1) := dk_42 (dk_at dksX4_lies_0 10 rfl rfl)
theorem dX4_lies_11 : decode cX4_lies 11 = .ok (.getfield 17, 3) := dk_180 0 17 (dk_at dksX4_lies_0 11 rfl rfl)
theorem dX4_lies_14 : decode cX4_lies 14 = .ok (.iconst 4, 1) := dk_7 (dk_at dksX4_lies_0 14 rfl rfl)
theorem dX4_lies_15 : decode cX4_lies 15 = .ok (.aaload, 1) := dk_50 (dk_at dksX4_lies_0 15 rfl rfl)
theorem dX4_lies_16 : decode cX4_lies 16 = .ok (.iload_n 1, 1) := dk_27 (dk_at dksX4_lies_0 16 rfl rfl)
theorem dX4_lies_17 : decode cX4_lies 17 = .ok (.iaload, 1) := dk_46 (dk_at dksX4_lies_0 17 rfl rfl)
theorem dX4_lies_18 : decode cX4_lies 18 = .ok (.iconst 1, 1) := dk_4 (dk_at dksX4_lies_0 18 rfl rfl)
theorem dX4_lies_19 : decode cX4_lies 19 = .ok (.iadd, 1) := dk_96 (dk_at dksX4_lies_0 19 rfl rfl)
theorem dX4_lies_20 : decode cX4_lies 20 = .ok (.invokestatic 69, 3) := dk_184 0 69 (dk_at dksX4_lies_0 20 rfl rfl)
theorem dX4_lies_23 : decode cX4_lies 23 = .ok (.iastore, 1) := dk_79 (dk_at dksX4_lies_0 23 rfl rfl)
theorem dX4_lies_24 : decode cX4_lies 24 = .ok (.iload_n 2, 1) := dk_28 (dk_at dksX4_lies_1 0 rfl rfl)
theorem dX4_lies_25 : decode cX4_lies 25 = .ok (.ifCond .le 20, 3) := dk_158 0 20 (dk_at dksX4_lies_1 1 rfl rfl)
theorem dX4_lies_28 : decode cX4_lies 28 = .ok (.aload_n 0, 1) := dk_42 (dk_at dksX4_lies_1 4 rfl rfl)
theorem dX4_lies_29 : decode cX4_lies 29 = .ok (.getfield 17, 3) := dk_180 0 17 (dk_at dksX4_lies_1 5 rfl rfl)
theorem dX4_lies_32 : decode cX4_lies 32 = .ok (.iconst 4, 1) := dk_7 (dk_at dksX4_lies_1 8 rfl rfl)
theorem dX4_lies_33 : decode cX4_lies 33 = .ok (.aaload, 1) := dk_50 (dk_at dksX4_lies_1 9 rfl rfl)
theorem dX4_lies_34 : decode cX4_lies 34 = .ok (.iload_n 1, 1) := dk_27 (dk_at dksX4_lies_1 10 rfl rfl)
theorem dX4_lies_35 : decode cX4_lies 35 = .ok (.iaload, 1) := dk_46 (dk_at dksX4_lies_1 11 rfl rfl)
theorem dX4_lies_36 : decode cX4_lies 36 = .ok (.iload_n 2, 1) := dk_28 (dk_at dksX4_lies_1 12 rfl rfl)
theorem dX4_lies_37 : decode cX4_lies 37 = .ok (.if_icmp .lt 8, 3) := dk_161 0 8 (dk_at dksX4_lies_1 13 rfl rfl)
theorem dX4_lies_40 : decode cX4_lies 40 = .ok (.aload_n 0, 1) := dk_42 (dk_at dksX4_lies_1 16 rfl rfl)
theorem dX4_lies_41 : decode cX4_lies 41 = .ok (.iload_n 1, 1) := dk_27 (dk_at dksX4_lies_1 17 rfl rfl)
theorem dX4_lies_42 : decode cX4_lies 42 = .ok (.invokevirtual 74, 3) := dk_182 0 74 (dk_at dksX4_lies_1 18 rfl rfl)
theorem dX4_lies_45 : decode cX4_lies 45 = .ok (.return_, 1) := dk_177 (dk_at dksX4_lies_1 21 rfl rfl)
abbrev cX4_all : ByteArray := prog_13_method_6_code
def yX4_all : MethodName := ⟨RX4, "all", "()I"⟩
def dkwX4_all_0 : List UInt8 := [4, 42, 180, 0, 41, 120, 4, 100, 172]
abbrev dktX4_all_0 : List UInt8 := dkwX4_all_0 ++ []
theorem dksX4_all_0 : cX4_all.data.toList.drop 0 = dktX4_all_0 := by decide +kernel
theorem dX4_all_0 : decode cX4_all 0 = .ok (.iconst 1, 1) := dk_4 (dk_at dksX4_all_0 0 rfl rfl)
theorem dX4_all_1 : decode cX4_all 1 = .ok (.aload_n 0, 1) := dk_42 (dk_at dksX4_all_0 1 rfl rfl)
theorem dX4_all_2 : decode cX4_all 2 = .ok (.getfield 41, 3) := dk_180 0 41 (dk_at dksX4_all_0 2 rfl rfl)
theorem dX4_all_5 : decode cX4_all 5 = .ok (.ishl, 1) := dk_120 (dk_at dksX4_all_0 5 rfl rfl)
theorem dX4_all_6 : decode cX4_all 6 = .ok (.iconst 1, 1) := dk_4 (dk_at dksX4_all_0 6 rfl rfl)
theorem dX4_all_7 : decode cX4_all 7 = .ok (.isub, 1) := dk_100 (dk_at dksX4_all_0 7 rfl rfl)
theorem dX4_all_8 : decode cX4_all 8 = .ok (.ireturn, 1) := dk_172 (dk_at dksX4_all_0 8 rfl rfl)
abbrev cX4_knownBoth : ByteArray := prog_13_method_9_code
def yX4_knownBoth : MethodName := ⟨RX4, "knownBoth", "(I)I"⟩
def dkwX4_knownBoth_0 : List UInt8 := [42, 6, 27, 182, 0, 55, 42, 8, 27, 182, 0, 55, 128, 172]
abbrev dktX4_knownBoth_0 : List UInt8 := dkwX4_knownBoth_0 ++ []
theorem dksX4_knownBoth_0 : cX4_knownBoth.data.toList.drop 0 = dktX4_knownBoth_0 := by decide +kernel
theorem dX4_knownBoth_0 : decode cX4_knownBoth 0 = .ok (.aload_n 0, 1) := dk_42 (dk_at dksX4_knownBoth_0 0 rfl rfl)
theorem dX4_knownBoth_1 : decode cX4_knownBoth 1 = .ok (.iconst 3, 1) := dk_6 (dk_at dksX4_knownBoth_0 1 rfl rfl)
theorem dX4_knownBoth_2 : decode cX4_knownBoth 2 = .ok (.iload_n 1, 1) := dk_27 (dk_at dksX4_knownBoth_0 2 rfl rfl)
theorem dX4_knownBoth_3 : decode cX4_knownBoth 3 = .ok (.invokevirtual 55, 3) := dk_182 0 55 (dk_at dksX4_knownBoth_0 3 rfl rfl)
theorem dX4_knownBoth_6 : decode cX4_knownBoth 6 = .ok (.aload_n 0, 1) := dk_42 (dk_at dksX4_knownBoth_0 6 rfl rfl)
theorem dX4_knownBoth_7 : decode cX4_knownBoth 7 = .ok (.iconst 5, 1) := dk_8 (dk_at dksX4_knownBoth_0 7 rfl rfl)
theorem dX4_knownBoth_8 : decode cX4_knownBoth 8 = .ok (.iload_n 1, 1) := dk_27 (dk_at dksX4_knownBoth_0 8 rfl rfl)
theorem dX4_knownBoth_9 : decode cX4_knownBoth 9 = .ok (.invokevirtual 55, 3) := dk_182 0 55 (dk_at dksX4_knownBoth_0 9 rfl rfl)
theorem dX4_knownBoth_12 : decode cX4_knownBoth 12 = .ok (.ior, 1) := dk_128 (dk_at dksX4_knownBoth_0 12 rfl rfl)
theorem dX4_knownBoth_13 : decode cX4_knownBoth 13 = .ok (.ireturn, 1) := dk_172 (dk_at dksX4_knownBoth_0 13 rfl rfl)
abbrev cX4_drawnInAll : ByteArray := prog_13_method_12_code
def yX4_drawnInAll : MethodName := ⟨RX4, "drawnInAll", "()I"⟩
def dkwX4_drawnInAll_1 : List UInt8 := [132, 2, 1, 167, 255, 233, 27, 172]
abbrev dktX4_drawnInAll_1 : List UInt8 := dkwX4_drawnInAll_1 ++ []
def dkwX4_drawnInAll_0 : List UInt8 := [3, 60, 3, 61, 28, 42, 180, 0, 41, 162, 0, 21, 27, 42, 180, 0, 17, 16, 6, 50, 28, 46, 96, 60]
abbrev dktX4_drawnInAll_0 : List UInt8 := dkwX4_drawnInAll_0 ++ dktX4_drawnInAll_1
theorem dksX4_drawnInAll_0 : cX4_drawnInAll.data.toList.drop 0 = dktX4_drawnInAll_0 := by decide +kernel
theorem dksX4_drawnInAll_1 : cX4_drawnInAll.data.toList.drop 24 = dktX4_drawnInAll_1 := dk_seg dksX4_drawnInAll_0 24 rfl rfl
theorem dX4_drawnInAll_0 : decode cX4_drawnInAll 0 = .ok (.iconst 0, 1) := dk_3 (dk_at dksX4_drawnInAll_0 0 rfl rfl)
theorem dX4_drawnInAll_1 : decode cX4_drawnInAll 1 = .ok (.istore_n 1, 1) := dk_60 (dk_at dksX4_drawnInAll_0 1 rfl rfl)
theorem dX4_drawnInAll_2 : decode cX4_drawnInAll 2 = .ok (.iconst 0, 1) := dk_3 (dk_at dksX4_drawnInAll_0 2 rfl rfl)
theorem dX4_drawnInAll_3 : decode cX4_drawnInAll 3 = .ok (.istore_n 2, 1) := dk_61 (dk_at dksX4_drawnInAll_0 3 rfl rfl)
theorem dX4_drawnInAll_4 : decode cX4_drawnInAll 4 = .ok (.iload_n 2, 1) := dk_28 (dk_at dksX4_drawnInAll_0 4 rfl rfl)
theorem dX4_drawnInAll_5 : decode cX4_drawnInAll 5 = .ok (.aload_n 0, 1) := dk_42 (dk_at dksX4_drawnInAll_0 5 rfl rfl)
theorem dX4_drawnInAll_6 : decode cX4_drawnInAll 6 = .ok (.getfield 41, 3) := dk_180 0 41 (dk_at dksX4_drawnInAll_0 6 rfl rfl)
theorem dX4_drawnInAll_9 : decode cX4_drawnInAll 9 = .ok (.if_icmp .ge 21, 3) := dk_162 0 21 (dk_at dksX4_drawnInAll_0 9 rfl rfl)
theorem dX4_drawnInAll_12 : decode cX4_drawnInAll 12 = .ok (.iload_n 1, 1) := dk_27 (dk_at dksX4_drawnInAll_0 12 rfl rfl)
theorem dX4_drawnInAll_13 : decode cX4_drawnInAll 13 = .ok (.aload_n 0, 1) := dk_42 (dk_at dksX4_drawnInAll_0 13 rfl rfl)
theorem dX4_drawnInAll_14 : decode cX4_drawnInAll 14 = .ok (.getfield 17, 3) := dk_180 0 17 (dk_at dksX4_drawnInAll_0 14 rfl rfl)
theorem dX4_drawnInAll_17 : decode cX4_drawnInAll 17 = .ok (.bipush 6, 2) := dk_16 6 (dk_at dksX4_drawnInAll_0 17 rfl rfl)
theorem dX4_drawnInAll_19 : decode cX4_drawnInAll 19 = .ok (.aaload, 1) := dk_50 (dk_at dksX4_drawnInAll_0 19 rfl rfl)
theorem dX4_drawnInAll_20 : decode cX4_drawnInAll 20 = .ok (.iload_n 2, 1) := dk_28 (dk_at dksX4_drawnInAll_0 20 rfl rfl)
theorem dX4_drawnInAll_21 : decode cX4_drawnInAll 21 = .ok (.iaload, 1) := dk_46 (dk_at dksX4_drawnInAll_0 21 rfl rfl)
theorem dX4_drawnInAll_22 : decode cX4_drawnInAll 22 = .ok (.iadd, 1) := dk_96 (dk_at dksX4_drawnInAll_0 22 rfl rfl)
theorem dX4_drawnInAll_23 : decode cX4_drawnInAll 23 = .ok (.istore_n 1, 1) := dk_60 (dk_at dksX4_drawnInAll_0 23 rfl rfl)
theorem dX4_drawnInAll_24 : decode cX4_drawnInAll 24 = .ok (.iinc 2 1, 3) := dk_132 2 1 (dk_at dksX4_drawnInAll_1 0 rfl rfl)
theorem dX4_drawnInAll_27 : decode cX4_drawnInAll 27 = .ok (.goto (-23), 3) := dk_167 255 233 (dk_at dksX4_drawnInAll_1 3 rfl rfl)
theorem dX4_drawnInAll_30 : decode cX4_drawnInAll 30 = .ok (.iload_n 1, 1) := dk_27 (dk_at dksX4_drawnInAll_1 6 rfl rfl)
theorem dX4_drawnInAll_31 : decode cX4_drawnInAll 31 = .ok (.ireturn, 1) := dk_172 (dk_at dksX4_drawnInAll_1 7 rfl rfl)
abbrev cX4_wisest : ByteArray := prog_13_method_13_code
def yX4_wisest : MethodName := ⟨RX4, "wisest", "()I"⟩
def dkwX4_wisest_2 : List UInt8 := [132, 2, 1, 167, 255, 209, 27, 172]
abbrev dktX4_wisest_2 : List UInt8 := dkwX4_wisest_2 ++ []
def dkwX4_wisest_1 : List UInt8 := [46, 184, 0, 66, 42, 180, 0, 17, 8, 50, 27, 46, 184, 0, 66, 164, 0, 7, 28, 167, 0, 4, 27, 60]
abbrev dktX4_wisest_1 : List UInt8 := dkwX4_wisest_1 ++ dktX4_wisest_2
def dkwX4_wisest_0 : List UInt8 := [2, 60, 3, 61, 28, 42, 180, 0, 41, 162, 0, 45, 27, 2, 159, 0, 28, 42, 180, 0, 17, 8, 50, 28]
abbrev dktX4_wisest_0 : List UInt8 := dkwX4_wisest_0 ++ dktX4_wisest_1
theorem dksX4_wisest_0 : cX4_wisest.data.toList.drop 0 = dktX4_wisest_0 := by decide +kernel
theorem dksX4_wisest_1 : cX4_wisest.data.toList.drop 24 = dktX4_wisest_1 := dk_seg dksX4_wisest_0 24 rfl rfl
theorem dksX4_wisest_2 : cX4_wisest.data.toList.drop 48 = dktX4_wisest_2 := dk_seg dksX4_wisest_1 24 rfl rfl
theorem dX4_wisest_0 : decode cX4_wisest 0 = .ok (.iconst (-1), 1) := dk_2 (dk_at dksX4_wisest_0 0 rfl rfl)
theorem dX4_wisest_1 : decode cX4_wisest 1 = .ok (.istore_n 1, 1) := dk_60 (dk_at dksX4_wisest_0 1 rfl rfl)
theorem dX4_wisest_2 : decode cX4_wisest 2 = .ok (.iconst 0, 1) := dk_3 (dk_at dksX4_wisest_0 2 rfl rfl)
theorem dX4_wisest_3 : decode cX4_wisest 3 = .ok (.istore_n 2, 1) := dk_61 (dk_at dksX4_wisest_0 3 rfl rfl)
theorem dX4_wisest_4 : decode cX4_wisest 4 = .ok (.iload_n 2, 1) := dk_28 (dk_at dksX4_wisest_0 4 rfl rfl)
theorem dX4_wisest_5 : decode cX4_wisest 5 = .ok (.aload_n 0, 1) := dk_42 (dk_at dksX4_wisest_0 5 rfl rfl)
theorem dX4_wisest_6 : decode cX4_wisest 6 = .ok (.getfield 41, 3) := dk_180 0 41 (dk_at dksX4_wisest_0 6 rfl rfl)
theorem dX4_wisest_9 : decode cX4_wisest 9 = .ok (.if_icmp .ge 45, 3) := dk_162 0 45 (dk_at dksX4_wisest_0 9 rfl rfl)
theorem dX4_wisest_12 : decode cX4_wisest 12 = .ok (.iload_n 1, 1) := dk_27 (dk_at dksX4_wisest_0 12 rfl rfl)
theorem dX4_wisest_13 : decode cX4_wisest 13 = .ok (.iconst (-1), 1) := dk_2 (dk_at dksX4_wisest_0 13 rfl rfl)
theorem dX4_wisest_14 : decode cX4_wisest 14 = .ok (.if_icmp .eq 28, 3) := dk_159 0 28 (dk_at dksX4_wisest_0 14 rfl rfl)
theorem dX4_wisest_17 : decode cX4_wisest 17 = .ok (.aload_n 0, 1) := dk_42 (dk_at dksX4_wisest_0 17 rfl rfl)
theorem dX4_wisest_18 : decode cX4_wisest 18 = .ok (.getfield 17, 3) := dk_180 0 17 (dk_at dksX4_wisest_0 18 rfl rfl)
theorem dX4_wisest_21 : decode cX4_wisest 21 = .ok (.iconst 5, 1) := dk_8 (dk_at dksX4_wisest_0 21 rfl rfl)
theorem dX4_wisest_22 : decode cX4_wisest 22 = .ok (.aaload, 1) := dk_50 (dk_at dksX4_wisest_0 22 rfl rfl)
theorem dX4_wisest_23 : decode cX4_wisest 23 = .ok (.iload_n 2, 1) := dk_28 (dk_at dksX4_wisest_0 23 rfl rfl)
theorem dX4_wisest_24 : decode cX4_wisest 24 = .ok (.iaload, 1) := dk_46 (dk_at dksX4_wisest_1 0 rfl rfl)
theorem dX4_wisest_25 : decode cX4_wisest 25 = .ok (.invokestatic 66, 3) := dk_184 0 66 (dk_at dksX4_wisest_1 1 rfl rfl)
theorem dX4_wisest_28 : decode cX4_wisest 28 = .ok (.aload_n 0, 1) := dk_42 (dk_at dksX4_wisest_1 4 rfl rfl)
theorem dX4_wisest_29 : decode cX4_wisest 29 = .ok (.getfield 17, 3) := dk_180 0 17 (dk_at dksX4_wisest_1 5 rfl rfl)
theorem dX4_wisest_32 : decode cX4_wisest 32 = .ok (.iconst 5, 1) := dk_8 (dk_at dksX4_wisest_1 8 rfl rfl)
theorem dX4_wisest_33 : decode cX4_wisest 33 = .ok (.aaload, 1) := dk_50 (dk_at dksX4_wisest_1 9 rfl rfl)
theorem dX4_wisest_34 : decode cX4_wisest 34 = .ok (.iload_n 1, 1) := dk_27 (dk_at dksX4_wisest_1 10 rfl rfl)
theorem dX4_wisest_35 : decode cX4_wisest 35 = .ok (.iaload, 1) := dk_46 (dk_at dksX4_wisest_1 11 rfl rfl)
theorem dX4_wisest_36 : decode cX4_wisest 36 = .ok (.invokestatic 66, 3) := dk_184 0 66 (dk_at dksX4_wisest_1 12 rfl rfl)
theorem dX4_wisest_39 : decode cX4_wisest 39 = .ok (.if_icmp .le 7, 3) := dk_164 0 7 (dk_at dksX4_wisest_1 15 rfl rfl)
theorem dX4_wisest_42 : decode cX4_wisest 42 = .ok (.iload_n 2, 1) := dk_28 (dk_at dksX4_wisest_1 18 rfl rfl)
theorem dX4_wisest_43 : decode cX4_wisest 43 = .ok (.goto 4, 3) := dk_167 0 4 (dk_at dksX4_wisest_1 19 rfl rfl)
theorem dX4_wisest_46 : decode cX4_wisest 46 = .ok (.iload_n 1, 1) := dk_27 (dk_at dksX4_wisest_1 22 rfl rfl)
theorem dX4_wisest_47 : decode cX4_wisest 47 = .ok (.istore_n 1, 1) := dk_60 (dk_at dksX4_wisest_1 23 rfl rfl)
theorem dX4_wisest_48 : decode cX4_wisest 48 = .ok (.iinc 2 1, 3) := dk_132 2 1 (dk_at dksX4_wisest_2 0 rfl rfl)
theorem dX4_wisest_51 : decode cX4_wisest 51 = .ok (.goto (-47), 3) := dk_167 255 209 (dk_at dksX4_wisest_2 3 rfl rfl)
theorem dX4_wisest_54 : decode cX4_wisest 54 = .ok (.iload_n 1, 1) := dk_27 (dk_at dksX4_wisest_2 6 rfl rfl)
theorem dX4_wisest_55 : decode cX4_wisest 55 = .ok (.ireturn, 1) := dk_172 (dk_at dksX4_wisest_2 7 rfl rfl)
abbrev cX4_become : ByteArray := prog_13_method_3_code
def yX4_become : MethodName := ⟨RX4, "become", "(LLeftGloves$World;)V"⟩
def dkwX4_become_3 : List UInt8 := [43, 180, 0, 24, 42, 180, 0, 24, 184, 0, 37, 177]
abbrev dktX4_become_3 : List UInt8 := dkwX4_become_3 ++ []
def dkwX4_become_2 : List UInt8 := [42, 43, 180, 0, 44, 181, 0, 44, 42, 43, 180, 0, 47, 181, 0, 47, 42, 43, 180, 0, 20, 181, 0, 20]
abbrev dktX4_become_2 : List UInt8 := dkwX4_become_2 ++ dktX4_become_3
def dkwX4_become_1 : List UInt8 := [162, 0, 24, 43, 180, 0, 17, 28, 50, 42, 180, 0, 17, 28, 50, 184, 0, 37, 132, 2, 1, 167, 255, 232]
abbrev dktX4_become_1 : List UInt8 := dkwX4_become_1 ++ dktX4_become_2
def dkwX4_become_0 : List UInt8 := [43, 180, 0, 9, 42, 180, 0, 9, 184, 0, 37, 42, 43, 180, 0, 41, 181, 0, 41, 3, 61, 28, 16, 7]
abbrev dktX4_become_0 : List UInt8 := dkwX4_become_0 ++ dktX4_become_1
theorem dksX4_become_0 : cX4_become.data.toList.drop 0 = dktX4_become_0 := by decide +kernel
theorem dksX4_become_1 : cX4_become.data.toList.drop 24 = dktX4_become_1 := dk_seg dksX4_become_0 24 rfl rfl
theorem dksX4_become_2 : cX4_become.data.toList.drop 48 = dktX4_become_2 := dk_seg dksX4_become_1 24 rfl rfl
theorem dksX4_become_3 : cX4_become.data.toList.drop 72 = dktX4_become_3 := dk_seg dksX4_become_2 24 rfl rfl
theorem dX4_become_0 : decode cX4_become 0 = .ok (.aload_n 1, 1) := dk_43 (dk_at dksX4_become_0 0 rfl rfl)
theorem dX4_become_1 : decode cX4_become 1 = .ok (.getfield 9, 3) := dk_180 0 9 (dk_at dksX4_become_0 1 rfl rfl)
theorem dX4_become_4 : decode cX4_become 4 = .ok (.aload_n 0, 1) := dk_42 (dk_at dksX4_become_0 4 rfl rfl)
theorem dX4_become_5 : decode cX4_become 5 = .ok (.getfield 9, 3) := dk_180 0 9 (dk_at dksX4_become_0 5 rfl rfl)
theorem dX4_become_8 : decode cX4_become 8 = .ok (.invokestatic 37, 3) := dk_184 0 37 (dk_at dksX4_become_0 8 rfl rfl)
theorem dX4_become_11 : decode cX4_become 11 = .ok (.aload_n 0, 1) := dk_42 (dk_at dksX4_become_0 11 rfl rfl)
theorem dX4_become_12 : decode cX4_become 12 = .ok (.aload_n 1, 1) := dk_43 (dk_at dksX4_become_0 12 rfl rfl)
theorem dX4_become_13 : decode cX4_become 13 = .ok (.getfield 41, 3) := dk_180 0 41 (dk_at dksX4_become_0 13 rfl rfl)
theorem dX4_become_16 : decode cX4_become 16 = .ok (.putfield 41, 3) := dk_181 0 41 (dk_at dksX4_become_0 16 rfl rfl)
theorem dX4_become_19 : decode cX4_become 19 = .ok (.iconst 0, 1) := dk_3 (dk_at dksX4_become_0 19 rfl rfl)
theorem dX4_become_20 : decode cX4_become 20 = .ok (.istore_n 2, 1) := dk_61 (dk_at dksX4_become_0 20 rfl rfl)
theorem dX4_become_21 : decode cX4_become 21 = .ok (.iload_n 2, 1) := dk_28 (dk_at dksX4_become_0 21 rfl rfl)
theorem dX4_become_22 : decode cX4_become 22 = .ok (.bipush 7, 2) := dk_16 7 (dk_at dksX4_become_0 22 rfl rfl)
theorem dX4_become_24 : decode cX4_become 24 = .ok (.if_icmp .ge 24, 3) := dk_162 0 24 (dk_at dksX4_become_1 0 rfl rfl)
theorem dX4_become_27 : decode cX4_become 27 = .ok (.aload_n 1, 1) := dk_43 (dk_at dksX4_become_1 3 rfl rfl)
theorem dX4_become_28 : decode cX4_become 28 = .ok (.getfield 17, 3) := dk_180 0 17 (dk_at dksX4_become_1 4 rfl rfl)
theorem dX4_become_31 : decode cX4_become 31 = .ok (.iload_n 2, 1) := dk_28 (dk_at dksX4_become_1 7 rfl rfl)
theorem dX4_become_32 : decode cX4_become 32 = .ok (.aaload, 1) := dk_50 (dk_at dksX4_become_1 8 rfl rfl)
theorem dX4_become_33 : decode cX4_become 33 = .ok (.aload_n 0, 1) := dk_42 (dk_at dksX4_become_1 9 rfl rfl)
theorem dX4_become_34 : decode cX4_become 34 = .ok (.getfield 17, 3) := dk_180 0 17 (dk_at dksX4_become_1 10 rfl rfl)
theorem dX4_become_37 : decode cX4_become 37 = .ok (.iload_n 2, 1) := dk_28 (dk_at dksX4_become_1 13 rfl rfl)
theorem dX4_become_38 : decode cX4_become 38 = .ok (.aaload, 1) := dk_50 (dk_at dksX4_become_1 14 rfl rfl)
theorem dX4_become_39 : decode cX4_become 39 = .ok (.invokestatic 37, 3) := dk_184 0 37 (dk_at dksX4_become_1 15 rfl rfl)
theorem dX4_become_42 : decode cX4_become 42 = .ok (.iinc 2 1, 3) := dk_132 2 1 (dk_at dksX4_become_1 18 rfl rfl)
theorem dX4_become_45 : decode cX4_become 45 = .ok (.goto (-24), 3) := dk_167 255 232 (dk_at dksX4_become_1 21 rfl rfl)
theorem dX4_become_48 : decode cX4_become 48 = .ok (.aload_n 0, 1) := dk_42 (dk_at dksX4_become_2 0 rfl rfl)
theorem dX4_become_49 : decode cX4_become 49 = .ok (.aload_n 1, 1) := dk_43 (dk_at dksX4_become_2 1 rfl rfl)
theorem dX4_become_50 : decode cX4_become 50 = .ok (.getfield 44, 3) := dk_180 0 44 (dk_at dksX4_become_2 2 rfl rfl)
theorem dX4_become_53 : decode cX4_become 53 = .ok (.putfield 44, 3) := dk_181 0 44 (dk_at dksX4_become_2 5 rfl rfl)
theorem dX4_become_56 : decode cX4_become 56 = .ok (.aload_n 0, 1) := dk_42 (dk_at dksX4_become_2 8 rfl rfl)
theorem dX4_become_57 : decode cX4_become 57 = .ok (.aload_n 1, 1) := dk_43 (dk_at dksX4_become_2 9 rfl rfl)
theorem dX4_become_58 : decode cX4_become 58 = .ok (.getfield 47, 3) := dk_180 0 47 (dk_at dksX4_become_2 10 rfl rfl)
theorem dX4_become_61 : decode cX4_become 61 = .ok (.putfield 47, 3) := dk_181 0 47 (dk_at dksX4_become_2 13 rfl rfl)
theorem dX4_become_64 : decode cX4_become 64 = .ok (.aload_n 0, 1) := dk_42 (dk_at dksX4_become_2 16 rfl rfl)
theorem dX4_become_65 : decode cX4_become 65 = .ok (.aload_n 1, 1) := dk_43 (dk_at dksX4_become_2 17 rfl rfl)
theorem dX4_become_66 : decode cX4_become 66 = .ok (.getfield 20, 3) := dk_180 0 20 (dk_at dksX4_become_2 18 rfl rfl)
theorem dX4_become_69 : decode cX4_become 69 = .ok (.putfield 20, 3) := dk_181 0 20 (dk_at dksX4_become_2 21 rfl rfl)
theorem dX4_become_72 : decode cX4_become 72 = .ok (.aload_n 1, 1) := dk_43 (dk_at dksX4_become_3 0 rfl rfl)
theorem dX4_become_73 : decode cX4_become 73 = .ok (.getfield 24, 3) := dk_180 0 24 (dk_at dksX4_become_3 1 rfl rfl)
theorem dX4_become_76 : decode cX4_become 76 = .ok (.aload_n 0, 1) := dk_42 (dk_at dksX4_become_3 4 rfl rfl)
theorem dX4_become_77 : decode cX4_become 77 = .ok (.getfield 24, 3) := dk_180 0 24 (dk_at dksX4_become_3 5 rfl rfl)
theorem dX4_become_80 : decode cX4_become 80 = .ok (.invokestatic 37, 3) := dk_184 0 37 (dk_at dksX4_become_3 8 rfl rfl)
theorem dX4_become_83 : decode cX4_become 83 = .ok (.return_, 1) := dk_177 (dk_at dksX4_become_3 11 rfl rfl)
abbrev cX4_copy : ByteArray := prog_13_method_2_code
def yX4_copy : MethodName := ⟨RX4, "copy", "([I[I)V"⟩
def dkwX4_copy_0 : List UInt8 := [42, 3, 43, 3, 43, 190, 184, 0, 31, 177]
abbrev dktX4_copy_0 : List UInt8 := dkwX4_copy_0 ++ []
theorem dksX4_copy_0 : cX4_copy.data.toList.drop 0 = dktX4_copy_0 := by decide +kernel
theorem dX4_copy_0 : decode cX4_copy 0 = .ok (.aload_n 0, 1) := dk_42 (dk_at dksX4_copy_0 0 rfl rfl)
theorem dX4_copy_1 : decode cX4_copy 1 = .ok (.iconst 0, 1) := dk_3 (dk_at dksX4_copy_0 1 rfl rfl)
theorem dX4_copy_2 : decode cX4_copy 2 = .ok (.aload_n 1, 1) := dk_43 (dk_at dksX4_copy_0 2 rfl rfl)
theorem dX4_copy_3 : decode cX4_copy 3 = .ok (.iconst 0, 1) := dk_3 (dk_at dksX4_copy_0 3 rfl rfl)
theorem dX4_copy_4 : decode cX4_copy 4 = .ok (.aload_n 1, 1) := dk_43 (dk_at dksX4_copy_0 4 rfl rfl)
theorem dX4_copy_5 : decode cX4_copy 5 = .ok (.arraylength, 1) := dk_190 (dk_at dksX4_copy_0 5 rfl rfl)
theorem dX4_copy_6 : decode cX4_copy 6 = .ok (.invokestatic 31, 3) := dk_184 0 31 (dk_at dksX4_copy_0 6 rfl rfl)
theorem dX4_copy_9 : decode cX4_copy 9 = .ok (.return_, 1) := dk_177 (dk_at dksX4_copy_0 9 rfl rfl)
abbrev cX4_draw : ByteArray := prog_13_method_4_code
def yX4_draw : MethodName := ⟨RX4, "draw", "()I"⟩
def dkwX4_draw_0 : List UInt8 := [42, 42, 180, 0, 20, 18, 50, 104, 17, 48, 57, 96, 181, 0, 20, 42, 180, 0, 20, 16, 8, 124, 172]
abbrev dktX4_draw_0 : List UInt8 := dkwX4_draw_0 ++ []
theorem dksX4_draw_0 : cX4_draw.data.toList.drop 0 = dktX4_draw_0 := by decide +kernel
theorem dX4_draw_0 : decode cX4_draw 0 = .ok (.aload_n 0, 1) := dk_42 (dk_at dksX4_draw_0 0 rfl rfl)
theorem dX4_draw_1 : decode cX4_draw 1 = .ok (.aload_n 0, 1) := dk_42 (dk_at dksX4_draw_0 1 rfl rfl)
theorem dX4_draw_2 : decode cX4_draw 2 = .ok (.getfield 20, 3) := dk_180 0 20 (dk_at dksX4_draw_0 2 rfl rfl)
theorem dX4_draw_5 : decode cX4_draw 5 = .ok (.ldc 50, 2) := dk_18 50 (dk_at dksX4_draw_0 5 rfl rfl)
theorem dX4_draw_7 : decode cX4_draw 7 = .ok (.imul, 1) := dk_104 (dk_at dksX4_draw_0 7 rfl rfl)
theorem dX4_draw_8 : decode cX4_draw 8 = .ok (.sipush 12345, 3) := dk_17 48 57 (dk_at dksX4_draw_0 8 rfl rfl)
theorem dX4_draw_11 : decode cX4_draw 11 = .ok (.iadd, 1) := dk_96 (dk_at dksX4_draw_0 11 rfl rfl)
theorem dX4_draw_12 : decode cX4_draw 12 = .ok (.putfield 20, 3) := dk_181 0 20 (dk_at dksX4_draw_0 12 rfl rfl)
theorem dX4_draw_15 : decode cX4_draw 15 = .ok (.aload_n 0, 1) := dk_42 (dk_at dksX4_draw_0 15 rfl rfl)
theorem dX4_draw_16 : decode cX4_draw 16 = .ok (.getfield 20, 3) := dk_180 0 20 (dk_at dksX4_draw_0 16 rfl rfl)
theorem dX4_draw_19 : decode cX4_draw 19 = .ok (.bipush 8, 2) := dk_16 8 (dk_at dksX4_draw_0 19 rfl rfl)
theorem dX4_draw_21 : decode cX4_draw 21 = .ok (.iushr, 1) := dk_124 (dk_at dksX4_draw_0 21 rfl rfl)
theorem dX4_draw_22 : decode cX4_draw 22 = .ok (.ireturn, 1) := dk_172 (dk_at dksX4_draw_0 22 rfl rfl)
theorem q98 : (Jvm.Cond.initialized "LeftGloves$World") ∈ lw_all := lw_g (lw_at lw_m1 8 rfl) rfl
theorem q213 : (Jvm.Cond.instantiable "LeftGloves$World" (7 : Nat)) ∈ lw_all := lw_g (lw_at lw_m1 123 rfl) rfl
theorem q215 : (Jvm.Cond.instanceMethod ({ cls := "LeftGloves$World", name := "<init>", desc := "()V" } : Jvm.MethodName)) ∈ lw_all := lw_g (lw_at lw_m1 125 rfl) rfl
theorem q216 : (Jvm.Cond.code ({ cls := "LeftGloves$World", name := "<init>", desc := "()V" } : Jvm.MethodName) prog_13_method_1_code (2 : Nat) (Option.none : Option Jvm.ClassFile.FieldType)) ∈ lw_all := lw_g (lw_at lw_m1 126 rfl) rfl
theorem q217 : (Jvm.Cond.methodLink "LeftGloves$World" (3 : Nat) ({ cls := "java/lang/Object", name := "<init>", desc := "()V" } : Jvm.MethodName)) ∈ lw_all := lw_g (lw_at lw_m1 127 rfl) rfl
theorem q218 : (Jvm.Cond.classLink "LeftGloves$World" (15 : Nat) "[[I") ∈ lw_all := lw_g (lw_at lw_m1 128 rfl) rfl
theorem q220 : (Jvm.Cond.methodLinkNest "LeftGloves$World" (27 : Nat) ({ cls := "LeftGloves", name := "saying", desc := "(III)I" } : Jvm.MethodName) "LeftGloves") ∈ lw_tbl := lw_at lw_m1 130 rfl
theorem q223 : (Jvm.Cond.fieldLink "LeftGloves$World" (9 : Nat) "LeftGloves$World" "list" "[I") ∈ lw_all := lw_g (lw_at lw_m1 133 rfl) rfl
theorem q226 : (Jvm.Cond.fieldLink "LeftGloves$World" (41 : Nat) "LeftGloves$World" "gloves" "I") ∈ lw_all := lw_g (lw_at lw_m1 136 rfl) rfl
theorem q229 : (Jvm.Cond.fieldLink "LeftGloves$World" (17 : Nat) "LeftGloves$World" "glove" "[[I") ∈ lw_all := lw_g (lw_at lw_m1 139 rfl) rfl
theorem q233 : (Jvm.Cond.fieldLink "LeftGloves$World" (44 : Nat) "LeftGloves$World" "gone" "I") ∈ lw_all := lw_g (lw_at lw_m1 143 rfl) rfl
theorem q235 : (Jvm.Cond.fieldLink "LeftGloves$World" (47 : Nat) "LeftGloves$World" "day" "I") ∈ lw_all := lw_g (lw_at lw_m1 145 rfl) rfl
theorem q237 : (Jvm.Cond.fieldLink "LeftGloves$World" (20 : Nat) "LeftGloves$World" "z" "I") ∈ lw_all := lw_g (lw_at lw_m1 147 rfl) rfl
theorem q239 : (Jvm.Cond.fieldLink "LeftGloves$World" (24 : Nat) "LeftGloves$World" "holds" "[I") ∈ lw_all := lw_g (lw_at lw_m1 149 rfl) rfl
theorem q241 : (Jvm.Cond.laysFinal "LeftGloves$World" "LeftGloves$World" "list" "[I") ∈ lw_all := lw_g (lw_at lw_m1 151 rfl) rfl
theorem q242 : (Jvm.Cond.soleField "LeftGloves$World" "list") ∈ lw_all := lw_g (lw_at lw_m1 152 rfl) rfl
theorem q243 : (Jvm.Cond.lays "LeftGloves$World" "LeftGloves$World" "gloves" "I") ∈ lw_all := lw_g (lw_at lw_m1 153 rfl) rfl
theorem q244 : (Jvm.Cond.soleField "LeftGloves$World" "gloves") ∈ lw_all := lw_g (lw_at lw_m1 154 rfl) rfl
theorem q245 : (Jvm.Cond.laysFinal "LeftGloves$World" "LeftGloves$World" "glove" "[[I") ∈ lw_all := lw_g (lw_at lw_m1 155 rfl) rfl
theorem q246 : (Jvm.Cond.soleField "LeftGloves$World" "glove") ∈ lw_all := lw_g (lw_at lw_m1 156 rfl) rfl
theorem q247 : (Jvm.Cond.lays "LeftGloves$World" "LeftGloves$World" "gone" "I") ∈ lw_all := lw_g (lw_at lw_m1 157 rfl) rfl
theorem q248 : (Jvm.Cond.soleField "LeftGloves$World" "gone") ∈ lw_all := lw_g (lw_at lw_m1 158 rfl) rfl
theorem q249 : (Jvm.Cond.lays "LeftGloves$World" "LeftGloves$World" "day" "I") ∈ lw_all := lw_g (lw_at lw_m1 159 rfl) rfl
theorem q250 : (Jvm.Cond.soleField "LeftGloves$World" "day") ∈ lw_all := lw_g (lw_at lw_m1 160 rfl) rfl
theorem q251 : (Jvm.Cond.lays "LeftGloves$World" "LeftGloves$World" "z" "I") ∈ lw_all := lw_g (lw_at lw_m1 161 rfl) rfl
theorem q252 : (Jvm.Cond.soleField "LeftGloves$World" "z") ∈ lw_all := lw_g (lw_at lw_m1 162 rfl) rfl
theorem q253 : (Jvm.Cond.laysFinal "LeftGloves$World" "LeftGloves$World" "holds" "[I") ∈ lw_all := lw_g (lw_at lw_m1 163 rfl) rfl
theorem q254 : (Jvm.Cond.soleField "LeftGloves$World" "holds") ∈ lw_all := lw_g (lw_at lw_m1 164 rfl) rfl
theorem q255 : (Jvm.Cond.superclass "LeftGloves$World" "java/lang/Object") ∈ lw_all := lw_g (lw_at lw_m1 165 rfl) rfl
theorem q471 : (Jvm.Cond.instanceMethod ({ cls := "LeftGloves$World", name := "whatIsIn", desc := "(I)I" } : Jvm.MethodName)) ∈ lw_all := lw_g (lw_at lw_m2 141 rfl) rfl
theorem q472 : (Jvm.Cond.selects "LeftGloves$World" ({ cls := "LeftGloves$World", name := "whatIsIn", desc := "(I)I" } : Jvm.MethodName) ({ cls := "LeftGloves$World", name := "whatIsIn", desc := "(I)I" } : Jvm.MethodName)) ∈ lw_all := lw_g (lw_at lw_m2 142 rfl) rfl
theorem q473 : (Jvm.Cond.code ({ cls := "LeftGloves$World", name := "whatIsIn", desc := "(I)I" } : Jvm.MethodName) prog_13_method_7_code (4 : Nat) (Option.some Jvm.ClassFile.FieldType.int)) ∈ lw_all := lw_g (lw_at lw_m2 143 rfl) rfl
theorem q474 : (Jvm.Cond.methodLinkNest "LeftGloves$World" (51 : Nat) ({ cls := "LeftGloves", name := "has", desc := "(II)Z" } : Jvm.MethodName) "LeftGloves") ∈ lw_tbl := lw_at lw_m2 144 rfl
theorem q519 : (Jvm.Cond.instanceMethod ({ cls := "LeftGloves$World", name := "known", desc := "(II)I" } : Jvm.MethodName)) ∈ lw_all := lw_g (lw_at lw_m2 189 rfl) rfl
theorem q520 : (Jvm.Cond.selects "LeftGloves$World" ({ cls := "LeftGloves$World", name := "known", desc := "(II)I" } : Jvm.MethodName) ({ cls := "LeftGloves$World", name := "known", desc := "(II)I" } : Jvm.MethodName)) ∈ lw_all := lw_g (lw_at lw_m2 190 rfl) rfl
theorem q521 : (Jvm.Cond.code ({ cls := "LeftGloves$World", name := "known", desc := "(II)I" } : Jvm.MethodName) prog_13_method_8_code (5 : Nat) (Option.some Jvm.ClassFile.FieldType.int)) ∈ lw_all := lw_g (lw_at lw_m2 191 rfl) rfl
theorem q523 : (Jvm.Cond.instanceMethod ({ cls := "LeftGloves$World", name := "saidIn", desc := "(I)I" } : Jvm.MethodName)) ∈ lw_all := lw_g (lw_at lw_m2 193 rfl) rfl
theorem q524 : (Jvm.Cond.selects "LeftGloves$World" ({ cls := "LeftGloves$World", name := "saidIn", desc := "(I)I" } : Jvm.MethodName) ({ cls := "LeftGloves$World", name := "saidIn", desc := "(I)I" } : Jvm.MethodName)) ∈ lw_all := lw_g (lw_at lw_m2 194 rfl) rfl
theorem q525 : (Jvm.Cond.code ({ cls := "LeftGloves$World", name := "saidIn", desc := "(I)I" } : Jvm.MethodName) prog_13_method_11_code (7 : Nat) (Option.some Jvm.ClassFile.FieldType.int)) ∈ lw_all := lw_g (lw_at lw_m2 195 rfl) rfl
theorem q526 : (Jvm.Cond.methodLinkNest "LeftGloves$World" (59 : Nat) ({ cls := "LeftGloves", name := "roomOf", desc := "(I)I" } : Jvm.MethodName) "LeftGloves") ∈ lw_tbl := lw_at lw_m2 196 rfl
theorem q527 : (Jvm.Cond.methodLinkNest "LeftGloves$World" (63 : Nat) ({ cls := "LeftGloves", name := "topicOf", desc := "(I)I" } : Jvm.MethodName) "LeftGloves") ∈ lw_tbl := lw_at lw_m2 197 rfl
theorem q536 : (Jvm.Cond.instanceMethod ({ cls := "LeftGloves$World", name := "add", desc := "(II)V" } : Jvm.MethodName)) ∈ lw_all := lw_g (lw_at lw_m2 206 rfl) rfl
theorem q537 : (Jvm.Cond.selects "LeftGloves$World" ({ cls := "LeftGloves$World", name := "add", desc := "(II)V" } : Jvm.MethodName) ({ cls := "LeftGloves$World", name := "add", desc := "(II)V" } : Jvm.MethodName)) ∈ lw_all := lw_g (lw_at lw_m2 207 rfl) rfl
theorem q538 : (Jvm.Cond.code ({ cls := "LeftGloves$World", name := "add", desc := "(II)V" } : Jvm.MethodName) prog_13_method_5_code (4 : Nat) (Option.none : Option Jvm.ClassFile.FieldType)) ∈ lw_all := lw_g (lw_at lw_m2 208 rfl) rfl
theorem q682 : (Jvm.Cond.instanceMethod ({ cls := "LeftGloves$World", name := "isDrawn", desc := "(I)V" } : Jvm.MethodName)) ∈ lw_all := lw_g (lw_at lw_m3 112 rfl) rfl
theorem q683 : (Jvm.Cond.selects "LeftGloves$World" ({ cls := "LeftGloves$World", name := "isDrawn", desc := "(I)V" } : Jvm.MethodName) ({ cls := "LeftGloves$World", name := "isDrawn", desc := "(I)V" } : Jvm.MethodName)) ∈ lw_all := lw_g (lw_at lw_m3 113 rfl) rfl
theorem q684 : (Jvm.Cond.code ({ cls := "LeftGloves$World", name := "isDrawn", desc := "(I)V" } : Jvm.MethodName) prog_13_method_16_code (2 : Nat) (Option.none : Option Jvm.ClassFile.FieldType)) ∈ lw_all := lw_g (lw_at lw_m3 114 rfl) rfl
theorem q685 : (Jvm.Cond.methodLink "LeftGloves$World" (69 : Nat) ({ cls := "java/lang/Math", name := "min", desc := "(II)I" } : Jvm.MethodName)) ∈ lw_all := lw_g (lw_at lw_m3 115 rfl) rfl
theorem q693 : (Jvm.Cond.instanceMethod ({ cls := "LeftGloves$World", name := "whoKnows", desc := "(II)I" } : Jvm.MethodName)) ∈ lw_all := lw_g (lw_at lw_m3 123 rfl) rfl
theorem q694 : (Jvm.Cond.selects "LeftGloves$World" ({ cls := "LeftGloves$World", name := "whoKnows", desc := "(II)I" } : Jvm.MethodName) ({ cls := "LeftGloves$World", name := "whoKnows", desc := "(II)I" } : Jvm.MethodName)) ∈ lw_all := lw_g (lw_at lw_m3 124 rfl) rfl
theorem q695 : (Jvm.Cond.code ({ cls := "LeftGloves$World", name := "whoKnows", desc := "(II)I" } : Jvm.MethodName) prog_13_method_10_code (5 : Nat) (Option.some Jvm.ClassFile.FieldType.int)) ∈ lw_all := lw_g (lw_at lw_m3 125 rfl) rfl
theorem q701 : (Jvm.Cond.instanceMethod ({ cls := "LeftGloves$World", name := "isLate", desc := "(I)Z" } : Jvm.MethodName)) ∈ lw_all := lw_g (lw_at lw_m3 131 rfl) rfl
theorem q702 : (Jvm.Cond.selects "LeftGloves$World" ({ cls := "LeftGloves$World", name := "isLate", desc := "(I)Z" } : Jvm.MethodName) ({ cls := "LeftGloves$World", name := "isLate", desc := "(I)Z" } : Jvm.MethodName)) ∈ lw_all := lw_g (lw_at lw_m3 132 rfl) rfl
theorem q703 : (Jvm.Cond.code ({ cls := "LeftGloves$World", name := "isLate", desc := "(I)Z" } : Jvm.MethodName) prog_13_method_18_code (2 : Nat) (Option.some Jvm.ClassFile.FieldType.boolean)) ∈ lw_all := lw_g (lw_at lw_m3 133 rfl) rfl
theorem q704 : (Jvm.Cond.constant "LeftGloves$World" (78 : Nat) (99999 : Int32)) ∈ lw_all := lw_g (lw_at lw_m3 134 rfl) rfl
theorem q718 : (Jvm.Cond.instanceMethod ({ cls := "LeftGloves$World", name := "now", desc := "()I" } : Jvm.MethodName)) ∈ lw_all := lw_g (lw_at lw_m3 148 rfl) rfl
theorem q719 : (Jvm.Cond.selects "LeftGloves$World" ({ cls := "LeftGloves$World", name := "now", desc := "()I" } : Jvm.MethodName) ({ cls := "LeftGloves$World", name := "now", desc := "()I" } : Jvm.MethodName)) ∈ lw_all := lw_g (lw_at lw_m3 149 rfl) rfl
theorem q720 : (Jvm.Cond.code ({ cls := "LeftGloves$World", name := "now", desc := "()I" } : Jvm.MethodName) prog_13_method_14_code (1 : Nat) (Option.some Jvm.ClassFile.FieldType.int)) ∈ lw_all := lw_g (lw_at lw_m3 150 rfl) rfl
theorem q730 : (Jvm.Cond.instanceMethod ({ cls := "LeftGloves$World", name := "learns", desc := "(III)V" } : Jvm.MethodName)) ∈ lw_all := lw_g (lw_at lw_m3 160 rfl) rfl
theorem q731 : (Jvm.Cond.selects "LeftGloves$World" ({ cls := "LeftGloves$World", name := "learns", desc := "(III)V" } : Jvm.MethodName) ({ cls := "LeftGloves$World", name := "learns", desc := "(III)V" } : Jvm.MethodName)) ∈ lw_all := lw_g (lw_at lw_m3 161 rfl) rfl
theorem q732 : (Jvm.Cond.code ({ cls := "LeftGloves$World", name := "learns", desc := "(III)V" } : Jvm.MethodName) prog_13_method_15_code (6 : Nat) (Option.none : Option Jvm.ClassFile.FieldType)) ∈ lw_all := lw_g (lw_at lw_m3 162 rfl) rfl
theorem q733 : (Jvm.Cond.methodLinkNest "LeftGloves$World" (66 : Nat) ({ cls := "LeftGloves", name := "ones", desc := "(I)I" } : Jvm.MethodName) "LeftGloves") ∈ lw_tbl := lw_at lw_m3 163 rfl
theorem q743 : (Jvm.Cond.instanceMethod ({ cls := "LeftGloves$World", name := "lies", desc := "(II)V" } : Jvm.MethodName)) ∈ lw_all := lw_g (lw_at lw_m3 173 rfl) rfl
theorem q744 : (Jvm.Cond.selects "LeftGloves$World" ({ cls := "LeftGloves$World", name := "lies", desc := "(II)V" } : Jvm.MethodName) ({ cls := "LeftGloves$World", name := "lies", desc := "(II)V" } : Jvm.MethodName)) ∈ lw_all := lw_g (lw_at lw_m3 174 rfl) rfl
theorem q745 : (Jvm.Cond.code ({ cls := "LeftGloves$World", name := "lies", desc := "(II)V" } : Jvm.MethodName) prog_13_method_17_code (3 : Nat) (Option.none : Option Jvm.ClassFile.FieldType)) ∈ lw_all := lw_g (lw_at lw_m3 175 rfl) rfl
theorem q746 : (Jvm.Cond.methodLink "LeftGloves$World" (74 : Nat) ({ cls := "LeftGloves$World", name := "isDrawn", desc := "(I)V" } : Jvm.MethodName)) ∈ lw_all := lw_g (lw_at lw_m3 176 rfl) rfl
theorem q748 : (Jvm.Cond.instanceMethod ({ cls := "LeftGloves$World", name := "all", desc := "()I" } : Jvm.MethodName)) ∈ lw_all := lw_g (lw_at lw_m3 178 rfl) rfl
theorem q749 : (Jvm.Cond.selects "LeftGloves$World" ({ cls := "LeftGloves$World", name := "all", desc := "()I" } : Jvm.MethodName) ({ cls := "LeftGloves$World", name := "all", desc := "()I" } : Jvm.MethodName)) ∈ lw_all := lw_g (lw_at lw_m3 179 rfl) rfl
theorem q750 : (Jvm.Cond.code ({ cls := "LeftGloves$World", name := "all", desc := "()I" } : Jvm.MethodName) prog_13_method_6_code (1 : Nat) (Option.some Jvm.ClassFile.FieldType.int)) ∈ lw_all := lw_g (lw_at lw_m3 180 rfl) rfl
theorem q756 : (Jvm.Cond.instanceMethod ({ cls := "LeftGloves$World", name := "knownBoth", desc := "(I)I" } : Jvm.MethodName)) ∈ lw_all := lw_g (lw_at lw_m3 186 rfl) rfl
theorem q757 : (Jvm.Cond.selects "LeftGloves$World" ({ cls := "LeftGloves$World", name := "knownBoth", desc := "(I)I" } : Jvm.MethodName) ({ cls := "LeftGloves$World", name := "knownBoth", desc := "(I)I" } : Jvm.MethodName)) ∈ lw_all := lw_g (lw_at lw_m3 187 rfl) rfl
theorem q758 : (Jvm.Cond.code ({ cls := "LeftGloves$World", name := "knownBoth", desc := "(I)I" } : Jvm.MethodName) prog_13_method_9_code (2 : Nat) (Option.some Jvm.ClassFile.FieldType.int)) ∈ lw_all := lw_g (lw_at lw_m3 188 rfl) rfl
theorem q759 : (Jvm.Cond.methodLink "LeftGloves$World" (55 : Nat) ({ cls := "LeftGloves$World", name := "known", desc := "(II)I" } : Jvm.MethodName)) ∈ lw_all := lw_g (lw_at lw_m3 189 rfl) rfl
theorem q761 : (Jvm.Cond.instanceMethod ({ cls := "LeftGloves$World", name := "drawnInAll", desc := "()I" } : Jvm.MethodName)) ∈ lw_all := lw_g (lw_at lw_m3 191 rfl) rfl
theorem q762 : (Jvm.Cond.selects "LeftGloves$World" ({ cls := "LeftGloves$World", name := "drawnInAll", desc := "()I" } : Jvm.MethodName) ({ cls := "LeftGloves$World", name := "drawnInAll", desc := "()I" } : Jvm.MethodName)) ∈ lw_all := lw_g (lw_at lw_m3 192 rfl) rfl
theorem q763 : (Jvm.Cond.code ({ cls := "LeftGloves$World", name := "drawnInAll", desc := "()I" } : Jvm.MethodName) prog_13_method_12_code (3 : Nat) (Option.some Jvm.ClassFile.FieldType.int)) ∈ lw_all := lw_g (lw_at lw_m3 193 rfl) rfl
theorem q765 : (Jvm.Cond.instanceMethod ({ cls := "LeftGloves$World", name := "wisest", desc := "()I" } : Jvm.MethodName)) ∈ lw_all := lw_g (lw_at lw_m3 195 rfl) rfl
theorem q766 : (Jvm.Cond.selects "LeftGloves$World" ({ cls := "LeftGloves$World", name := "wisest", desc := "()I" } : Jvm.MethodName) ({ cls := "LeftGloves$World", name := "wisest", desc := "()I" } : Jvm.MethodName)) ∈ lw_all := lw_g (lw_at lw_m3 196 rfl) rfl
theorem q767 : (Jvm.Cond.code ({ cls := "LeftGloves$World", name := "wisest", desc := "()I" } : Jvm.MethodName) prog_13_method_13_code (3 : Nat) (Option.some Jvm.ClassFile.FieldType.int)) ∈ lw_all := lw_g (lw_at lw_m3 197 rfl) rfl
theorem q777 : (Jvm.Cond.instanceMethod ({ cls := "LeftGloves$World", name := "become", desc := "(LLeftGloves$World;)V" } : Jvm.MethodName)) ∈ lw_all := lw_g (lw_at lw_m3 207 rfl) rfl
theorem q778 : (Jvm.Cond.selects "LeftGloves$World" ({ cls := "LeftGloves$World", name := "become", desc := "(LLeftGloves$World;)V" } : Jvm.MethodName) ({ cls := "LeftGloves$World", name := "become", desc := "(LLeftGloves$World;)V" } : Jvm.MethodName)) ∈ lw_all := lw_g (lw_at lw_m3 208 rfl) rfl
theorem q779 : (Jvm.Cond.code ({ cls := "LeftGloves$World", name := "become", desc := "(LLeftGloves$World;)V" } : Jvm.MethodName) prog_13_method_3_code (3 : Nat) (Option.none : Option Jvm.ClassFile.FieldType)) ∈ lw_all := lw_g (lw_at lw_m3 209 rfl) rfl
theorem q780 : (Jvm.Cond.methodLink "LeftGloves$World" (37 : Nat) ({ cls := "LeftGloves$World", name := "copy", desc := "([I[I)V" } : Jvm.MethodName)) ∈ lw_all := lw_g (lw_at lw_m3 210 rfl) rfl
theorem q781 : (Jvm.Cond.static ({ cls := "LeftGloves$World", name := "copy", desc := "([I[I)V" } : Jvm.MethodName)) ∈ lw_all := lw_g (lw_at lw_m3 211 rfl) rfl
theorem q782 : (Jvm.Cond.code ({ cls := "LeftGloves$World", name := "copy", desc := "([I[I)V" } : Jvm.MethodName) prog_13_method_2_code (2 : Nat) (Option.none : Option Jvm.ClassFile.FieldType)) ∈ lw_all := lw_g (lw_at lw_m3 212 rfl) rfl
theorem q783 : (Jvm.Cond.methodLink "LeftGloves$World" (31 : Nat) ({ cls := "java/lang/System", name := "arraycopy", desc := "(Ljava/lang/Object;ILjava/lang/Object;II)V" } : Jvm.MethodName)) ∈ lw_all := lw_g (lw_at lw_m3 213 rfl) rfl
theorem q919 : (Jvm.Cond.instanceMethod ({ cls := "LeftGloves$World", name := "draw", desc := "()I" } : Jvm.MethodName)) ∈ lw_all := lw_g (lw_at lw_m4 109 rfl) rfl
theorem q920 : (Jvm.Cond.selects "LeftGloves$World" ({ cls := "LeftGloves$World", name := "draw", desc := "()I" } : Jvm.MethodName) ({ cls := "LeftGloves$World", name := "draw", desc := "()I" } : Jvm.MethodName)) ∈ lw_all := lw_g (lw_at lw_m4 110 rfl) rfl
theorem q921 : (Jvm.Cond.code ({ cls := "LeftGloves$World", name := "draw", desc := "()I" } : Jvm.MethodName) prog_13_method_4_code (1 : Nat) (Option.some Jvm.ClassFile.FieldType.int)) ∈ lw_all := lw_g (lw_at lw_m4 111 rfl) rfl
theorem q922 : (Jvm.Cond.constant "LeftGloves$World" (50 : Nat) (1103515245 : Int32)) ∈ lw_all := lw_g (lw_at lw_m4 112 rfl) rfl
theorem in_X4 : ∀ w ∈ wsX40, w ∈ lw_all := lw_in wsX40 [241, 243, 245, 247, 249, 251, 253] (by decide +kernel) (by decide +kernel)
/-! LeftGloves$Slot -/
set_option maxRecDepth 100000
def RX5 : String := "LeftGloves$Slot"
def TX5 : u_T := fun k => match k with
  | _ => ("LeftGloves$Slot", "thing", "Ljava/lang/Object;", false)
def tyX5 : Nat → FieldType := fun k => match k with
  | _ => .object "java/lang/Object"
abbrev wsX50 : List Cond := u_ws RX5 TX5 1
theorem nmX5 : ∀ a, a < 1 → ∀ b, b < 1 → a ≠ b → (TX5 a).2.1 ≠ (TX5 b).2.1 := by decide +kernel
theorem tyX5_ok : ∀ k, k < 1 → parseFieldDescriptor (TX5 k).2.2.1 = some (tyX5 k) := by decide +kernel
abbrev cX5_init : ByteArray := prog_11_method_1_code
def yX5_init : MethodName := ⟨RX5, "<init>", "()V"⟩
theorem dX5_init_0 : decode cX5_init 0 = .ok (.aload_n 0, 1) := by decide +kernel
theorem dX5_init_1 : decode cX5_init 1 = .ok (.invokespecial 1, 3) := by decide +kernel
theorem dX5_init_4 : decode cX5_init 4 = .ok (.return_, 1) := by decide +kernel
theorem q99 : (Jvm.Cond.initialized "LeftGloves$Slot") ∈ lw_all := lw_g (lw_at lw_m1 9 rfl) rfl
theorem q291 : (Jvm.Cond.instantiable "LeftGloves$Slot" (1 : Nat)) ∈ lw_all := lw_g (lw_at lw_m1 201 rfl) rfl
theorem q293 : (Jvm.Cond.instanceMethod ({ cls := "LeftGloves$Slot", name := "<init>", desc := "()V" } : Jvm.MethodName)) ∈ lw_all := lw_g (lw_at lw_m1 203 rfl) rfl
theorem q294 : (Jvm.Cond.code ({ cls := "LeftGloves$Slot", name := "<init>", desc := "()V" } : Jvm.MethodName) prog_11_method_1_code (1 : Nat) (Option.none : Option Jvm.ClassFile.FieldType)) ∈ lw_all := lw_g (lw_at lw_m1 204 rfl) rfl
theorem q295 : (Jvm.Cond.methodLink "LeftGloves$Slot" (1 : Nat) ({ cls := "java/lang/Object", name := "<init>", desc := "()V" } : Jvm.MethodName)) ∈ lw_all := lw_g (lw_at lw_m1 205 rfl) rfl
theorem q297 : (Jvm.Cond.lays "LeftGloves$Slot" "LeftGloves$Slot" "thing" "Ljava/lang/Object;") ∈ lw_all := lw_g (lw_at lw_m1 207 rfl) rfl
theorem q298 : (Jvm.Cond.soleField "LeftGloves$Slot" "thing") ∈ lw_all := lw_g (lw_at lw_m1 208 rfl) rfl
theorem q299 : (Jvm.Cond.superclass "LeftGloves$Slot" "java/lang/Object") ∈ lw_all := lw_g (lw_at lw_m1 209 rfl) rfl
theorem in_X5 : ∀ w ∈ wsX50, w ∈ lw_all := lw_in wsX50 [297] (by decide +kernel) (by decide +kernel)
/-! LeftGloves$Glove -/
set_option maxRecDepth 100000
def RX6 : String := "LeftGloves$Glove"
def TX6 : u_T := fun k => match k with
  | 0 => ("LeftGloves$Glove", "number", "I", true)
  | _ => ("LeftGloves$Glove", "this$0", "LLeftGloves;", true)
def tyX6 : Nat → FieldType := fun k => match k with
  | 0 => .int
  | _ => .object "LeftGloves"
abbrev wsX60 : List Cond := u_ws RX6 TX6 2
theorem nmX6 : ∀ a, a < 2 → ∀ b, b < 2 → a ≠ b → (TX6 a).2.1 ≠ (TX6 b).2.1 := by decide +kernel
theorem tyX6_ok : ∀ k, k < 2 → parseFieldDescriptor (TX6 k).2.2.1 = some (tyX6 k) := by decide +kernel
abbrev cX6_init : ByteArray := prog_4_method_1_code
def yX6_init : MethodName := ⟨RX6, "<init>", "(LLeftGloves;I)V"⟩
def dkwX6_init_0 : List UInt8 := [42, 43, 181, 0, 3, 42, 183, 0, 9, 42, 28, 181, 0, 15, 177]
abbrev dktX6_init_0 : List UInt8 := dkwX6_init_0 ++ []
theorem dksX6_init_0 : cX6_init.data.toList.drop 0 = dktX6_init_0 := by decide +kernel
theorem dX6_init_0 : decode cX6_init 0 = .ok (.aload_n 0, 1) := dk_42 (dk_at dksX6_init_0 0 rfl rfl)
theorem dX6_init_1 : decode cX6_init 1 = .ok (.aload_n 1, 1) := dk_43 (dk_at dksX6_init_0 1 rfl rfl)
theorem dX6_init_2 : decode cX6_init 2 = .ok (.putfield 3, 3) := dk_181 0 3 (dk_at dksX6_init_0 2 rfl rfl)
theorem dX6_init_5 : decode cX6_init 5 = .ok (.aload_n 0, 1) := dk_42 (dk_at dksX6_init_0 5 rfl rfl)
theorem dX6_init_6 : decode cX6_init 6 = .ok (.invokespecial 9, 3) := dk_183 0 9 (dk_at dksX6_init_0 6 rfl rfl)
theorem dX6_init_9 : decode cX6_init 9 = .ok (.aload_n 0, 1) := dk_42 (dk_at dksX6_init_0 9 rfl rfl)
theorem dX6_init_10 : decode cX6_init 10 = .ok (.iload_n 2, 1) := dk_28 (dk_at dksX6_init_0 10 rfl rfl)
theorem dX6_init_11 : decode cX6_init 11 = .ok (.putfield 15, 3) := dk_181 0 15 (dk_at dksX6_init_0 11 rfl rfl)
theorem dX6_init_14 : decode cX6_init 14 = .ok (.return_, 1) := dk_177 (dk_at dksX6_init_0 14 rfl rfl)
abbrev cX6_told : ByteArray := prog_4_method_4_code
def yX6_told : MethodName := ⟨RX6, "told", "(I)I"⟩
def dkwX6_told_0 : List UInt8 := [42, 180, 0, 3, 180, 0, 23, 180, 0, 27, 27, 50, 42, 180, 0, 15, 46, 172]
abbrev dktX6_told_0 : List UInt8 := dkwX6_told_0 ++ []
theorem dksX6_told_0 : cX6_told.data.toList.drop 0 = dktX6_told_0 := by decide +kernel
theorem dX6_told_0 : decode cX6_told 0 = .ok (.aload_n 0, 1) := dk_42 (dk_at dksX6_told_0 0 rfl rfl)
theorem dX6_told_1 : decode cX6_told 1 = .ok (.getfield 3, 3) := dk_180 0 3 (dk_at dksX6_told_0 1 rfl rfl)
theorem dX6_told_4 : decode cX6_told 4 = .ok (.getfield 23, 3) := dk_180 0 23 (dk_at dksX6_told_0 4 rfl rfl)
theorem dX6_told_7 : decode cX6_told 7 = .ok (.getfield 27, 3) := dk_180 0 27 (dk_at dksX6_told_0 7 rfl rfl)
theorem dX6_told_10 : decode cX6_told 10 = .ok (.iload_n 1, 1) := dk_27 (dk_at dksX6_told_0 10 rfl rfl)
theorem dX6_told_11 : decode cX6_told 11 = .ok (.aaload, 1) := dk_50 (dk_at dksX6_told_0 11 rfl rfl)
theorem dX6_told_12 : decode cX6_told 12 = .ok (.aload_n 0, 1) := dk_42 (dk_at dksX6_told_0 12 rfl rfl)
theorem dX6_told_13 : decode cX6_told 13 = .ok (.getfield 15, 3) := dk_180 0 15 (dk_at dksX6_told_0 13 rfl rfl)
theorem dX6_told_16 : decode cX6_told 16 = .ok (.iaload, 1) := dk_46 (dk_at dksX6_told_0 16 rfl rfl)
theorem dX6_told_17 : decode cX6_told 17 = .ok (.ireturn, 1) := dk_172 (dk_at dksX6_told_0 17 rfl rfl)
abbrev cX6_hushes : ByteArray := prog_4_method_6_code
def yX6_hushes : MethodName := ⟨RX6, "hushes", "()I"⟩
theorem dX6_hushes_0 : decode cX6_hushes 0 = .ok (.iconst 0, 1) := by decide +kernel
theorem dX6_hushes_1 : decode cX6_hushes 1 = .ok (.ireturn, 1) := by decide +kernel
abbrev cX6_kind : ByteArray := prog_4_method_2_code
def yX6_kind : MethodName := ⟨RX6, "kind", "()I"⟩
theorem dX6_kind_0 : decode cX6_kind 0 = .ok (.iconst 0, 1) := by decide +kernel
theorem dX6_kind_1 : decode cX6_kind 1 = .ok (.ireturn, 1) := by decide +kernel
abbrev cX6_needs : ByteArray := prog_4_method_5_code
def yX6_needs : MethodName := ⟨RX6, "needs", "()I"⟩
def dkwX6_needs_0 : List UInt8 := [16, 10, 42, 5, 182, 0, 33, 100, 172]
abbrev dktX6_needs_0 : List UInt8 := dkwX6_needs_0 ++ []
theorem dksX6_needs_0 : cX6_needs.data.toList.drop 0 = dktX6_needs_0 := by decide +kernel
theorem dX6_needs_0 : decode cX6_needs 0 = .ok (.bipush 10, 2) := dk_16 10 (dk_at dksX6_needs_0 0 rfl rfl)
theorem dX6_needs_2 : decode cX6_needs 2 = .ok (.aload_n 0, 1) := dk_42 (dk_at dksX6_needs_0 2 rfl rfl)
theorem dX6_needs_3 : decode cX6_needs 3 = .ok (.iconst 2, 1) := dk_5 (dk_at dksX6_needs_0 3 rfl rfl)
theorem dX6_needs_4 : decode cX6_needs 4 = .ok (.invokevirtual 33, 3) := dk_182 0 33 (dk_at dksX6_needs_0 4 rfl rfl)
theorem dX6_needs_7 : decode cX6_needs 7 = .ok (.isub, 1) := dk_100 (dk_at dksX6_needs_0 7 rfl rfl)
theorem dX6_needs_8 : decode cX6_needs 8 = .ok (.ireturn, 1) := dk_172 (dk_at dksX6_needs_0 8 rfl rfl)
abbrev cX6_stays : ByteArray := prog_4_method_7_code
def yX6_stays : MethodName := ⟨RX6, "stays", "()I"⟩
theorem dX6_stays_0 : decode cX6_stays 0 = .ok (.bipush 7, 2) := by decide +kernel
theorem dX6_stays_2 : decode cX6_stays 2 = .ok (.ireturn, 1) := by decide +kernel
abbrev cX6_keeps : ByteArray := prog_4_method_8_code
def yX6_keeps : MethodName := ⟨RX6, "keeps", "()I"⟩
theorem dX6_keeps_0 : decode cX6_keeps 0 = .ok (.bipush 6, 2) := by decide +kernel
theorem dX6_keeps_2 : decode cX6_keeps 2 = .ok (.ireturn, 1) := by decide +kernel
abbrev cX6_isUnder : ByteArray := prog_4_method_3_code
def yX6_isUnder : MethodName := ⟨RX6, "isUnder", "(I)Z"⟩
def dkwX6_isUnder_0 : List UInt8 := [27, 153, 0, 11, 27, 42, 182, 0, 19, 160, 0, 7, 4, 167, 0, 4, 3, 172]
abbrev dktX6_isUnder_0 : List UInt8 := dkwX6_isUnder_0 ++ []
theorem dksX6_isUnder_0 : cX6_isUnder.data.toList.drop 0 = dktX6_isUnder_0 := by decide +kernel
theorem dX6_isUnder_0 : decode cX6_isUnder 0 = .ok (.iload_n 1, 1) := dk_27 (dk_at dksX6_isUnder_0 0 rfl rfl)
theorem dX6_isUnder_1 : decode cX6_isUnder 1 = .ok (.ifCond .eq 11, 3) := dk_153 0 11 (dk_at dksX6_isUnder_0 1 rfl rfl)
theorem dX6_isUnder_4 : decode cX6_isUnder 4 = .ok (.iload_n 1, 1) := dk_27 (dk_at dksX6_isUnder_0 4 rfl rfl)
theorem dX6_isUnder_5 : decode cX6_isUnder 5 = .ok (.aload_n 0, 1) := dk_42 (dk_at dksX6_isUnder_0 5 rfl rfl)
theorem dX6_isUnder_6 : decode cX6_isUnder 6 = .ok (.invokevirtual 19, 3) := dk_182 0 19 (dk_at dksX6_isUnder_0 6 rfl rfl)
theorem dX6_isUnder_9 : decode cX6_isUnder 9 = .ok (.if_icmp .ne 7, 3) := dk_160 0 7 (dk_at dksX6_isUnder_0 9 rfl rfl)
theorem dX6_isUnder_12 : decode cX6_isUnder 12 = .ok (.iconst 1, 1) := dk_4 (dk_at dksX6_isUnder_0 12 rfl rfl)
theorem dX6_isUnder_13 : decode cX6_isUnder 13 = .ok (.goto 4, 3) := dk_167 0 4 (dk_at dksX6_isUnder_0 13 rfl rfl)
theorem dX6_isUnder_16 : decode cX6_isUnder 16 = .ok (.iconst 0, 1) := dk_3 (dk_at dksX6_isUnder_0 16 rfl rfl)
theorem dX6_isUnder_17 : decode cX6_isUnder 17 = .ok (.ireturn, 1) := dk_172 (dk_at dksX6_isUnder_0 17 rfl rfl)
theorem q100 : (Jvm.Cond.initialized "LeftGloves$Glove") ∈ lw_all := lw_g (lw_at lw_m1 10 rfl) rfl
theorem q230 : (Jvm.Cond.fieldLinkNest "LeftGloves$Glove" (27 : Nat) "LeftGloves$World" "glove" "[[I" "LeftGloves") ∈ lw_tbl := lw_at lw_m1 140 rfl
theorem q310 : (Jvm.Cond.instanceMethod ({ cls := "LeftGloves$Glove", name := "<init>", desc := "(LLeftGloves;I)V" } : Jvm.MethodName)) ∈ lw_all := lw_g (lw_at lw_m1 220 rfl) rfl
theorem q311 : (Jvm.Cond.code ({ cls := "LeftGloves$Glove", name := "<init>", desc := "(LLeftGloves;I)V" } : Jvm.MethodName) prog_4_method_1_code (3 : Nat) (Option.none : Option Jvm.ClassFile.FieldType)) ∈ lw_all := lw_g (lw_at lw_m1 221 rfl) rfl
theorem q312 : (Jvm.Cond.methodLink "LeftGloves$Glove" (9 : Nat) ({ cls := "java/lang/Object", name := "<init>", desc := "()V" } : Jvm.MethodName)) ∈ lw_all := lw_g (lw_at lw_m1 222 rfl) rfl
theorem q314 : (Jvm.Cond.fieldLink "LeftGloves$Glove" (15 : Nat) "LeftGloves$Glove" "number" "I") ∈ lw_all := lw_g (lw_at lw_m1 224 rfl) rfl
theorem q318 : (Jvm.Cond.fieldLink "LeftGloves$Glove" (3 : Nat) "LeftGloves$Glove" "this$0" "LLeftGloves;") ∈ lw_all := lw_g (lw_at lw_m1 228 rfl) rfl
theorem q322 : (Jvm.Cond.soleField "LeftGloves$Glove" "number") ∈ lw_all := lw_g (lw_at lw_m1 232 rfl) rfl
theorem q324 : (Jvm.Cond.soleField "LeftGloves$Glove" "this$0") ∈ lw_all := lw_g (lw_at lw_m1 234 rfl) rfl
theorem q391 : (Jvm.Cond.instantiable "LeftGloves$Glove" (2 : Nat)) ∈ lw_all := lw_g (lw_at lw_m2 61 rfl) rfl
theorem q393 : (Jvm.Cond.laysFinal "LeftGloves$Glove" "LeftGloves$Glove" "number" "I") ∈ lw_all := lw_g (lw_at lw_m2 63 rfl) rfl
theorem q394 : (Jvm.Cond.laysFinal "LeftGloves$Glove" "LeftGloves$Glove" "this$0" "LLeftGloves;") ∈ lw_all := lw_g (lw_at lw_m2 64 rfl) rfl
theorem q395 : (Jvm.Cond.superclass "LeftGloves$Glove" "java/lang/Object") ∈ lw_all := lw_g (lw_at lw_m2 65 rfl) rfl
theorem q400 : (Jvm.Cond.fieldLinkNest "LeftGloves$Glove" (23 : Nat) "LeftGloves" "d" "LLeftGloves$World;" "LeftGloves") ∈ lw_tbl := lw_at lw_m2 70 rfl
theorem q487 : (Jvm.Cond.instanceMethod ({ cls := "LeftGloves$Glove", name := "hushes", desc := "()I" } : Jvm.MethodName)) ∈ lw_all := lw_g (lw_at lw_m2 157 rfl) rfl
theorem q488 : (Jvm.Cond.selects "LeftGloves$Glove" ({ cls := "LeftGloves$Glove", name := "hushes", desc := "()I" } : Jvm.MethodName) ({ cls := "LeftGloves$Glove", name := "hushes", desc := "()I" } : Jvm.MethodName)) ∈ lw_all := lw_g (lw_at lw_m2 158 rfl) rfl
theorem q489 : (Jvm.Cond.sameMethod "LeftGloves$Glove" "LeftGloves$Glove" "hushes" "()I") ∈ lw_all := lw_g (lw_at lw_m2 159 rfl) rfl
theorem q505 : (Jvm.Cond.declares ({ cls := "LeftGloves$Glove", name := "hushes", desc := "()I" } : Jvm.MethodName)) ∈ lw_tbl := lw_at lw_m2 175 rfl
theorem q513 : (Jvm.Cond.declares ({ cls := "LeftGloves$Glove", name := "told", desc := "(I)I" } : Jvm.MethodName)) ∈ lw_tbl := lw_at lw_m2 183 rfl
theorem q515 : (Jvm.Cond.instanceMethod ({ cls := "LeftGloves$Glove", name := "told", desc := "(I)I" } : Jvm.MethodName)) ∈ lw_all := lw_g (lw_at lw_m2 185 rfl) rfl
theorem q516 : (Jvm.Cond.code ({ cls := "LeftGloves$Glove", name := "told", desc := "(I)I" } : Jvm.MethodName) prog_4_method_4_code (2 : Nat) (Option.some Jvm.ClassFile.FieldType.int)) ∈ lw_all := lw_g (lw_at lw_m2 186 rfl) rfl
theorem q517 : (Jvm.Cond.code ({ cls := "LeftGloves$Glove", name := "hushes", desc := "()I" } : Jvm.MethodName) prog_4_method_6_code (1 : Nat) (Option.some Jvm.ClassFile.FieldType.int)) ∈ lw_all := lw_g (lw_at lw_m2 187 rfl) rfl
theorem q548 : (Jvm.Cond.instanceMethod ({ cls := "LeftGloves$Glove", name := "kind", desc := "()I" } : Jvm.MethodName)) ∈ lw_all := lw_g (lw_at lw_m2 218 rfl) rfl
theorem q549 : (Jvm.Cond.selects "LeftGloves$Glove" ({ cls := "LeftGloves$Glove", name := "kind", desc := "()I" } : Jvm.MethodName) ({ cls := "LeftGloves$Glove", name := "kind", desc := "()I" } : Jvm.MethodName)) ∈ lw_all := lw_g (lw_at lw_m2 219 rfl) rfl
theorem q550 : (Jvm.Cond.sameMethod "LeftGloves$Glove" "LeftGloves$Glove" "kind" "()I") ∈ lw_all := lw_g (lw_at lw_m2 220 rfl) rfl
theorem q575 : (Jvm.Cond.code ({ cls := "LeftGloves$Glove", name := "kind", desc := "()I" } : Jvm.MethodName) prog_4_method_2_code (1 : Nat) (Option.some Jvm.ClassFile.FieldType.int)) ∈ lw_all := lw_g (lw_at lw_m3 5 rfl) rfl
theorem q577 : (Jvm.Cond.instanceMethod ({ cls := "LeftGloves$Glove", name := "needs", desc := "()I" } : Jvm.MethodName)) ∈ lw_all := lw_g (lw_at lw_m3 7 rfl) rfl
theorem q578 : (Jvm.Cond.selects "LeftGloves$Glove" ({ cls := "LeftGloves$Glove", name := "needs", desc := "()I" } : Jvm.MethodName) ({ cls := "LeftGloves$Glove", name := "needs", desc := "()I" } : Jvm.MethodName)) ∈ lw_all := lw_g (lw_at lw_m3 8 rfl) rfl
theorem q579 : (Jvm.Cond.sameMethod "LeftGloves$Glove" "LeftGloves$Glove" "needs" "()I") ∈ lw_all := lw_g (lw_at lw_m3 9 rfl) rfl
theorem q610 : (Jvm.Cond.code ({ cls := "LeftGloves$Glove", name := "needs", desc := "()I" } : Jvm.MethodName) prog_4_method_5_code (1 : Nat) (Option.some Jvm.ClassFile.FieldType.int)) ∈ lw_all := lw_g (lw_at lw_m3 40 rfl) rfl
theorem q611 : (Jvm.Cond.methodLink "LeftGloves$Glove" (33 : Nat) ({ cls := "LeftGloves$Glove", name := "told", desc := "(I)I" } : Jvm.MethodName)) ∈ lw_all := lw_g (lw_at lw_m3 41 rfl) rfl
theorem q613 : (Jvm.Cond.instanceMethod ({ cls := "LeftGloves$Glove", name := "stays", desc := "()I" } : Jvm.MethodName)) ∈ lw_all := lw_g (lw_at lw_m3 43 rfl) rfl
theorem q614 : (Jvm.Cond.selects "LeftGloves$Glove" ({ cls := "LeftGloves$Glove", name := "stays", desc := "()I" } : Jvm.MethodName) ({ cls := "LeftGloves$Glove", name := "stays", desc := "()I" } : Jvm.MethodName)) ∈ lw_all := lw_g (lw_at lw_m3 44 rfl) rfl
theorem q615 : (Jvm.Cond.sameMethod "LeftGloves$Glove" "LeftGloves$Glove" "stays" "()I") ∈ lw_all := lw_g (lw_at lw_m3 45 rfl) rfl
theorem q632 : (Jvm.Cond.code ({ cls := "LeftGloves$Glove", name := "stays", desc := "()I" } : Jvm.MethodName) prog_4_method_7_code (1 : Nat) (Option.some Jvm.ClassFile.FieldType.int)) ∈ lw_all := lw_g (lw_at lw_m3 62 rfl) rfl
theorem q634 : (Jvm.Cond.instanceMethod ({ cls := "LeftGloves$Glove", name := "keeps", desc := "()I" } : Jvm.MethodName)) ∈ lw_all := lw_g (lw_at lw_m3 64 rfl) rfl
theorem q635 : (Jvm.Cond.selects "LeftGloves$Glove" ({ cls := "LeftGloves$Glove", name := "keeps", desc := "()I" } : Jvm.MethodName) ({ cls := "LeftGloves$Glove", name := "keeps", desc := "()I" } : Jvm.MethodName)) ∈ lw_all := lw_g (lw_at lw_m3 65 rfl) rfl
theorem q636 : (Jvm.Cond.sameMethod "LeftGloves$Glove" "LeftGloves$Glove" "keeps" "()I") ∈ lw_all := lw_g (lw_at lw_m3 66 rfl) rfl
theorem q661 : (Jvm.Cond.code ({ cls := "LeftGloves$Glove", name := "keeps", desc := "()I" } : Jvm.MethodName) prog_4_method_8_code (1 : Nat) (Option.some Jvm.ClassFile.FieldType.int)) ∈ lw_all := lw_g (lw_at lw_m3 91 rfl) rfl
theorem q1076 : (Jvm.Cond.instanceMethod ({ cls := "LeftGloves$Glove", name := "isUnder", desc := "(I)Z" } : Jvm.MethodName)) ∈ lw_all := lw_g (lw_at lw_m5 26 rfl) rfl
theorem q1077 : (Jvm.Cond.selects "LeftGloves$Glove" ({ cls := "LeftGloves$Glove", name := "isUnder", desc := "(I)Z" } : Jvm.MethodName) ({ cls := "LeftGloves$Glove", name := "isUnder", desc := "(I)Z" } : Jvm.MethodName)) ∈ lw_all := lw_g (lw_at lw_m5 27 rfl) rfl
theorem q1078 : (Jvm.Cond.sameMethod "LeftGloves$Glove" "LeftGloves$Glove" "isUnder" "(I)Z") ∈ lw_all := lw_g (lw_at lw_m5 28 rfl) rfl
theorem q1094 : (Jvm.Cond.code ({ cls := "LeftGloves$Glove", name := "isUnder", desc := "(I)Z" } : Jvm.MethodName) prog_4_method_3_code (2 : Nat) (Option.some Jvm.ClassFile.FieldType.boolean)) ∈ lw_all := lw_g (lw_at lw_m5 44 rfl) rfl
theorem q1095 : (Jvm.Cond.methodLink "LeftGloves$Glove" (19 : Nat) ({ cls := "LeftGloves$Glove", name := "kind", desc := "()I" } : Jvm.MethodName)) ∈ lw_all := lw_g (lw_at lw_m5 45 rfl) rfl
theorem q1636 : (Jvm.Cond.sameMethod "LeftGloves$Glove" "LeftGloves$Glove" "told" "(I)I") ∈ lw_all := lw_g (lw_at lw_m7 106 rfl) rfl
theorem q1639 : (Jvm.Cond.selects "LeftGloves$Glove" ({ cls := "LeftGloves$Glove", name := "told", desc := "(I)I" } : Jvm.MethodName) ({ cls := "LeftGloves$Glove", name := "told", desc := "(I)I" } : Jvm.MethodName)) ∈ lw_all := lw_g (lw_at lw_m7 109 rfl) rfl
theorem in_X6 : ∀ w ∈ wsX60, w ∈ lw_all := lw_in wsX60 [393, 394] (by decide +kernel) (by decide +kernel)
/-! LeftGloves$Kidskin -/
set_option maxRecDepth 100000
def RX7 : String := "LeftGloves$Kidskin"
def TX7 : u_T := fun k => match k with
  | 0 => ("LeftGloves$Glove", "number", "I", true)
  | 1 => ("LeftGloves$Glove", "this$0", "LLeftGloves;", true)
  | _ => ("LeftGloves$Kidskin", "this$0", "LLeftGloves;", true)
def tyX7 : Nat → FieldType := fun k => match k with
  | 0 => .int
  | 1 => .object "LeftGloves"
  | _ => .object "LeftGloves"
abbrev wsX70 : List Cond := u_ws RX7 TX7 3
-- two fields of one name: no nmX7
theorem tyX7_ok : ∀ k, k < 3 → parseFieldDescriptor (TX7 k).2.2.1 = some (tyX7 k) := by decide +kernel
abbrev cX7_init : ByteArray := prog_6_method_1_code
def yX7_init : MethodName := ⟨RX7, "<init>", "(LLeftGloves;I)V"⟩
def dkwX7_init_0 : List UInt8 := [42, 43, 181, 0, 3, 42, 43, 28, 183, 0, 9, 177]
abbrev dktX7_init_0 : List UInt8 := dkwX7_init_0 ++ []
theorem dksX7_init_0 : cX7_init.data.toList.drop 0 = dktX7_init_0 := by decide +kernel
theorem dX7_init_0 : decode cX7_init 0 = .ok (.aload_n 0, 1) := dk_42 (dk_at dksX7_init_0 0 rfl rfl)
theorem dX7_init_1 : decode cX7_init 1 = .ok (.aload_n 1, 1) := dk_43 (dk_at dksX7_init_0 1 rfl rfl)
theorem dX7_init_2 : decode cX7_init 2 = .ok (.putfield 3, 3) := dk_181 0 3 (dk_at dksX7_init_0 2 rfl rfl)
theorem dX7_init_5 : decode cX7_init 5 = .ok (.aload_n 0, 1) := dk_42 (dk_at dksX7_init_0 5 rfl rfl)
theorem dX7_init_6 : decode cX7_init 6 = .ok (.aload_n 1, 1) := dk_43 (dk_at dksX7_init_0 6 rfl rfl)
theorem dX7_init_7 : decode cX7_init 7 = .ok (.iload_n 2, 1) := dk_28 (dk_at dksX7_init_0 7 rfl rfl)
theorem dX7_init_8 : decode cX7_init 8 = .ok (.invokespecial 9, 3) := dk_183 0 9 (dk_at dksX7_init_0 8 rfl rfl)
theorem dX7_init_11 : decode cX7_init 11 = .ok (.return_, 1) := dk_177 (dk_at dksX7_init_0 11 rfl rfl)
abbrev cX7_hushes : ByteArray := prog_6_method_5_code
def yX7_hushes : MethodName := ⟨RX7, "hushes", "()I"⟩
theorem dX7_hushes_0 : decode cX7_hushes 0 = .ok (.iconst 1, 1) := by decide +kernel
theorem dX7_hushes_1 : decode cX7_hushes 1 = .ok (.ireturn, 1) := by decide +kernel
abbrev cX7_kind : ByteArray := prog_6_method_2_code
def yX7_kind : MethodName := ⟨RX7, "kind", "()I"⟩
def dkwX7_kind_0 : List UInt8 := [4, 42, 183, 0, 15, 96, 172]
abbrev dktX7_kind_0 : List UInt8 := dkwX7_kind_0 ++ []
theorem dksX7_kind_0 : cX7_kind.data.toList.drop 0 = dktX7_kind_0 := by decide +kernel
theorem dX7_kind_0 : decode cX7_kind 0 = .ok (.iconst 1, 1) := dk_4 (dk_at dksX7_kind_0 0 rfl rfl)
theorem dX7_kind_1 : decode cX7_kind 1 = .ok (.aload_n 0, 1) := dk_42 (dk_at dksX7_kind_0 1 rfl rfl)
theorem dX7_kind_2 : decode cX7_kind 2 = .ok (.invokespecial 15, 3) := dk_183 0 15 (dk_at dksX7_kind_0 2 rfl rfl)
theorem dX7_kind_5 : decode cX7_kind 5 = .ok (.iadd, 1) := dk_96 (dk_at dksX7_kind_0 5 rfl rfl)
theorem dX7_kind_6 : decode cX7_kind 6 = .ok (.ireturn, 1) := dk_172 (dk_at dksX7_kind_0 6 rfl rfl)
abbrev cX7_needs : ByteArray := prog_6_method_4_code
def yX7_needs : MethodName := ⟨RX7, "needs", "()I"⟩
def dkwX7_needs_0 : List UInt8 := [3, 42, 183, 0, 23, 5, 100, 184, 0, 26, 172]
abbrev dktX7_needs_0 : List UInt8 := dkwX7_needs_0 ++ []
theorem dksX7_needs_0 : cX7_needs.data.toList.drop 0 = dktX7_needs_0 := by decide +kernel
theorem dX7_needs_0 : decode cX7_needs 0 = .ok (.iconst 0, 1) := dk_3 (dk_at dksX7_needs_0 0 rfl rfl)
theorem dX7_needs_1 : decode cX7_needs 1 = .ok (.aload_n 0, 1) := dk_42 (dk_at dksX7_needs_0 1 rfl rfl)
theorem dX7_needs_2 : decode cX7_needs 2 = .ok (.invokespecial 23, 3) := dk_183 0 23 (dk_at dksX7_needs_0 2 rfl rfl)
theorem dX7_needs_5 : decode cX7_needs 5 = .ok (.iconst 2, 1) := dk_5 (dk_at dksX7_needs_0 5 rfl rfl)
theorem dX7_needs_6 : decode cX7_needs 6 = .ok (.isub, 1) := dk_100 (dk_at dksX7_needs_0 6 rfl rfl)
theorem dX7_needs_7 : decode cX7_needs 7 = .ok (.invokestatic 26, 3) := dk_184 0 26 (dk_at dksX7_needs_0 7 rfl rfl)
theorem dX7_needs_10 : decode cX7_needs 10 = .ok (.ireturn, 1) := dk_172 (dk_at dksX7_needs_0 10 rfl rfl)
abbrev cX7_stays : ByteArray := prog_6_method_6_code
def yX7_stays : MethodName := ⟨RX7, "stays", "()I"⟩
def dkwX7_stays_0 : List UInt8 := [42, 183, 0, 32, 5, 100, 172]
abbrev dktX7_stays_0 : List UInt8 := dkwX7_stays_0 ++ []
theorem dksX7_stays_0 : cX7_stays.data.toList.drop 0 = dktX7_stays_0 := by decide +kernel
theorem dX7_stays_0 : decode cX7_stays 0 = .ok (.aload_n 0, 1) := dk_42 (dk_at dksX7_stays_0 0 rfl rfl)
theorem dX7_stays_1 : decode cX7_stays 1 = .ok (.invokespecial 32, 3) := dk_183 0 32 (dk_at dksX7_stays_0 1 rfl rfl)
theorem dX7_stays_4 : decode cX7_stays 4 = .ok (.iconst 2, 1) := dk_5 (dk_at dksX7_stays_0 4 rfl rfl)
theorem dX7_stays_5 : decode cX7_stays 5 = .ok (.isub, 1) := dk_100 (dk_at dksX7_stays_0 5 rfl rfl)
theorem dX7_stays_6 : decode cX7_stays 6 = .ok (.ireturn, 1) := dk_172 (dk_at dksX7_stays_0 6 rfl rfl)
abbrev cX7_keeps : ByteArray := prog_6_method_7_code
def yX7_keeps : MethodName := ⟨RX7, "keeps", "()I"⟩
def dkwX7_keeps_0 : List UInt8 := [42, 183, 0, 35, 5, 96, 172]
abbrev dktX7_keeps_0 : List UInt8 := dkwX7_keeps_0 ++ []
theorem dksX7_keeps_0 : cX7_keeps.data.toList.drop 0 = dktX7_keeps_0 := by decide +kernel
theorem dX7_keeps_0 : decode cX7_keeps 0 = .ok (.aload_n 0, 1) := dk_42 (dk_at dksX7_keeps_0 0 rfl rfl)
theorem dX7_keeps_1 : decode cX7_keeps 1 = .ok (.invokespecial 35, 3) := dk_183 0 35 (dk_at dksX7_keeps_0 1 rfl rfl)
theorem dX7_keeps_4 : decode cX7_keeps 4 = .ok (.iconst 2, 1) := dk_5 (dk_at dksX7_keeps_0 4 rfl rfl)
theorem dX7_keeps_5 : decode cX7_keeps 5 = .ok (.iadd, 1) := dk_96 (dk_at dksX7_keeps_0 5 rfl rfl)
theorem dX7_keeps_6 : decode cX7_keeps 6 = .ok (.ireturn, 1) := dk_172 (dk_at dksX7_keeps_0 6 rfl rfl)
abbrev cX7_isUnder : ByteArray := prog_6_method_3_code
def yX7_isUnder : MethodName := ⟨RX7, "isUnder", "(I)Z"⟩
def dkwX7_isUnder_0 : List UInt8 := [27, 4, 159, 0, 11, 42, 27, 183, 0, 19, 153, 0, 7, 4, 167, 0, 4, 3, 172]
abbrev dktX7_isUnder_0 : List UInt8 := dkwX7_isUnder_0 ++ []
theorem dksX7_isUnder_0 : cX7_isUnder.data.toList.drop 0 = dktX7_isUnder_0 := by decide +kernel
theorem dX7_isUnder_0 : decode cX7_isUnder 0 = .ok (.iload_n 1, 1) := dk_27 (dk_at dksX7_isUnder_0 0 rfl rfl)
theorem dX7_isUnder_1 : decode cX7_isUnder 1 = .ok (.iconst 1, 1) := dk_4 (dk_at dksX7_isUnder_0 1 rfl rfl)
theorem dX7_isUnder_2 : decode cX7_isUnder 2 = .ok (.if_icmp .eq 11, 3) := dk_159 0 11 (dk_at dksX7_isUnder_0 2 rfl rfl)
theorem dX7_isUnder_5 : decode cX7_isUnder 5 = .ok (.aload_n 0, 1) := dk_42 (dk_at dksX7_isUnder_0 5 rfl rfl)
theorem dX7_isUnder_6 : decode cX7_isUnder 6 = .ok (.iload_n 1, 1) := dk_27 (dk_at dksX7_isUnder_0 6 rfl rfl)
theorem dX7_isUnder_7 : decode cX7_isUnder 7 = .ok (.invokespecial 19, 3) := dk_183 0 19 (dk_at dksX7_isUnder_0 7 rfl rfl)
theorem dX7_isUnder_10 : decode cX7_isUnder 10 = .ok (.ifCond .eq 7, 3) := dk_153 0 7 (dk_at dksX7_isUnder_0 10 rfl rfl)
theorem dX7_isUnder_13 : decode cX7_isUnder 13 = .ok (.iconst 1, 1) := dk_4 (dk_at dksX7_isUnder_0 13 rfl rfl)
theorem dX7_isUnder_14 : decode cX7_isUnder 14 = .ok (.goto 4, 3) := dk_167 0 4 (dk_at dksX7_isUnder_0 14 rfl rfl)
theorem dX7_isUnder_17 : decode cX7_isUnder 17 = .ok (.iconst 0, 1) := dk_3 (dk_at dksX7_isUnder_0 17 rfl rfl)
theorem dX7_isUnder_18 : decode cX7_isUnder 18 = .ok (.ireturn, 1) := dk_172 (dk_at dksX7_isUnder_0 18 rfl rfl)
theorem q101 : (Jvm.Cond.initialized "LeftGloves$Kidskin") ∈ lw_all := lw_g (lw_at lw_m1 11 rfl) rfl
theorem q305 : (Jvm.Cond.instantiable "LeftGloves$Kidskin" (3 : Nat)) ∈ lw_all := lw_g (lw_at lw_m1 215 rfl) rfl
theorem q307 : (Jvm.Cond.instanceMethod ({ cls := "LeftGloves$Kidskin", name := "<init>", desc := "(LLeftGloves;I)V" } : Jvm.MethodName)) ∈ lw_all := lw_g (lw_at lw_m1 217 rfl) rfl
theorem q308 : (Jvm.Cond.code ({ cls := "LeftGloves$Kidskin", name := "<init>", desc := "(LLeftGloves;I)V" } : Jvm.MethodName) prog_6_method_1_code (3 : Nat) (Option.none : Option Jvm.ClassFile.FieldType)) ∈ lw_all := lw_g (lw_at lw_m1 218 rfl) rfl
theorem q309 : (Jvm.Cond.methodLink "LeftGloves$Kidskin" (9 : Nat) ({ cls := "LeftGloves$Glove", name := "<init>", desc := "(LLeftGloves;I)V" } : Jvm.MethodName)) ∈ lw_all := lw_g (lw_at lw_m1 219 rfl) rfl
theorem q313 : (Jvm.Cond.fieldLink "LeftGloves$Kidskin" (3 : Nat) "LeftGloves$Kidskin" "this$0" "LLeftGloves;") ∈ lw_all := lw_g (lw_at lw_m1 223 rfl) rfl
theorem q319 : (Jvm.Cond.laysFinal "LeftGloves$Kidskin" "LeftGloves$Kidskin" "this$0" "LLeftGloves;") ∈ lw_all := lw_g (lw_at lw_m1 229 rfl) rfl
theorem q320 : (Jvm.Cond.soleField "LeftGloves$Kidskin" "this$0") ∈ lw_all := lw_g (lw_at lw_m1 230 rfl) rfl
theorem q321 : (Jvm.Cond.laysFinal "LeftGloves$Kidskin" "LeftGloves$Glove" "number" "I") ∈ lw_all := lw_g (lw_at lw_m1 231 rfl) rfl
theorem q323 : (Jvm.Cond.laysFinal "LeftGloves$Kidskin" "LeftGloves$Glove" "this$0" "LLeftGloves;") ∈ lw_all := lw_g (lw_at lw_m1 233 rfl) rfl
theorem q325 : (Jvm.Cond.superclass "LeftGloves$Kidskin" "LeftGloves$Glove") ∈ lw_all := lw_g (lw_at lw_m1 235 rfl) rfl
theorem q497 : (Jvm.Cond.instanceMethod ({ cls := "LeftGloves$Kidskin", name := "hushes", desc := "()I" } : Jvm.MethodName)) ∈ lw_all := lw_g (lw_at lw_m2 167 rfl) rfl
theorem q498 : (Jvm.Cond.code ({ cls := "LeftGloves$Kidskin", name := "hushes", desc := "()I" } : Jvm.MethodName) prog_6_method_5_code (1 : Nat) (Option.some Jvm.ClassFile.FieldType.int)) ∈ lw_all := lw_g (lw_at lw_m2 168 rfl) rfl
theorem q499 : (Jvm.Cond.selects "LeftGloves$Kidskin" ({ cls := "LeftGloves$Glove", name := "hushes", desc := "()I" } : Jvm.MethodName) ({ cls := "LeftGloves$Kidskin", name := "hushes", desc := "()I" } : Jvm.MethodName)) ∈ lw_all := lw_g (lw_at lw_m2 169 rfl) rfl
theorem q565 : (Jvm.Cond.instanceMethod ({ cls := "LeftGloves$Kidskin", name := "kind", desc := "()I" } : Jvm.MethodName)) ∈ lw_all := lw_g (lw_at lw_m2 235 rfl) rfl
theorem q566 : (Jvm.Cond.code ({ cls := "LeftGloves$Kidskin", name := "kind", desc := "()I" } : Jvm.MethodName) prog_6_method_2_code (1 : Nat) (Option.some Jvm.ClassFile.FieldType.int)) ∈ lw_all := lw_g (lw_at lw_m2 236 rfl) rfl
theorem q567 : (Jvm.Cond.methodLink "LeftGloves$Kidskin" (15 : Nat) ({ cls := "LeftGloves$Glove", name := "kind", desc := "()I" } : Jvm.MethodName)) ∈ lw_all := lw_g (lw_at lw_m2 237 rfl) rfl
theorem q568 : (Jvm.Cond.selects "LeftGloves$Kidskin" ({ cls := "LeftGloves$Glove", name := "kind", desc := "()I" } : Jvm.MethodName) ({ cls := "LeftGloves$Kidskin", name := "kind", desc := "()I" } : Jvm.MethodName)) ∈ lw_all := lw_g (lw_at lw_m2 238 rfl) rfl
theorem q591 : (Jvm.Cond.instanceMethod ({ cls := "LeftGloves$Kidskin", name := "needs", desc := "()I" } : Jvm.MethodName)) ∈ lw_all := lw_g (lw_at lw_m3 21 rfl) rfl
theorem q592 : (Jvm.Cond.code ({ cls := "LeftGloves$Kidskin", name := "needs", desc := "()I" } : Jvm.MethodName) prog_6_method_4_code (1 : Nat) (Option.some Jvm.ClassFile.FieldType.int)) ∈ lw_all := lw_g (lw_at lw_m3 22 rfl) rfl
theorem q593 : (Jvm.Cond.methodLink "LeftGloves$Kidskin" (23 : Nat) ({ cls := "LeftGloves$Glove", name := "needs", desc := "()I" } : Jvm.MethodName)) ∈ lw_all := lw_g (lw_at lw_m3 23 rfl) rfl
theorem q594 : (Jvm.Cond.methodLink "LeftGloves$Kidskin" (26 : Nat) ({ cls := "java/lang/Math", name := "max", desc := "(II)I" } : Jvm.MethodName)) ∈ lw_all := lw_g (lw_at lw_m3 24 rfl) rfl
theorem q597 : (Jvm.Cond.selects "LeftGloves$Kidskin" ({ cls := "LeftGloves$Glove", name := "needs", desc := "()I" } : Jvm.MethodName) ({ cls := "LeftGloves$Kidskin", name := "needs", desc := "()I" } : Jvm.MethodName)) ∈ lw_all := lw_g (lw_at lw_m3 27 rfl) rfl
theorem q620 : (Jvm.Cond.instanceMethod ({ cls := "LeftGloves$Kidskin", name := "stays", desc := "()I" } : Jvm.MethodName)) ∈ lw_all := lw_g (lw_at lw_m3 50 rfl) rfl
theorem q621 : (Jvm.Cond.code ({ cls := "LeftGloves$Kidskin", name := "stays", desc := "()I" } : Jvm.MethodName) prog_6_method_6_code (1 : Nat) (Option.some Jvm.ClassFile.FieldType.int)) ∈ lw_all := lw_g (lw_at lw_m3 51 rfl) rfl
theorem q622 : (Jvm.Cond.methodLink "LeftGloves$Kidskin" (32 : Nat) ({ cls := "LeftGloves$Glove", name := "stays", desc := "()I" } : Jvm.MethodName)) ∈ lw_all := lw_g (lw_at lw_m3 52 rfl) rfl
theorem q623 : (Jvm.Cond.selects "LeftGloves$Kidskin" ({ cls := "LeftGloves$Glove", name := "stays", desc := "()I" } : Jvm.MethodName) ({ cls := "LeftGloves$Kidskin", name := "stays", desc := "()I" } : Jvm.MethodName)) ∈ lw_all := lw_g (lw_at lw_m3 53 rfl) rfl
theorem q652 : (Jvm.Cond.instanceMethod ({ cls := "LeftGloves$Kidskin", name := "keeps", desc := "()I" } : Jvm.MethodName)) ∈ lw_all := lw_g (lw_at lw_m3 82 rfl) rfl
theorem q653 : (Jvm.Cond.code ({ cls := "LeftGloves$Kidskin", name := "keeps", desc := "()I" } : Jvm.MethodName) prog_6_method_7_code (1 : Nat) (Option.some Jvm.ClassFile.FieldType.int)) ∈ lw_all := lw_g (lw_at lw_m3 83 rfl) rfl
theorem q654 : (Jvm.Cond.methodLink "LeftGloves$Kidskin" (35 : Nat) ({ cls := "LeftGloves$Glove", name := "keeps", desc := "()I" } : Jvm.MethodName)) ∈ lw_all := lw_g (lw_at lw_m3 84 rfl) rfl
theorem q655 : (Jvm.Cond.selects "LeftGloves$Kidskin" ({ cls := "LeftGloves$Glove", name := "keeps", desc := "()I" } : Jvm.MethodName) ({ cls := "LeftGloves$Kidskin", name := "keeps", desc := "()I" } : Jvm.MethodName)) ∈ lw_all := lw_g (lw_at lw_m3 85 rfl) rfl
theorem q1087 : (Jvm.Cond.instanceMethod ({ cls := "LeftGloves$Kidskin", name := "isUnder", desc := "(I)Z" } : Jvm.MethodName)) ∈ lw_all := lw_g (lw_at lw_m5 37 rfl) rfl
theorem q1088 : (Jvm.Cond.code ({ cls := "LeftGloves$Kidskin", name := "isUnder", desc := "(I)Z" } : Jvm.MethodName) prog_6_method_3_code (2 : Nat) (Option.some Jvm.ClassFile.FieldType.boolean)) ∈ lw_all := lw_g (lw_at lw_m5 38 rfl) rfl
theorem q1089 : (Jvm.Cond.methodLink "LeftGloves$Kidskin" (19 : Nat) ({ cls := "LeftGloves$Glove", name := "isUnder", desc := "(I)Z" } : Jvm.MethodName)) ∈ lw_all := lw_g (lw_at lw_m5 39 rfl) rfl
theorem q1090 : (Jvm.Cond.selects "LeftGloves$Kidskin" ({ cls := "LeftGloves$Glove", name := "isUnder", desc := "(I)Z" } : Jvm.MethodName) ({ cls := "LeftGloves$Kidskin", name := "isUnder", desc := "(I)Z" } : Jvm.MethodName)) ∈ lw_all := lw_g (lw_at lw_m5 40 rfl) rfl
theorem q1630 : (Jvm.Cond.sameMethod "LeftGloves$Kidskin" "LeftGloves$Kidskin" "hushes" "()I") ∈ lw_all := lw_g (lw_at lw_m7 100 rfl) rfl
theorem q1633 : (Jvm.Cond.sameMethod "LeftGloves$Kidskin" "LeftGloves$Kidskin" "kind" "()I") ∈ lw_all := lw_g (lw_at lw_m7 103 rfl) rfl
theorem q1634 : (Jvm.Cond.sameMethod "LeftGloves$Kidskin" "LeftGloves$Kidskin" "needs" "()I") ∈ lw_all := lw_g (lw_at lw_m7 104 rfl) rfl
theorem q1640 : (Jvm.Cond.selects "LeftGloves$Kidskin" ({ cls := "LeftGloves$Glove", name := "told", desc := "(I)I" } : Jvm.MethodName) ({ cls := "LeftGloves$Glove", name := "told", desc := "(I)I" } : Jvm.MethodName)) ∈ lw_all := lw_g (lw_at lw_m7 110 rfl) rfl
theorem q1644 : (Jvm.Cond.sameMethod "LeftGloves$Kidskin" "LeftGloves$Kidskin" "keeps" "()I") ∈ lw_all := lw_g (lw_at lw_m7 114 rfl) rfl
theorem q1648 : (Jvm.Cond.castable "LeftGloves$Kidskin" "LeftGloves$Glove") ∈ lw_tbl := lw_at lw_m7 118 rfl
theorem in_X7 : ∀ w ∈ wsX70, w ∈ lw_all := lw_in wsX70 [321, 323, 319] (by decide +kernel) (by decide +kernel)
/-! LeftGloves$Mitten -/
set_option maxRecDepth 100000
def RX8 : String := "LeftGloves$Mitten"
def TX8 : u_T := fun k => match k with
  | 0 => ("LeftGloves$Glove", "number", "I", true)
  | 1 => ("LeftGloves$Glove", "this$0", "LLeftGloves;", true)
  | _ => ("LeftGloves$Mitten", "this$0", "LLeftGloves;", true)
def tyX8 : Nat → FieldType := fun k => match k with
  | 0 => .int
  | 1 => .object "LeftGloves"
  | _ => .object "LeftGloves"
abbrev wsX80 : List Cond := u_ws RX8 TX8 3
-- two fields of one name: no nmX8
theorem tyX8_ok : ∀ k, k < 3 → parseFieldDescriptor (TX8 k).2.2.1 = some (tyX8 k) := by decide +kernel
abbrev cX8_init : ByteArray := prog_8_method_1_code
def yX8_init : MethodName := ⟨RX8, "<init>", "(LLeftGloves;I)V"⟩
def dkwX8_init_0 : List UInt8 := [42, 43, 181, 0, 3, 42, 43, 28, 183, 0, 9, 177]
abbrev dktX8_init_0 : List UInt8 := dkwX8_init_0 ++ []
theorem dksX8_init_0 : cX8_init.data.toList.drop 0 = dktX8_init_0 := by decide +kernel
theorem dX8_init_0 : decode cX8_init 0 = .ok (.aload_n 0, 1) := dk_42 (dk_at dksX8_init_0 0 rfl rfl)
theorem dX8_init_1 : decode cX8_init 1 = .ok (.aload_n 1, 1) := dk_43 (dk_at dksX8_init_0 1 rfl rfl)
theorem dX8_init_2 : decode cX8_init 2 = .ok (.putfield 3, 3) := dk_181 0 3 (dk_at dksX8_init_0 2 rfl rfl)
theorem dX8_init_5 : decode cX8_init 5 = .ok (.aload_n 0, 1) := dk_42 (dk_at dksX8_init_0 5 rfl rfl)
theorem dX8_init_6 : decode cX8_init 6 = .ok (.aload_n 1, 1) := dk_43 (dk_at dksX8_init_0 6 rfl rfl)
theorem dX8_init_7 : decode cX8_init 7 = .ok (.iload_n 2, 1) := dk_28 (dk_at dksX8_init_0 7 rfl rfl)
theorem dX8_init_8 : decode cX8_init 8 = .ok (.invokespecial 9, 3) := dk_183 0 9 (dk_at dksX8_init_0 8 rfl rfl)
theorem dX8_init_11 : decode cX8_init 11 = .ok (.return_, 1) := dk_177 (dk_at dksX8_init_0 11 rfl rfl)
abbrev cX8_kind : ByteArray := prog_8_method_2_code
def yX8_kind : MethodName := ⟨RX8, "kind", "()I"⟩
def dkwX8_kind_0 : List UInt8 := [5, 42, 183, 0, 15, 96, 172]
abbrev dktX8_kind_0 : List UInt8 := dkwX8_kind_0 ++ []
theorem dksX8_kind_0 : cX8_kind.data.toList.drop 0 = dktX8_kind_0 := by decide +kernel
theorem dX8_kind_0 : decode cX8_kind 0 = .ok (.iconst 2, 1) := dk_5 (dk_at dksX8_kind_0 0 rfl rfl)
theorem dX8_kind_1 : decode cX8_kind 1 = .ok (.aload_n 0, 1) := dk_42 (dk_at dksX8_kind_0 1 rfl rfl)
theorem dX8_kind_2 : decode cX8_kind 2 = .ok (.invokespecial 15, 3) := dk_183 0 15 (dk_at dksX8_kind_0 2 rfl rfl)
theorem dX8_kind_5 : decode cX8_kind 5 = .ok (.iadd, 1) := dk_96 (dk_at dksX8_kind_0 5 rfl rfl)
theorem dX8_kind_6 : decode cX8_kind 6 = .ok (.ireturn, 1) := dk_172 (dk_at dksX8_kind_0 6 rfl rfl)
abbrev cX8_needs : ByteArray := prog_8_method_4_code
def yX8_needs : MethodName := ⟨RX8, "needs", "()I"⟩
def dkwX8_needs_0 : List UInt8 := [42, 183, 0, 23, 6, 96, 172]
abbrev dktX8_needs_0 : List UInt8 := dkwX8_needs_0 ++ []
theorem dksX8_needs_0 : cX8_needs.data.toList.drop 0 = dktX8_needs_0 := by decide +kernel
theorem dX8_needs_0 : decode cX8_needs 0 = .ok (.aload_n 0, 1) := dk_42 (dk_at dksX8_needs_0 0 rfl rfl)
theorem dX8_needs_1 : decode cX8_needs 1 = .ok (.invokespecial 23, 3) := dk_183 0 23 (dk_at dksX8_needs_0 1 rfl rfl)
theorem dX8_needs_4 : decode cX8_needs 4 = .ok (.iconst 3, 1) := dk_6 (dk_at dksX8_needs_0 4 rfl rfl)
theorem dX8_needs_5 : decode cX8_needs 5 = .ok (.iadd, 1) := dk_96 (dk_at dksX8_needs_0 5 rfl rfl)
theorem dX8_needs_6 : decode cX8_needs 6 = .ok (.ireturn, 1) := dk_172 (dk_at dksX8_needs_0 6 rfl rfl)
abbrev cX8_stays : ByteArray := prog_8_method_5_code
def yX8_stays : MethodName := ⟨RX8, "stays", "()I"⟩
def dkwX8_stays_0 : List UInt8 := [5, 42, 183, 0, 26, 104, 172]
abbrev dktX8_stays_0 : List UInt8 := dkwX8_stays_0 ++ []
theorem dksX8_stays_0 : cX8_stays.data.toList.drop 0 = dktX8_stays_0 := by decide +kernel
theorem dX8_stays_0 : decode cX8_stays 0 = .ok (.iconst 2, 1) := dk_5 (dk_at dksX8_stays_0 0 rfl rfl)
theorem dX8_stays_1 : decode cX8_stays 1 = .ok (.aload_n 0, 1) := dk_42 (dk_at dksX8_stays_0 1 rfl rfl)
theorem dX8_stays_2 : decode cX8_stays 2 = .ok (.invokespecial 26, 3) := dk_183 0 26 (dk_at dksX8_stays_0 2 rfl rfl)
theorem dX8_stays_5 : decode cX8_stays 5 = .ok (.imul, 1) := dk_104 (dk_at dksX8_stays_0 5 rfl rfl)
theorem dX8_stays_6 : decode cX8_stays 6 = .ok (.ireturn, 1) := dk_172 (dk_at dksX8_stays_0 6 rfl rfl)
abbrev cX8_keeps : ByteArray := prog_8_method_6_code
def yX8_keeps : MethodName := ⟨RX8, "keeps", "()I"⟩
def dkwX8_keeps_0 : List UInt8 := [42, 42, 183, 0, 29, 182, 0, 32, 172]
abbrev dktX8_keeps_0 : List UInt8 := dkwX8_keeps_0 ++ []
theorem dksX8_keeps_0 : cX8_keeps.data.toList.drop 0 = dktX8_keeps_0 := by decide +kernel
theorem dX8_keeps_0 : decode cX8_keeps 0 = .ok (.aload_n 0, 1) := dk_42 (dk_at dksX8_keeps_0 0 rfl rfl)
theorem dX8_keeps_1 : decode cX8_keeps 1 = .ok (.aload_n 0, 1) := dk_42 (dk_at dksX8_keeps_0 1 rfl rfl)
theorem dX8_keeps_2 : decode cX8_keeps 2 = .ok (.invokespecial 29, 3) := dk_183 0 29 (dk_at dksX8_keeps_0 2 rfl rfl)
theorem dX8_keeps_5 : decode cX8_keeps 5 = .ok (.invokevirtual 32, 3) := dk_182 0 32 (dk_at dksX8_keeps_0 5 rfl rfl)
theorem dX8_keeps_8 : decode cX8_keeps 8 = .ok (.ireturn, 1) := dk_172 (dk_at dksX8_keeps_0 8 rfl rfl)
abbrev cX8_isUnder : ByteArray := prog_8_method_3_code
def yX8_isUnder : MethodName := ⟨RX8, "isUnder", "(I)Z"⟩
def dkwX8_isUnder_0 : List UInt8 := [27, 5, 159, 0, 11, 42, 27, 183, 0, 19, 153, 0, 7, 4, 167, 0, 4, 3, 172]
abbrev dktX8_isUnder_0 : List UInt8 := dkwX8_isUnder_0 ++ []
theorem dksX8_isUnder_0 : cX8_isUnder.data.toList.drop 0 = dktX8_isUnder_0 := by decide +kernel
theorem dX8_isUnder_0 : decode cX8_isUnder 0 = .ok (.iload_n 1, 1) := dk_27 (dk_at dksX8_isUnder_0 0 rfl rfl)
theorem dX8_isUnder_1 : decode cX8_isUnder 1 = .ok (.iconst 2, 1) := dk_5 (dk_at dksX8_isUnder_0 1 rfl rfl)
theorem dX8_isUnder_2 : decode cX8_isUnder 2 = .ok (.if_icmp .eq 11, 3) := dk_159 0 11 (dk_at dksX8_isUnder_0 2 rfl rfl)
theorem dX8_isUnder_5 : decode cX8_isUnder 5 = .ok (.aload_n 0, 1) := dk_42 (dk_at dksX8_isUnder_0 5 rfl rfl)
theorem dX8_isUnder_6 : decode cX8_isUnder 6 = .ok (.iload_n 1, 1) := dk_27 (dk_at dksX8_isUnder_0 6 rfl rfl)
theorem dX8_isUnder_7 : decode cX8_isUnder 7 = .ok (.invokespecial 19, 3) := dk_183 0 19 (dk_at dksX8_isUnder_0 7 rfl rfl)
theorem dX8_isUnder_10 : decode cX8_isUnder 10 = .ok (.ifCond .eq 7, 3) := dk_153 0 7 (dk_at dksX8_isUnder_0 10 rfl rfl)
theorem dX8_isUnder_13 : decode cX8_isUnder 13 = .ok (.iconst 1, 1) := dk_4 (dk_at dksX8_isUnder_0 13 rfl rfl)
theorem dX8_isUnder_14 : decode cX8_isUnder 14 = .ok (.goto 4, 3) := dk_167 0 4 (dk_at dksX8_isUnder_0 14 rfl rfl)
theorem dX8_isUnder_17 : decode cX8_isUnder 17 = .ok (.iconst 0, 1) := dk_3 (dk_at dksX8_isUnder_0 17 rfl rfl)
theorem dX8_isUnder_18 : decode cX8_isUnder 18 = .ok (.ireturn, 1) := dk_172 (dk_at dksX8_isUnder_0 18 rfl rfl)
theorem q102 : (Jvm.Cond.initialized "LeftGloves$Mitten") ∈ lw_all := lw_g (lw_at lw_m1 12 rfl) rfl
theorem q327 : (Jvm.Cond.instantiable "LeftGloves$Mitten" (3 : Nat)) ∈ lw_all := lw_g (lw_at lw_m1 237 rfl) rfl
theorem q329 : (Jvm.Cond.instanceMethod ({ cls := "LeftGloves$Mitten", name := "<init>", desc := "(LLeftGloves;I)V" } : Jvm.MethodName)) ∈ lw_all := lw_g (lw_at lw_m1 239 rfl) rfl
theorem q330 : (Jvm.Cond.code ({ cls := "LeftGloves$Mitten", name := "<init>", desc := "(LLeftGloves;I)V" } : Jvm.MethodName) prog_8_method_1_code (3 : Nat) (Option.none : Option Jvm.ClassFile.FieldType)) ∈ lw_all := lw_g (lw_at lw_m2 0 rfl) rfl
theorem q331 : (Jvm.Cond.methodLink "LeftGloves$Mitten" (9 : Nat) ({ cls := "LeftGloves$Glove", name := "<init>", desc := "(LLeftGloves;I)V" } : Jvm.MethodName)) ∈ lw_all := lw_g (lw_at lw_m2 1 rfl) rfl
theorem q332 : (Jvm.Cond.fieldLink "LeftGloves$Mitten" (3 : Nat) "LeftGloves$Mitten" "this$0" "LLeftGloves;") ∈ lw_all := lw_g (lw_at lw_m2 2 rfl) rfl
theorem q333 : (Jvm.Cond.laysFinal "LeftGloves$Mitten" "LeftGloves$Mitten" "this$0" "LLeftGloves;") ∈ lw_all := lw_g (lw_at lw_m2 3 rfl) rfl
theorem q334 : (Jvm.Cond.soleField "LeftGloves$Mitten" "this$0") ∈ lw_all := lw_g (lw_at lw_m2 4 rfl) rfl
theorem q335 : (Jvm.Cond.laysFinal "LeftGloves$Mitten" "LeftGloves$Glove" "number" "I") ∈ lw_all := lw_g (lw_at lw_m2 5 rfl) rfl
theorem q336 : (Jvm.Cond.laysFinal "LeftGloves$Mitten" "LeftGloves$Glove" "this$0" "LLeftGloves;") ∈ lw_all := lw_g (lw_at lw_m2 6 rfl) rfl
theorem q337 : (Jvm.Cond.superclass "LeftGloves$Mitten" "LeftGloves$Glove") ∈ lw_all := lw_g (lw_at lw_m2 7 rfl) rfl
theorem q504 : (Jvm.Cond.sameMethod "LeftGloves$Mitten" "LeftGloves$Glove" "hushes" "()I") ∈ lw_all := lw_g (lw_at lw_m2 174 rfl) rfl
theorem q506 : (Jvm.Cond.selects "LeftGloves$Mitten" ({ cls := "LeftGloves$Glove", name := "hushes", desc := "()I" } : Jvm.MethodName) ({ cls := "LeftGloves$Glove", name := "hushes", desc := "()I" } : Jvm.MethodName)) ∈ lw_all := lw_g (lw_at lw_m2 176 rfl) rfl
theorem q558 : (Jvm.Cond.instanceMethod ({ cls := "LeftGloves$Mitten", name := "kind", desc := "()I" } : Jvm.MethodName)) ∈ lw_all := lw_g (lw_at lw_m2 228 rfl) rfl
theorem q559 : (Jvm.Cond.code ({ cls := "LeftGloves$Mitten", name := "kind", desc := "()I" } : Jvm.MethodName) prog_8_method_2_code (1 : Nat) (Option.some Jvm.ClassFile.FieldType.int)) ∈ lw_all := lw_g (lw_at lw_m2 229 rfl) rfl
theorem q560 : (Jvm.Cond.methodLink "LeftGloves$Mitten" (15 : Nat) ({ cls := "LeftGloves$Glove", name := "kind", desc := "()I" } : Jvm.MethodName)) ∈ lw_all := lw_g (lw_at lw_m2 230 rfl) rfl
theorem q570 : (Jvm.Cond.selects "LeftGloves$Mitten" ({ cls := "LeftGloves$Glove", name := "kind", desc := "()I" } : Jvm.MethodName) ({ cls := "LeftGloves$Mitten", name := "kind", desc := "()I" } : Jvm.MethodName)) ∈ lw_all := lw_g (lw_at lw_m3 0 rfl) rfl
theorem q602 : (Jvm.Cond.instanceMethod ({ cls := "LeftGloves$Mitten", name := "needs", desc := "()I" } : Jvm.MethodName)) ∈ lw_all := lw_g (lw_at lw_m3 32 rfl) rfl
theorem q603 : (Jvm.Cond.code ({ cls := "LeftGloves$Mitten", name := "needs", desc := "()I" } : Jvm.MethodName) prog_8_method_4_code (1 : Nat) (Option.some Jvm.ClassFile.FieldType.int)) ∈ lw_all := lw_g (lw_at lw_m3 33 rfl) rfl
theorem q604 : (Jvm.Cond.methodLink "LeftGloves$Mitten" (23 : Nat) ({ cls := "LeftGloves$Glove", name := "needs", desc := "()I" } : Jvm.MethodName)) ∈ lw_all := lw_g (lw_at lw_m3 34 rfl) rfl
theorem q606 : (Jvm.Cond.selects "LeftGloves$Mitten" ({ cls := "LeftGloves$Glove", name := "needs", desc := "()I" } : Jvm.MethodName) ({ cls := "LeftGloves$Mitten", name := "needs", desc := "()I" } : Jvm.MethodName)) ∈ lw_all := lw_g (lw_at lw_m3 36 rfl) rfl
theorem q625 : (Jvm.Cond.instanceMethod ({ cls := "LeftGloves$Mitten", name := "stays", desc := "()I" } : Jvm.MethodName)) ∈ lw_all := lw_g (lw_at lw_m3 55 rfl) rfl
theorem q626 : (Jvm.Cond.code ({ cls := "LeftGloves$Mitten", name := "stays", desc := "()I" } : Jvm.MethodName) prog_8_method_5_code (1 : Nat) (Option.some Jvm.ClassFile.FieldType.int)) ∈ lw_all := lw_g (lw_at lw_m3 56 rfl) rfl
theorem q627 : (Jvm.Cond.methodLink "LeftGloves$Mitten" (26 : Nat) ({ cls := "LeftGloves$Glove", name := "stays", desc := "()I" } : Jvm.MethodName)) ∈ lw_all := lw_g (lw_at lw_m3 57 rfl) rfl
theorem q628 : (Jvm.Cond.selects "LeftGloves$Mitten" ({ cls := "LeftGloves$Glove", name := "stays", desc := "()I" } : Jvm.MethodName) ({ cls := "LeftGloves$Mitten", name := "stays", desc := "()I" } : Jvm.MethodName)) ∈ lw_all := lw_g (lw_at lw_m3 58 rfl) rfl
theorem q638 : (Jvm.Cond.instanceMethod ({ cls := "LeftGloves$Mitten", name := "keeps", desc := "()I" } : Jvm.MethodName)) ∈ lw_all := lw_g (lw_at lw_m3 68 rfl) rfl
theorem q639 : (Jvm.Cond.code ({ cls := "LeftGloves$Mitten", name := "keeps", desc := "()I" } : Jvm.MethodName) prog_8_method_6_code (1 : Nat) (Option.some Jvm.ClassFile.FieldType.int)) ∈ lw_all := lw_g (lw_at lw_m3 69 rfl) rfl
theorem q640 : (Jvm.Cond.methodLink "LeftGloves$Mitten" (29 : Nat) ({ cls := "LeftGloves$Glove", name := "keeps", desc := "()I" } : Jvm.MethodName)) ∈ lw_all := lw_g (lw_at lw_m3 70 rfl) rfl
theorem q644 : (Jvm.Cond.unhidden "LeftGloves$Mitten" "half" "(I)I") ∈ lw_tbl := lw_at lw_m3 74 rfl
theorem q657 : (Jvm.Cond.selects "LeftGloves$Mitten" ({ cls := "LeftGloves$Glove", name := "keeps", desc := "()I" } : Jvm.MethodName) ({ cls := "LeftGloves$Mitten", name := "keeps", desc := "()I" } : Jvm.MethodName)) ∈ lw_all := lw_g (lw_at lw_m3 87 rfl) rfl
theorem q1083 : (Jvm.Cond.instanceMethod ({ cls := "LeftGloves$Mitten", name := "isUnder", desc := "(I)Z" } : Jvm.MethodName)) ∈ lw_all := lw_g (lw_at lw_m5 33 rfl) rfl
theorem q1084 : (Jvm.Cond.code ({ cls := "LeftGloves$Mitten", name := "isUnder", desc := "(I)Z" } : Jvm.MethodName) prog_8_method_3_code (2 : Nat) (Option.some Jvm.ClassFile.FieldType.boolean)) ∈ lw_all := lw_g (lw_at lw_m5 34 rfl) rfl
theorem q1085 : (Jvm.Cond.methodLink "LeftGloves$Mitten" (19 : Nat) ({ cls := "LeftGloves$Glove", name := "isUnder", desc := "(I)Z" } : Jvm.MethodName)) ∈ lw_all := lw_g (lw_at lw_m5 35 rfl) rfl
theorem q1092 : (Jvm.Cond.selects "LeftGloves$Mitten" ({ cls := "LeftGloves$Glove", name := "isUnder", desc := "(I)Z" } : Jvm.MethodName) ({ cls := "LeftGloves$Mitten", name := "isUnder", desc := "(I)Z" } : Jvm.MethodName)) ∈ lw_all := lw_g (lw_at lw_m5 42 rfl) rfl
theorem q1632 : (Jvm.Cond.sameMethod "LeftGloves$Mitten" "LeftGloves$Mitten" "kind" "()I") ∈ lw_all := lw_g (lw_at lw_m7 102 rfl) rfl
theorem q1635 : (Jvm.Cond.sameMethod "LeftGloves$Mitten" "LeftGloves$Mitten" "needs" "()I") ∈ lw_all := lw_g (lw_at lw_m7 105 rfl) rfl
theorem q1642 : (Jvm.Cond.selects "LeftGloves$Mitten" ({ cls := "LeftGloves$Glove", name := "told", desc := "(I)I" } : Jvm.MethodName) ({ cls := "LeftGloves$Glove", name := "told", desc := "(I)I" } : Jvm.MethodName)) ∈ lw_all := lw_g (lw_at lw_m7 112 rfl) rfl
theorem q1645 : (Jvm.Cond.sameMethod "LeftGloves$Mitten" "LeftGloves$Mitten" "isUnder" "(I)Z") ∈ lw_all := lw_g (lw_at lw_m7 115 rfl) rfl
theorem q1650 : (Jvm.Cond.castable "LeftGloves$Mitten" "LeftGloves$Glove") ∈ lw_tbl := lw_at lw_m7 120 rfl
theorem in_X8 : ∀ w ∈ wsX80, w ∈ lw_all := lw_in wsX80 [335, 336, 333] (by decide +kernel) (by decide +kernel)
/-! LeftGloves$Lady -/
set_option maxRecDepth 100000
def RX9 : String := "LeftGloves$Lady"
def TX9 : u_T := fun k => match k with
  | 0 => ("LeftGloves$Glove", "number", "I", true)
  | 1 => ("LeftGloves$Glove", "this$0", "LLeftGloves;", true)
  | 2 => ("LeftGloves$Mitten", "this$0", "LLeftGloves;", true)
  | _ => ("LeftGloves$Lady", "this$0", "LLeftGloves;", true)
def tyX9 : Nat → FieldType := fun k => match k with
  | 0 => .int
  | 1 => .object "LeftGloves"
  | 2 => .object "LeftGloves"
  | _ => .object "LeftGloves"
abbrev wsX90 : List Cond := u_ws RX9 TX9 4
-- two fields of one name: no nmX9
theorem tyX9_ok : ∀ k, k < 4 → parseFieldDescriptor (TX9 k).2.2.1 = some (tyX9 k) := by decide +kernel
abbrev cX9_init : ByteArray := prog_7_method_1_code
def yX9_init : MethodName := ⟨RX9, "<init>", "(LLeftGloves;I)V"⟩
def dkwX9_init_0 : List UInt8 := [42, 43, 181, 0, 3, 42, 43, 28, 183, 0, 9, 177]
abbrev dktX9_init_0 : List UInt8 := dkwX9_init_0 ++ []
theorem dksX9_init_0 : cX9_init.data.toList.drop 0 = dktX9_init_0 := by decide +kernel
theorem dX9_init_0 : decode cX9_init 0 = .ok (.aload_n 0, 1) := dk_42 (dk_at dksX9_init_0 0 rfl rfl)
theorem dX9_init_1 : decode cX9_init 1 = .ok (.aload_n 1, 1) := dk_43 (dk_at dksX9_init_0 1 rfl rfl)
theorem dX9_init_2 : decode cX9_init 2 = .ok (.putfield 3, 3) := dk_181 0 3 (dk_at dksX9_init_0 2 rfl rfl)
theorem dX9_init_5 : decode cX9_init 5 = .ok (.aload_n 0, 1) := dk_42 (dk_at dksX9_init_0 5 rfl rfl)
theorem dX9_init_6 : decode cX9_init 6 = .ok (.aload_n 1, 1) := dk_43 (dk_at dksX9_init_0 6 rfl rfl)
theorem dX9_init_7 : decode cX9_init 7 = .ok (.iload_n 2, 1) := dk_28 (dk_at dksX9_init_0 7 rfl rfl)
theorem dX9_init_8 : decode cX9_init 8 = .ok (.invokespecial 9, 3) := dk_183 0 9 (dk_at dksX9_init_0 8 rfl rfl)
theorem dX9_init_11 : decode cX9_init 11 = .ok (.return_, 1) := dk_177 (dk_at dksX9_init_0 11 rfl rfl)
abbrev cX9_hushes : ByteArray := prog_7_method_5_code
def yX9_hushes : MethodName := ⟨RX9, "hushes", "()I"⟩
def dkwX9_hushes_0 : List UInt8 := [42, 183, 0, 32, 4, 96, 172]
abbrev dktX9_hushes_0 : List UInt8 := dkwX9_hushes_0 ++ []
theorem dksX9_hushes_0 : cX9_hushes.data.toList.drop 0 = dktX9_hushes_0 := by decide +kernel
theorem dX9_hushes_0 : decode cX9_hushes 0 = .ok (.aload_n 0, 1) := dk_42 (dk_at dksX9_hushes_0 0 rfl rfl)
theorem dX9_hushes_1 : decode cX9_hushes 1 = .ok (.invokespecial 32, 3) := dk_183 0 32 (dk_at dksX9_hushes_0 1 rfl rfl)
theorem dX9_hushes_4 : decode cX9_hushes 4 = .ok (.iconst 1, 1) := dk_4 (dk_at dksX9_hushes_0 4 rfl rfl)
theorem dX9_hushes_5 : decode cX9_hushes 5 = .ok (.iadd, 1) := dk_96 (dk_at dksX9_hushes_0 5 rfl rfl)
theorem dX9_hushes_6 : decode cX9_hushes 6 = .ok (.ireturn, 1) := dk_172 (dk_at dksX9_hushes_0 6 rfl rfl)
abbrev cX9_kind : ByteArray := prog_7_method_2_code
def yX9_kind : MethodName := ⟨RX9, "kind", "()I"⟩
def dkwX9_kind_0 : List UInt8 := [4, 42, 183, 0, 15, 96, 172]
abbrev dktX9_kind_0 : List UInt8 := dkwX9_kind_0 ++ []
theorem dksX9_kind_0 : cX9_kind.data.toList.drop 0 = dktX9_kind_0 := by decide +kernel
theorem dX9_kind_0 : decode cX9_kind 0 = .ok (.iconst 1, 1) := dk_4 (dk_at dksX9_kind_0 0 rfl rfl)
theorem dX9_kind_1 : decode cX9_kind 1 = .ok (.aload_n 0, 1) := dk_42 (dk_at dksX9_kind_0 1 rfl rfl)
theorem dX9_kind_2 : decode cX9_kind 2 = .ok (.invokespecial 15, 3) := dk_183 0 15 (dk_at dksX9_kind_0 2 rfl rfl)
theorem dX9_kind_5 : decode cX9_kind 5 = .ok (.iadd, 1) := dk_96 (dk_at dksX9_kind_0 5 rfl rfl)
theorem dX9_kind_6 : decode cX9_kind 6 = .ok (.ireturn, 1) := dk_172 (dk_at dksX9_kind_0 6 rfl rfl)
abbrev cX9_needs : ByteArray := prog_7_method_4_code
def yX9_needs : MethodName := ⟨RX9, "needs", "()I"⟩
def dkwX9_needs_0 : List UInt8 := [3, 42, 183, 0, 23, 7, 100, 184, 0, 26, 172]
abbrev dktX9_needs_0 : List UInt8 := dkwX9_needs_0 ++ []
theorem dksX9_needs_0 : cX9_needs.data.toList.drop 0 = dktX9_needs_0 := by decide +kernel
theorem dX9_needs_0 : decode cX9_needs 0 = .ok (.iconst 0, 1) := dk_3 (dk_at dksX9_needs_0 0 rfl rfl)
theorem dX9_needs_1 : decode cX9_needs 1 = .ok (.aload_n 0, 1) := dk_42 (dk_at dksX9_needs_0 1 rfl rfl)
theorem dX9_needs_2 : decode cX9_needs 2 = .ok (.invokespecial 23, 3) := dk_183 0 23 (dk_at dksX9_needs_0 2 rfl rfl)
theorem dX9_needs_5 : decode cX9_needs 5 = .ok (.iconst 4, 1) := dk_7 (dk_at dksX9_needs_0 5 rfl rfl)
theorem dX9_needs_6 : decode cX9_needs 6 = .ok (.isub, 1) := dk_100 (dk_at dksX9_needs_0 6 rfl rfl)
theorem dX9_needs_7 : decode cX9_needs 7 = .ok (.invokestatic 26, 3) := dk_184 0 26 (dk_at dksX9_needs_0 7 rfl rfl)
theorem dX9_needs_10 : decode cX9_needs 10 = .ok (.ireturn, 1) := dk_172 (dk_at dksX9_needs_0 10 rfl rfl)
abbrev cX9_isUnder : ByteArray := prog_7_method_3_code
def yX9_isUnder : MethodName := ⟨RX9, "isUnder", "(I)Z"⟩
def dkwX9_isUnder_0 : List UInt8 := [27, 6, 159, 0, 11, 42, 27, 183, 0, 19, 153, 0, 7, 4, 167, 0, 4, 3, 172]
abbrev dktX9_isUnder_0 : List UInt8 := dkwX9_isUnder_0 ++ []
theorem dksX9_isUnder_0 : cX9_isUnder.data.toList.drop 0 = dktX9_isUnder_0 := by decide +kernel
theorem dX9_isUnder_0 : decode cX9_isUnder 0 = .ok (.iload_n 1, 1) := dk_27 (dk_at dksX9_isUnder_0 0 rfl rfl)
theorem dX9_isUnder_1 : decode cX9_isUnder 1 = .ok (.iconst 3, 1) := dk_6 (dk_at dksX9_isUnder_0 1 rfl rfl)
theorem dX9_isUnder_2 : decode cX9_isUnder 2 = .ok (.if_icmp .eq 11, 3) := dk_159 0 11 (dk_at dksX9_isUnder_0 2 rfl rfl)
theorem dX9_isUnder_5 : decode cX9_isUnder 5 = .ok (.aload_n 0, 1) := dk_42 (dk_at dksX9_isUnder_0 5 rfl rfl)
theorem dX9_isUnder_6 : decode cX9_isUnder 6 = .ok (.iload_n 1, 1) := dk_27 (dk_at dksX9_isUnder_0 6 rfl rfl)
theorem dX9_isUnder_7 : decode cX9_isUnder 7 = .ok (.invokespecial 19, 3) := dk_183 0 19 (dk_at dksX9_isUnder_0 7 rfl rfl)
theorem dX9_isUnder_10 : decode cX9_isUnder 10 = .ok (.ifCond .eq 7, 3) := dk_153 0 7 (dk_at dksX9_isUnder_0 10 rfl rfl)
theorem dX9_isUnder_13 : decode cX9_isUnder 13 = .ok (.iconst 1, 1) := dk_4 (dk_at dksX9_isUnder_0 13 rfl rfl)
theorem dX9_isUnder_14 : decode cX9_isUnder 14 = .ok (.goto 4, 3) := dk_167 0 4 (dk_at dksX9_isUnder_0 14 rfl rfl)
theorem dX9_isUnder_17 : decode cX9_isUnder 17 = .ok (.iconst 0, 1) := dk_3 (dk_at dksX9_isUnder_0 17 rfl rfl)
theorem dX9_isUnder_18 : decode cX9_isUnder 18 = .ok (.ireturn, 1) := dk_172 (dk_at dksX9_isUnder_0 18 rfl rfl)
theorem q103 : (Jvm.Cond.initialized "LeftGloves$Lady") ∈ lw_all := lw_g (lw_at lw_m1 13 rfl) rfl
theorem q339 : (Jvm.Cond.instantiable "LeftGloves$Lady" (4 : Nat)) ∈ lw_all := lw_g (lw_at lw_m2 9 rfl) rfl
theorem q341 : (Jvm.Cond.instanceMethod ({ cls := "LeftGloves$Lady", name := "<init>", desc := "(LLeftGloves;I)V" } : Jvm.MethodName)) ∈ lw_all := lw_g (lw_at lw_m2 11 rfl) rfl
theorem q342 : (Jvm.Cond.code ({ cls := "LeftGloves$Lady", name := "<init>", desc := "(LLeftGloves;I)V" } : Jvm.MethodName) prog_7_method_1_code (3 : Nat) (Option.none : Option Jvm.ClassFile.FieldType)) ∈ lw_all := lw_g (lw_at lw_m2 12 rfl) rfl
theorem q343 : (Jvm.Cond.methodLink "LeftGloves$Lady" (9 : Nat) ({ cls := "LeftGloves$Mitten", name := "<init>", desc := "(LLeftGloves;I)V" } : Jvm.MethodName)) ∈ lw_all := lw_g (lw_at lw_m2 13 rfl) rfl
theorem q344 : (Jvm.Cond.fieldLink "LeftGloves$Lady" (3 : Nat) "LeftGloves$Lady" "this$0" "LLeftGloves;") ∈ lw_all := lw_g (lw_at lw_m2 14 rfl) rfl
theorem q345 : (Jvm.Cond.laysFinal "LeftGloves$Lady" "LeftGloves$Lady" "this$0" "LLeftGloves;") ∈ lw_all := lw_g (lw_at lw_m2 15 rfl) rfl
theorem q346 : (Jvm.Cond.soleField "LeftGloves$Lady" "this$0") ∈ lw_all := lw_g (lw_at lw_m2 16 rfl) rfl
theorem q347 : (Jvm.Cond.laysFinal "LeftGloves$Lady" "LeftGloves$Mitten" "this$0" "LLeftGloves;") ∈ lw_all := lw_g (lw_at lw_m2 17 rfl) rfl
theorem q348 : (Jvm.Cond.laysFinal "LeftGloves$Lady" "LeftGloves$Glove" "number" "I") ∈ lw_all := lw_g (lw_at lw_m2 18 rfl) rfl
theorem q349 : (Jvm.Cond.laysFinal "LeftGloves$Lady" "LeftGloves$Glove" "this$0" "LLeftGloves;") ∈ lw_all := lw_g (lw_at lw_m2 19 rfl) rfl
theorem q350 : (Jvm.Cond.superclass "LeftGloves$Lady" "LeftGloves$Mitten") ∈ lw_all := lw_g (lw_at lw_m2 20 rfl) rfl
theorem q500 : (Jvm.Cond.selects "LeftGloves$Lady" ({ cls := "LeftGloves$Glove", name := "hushes", desc := "()I" } : Jvm.MethodName) ({ cls := "LeftGloves$Lady", name := "hushes", desc := "()I" } : Jvm.MethodName)) ∈ lw_all := lw_g (lw_at lw_m2 170 rfl) rfl
theorem q501 : (Jvm.Cond.instanceMethod ({ cls := "LeftGloves$Lady", name := "hushes", desc := "()I" } : Jvm.MethodName)) ∈ lw_all := lw_g (lw_at lw_m2 171 rfl) rfl
theorem q502 : (Jvm.Cond.code ({ cls := "LeftGloves$Lady", name := "hushes", desc := "()I" } : Jvm.MethodName) prog_7_method_5_code (1 : Nat) (Option.some Jvm.ClassFile.FieldType.int)) ∈ lw_all := lw_g (lw_at lw_m2 172 rfl) rfl
theorem q503 : (Jvm.Cond.methodLink "LeftGloves$Lady" (32 : Nat) ({ cls := "LeftGloves$Mitten", name := "hushes", desc := "()I" } : Jvm.MethodName)) ∈ lw_all := lw_g (lw_at lw_m2 173 rfl) rfl
theorem q555 : (Jvm.Cond.instanceMethod ({ cls := "LeftGloves$Lady", name := "kind", desc := "()I" } : Jvm.MethodName)) ∈ lw_all := lw_g (lw_at lw_m2 225 rfl) rfl
theorem q556 : (Jvm.Cond.code ({ cls := "LeftGloves$Lady", name := "kind", desc := "()I" } : Jvm.MethodName) prog_7_method_2_code (1 : Nat) (Option.some Jvm.ClassFile.FieldType.int)) ∈ lw_all := lw_g (lw_at lw_m2 226 rfl) rfl
theorem q557 : (Jvm.Cond.methodLink "LeftGloves$Lady" (15 : Nat) ({ cls := "LeftGloves$Mitten", name := "kind", desc := "()I" } : Jvm.MethodName)) ∈ lw_all := lw_g (lw_at lw_m2 227 rfl) rfl
theorem q569 : (Jvm.Cond.selects "LeftGloves$Lady" ({ cls := "LeftGloves$Glove", name := "kind", desc := "()I" } : Jvm.MethodName) ({ cls := "LeftGloves$Lady", name := "kind", desc := "()I" } : Jvm.MethodName)) ∈ lw_all := lw_g (lw_at lw_m2 239 rfl) rfl
theorem q598 : (Jvm.Cond.selects "LeftGloves$Lady" ({ cls := "LeftGloves$Glove", name := "needs", desc := "()I" } : Jvm.MethodName) ({ cls := "LeftGloves$Lady", name := "needs", desc := "()I" } : Jvm.MethodName)) ∈ lw_all := lw_g (lw_at lw_m3 28 rfl) rfl
theorem q599 : (Jvm.Cond.instanceMethod ({ cls := "LeftGloves$Lady", name := "needs", desc := "()I" } : Jvm.MethodName)) ∈ lw_all := lw_g (lw_at lw_m3 29 rfl) rfl
theorem q600 : (Jvm.Cond.code ({ cls := "LeftGloves$Lady", name := "needs", desc := "()I" } : Jvm.MethodName) prog_7_method_4_code (1 : Nat) (Option.some Jvm.ClassFile.FieldType.int)) ∈ lw_all := lw_g (lw_at lw_m3 30 rfl) rfl
theorem q601 : (Jvm.Cond.methodLink "LeftGloves$Lady" (23 : Nat) ({ cls := "LeftGloves$Mitten", name := "needs", desc := "()I" } : Jvm.MethodName)) ∈ lw_all := lw_g (lw_at lw_m3 31 rfl) rfl
theorem q605 : (Jvm.Cond.methodLink "LeftGloves$Lady" (26 : Nat) ({ cls := "java/lang/Math", name := "max", desc := "(II)I" } : Jvm.MethodName)) ∈ lw_all := lw_g (lw_at lw_m3 35 rfl) rfl
theorem q624 : (Jvm.Cond.selects "LeftGloves$Lady" ({ cls := "LeftGloves$Glove", name := "stays", desc := "()I" } : Jvm.MethodName) ({ cls := "LeftGloves$Mitten", name := "stays", desc := "()I" } : Jvm.MethodName)) ∈ lw_all := lw_g (lw_at lw_m3 54 rfl) rfl
theorem q643 : (Jvm.Cond.unhidden "LeftGloves$Lady" "half" "(I)I") ∈ lw_tbl := lw_at lw_m3 73 rfl
theorem q656 : (Jvm.Cond.selects "LeftGloves$Lady" ({ cls := "LeftGloves$Glove", name := "keeps", desc := "()I" } : Jvm.MethodName) ({ cls := "LeftGloves$Mitten", name := "keeps", desc := "()I" } : Jvm.MethodName)) ∈ lw_all := lw_g (lw_at lw_m3 86 rfl) rfl
theorem q1080 : (Jvm.Cond.instanceMethod ({ cls := "LeftGloves$Lady", name := "isUnder", desc := "(I)Z" } : Jvm.MethodName)) ∈ lw_all := lw_g (lw_at lw_m5 30 rfl) rfl
theorem q1081 : (Jvm.Cond.code ({ cls := "LeftGloves$Lady", name := "isUnder", desc := "(I)Z" } : Jvm.MethodName) prog_7_method_3_code (2 : Nat) (Option.some Jvm.ClassFile.FieldType.boolean)) ∈ lw_all := lw_g (lw_at lw_m5 31 rfl) rfl
theorem q1082 : (Jvm.Cond.methodLink "LeftGloves$Lady" (19 : Nat) ({ cls := "LeftGloves$Mitten", name := "isUnder", desc := "(I)Z" } : Jvm.MethodName)) ∈ lw_all := lw_g (lw_at lw_m5 32 rfl) rfl
theorem q1091 : (Jvm.Cond.selects "LeftGloves$Lady" ({ cls := "LeftGloves$Glove", name := "isUnder", desc := "(I)Z" } : Jvm.MethodName) ({ cls := "LeftGloves$Lady", name := "isUnder", desc := "(I)Z" } : Jvm.MethodName)) ∈ lw_all := lw_g (lw_at lw_m5 41 rfl) rfl
theorem q1631 : (Jvm.Cond.sameMethod "LeftGloves$Lady" "LeftGloves$Lady" "kind" "()I") ∈ lw_all := lw_g (lw_at lw_m7 101 rfl) rfl
theorem q1641 : (Jvm.Cond.selects "LeftGloves$Lady" ({ cls := "LeftGloves$Glove", name := "told", desc := "(I)I" } : Jvm.MethodName) ({ cls := "LeftGloves$Glove", name := "told", desc := "(I)I" } : Jvm.MethodName)) ∈ lw_all := lw_g (lw_at lw_m7 111 rfl) rfl
theorem q1649 : (Jvm.Cond.castable "LeftGloves$Lady" "LeftGloves$Glove") ∈ lw_tbl := lw_at lw_m7 119 rfl
theorem q1654 : (Jvm.Cond.castable "LeftGloves$Lady" "LeftGloves$Mitten") ∈ lw_tbl := lw_at lw_m7 124 rfl
theorem in_X9 : ∀ w ∈ wsX90, w ∈ lw_all := lw_in wsX90 [348, 349, 347, 345] (by decide +kernel) (by decide +kernel)
/-! LeftGloves$Burnt -/
set_option maxRecDepth 100000
def RX10 : String := "LeftGloves$Burnt"
def TX10 : u_T := fun k => match k with
  | 0 => ("LeftGloves$Glove", "number", "I", true)
  | 1 => ("LeftGloves$Glove", "this$0", "LLeftGloves;", true)
  | 2 => ("LeftGloves$Mitten", "this$0", "LLeftGloves;", true)
  | 3 => ("LeftGloves$Lady", "this$0", "LLeftGloves;", true)
  | _ => ("LeftGloves$Burnt", "this$0", "LLeftGloves;", true)
def tyX10 : Nat → FieldType := fun k => match k with
  | 0 => .int
  | 1 => .object "LeftGloves"
  | 2 => .object "LeftGloves"
  | 3 => .object "LeftGloves"
  | _ => .object "LeftGloves"
abbrev wsX100 : List Cond := u_ws RX10 TX10 5
-- two fields of one name: no nmX10
theorem tyX10_ok : ∀ k, k < 5 → parseFieldDescriptor (TX10 k).2.2.1 = some (tyX10 k) := by decide +kernel
abbrev cX10_init : ByteArray := prog_2_method_1_code
def yX10_init : MethodName := ⟨RX10, "<init>", "(LLeftGloves;I)V"⟩
def dkwX10_init_0 : List UInt8 := [42, 43, 181, 0, 1, 42, 43, 28, 183, 0, 7, 177]
abbrev dktX10_init_0 : List UInt8 := dkwX10_init_0 ++ []
theorem dksX10_init_0 : cX10_init.data.toList.drop 0 = dktX10_init_0 := by decide +kernel
theorem dX10_init_0 : decode cX10_init 0 = .ok (.aload_n 0, 1) := dk_42 (dk_at dksX10_init_0 0 rfl rfl)
theorem dX10_init_1 : decode cX10_init 1 = .ok (.aload_n 1, 1) := dk_43 (dk_at dksX10_init_0 1 rfl rfl)
theorem dX10_init_2 : decode cX10_init 2 = .ok (.putfield 1, 3) := dk_181 0 1 (dk_at dksX10_init_0 2 rfl rfl)
theorem dX10_init_5 : decode cX10_init 5 = .ok (.aload_n 0, 1) := dk_42 (dk_at dksX10_init_0 5 rfl rfl)
theorem dX10_init_6 : decode cX10_init 6 = .ok (.aload_n 1, 1) := dk_43 (dk_at dksX10_init_0 6 rfl rfl)
theorem dX10_init_7 : decode cX10_init 7 = .ok (.iload_n 2, 1) := dk_28 (dk_at dksX10_init_0 7 rfl rfl)
theorem dX10_init_8 : decode cX10_init 8 = .ok (.invokespecial 7, 3) := dk_183 0 7 (dk_at dksX10_init_0 8 rfl rfl)
theorem dX10_init_11 : decode cX10_init 11 = .ok (.return_, 1) := dk_177 (dk_at dksX10_init_0 11 rfl rfl)
abbrev cX10_hushes : ByteArray := prog_2_method_4_code
def yX10_hushes : MethodName := ⟨RX10, "hushes", "()I"⟩
theorem dX10_hushes_0 : decode cX10_hushes 0 = .ok (.iconst 0, 1) := by decide +kernel
theorem dX10_hushes_1 : decode cX10_hushes 1 = .ok (.ireturn, 1) := by decide +kernel
abbrev cX10_kind : ByteArray := prog_2_method_2_code
def yX10_kind : MethodName := ⟨RX10, "kind", "()I"⟩
def dkwX10_kind_0 : List UInt8 := [4, 42, 183, 0, 13, 96, 172]
abbrev dktX10_kind_0 : List UInt8 := dkwX10_kind_0 ++ []
theorem dksX10_kind_0 : cX10_kind.data.toList.drop 0 = dktX10_kind_0 := by decide +kernel
theorem dX10_kind_0 : decode cX10_kind 0 = .ok (.iconst 1, 1) := dk_4 (dk_at dksX10_kind_0 0 rfl rfl)
theorem dX10_kind_1 : decode cX10_kind 1 = .ok (.aload_n 0, 1) := dk_42 (dk_at dksX10_kind_0 1 rfl rfl)
theorem dX10_kind_2 : decode cX10_kind 2 = .ok (.invokespecial 13, 3) := dk_183 0 13 (dk_at dksX10_kind_0 2 rfl rfl)
theorem dX10_kind_5 : decode cX10_kind 5 = .ok (.iadd, 1) := dk_96 (dk_at dksX10_kind_0 5 rfl rfl)
theorem dX10_kind_6 : decode cX10_kind 6 = .ok (.ireturn, 1) := dk_172 (dk_at dksX10_kind_0 6 rfl rfl)
abbrev cX10_needs : ByteArray := prog_2_method_3_code
def yX10_needs : MethodName := ⟨RX10, "needs", "()I"⟩
theorem dX10_needs_0 : decode cX10_needs 0 = .ok (.bipush 99, 2) := by decide +kernel
theorem dX10_needs_2 : decode cX10_needs 2 = .ok (.ireturn, 1) := by decide +kernel
abbrev cX10_stays : ByteArray := prog_2_method_5_code
def yX10_stays : MethodName := ⟨RX10, "stays", "()I"⟩
theorem dX10_stays_0 : decode cX10_stays 0 = .ok (.iconst 0, 1) := by decide +kernel
theorem dX10_stays_1 : decode cX10_stays 1 = .ok (.ireturn, 1) := by decide +kernel
theorem q104 : (Jvm.Cond.initialized "LeftGloves$Burnt") ∈ lw_all := lw_g (lw_at lw_m1 14 rfl) rfl
theorem q352 : (Jvm.Cond.instantiable "LeftGloves$Burnt" (5 : Nat)) ∈ lw_all := lw_g (lw_at lw_m2 22 rfl) rfl
theorem q354 : (Jvm.Cond.instanceMethod ({ cls := "LeftGloves$Burnt", name := "<init>", desc := "(LLeftGloves;I)V" } : Jvm.MethodName)) ∈ lw_all := lw_g (lw_at lw_m2 24 rfl) rfl
theorem q355 : (Jvm.Cond.code ({ cls := "LeftGloves$Burnt", name := "<init>", desc := "(LLeftGloves;I)V" } : Jvm.MethodName) prog_2_method_1_code (3 : Nat) (Option.none : Option Jvm.ClassFile.FieldType)) ∈ lw_all := lw_g (lw_at lw_m2 25 rfl) rfl
theorem q356 : (Jvm.Cond.methodLink "LeftGloves$Burnt" (7 : Nat) ({ cls := "LeftGloves$Lady", name := "<init>", desc := "(LLeftGloves;I)V" } : Jvm.MethodName)) ∈ lw_all := lw_g (lw_at lw_m2 26 rfl) rfl
theorem q357 : (Jvm.Cond.fieldLink "LeftGloves$Burnt" (1 : Nat) "LeftGloves$Burnt" "this$0" "LLeftGloves;") ∈ lw_all := lw_g (lw_at lw_m2 27 rfl) rfl
theorem q358 : (Jvm.Cond.laysFinal "LeftGloves$Burnt" "LeftGloves$Burnt" "this$0" "LLeftGloves;") ∈ lw_all := lw_g (lw_at lw_m2 28 rfl) rfl
theorem q359 : (Jvm.Cond.soleField "LeftGloves$Burnt" "this$0") ∈ lw_all := lw_g (lw_at lw_m2 29 rfl) rfl
theorem q360 : (Jvm.Cond.laysFinal "LeftGloves$Burnt" "LeftGloves$Lady" "this$0" "LLeftGloves;") ∈ lw_all := lw_g (lw_at lw_m2 30 rfl) rfl
theorem q361 : (Jvm.Cond.laysFinal "LeftGloves$Burnt" "LeftGloves$Mitten" "this$0" "LLeftGloves;") ∈ lw_all := lw_g (lw_at lw_m2 31 rfl) rfl
theorem q362 : (Jvm.Cond.laysFinal "LeftGloves$Burnt" "LeftGloves$Glove" "number" "I") ∈ lw_all := lw_g (lw_at lw_m2 32 rfl) rfl
theorem q363 : (Jvm.Cond.laysFinal "LeftGloves$Burnt" "LeftGloves$Glove" "this$0" "LLeftGloves;") ∈ lw_all := lw_g (lw_at lw_m2 33 rfl) rfl
theorem q364 : (Jvm.Cond.superclass "LeftGloves$Burnt" "LeftGloves$Lady") ∈ lw_all := lw_g (lw_at lw_m2 34 rfl) rfl
theorem q490 : (Jvm.Cond.selects "LeftGloves$Burnt" ({ cls := "LeftGloves$Glove", name := "hushes", desc := "()I" } : Jvm.MethodName) ({ cls := "LeftGloves$Burnt", name := "hushes", desc := "()I" } : Jvm.MethodName)) ∈ lw_all := lw_g (lw_at lw_m2 160 rfl) rfl
theorem q491 : (Jvm.Cond.instanceMethod ({ cls := "LeftGloves$Burnt", name := "hushes", desc := "()I" } : Jvm.MethodName)) ∈ lw_all := lw_g (lw_at lw_m2 161 rfl) rfl
theorem q492 : (Jvm.Cond.code ({ cls := "LeftGloves$Burnt", name := "hushes", desc := "()I" } : Jvm.MethodName) prog_2_method_4_code (1 : Nat) (Option.some Jvm.ClassFile.FieldType.int)) ∈ lw_all := lw_g (lw_at lw_m2 162 rfl) rfl
theorem q551 : (Jvm.Cond.selects "LeftGloves$Burnt" ({ cls := "LeftGloves$Glove", name := "kind", desc := "()I" } : Jvm.MethodName) ({ cls := "LeftGloves$Burnt", name := "kind", desc := "()I" } : Jvm.MethodName)) ∈ lw_all := lw_g (lw_at lw_m2 221 rfl) rfl
theorem q552 : (Jvm.Cond.instanceMethod ({ cls := "LeftGloves$Burnt", name := "kind", desc := "()I" } : Jvm.MethodName)) ∈ lw_all := lw_g (lw_at lw_m2 222 rfl) rfl
theorem q553 : (Jvm.Cond.code ({ cls := "LeftGloves$Burnt", name := "kind", desc := "()I" } : Jvm.MethodName) prog_2_method_2_code (1 : Nat) (Option.some Jvm.ClassFile.FieldType.int)) ∈ lw_all := lw_g (lw_at lw_m2 223 rfl) rfl
theorem q554 : (Jvm.Cond.methodLink "LeftGloves$Burnt" (13 : Nat) ({ cls := "LeftGloves$Lady", name := "kind", desc := "()I" } : Jvm.MethodName)) ∈ lw_all := lw_g (lw_at lw_m2 224 rfl) rfl
theorem q580 : (Jvm.Cond.selects "LeftGloves$Burnt" ({ cls := "LeftGloves$Glove", name := "needs", desc := "()I" } : Jvm.MethodName) ({ cls := "LeftGloves$Burnt", name := "needs", desc := "()I" } : Jvm.MethodName)) ∈ lw_all := lw_g (lw_at lw_m3 10 rfl) rfl
theorem q581 : (Jvm.Cond.instanceMethod ({ cls := "LeftGloves$Burnt", name := "needs", desc := "()I" } : Jvm.MethodName)) ∈ lw_all := lw_g (lw_at lw_m3 11 rfl) rfl
theorem q582 : (Jvm.Cond.code ({ cls := "LeftGloves$Burnt", name := "needs", desc := "()I" } : Jvm.MethodName) prog_2_method_3_code (1 : Nat) (Option.some Jvm.ClassFile.FieldType.int)) ∈ lw_all := lw_g (lw_at lw_m3 12 rfl) rfl
theorem q616 : (Jvm.Cond.selects "LeftGloves$Burnt" ({ cls := "LeftGloves$Glove", name := "stays", desc := "()I" } : Jvm.MethodName) ({ cls := "LeftGloves$Burnt", name := "stays", desc := "()I" } : Jvm.MethodName)) ∈ lw_all := lw_g (lw_at lw_m3 46 rfl) rfl
theorem q617 : (Jvm.Cond.instanceMethod ({ cls := "LeftGloves$Burnt", name := "stays", desc := "()I" } : Jvm.MethodName)) ∈ lw_all := lw_g (lw_at lw_m3 47 rfl) rfl
theorem q618 : (Jvm.Cond.code ({ cls := "LeftGloves$Burnt", name := "stays", desc := "()I" } : Jvm.MethodName) prog_2_method_5_code (1 : Nat) (Option.some Jvm.ClassFile.FieldType.int)) ∈ lw_all := lw_g (lw_at lw_m3 48 rfl) rfl
theorem q637 : (Jvm.Cond.selects "LeftGloves$Burnt" ({ cls := "LeftGloves$Glove", name := "keeps", desc := "()I" } : Jvm.MethodName) ({ cls := "LeftGloves$Mitten", name := "keeps", desc := "()I" } : Jvm.MethodName)) ∈ lw_all := lw_g (lw_at lw_m3 67 rfl) rfl
theorem q642 : (Jvm.Cond.unhidden "LeftGloves$Burnt" "half" "(I)I") ∈ lw_tbl := lw_at lw_m3 72 rfl
theorem q1079 : (Jvm.Cond.selects "LeftGloves$Burnt" ({ cls := "LeftGloves$Glove", name := "isUnder", desc := "(I)Z" } : Jvm.MethodName) ({ cls := "LeftGloves$Lady", name := "isUnder", desc := "(I)Z" } : Jvm.MethodName)) ∈ lw_all := lw_g (lw_at lw_m5 29 rfl) rfl
theorem q1637 : (Jvm.Cond.selects "LeftGloves$Burnt" ({ cls := "LeftGloves$Glove", name := "told", desc := "(I)I" } : Jvm.MethodName) ({ cls := "LeftGloves$Glove", name := "told", desc := "(I)I" } : Jvm.MethodName)) ∈ lw_all := lw_g (lw_at lw_m7 107 rfl) rfl
theorem q1646 : (Jvm.Cond.castable "LeftGloves$Burnt" "LeftGloves$Glove") ∈ lw_tbl := lw_at lw_m7 116 rfl
theorem q1653 : (Jvm.Cond.castable "LeftGloves$Burnt" "LeftGloves$Mitten") ∈ lw_tbl := lw_at lw_m7 123 rfl
theorem q1655 : (Jvm.Cond.castable "LeftGloves$Burnt" "LeftGloves$Lady") ∈ lw_tbl := lw_at lw_m7 125 rfl
theorem in_X10 : ∀ w ∈ wsX100, w ∈ lw_all := lw_in wsX100 [362, 363, 361, 360, 358] (by decide +kernel) (by decide +kernel)
/-! LeftGloves$Stiff -/
set_option maxRecDepth 100000
def RX11 : String := "LeftGloves$Stiff"
def TX11 : u_T := fun k => match k with
  | 0 => ("LeftGloves$Glove", "number", "I", true)
  | 1 => ("LeftGloves$Glove", "this$0", "LLeftGloves;", true)
  | _ => ("LeftGloves$Stiff", "this$0", "LLeftGloves;", true)
def tyX11 : Nat → FieldType := fun k => match k with
  | 0 => .int
  | 1 => .object "LeftGloves"
  | _ => .object "LeftGloves"
abbrev wsX110 : List Cond := u_ws RX11 TX11 3
-- two fields of one name: no nmX11
theorem tyX11_ok : ∀ k, k < 3 → parseFieldDescriptor (TX11 k).2.2.1 = some (tyX11 k) := by decide +kernel
abbrev cX11_init : ByteArray := prog_12_method_1_code
def yX11_init : MethodName := ⟨RX11, "<init>", "(LLeftGloves;I)V"⟩
def dkwX11_init_0 : List UInt8 := [42, 43, 181, 0, 3, 42, 43, 28, 183, 0, 9, 177]
abbrev dktX11_init_0 : List UInt8 := dkwX11_init_0 ++ []
theorem dksX11_init_0 : cX11_init.data.toList.drop 0 = dktX11_init_0 := by decide +kernel
theorem dX11_init_0 : decode cX11_init 0 = .ok (.aload_n 0, 1) := dk_42 (dk_at dksX11_init_0 0 rfl rfl)
theorem dX11_init_1 : decode cX11_init 1 = .ok (.aload_n 1, 1) := dk_43 (dk_at dksX11_init_0 1 rfl rfl)
theorem dX11_init_2 : decode cX11_init 2 = .ok (.putfield 3, 3) := dk_181 0 3 (dk_at dksX11_init_0 2 rfl rfl)
theorem dX11_init_5 : decode cX11_init 5 = .ok (.aload_n 0, 1) := dk_42 (dk_at dksX11_init_0 5 rfl rfl)
theorem dX11_init_6 : decode cX11_init 6 = .ok (.aload_n 1, 1) := dk_43 (dk_at dksX11_init_0 6 rfl rfl)
theorem dX11_init_7 : decode cX11_init 7 = .ok (.iload_n 2, 1) := dk_28 (dk_at dksX11_init_0 7 rfl rfl)
theorem dX11_init_8 : decode cX11_init 8 = .ok (.invokespecial 9, 3) := dk_183 0 9 (dk_at dksX11_init_0 8 rfl rfl)
theorem dX11_init_11 : decode cX11_init 11 = .ok (.return_, 1) := dk_177 (dk_at dksX11_init_0 11 rfl rfl)
abbrev cX11_hushes : ByteArray := prog_12_method_4_code
def yX11_hushes : MethodName := ⟨RX11, "hushes", "()I"⟩
def dkwX11_hushes_0 : List UInt8 := [42, 183, 0, 19, 42, 7, 182, 0, 22, 16, 100, 161, 0, 7, 4, 167, 0, 4, 3, 96, 172]
abbrev dktX11_hushes_0 : List UInt8 := dkwX11_hushes_0 ++ []
theorem dksX11_hushes_0 : cX11_hushes.data.toList.drop 0 = dktX11_hushes_0 := by decide +kernel
theorem dX11_hushes_0 : decode cX11_hushes 0 = .ok (.aload_n 0, 1) := dk_42 (dk_at dksX11_hushes_0 0 rfl rfl)
theorem dX11_hushes_1 : decode cX11_hushes 1 = .ok (.invokespecial 19, 3) := dk_183 0 19 (dk_at dksX11_hushes_0 1 rfl rfl)
theorem dX11_hushes_4 : decode cX11_hushes 4 = .ok (.aload_n 0, 1) := dk_42 (dk_at dksX11_hushes_0 4 rfl rfl)
theorem dX11_hushes_5 : decode cX11_hushes 5 = .ok (.iconst 4, 1) := dk_7 (dk_at dksX11_hushes_0 5 rfl rfl)
theorem dX11_hushes_6 : decode cX11_hushes 6 = .ok (.invokevirtual 22, 3) := dk_182 0 22 (dk_at dksX11_hushes_0 6 rfl rfl)
theorem dX11_hushes_9 : decode cX11_hushes 9 = .ok (.bipush 100, 2) := dk_16 100 (dk_at dksX11_hushes_0 9 rfl rfl)
theorem dX11_hushes_11 : decode cX11_hushes 11 = .ok (.if_icmp .lt 7, 3) := dk_161 0 7 (dk_at dksX11_hushes_0 11 rfl rfl)
theorem dX11_hushes_14 : decode cX11_hushes 14 = .ok (.iconst 1, 1) := dk_4 (dk_at dksX11_hushes_0 14 rfl rfl)
theorem dX11_hushes_15 : decode cX11_hushes 15 = .ok (.goto 4, 3) := dk_167 0 4 (dk_at dksX11_hushes_0 15 rfl rfl)
theorem dX11_hushes_18 : decode cX11_hushes 18 = .ok (.iconst 0, 1) := dk_3 (dk_at dksX11_hushes_0 18 rfl rfl)
theorem dX11_hushes_19 : decode cX11_hushes 19 = .ok (.iadd, 1) := dk_96 (dk_at dksX11_hushes_0 19 rfl rfl)
theorem dX11_hushes_20 : decode cX11_hushes 20 = .ok (.ireturn, 1) := dk_172 (dk_at dksX11_hushes_0 20 rfl rfl)
abbrev cX11_kind : ByteArray := prog_12_method_2_code
def yX11_kind : MethodName := ⟨RX11, "kind", "()I"⟩
def dkwX11_kind_0 : List UInt8 := [8, 42, 183, 0, 15, 96, 172]
abbrev dktX11_kind_0 : List UInt8 := dkwX11_kind_0 ++ []
theorem dksX11_kind_0 : cX11_kind.data.toList.drop 0 = dktX11_kind_0 := by decide +kernel
theorem dX11_kind_0 : decode cX11_kind 0 = .ok (.iconst 5, 1) := dk_8 (dk_at dksX11_kind_0 0 rfl rfl)
theorem dX11_kind_1 : decode cX11_kind 1 = .ok (.aload_n 0, 1) := dk_42 (dk_at dksX11_kind_0 1 rfl rfl)
theorem dX11_kind_2 : decode cX11_kind 2 = .ok (.invokespecial 15, 3) := dk_183 0 15 (dk_at dksX11_kind_0 2 rfl rfl)
theorem dX11_kind_5 : decode cX11_kind 5 = .ok (.iadd, 1) := dk_96 (dk_at dksX11_kind_0 5 rfl rfl)
theorem dX11_kind_6 : decode cX11_kind 6 = .ok (.ireturn, 1) := dk_172 (dk_at dksX11_kind_0 6 rfl rfl)
abbrev cX11_needs : ByteArray := prog_12_method_3_code
def yX11_needs : MethodName := ⟨RX11, "needs", "()I"⟩
theorem dX11_needs_0 : decode cX11_needs 0 = .ok (.iconst 0, 1) := by decide +kernel
theorem dX11_needs_1 : decode cX11_needs 1 = .ok (.ireturn, 1) := by decide +kernel
abbrev cX11_stays : ByteArray := prog_12_method_5_code
def yX11_stays : MethodName := ⟨RX11, "stays", "()I"⟩
theorem dX11_stays_0 : decode cX11_stays 0 = .ok (.iconst 0, 1) := by decide +kernel
theorem dX11_stays_1 : decode cX11_stays 1 = .ok (.ireturn, 1) := by decide +kernel
abbrev cX11_keeps : ByteArray := prog_12_method_6_code
def yX11_keeps : MethodName := ⟨RX11, "keeps", "()I"⟩
theorem dX11_keeps_0 : decode cX11_keeps 0 = .ok (.bipush 16, 2) := by decide +kernel
theorem dX11_keeps_2 : decode cX11_keeps 2 = .ok (.ireturn, 1) := by decide +kernel
theorem q105 : (Jvm.Cond.initialized "LeftGloves$Stiff") ∈ lw_all := lw_g (lw_at lw_m1 15 rfl) rfl
theorem q366 : (Jvm.Cond.instantiable "LeftGloves$Stiff" (3 : Nat)) ∈ lw_all := lw_g (lw_at lw_m2 36 rfl) rfl
theorem q368 : (Jvm.Cond.instanceMethod ({ cls := "LeftGloves$Stiff", name := "<init>", desc := "(LLeftGloves;I)V" } : Jvm.MethodName)) ∈ lw_all := lw_g (lw_at lw_m2 38 rfl) rfl
theorem q369 : (Jvm.Cond.code ({ cls := "LeftGloves$Stiff", name := "<init>", desc := "(LLeftGloves;I)V" } : Jvm.MethodName) prog_12_method_1_code (3 : Nat) (Option.none : Option Jvm.ClassFile.FieldType)) ∈ lw_all := lw_g (lw_at lw_m2 39 rfl) rfl
theorem q370 : (Jvm.Cond.methodLink "LeftGloves$Stiff" (9 : Nat) ({ cls := "LeftGloves$Glove", name := "<init>", desc := "(LLeftGloves;I)V" } : Jvm.MethodName)) ∈ lw_all := lw_g (lw_at lw_m2 40 rfl) rfl
theorem q371 : (Jvm.Cond.fieldLink "LeftGloves$Stiff" (3 : Nat) "LeftGloves$Stiff" "this$0" "LLeftGloves;") ∈ lw_all := lw_g (lw_at lw_m2 41 rfl) rfl
theorem q372 : (Jvm.Cond.laysFinal "LeftGloves$Stiff" "LeftGloves$Stiff" "this$0" "LLeftGloves;") ∈ lw_all := lw_g (lw_at lw_m2 42 rfl) rfl
theorem q373 : (Jvm.Cond.soleField "LeftGloves$Stiff" "this$0") ∈ lw_all := lw_g (lw_at lw_m2 43 rfl) rfl
theorem q374 : (Jvm.Cond.laysFinal "LeftGloves$Stiff" "LeftGloves$Glove" "number" "I") ∈ lw_all := lw_g (lw_at lw_m2 44 rfl) rfl
theorem q375 : (Jvm.Cond.laysFinal "LeftGloves$Stiff" "LeftGloves$Glove" "this$0" "LLeftGloves;") ∈ lw_all := lw_g (lw_at lw_m2 45 rfl) rfl
theorem q376 : (Jvm.Cond.superclass "LeftGloves$Stiff" "LeftGloves$Glove") ∈ lw_all := lw_g (lw_at lw_m2 46 rfl) rfl
theorem q507 : (Jvm.Cond.selects "LeftGloves$Stiff" ({ cls := "LeftGloves$Glove", name := "hushes", desc := "()I" } : Jvm.MethodName) ({ cls := "LeftGloves$Stiff", name := "hushes", desc := "()I" } : Jvm.MethodName)) ∈ lw_all := lw_g (lw_at lw_m2 177 rfl) rfl
theorem q508 : (Jvm.Cond.instanceMethod ({ cls := "LeftGloves$Stiff", name := "hushes", desc := "()I" } : Jvm.MethodName)) ∈ lw_all := lw_g (lw_at lw_m2 178 rfl) rfl
theorem q509 : (Jvm.Cond.code ({ cls := "LeftGloves$Stiff", name := "hushes", desc := "()I" } : Jvm.MethodName) prog_12_method_4_code (1 : Nat) (Option.some Jvm.ClassFile.FieldType.int)) ∈ lw_all := lw_g (lw_at lw_m2 179 rfl) rfl
theorem q510 : (Jvm.Cond.methodLink "LeftGloves$Stiff" (19 : Nat) ({ cls := "LeftGloves$Glove", name := "hushes", desc := "()I" } : Jvm.MethodName)) ∈ lw_all := lw_g (lw_at lw_m2 180 rfl) rfl
theorem q511 : (Jvm.Cond.methodLink "LeftGloves$Stiff" (22 : Nat) ({ cls := "LeftGloves$Stiff", name := "told", desc := "(I)I" } : Jvm.MethodName)) ∈ lw_all := lw_g (lw_at lw_m2 181 rfl) rfl
theorem q512 : (Jvm.Cond.sameMethod "LeftGloves$Stiff" "LeftGloves$Glove" "told" "(I)I") ∈ lw_all := lw_g (lw_at lw_m2 182 rfl) rfl
theorem q514 : (Jvm.Cond.selects "LeftGloves$Stiff" ({ cls := "LeftGloves$Stiff", name := "told", desc := "(I)I" } : Jvm.MethodName) ({ cls := "LeftGloves$Glove", name := "told", desc := "(I)I" } : Jvm.MethodName)) ∈ lw_all := lw_g (lw_at lw_m2 184 rfl) rfl
theorem q571 : (Jvm.Cond.selects "LeftGloves$Stiff" ({ cls := "LeftGloves$Glove", name := "kind", desc := "()I" } : Jvm.MethodName) ({ cls := "LeftGloves$Stiff", name := "kind", desc := "()I" } : Jvm.MethodName)) ∈ lw_all := lw_g (lw_at lw_m3 1 rfl) rfl
theorem q572 : (Jvm.Cond.instanceMethod ({ cls := "LeftGloves$Stiff", name := "kind", desc := "()I" } : Jvm.MethodName)) ∈ lw_all := lw_g (lw_at lw_m3 2 rfl) rfl
theorem q573 : (Jvm.Cond.code ({ cls := "LeftGloves$Stiff", name := "kind", desc := "()I" } : Jvm.MethodName) prog_12_method_2_code (1 : Nat) (Option.some Jvm.ClassFile.FieldType.int)) ∈ lw_all := lw_g (lw_at lw_m3 3 rfl) rfl
theorem q574 : (Jvm.Cond.methodLink "LeftGloves$Stiff" (15 : Nat) ({ cls := "LeftGloves$Glove", name := "kind", desc := "()I" } : Jvm.MethodName)) ∈ lw_all := lw_g (lw_at lw_m3 4 rfl) rfl
theorem q607 : (Jvm.Cond.selects "LeftGloves$Stiff" ({ cls := "LeftGloves$Glove", name := "needs", desc := "()I" } : Jvm.MethodName) ({ cls := "LeftGloves$Stiff", name := "needs", desc := "()I" } : Jvm.MethodName)) ∈ lw_all := lw_g (lw_at lw_m3 37 rfl) rfl
theorem q608 : (Jvm.Cond.instanceMethod ({ cls := "LeftGloves$Stiff", name := "needs", desc := "()I" } : Jvm.MethodName)) ∈ lw_all := lw_g (lw_at lw_m3 38 rfl) rfl
theorem q609 : (Jvm.Cond.code ({ cls := "LeftGloves$Stiff", name := "needs", desc := "()I" } : Jvm.MethodName) prog_12_method_3_code (1 : Nat) (Option.some Jvm.ClassFile.FieldType.int)) ∈ lw_all := lw_g (lw_at lw_m3 39 rfl) rfl
theorem q629 : (Jvm.Cond.selects "LeftGloves$Stiff" ({ cls := "LeftGloves$Glove", name := "stays", desc := "()I" } : Jvm.MethodName) ({ cls := "LeftGloves$Stiff", name := "stays", desc := "()I" } : Jvm.MethodName)) ∈ lw_all := lw_g (lw_at lw_m3 59 rfl) rfl
theorem q630 : (Jvm.Cond.instanceMethod ({ cls := "LeftGloves$Stiff", name := "stays", desc := "()I" } : Jvm.MethodName)) ∈ lw_all := lw_g (lw_at lw_m3 60 rfl) rfl
theorem q631 : (Jvm.Cond.code ({ cls := "LeftGloves$Stiff", name := "stays", desc := "()I" } : Jvm.MethodName) prog_12_method_5_code (1 : Nat) (Option.some Jvm.ClassFile.FieldType.int)) ∈ lw_all := lw_g (lw_at lw_m3 61 rfl) rfl
theorem q658 : (Jvm.Cond.selects "LeftGloves$Stiff" ({ cls := "LeftGloves$Glove", name := "keeps", desc := "()I" } : Jvm.MethodName) ({ cls := "LeftGloves$Stiff", name := "keeps", desc := "()I" } : Jvm.MethodName)) ∈ lw_all := lw_g (lw_at lw_m3 88 rfl) rfl
theorem q659 : (Jvm.Cond.instanceMethod ({ cls := "LeftGloves$Stiff", name := "keeps", desc := "()I" } : Jvm.MethodName)) ∈ lw_all := lw_g (lw_at lw_m3 89 rfl) rfl
theorem q660 : (Jvm.Cond.code ({ cls := "LeftGloves$Stiff", name := "keeps", desc := "()I" } : Jvm.MethodName) prog_12_method_6_code (1 : Nat) (Option.some Jvm.ClassFile.FieldType.int)) ∈ lw_all := lw_g (lw_at lw_m3 90 rfl) rfl
theorem q1093 : (Jvm.Cond.selects "LeftGloves$Stiff" ({ cls := "LeftGloves$Glove", name := "isUnder", desc := "(I)Z" } : Jvm.MethodName) ({ cls := "LeftGloves$Glove", name := "isUnder", desc := "(I)Z" } : Jvm.MethodName)) ∈ lw_all := lw_g (lw_at lw_m5 43 rfl) rfl
theorem q1643 : (Jvm.Cond.selects "LeftGloves$Stiff" ({ cls := "LeftGloves$Glove", name := "told", desc := "(I)I" } : Jvm.MethodName) ({ cls := "LeftGloves$Glove", name := "told", desc := "(I)I" } : Jvm.MethodName)) ∈ lw_all := lw_g (lw_at lw_m7 113 rfl) rfl
theorem q1651 : (Jvm.Cond.castable "LeftGloves$Stiff" "LeftGloves$Glove") ∈ lw_tbl := lw_at lw_m7 121 rfl
theorem in_X11 : ∀ w ∈ wsX110, w ∈ lw_all := lw_in wsX110 [374, 375, 372] (by decide +kernel) (by decide +kernel)
/-! LeftGloves$Double -/
set_option maxRecDepth 100000
def RX12 : String := "LeftGloves$Double"
def TX12 : u_T := fun k => match k with
  | 0 => ("LeftGloves$Glove", "number", "I", true)
  | 1 => ("LeftGloves$Glove", "this$0", "LLeftGloves;", true)
  | 2 => ("LeftGloves$Kidskin", "this$0", "LLeftGloves;", true)
  | _ => ("LeftGloves$Double", "this$0", "LLeftGloves;", true)
def tyX12 : Nat → FieldType := fun k => match k with
  | 0 => .int
  | 1 => .object "LeftGloves"
  | 2 => .object "LeftGloves"
  | _ => .object "LeftGloves"
abbrev wsX120 : List Cond := u_ws RX12 TX12 4
-- two fields of one name: no nmX12
theorem tyX12_ok : ∀ k, k < 4 → parseFieldDescriptor (TX12 k).2.2.1 = some (tyX12 k) := by decide +kernel
abbrev cX12_init : ByteArray := prog_3_method_1_code
def yX12_init : MethodName := ⟨RX12, "<init>", "(LLeftGloves;I)V"⟩
def dkwX12_init_0 : List UInt8 := [42, 43, 181, 0, 3, 42, 43, 28, 183, 0, 9, 177]
abbrev dktX12_init_0 : List UInt8 := dkwX12_init_0 ++ []
theorem dksX12_init_0 : cX12_init.data.toList.drop 0 = dktX12_init_0 := by decide +kernel
theorem dX12_init_0 : decode cX12_init 0 = .ok (.aload_n 0, 1) := dk_42 (dk_at dksX12_init_0 0 rfl rfl)
theorem dX12_init_1 : decode cX12_init 1 = .ok (.aload_n 1, 1) := dk_43 (dk_at dksX12_init_0 1 rfl rfl)
theorem dX12_init_2 : decode cX12_init 2 = .ok (.putfield 3, 3) := dk_181 0 3 (dk_at dksX12_init_0 2 rfl rfl)
theorem dX12_init_5 : decode cX12_init 5 = .ok (.aload_n 0, 1) := dk_42 (dk_at dksX12_init_0 5 rfl rfl)
theorem dX12_init_6 : decode cX12_init 6 = .ok (.aload_n 1, 1) := dk_43 (dk_at dksX12_init_0 6 rfl rfl)
theorem dX12_init_7 : decode cX12_init 7 = .ok (.iload_n 2, 1) := dk_28 (dk_at dksX12_init_0 7 rfl rfl)
theorem dX12_init_8 : decode cX12_init 8 = .ok (.invokespecial 9, 3) := dk_183 0 9 (dk_at dksX12_init_0 8 rfl rfl)
theorem dX12_init_11 : decode cX12_init 11 = .ok (.return_, 1) := dk_177 (dk_at dksX12_init_0 11 rfl rfl)
abbrev cX12_hushes : ByteArray := prog_3_method_4_code
def yX12_hushes : MethodName := ⟨RX12, "hushes", "()I"⟩
def dkwX12_hushes_0 : List UInt8 := [5, 42, 183, 0, 39, 104, 172]
abbrev dktX12_hushes_0 : List UInt8 := dkwX12_hushes_0 ++ []
theorem dksX12_hushes_0 : cX12_hushes.data.toList.drop 0 = dktX12_hushes_0 := by decide +kernel
theorem dX12_hushes_0 : decode cX12_hushes 0 = .ok (.iconst 2, 1) := dk_5 (dk_at dksX12_hushes_0 0 rfl rfl)
theorem dX12_hushes_1 : decode cX12_hushes 1 = .ok (.aload_n 0, 1) := dk_42 (dk_at dksX12_hushes_0 1 rfl rfl)
theorem dX12_hushes_2 : decode cX12_hushes 2 = .ok (.invokespecial 39, 3) := dk_183 0 39 (dk_at dksX12_hushes_0 2 rfl rfl)
theorem dX12_hushes_5 : decode cX12_hushes 5 = .ok (.imul, 1) := dk_104 (dk_at dksX12_hushes_0 5 rfl rfl)
theorem dX12_hushes_6 : decode cX12_hushes 6 = .ok (.ireturn, 1) := dk_172 (dk_at dksX12_hushes_0 6 rfl rfl)
abbrev cX12_kind : ByteArray := prog_3_method_2_code
def yX12_kind : MethodName := ⟨RX12, "kind", "()I"⟩
def dkwX12_kind_0 : List UInt8 := [8, 42, 183, 0, 15, 96, 172]
abbrev dktX12_kind_0 : List UInt8 := dkwX12_kind_0 ++ []
theorem dksX12_kind_0 : cX12_kind.data.toList.drop 0 = dktX12_kind_0 := by decide +kernel
theorem dX12_kind_0 : decode cX12_kind 0 = .ok (.iconst 5, 1) := dk_8 (dk_at dksX12_kind_0 0 rfl rfl)
theorem dX12_kind_1 : decode cX12_kind 1 = .ok (.aload_n 0, 1) := dk_42 (dk_at dksX12_kind_0 1 rfl rfl)
theorem dX12_kind_2 : decode cX12_kind 2 = .ok (.invokespecial 15, 3) := dk_183 0 15 (dk_at dksX12_kind_0 2 rfl rfl)
theorem dX12_kind_5 : decode cX12_kind 5 = .ok (.iadd, 1) := dk_96 (dk_at dksX12_kind_0 5 rfl rfl)
theorem dX12_kind_6 : decode cX12_kind 6 = .ok (.ireturn, 1) := dk_172 (dk_at dksX12_kind_0 6 rfl rfl)
abbrev cX12_needs : ByteArray := prog_3_method_3_code
def yX12_needs : MethodName := ⟨RX12, "needs", "()I"⟩
def dkwX12_needs_1 : List UInt8 := [154, 0, 7, 4, 167, 0, 4, 3, 60, 27, 153, 0, 10, 42, 183, 0, 36, 167, 0, 4, 4, 172]
abbrev dktX12_needs_1 : List UInt8 := dkwX12_needs_1 ++ []
def dkwX12_needs_0 : List UInt8 := [42, 180, 0, 3, 180, 0, 19, 42, 4, 182, 0, 23, 182, 0, 27, 4, 42, 180, 0, 32, 120, 2, 130, 126]
abbrev dktX12_needs_0 : List UInt8 := dkwX12_needs_0 ++ dktX12_needs_1
theorem dksX12_needs_0 : cX12_needs.data.toList.drop 0 = dktX12_needs_0 := by decide +kernel
theorem dksX12_needs_1 : cX12_needs.data.toList.drop 24 = dktX12_needs_1 := dk_seg dksX12_needs_0 24 rfl rfl
theorem dX12_needs_0 : decode cX12_needs 0 = .ok (.aload_n 0, 1) := dk_42 (dk_at dksX12_needs_0 0 rfl rfl)
theorem dX12_needs_1 : decode cX12_needs 1 = .ok (.getfield 3, 3) := dk_180 0 3 (dk_at dksX12_needs_0 1 rfl rfl)
theorem dX12_needs_4 : decode cX12_needs 4 = .ok (.getfield 19, 3) := dk_180 0 19 (dk_at dksX12_needs_0 4 rfl rfl)
theorem dX12_needs_7 : decode cX12_needs 7 = .ok (.aload_n 0, 1) := dk_42 (dk_at dksX12_needs_0 7 rfl rfl)
theorem dX12_needs_8 : decode cX12_needs 8 = .ok (.iconst 1, 1) := dk_4 (dk_at dksX12_needs_0 8 rfl rfl)
theorem dX12_needs_9 : decode cX12_needs 9 = .ok (.invokevirtual 23, 3) := dk_182 0 23 (dk_at dksX12_needs_0 9 rfl rfl)
theorem dX12_needs_12 : decode cX12_needs 12 = .ok (.invokevirtual 27, 3) := dk_182 0 27 (dk_at dksX12_needs_0 12 rfl rfl)
theorem dX12_needs_15 : decode cX12_needs 15 = .ok (.iconst 1, 1) := dk_4 (dk_at dksX12_needs_0 15 rfl rfl)
theorem dX12_needs_16 : decode cX12_needs 16 = .ok (.aload_n 0, 1) := dk_42 (dk_at dksX12_needs_0 16 rfl rfl)
theorem dX12_needs_17 : decode cX12_needs 17 = .ok (.getfield 32, 3) := dk_180 0 32 (dk_at dksX12_needs_0 17 rfl rfl)
theorem dX12_needs_20 : decode cX12_needs 20 = .ok (.ishl, 1) := dk_120 (dk_at dksX12_needs_0 20 rfl rfl)
theorem dX12_needs_21 : decode cX12_needs 21 = .ok (.iconst (-1), 1) := dk_2 (dk_at dksX12_needs_0 21 rfl rfl)
theorem dX12_needs_22 : decode cX12_needs 22 = .ok (.ixor, 1) := dk_130 (dk_at dksX12_needs_0 22 rfl rfl)
theorem dX12_needs_23 : decode cX12_needs 23 = .ok (.iand, 1) := dk_126 (dk_at dksX12_needs_0 23 rfl rfl)
theorem dX12_needs_24 : decode cX12_needs 24 = .ok (.ifCond .ne 7, 3) := dk_154 0 7 (dk_at dksX12_needs_1 0 rfl rfl)
theorem dX12_needs_27 : decode cX12_needs 27 = .ok (.iconst 1, 1) := dk_4 (dk_at dksX12_needs_1 3 rfl rfl)
theorem dX12_needs_28 : decode cX12_needs 28 = .ok (.goto 4, 3) := dk_167 0 4 (dk_at dksX12_needs_1 4 rfl rfl)
theorem dX12_needs_31 : decode cX12_needs 31 = .ok (.iconst 0, 1) := dk_3 (dk_at dksX12_needs_1 7 rfl rfl)
theorem dX12_needs_32 : decode cX12_needs 32 = .ok (.istore_n 1, 1) := dk_60 (dk_at dksX12_needs_1 8 rfl rfl)
theorem dX12_needs_33 : decode cX12_needs 33 = .ok (.iload_n 1, 1) := dk_27 (dk_at dksX12_needs_1 9 rfl rfl)
theorem dX12_needs_34 : decode cX12_needs 34 = .ok (.ifCond .eq 10, 3) := dk_153 0 10 (dk_at dksX12_needs_1 10 rfl rfl)
theorem dX12_needs_37 : decode cX12_needs 37 = .ok (.aload_n 0, 1) := dk_42 (dk_at dksX12_needs_1 13 rfl rfl)
theorem dX12_needs_38 : decode cX12_needs 38 = .ok (.invokespecial 36, 3) := dk_183 0 36 (dk_at dksX12_needs_1 14 rfl rfl)
theorem dX12_needs_41 : decode cX12_needs 41 = .ok (.goto 4, 3) := dk_167 0 4 (dk_at dksX12_needs_1 17 rfl rfl)
theorem dX12_needs_44 : decode cX12_needs 44 = .ok (.iconst 1, 1) := dk_4 (dk_at dksX12_needs_1 20 rfl rfl)
theorem dX12_needs_45 : decode cX12_needs 45 = .ok (.ireturn, 1) := dk_172 (dk_at dksX12_needs_1 21 rfl rfl)
abbrev cX12_keeps : ByteArray := prog_3_method_5_code
def yX12_keeps : MethodName := ⟨RX12, "keeps", "()I"⟩
def dkwX12_keeps_0 : List UInt8 := [42, 183, 0, 42, 5, 96, 172]
abbrev dktX12_keeps_0 : List UInt8 := dkwX12_keeps_0 ++ []
theorem dksX12_keeps_0 : cX12_keeps.data.toList.drop 0 = dktX12_keeps_0 := by decide +kernel
theorem dX12_keeps_0 : decode cX12_keeps 0 = .ok (.aload_n 0, 1) := dk_42 (dk_at dksX12_keeps_0 0 rfl rfl)
theorem dX12_keeps_1 : decode cX12_keeps 1 = .ok (.invokespecial 42, 3) := dk_183 0 42 (dk_at dksX12_keeps_0 1 rfl rfl)
theorem dX12_keeps_4 : decode cX12_keeps 4 = .ok (.iconst 2, 1) := dk_5 (dk_at dksX12_keeps_0 4 rfl rfl)
theorem dX12_keeps_5 : decode cX12_keeps 5 = .ok (.iadd, 1) := dk_96 (dk_at dksX12_keeps_0 5 rfl rfl)
theorem dX12_keeps_6 : decode cX12_keeps 6 = .ok (.ireturn, 1) := dk_172 (dk_at dksX12_keeps_0 6 rfl rfl)
theorem q106 : (Jvm.Cond.initialized "LeftGloves$Double") ∈ lw_all := lw_g (lw_at lw_m1 16 rfl) rfl
theorem q315 : (Jvm.Cond.fieldLink "LeftGloves$Double" (32 : Nat) "LeftGloves$Double" "number" "I") ∈ lw_all := lw_g (lw_at lw_m1 225 rfl) rfl
theorem q316 : (Jvm.Cond.sameField "LeftGloves$Double" "LeftGloves$Glove" "number" "I") ∈ lw_all := lw_g (lw_at lw_m1 226 rfl) rfl
theorem q378 : (Jvm.Cond.instantiable "LeftGloves$Double" (4 : Nat)) ∈ lw_all := lw_g (lw_at lw_m2 48 rfl) rfl
theorem q380 : (Jvm.Cond.instanceMethod ({ cls := "LeftGloves$Double", name := "<init>", desc := "(LLeftGloves;I)V" } : Jvm.MethodName)) ∈ lw_all := lw_g (lw_at lw_m2 50 rfl) rfl
theorem q381 : (Jvm.Cond.code ({ cls := "LeftGloves$Double", name := "<init>", desc := "(LLeftGloves;I)V" } : Jvm.MethodName) prog_3_method_1_code (3 : Nat) (Option.none : Option Jvm.ClassFile.FieldType)) ∈ lw_all := lw_g (lw_at lw_m2 51 rfl) rfl
theorem q382 : (Jvm.Cond.methodLink "LeftGloves$Double" (9 : Nat) ({ cls := "LeftGloves$Kidskin", name := "<init>", desc := "(LLeftGloves;I)V" } : Jvm.MethodName)) ∈ lw_all := lw_g (lw_at lw_m2 52 rfl) rfl
theorem q383 : (Jvm.Cond.fieldLink "LeftGloves$Double" (3 : Nat) "LeftGloves$Double" "this$0" "LLeftGloves;") ∈ lw_all := lw_g (lw_at lw_m2 53 rfl) rfl
theorem q384 : (Jvm.Cond.laysFinal "LeftGloves$Double" "LeftGloves$Double" "this$0" "LLeftGloves;") ∈ lw_all := lw_g (lw_at lw_m2 54 rfl) rfl
theorem q385 : (Jvm.Cond.soleField "LeftGloves$Double" "this$0") ∈ lw_all := lw_g (lw_at lw_m2 55 rfl) rfl
theorem q386 : (Jvm.Cond.laysFinal "LeftGloves$Double" "LeftGloves$Kidskin" "this$0" "LLeftGloves;") ∈ lw_all := lw_g (lw_at lw_m2 56 rfl) rfl
theorem q387 : (Jvm.Cond.laysFinal "LeftGloves$Double" "LeftGloves$Glove" "number" "I") ∈ lw_all := lw_g (lw_at lw_m2 57 rfl) rfl
theorem q388 : (Jvm.Cond.laysFinal "LeftGloves$Double" "LeftGloves$Glove" "this$0" "LLeftGloves;") ∈ lw_all := lw_g (lw_at lw_m2 58 rfl) rfl
theorem q389 : (Jvm.Cond.superclass "LeftGloves$Double" "LeftGloves$Kidskin") ∈ lw_all := lw_g (lw_at lw_m2 59 rfl) rfl
theorem q399 : (Jvm.Cond.fieldLinkNest "LeftGloves$Double" (19 : Nat) "LeftGloves" "d" "LLeftGloves$World;" "LeftGloves") ∈ lw_tbl := lw_at lw_m2 69 rfl
theorem q493 : (Jvm.Cond.selects "LeftGloves$Double" ({ cls := "LeftGloves$Glove", name := "hushes", desc := "()I" } : Jvm.MethodName) ({ cls := "LeftGloves$Double", name := "hushes", desc := "()I" } : Jvm.MethodName)) ∈ lw_all := lw_g (lw_at lw_m2 163 rfl) rfl
theorem q494 : (Jvm.Cond.instanceMethod ({ cls := "LeftGloves$Double", name := "hushes", desc := "()I" } : Jvm.MethodName)) ∈ lw_all := lw_g (lw_at lw_m2 164 rfl) rfl
theorem q495 : (Jvm.Cond.code ({ cls := "LeftGloves$Double", name := "hushes", desc := "()I" } : Jvm.MethodName) prog_3_method_4_code (1 : Nat) (Option.some Jvm.ClassFile.FieldType.int)) ∈ lw_all := lw_g (lw_at lw_m2 165 rfl) rfl
theorem q496 : (Jvm.Cond.methodLink "LeftGloves$Double" (39 : Nat) ({ cls := "LeftGloves$Kidskin", name := "hushes", desc := "()I" } : Jvm.MethodName)) ∈ lw_all := lw_g (lw_at lw_m2 166 rfl) rfl
theorem q561 : (Jvm.Cond.selects "LeftGloves$Double" ({ cls := "LeftGloves$Glove", name := "kind", desc := "()I" } : Jvm.MethodName) ({ cls := "LeftGloves$Double", name := "kind", desc := "()I" } : Jvm.MethodName)) ∈ lw_all := lw_g (lw_at lw_m2 231 rfl) rfl
theorem q562 : (Jvm.Cond.instanceMethod ({ cls := "LeftGloves$Double", name := "kind", desc := "()I" } : Jvm.MethodName)) ∈ lw_all := lw_g (lw_at lw_m2 232 rfl) rfl
theorem q563 : (Jvm.Cond.code ({ cls := "LeftGloves$Double", name := "kind", desc := "()I" } : Jvm.MethodName) prog_3_method_2_code (1 : Nat) (Option.some Jvm.ClassFile.FieldType.int)) ∈ lw_all := lw_g (lw_at lw_m2 233 rfl) rfl
theorem q564 : (Jvm.Cond.methodLink "LeftGloves$Double" (15 : Nat) ({ cls := "LeftGloves$Kidskin", name := "kind", desc := "()I" } : Jvm.MethodName)) ∈ lw_all := lw_g (lw_at lw_m2 234 rfl) rfl
theorem q583 : (Jvm.Cond.selects "LeftGloves$Double" ({ cls := "LeftGloves$Glove", name := "needs", desc := "()I" } : Jvm.MethodName) ({ cls := "LeftGloves$Double", name := "needs", desc := "()I" } : Jvm.MethodName)) ∈ lw_all := lw_g (lw_at lw_m3 13 rfl) rfl
theorem q584 : (Jvm.Cond.instanceMethod ({ cls := "LeftGloves$Double", name := "needs", desc := "()I" } : Jvm.MethodName)) ∈ lw_all := lw_g (lw_at lw_m3 14 rfl) rfl
theorem q585 : (Jvm.Cond.code ({ cls := "LeftGloves$Double", name := "needs", desc := "()I" } : Jvm.MethodName) prog_3_method_3_code (2 : Nat) (Option.some Jvm.ClassFile.FieldType.int)) ∈ lw_all := lw_g (lw_at lw_m3 15 rfl) rfl
theorem q586 : (Jvm.Cond.methodLink "LeftGloves$Double" (23 : Nat) ({ cls := "LeftGloves$Double", name := "told", desc := "(I)I" } : Jvm.MethodName)) ∈ lw_all := lw_g (lw_at lw_m3 16 rfl) rfl
theorem q587 : (Jvm.Cond.sameMethod "LeftGloves$Double" "LeftGloves$Glove" "told" "(I)I") ∈ lw_all := lw_g (lw_at lw_m3 17 rfl) rfl
theorem q588 : (Jvm.Cond.selects "LeftGloves$Double" ({ cls := "LeftGloves$Double", name := "told", desc := "(I)I" } : Jvm.MethodName) ({ cls := "LeftGloves$Glove", name := "told", desc := "(I)I" } : Jvm.MethodName)) ∈ lw_all := lw_g (lw_at lw_m3 18 rfl) rfl
theorem q589 : (Jvm.Cond.methodLink "LeftGloves$Double" (27 : Nat) ({ cls := "LeftGloves$World", name := "whatIsIn", desc := "(I)I" } : Jvm.MethodName)) ∈ lw_all := lw_g (lw_at lw_m3 19 rfl) rfl
theorem q590 : (Jvm.Cond.methodLink "LeftGloves$Double" (36 : Nat) ({ cls := "LeftGloves$Kidskin", name := "needs", desc := "()I" } : Jvm.MethodName)) ∈ lw_all := lw_g (lw_at lw_m3 20 rfl) rfl
theorem q619 : (Jvm.Cond.selects "LeftGloves$Double" ({ cls := "LeftGloves$Glove", name := "stays", desc := "()I" } : Jvm.MethodName) ({ cls := "LeftGloves$Kidskin", name := "stays", desc := "()I" } : Jvm.MethodName)) ∈ lw_all := lw_g (lw_at lw_m3 49 rfl) rfl
theorem q648 : (Jvm.Cond.selects "LeftGloves$Double" ({ cls := "LeftGloves$Glove", name := "keeps", desc := "()I" } : Jvm.MethodName) ({ cls := "LeftGloves$Double", name := "keeps", desc := "()I" } : Jvm.MethodName)) ∈ lw_all := lw_g (lw_at lw_m3 78 rfl) rfl
theorem q649 : (Jvm.Cond.instanceMethod ({ cls := "LeftGloves$Double", name := "keeps", desc := "()I" } : Jvm.MethodName)) ∈ lw_all := lw_g (lw_at lw_m3 79 rfl) rfl
theorem q650 : (Jvm.Cond.code ({ cls := "LeftGloves$Double", name := "keeps", desc := "()I" } : Jvm.MethodName) prog_3_method_5_code (1 : Nat) (Option.some Jvm.ClassFile.FieldType.int)) ∈ lw_all := lw_g (lw_at lw_m3 80 rfl) rfl
theorem q651 : (Jvm.Cond.methodLink "LeftGloves$Double" (42 : Nat) ({ cls := "LeftGloves$Kidskin", name := "keeps", desc := "()I" } : Jvm.MethodName)) ∈ lw_all := lw_g (lw_at lw_m3 81 rfl) rfl
theorem q1086 : (Jvm.Cond.selects "LeftGloves$Double" ({ cls := "LeftGloves$Glove", name := "isUnder", desc := "(I)Z" } : Jvm.MethodName) ({ cls := "LeftGloves$Kidskin", name := "isUnder", desc := "(I)Z" } : Jvm.MethodName)) ∈ lw_all := lw_g (lw_at lw_m5 36 rfl) rfl
theorem q1638 : (Jvm.Cond.selects "LeftGloves$Double" ({ cls := "LeftGloves$Glove", name := "told", desc := "(I)I" } : Jvm.MethodName) ({ cls := "LeftGloves$Glove", name := "told", desc := "(I)I" } : Jvm.MethodName)) ∈ lw_all := lw_g (lw_at lw_m7 108 rfl) rfl
theorem q1647 : (Jvm.Cond.castable "LeftGloves$Double" "LeftGloves$Glove") ∈ lw_tbl := lw_at lw_m7 117 rfl
theorem q1652 : (Jvm.Cond.castable "LeftGloves$Double" "LeftGloves$Kidskin") ∈ lw_tbl := lw_at lw_m7 122 rfl
theorem in_X12 : ∀ w ∈ wsX120, w ∈ lw_all := lw_in wsX120 [387, 388, 386, 384] (by decide +kernel) (by decide +kernel)
/-! LeftGloves$Hears -/
set_option maxRecDepth 100000
def RX14 : String := "LeftGloves$Hears"
abbrev cX14_half : ByteArray := prog_5_method_5_code
def yX14_half : MethodName := ⟨RX14, "half", "(I)I"⟩
def dkwX14_half_0 : List UInt8 := [27, 5, 108, 172]
abbrev dktX14_half_0 : List UInt8 := dkwX14_half_0 ++ []
theorem dksX14_half_0 : cX14_half.data.toList.drop 0 = dktX14_half_0 := by decide +kernel
theorem dX14_half_0 : decode cX14_half 0 = .ok (.iload_n 1, 1) := dk_27 (dk_at dksX14_half_0 0 rfl rfl)
theorem dX14_half_1 : decode cX14_half 1 = .ok (.iconst 2, 1) := dk_5 (dk_at dksX14_half_0 1 rfl rfl)
theorem dX14_half_2 : decode cX14_half 2 = .ok (.idiv, 1) := dk_108 (dk_at dksX14_half_0 2 rfl rfl)
theorem dX14_half_3 : decode cX14_half 3 = .ok (.ireturn, 1) := dk_172 (dk_at dksX14_half_0 3 rfl rfl)
theorem q641 : (Jvm.Cond.declares ({ cls := "LeftGloves$Hears", name := "half", desc := "(I)I" } : Jvm.MethodName)) ∈ lw_tbl := lw_at lw_m3 71 rfl
theorem q645 : (Jvm.Cond.instanceMethod ({ cls := "LeftGloves$Hears", name := "half", desc := "(I)I" } : Jvm.MethodName)) ∈ lw_all := lw_g (lw_at lw_m3 75 rfl) rfl
theorem q646 : (Jvm.Cond.publicMethod ({ cls := "LeftGloves$Hears", name := "half", desc := "(I)I" } : Jvm.MethodName)) ∈ lw_tbl := lw_at lw_m3 76 rfl
theorem q647 : (Jvm.Cond.code ({ cls := "LeftGloves$Hears", name := "half", desc := "(I)I" } : Jvm.MethodName) prog_5_method_5_code (2 : Nat) (Option.some Jvm.ClassFile.FieldType.int)) ∈ lw_all := lw_g (lw_at lw_m3 77 rfl) rfl
theorem q90 : (Jvm.Cond.initialized "LeftGlovesLaw") ∈ lw_all := lw_g (lw_at lw_m1 0 rfl) rfl
set_option maxRecDepth 100000
theorem q115 : (Jvm.Cond.classLink "LeftGlovesLaw" (7 : Nat) "LeftGloves") ∈ lw_all := lw_g (lw_at lw_m1 25 rfl) rfl
theorem q117 : (Jvm.Cond.methodLink "LeftGlovesLaw" (9 : Nat) ({ cls := "LeftGloves", name := "<init>", desc := "()V" } : Jvm.MethodName)) ∈ lw_all := lw_g (lw_at lw_m1 27 rfl) rfl
theorem q432 : (Jvm.Cond.methodLink "LeftGlovesLaw" (13 : Nat) ({ cls := "LeftGloves", name := "say", desc := "(II)I" } : Jvm.MethodName)) ∈ lw_all := lw_g (lw_at lw_m2 102 rfl) rfl
theorem q462 : (Jvm.Cond.methodLink "LeftGlovesLaw" (18 : Nat) ({ cls := "LeftGloves", name := "said", desc := "(I)I" } : Jvm.MethodName)) ∈ lw_all := lw_g (lw_at lw_m2 132 rfl) rfl
theorem q466 : (Jvm.Cond.methodLink "LeftGlovesLaw" (23 : Nat) ({ cls := "LeftGloves", name := "room", desc := "(II)I" } : Jvm.MethodName)) ∈ lw_all := lw_g (lw_at lw_m2 136 rfl) rfl
theorem q528 : (Jvm.Cond.methodLink "LeftGlovesLaw" (27 : Nat) ({ cls := "LeftGloves", name := "glove", desc := "(II)I" } : Jvm.MethodName)) ∈ lw_all := lw_g (lw_at lw_m2 198 rfl) rfl
theorem q539 : (Jvm.Cond.methodLink "LeftGlovesLaw" (31 : Nat) ({ cls := "LeftGloves", name := "of", desc := "(II)I" } : Jvm.MethodName)) ∈ lw_all := lw_g (lw_at lw_m2 209 rfl) rfl
theorem q662 : (Jvm.Cond.methodLink "LeftGlovesLaw" (35 : Nat) ({ cls := "LeftGloves", name := "change", desc := "(III)I" } : Jvm.MethodName)) ∈ lw_all := lw_g (lw_at lw_m3 92 rfl) rfl
theorem q673 : (Jvm.Cond.methodLink "LeftGlovesLaw" (40 : Nat) ({ cls := "LeftGloves", name := "draw", desc := "(I)I" } : Jvm.MethodName)) ∈ lw_all := lw_g (lw_at lw_m3 103 rfl) rfl
theorem q688 : (Jvm.Cond.methodLink "LeftGlovesLaw" (44 : Nat) ({ cls := "LeftGloves", name := "who", desc := "(II)I" } : Jvm.MethodName)) ∈ lw_all := lw_g (lw_at lw_m3 118 rfl) rfl
theorem q696 : (Jvm.Cond.methodLink "LeftGlovesLaw" (48 : Nat) ({ cls := "LeftGloves", name := "go", desc := "(I)I" } : Jvm.MethodName)) ∈ lw_all := lw_g (lw_at lw_m3 126 rfl) rfl
theorem q751 : (Jvm.Cond.methodLink "LeftGlovesLaw" (52 : Nat) ({ cls := "LeftGloves", name := "now", desc := "(I)I" } : Jvm.MethodName)) ∈ lw_all := lw_g (lw_at lw_m3 181 rfl) rfl
theorem q768 : (Jvm.Cond.methodLink "LeftGlovesLaw" (56 : Nat) ({ cls := "LeftGloves", name := "ahead", desc := "(III)I" } : Jvm.MethodName)) ∈ lw_all := lw_g (lw_at lw_m3 198 rfl) rfl
theorem q786 : (Jvm.Cond.methodLink "LeftGlovesLaw" (60 : Nat) ({ cls := "LeftGloves", name := "hears", desc := "(II)I" } : Jvm.MethodName)) ∈ lw_all := lw_g (lw_at lw_m3 216 rfl) rfl
theorem q798 : (Jvm.Cond.methodLink "LeftGlovesLaw" (64 : Nat) ({ cls := "LeftGloves", name := "wise", desc := "(II)I" } : Jvm.MethodName)) ∈ lw_all := lw_g (lw_at lw_m3 228 rfl) rfl
theorem q810 : (Jvm.Cond.methodLink "LeftGlovesLaw" (68 : Nat) ({ cls := "LeftGloves", name := "out", desc := "(I)I" } : Jvm.MethodName)) ∈ lw_all := lw_g (lw_at lw_m4 0 rfl) rfl
theorem q818 : (Jvm.Cond.methodLink "LeftGlovesLaw" (72 : Nat) ({ cls := "LeftGloves", name := "leave", desc := "(II)I" } : Jvm.MethodName)) ∈ lw_all := lw_g (lw_at lw_m4 8 rfl) rfl
theorem q830 : (Jvm.Cond.methodLink "LeftGlovesLaw" (76 : Nat) ({ cls := "LeftGloves", name := "openFor", desc := "(III)I" } : Jvm.MethodName)) ∈ lw_all := lw_g (lw_at lw_m4 20 rfl) rfl
theorem q838 : (Jvm.Cond.methodLink "LeftGlovesLaw" (80 : Nat) ({ cls := "LeftGloves", name := "kindFor", desc := "(II)I" } : Jvm.MethodName)) ∈ lw_all := lw_g (lw_at lw_m4 28 rfl) rfl
theorem q842 : (Jvm.Cond.methodLink "LeftGlovesLaw" (84 : Nat) ({ cls := "LeftGloves", name := "lower", desc := "(I)I" } : Jvm.MethodName)) ∈ lw_all := lw_g (lw_at lw_m4 32 rfl) rfl
theorem q850 : (Jvm.Cond.methodLink "LeftGlovesLaw" (88 : Nat) ({ cls := "LeftGloves", name := "cover", desc := "(I)I" } : Jvm.MethodName)) ∈ lw_all := lw_g (lw_at lw_m4 40 rfl) rfl
theorem q858 : (Jvm.Cond.methodLink "LeftGlovesLaw" (92 : Nat) ({ cls := "LeftGloves", name := "away", desc := "(III)I" } : Jvm.MethodName)) ∈ lw_all := lw_g (lw_at lw_m4 48 rfl) rfl
theorem q870 : (Jvm.Cond.methodLink "LeftGlovesLaw" (96 : Nat) ({ cls := "LeftGloves", name := "fits", desc := "(II)I" } : Jvm.MethodName)) ∈ lw_all := lw_g (lw_at lw_m4 60 rfl) rfl
theorem q906 : (Jvm.Cond.methodLink "LeftGlovesLaw" (100 : Nat) ({ cls := "LeftGloves", name := "kinds", desc := "(II)I" } : Jvm.MethodName)) ∈ lw_all := lw_g (lw_at lw_m4 96 rfl) rfl
theorem q910 : (Jvm.Cond.methodLink "LeftGlovesLaw" (104 : Nat) ({ cls := "LeftGloves", name := "talk", desc := "(I)I" } : Jvm.MethodName)) ∈ lw_all := lw_g (lw_at lw_m4 100 rfl) rfl
theorem q924 : (Jvm.Cond.methodLink "LeftGlovesLaw" (108 : Nat) ({ cls := "LeftGloves", name := "odds", desc := "(III)J" } : Jvm.MethodName)) ∈ lw_all := lw_g (lw_at lw_m4 114 rfl) rfl
theorem q931 : (Jvm.Cond.methodLink "LeftGlovesLaw" (113 : Nat) ({ cls := "LeftGloves", name := "seed", desc := "(I)I" } : Jvm.MethodName)) ∈ lw_all := lw_g (lw_at lw_m4 121 rfl) rfl
theorem q935 : (Jvm.Cond.methodLink "LeftGlovesLaw" (117 : Nat) ({ cls := "LeftGloves", name := "feed", desc := "(II)I" } : Jvm.MethodName)) ∈ lw_all := lw_g (lw_at lw_m4 125 rfl) rfl
theorem q939 : (Jvm.Cond.methodLink "LeftGlovesLaw" (121 : Nat) ({ cls := "LeftGloves", name := "wipe", desc := "()I" } : Jvm.MethodName)) ∈ lw_all := lw_g (lw_at lw_m4 129 rfl) rfl
theorem q943 : (Jvm.Cond.methodLink "LeftGlovesLaw" (126 : Nat) ({ cls := "LeftGloves", name := "text", desc := "()I" } : Jvm.MethodName)) ∈ lw_all := lw_g (lw_at lw_m4 133 rfl) rfl
theorem q1060 : (Jvm.Cond.methodLink "LeftGlovesLaw" (130 : Nat) ({ cls := "LeftGloves", name := "hold", desc := "(II)I" } : Jvm.MethodName)) ∈ lw_all := lw_g (lw_at lw_m5 10 rfl) rfl
theorem q1067 : (Jvm.Cond.methodLink "LeftGlovesLaw" (134 : Nat) ({ cls := "LeftGloves", name := "as", desc := "(II)I" } : Jvm.MethodName)) ∈ lw_all := lw_g (lw_at lw_m5 17 rfl) rfl
theorem q1099 : (Jvm.Cond.methodLink "LeftGlovesLaw" (138 : Nat) ({ cls := "LeftGloves", name := "sheet", desc := "(III)I" } : Jvm.MethodName)) ∈ lw_all := lw_g (lw_at lw_m5 49 rfl) rfl
theorem q1104 : (Jvm.Cond.methodLink "LeftGlovesLaw" (142 : Nat) ({ cls := "LeftGloves", name := "write", desc := "(III)I" } : Jvm.MethodName)) ∈ lw_all := lw_g (lw_at lw_m5 54 rfl) rfl
theorem q1111 : (Jvm.Cond.methodLink "LeftGlovesLaw" (146 : Nat) ({ cls := "LeftGloves", name := "copy", desc := "(IIIII)I" } : Jvm.MethodName)) ∈ lw_all := lw_g (lw_at lw_m5 61 rfl) rfl
theorem q1122 : (Jvm.Cond.methodLink "LeftGlovesLaw" (151 : Nat) ({ cls := "LeftGloves", name := "load", desc := "(I)I" } : Jvm.MethodName)) ∈ lw_all := lw_g (lw_at lw_m5 72 rfl) rfl
theorem q1130 : (Jvm.Cond.methodLink "LeftGlovesLaw" (155 : Nat) ({ cls := "LeftGloves", name := "judge", desc := "(I)I" } : Jvm.MethodName)) ∈ lw_all := lw_g (lw_at lw_m5 80 rfl) rfl
theorem q1134 : (Jvm.Cond.methodLink "LeftGlovesLaw" (159 : Nat) ({ cls := "LeftGloves", name := "image", desc := "()I" } : Jvm.MethodName)) ∈ lw_all := lw_g (lw_at lw_m5 84 rfl) rfl
theorem q1138 : (Jvm.Cond.methodLink "LeftGlovesLaw" (163 : Nat) ({ cls := "LeftGloves", name := "undo", desc := "()I" } : Jvm.MethodName)) ∈ lw_all := lw_g (lw_at lw_m5 88 rfl) rfl
theorem q1142 : (Jvm.Cond.methodLink "LeftGlovesLaw" (167 : Nat) ({ cls := "LeftGloves", name := "tear", desc := "()I" } : Jvm.MethodName)) ∈ lw_all := lw_g (lw_at lw_m5 92 rfl) rfl
theorem q1146 : (Jvm.Cond.methodLink "LeftGlovesLaw" (171 : Nat) ({ cls := "LeftGloves", name := "count", desc := "(I)I" } : Jvm.MethodName)) ∈ lw_all := lw_g (lw_at lw_m5 96 rfl) rfl
theorem q1154 : (Jvm.Cond.methodLink "LeftGlovesLaw" (175 : Nat) ({ cls := "LeftGloves", name := "status", desc := "(I)I" } : Jvm.MethodName)) ∈ lw_all := lw_g (lw_at lw_m5 104 rfl) rfl
theorem q1158 : (Jvm.Cond.classLink "LeftGlovesLaw" (10 : Nat) "LeftGlovesModel") ∈ lw_all := lw_g (lw_at lw_m5 108 rfl) rfl
theorem q1160 : (Jvm.Cond.methodLink "LeftGlovesLaw" (12 : Nat) ({ cls := "LeftGlovesModel", name := "<init>", desc := "()V" } : Jvm.MethodName)) ∈ lw_all := lw_g (lw_at lw_m5 110 rfl) rfl
theorem q1219 : (Jvm.Cond.methodLink "LeftGlovesLaw" (17 : Nat) ({ cls := "LeftGlovesModel", name := "say", desc := "(II)I" } : Jvm.MethodName)) ∈ lw_all := lw_g (lw_at lw_m5 169 rfl) rfl
theorem q1243 : (Jvm.Cond.methodLink "LeftGlovesLaw" (22 : Nat) ({ cls := "LeftGlovesModel", name := "said", desc := "(I)I" } : Jvm.MethodName)) ∈ lw_all := lw_g (lw_at lw_m5 193 rfl) rfl
theorem q1247 : (Jvm.Cond.methodLink "LeftGlovesLaw" (26 : Nat) ({ cls := "LeftGlovesModel", name := "room", desc := "(II)I" } : Jvm.MethodName)) ∈ lw_all := lw_g (lw_at lw_m5 197 rfl) rfl
theorem q1272 : (Jvm.Cond.methodLink "LeftGlovesLaw" (30 : Nat) ({ cls := "LeftGlovesModel", name := "glove", desc := "(II)I" } : Jvm.MethodName)) ∈ lw_all := lw_g (lw_at lw_m5 222 rfl) rfl
theorem q1285 : (Jvm.Cond.methodLink "LeftGlovesLaw" (34 : Nat) ({ cls := "LeftGlovesModel", name := "of", desc := "(II)I" } : Jvm.MethodName)) ∈ lw_all := lw_g (lw_at lw_m5 235 rfl) rfl
theorem q1313 : (Jvm.Cond.methodLink "LeftGlovesLaw" (39 : Nat) ({ cls := "LeftGlovesModel", name := "change", desc := "(III)I" } : Jvm.MethodName)) ∈ lw_all := lw_g (lw_at lw_m6 23 rfl) rfl
theorem q1321 : (Jvm.Cond.methodLink "LeftGlovesLaw" (43 : Nat) ({ cls := "LeftGlovesModel", name := "draw", desc := "(I)I" } : Jvm.MethodName)) ∈ lw_all := lw_g (lw_at lw_m6 31 rfl) rfl
theorem q1329 : (Jvm.Cond.methodLink "LeftGlovesLaw" (47 : Nat) ({ cls := "LeftGlovesModel", name := "who", desc := "(II)I" } : Jvm.MethodName)) ∈ lw_all := lw_g (lw_at lw_m6 39 rfl) rfl
theorem q1337 : (Jvm.Cond.methodLink "LeftGlovesLaw" (51 : Nat) ({ cls := "LeftGlovesModel", name := "go", desc := "(I)I" } : Jvm.MethodName)) ∈ lw_all := lw_g (lw_at lw_m6 47 rfl) rfl
theorem q1370 : (Jvm.Cond.methodLink "LeftGlovesLaw" (55 : Nat) ({ cls := "LeftGlovesModel", name := "now", desc := "(I)I" } : Jvm.MethodName)) ∈ lw_all := lw_g (lw_at lw_m6 80 rfl) rfl
theorem q1386 : (Jvm.Cond.methodLink "LeftGlovesLaw" (59 : Nat) ({ cls := "LeftGlovesModel", name := "ahead", desc := "(III)I" } : Jvm.MethodName)) ∈ lw_all := lw_g (lw_at lw_m6 96 rfl) rfl
theorem q1398 : (Jvm.Cond.methodLink "LeftGlovesLaw" (63 : Nat) ({ cls := "LeftGlovesModel", name := "hears", desc := "(II)I" } : Jvm.MethodName)) ∈ lw_all := lw_g (lw_at lw_m6 108 rfl) rfl
theorem q1402 : (Jvm.Cond.methodLink "LeftGlovesLaw" (67 : Nat) ({ cls := "LeftGlovesModel", name := "wise", desc := "(II)I" } : Jvm.MethodName)) ∈ lw_all := lw_g (lw_at lw_m6 112 rfl) rfl
theorem q1407 : (Jvm.Cond.methodLink "LeftGlovesLaw" (71 : Nat) ({ cls := "LeftGlovesModel", name := "out", desc := "(I)I" } : Jvm.MethodName)) ∈ lw_all := lw_g (lw_at lw_m6 117 rfl) rfl
theorem q1419 : (Jvm.Cond.methodLink "LeftGlovesLaw" (75 : Nat) ({ cls := "LeftGlovesModel", name := "leave", desc := "(II)I" } : Jvm.MethodName)) ∈ lw_all := lw_g (lw_at lw_m6 129 rfl) rfl
theorem q1427 : (Jvm.Cond.methodLink "LeftGlovesLaw" (79 : Nat) ({ cls := "LeftGlovesModel", name := "openFor", desc := "(III)I" } : Jvm.MethodName)) ∈ lw_all := lw_g (lw_at lw_m6 137 rfl) rfl
theorem q1431 : (Jvm.Cond.methodLink "LeftGlovesLaw" (83 : Nat) ({ cls := "LeftGlovesModel", name := "kindFor", desc := "(II)I" } : Jvm.MethodName)) ∈ lw_all := lw_g (lw_at lw_m6 141 rfl) rfl
theorem q1435 : (Jvm.Cond.methodLink "LeftGlovesLaw" (87 : Nat) ({ cls := "LeftGlovesModel", name := "lower", desc := "(I)I" } : Jvm.MethodName)) ∈ lw_all := lw_g (lw_at lw_m6 145 rfl) rfl
theorem q1439 : (Jvm.Cond.methodLink "LeftGlovesLaw" (91 : Nat) ({ cls := "LeftGlovesModel", name := "cover", desc := "(I)I" } : Jvm.MethodName)) ∈ lw_all := lw_g (lw_at lw_m6 149 rfl) rfl
theorem q1443 : (Jvm.Cond.methodLink "LeftGlovesLaw" (95 : Nat) ({ cls := "LeftGlovesModel", name := "away", desc := "(III)I" } : Jvm.MethodName)) ∈ lw_all := lw_g (lw_at lw_m6 153 rfl) rfl
theorem q1448 : (Jvm.Cond.methodLink "LeftGlovesLaw" (99 : Nat) ({ cls := "LeftGlovesModel", name := "fits", desc := "(II)I" } : Jvm.MethodName)) ∈ lw_all := lw_g (lw_at lw_m6 158 rfl) rfl
theorem q1467 : (Jvm.Cond.methodLink "LeftGlovesLaw" (103 : Nat) ({ cls := "LeftGlovesModel", name := "kinds", desc := "(II)I" } : Jvm.MethodName)) ∈ lw_all := lw_g (lw_at lw_m6 177 rfl) rfl
theorem q1471 : (Jvm.Cond.methodLink "LeftGlovesLaw" (107 : Nat) ({ cls := "LeftGlovesModel", name := "talk", desc := "(I)I" } : Jvm.MethodName)) ∈ lw_all := lw_g (lw_at lw_m6 181 rfl) rfl
theorem q1480 : (Jvm.Cond.methodLink "LeftGlovesLaw" (112 : Nat) ({ cls := "LeftGlovesModel", name := "odds", desc := "(III)J" } : Jvm.MethodName)) ∈ lw_all := lw_g (lw_at lw_m6 190 rfl) rfl
theorem q1484 : (Jvm.Cond.methodLink "LeftGlovesLaw" (116 : Nat) ({ cls := "LeftGlovesModel", name := "seed", desc := "(I)I" } : Jvm.MethodName)) ∈ lw_all := lw_g (lw_at lw_m6 194 rfl) rfl
theorem q1488 : (Jvm.Cond.methodLink "LeftGlovesLaw" (120 : Nat) ({ cls := "LeftGlovesModel", name := "feed", desc := "(II)I" } : Jvm.MethodName)) ∈ lw_all := lw_g (lw_at lw_m6 198 rfl) rfl
theorem q1493 : (Jvm.Cond.methodLink "LeftGlovesLaw" (125 : Nat) ({ cls := "LeftGlovesModel", name := "wipe", desc := "()I" } : Jvm.MethodName)) ∈ lw_all := lw_g (lw_at lw_m6 203 rfl) rfl
theorem q1497 : (Jvm.Cond.methodLink "LeftGlovesLaw" (129 : Nat) ({ cls := "LeftGlovesModel", name := "text", desc := "()I" } : Jvm.MethodName)) ∈ lw_all := lw_g (lw_at lw_m6 207 rfl) rfl
theorem q1572 : (Jvm.Cond.methodLink "LeftGlovesLaw" (133 : Nat) ({ cls := "LeftGlovesModel", name := "hold", desc := "(II)I" } : Jvm.MethodName)) ∈ lw_all := lw_g (lw_at lw_m7 42 rfl) rfl
theorem q1578 : (Jvm.Cond.methodLink "LeftGlovesLaw" (137 : Nat) ({ cls := "LeftGlovesModel", name := "as", desc := "(II)I" } : Jvm.MethodName)) ∈ lw_all := lw_g (lw_at lw_m7 48 rfl) rfl
theorem q1585 : (Jvm.Cond.methodLink "LeftGlovesLaw" (141 : Nat) ({ cls := "LeftGlovesModel", name := "sheet", desc := "(III)I" } : Jvm.MethodName)) ∈ lw_all := lw_g (lw_at lw_m7 55 rfl) rfl
theorem q1589 : (Jvm.Cond.methodLink "LeftGlovesLaw" (145 : Nat) ({ cls := "LeftGlovesModel", name := "write", desc := "(III)I" } : Jvm.MethodName)) ∈ lw_all := lw_g (lw_at lw_m7 59 rfl) rfl
theorem q1593 : (Jvm.Cond.methodLink "LeftGlovesLaw" (150 : Nat) ({ cls := "LeftGlovesModel", name := "copy", desc := "(IIIII)I" } : Jvm.MethodName)) ∈ lw_all := lw_g (lw_at lw_m7 63 rfl) rfl
theorem q1597 : (Jvm.Cond.methodLink "LeftGlovesLaw" (154 : Nat) ({ cls := "LeftGlovesModel", name := "load", desc := "(I)I" } : Jvm.MethodName)) ∈ lw_all := lw_g (lw_at lw_m7 67 rfl) rfl
theorem q1601 : (Jvm.Cond.methodLink "LeftGlovesLaw" (158 : Nat) ({ cls := "LeftGlovesModel", name := "judge", desc := "(I)I" } : Jvm.MethodName)) ∈ lw_all := lw_g (lw_at lw_m7 71 rfl) rfl
theorem q1605 : (Jvm.Cond.methodLink "LeftGlovesLaw" (162 : Nat) ({ cls := "LeftGlovesModel", name := "image", desc := "()I" } : Jvm.MethodName)) ∈ lw_all := lw_g (lw_at lw_m7 75 rfl) rfl
theorem q1609 : (Jvm.Cond.methodLink "LeftGlovesLaw" (166 : Nat) ({ cls := "LeftGlovesModel", name := "undo", desc := "()I" } : Jvm.MethodName)) ∈ lw_all := lw_g (lw_at lw_m7 79 rfl) rfl
theorem q1613 : (Jvm.Cond.methodLink "LeftGlovesLaw" (170 : Nat) ({ cls := "LeftGlovesModel", name := "tear", desc := "()I" } : Jvm.MethodName)) ∈ lw_all := lw_g (lw_at lw_m7 83 rfl) rfl
theorem q1617 : (Jvm.Cond.methodLink "LeftGlovesLaw" (174 : Nat) ({ cls := "LeftGlovesModel", name := "count", desc := "(I)I" } : Jvm.MethodName)) ∈ lw_all := lw_g (lw_at lw_m7 87 rfl) rfl
theorem q1625 : (Jvm.Cond.methodLink "LeftGlovesLaw" (178 : Nat) ({ cls := "LeftGlovesModel", name := "status", desc := "(I)I" } : Jvm.MethodName)) ∈ lw_all := lw_g (lw_at lw_m7 95 rfl) rfl
theorem q110 : (Jvm.Cond.initialized "java/lang/System") ∈ lw_all := lw_g (lw_at lw_m1 20 rfl) rfl
set_option maxRecDepth 100000
theorem q784 : (Jvm.Cond.static ({ cls := "java/lang/System", name := "arraycopy", desc := "(Ljava/lang/Object;ILjava/lang/Object;II)V" } : Jvm.MethodName)) ∈ lw_all := lw_g (lw_at lw_m3 214 rfl) rfl
theorem q785 : (Jvm.Cond.native ({ cls := "java/lang/System", name := "arraycopy", desc := "(Ljava/lang/Object;ILjava/lang/Object;II)V" } : Jvm.MethodName)) ∈ lw_all := lw_g (lw_at lw_m3 215 rfl) rfl
theorem q219 : (Jvm.Cond.arrayOver (Jvm.ClassFile.FieldType.array Jvm.ClassFile.FieldType.int)) ∈ lw_tbl := lw_at lw_m1 129 rfl
set_option maxRecDepth 100000
theorem q256 : (Jvm.Cond.arrayClass Jvm.ClassFile.FieldType.byte) ∈ lw_all := lw_g (lw_at lw_m1 166 rfl) rfl
theorem q257 : (Jvm.Cond.arrayClass Jvm.ClassFile.FieldType.int) ∈ lw_all := lw_g (lw_at lw_m1 167 rfl) rfl
theorem q290 : (Jvm.Cond.arrayOver (Jvm.ClassFile.FieldType.object "LeftGloves$Slot")) ∈ lw_tbl := lw_at lw_m1 200 rfl
theorem q1103 : (Jvm.Cond.arrayClass Jvm.ClassFile.FieldType.short) ∈ lw_all := lw_g (lw_at lw_m5 53 rfl) rfl
