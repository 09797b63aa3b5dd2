/-! DECODE ROWS BY BYTES: one lemma an opcode; a method's code is cut into short pieces once, and a row reads its own piece alone. -/
set_option maxRecDepth 100000
/-- the code has just these bytes from pc on -/
def DkAt (code : ByteArray) (pc : Nat) (bs : List UInt8) : Prop := ∀ (j : Nat) (b : UInt8), bs[j]? = some b → code.data.toList[pc + j]? = some b
/-- the piece W has the bytes bs from its place j on -/
def dkIn (W : List UInt8) (j : Nat) (bs : List UInt8) : Bool := decide ((W.drop j).take bs.length = bs)
theorem dk_seg {l W T : List UInt8} {o o2 : Nat} (h : l.drop o = W ++ T) (n : Nat) (hn : W.length = n) (ho : o + n = o2) : l.drop o2 = T := by
  subst ho
  rw [← List.drop_drop, h, List.drop_left' hn]
theorem dk_at {code : ByteArray} {W T bs : List UInt8} {o pc : Nat} (h : code.data.toList.drop o = W ++ T) (j : Nat) (hp : o + j = pc) (hw : dkIn W j bs = true) : DkAt code pc bs := by
  subst hp
  intro i b e
  have h1 := of_decide_eq_true hw
  have h2 : i < bs.length := (List.getElem?_eq_some_iff.mp e).1
  have h3 : W[j + i]? = some b := by
    rw [← h1, List.getElem?_take, if_pos h2, List.getElem?_drop] at e
    exact e
  have h4 : j + i < W.length := (List.getElem?_eq_some_iff.mp h3).1
  have h5 : (code.data.toList.drop o)[j + i]? = some b := by
    rw [h, List.getElem?_append_left h4]
    exact h3
  rw [List.getElem?_drop, ← Nat.add_assoc] at h5
  exact h5
theorem dk_u1 {A : ByteArray} {p : Nat} {b : UInt8} (h : A.data.toList[p]? = some b) : (Reader.u1 : Reader DecodeError Nat) A p = .ok (b.toNat, p + 1) := by
  obtain ⟨h1, h2⟩ := List.getElem?_eq_some_iff.mp h
  have h3 : p < A.size := by simpa using h1
  have h4 : A[p]'h3 = b := h2
  have e : (Reader.u1 : Reader DecodeError Nat) A p = (if h : p < A.size then .ok (A[p].toNat, p + 1) else .error (HasTruncated.truncated p)) := by
    show (do if h : p < A.size then do set (p + 1); Pure.pure A[p].toNat else MonadExcept.throw (HasTruncated.truncated p) : Reader DecodeError Nat) A p = _
    by_cases hi : p < A.size
    · rw [dif_pos hi, dif_pos hi]; rfl
    · rw [dif_neg hi, dif_neg hi]; rfl
  rw [e, dif_pos h3, h4]
theorem dk_bind {α β : Type} {r : Reader DecodeError α} {f : α → Reader DecodeError β} {A : ByteArray} {p s : Nat} {a : α} (h : r A p = .ok (a, s)) : (r >>= f) A p = f a A s := by
  show (do let (a, s) ← r A p; f a A s : Except DecodeError (β × Nat)) = _
  rw [h]
  rfl
theorem dk_map {α β : Type} {r : Reader DecodeError α} {g : α → β} {A : ByteArray} {p s : Nat} {a : α} (h : r A p = .ok (a, s)) : (g <$> r) A p = .ok (g a, s) := by
  show (do let (a, s) ← r A p; .ok (g a, s) : Except DecodeError (β × Nat)) = _
  rw [h]
  rfl
theorem dk_u2 {A : ByteArray} {p : Nat} {a b : UInt8} (h : A.data.toList[p]? = some a) (h2 : A.data.toList[p + 1]? = some b) : (Reader.u2 : Reader DecodeError Nat) A p = .ok (a.toNat * 256 + b.toNat, p + 2) := by
  show (Reader.u1 >>= fun hi => Reader.u1 >>= fun lo => Pure.pure (hi * 256 + lo) : Reader DecodeError Nat) A p = _
  rw [dk_bind (dk_u1 h), dk_bind (dk_u1 h2)]
  rfl
theorem dk_of {code : ByteArray} {pc n : Nat} {i : Instr} (h : Decoder.instr pc code pc = .ok (i, pc + n)) : decode code pc = .ok (i, n) := by
  have e : decode code pc = (match Decoder.instr pc code pc with | .error x => .error x | .ok (j, s) => .ok (j, s - pc)) := by
    show (do let (j, s) ← Decoder.instr pc code pc; Pure.pure (j, s - pc) : Except DecodeError (Instr × Nat)) = _
    cases Decoder.instr pc code pc <;> rfl
  rw [e, h]
  show Except.ok (i, pc + n - pc) = _
  rw [Nat.add_sub_cancel_left]
theorem dk_1 {code : ByteArray} {pc : Nat} (h : DkAt code pc [1]) : decode code pc = .ok (.aconst_null, 1) := dk_of ((dk_bind (dk_u1 (h 0 _ rfl))).trans rfl)
theorem dk_2 {code : ByteArray} {pc : Nat} (h : DkAt code pc [2]) : decode code pc = .ok (.iconst (-1), 1) := dk_of ((dk_bind (dk_u1 (h 0 _ rfl))).trans rfl)
theorem dk_3 {code : ByteArray} {pc : Nat} (h : DkAt code pc [3]) : decode code pc = .ok (.iconst 0, 1) := dk_of ((dk_bind (dk_u1 (h 0 _ rfl))).trans rfl)
theorem dk_4 {code : ByteArray} {pc : Nat} (h : DkAt code pc [4]) : decode code pc = .ok (.iconst 1, 1) := dk_of ((dk_bind (dk_u1 (h 0 _ rfl))).trans rfl)
theorem dk_5 {code : ByteArray} {pc : Nat} (h : DkAt code pc [5]) : decode code pc = .ok (.iconst 2, 1) := dk_of ((dk_bind (dk_u1 (h 0 _ rfl))).trans rfl)
theorem dk_6 {code : ByteArray} {pc : Nat} (h : DkAt code pc [6]) : decode code pc = .ok (.iconst 3, 1) := dk_of ((dk_bind (dk_u1 (h 0 _ rfl))).trans rfl)
theorem dk_7 {code : ByteArray} {pc : Nat} (h : DkAt code pc [7]) : decode code pc = .ok (.iconst 4, 1) := dk_of ((dk_bind (dk_u1 (h 0 _ rfl))).trans rfl)
theorem dk_8 {code : ByteArray} {pc : Nat} (h : DkAt code pc [8]) : decode code pc = .ok (.iconst 5, 1) := dk_of ((dk_bind (dk_u1 (h 0 _ rfl))).trans rfl)
theorem dk_9 {code : ByteArray} {pc : Nat} (h : DkAt code pc [9]) : decode code pc = .ok (.lconst 0, 1) := dk_of ((dk_bind (dk_u1 (h 0 _ rfl))).trans rfl)
theorem dk_10 {code : ByteArray} {pc : Nat} (h : DkAt code pc [10]) : decode code pc = .ok (.lconst 1, 1) := dk_of ((dk_bind (dk_u1 (h 0 _ rfl))).trans rfl)
theorem dk_16 {code : ByteArray} {pc : Nat} (a : UInt8) (h : DkAt code pc [16, a]) : decode code pc = .ok (.bipush (Reader.signed 8 a.toNat), 2) := dk_of ((dk_bind (dk_u1 (h 0 _ rfl))).trans ((dk_bind (dk_map (dk_u1 (h 1 _ rfl)))).trans rfl))
theorem dk_17 {code : ByteArray} {pc : Nat} (a b : UInt8) (h : DkAt code pc [17, a, b]) : decode code pc = .ok (.sipush (Reader.signed 16 (a.toNat * 256 + b.toNat)), 3) := dk_of ((dk_bind (dk_u1 (h 0 _ rfl))).trans ((dk_bind (dk_map (dk_u2 (h 1 _ rfl) (h 2 _ rfl)))).trans rfl))
theorem dk_18 {code : ByteArray} {pc : Nat} (a : UInt8) (h : DkAt code pc [18, a]) : decode code pc = .ok (.ldc a.toNat, 2) := dk_of ((dk_bind (dk_u1 (h 0 _ rfl))).trans ((dk_bind (dk_u1 (h 1 _ rfl))).trans rfl))
theorem dk_19 {code : ByteArray} {pc : Nat} (a b : UInt8) (h : DkAt code pc [19, a, b]) : decode code pc = .ok (.ldc_w (a.toNat * 256 + b.toNat), 3) := dk_of ((dk_bind (dk_u1 (h 0 _ rfl))).trans ((dk_bind (dk_u2 (h 1 _ rfl) (h 2 _ rfl))).trans rfl))
theorem dk_20 {code : ByteArray} {pc : Nat} (a b : UInt8) (h : DkAt code pc [20, a, b]) : decode code pc = .ok (.ldc2_w (a.toNat * 256 + b.toNat), 3) := dk_of ((dk_bind (dk_u1 (h 0 _ rfl))).trans ((dk_bind (dk_u2 (h 1 _ rfl) (h 2 _ rfl))).trans rfl))
theorem dk_21 {code : ByteArray} {pc : Nat} (a : UInt8) (h : DkAt code pc [21, a]) : decode code pc = .ok (.iload a.toNat, 2) := dk_of ((dk_bind (dk_u1 (h 0 _ rfl))).trans ((dk_bind (dk_u1 (h 1 _ rfl))).trans rfl))
theorem dk_22 {code : ByteArray} {pc : Nat} (a : UInt8) (h : DkAt code pc [22, a]) : decode code pc = .ok (.lload a.toNat, 2) := dk_of ((dk_bind (dk_u1 (h 0 _ rfl))).trans ((dk_bind (dk_u1 (h 1 _ rfl))).trans rfl))
theorem dk_25 {code : ByteArray} {pc : Nat} (a : UInt8) (h : DkAt code pc [25, a]) : decode code pc = .ok (.aload a.toNat, 2) := dk_of ((dk_bind (dk_u1 (h 0 _ rfl))).trans ((dk_bind (dk_u1 (h 1 _ rfl))).trans rfl))
theorem dk_26 {code : ByteArray} {pc : Nat} (h : DkAt code pc [26]) : decode code pc = .ok (.iload_n 0, 1) := dk_of ((dk_bind (dk_u1 (h 0 _ rfl))).trans rfl)
theorem dk_27 {code : ByteArray} {pc : Nat} (h : DkAt code pc [27]) : decode code pc = .ok (.iload_n 1, 1) := dk_of ((dk_bind (dk_u1 (h 0 _ rfl))).trans rfl)
theorem dk_28 {code : ByteArray} {pc : Nat} (h : DkAt code pc [28]) : decode code pc = .ok (.iload_n 2, 1) := dk_of ((dk_bind (dk_u1 (h 0 _ rfl))).trans rfl)
theorem dk_29 {code : ByteArray} {pc : Nat} (h : DkAt code pc [29]) : decode code pc = .ok (.iload_n 3, 1) := dk_of ((dk_bind (dk_u1 (h 0 _ rfl))).trans rfl)
theorem dk_31 {code : ByteArray} {pc : Nat} (h : DkAt code pc [31]) : decode code pc = .ok (.lload_n 1, 1) := dk_of ((dk_bind (dk_u1 (h 0 _ rfl))).trans rfl)
theorem dk_32 {code : ByteArray} {pc : Nat} (h : DkAt code pc [32]) : decode code pc = .ok (.lload_n 2, 1) := dk_of ((dk_bind (dk_u1 (h 0 _ rfl))).trans rfl)
theorem dk_33 {code : ByteArray} {pc : Nat} (h : DkAt code pc [33]) : decode code pc = .ok (.lload_n 3, 1) := dk_of ((dk_bind (dk_u1 (h 0 _ rfl))).trans rfl)
theorem dk_42 {code : ByteArray} {pc : Nat} (h : DkAt code pc [42]) : decode code pc = .ok (.aload_n 0, 1) := dk_of ((dk_bind (dk_u1 (h 0 _ rfl))).trans rfl)
theorem dk_43 {code : ByteArray} {pc : Nat} (h : DkAt code pc [43]) : decode code pc = .ok (.aload_n 1, 1) := dk_of ((dk_bind (dk_u1 (h 0 _ rfl))).trans rfl)
theorem dk_44 {code : ByteArray} {pc : Nat} (h : DkAt code pc [44]) : decode code pc = .ok (.aload_n 2, 1) := dk_of ((dk_bind (dk_u1 (h 0 _ rfl))).trans rfl)
theorem dk_45 {code : ByteArray} {pc : Nat} (h : DkAt code pc [45]) : decode code pc = .ok (.aload_n 3, 1) := dk_of ((dk_bind (dk_u1 (h 0 _ rfl))).trans rfl)
theorem dk_46 {code : ByteArray} {pc : Nat} (h : DkAt code pc [46]) : decode code pc = .ok (.iaload, 1) := dk_of ((dk_bind (dk_u1 (h 0 _ rfl))).trans rfl)
theorem dk_47 {code : ByteArray} {pc : Nat} (h : DkAt code pc [47]) : decode code pc = .ok (.laload, 1) := dk_of ((dk_bind (dk_u1 (h 0 _ rfl))).trans rfl)
theorem dk_50 {code : ByteArray} {pc : Nat} (h : DkAt code pc [50]) : decode code pc = .ok (.aaload, 1) := dk_of ((dk_bind (dk_u1 (h 0 _ rfl))).trans rfl)
theorem dk_51 {code : ByteArray} {pc : Nat} (h : DkAt code pc [51]) : decode code pc = .ok (.baload, 1) := dk_of ((dk_bind (dk_u1 (h 0 _ rfl))).trans rfl)
theorem dk_53 {code : ByteArray} {pc : Nat} (h : DkAt code pc [53]) : decode code pc = .ok (.saload, 1) := dk_of ((dk_bind (dk_u1 (h 0 _ rfl))).trans rfl)
theorem dk_54 {code : ByteArray} {pc : Nat} (a : UInt8) (h : DkAt code pc [54, a]) : decode code pc = .ok (.istore a.toNat, 2) := dk_of ((dk_bind (dk_u1 (h 0 _ rfl))).trans ((dk_bind (dk_u1 (h 1 _ rfl))).trans rfl))
theorem dk_55 {code : ByteArray} {pc : Nat} (a : UInt8) (h : DkAt code pc [55, a]) : decode code pc = .ok (.lstore a.toNat, 2) := dk_of ((dk_bind (dk_u1 (h 0 _ rfl))).trans ((dk_bind (dk_u1 (h 1 _ rfl))).trans rfl))
theorem dk_58 {code : ByteArray} {pc : Nat} (a : UInt8) (h : DkAt code pc [58, a]) : decode code pc = .ok (.astore a.toNat, 2) := dk_of ((dk_bind (dk_u1 (h 0 _ rfl))).trans ((dk_bind (dk_u1 (h 1 _ rfl))).trans rfl))
theorem dk_59 {code : ByteArray} {pc : Nat} (h : DkAt code pc [59]) : decode code pc = .ok (.istore_n 0, 1) := dk_of ((dk_bind (dk_u1 (h 0 _ rfl))).trans rfl)
theorem dk_60 {code : ByteArray} {pc : Nat} (h : DkAt code pc [60]) : decode code pc = .ok (.istore_n 1, 1) := dk_of ((dk_bind (dk_u1 (h 0 _ rfl))).trans rfl)
theorem dk_61 {code : ByteArray} {pc : Nat} (h : DkAt code pc [61]) : decode code pc = .ok (.istore_n 2, 1) := dk_of ((dk_bind (dk_u1 (h 0 _ rfl))).trans rfl)
theorem dk_62 {code : ByteArray} {pc : Nat} (h : DkAt code pc [62]) : decode code pc = .ok (.istore_n 3, 1) := dk_of ((dk_bind (dk_u1 (h 0 _ rfl))).trans rfl)
theorem dk_76 {code : ByteArray} {pc : Nat} (h : DkAt code pc [76]) : decode code pc = .ok (.astore_n 1, 1) := dk_of ((dk_bind (dk_u1 (h 0 _ rfl))).trans rfl)
theorem dk_77 {code : ByteArray} {pc : Nat} (h : DkAt code pc [77]) : decode code pc = .ok (.astore_n 2, 1) := dk_of ((dk_bind (dk_u1 (h 0 _ rfl))).trans rfl)
theorem dk_78 {code : ByteArray} {pc : Nat} (h : DkAt code pc [78]) : decode code pc = .ok (.astore_n 3, 1) := dk_of ((dk_bind (dk_u1 (h 0 _ rfl))).trans rfl)
theorem dk_79 {code : ByteArray} {pc : Nat} (h : DkAt code pc [79]) : decode code pc = .ok (.iastore, 1) := dk_of ((dk_bind (dk_u1 (h 0 _ rfl))).trans rfl)
theorem dk_80 {code : ByteArray} {pc : Nat} (h : DkAt code pc [80]) : decode code pc = .ok (.lastore, 1) := dk_of ((dk_bind (dk_u1 (h 0 _ rfl))).trans rfl)
theorem dk_83 {code : ByteArray} {pc : Nat} (h : DkAt code pc [83]) : decode code pc = .ok (.aastore, 1) := dk_of ((dk_bind (dk_u1 (h 0 _ rfl))).trans rfl)
theorem dk_84 {code : ByteArray} {pc : Nat} (h : DkAt code pc [84]) : decode code pc = .ok (.bastore, 1) := dk_of ((dk_bind (dk_u1 (h 0 _ rfl))).trans rfl)
theorem dk_86 {code : ByteArray} {pc : Nat} (h : DkAt code pc [86]) : decode code pc = .ok (.sastore, 1) := dk_of ((dk_bind (dk_u1 (h 0 _ rfl))).trans rfl)
theorem dk_87 {code : ByteArray} {pc : Nat} (h : DkAt code pc [87]) : decode code pc = .ok (.pop, 1) := dk_of ((dk_bind (dk_u1 (h 0 _ rfl))).trans rfl)
theorem dk_89 {code : ByteArray} {pc : Nat} (h : DkAt code pc [89]) : decode code pc = .ok (.dup, 1) := dk_of ((dk_bind (dk_u1 (h 0 _ rfl))).trans rfl)
theorem dk_90 {code : ByteArray} {pc : Nat} (h : DkAt code pc [90]) : decode code pc = .ok (.dup_x1, 1) := dk_of ((dk_bind (dk_u1 (h 0 _ rfl))).trans rfl)
theorem dk_92 {code : ByteArray} {pc : Nat} (h : DkAt code pc [92]) : decode code pc = .ok (.dup2, 1) := dk_of ((dk_bind (dk_u1 (h 0 _ rfl))).trans rfl)
theorem dk_96 {code : ByteArray} {pc : Nat} (h : DkAt code pc [96]) : decode code pc = .ok (.iadd, 1) := dk_of ((dk_bind (dk_u1 (h 0 _ rfl))).trans rfl)
theorem dk_97 {code : ByteArray} {pc : Nat} (h : DkAt code pc [97]) : decode code pc = .ok (.ladd, 1) := dk_of ((dk_bind (dk_u1 (h 0 _ rfl))).trans rfl)
theorem dk_100 {code : ByteArray} {pc : Nat} (h : DkAt code pc [100]) : decode code pc = .ok (.isub, 1) := dk_of ((dk_bind (dk_u1 (h 0 _ rfl))).trans rfl)
theorem dk_104 {code : ByteArray} {pc : Nat} (h : DkAt code pc [104]) : decode code pc = .ok (.imul, 1) := dk_of ((dk_bind (dk_u1 (h 0 _ rfl))).trans rfl)
theorem dk_105 {code : ByteArray} {pc : Nat} (h : DkAt code pc [105]) : decode code pc = .ok (.lmul, 1) := dk_of ((dk_bind (dk_u1 (h 0 _ rfl))).trans rfl)
theorem dk_108 {code : ByteArray} {pc : Nat} (h : DkAt code pc [108]) : decode code pc = .ok (.idiv, 1) := dk_of ((dk_bind (dk_u1 (h 0 _ rfl))).trans rfl)
theorem dk_112 {code : ByteArray} {pc : Nat} (h : DkAt code pc [112]) : decode code pc = .ok (.irem, 1) := dk_of ((dk_bind (dk_u1 (h 0 _ rfl))).trans rfl)
theorem dk_116 {code : ByteArray} {pc : Nat} (h : DkAt code pc [116]) : decode code pc = .ok (.ineg, 1) := dk_of ((dk_bind (dk_u1 (h 0 _ rfl))).trans rfl)
theorem dk_120 {code : ByteArray} {pc : Nat} (h : DkAt code pc [120]) : decode code pc = .ok (.ishl, 1) := dk_of ((dk_bind (dk_u1 (h 0 _ rfl))).trans rfl)
theorem dk_121 {code : ByteArray} {pc : Nat} (h : DkAt code pc [121]) : decode code pc = .ok (.lshl, 1) := dk_of ((dk_bind (dk_u1 (h 0 _ rfl))).trans rfl)
theorem dk_122 {code : ByteArray} {pc : Nat} (h : DkAt code pc [122]) : decode code pc = .ok (.ishr, 1) := dk_of ((dk_bind (dk_u1 (h 0 _ rfl))).trans rfl)
theorem dk_124 {code : ByteArray} {pc : Nat} (h : DkAt code pc [124]) : decode code pc = .ok (.iushr, 1) := dk_of ((dk_bind (dk_u1 (h 0 _ rfl))).trans rfl)
theorem dk_126 {code : ByteArray} {pc : Nat} (h : DkAt code pc [126]) : decode code pc = .ok (.iand, 1) := dk_of ((dk_bind (dk_u1 (h 0 _ rfl))).trans rfl)
theorem dk_127 {code : ByteArray} {pc : Nat} (h : DkAt code pc [127]) : decode code pc = .ok (.land, 1) := dk_of ((dk_bind (dk_u1 (h 0 _ rfl))).trans rfl)
theorem dk_128 {code : ByteArray} {pc : Nat} (h : DkAt code pc [128]) : decode code pc = .ok (.ior, 1) := dk_of ((dk_bind (dk_u1 (h 0 _ rfl))).trans rfl)
theorem dk_129 {code : ByteArray} {pc : Nat} (h : DkAt code pc [129]) : decode code pc = .ok (.lor, 1) := dk_of ((dk_bind (dk_u1 (h 0 _ rfl))).trans rfl)
theorem dk_130 {code : ByteArray} {pc : Nat} (h : DkAt code pc [130]) : decode code pc = .ok (.ixor, 1) := dk_of ((dk_bind (dk_u1 (h 0 _ rfl))).trans rfl)
theorem dk_132 {code : ByteArray} {pc : Nat} (a b : UInt8) (h : DkAt code pc [132, a, b]) : decode code pc = .ok (.iinc a.toNat (Reader.signed 8 b.toNat), 3) := dk_of ((dk_bind (dk_u1 (h 0 _ rfl))).trans ((dk_bind (dk_u1 (h 1 _ rfl))).trans ((dk_bind (dk_map (dk_u1 (h 2 _ rfl)))).trans rfl)))
theorem dk_133 {code : ByteArray} {pc : Nat} (h : DkAt code pc [133]) : decode code pc = .ok (.i2l, 1) := dk_of ((dk_bind (dk_u1 (h 0 _ rfl))).trans rfl)
theorem dk_136 {code : ByteArray} {pc : Nat} (h : DkAt code pc [136]) : decode code pc = .ok (.l2i, 1) := dk_of ((dk_bind (dk_u1 (h 0 _ rfl))).trans rfl)
theorem dk_145 {code : ByteArray} {pc : Nat} (h : DkAt code pc [145]) : decode code pc = .ok (.i2b, 1) := dk_of ((dk_bind (dk_u1 (h 0 _ rfl))).trans rfl)
theorem dk_146 {code : ByteArray} {pc : Nat} (h : DkAt code pc [146]) : decode code pc = .ok (.i2c, 1) := dk_of ((dk_bind (dk_u1 (h 0 _ rfl))).trans rfl)
theorem dk_147 {code : ByteArray} {pc : Nat} (h : DkAt code pc [147]) : decode code pc = .ok (.i2s, 1) := dk_of ((dk_bind (dk_u1 (h 0 _ rfl))).trans rfl)
theorem dk_148 {code : ByteArray} {pc : Nat} (h : DkAt code pc [148]) : decode code pc = .ok (.lcmp, 1) := dk_of ((dk_bind (dk_u1 (h 0 _ rfl))).trans rfl)
theorem dk_153 {code : ByteArray} {pc : Nat} (a b : UInt8) (h : DkAt code pc [153, a, b]) : decode code pc = .ok (.ifCond .eq (Reader.signed 16 (a.toNat * 256 + b.toNat)), 3) := dk_of ((dk_bind (dk_u1 (h 0 _ rfl))).trans ((dk_bind (dk_map (dk_u2 (h 1 _ rfl) (h 2 _ rfl)))).trans rfl))
theorem dk_154 {code : ByteArray} {pc : Nat} (a b : UInt8) (h : DkAt code pc [154, a, b]) : decode code pc = .ok (.ifCond .ne (Reader.signed 16 (a.toNat * 256 + b.toNat)), 3) := dk_of ((dk_bind (dk_u1 (h 0 _ rfl))).trans ((dk_bind (dk_map (dk_u2 (h 1 _ rfl) (h 2 _ rfl)))).trans rfl))
theorem dk_155 {code : ByteArray} {pc : Nat} (a b : UInt8) (h : DkAt code pc [155, a, b]) : decode code pc = .ok (.ifCond .lt (Reader.signed 16 (a.toNat * 256 + b.toNat)), 3) := dk_of ((dk_bind (dk_u1 (h 0 _ rfl))).trans ((dk_bind (dk_map (dk_u2 (h 1 _ rfl) (h 2 _ rfl)))).trans rfl))
theorem dk_156 {code : ByteArray} {pc : Nat} (a b : UInt8) (h : DkAt code pc [156, a, b]) : decode code pc = .ok (.ifCond .ge (Reader.signed 16 (a.toNat * 256 + b.toNat)), 3) := dk_of ((dk_bind (dk_u1 (h 0 _ rfl))).trans ((dk_bind (dk_map (dk_u2 (h 1 _ rfl) (h 2 _ rfl)))).trans rfl))
theorem dk_157 {code : ByteArray} {pc : Nat} (a b : UInt8) (h : DkAt code pc [157, a, b]) : decode code pc = .ok (.ifCond .gt (Reader.signed 16 (a.toNat * 256 + b.toNat)), 3) := dk_of ((dk_bind (dk_u1 (h 0 _ rfl))).trans ((dk_bind (dk_map (dk_u2 (h 1 _ rfl) (h 2 _ rfl)))).trans rfl))
theorem dk_158 {code : ByteArray} {pc : Nat} (a b : UInt8) (h : DkAt code pc [158, a, b]) : decode code pc = .ok (.ifCond .le (Reader.signed 16 (a.toNat * 256 + b.toNat)), 3) := dk_of ((dk_bind (dk_u1 (h 0 _ rfl))).trans ((dk_bind (dk_map (dk_u2 (h 1 _ rfl) (h 2 _ rfl)))).trans rfl))
theorem dk_159 {code : ByteArray} {pc : Nat} (a b : UInt8) (h : DkAt code pc [159, a, b]) : decode code pc = .ok (.if_icmp .eq (Reader.signed 16 (a.toNat * 256 + b.toNat)), 3) := dk_of ((dk_bind (dk_u1 (h 0 _ rfl))).trans ((dk_bind (dk_map (dk_u2 (h 1 _ rfl) (h 2 _ rfl)))).trans rfl))
theorem dk_160 {code : ByteArray} {pc : Nat} (a b : UInt8) (h : DkAt code pc [160, a, b]) : decode code pc = .ok (.if_icmp .ne (Reader.signed 16 (a.toNat * 256 + b.toNat)), 3) := dk_of ((dk_bind (dk_u1 (h 0 _ rfl))).trans ((dk_bind (dk_map (dk_u2 (h 1 _ rfl) (h 2 _ rfl)))).trans rfl))
theorem dk_161 {code : ByteArray} {pc : Nat} (a b : UInt8) (h : DkAt code pc [161, a, b]) : decode code pc = .ok (.if_icmp .lt (Reader.signed 16 (a.toNat * 256 + b.toNat)), 3) := dk_of ((dk_bind (dk_u1 (h 0 _ rfl))).trans ((dk_bind (dk_map (dk_u2 (h 1 _ rfl) (h 2 _ rfl)))).trans rfl))
theorem dk_162 {code : ByteArray} {pc : Nat} (a b : UInt8) (h : DkAt code pc [162, a, b]) : decode code pc = .ok (.if_icmp .ge (Reader.signed 16 (a.toNat * 256 + b.toNat)), 3) := dk_of ((dk_bind (dk_u1 (h 0 _ rfl))).trans ((dk_bind (dk_map (dk_u2 (h 1 _ rfl) (h 2 _ rfl)))).trans rfl))
theorem dk_163 {code : ByteArray} {pc : Nat} (a b : UInt8) (h : DkAt code pc [163, a, b]) : decode code pc = .ok (.if_icmp .gt (Reader.signed 16 (a.toNat * 256 + b.toNat)), 3) := dk_of ((dk_bind (dk_u1 (h 0 _ rfl))).trans ((dk_bind (dk_map (dk_u2 (h 1 _ rfl) (h 2 _ rfl)))).trans rfl))
theorem dk_164 {code : ByteArray} {pc : Nat} (a b : UInt8) (h : DkAt code pc [164, a, b]) : decode code pc = .ok (.if_icmp .le (Reader.signed 16 (a.toNat * 256 + b.toNat)), 3) := dk_of ((dk_bind (dk_u1 (h 0 _ rfl))).trans ((dk_bind (dk_map (dk_u2 (h 1 _ rfl) (h 2 _ rfl)))).trans rfl))
theorem dk_167 {code : ByteArray} {pc : Nat} (a b : UInt8) (h : DkAt code pc [167, a, b]) : decode code pc = .ok (.goto (Reader.signed 16 (a.toNat * 256 + b.toNat)), 3) := dk_of ((dk_bind (dk_u1 (h 0 _ rfl))).trans ((dk_bind (dk_map (dk_u2 (h 1 _ rfl) (h 2 _ rfl)))).trans rfl))
theorem dk_172 {code : ByteArray} {pc : Nat} (h : DkAt code pc [172]) : decode code pc = .ok (.ireturn, 1) := dk_of ((dk_bind (dk_u1 (h 0 _ rfl))).trans rfl)
theorem dk_173 {code : ByteArray} {pc : Nat} (h : DkAt code pc [173]) : decode code pc = .ok (.lreturn, 1) := dk_of ((dk_bind (dk_u1 (h 0 _ rfl))).trans rfl)
theorem dk_176 {code : ByteArray} {pc : Nat} (h : DkAt code pc [176]) : decode code pc = .ok (.areturn, 1) := dk_of ((dk_bind (dk_u1 (h 0 _ rfl))).trans rfl)
theorem dk_177 {code : ByteArray} {pc : Nat} (h : DkAt code pc [177]) : decode code pc = .ok (.return_, 1) := dk_of ((dk_bind (dk_u1 (h 0 _ rfl))).trans rfl)
theorem dk_178 {code : ByteArray} {pc : Nat} (a b : UInt8) (h : DkAt code pc [178, a, b]) : decode code pc = .ok (.getstatic (a.toNat * 256 + b.toNat), 3) := dk_of ((dk_bind (dk_u1 (h 0 _ rfl))).trans ((dk_bind (dk_u2 (h 1 _ rfl) (h 2 _ rfl))).trans rfl))
theorem dk_180 {code : ByteArray} {pc : Nat} (a b : UInt8) (h : DkAt code pc [180, a, b]) : decode code pc = .ok (.getfield (a.toNat * 256 + b.toNat), 3) := dk_of ((dk_bind (dk_u1 (h 0 _ rfl))).trans ((dk_bind (dk_u2 (h 1 _ rfl) (h 2 _ rfl))).trans rfl))
theorem dk_181 {code : ByteArray} {pc : Nat} (a b : UInt8) (h : DkAt code pc [181, a, b]) : decode code pc = .ok (.putfield (a.toNat * 256 + b.toNat), 3) := dk_of ((dk_bind (dk_u1 (h 0 _ rfl))).trans ((dk_bind (dk_u2 (h 1 _ rfl) (h 2 _ rfl))).trans rfl))
theorem dk_182 {code : ByteArray} {pc : Nat} (a b : UInt8) (h : DkAt code pc [182, a, b]) : decode code pc = .ok (.invokevirtual (a.toNat * 256 + b.toNat), 3) := dk_of ((dk_bind (dk_u1 (h 0 _ rfl))).trans ((dk_bind (dk_u2 (h 1 _ rfl) (h 2 _ rfl))).trans rfl))
theorem dk_183 {code : ByteArray} {pc : Nat} (a b : UInt8) (h : DkAt code pc [183, a, b]) : decode code pc = .ok (.invokespecial (a.toNat * 256 + b.toNat), 3) := dk_of ((dk_bind (dk_u1 (h 0 _ rfl))).trans ((dk_bind (dk_u2 (h 1 _ rfl) (h 2 _ rfl))).trans rfl))
theorem dk_184 {code : ByteArray} {pc : Nat} (a b : UInt8) (h : DkAt code pc [184, a, b]) : decode code pc = .ok (.invokestatic (a.toNat * 256 + b.toNat), 3) := dk_of ((dk_bind (dk_u1 (h 0 _ rfl))).trans ((dk_bind (dk_u2 (h 1 _ rfl) (h 2 _ rfl))).trans rfl))
theorem dk_187 {code : ByteArray} {pc : Nat} (a b : UInt8) (h : DkAt code pc [187, a, b]) : decode code pc = .ok (.new (a.toNat * 256 + b.toNat), 3) := dk_of ((dk_bind (dk_u1 (h 0 _ rfl))).trans ((dk_bind (dk_u2 (h 1 _ rfl) (h 2 _ rfl))).trans rfl))
theorem dk_188_4 {code : ByteArray} {pc : Nat} (h : DkAt code pc [188, 4]) : decode code pc = .ok (.newarray .boolean, 2) := dk_of ((dk_bind (dk_u1 (h 0 _ rfl))).trans ((dk_bind (dk_u1 (h 1 _ rfl))).trans rfl))
theorem dk_188_8 {code : ByteArray} {pc : Nat} (h : DkAt code pc [188, 8]) : decode code pc = .ok (.newarray .byte, 2) := dk_of ((dk_bind (dk_u1 (h 0 _ rfl))).trans ((dk_bind (dk_u1 (h 1 _ rfl))).trans rfl))
theorem dk_188_9 {code : ByteArray} {pc : Nat} (h : DkAt code pc [188, 9]) : decode code pc = .ok (.newarray .short, 2) := dk_of ((dk_bind (dk_u1 (h 0 _ rfl))).trans ((dk_bind (dk_u1 (h 1 _ rfl))).trans rfl))
theorem dk_188_10 {code : ByteArray} {pc : Nat} (h : DkAt code pc [188, 10]) : decode code pc = .ok (.newarray .int, 2) := dk_of ((dk_bind (dk_u1 (h 0 _ rfl))).trans ((dk_bind (dk_u1 (h 1 _ rfl))).trans rfl))
theorem dk_188_11 {code : ByteArray} {pc : Nat} (h : DkAt code pc [188, 11]) : decode code pc = .ok (.newarray .long, 2) := dk_of ((dk_bind (dk_u1 (h 0 _ rfl))).trans ((dk_bind (dk_u1 (h 1 _ rfl))).trans rfl))
theorem dk_189 {code : ByteArray} {pc : Nat} (a b : UInt8) (h : DkAt code pc [189, a, b]) : decode code pc = .ok (.anewarray (a.toNat * 256 + b.toNat), 3) := dk_of ((dk_bind (dk_u1 (h 0 _ rfl))).trans ((dk_bind (dk_u2 (h 1 _ rfl) (h 2 _ rfl))).trans rfl))
theorem dk_190 {code : ByteArray} {pc : Nat} (h : DkAt code pc [190]) : decode code pc = .ok (.arraylength, 1) := dk_of ((dk_bind (dk_u1 (h 0 _ rfl))).trans rfl)
theorem dk_191 {code : ByteArray} {pc : Nat} (h : DkAt code pc [191]) : decode code pc = .ok (.athrow, 1) := dk_of ((dk_bind (dk_u1 (h 0 _ rfl))).trans rfl)
theorem dk_192 {code : ByteArray} {pc : Nat} (a b : UInt8) (h : DkAt code pc [192, a, b]) : decode code pc = .ok (.checkcast (a.toNat * 256 + b.toNat), 3) := dk_of ((dk_bind (dk_u1 (h 0 _ rfl))).trans ((dk_bind (dk_u2 (h 1 _ rfl) (h 2 _ rfl))).trans rfl))
theorem dk_198 {code : ByteArray} {pc : Nat} (a b : UInt8) (h : DkAt code pc [198, a, b]) : decode code pc = .ok (.ifnull (Reader.signed 16 (a.toNat * 256 + b.toNat)), 3) := dk_of ((dk_bind (dk_u1 (h 0 _ rfl))).trans ((dk_bind (dk_map (dk_u2 (h 1 _ rfl) (h 2 _ rfl)))).trans rfl))
theorem dk_199 {code : ByteArray} {pc : Nat} (a b : UInt8) (h : DkAt code pc [199, a, b]) : decode code pc = .ok (.ifnonnull (Reader.signed 16 (a.toNat * 256 + b.toNat)), 3) := dk_of ((dk_bind (dk_u1 (h 0 _ rfl))).trans ((dk_bind (dk_map (dk_u2 (h 1 _ rfl) (h 2 _ rfl)))).trans rfl))
set_option maxRecDepth 100000
/-! PromiseRoofs -/
def RX0 : String := "PromiseRoofs"
def TX0 : u_T := fun k => match k with
  | 0 => ("PromiseRoofs", "owners", "[LPromiseRoofs$Owner;", true)
  | 1 => ("PromiseRoofs", "promises", "[LPromiseRoofs$Promise;", true)
  | 2 => ("PromiseRoofs", "ownerMany", "I", false)
  | 3 => ("PromiseRoofs", "many", "I", false)
  | 4 => ("PromiseRoofs", "today", "I", false)
  | 5 => ("PromiseRoofs", "ledPromised", "I", false)
  | 6 => ("PromiseRoofs", "changes", "[LPromiseRoofs$Change;", true)
  | 7 => ("PromiseRoofs", "doneMany", "I", false)
  | 8 => ("PromiseRoofs", "undoneMany", "I", false)
  | 9 => ("PromiseRoofs", "tape", "[B", true)
  | 10 => ("PromiseRoofs", "taped", "I", false)
  | 11 => ("PromiseRoofs", "law", "LPromiseRoofs$Line;", false)
  | 12 => ("PromiseRoofs", "facts", "LPromiseRoofs$Facts;", true)
  | 13 => ("PromiseRoofs", "leastCost", "I", false)
  | 14 => ("PromiseRoofs", "told", "[I", true)
  | 15 => ("PromiseRoofs", "toldMany", "I", false)
  | 16 => ("PromiseRoofs", "turnA", "I", false)
  | 17 => ("PromiseRoofs", "turnB", "I", false)
  | 18 => ("PromiseRoofs", "ledDone", "I", false)
  | 19 => ("PromiseRoofs", "ledReleased", "I", false)
  | 20 => ("PromiseRoofs", "ledPaid", "I", false)
  | 21 => ("PromiseRoofs", "ledDays", "I", false)
  | 22 => ("PromiseRoofs", "hasImage", "Z", false)
  | 23 => ("PromiseRoofs", "keptMoney", "[I", true)
  | 24 => ("PromiseRoofs", "keptDone", "[I", true)
  | 25 => ("PromiseRoofs", "keptOwners", "I", false)
  | 26 => ("PromiseRoofs", "keptMany", "I", false)
  | 27 => ("PromiseRoofs", "keptToday", "I", false)
  | 28 => ("PromiseRoofs", "keptPromised", "I", false)
  | 29 => ("PromiseRoofs", "keptLedDone", "I", false)
  | 30 => ("PromiseRoofs", "keptReleased", "I", false)
  | 31 => ("PromiseRoofs", "keptPaid", "I", false)
  | 32 => ("PromiseRoofs", "keptDays", "I", false)
  | 33 => ("PromiseRoofs", "traces", "I", false)
  | 34 => ("PromiseRoofs", "traced", "[B", true)
  | 35 => ("PromiseRoofs", "bodies", "[LPromiseRoofs$Storey;", true)
  | 36 => ("PromiseRoofs", "bodyMany", "I", false)
  | _ => ("PromiseRoofs", "shelves", "[LPromiseRoofs$Held;", true)
def tyX0 : Nat → FieldType := fun k => match k with
  | 0 => .array (.object "PromiseRoofs$Owner")
  | 1 => .array (.object "PromiseRoofs$Promise")
  | 2 => .int
  | 3 => .int
  | 4 => .int
  | 5 => .int
  | 6 => .array (.object "PromiseRoofs$Change")
  | 7 => .int
  | 8 => .int
  | 9 => .array .byte
  | 10 => .int
  | 11 => .object "PromiseRoofs$Line"
  | 12 => .object "PromiseRoofs$Facts"
  | 13 => .int
  | 14 => .array .int
  | 15 => .int
  | 16 => .int
  | 17 => .int
  | 18 => .int
  | 19 => .int
  | 20 => .int
  | 21 => .int
  | 22 => .boolean
  | 23 => .array .int
  | 24 => .array .int
  | 25 => .int
  | 26 => .int
  | 27 => .int
  | 28 => .int
  | 29 => .int
  | 30 => .int
  | 31 => .int
  | 32 => .int
  | 33 => .int
  | 34 => .array .byte
  | 35 => .array (.object "PromiseRoofs$Storey")
  | 36 => .int
  | _ => .array (.object "PromiseRoofs$Held")
abbrev wsX00 : List Cond := u_ws RX0 TX0 38
set_option maxRecDepth 100000 in
theorem nmX0 : ∀ a, a < 38 → ∀ b, b < 38 → a ≠ b → (TX0 a).2.1 ≠ (TX0 b).2.1 := by decide +kernel
set_option maxRecDepth 100000 in
theorem tyX0_ok : ∀ k, k < 38 → parseFieldDescriptor (TX0 k).2.2.1 = some (tyX0 k) := by decide +kernel
abbrev cX0_init : ByteArray := prog_1_method_1_code
def yX0_init : MethodName := ⟨RX0, "<init>", "()V"⟩
abbrev cX0_owner : ByteArray := prog_1_method_8_code
def yX0_owner : MethodName := ⟨RX0, "owner", "(I)I"⟩
abbrev cX0_in : ByteArray := prog_1_method_2_code
def yX0_in : MethodName := ⟨RX0, "in", "(III)Z"⟩
abbrev cX0_promise : ByteArray := prog_1_method_9_code
def yX0_promise : MethodName := ⟨RX0, "promise", "(III)I"⟩
abbrev cX0_mayPromise : ByteArray := prog_1_method_6_code
def yX0_mayPromise : MethodName := ⟨RX0, "mayPromise", "(IIII)Z"⟩
abbrev cX0_isOwner : ByteArray := prog_1_method_4_code
def yX0_isOwner : MethodName := ⟨RX0, "isOwner", "(I)Z"⟩
abbrev cX0_addPromise : ByteArray := prog_1_method_7_code
def yX0_addPromise : MethodName := ⟨RX0, "addPromise", "(IIII)I"⟩
abbrev cX0_promises : ByteArray := prog_1_method_10_code
def yX0_promises : MethodName := ⟨RX0, "promises", "(III)I"⟩
abbrev cX0_isShelf : ByteArray := prog_1_method_76_code
def yX0_isShelf : MethodName := ⟨RX0, "isShelf", "(I)Z"⟩
abbrev cX0_undo : ByteArray := prog_1_method_13_code
def yX0_undo : MethodName := ⟨RX0, "undo", "()I"⟩
abbrev cX0_setTo : ByteArray := prog_1_method_11_code
def yX0_setTo : MethodName := ⟨RX0, "setTo", "(III)V"⟩
abbrev cX0_redo : ByteArray := prog_1_method_14_code
def yX0_redo : MethodName := ⟨RX0, "redo", "()I"⟩
abbrev cX0_mend : ByteArray := prog_1_method_18_code
def yX0_mend : MethodName := ⟨RX0, "mend", "(III)I"⟩
abbrev cX0_isOf : ByteArray := prog_1_method_15_code
def yX0_isOf : MethodName := ⟨RX0, "isOf", "(II)Z"⟩
abbrev cX0_isPromise : ByteArray := prog_1_method_5_code
def yX0_isPromise : MethodName := ⟨RX0, "isPromise", "(I)Z"⟩
abbrev cX0_mayBe : ByteArray := prog_1_method_17_code
def yX0_mayBe : MethodName := ⟨RX0, "mayBe", "(II)Z"⟩
abbrev cX0_valueOf : ByteArray := prog_1_method_16_code
def yX0_valueOf : MethodName := ⟨RX0, "valueOf", "(II)I"⟩
abbrev cX0_become : ByteArray := prog_1_method_12_code
def yX0_become : MethodName := ⟨RX0, "become", "(IIII)I"⟩
abbrev cX0_of : ByteArray := prog_1_method_19_code
def yX0_of : MethodName := ⟨RX0, "of", "(II)I"⟩
abbrev cX0_feed : ByteArray := prog_1_method_20_code
def yX0_feed : MethodName := ⟨RX0, "feed", "(I)I"⟩
abbrev cX0_law : ByteArray := prog_1_method_21_code
def yX0_law : MethodName := ⟨RX0, "law", "()I"⟩
abbrev cX0_storeys : ByteArray := prog_1_method_25_code
def yX0_storeys : MethodName := ⟨RX0, "storeys", "(I)I"⟩
abbrev cX0_storeysOf : ByteArray := prog_1_method_24_code
def yX0_storeysOf : MethodName := ⟨RX0, "storeysOf", "(II)I"⟩
abbrev cX0_openBy : ByteArray := prog_1_method_23_code
def yX0_openBy : MethodName := ⟨RX0, "openBy", "(II)I"⟩
abbrev cX0_gives : ByteArray := prog_1_method_22_code
def yX0_gives : MethodName := ⟨RX0, "gives", "()I"⟩
abbrev cX0_high : ByteArray := prog_1_method_30_code
def yX0_high : MethodName := ⟨RX0, "high", "(II)I"⟩
abbrev cX0_areDays : ByteArray := prog_1_method_28_code
def yX0_areDays : MethodName := ⟨RX0, "areDays", "(I)Z"⟩
abbrev cX0_dayBehind : ByteArray := prog_1_method_27_code
def yX0_dayBehind : MethodName := ⟨RX0, "dayBehind", "(I)I"⟩
abbrev cX0_allHigh : ByteArray := prog_1_method_29_code
def yX0_allHigh : MethodName := ⟨RX0, "allHigh", "(I)I"⟩
abbrev cX0_highOf : ByteArray := prog_1_method_26_code
def yX0_highOf : MethodName := ⟨RX0, "highOf", "(II)I"⟩
abbrev cX0_opens : ByteArray := prog_1_method_31_code
def yX0_opens : MethodName := ⟨RX0, "opens", "(I)I"⟩
abbrev cX0_roof : ByteArray := prog_1_method_33_code
def yX0_roof : MethodName := ⟨RX0, "roof", "(I)I"⟩
abbrev cX0_roofOf : ByteArray := prog_1_method_32_code
def yX0_roofOf : MethodName := ⟨RX0, "roofOf", "(I)I"⟩
abbrev cX0_falls : ByteArray := prog_1_method_34_code
def yX0_falls : MethodName := ⟨RX0, "falls", "(II)I"⟩
abbrev cX0_skyline : ByteArray := prog_1_method_36_code
def yX0_skyline : MethodName := ⟨RX0, "skyline", "(I)I"⟩
abbrev cX0_tallest : ByteArray := prog_1_method_35_code
def yX0_tallest : MethodName := ⟨RX0, "tallest", "()I"⟩
abbrev cX0_view : ByteArray := prog_1_method_37_code
def yX0_view : MethodName := ⟨RX0, "view", "(II)I"⟩
abbrev cX0_what : ByteArray := prog_1_method_40_code
def yX0_what : MethodName := ⟨RX0, "what", "(III)I"⟩
abbrev cX0_leastWorth : ByteArray := prog_1_method_39_code
def yX0_leastWorth : MethodName := ⟨RX0, "leastWorth", "(IIIII)I"⟩
abbrev cX0_standsSo : ByteArray := prog_1_method_38_code
def yX0_standsSo : MethodName := ⟨RX0, "standsSo", "(III)Z"⟩
abbrev cX0_lower : ByteArray := prog_1_method_46_code
def yX0_lower : MethodName := ⟨RX0, "lower", "(III)I"⟩
abbrev cX0_bestLower : ByteArray := prog_1_method_45_code
def yX0_bestLower : MethodName := ⟨RX0, "bestLower", "(II)I"⟩
abbrev cX0_mayDo : ByteArray := prog_1_method_43_code
def yX0_mayDo : MethodName := ⟨RX0, "mayDo", "(I)I"⟩
abbrev cX0_lowers : ByteArray := prog_1_method_42_code
def yX0_lowers : MethodName := ⟨RX0, "lowers", "(III)Z"⟩
abbrev cX0_has : ByteArray := prog_1_method_3_code
def yX0_has : MethodName := ⟨RX0, "has", "(II)Z"⟩
abbrev cX0_isBetter : ByteArray := prog_1_method_44_code
def yX0_isBetter : MethodName := ⟨RX0, "isBetter", "(II)Z"⟩
abbrev cX0_worthOf : ByteArray := prog_1_method_41_code
def yX0_worthOf : MethodName := ⟨RX0, "worthOf", "(I)I"⟩
abbrev cX0_holds : ByteArray := prog_1_method_51_code
def yX0_holds : MethodName := ⟨RX0, "holds", "(II)I"⟩
abbrev cX0_holder : ByteArray := prog_1_method_47_code
def yX0_holder : MethodName := ⟨RX0, "holder", "(I)I"⟩
abbrev cX0_ringOf : ByteArray := prog_1_method_48_code
def yX0_ringOf : MethodName := ⟨RX0, "ringOf", "(I)I"⟩
abbrev cX0_endOf : ByteArray := prog_1_method_49_code
def yX0_endOf : MethodName := ⟨RX0, "endOf", "(I)I"⟩
abbrev cX0_owedTo : ByteArray := prog_1_method_50_code
def yX0_owedTo : MethodName := ⟨RX0, "owedTo", "(I)I"⟩
abbrev cX0_judge : ByteArray := prog_1_method_54_code
def yX0_judge : MethodName := ⟨RX0, "judge", "(II)I"⟩
abbrev cX0_layRow : ByteArray := prog_1_method_52_code
def yX0_layRow : MethodName := ⟨RX0, "layRow", "(I)I"⟩
abbrev cX0_wrongDay : ByteArray := prog_1_method_53_code
def yX0_wrongDay : MethodName := ⟨RX0, "wrongDay", "(I)I"⟩
abbrev cX0_fits : ByteArray := prog_1_method_57_code
def yX0_fits : MethodName := ⟨RX0, "fits", "(IIII)I"⟩
abbrev cX0_byWorths : ByteArray := prog_1_method_55_code
def yX0_byWorths : MethodName := ⟨RX0, "byWorths", "(ILPromiseRoofs$Promise;Z)I"⟩
abbrev cX0_byLasts : ByteArray := prog_1_method_56_code
def yX0_byLasts : MethodName := ⟨RX0, "byLasts", "(ILPromiseRoofs$Promise;Z)I"⟩
abbrev cX0_share : ByteArray := prog_1_method_58_code
def yX0_share : MethodName := ⟨RX0, "share", "(II)I"⟩
abbrev cX0_byTurns : ByteArray := prog_1_method_61_code
def yX0_byTurns : MethodName := ⟨RX0, "byTurns", "(III)I"⟩
abbrev cX0_bestOf : ByteArray := prog_1_method_60_code
def yX0_bestOf : MethodName := ⟨RX0, "bestOf", "(IZ)I"⟩
abbrev cX0_byDeed : ByteArray := prog_1_method_59_code
def yX0_byDeed : MethodName := ⟨RX0, "byDeed", "(IIZ)I"⟩
abbrev cX0_drawn : ByteArray := prog_1_method_65_code
def yX0_drawn : MethodName := ⟨RX0, "drawn", "(III)I"⟩
abbrev cX0_doneBits : ByteArray := prog_1_method_63_code
def yX0_doneBits : MethodName := ⟨RX0, "doneBits", "()I"⟩
abbrev cX0_goDraw : ByteArray := prog_1_method_62_code
def yX0_goDraw : MethodName := ⟨RX0, "goDraw", "(III)V"⟩
abbrev cX0_layDone : ByteArray := prog_1_method_64_code
def yX0_layDone : MethodName := ⟨RX0, "layDone", "(I)V"⟩
abbrev cX0_does : ByteArray := prog_1_method_66_code
def yX0_does : MethodName := ⟨RX0, "does", "(II)I"⟩
abbrev cX0_release : ByteArray := prog_1_method_67_code
def yX0_release : MethodName := ⟨RX0, "release", "(I)I"⟩
abbrev cX0_days : ByteArray := prog_1_method_68_code
def yX0_days : MethodName := ⟨RX0, "days", "(I)I"⟩
abbrev cX0_led : ByteArray := prog_1_method_69_code
def yX0_led : MethodName := ⟨RX0, "led", "(I)I"⟩
abbrev cX0_image : ByteArray := prog_1_method_70_code
def yX0_image : MethodName := ⟨RX0, "image", "()I"⟩
abbrev cX0_back : ByteArray := prog_1_method_71_code
def yX0_back : MethodName := ⟨RX0, "back", "()I"⟩
abbrev cX0_body : ByteArray := prog_1_method_75_code
def yX0_body : MethodName := ⟨RX0, "body", "(I)I"⟩
abbrev cX0_bodyOf : ByteArray := prog_1_method_74_code
def yX0_bodyOf : MethodName := ⟨RX0, "bodyOf", "(I)LPromiseRoofs$Storey;"⟩
abbrev cX0_act : ByteArray := prog_1_method_77_code
def yX0_act : MethodName := ⟨RX0, "act", "(III)I"⟩
abbrev cX0_isBody : ByteArray := prog_1_method_73_code
def yX0_isBody : MethodName := ⟨RX0, "isBody", "(I)Z"⟩
abbrev cX0_ran : ByteArray := prog_1_method_72_code
def yX0_ran : MethodName := ⟨RX0, "ran", "(I)V"⟩
abbrev cX0_trace : ByteArray := prog_1_method_78_code
def yX0_trace : MethodName := ⟨RX0, "trace", "(I)I"⟩
abbrev cX0_keep : ByteArray := prog_1_method_79_code
def yX0_keep : MethodName := ⟨RX0, "keep", "(II)I"⟩
abbrev cX0_row : ByteArray := prog_1_method_81_code
def yX0_row : MethodName := ⟨RX0, "row", "(III)I"⟩
abbrev cX0_newRow : ByteArray := prog_1_method_80_code
def yX0_newRow : MethodName := ⟨RX0, "newRow", "(II)LPromiseRoofs$Row;"⟩
abbrev cX0_put : ByteArray := prog_1_method_82_code
def yX0_put : MethodName := ⟨RX0, "put", "(IIJ)I"⟩
abbrev cX0_element : ByteArray := prog_1_method_83_code
def yX0_element : MethodName := ⟨RX0, "element", "(II)J"⟩
abbrev cX0_shift : ByteArray := prog_1_method_84_code
def yX0_shift : MethodName := ⟨RX0, "shift", "(IIIII)I"⟩
abbrev cX0_taken : ByteArray := prog_1_method_85_code
def yX0_taken : MethodName := ⟨RX0, "taken", "(II)I"⟩
abbrev cX0_count : ByteArray := prog_1_method_86_code
def yX0_count : MethodName := ⟨RX0, "count", "(I)I"⟩
theorem q100 : (Jvm.Cond.initialized "PromiseRoofs") ∈ lw_all := lw_g (lw_at lw_m1 1 rfl) rfl
theorem q146 : (Jvm.Cond.instantiable "PromiseRoofs" (38 : Nat)) ∈ lw_all := lw_g (lw_at lw_m1 47 rfl) rfl
theorem q148 : (Jvm.Cond.instanceMethod ({ cls := "PromiseRoofs", name := "<init>", desc := "()V" } : Jvm.MethodName)) ∈ lw_all := lw_g (lw_at lw_m1 49 rfl) rfl
theorem q149 : (Jvm.Cond.code ({ cls := "PromiseRoofs", name := "<init>", desc := "()V" } : Jvm.MethodName) prog_1_method_1_code (1 : Nat) (Option.none : Option Jvm.ClassFile.FieldType)) ∈ lw_all := lw_g (lw_at lw_m1 50 rfl) rfl
theorem q150 : (Jvm.Cond.methodLink "PromiseRoofs" (1 : Nat) ({ cls := "java/lang/Object", name := "<init>", desc := "()V" } : Jvm.MethodName)) ∈ lw_all := lw_g (lw_at lw_m1 51 rfl) rfl
theorem q153 : (Jvm.Cond.classLink "PromiseRoofs" (9 : Nat) "PromiseRoofs$Owner") ∈ lw_all := lw_g (lw_at lw_m1 54 rfl) rfl
theorem q155 : (Jvm.Cond.classLink "PromiseRoofs" (15 : Nat) "PromiseRoofs$Promise") ∈ lw_all := lw_g (lw_at lw_m1 56 rfl) rfl
theorem q157 : (Jvm.Cond.classLink "PromiseRoofs" (21 : Nat) "PromiseRoofs$Change") ∈ lw_all := lw_g (lw_at lw_m1 58 rfl) rfl
theorem q159 : (Jvm.Cond.classLink "PromiseRoofs" (31 : Nat) "PromiseRoofs$Facts") ∈ lw_all := lw_g (lw_at lw_m1 60 rfl) rfl
theorem q161 : (Jvm.Cond.methodLinkNest "PromiseRoofs" (33 : Nat) ({ cls := "PromiseRoofs$Facts", name := "<init>", desc := "()V" } : Jvm.MethodName) "PromiseRoofs") ∈ lw_tbl := lw_at lw_m1 62 rfl
theorem q167 : (Jvm.Cond.fieldLinkNest "PromiseRoofs" (222 : Nat) "PromiseRoofs$Facts" "named" "[I" "PromiseRoofs") ∈ lw_tbl := lw_at lw_m1 68 rfl
theorem q173 : (Jvm.Cond.classLink "PromiseRoofs" (51 : Nat) "PromiseRoofs$Storey") ∈ lw_all := lw_g (lw_at lw_m1 74 rfl) rfl
theorem q175 : (Jvm.Cond.classLink "PromiseRoofs" (57 : Nat) "PromiseRoofs$Held") ∈ lw_all := lw_g (lw_at lw_m1 76 rfl) rfl
theorem q177 : (Jvm.Cond.fieldLink "PromiseRoofs" (11 : Nat) "PromiseRoofs" "owners" "[LPromiseRoofs$Owner;") ∈ lw_all := lw_g (lw_at lw_m1 78 rfl) rfl
theorem q178 : (Jvm.Cond.fieldLink "PromiseRoofs" (17 : Nat) "PromiseRoofs" "promises" "[LPromiseRoofs$Promise;") ∈ lw_all := lw_g (lw_at lw_m1 79 rfl) rfl
theorem q179 : (Jvm.Cond.fieldLink "PromiseRoofs" (63 : Nat) "PromiseRoofs" "ownerMany" "I") ∈ lw_all := lw_g (lw_at lw_m1 80 rfl) rfl
theorem q180 : (Jvm.Cond.fieldLink "PromiseRoofs" (71 : Nat) "PromiseRoofs" "many" "I") ∈ lw_all := lw_g (lw_at lw_m1 81 rfl) rfl
theorem q181 : (Jvm.Cond.fieldLink "PromiseRoofs" (78 : Nat) "PromiseRoofs" "today" "I") ∈ lw_all := lw_g (lw_at lw_m1 82 rfl) rfl
theorem q182 : (Jvm.Cond.fieldLink "PromiseRoofs" (91 : Nat) "PromiseRoofs" "ledPromised" "I") ∈ lw_all := lw_g (lw_at lw_m1 83 rfl) rfl
theorem q183 : (Jvm.Cond.fieldLink "PromiseRoofs" (23 : Nat) "PromiseRoofs" "changes" "[LPromiseRoofs$Change;") ∈ lw_all := lw_g (lw_at lw_m1 84 rfl) rfl
theorem q184 : (Jvm.Cond.fieldLink "PromiseRoofs" (134 : Nat) "PromiseRoofs" "doneMany" "I") ∈ lw_all := lw_g (lw_at lw_m1 85 rfl) rfl
theorem q185 : (Jvm.Cond.fieldLink "PromiseRoofs" (131 : Nat) "PromiseRoofs" "undoneMany" "I") ∈ lw_all := lw_g (lw_at lw_m1 86 rfl) rfl
theorem q186 : (Jvm.Cond.fieldLink "PromiseRoofs" (27 : Nat) "PromiseRoofs" "tape" "[B") ∈ lw_all := lw_g (lw_at lw_m1 87 rfl) rfl
theorem q189 : (Jvm.Cond.fieldLink "PromiseRoofs" (179 : Nat) "PromiseRoofs" "taped" "I") ∈ lw_all := lw_g (lw_at lw_m1 90 rfl) rfl
theorem q190 : (Jvm.Cond.fieldLink "PromiseRoofs" (194 : Nat) "PromiseRoofs" "law" "LPromiseRoofs$Line;") ∈ lw_all := lw_g (lw_at lw_m1 91 rfl) rfl
theorem q191 : (Jvm.Cond.fieldLink "PromiseRoofs" (34 : Nat) "PromiseRoofs" "facts" "LPromiseRoofs$Facts;") ∈ lw_all := lw_g (lw_at lw_m1 92 rfl) rfl
theorem q192 : (Jvm.Cond.fieldLink "PromiseRoofs" (282 : Nat) "PromiseRoofs" "leastCost" "I") ∈ lw_all := lw_g (lw_at lw_m1 93 rfl) rfl
theorem q193 : (Jvm.Cond.fieldLink "PromiseRoofs" (38 : Nat) "PromiseRoofs" "told" "[I") ∈ lw_all := lw_g (lw_at lw_m1 94 rfl) rfl
theorem q194 : (Jvm.Cond.fieldLink "PromiseRoofs" (306 : Nat) "PromiseRoofs" "toldMany" "I") ∈ lw_all := lw_g (lw_at lw_m1 95 rfl) rfl
theorem q195 : (Jvm.Cond.fieldLink "PromiseRoofs" (329 : Nat) "PromiseRoofs" "turnA" "I") ∈ lw_all := lw_g (lw_at lw_m1 96 rfl) rfl
theorem q196 : (Jvm.Cond.fieldLink "PromiseRoofs" (332 : Nat) "PromiseRoofs" "turnB" "I") ∈ lw_all := lw_g (lw_at lw_m1 97 rfl) rfl
theorem q197 : (Jvm.Cond.fieldLink "PromiseRoofs" (349 : Nat) "PromiseRoofs" "ledDone" "I") ∈ lw_all := lw_g (lw_at lw_m1 98 rfl) rfl
theorem q198 : (Jvm.Cond.fieldLink "PromiseRoofs" (355 : Nat) "PromiseRoofs" "ledReleased" "I") ∈ lw_all := lw_g (lw_at lw_m1 99 rfl) rfl
theorem q199 : (Jvm.Cond.fieldLink "PromiseRoofs" (352 : Nat) "PromiseRoofs" "ledPaid" "I") ∈ lw_all := lw_g (lw_at lw_m1 100 rfl) rfl
theorem q200 : (Jvm.Cond.fieldLink "PromiseRoofs" (358 : Nat) "PromiseRoofs" "ledDays" "I") ∈ lw_all := lw_g (lw_at lw_m1 101 rfl) rfl
theorem q201 : (Jvm.Cond.fieldLink "PromiseRoofs" (361 : Nat) "PromiseRoofs" "hasImage" "Z") ∈ lw_all := lw_g (lw_at lw_m1 102 rfl) rfl
theorem q202 : (Jvm.Cond.fieldLink "PromiseRoofs" (42 : Nat) "PromiseRoofs" "keptMoney" "[I") ∈ lw_all := lw_g (lw_at lw_m1 103 rfl) rfl
theorem q203 : (Jvm.Cond.fieldLink "PromiseRoofs" (45 : Nat) "PromiseRoofs" "keptDone" "[I") ∈ lw_all := lw_g (lw_at lw_m1 104 rfl) rfl
theorem q204 : (Jvm.Cond.fieldLink "PromiseRoofs" (365 : Nat) "PromiseRoofs" "keptOwners" "I") ∈ lw_all := lw_g (lw_at lw_m1 105 rfl) rfl
theorem q205 : (Jvm.Cond.fieldLink "PromiseRoofs" (368 : Nat) "PromiseRoofs" "keptMany" "I") ∈ lw_all := lw_g (lw_at lw_m1 106 rfl) rfl
theorem q206 : (Jvm.Cond.fieldLink "PromiseRoofs" (371 : Nat) "PromiseRoofs" "keptToday" "I") ∈ lw_all := lw_g (lw_at lw_m1 107 rfl) rfl
theorem q207 : (Jvm.Cond.fieldLink "PromiseRoofs" (374 : Nat) "PromiseRoofs" "keptPromised" "I") ∈ lw_all := lw_g (lw_at lw_m1 108 rfl) rfl
theorem q208 : (Jvm.Cond.fieldLink "PromiseRoofs" (377 : Nat) "PromiseRoofs" "keptLedDone" "I") ∈ lw_all := lw_g (lw_at lw_m1 109 rfl) rfl
theorem q209 : (Jvm.Cond.fieldLink "PromiseRoofs" (380 : Nat) "PromiseRoofs" "keptReleased" "I") ∈ lw_all := lw_g (lw_at lw_m1 110 rfl) rfl
theorem q210 : (Jvm.Cond.fieldLink "PromiseRoofs" (383 : Nat) "PromiseRoofs" "keptPaid" "I") ∈ lw_all := lw_g (lw_at lw_m1 111 rfl) rfl
theorem q211 : (Jvm.Cond.fieldLink "PromiseRoofs" (386 : Nat) "PromiseRoofs" "keptDays" "I") ∈ lw_all := lw_g (lw_at lw_m1 112 rfl) rfl
theorem q212 : (Jvm.Cond.fieldLink "PromiseRoofs" (389 : Nat) "PromiseRoofs" "traces" "I") ∈ lw_all := lw_g (lw_at lw_m1 113 rfl) rfl
theorem q213 : (Jvm.Cond.fieldLink "PromiseRoofs" (48 : Nat) "PromiseRoofs" "traced" "[B") ∈ lw_all := lw_g (lw_at lw_m1 114 rfl) rfl
theorem q214 : (Jvm.Cond.fieldLink "PromiseRoofs" (53 : Nat) "PromiseRoofs" "bodies" "[LPromiseRoofs$Storey;") ∈ lw_all := lw_g (lw_at lw_m1 115 rfl) rfl
theorem q215 : (Jvm.Cond.fieldLink "PromiseRoofs" (392 : Nat) "PromiseRoofs" "bodyMany" "I") ∈ lw_all := lw_g (lw_at lw_m1 116 rfl) rfl
theorem q216 : (Jvm.Cond.fieldLink "PromiseRoofs" (59 : Nat) "PromiseRoofs" "shelves" "[LPromiseRoofs$Held;") ∈ lw_all := lw_g (lw_at lw_m1 117 rfl) rfl
theorem q217 : (Jvm.Cond.laysFinal "PromiseRoofs" "PromiseRoofs" "owners" "[LPromiseRoofs$Owner;") ∈ lw_all := lw_g (lw_at lw_m1 118 rfl) rfl
theorem q218 : (Jvm.Cond.soleField "PromiseRoofs" "owners") ∈ lw_all := lw_g (lw_at lw_m1 119 rfl) rfl
theorem q219 : (Jvm.Cond.laysFinal "PromiseRoofs" "PromiseRoofs" "promises" "[LPromiseRoofs$Promise;") ∈ lw_all := lw_g (lw_at lw_m1 120 rfl) rfl
theorem q220 : (Jvm.Cond.soleField "PromiseRoofs" "promises") ∈ lw_all := lw_g (lw_at lw_m1 121 rfl) rfl
theorem q221 : (Jvm.Cond.lays "PromiseRoofs" "PromiseRoofs" "ownerMany" "I") ∈ lw_all := lw_g (lw_at lw_m1 122 rfl) rfl
theorem q222 : (Jvm.Cond.soleField "PromiseRoofs" "ownerMany") ∈ lw_all := lw_g (lw_at lw_m1 123 rfl) rfl
theorem q223 : (Jvm.Cond.lays "PromiseRoofs" "PromiseRoofs" "many" "I") ∈ lw_all := lw_g (lw_at lw_m1 124 rfl) rfl
theorem q224 : (Jvm.Cond.soleField "PromiseRoofs" "many") ∈ lw_all := lw_g (lw_at lw_m1 125 rfl) rfl
theorem q225 : (Jvm.Cond.lays "PromiseRoofs" "PromiseRoofs" "today" "I") ∈ lw_all := lw_g (lw_at lw_m1 126 rfl) rfl
theorem q226 : (Jvm.Cond.soleField "PromiseRoofs" "today") ∈ lw_all := lw_g (lw_at lw_m1 127 rfl) rfl
theorem q227 : (Jvm.Cond.lays "PromiseRoofs" "PromiseRoofs" "ledPromised" "I") ∈ lw_all := lw_g (lw_at lw_m1 128 rfl) rfl
theorem q228 : (Jvm.Cond.soleField "PromiseRoofs" "ledPromised") ∈ lw_all := lw_g (lw_at lw_m1 129 rfl) rfl
theorem q229 : (Jvm.Cond.laysFinal "PromiseRoofs" "PromiseRoofs" "changes" "[LPromiseRoofs$Change;") ∈ lw_all := lw_g (lw_at lw_m1 130 rfl) rfl
theorem q230 : (Jvm.Cond.soleField "PromiseRoofs" "changes") ∈ lw_all := lw_g (lw_at lw_m1 131 rfl) rfl
theorem q231 : (Jvm.Cond.lays "PromiseRoofs" "PromiseRoofs" "doneMany" "I") ∈ lw_all := lw_g (lw_at lw_m1 132 rfl) rfl
theorem q232 : (Jvm.Cond.soleField "PromiseRoofs" "doneMany") ∈ lw_all := lw_g (lw_at lw_m1 133 rfl) rfl
theorem q233 : (Jvm.Cond.lays "PromiseRoofs" "PromiseRoofs" "undoneMany" "I") ∈ lw_all := lw_g (lw_at lw_m1 134 rfl) rfl
theorem q234 : (Jvm.Cond.soleField "PromiseRoofs" "undoneMany") ∈ lw_all := lw_g (lw_at lw_m1 135 rfl) rfl
theorem q235 : (Jvm.Cond.laysFinal "PromiseRoofs" "PromiseRoofs" "tape" "[B") ∈ lw_all := lw_g (lw_at lw_m1 136 rfl) rfl
theorem q236 : (Jvm.Cond.soleField "PromiseRoofs" "tape") ∈ lw_all := lw_g (lw_at lw_m1 137 rfl) rfl
theorem q237 : (Jvm.Cond.lays "PromiseRoofs" "PromiseRoofs" "taped" "I") ∈ lw_all := lw_g (lw_at lw_m1 138 rfl) rfl
theorem q238 : (Jvm.Cond.soleField "PromiseRoofs" "taped") ∈ lw_all := lw_g (lw_at lw_m1 139 rfl) rfl
theorem q239 : (Jvm.Cond.lays "PromiseRoofs" "PromiseRoofs" "law" "LPromiseRoofs$Line;") ∈ lw_all := lw_g (lw_at lw_m1 140 rfl) rfl
theorem q240 : (Jvm.Cond.soleField "PromiseRoofs" "law") ∈ lw_all := lw_g (lw_at lw_m1 141 rfl) rfl
theorem q241 : (Jvm.Cond.laysFinal "PromiseRoofs" "PromiseRoofs" "facts" "LPromiseRoofs$Facts;") ∈ lw_all := lw_g (lw_at lw_m1 142 rfl) rfl
theorem q242 : (Jvm.Cond.soleField "PromiseRoofs" "facts") ∈ lw_all := lw_g (lw_at lw_m1 143 rfl) rfl
theorem q243 : (Jvm.Cond.lays "PromiseRoofs" "PromiseRoofs" "leastCost" "I") ∈ lw_all := lw_g (lw_at lw_m1 144 rfl) rfl
theorem q244 : (Jvm.Cond.soleField "PromiseRoofs" "leastCost") ∈ lw_all := lw_g (lw_at lw_m1 145 rfl) rfl
theorem q245 : (Jvm.Cond.laysFinal "PromiseRoofs" "PromiseRoofs" "told" "[I") ∈ lw_all := lw_g (lw_at lw_m1 146 rfl) rfl
theorem q246 : (Jvm.Cond.soleField "PromiseRoofs" "told") ∈ lw_all := lw_g (lw_at lw_m1 147 rfl) rfl
theorem q247 : (Jvm.Cond.lays "PromiseRoofs" "PromiseRoofs" "toldMany" "I") ∈ lw_all := lw_g (lw_at lw_m1 148 rfl) rfl
theorem q248 : (Jvm.Cond.soleField "PromiseRoofs" "toldMany") ∈ lw_all := lw_g (lw_at lw_m1 149 rfl) rfl
theorem q249 : (Jvm.Cond.lays "PromiseRoofs" "PromiseRoofs" "turnA" "I") ∈ lw_all := lw_g (lw_at lw_m1 150 rfl) rfl
theorem q250 : (Jvm.Cond.soleField "PromiseRoofs" "turnA") ∈ lw_all := lw_g (lw_at lw_m1 151 rfl) rfl
theorem q251 : (Jvm.Cond.lays "PromiseRoofs" "PromiseRoofs" "turnB" "I") ∈ lw_all := lw_g (lw_at lw_m1 152 rfl) rfl
theorem q252 : (Jvm.Cond.soleField "PromiseRoofs" "turnB") ∈ lw_all := lw_g (lw_at lw_m1 153 rfl) rfl
theorem q253 : (Jvm.Cond.lays "PromiseRoofs" "PromiseRoofs" "ledDone" "I") ∈ lw_all := lw_g (lw_at lw_m1 154 rfl) rfl
theorem q254 : (Jvm.Cond.soleField "PromiseRoofs" "ledDone") ∈ lw_all := lw_g (lw_at lw_m1 155 rfl) rfl
theorem q255 : (Jvm.Cond.lays "PromiseRoofs" "PromiseRoofs" "ledReleased" "I") ∈ lw_all := lw_g (lw_at lw_m1 156 rfl) rfl
theorem q256 : (Jvm.Cond.soleField "PromiseRoofs" "ledReleased") ∈ lw_all := lw_g (lw_at lw_m1 157 rfl) rfl
theorem q257 : (Jvm.Cond.lays "PromiseRoofs" "PromiseRoofs" "ledPaid" "I") ∈ lw_all := lw_g (lw_at lw_m1 158 rfl) rfl
theorem q258 : (Jvm.Cond.soleField "PromiseRoofs" "ledPaid") ∈ lw_all := lw_g (lw_at lw_m1 159 rfl) rfl
theorem q259 : (Jvm.Cond.lays "PromiseRoofs" "PromiseRoofs" "ledDays" "I") ∈ lw_all := lw_g (lw_at lw_m1 160 rfl) rfl
theorem q260 : (Jvm.Cond.soleField "PromiseRoofs" "ledDays") ∈ lw_all := lw_g (lw_at lw_m1 161 rfl) rfl
theorem q261 : (Jvm.Cond.lays "PromiseRoofs" "PromiseRoofs" "hasImage" "Z") ∈ lw_all := lw_g (lw_at lw_m1 162 rfl) rfl
theorem q262 : (Jvm.Cond.soleField "PromiseRoofs" "hasImage") ∈ lw_all := lw_g (lw_at lw_m1 163 rfl) rfl
theorem q263 : (Jvm.Cond.laysFinal "PromiseRoofs" "PromiseRoofs" "keptMoney" "[I") ∈ lw_all := lw_g (lw_at lw_m1 164 rfl) rfl
theorem q264 : (Jvm.Cond.soleField "PromiseRoofs" "keptMoney") ∈ lw_all := lw_g (lw_at lw_m1 165 rfl) rfl
theorem q265 : (Jvm.Cond.laysFinal "PromiseRoofs" "PromiseRoofs" "keptDone" "[I") ∈ lw_all := lw_g (lw_at lw_m1 166 rfl) rfl
theorem q266 : (Jvm.Cond.soleField "PromiseRoofs" "keptDone") ∈ lw_all := lw_g (lw_at lw_m1 167 rfl) rfl
theorem q267 : (Jvm.Cond.lays "PromiseRoofs" "PromiseRoofs" "keptOwners" "I") ∈ lw_all := lw_g (lw_at lw_m1 168 rfl) rfl
theorem q268 : (Jvm.Cond.soleField "PromiseRoofs" "keptOwners") ∈ lw_all := lw_g (lw_at lw_m1 169 rfl) rfl
theorem q269 : (Jvm.Cond.lays "PromiseRoofs" "PromiseRoofs" "keptMany" "I") ∈ lw_all := lw_g (lw_at lw_m1 170 rfl) rfl
theorem q270 : (Jvm.Cond.soleField "PromiseRoofs" "keptMany") ∈ lw_all := lw_g (lw_at lw_m1 171 rfl) rfl
theorem q271 : (Jvm.Cond.lays "PromiseRoofs" "PromiseRoofs" "keptToday" "I") ∈ lw_all := lw_g (lw_at lw_m1 172 rfl) rfl
theorem q272 : (Jvm.Cond.soleField "PromiseRoofs" "keptToday") ∈ lw_all := lw_g (lw_at lw_m1 173 rfl) rfl
theorem q273 : (Jvm.Cond.lays "PromiseRoofs" "PromiseRoofs" "keptPromised" "I") ∈ lw_all := lw_g (lw_at lw_m1 174 rfl) rfl
theorem q274 : (Jvm.Cond.soleField "PromiseRoofs" "keptPromised") ∈ lw_all := lw_g (lw_at lw_m1 175 rfl) rfl
theorem q275 : (Jvm.Cond.lays "PromiseRoofs" "PromiseRoofs" "keptLedDone" "I") ∈ lw_all := lw_g (lw_at lw_m1 176 rfl) rfl
theorem q276 : (Jvm.Cond.soleField "PromiseRoofs" "keptLedDone") ∈ lw_all := lw_g (lw_at lw_m1 177 rfl) rfl
theorem q277 : (Jvm.Cond.lays "PromiseRoofs" "PromiseRoofs" "keptReleased" "I") ∈ lw_all := lw_g (lw_at lw_m1 178 rfl) rfl
theorem q278 : (Jvm.Cond.soleField "PromiseRoofs" "keptReleased") ∈ lw_all := lw_g (lw_at lw_m1 179 rfl) rfl
theorem q279 : (Jvm.Cond.lays "PromiseRoofs" "PromiseRoofs" "keptPaid" "I") ∈ lw_all := lw_g (lw_at lw_m1 180 rfl) rfl
theorem q280 : (Jvm.Cond.soleField "PromiseRoofs" "keptPaid") ∈ lw_all := lw_g (lw_at lw_m1 181 rfl) rfl
theorem q281 : (Jvm.Cond.lays "PromiseRoofs" "PromiseRoofs" "keptDays" "I") ∈ lw_all := lw_g (lw_at lw_m1 182 rfl) rfl
theorem q282 : (Jvm.Cond.soleField "PromiseRoofs" "keptDays") ∈ lw_all := lw_g (lw_at lw_m1 183 rfl) rfl
theorem q283 : (Jvm.Cond.lays "PromiseRoofs" "PromiseRoofs" "traces" "I") ∈ lw_all := lw_g (lw_at lw_m1 184 rfl) rfl
theorem q284 : (Jvm.Cond.soleField "PromiseRoofs" "traces") ∈ lw_all := lw_g (lw_at lw_m1 185 rfl) rfl
theorem q285 : (Jvm.Cond.laysFinal "PromiseRoofs" "PromiseRoofs" "traced" "[B") ∈ lw_all := lw_g (lw_at lw_m1 186 rfl) rfl
theorem q286 : (Jvm.Cond.soleField "PromiseRoofs" "traced") ∈ lw_all := lw_g (lw_at lw_m1 187 rfl) rfl
theorem q287 : (Jvm.Cond.laysFinal "PromiseRoofs" "PromiseRoofs" "bodies" "[LPromiseRoofs$Storey;") ∈ lw_all := lw_g (lw_at lw_m1 188 rfl) rfl
theorem q288 : (Jvm.Cond.soleField "PromiseRoofs" "bodies") ∈ lw_all := lw_g (lw_at lw_m1 189 rfl) rfl
theorem q289 : (Jvm.Cond.lays "PromiseRoofs" "PromiseRoofs" "bodyMany" "I") ∈ lw_all := lw_g (lw_at lw_m1 190 rfl) rfl
theorem q290 : (Jvm.Cond.soleField "PromiseRoofs" "bodyMany") ∈ lw_all := lw_g (lw_at lw_m1 191 rfl) rfl
theorem q291 : (Jvm.Cond.laysFinal "PromiseRoofs" "PromiseRoofs" "shelves" "[LPromiseRoofs$Held;") ∈ lw_all := lw_g (lw_at lw_m1 192 rfl) rfl
theorem q292 : (Jvm.Cond.soleField "PromiseRoofs" "shelves") ∈ lw_all := lw_g (lw_at lw_m1 193 rfl) rfl
theorem q293 : (Jvm.Cond.superclass "PromiseRoofs" "java/lang/Object") ∈ lw_all := lw_g (lw_at lw_m1 194 rfl) rfl
theorem q295 : (Jvm.Cond.instanceMethod ({ cls := "PromiseRoofs", name := "owner", desc := "(I)I" } : Jvm.MethodName)) ∈ lw_all := lw_g (lw_at lw_m1 196 rfl) rfl
theorem q296 : (Jvm.Cond.selects "PromiseRoofs" ({ cls := "PromiseRoofs", name := "owner", desc := "(I)I" } : Jvm.MethodName) ({ cls := "PromiseRoofs", name := "owner", desc := "(I)I" } : Jvm.MethodName)) ∈ lw_all := lw_g (lw_at lw_m1 197 rfl) rfl
theorem q297 : (Jvm.Cond.code ({ cls := "PromiseRoofs", name := "owner", desc := "(I)I" } : Jvm.MethodName) prog_1_method_8_code (2 : Nat) (Option.some Jvm.ClassFile.FieldType.int)) ∈ lw_all := lw_g (lw_at lw_m1 198 rfl) rfl
theorem q298 : (Jvm.Cond.methodLink "PromiseRoofs" (67 : Nat) ({ cls := "PromiseRoofs", name := "in", desc := "(III)Z" } : Jvm.MethodName)) ∈ lw_all := lw_g (lw_at lw_m1 199 rfl) rfl
theorem q299 : (Jvm.Cond.static ({ cls := "PromiseRoofs", name := "in", desc := "(III)Z" } : Jvm.MethodName)) ∈ lw_all := lw_g (lw_at lw_m1 200 rfl) rfl
theorem q300 : (Jvm.Cond.code ({ cls := "PromiseRoofs", name := "in", desc := "(III)Z" } : Jvm.MethodName) prog_1_method_2_code (3 : Nat) (Option.some Jvm.ClassFile.FieldType.boolean)) ∈ lw_all := lw_g (lw_at lw_m1 201 rfl) rfl
theorem q302 : (Jvm.Cond.methodLink "PromiseRoofs" (84 : Nat) ({ cls := "PromiseRoofs$Owner", name := "<init>", desc := "(I)V" } : Jvm.MethodName)) ∈ lw_all := lw_g (lw_at lw_m1 203 rfl) rfl
theorem q307 : (Jvm.Cond.fieldLinkNest "PromiseRoofs" (113 : Nat) "PromiseRoofs$Owner" "money" "I" "PromiseRoofs") ∈ lw_tbl := lw_at lw_m1 208 rfl
theorem q312 : (Jvm.Cond.instanceMethod ({ cls := "PromiseRoofs", name := "promise", desc := "(III)I" } : Jvm.MethodName)) ∈ lw_all := lw_g (lw_at lw_m1 213 rfl) rfl
theorem q313 : (Jvm.Cond.selects "PromiseRoofs" ({ cls := "PromiseRoofs", name := "promise", desc := "(III)I" } : Jvm.MethodName) ({ cls := "PromiseRoofs", name := "promise", desc := "(III)I" } : Jvm.MethodName)) ∈ lw_all := lw_g (lw_at lw_m1 214 rfl) rfl
theorem q314 : (Jvm.Cond.code ({ cls := "PromiseRoofs", name := "promise", desc := "(III)I" } : Jvm.MethodName) prog_1_method_9_code (4 : Nat) (Option.some Jvm.ClassFile.FieldType.int)) ∈ lw_all := lw_g (lw_at lw_m1 215 rfl) rfl
theorem q315 : (Jvm.Cond.methodLink "PromiseRoofs" (87 : Nat) ({ cls := "PromiseRoofs", name := "mayPromise", desc := "(IIII)Z" } : Jvm.MethodName)) ∈ lw_all := lw_g (lw_at lw_m1 216 rfl) rfl
theorem q316 : (Jvm.Cond.privateMethod ({ cls := "PromiseRoofs", name := "mayPromise", desc := "(IIII)Z" } : Jvm.MethodName)) ∈ lw_tbl := lw_at lw_m1 217 rfl
theorem q317 : (Jvm.Cond.instanceMethod ({ cls := "PromiseRoofs", name := "mayPromise", desc := "(IIII)Z" } : Jvm.MethodName)) ∈ lw_all := lw_g (lw_at lw_m1 218 rfl) rfl
theorem q318 : (Jvm.Cond.code ({ cls := "PromiseRoofs", name := "mayPromise", desc := "(IIII)Z" } : Jvm.MethodName) prog_1_method_6_code (5 : Nat) (Option.some Jvm.ClassFile.FieldType.boolean)) ∈ lw_all := lw_g (lw_at lw_m1 219 rfl) rfl
theorem q319 : (Jvm.Cond.methodLink "PromiseRoofs" (74 : Nat) ({ cls := "PromiseRoofs", name := "isOwner", desc := "(I)Z" } : Jvm.MethodName)) ∈ lw_all := lw_g (lw_at lw_m1 220 rfl) rfl
theorem q320 : (Jvm.Cond.privateMethod ({ cls := "PromiseRoofs", name := "isOwner", desc := "(I)Z" } : Jvm.MethodName)) ∈ lw_tbl := lw_at lw_m1 221 rfl
theorem q321 : (Jvm.Cond.instanceMethod ({ cls := "PromiseRoofs", name := "isOwner", desc := "(I)Z" } : Jvm.MethodName)) ∈ lw_all := lw_g (lw_at lw_m1 222 rfl) rfl
theorem q322 : (Jvm.Cond.code ({ cls := "PromiseRoofs", name := "isOwner", desc := "(I)Z" } : Jvm.MethodName) prog_1_method_4_code (2 : Nat) (Option.some Jvm.ClassFile.FieldType.boolean)) ∈ lw_all := lw_g (lw_at lw_m1 223 rfl) rfl
theorem q323 : (Jvm.Cond.methodLink "PromiseRoofs" (94 : Nat) ({ cls := "PromiseRoofs", name := "addPromise", desc := "(IIII)I" } : Jvm.MethodName)) ∈ lw_all := lw_g (lw_at lw_m1 224 rfl) rfl
theorem q324 : (Jvm.Cond.privateMethod ({ cls := "PromiseRoofs", name := "addPromise", desc := "(IIII)I" } : Jvm.MethodName)) ∈ lw_tbl := lw_at lw_m1 225 rfl
theorem q325 : (Jvm.Cond.instanceMethod ({ cls := "PromiseRoofs", name := "addPromise", desc := "(IIII)I" } : Jvm.MethodName)) ∈ lw_all := lw_g (lw_at lw_m1 226 rfl) rfl
theorem q326 : (Jvm.Cond.code ({ cls := "PromiseRoofs", name := "addPromise", desc := "(IIII)I" } : Jvm.MethodName) prog_1_method_7_code (5 : Nat) (Option.some Jvm.ClassFile.FieldType.int)) ∈ lw_all := lw_g (lw_at lw_m1 227 rfl) rfl
theorem q328 : (Jvm.Cond.methodLink "PromiseRoofs" (81 : Nat) ({ cls := "PromiseRoofs$Promise", name := "<init>", desc := "(IIIII)V" } : Jvm.MethodName)) ∈ lw_all := lw_g (lw_at lw_m1 229 rfl) rfl
theorem q333 : (Jvm.Cond.fieldLinkNest "PromiseRoofs" (173 : Nat) "PromiseRoofs$Promise" "by" "I" "PromiseRoofs") ∈ lw_tbl := lw_at lw_m1 234 rfl
theorem q335 : (Jvm.Cond.fieldLinkNest "PromiseRoofs" (176 : Nat) "PromiseRoofs$Promise" "to" "I" "PromiseRoofs") ∈ lw_tbl := lw_at lw_m1 236 rfl
theorem q337 : (Jvm.Cond.fieldLinkNest "PromiseRoofs" (116 : Nat) "PromiseRoofs$Promise" "worth" "I" "PromiseRoofs") ∈ lw_tbl := lw_at lw_m1 238 rfl
theorem q339 : (Jvm.Cond.fieldLinkNest "PromiseRoofs" (119 : Nat) "PromiseRoofs$Promise" "kind" "I" "PromiseRoofs") ∈ lw_tbl := lw_at lw_m2 0 rfl
theorem q341 : (Jvm.Cond.fieldLinkNest "PromiseRoofs" (122 : Nat) "PromiseRoofs$Promise" "lasts" "I" "PromiseRoofs") ∈ lw_tbl := lw_at lw_m2 2 rfl
theorem q343 : (Jvm.Cond.fieldLinkNest "PromiseRoofs" (125 : Nat) "PromiseRoofs$Promise" "made" "I" "PromiseRoofs") ∈ lw_tbl := lw_at lw_m2 4 rfl
theorem q345 : (Jvm.Cond.fieldLinkNest "PromiseRoofs" (128 : Nat) "PromiseRoofs$Promise" "done" "I" "PromiseRoofs") ∈ lw_tbl := lw_at lw_m2 6 rfl
theorem q362 : (Jvm.Cond.instanceMethod ({ cls := "PromiseRoofs", name := "promises", desc := "(III)I" } : Jvm.MethodName)) ∈ lw_all := lw_g (lw_at lw_m2 23 rfl) rfl
theorem q363 : (Jvm.Cond.selects "PromiseRoofs" ({ cls := "PromiseRoofs", name := "promises", desc := "(III)I" } : Jvm.MethodName) ({ cls := "PromiseRoofs", name := "promises", desc := "(III)I" } : Jvm.MethodName)) ∈ lw_all := lw_g (lw_at lw_m2 24 rfl) rfl
theorem q364 : (Jvm.Cond.codeWith ({ cls := "PromiseRoofs", name := "promises", desc := "(III)I" } : Jvm.MethodName) prog_1_method_10_code (11 : Nat) (Option.some Jvm.ClassFile.FieldType.int) [((22 : Nat), (130 : Nat), (166 : Nat), (107 : Nat)), ((131 : Nat), (163 : Nat), (166 : Nat), (107 : Nat)), ((22 : Nat), (130 : Nat), (171 : Nat), (109 : Nat)), ((131 : Nat), (163 : Nat), (171 : Nat), (109 : Nat)), ((22 : Nat), (130 : Nat), (176 : Nat), (111 : Nat)), ((131 : Nat), (163 : Nat), (176 : Nat), (111 : Nat))]) ∈ lw_all := lw_g (lw_at lw_m2 25 rfl) rfl
theorem q365 : (Jvm.Cond.classLink "PromiseRoofs" (107 : Nat) "java/lang/ClassCastException") ∈ lw_all := lw_g (lw_at lw_m2 26 rfl) rfl
theorem q449 : (Jvm.Cond.classLink "PromiseRoofs" (109 : Nat) "java/lang/NullPointerException") ∈ lw_all := lw_g (lw_at lw_m2 110 rfl) rfl
theorem q474 : (Jvm.Cond.classLink "PromiseRoofs" (111 : Nat) "java/lang/IndexOutOfBoundsException") ∈ lw_all := lw_g (lw_at lw_m2 135 rfl) rfl
theorem q493 : (Jvm.Cond.methodLink "PromiseRoofs" (98 : Nat) ({ cls := "PromiseRoofs", name := "isShelf", desc := "(I)Z" } : Jvm.MethodName)) ∈ lw_all := lw_g (lw_at lw_m2 154 rfl) rfl
theorem q494 : (Jvm.Cond.static ({ cls := "PromiseRoofs", name := "isShelf", desc := "(I)Z" } : Jvm.MethodName)) ∈ lw_all := lw_g (lw_at lw_m2 155 rfl) rfl
theorem q495 : (Jvm.Cond.code ({ cls := "PromiseRoofs", name := "isShelf", desc := "(I)Z" } : Jvm.MethodName) prog_1_method_76_code (1 : Nat) (Option.some Jvm.ClassFile.FieldType.boolean)) ∈ lw_all := lw_g (lw_at lw_m2 156 rfl) rfl
theorem q496 : (Jvm.Cond.classLink "PromiseRoofs" (101 : Nat) "PromiseRoofs$ByteRow") ∈ lw_all := lw_g (lw_at lw_m2 157 rfl) rfl
theorem q497 : (Jvm.Cond.methodLink "PromiseRoofs" (103 : Nat) ({ cls := "PromiseRoofs$ByteRow", name := "at", desc := "(I)J" } : Jvm.MethodName)) ∈ lw_all := lw_g (lw_at lw_m2 158 rfl) rfl
theorem q502 : (Jvm.Cond.instanceMethod ({ cls := "PromiseRoofs", name := "undo", desc := "()I" } : Jvm.MethodName)) ∈ lw_all := lw_g (lw_at lw_m2 163 rfl) rfl
theorem q503 : (Jvm.Cond.selects "PromiseRoofs" ({ cls := "PromiseRoofs", name := "undo", desc := "()I" } : Jvm.MethodName) ({ cls := "PromiseRoofs", name := "undo", desc := "()I" } : Jvm.MethodName)) ∈ lw_all := lw_g (lw_at lw_m2 164 rfl) rfl
theorem q504 : (Jvm.Cond.code ({ cls := "PromiseRoofs", name := "undo", desc := "()I" } : Jvm.MethodName) prog_1_method_13_code (1 : Nat) (Option.some Jvm.ClassFile.FieldType.int)) ∈ lw_all := lw_g (lw_at lw_m2 165 rfl) rfl
theorem q505 : (Jvm.Cond.methodLink "PromiseRoofs" (140 : Nat) ({ cls := "PromiseRoofs", name := "setTo", desc := "(III)V" } : Jvm.MethodName)) ∈ lw_all := lw_g (lw_at lw_m2 166 rfl) rfl
theorem q506 : (Jvm.Cond.privateMethod ({ cls := "PromiseRoofs", name := "setTo", desc := "(III)V" } : Jvm.MethodName)) ∈ lw_tbl := lw_at lw_m2 167 rfl
theorem q507 : (Jvm.Cond.instanceMethod ({ cls := "PromiseRoofs", name := "setTo", desc := "(III)V" } : Jvm.MethodName)) ∈ lw_all := lw_g (lw_at lw_m2 168 rfl) rfl
theorem q508 : (Jvm.Cond.code ({ cls := "PromiseRoofs", name := "setTo", desc := "(III)V" } : Jvm.MethodName) prog_1_method_11_code (4 : Nat) (Option.none : Option Jvm.ClassFile.FieldType)) ∈ lw_all := lw_g (lw_at lw_m2 169 rfl) rfl
theorem q510 : (Jvm.Cond.instanceMethod ({ cls := "PromiseRoofs", name := "redo", desc := "()I" } : Jvm.MethodName)) ∈ lw_all := lw_g (lw_at lw_m2 171 rfl) rfl
theorem q511 : (Jvm.Cond.selects "PromiseRoofs" ({ cls := "PromiseRoofs", name := "redo", desc := "()I" } : Jvm.MethodName) ({ cls := "PromiseRoofs", name := "redo", desc := "()I" } : Jvm.MethodName)) ∈ lw_all := lw_g (lw_at lw_m2 172 rfl) rfl
theorem q512 : (Jvm.Cond.code ({ cls := "PromiseRoofs", name := "redo", desc := "()I" } : Jvm.MethodName) prog_1_method_14_code (1 : Nat) (Option.some Jvm.ClassFile.FieldType.int)) ∈ lw_all := lw_g (lw_at lw_m2 173 rfl) rfl
theorem q514 : (Jvm.Cond.instanceMethod ({ cls := "PromiseRoofs", name := "mend", desc := "(III)I" } : Jvm.MethodName)) ∈ lw_all := lw_g (lw_at lw_m2 175 rfl) rfl
theorem q515 : (Jvm.Cond.selects "PromiseRoofs" ({ cls := "PromiseRoofs", name := "mend", desc := "(III)I" } : Jvm.MethodName) ({ cls := "PromiseRoofs", name := "mend", desc := "(III)I" } : Jvm.MethodName)) ∈ lw_all := lw_g (lw_at lw_m2 176 rfl) rfl
theorem q516 : (Jvm.Cond.code ({ cls := "PromiseRoofs", name := "mend", desc := "(III)I" } : Jvm.MethodName) prog_1_method_18_code (4 : Nat) (Option.some Jvm.ClassFile.FieldType.int)) ∈ lw_all := lw_g (lw_at lw_m2 177 rfl) rfl
theorem q517 : (Jvm.Cond.methodLink "PromiseRoofs" (158 : Nat) ({ cls := "PromiseRoofs", name := "isOf", desc := "(II)Z" } : Jvm.MethodName)) ∈ lw_all := lw_g (lw_at lw_m2 178 rfl) rfl
theorem q518 : (Jvm.Cond.privateMethod ({ cls := "PromiseRoofs", name := "isOf", desc := "(II)Z" } : Jvm.MethodName)) ∈ lw_tbl := lw_at lw_m2 179 rfl
theorem q519 : (Jvm.Cond.instanceMethod ({ cls := "PromiseRoofs", name := "isOf", desc := "(II)Z" } : Jvm.MethodName)) ∈ lw_all := lw_g (lw_at lw_m2 180 rfl) rfl
theorem q520 : (Jvm.Cond.code ({ cls := "PromiseRoofs", name := "isOf", desc := "(II)Z" } : Jvm.MethodName) prog_1_method_15_code (3 : Nat) (Option.some Jvm.ClassFile.FieldType.boolean)) ∈ lw_all := lw_g (lw_at lw_m2 181 rfl) rfl
theorem q521 : (Jvm.Cond.methodLink "PromiseRoofs" (155 : Nat) ({ cls := "PromiseRoofs", name := "isPromise", desc := "(I)Z" } : Jvm.MethodName)) ∈ lw_all := lw_g (lw_at lw_m2 182 rfl) rfl
theorem q522 : (Jvm.Cond.privateMethod ({ cls := "PromiseRoofs", name := "isPromise", desc := "(I)Z" } : Jvm.MethodName)) ∈ lw_tbl := lw_at lw_m2 183 rfl
theorem q523 : (Jvm.Cond.instanceMethod ({ cls := "PromiseRoofs", name := "isPromise", desc := "(I)Z" } : Jvm.MethodName)) ∈ lw_all := lw_g (lw_at lw_m2 184 rfl) rfl
theorem q524 : (Jvm.Cond.code ({ cls := "PromiseRoofs", name := "isPromise", desc := "(I)Z" } : Jvm.MethodName) prog_1_method_5_code (2 : Nat) (Option.some Jvm.ClassFile.FieldType.boolean)) ∈ lw_all := lw_g (lw_at lw_m2 185 rfl) rfl
theorem q525 : (Jvm.Cond.methodLink "PromiseRoofs" (162 : Nat) ({ cls := "PromiseRoofs", name := "mayBe", desc := "(II)Z" } : Jvm.MethodName)) ∈ lw_all := lw_g (lw_at lw_m2 186 rfl) rfl
theorem q526 : (Jvm.Cond.static ({ cls := "PromiseRoofs", name := "mayBe", desc := "(II)Z" } : Jvm.MethodName)) ∈ lw_all := lw_g (lw_at lw_m2 187 rfl) rfl
theorem q527 : (Jvm.Cond.code ({ cls := "PromiseRoofs", name := "mayBe", desc := "(II)Z" } : Jvm.MethodName) prog_1_method_17_code (2 : Nat) (Option.some Jvm.ClassFile.FieldType.boolean)) ∈ lw_all := lw_g (lw_at lw_m2 188 rfl) rfl
theorem q528 : (Jvm.Cond.methodLink "PromiseRoofs" (165 : Nat) ({ cls := "PromiseRoofs", name := "valueOf", desc := "(II)I" } : Jvm.MethodName)) ∈ lw_all := lw_g (lw_at lw_m2 189 rfl) rfl
theorem q529 : (Jvm.Cond.privateMethod ({ cls := "PromiseRoofs", name := "valueOf", desc := "(II)I" } : Jvm.MethodName)) ∈ lw_tbl := lw_at lw_m2 190 rfl
theorem q530 : (Jvm.Cond.instanceMethod ({ cls := "PromiseRoofs", name := "valueOf", desc := "(II)I" } : Jvm.MethodName)) ∈ lw_all := lw_g (lw_at lw_m2 191 rfl) rfl
theorem q531 : (Jvm.Cond.code ({ cls := "PromiseRoofs", name := "valueOf", desc := "(II)I" } : Jvm.MethodName) prog_1_method_16_code (3 : Nat) (Option.some Jvm.ClassFile.FieldType.int)) ∈ lw_all := lw_g (lw_at lw_m2 192 rfl) rfl
theorem q532 : (Jvm.Cond.methodLink "PromiseRoofs" (169 : Nat) ({ cls := "PromiseRoofs", name := "become", desc := "(IIII)I" } : Jvm.MethodName)) ∈ lw_all := lw_g (lw_at lw_m2 193 rfl) rfl
theorem q533 : (Jvm.Cond.privateMethod ({ cls := "PromiseRoofs", name := "become", desc := "(IIII)I" } : Jvm.MethodName)) ∈ lw_tbl := lw_at lw_m2 194 rfl
theorem q534 : (Jvm.Cond.instanceMethod ({ cls := "PromiseRoofs", name := "become", desc := "(IIII)I" } : Jvm.MethodName)) ∈ lw_all := lw_g (lw_at lw_m2 195 rfl) rfl
theorem q535 : (Jvm.Cond.code ({ cls := "PromiseRoofs", name := "become", desc := "(IIII)I" } : Jvm.MethodName) prog_1_method_12_code (6 : Nat) (Option.some Jvm.ClassFile.FieldType.int)) ∈ lw_all := lw_g (lw_at lw_m2 196 rfl) rfl
theorem q537 : (Jvm.Cond.methodLink "PromiseRoofs" (137 : Nat) ({ cls := "PromiseRoofs$Change", name := "<init>", desc := "(IIII)V" } : Jvm.MethodName)) ∈ lw_all := lw_g (lw_at lw_m2 198 rfl) rfl
theorem q542 : (Jvm.Cond.fieldLinkNest "PromiseRoofs" (144 : Nat) "PromiseRoofs$Change" "of" "I" "PromiseRoofs") ∈ lw_tbl := lw_at lw_m2 203 rfl
theorem q544 : (Jvm.Cond.fieldLinkNest "PromiseRoofs" (147 : Nat) "PromiseRoofs$Change" "at" "I" "PromiseRoofs") ∈ lw_tbl := lw_at lw_m2 205 rfl
theorem q546 : (Jvm.Cond.fieldLinkNest "PromiseRoofs" (149 : Nat) "PromiseRoofs$Change" "before" "I" "PromiseRoofs") ∈ lw_tbl := lw_at lw_m2 207 rfl
theorem q548 : (Jvm.Cond.fieldLinkNest "PromiseRoofs" (152 : Nat) "PromiseRoofs$Change" "behind" "I" "PromiseRoofs") ∈ lw_tbl := lw_at lw_m2 209 rfl
theorem q558 : (Jvm.Cond.constant "PromiseRoofs" (172 : Nat) (-2000000000 : Int32)) ∈ lw_all := lw_g (lw_at lw_m2 219 rfl) rfl
theorem q560 : (Jvm.Cond.instanceMethod ({ cls := "PromiseRoofs", name := "of", desc := "(II)I" } : Jvm.MethodName)) ∈ lw_all := lw_g (lw_at lw_m2 221 rfl) rfl
theorem q561 : (Jvm.Cond.selects "PromiseRoofs" ({ cls := "PromiseRoofs", name := "of", desc := "(II)I" } : Jvm.MethodName) ({ cls := "PromiseRoofs", name := "of", desc := "(II)I" } : Jvm.MethodName)) ∈ lw_all := lw_g (lw_at lw_m2 222 rfl) rfl
theorem q562 : (Jvm.Cond.code ({ cls := "PromiseRoofs", name := "of", desc := "(II)I" } : Jvm.MethodName) prog_1_method_19_code (3 : Nat) (Option.some Jvm.ClassFile.FieldType.int)) ∈ lw_all := lw_g (lw_at lw_m2 223 rfl) rfl
theorem q564 : (Jvm.Cond.instanceMethod ({ cls := "PromiseRoofs", name := "feed", desc := "(I)I" } : Jvm.MethodName)) ∈ lw_all := lw_g (lw_at lw_m2 225 rfl) rfl
theorem q565 : (Jvm.Cond.selects "PromiseRoofs" ({ cls := "PromiseRoofs", name := "feed", desc := "(I)I" } : Jvm.MethodName) ({ cls := "PromiseRoofs", name := "feed", desc := "(I)I" } : Jvm.MethodName)) ∈ lw_all := lw_g (lw_at lw_m2 226 rfl) rfl
theorem q566 : (Jvm.Cond.code ({ cls := "PromiseRoofs", name := "feed", desc := "(I)I" } : Jvm.MethodName) prog_1_method_20_code (2 : Nat) (Option.some Jvm.ClassFile.FieldType.int)) ∈ lw_all := lw_g (lw_at lw_m2 227 rfl) rfl
theorem q568 : (Jvm.Cond.instanceMethod ({ cls := "PromiseRoofs", name := "law", desc := "()I" } : Jvm.MethodName)) ∈ lw_all := lw_g (lw_at lw_m2 229 rfl) rfl
theorem q569 : (Jvm.Cond.selects "PromiseRoofs" ({ cls := "PromiseRoofs", name := "law", desc := "()I" } : Jvm.MethodName) ({ cls := "PromiseRoofs", name := "law", desc := "()I" } : Jvm.MethodName)) ∈ lw_all := lw_g (lw_at lw_m2 230 rfl) rfl
theorem q570 : (Jvm.Cond.code ({ cls := "PromiseRoofs", name := "law", desc := "()I" } : Jvm.MethodName) prog_1_method_21_code (3 : Nat) (Option.some Jvm.ClassFile.FieldType.int)) ∈ lw_all := lw_g (lw_at lw_m2 231 rfl) rfl
theorem q571 : (Jvm.Cond.classLink "PromiseRoofs" (182 : Nat) "PromiseRoofs$Reader") ∈ lw_all := lw_g (lw_at lw_m2 232 rfl) rfl
theorem q573 : (Jvm.Cond.methodLinkNest "PromiseRoofs" (184 : Nat) ({ cls := "PromiseRoofs$Reader", name := "<init>", desc := "(LPromiseRoofs;)V" } : Jvm.MethodName) "PromiseRoofs") ∈ lw_tbl := lw_at lw_m2 234 rfl
theorem q579 : (Jvm.Cond.fieldLinkNest "PromiseRoofs" (191 : Nat) "PromiseRoofs$Reader" "fault" "I" "PromiseRoofs") ∈ lw_tbl := lw_at lw_m3 0 rfl
theorem q591 : (Jvm.Cond.methodLink "PromiseRoofs" (187 : Nat) ({ cls := "PromiseRoofs$Reader", name := "lines", desc := "()LPromiseRoofs$Line;" } : Jvm.MethodName)) ∈ lw_all := lw_g (lw_at lw_m3 12 rfl) rfl
theorem q606 : (Jvm.Cond.fieldLinkNest "PromiseRoofs" (198 : Nat) "PromiseRoofs$Line" "test" "LPromiseRoofs$Node;" "PromiseRoofs") ∈ lw_tbl := lw_at lw_m3 27 rfl
theorem q608 : (Jvm.Cond.fieldLinkNest "PromiseRoofs" (210 : Nat) "PromiseRoofs$Line" "gives" "LPromiseRoofs$Node;" "PromiseRoofs") ∈ lw_tbl := lw_at lw_m3 29 rfl
theorem q610 : (Jvm.Cond.fieldLinkNest "PromiseRoofs" (213 : Nat) "PromiseRoofs$Line" "next" "LPromiseRoofs$Line;" "PromiseRoofs") ∈ lw_tbl := lw_at lw_m3 31 rfl
theorem q813 : (Jvm.Cond.instanceMethod ({ cls := "PromiseRoofs", name := "storeys", desc := "(I)I" } : Jvm.MethodName)) ∈ lw_all := lw_g (lw_at lw_m3 234 rfl) rfl
theorem q814 : (Jvm.Cond.selects "PromiseRoofs" ({ cls := "PromiseRoofs", name := "storeys", desc := "(I)I" } : Jvm.MethodName) ({ cls := "PromiseRoofs", name := "storeys", desc := "(I)I" } : Jvm.MethodName)) ∈ lw_all := lw_g (lw_at lw_m3 235 rfl) rfl
theorem q815 : (Jvm.Cond.code ({ cls := "PromiseRoofs", name := "storeys", desc := "(I)I" } : Jvm.MethodName) prog_1_method_25_code (2 : Nat) (Option.some Jvm.ClassFile.FieldType.int)) ∈ lw_all := lw_g (lw_at lw_m3 236 rfl) rfl
theorem q816 : (Jvm.Cond.methodLink "PromiseRoofs" (239 : Nat) ({ cls := "PromiseRoofs", name := "storeysOf", desc := "(II)I" } : Jvm.MethodName)) ∈ lw_all := lw_g (lw_at lw_m3 237 rfl) rfl
theorem q817 : (Jvm.Cond.privateMethod ({ cls := "PromiseRoofs", name := "storeysOf", desc := "(II)I" } : Jvm.MethodName)) ∈ lw_tbl := lw_at lw_m3 238 rfl
theorem q818 : (Jvm.Cond.instanceMethod ({ cls := "PromiseRoofs", name := "storeysOf", desc := "(II)I" } : Jvm.MethodName)) ∈ lw_all := lw_g (lw_at lw_m3 239 rfl) rfl
theorem q819 : (Jvm.Cond.code ({ cls := "PromiseRoofs", name := "storeysOf", desc := "(II)I" } : Jvm.MethodName) prog_1_method_24_code (5 : Nat) (Option.some Jvm.ClassFile.FieldType.int)) ∈ lw_all := lw_g (lw_at lw_m4 0 rfl) rfl
theorem q820 : (Jvm.Cond.methodLink "PromiseRoofs" (216 : Nat) ({ cls := "PromiseRoofs$Promise", name := "isOpen", desc := "(I)Z" } : Jvm.MethodName)) ∈ lw_all := lw_g (lw_at lw_m4 1 rfl) rfl
theorem q824 : (Jvm.Cond.methodLink "PromiseRoofs" (219 : Nat) ({ cls := "PromiseRoofs$Facts", name := "clear", desc := "()V" } : Jvm.MethodName)) ∈ lw_all := lw_g (lw_at lw_m4 5 rfl) rfl
theorem q828 : (Jvm.Cond.methodLink "PromiseRoofs" (225 : Nat) ({ cls := "java/lang/Math", name := "max", desc := "(II)I" } : Jvm.MethodName)) ∈ lw_all := lw_g (lw_at lw_m4 9 rfl) rfl
theorem q829 : (Jvm.Cond.methodLink "PromiseRoofs" (230 : Nat) ({ cls := "PromiseRoofs", name := "openBy", desc := "(II)I" } : Jvm.MethodName)) ∈ lw_all := lw_g (lw_at lw_m4 10 rfl) rfl
theorem q830 : (Jvm.Cond.privateMethod ({ cls := "PromiseRoofs", name := "openBy", desc := "(II)I" } : Jvm.MethodName)) ∈ lw_tbl := lw_at lw_m4 11 rfl
theorem q831 : (Jvm.Cond.instanceMethod ({ cls := "PromiseRoofs", name := "openBy", desc := "(II)I" } : Jvm.MethodName)) ∈ lw_all := lw_g (lw_at lw_m4 12 rfl) rfl
theorem q832 : (Jvm.Cond.code ({ cls := "PromiseRoofs", name := "openBy", desc := "(II)I" } : Jvm.MethodName) prog_1_method_23_code (5 : Nat) (Option.some Jvm.ClassFile.FieldType.int)) ∈ lw_all := lw_g (lw_at lw_m4 13 rfl) rfl
theorem q833 : (Jvm.Cond.methodLink "PromiseRoofs" (233 : Nat) ({ cls := "PromiseRoofs", name := "gives", desc := "()I" } : Jvm.MethodName)) ∈ lw_all := lw_g (lw_at lw_m4 14 rfl) rfl
theorem q834 : (Jvm.Cond.privateMethod ({ cls := "PromiseRoofs", name := "gives", desc := "()I" } : Jvm.MethodName)) ∈ lw_tbl := lw_at lw_m4 15 rfl
theorem q835 : (Jvm.Cond.instanceMethod ({ cls := "PromiseRoofs", name := "gives", desc := "()I" } : Jvm.MethodName)) ∈ lw_all := lw_g (lw_at lw_m4 16 rfl) rfl
theorem q836 : (Jvm.Cond.code ({ cls := "PromiseRoofs", name := "gives", desc := "()I" } : Jvm.MethodName) prog_1_method_22_code (2 : Nat) (Option.some Jvm.ClassFile.FieldType.int)) ∈ lw_all := lw_g (lw_at lw_m4 17 rfl) rfl
theorem q837 : (Jvm.Cond.methodLink "PromiseRoofs" (204 : Nat) ({ cls := "PromiseRoofs$Node", name := "value", desc := "(LPromiseRoofs$Facts;)I" } : Jvm.MethodName)) ∈ lw_all := lw_g (lw_at lw_m4 18 rfl) rfl
theorem q861 : (Jvm.Cond.methodLink "PromiseRoofs" (236 : Nat) ({ cls := "java/lang/Math", name := "min", desc := "(II)I" } : Jvm.MethodName)) ∈ lw_all := lw_g (lw_at lw_m4 42 rfl) rfl
theorem q863 : (Jvm.Cond.instanceMethod ({ cls := "PromiseRoofs", name := "high", desc := "(II)I" } : Jvm.MethodName)) ∈ lw_all := lw_g (lw_at lw_m4 44 rfl) rfl
theorem q864 : (Jvm.Cond.selects "PromiseRoofs" ({ cls := "PromiseRoofs", name := "high", desc := "(II)I" } : Jvm.MethodName) ({ cls := "PromiseRoofs", name := "high", desc := "(II)I" } : Jvm.MethodName)) ∈ lw_all := lw_g (lw_at lw_m4 45 rfl) rfl
theorem q865 : (Jvm.Cond.code ({ cls := "PromiseRoofs", name := "high", desc := "(II)I" } : Jvm.MethodName) prog_1_method_30_code (3 : Nat) (Option.some Jvm.ClassFile.FieldType.int)) ∈ lw_all := lw_g (lw_at lw_m4 46 rfl) rfl
theorem q866 : (Jvm.Cond.methodLink "PromiseRoofs" (245 : Nat) ({ cls := "PromiseRoofs", name := "areDays", desc := "(I)Z" } : Jvm.MethodName)) ∈ lw_all := lw_g (lw_at lw_m4 47 rfl) rfl
theorem q867 : (Jvm.Cond.static ({ cls := "PromiseRoofs", name := "areDays", desc := "(I)Z" } : Jvm.MethodName)) ∈ lw_all := lw_g (lw_at lw_m4 48 rfl) rfl
theorem q868 : (Jvm.Cond.code ({ cls := "PromiseRoofs", name := "areDays", desc := "(I)Z" } : Jvm.MethodName) prog_1_method_28_code (1 : Nat) (Option.some Jvm.ClassFile.FieldType.boolean)) ∈ lw_all := lw_g (lw_at lw_m4 49 rfl) rfl
theorem q869 : (Jvm.Cond.methodLink "PromiseRoofs" (248 : Nat) ({ cls := "PromiseRoofs", name := "dayBehind", desc := "(I)I" } : Jvm.MethodName)) ∈ lw_all := lw_g (lw_at lw_m4 50 rfl) rfl
theorem q870 : (Jvm.Cond.privateMethod ({ cls := "PromiseRoofs", name := "dayBehind", desc := "(I)I" } : Jvm.MethodName)) ∈ lw_tbl := lw_at lw_m4 51 rfl
theorem q871 : (Jvm.Cond.instanceMethod ({ cls := "PromiseRoofs", name := "dayBehind", desc := "(I)I" } : Jvm.MethodName)) ∈ lw_all := lw_g (lw_at lw_m4 52 rfl) rfl
theorem q872 : (Jvm.Cond.code ({ cls := "PromiseRoofs", name := "dayBehind", desc := "(I)I" } : Jvm.MethodName) prog_1_method_27_code (2 : Nat) (Option.some Jvm.ClassFile.FieldType.int)) ∈ lw_all := lw_g (lw_at lw_m4 53 rfl) rfl
theorem q873 : (Jvm.Cond.methodLink "PromiseRoofs" (252 : Nat) ({ cls := "PromiseRoofs", name := "allHigh", desc := "(I)I" } : Jvm.MethodName)) ∈ lw_all := lw_g (lw_at lw_m4 54 rfl) rfl
theorem q874 : (Jvm.Cond.privateMethod ({ cls := "PromiseRoofs", name := "allHigh", desc := "(I)I" } : Jvm.MethodName)) ∈ lw_tbl := lw_at lw_m4 55 rfl
theorem q875 : (Jvm.Cond.instanceMethod ({ cls := "PromiseRoofs", name := "allHigh", desc := "(I)I" } : Jvm.MethodName)) ∈ lw_all := lw_g (lw_at lw_m4 56 rfl) rfl
theorem q876 : (Jvm.Cond.code ({ cls := "PromiseRoofs", name := "allHigh", desc := "(I)I" } : Jvm.MethodName) prog_1_method_29_code (4 : Nat) (Option.some Jvm.ClassFile.FieldType.int)) ∈ lw_all := lw_g (lw_at lw_m4 57 rfl) rfl
theorem q877 : (Jvm.Cond.methodLink "PromiseRoofs" (242 : Nat) ({ cls := "PromiseRoofs", name := "highOf", desc := "(II)I" } : Jvm.MethodName)) ∈ lw_all := lw_g (lw_at lw_m4 58 rfl) rfl
theorem q878 : (Jvm.Cond.privateMethod ({ cls := "PromiseRoofs", name := "highOf", desc := "(II)I" } : Jvm.MethodName)) ∈ lw_tbl := lw_at lw_m4 59 rfl
theorem q879 : (Jvm.Cond.instanceMethod ({ cls := "PromiseRoofs", name := "highOf", desc := "(II)I" } : Jvm.MethodName)) ∈ lw_all := lw_g (lw_at lw_m4 60 rfl) rfl
theorem q880 : (Jvm.Cond.code ({ cls := "PromiseRoofs", name := "highOf", desc := "(II)I" } : Jvm.MethodName) prog_1_method_26_code (5 : Nat) (Option.some Jvm.ClassFile.FieldType.int)) ∈ lw_all := lw_g (lw_at lw_m4 61 rfl) rfl
theorem q882 : (Jvm.Cond.instanceMethod ({ cls := "PromiseRoofs", name := "opens", desc := "(I)I" } : Jvm.MethodName)) ∈ lw_all := lw_g (lw_at lw_m4 63 rfl) rfl
theorem q883 : (Jvm.Cond.selects "PromiseRoofs" ({ cls := "PromiseRoofs", name := "opens", desc := "(I)I" } : Jvm.MethodName) ({ cls := "PromiseRoofs", name := "opens", desc := "(I)I" } : Jvm.MethodName)) ∈ lw_all := lw_g (lw_at lw_m4 64 rfl) rfl
theorem q884 : (Jvm.Cond.code ({ cls := "PromiseRoofs", name := "opens", desc := "(I)I" } : Jvm.MethodName) prog_1_method_31_code (4 : Nat) (Option.some Jvm.ClassFile.FieldType.int)) ∈ lw_all := lw_g (lw_at lw_m4 65 rfl) rfl
theorem q886 : (Jvm.Cond.instanceMethod ({ cls := "PromiseRoofs", name := "roof", desc := "(I)I" } : Jvm.MethodName)) ∈ lw_all := lw_g (lw_at lw_m4 67 rfl) rfl
theorem q887 : (Jvm.Cond.selects "PromiseRoofs" ({ cls := "PromiseRoofs", name := "roof", desc := "(I)I" } : Jvm.MethodName) ({ cls := "PromiseRoofs", name := "roof", desc := "(I)I" } : Jvm.MethodName)) ∈ lw_all := lw_g (lw_at lw_m4 68 rfl) rfl
theorem q888 : (Jvm.Cond.code ({ cls := "PromiseRoofs", name := "roof", desc := "(I)I" } : Jvm.MethodName) prog_1_method_33_code (2 : Nat) (Option.some Jvm.ClassFile.FieldType.int)) ∈ lw_all := lw_g (lw_at lw_m4 69 rfl) rfl
theorem q889 : (Jvm.Cond.methodLink "PromiseRoofs" (255 : Nat) ({ cls := "PromiseRoofs", name := "roofOf", desc := "(I)I" } : Jvm.MethodName)) ∈ lw_all := lw_g (lw_at lw_m4 70 rfl) rfl
theorem q890 : (Jvm.Cond.privateMethod ({ cls := "PromiseRoofs", name := "roofOf", desc := "(I)I" } : Jvm.MethodName)) ∈ lw_tbl := lw_at lw_m4 71 rfl
theorem q891 : (Jvm.Cond.instanceMethod ({ cls := "PromiseRoofs", name := "roofOf", desc := "(I)I" } : Jvm.MethodName)) ∈ lw_all := lw_g (lw_at lw_m4 72 rfl) rfl
theorem q892 : (Jvm.Cond.code ({ cls := "PromiseRoofs", name := "roofOf", desc := "(I)I" } : Jvm.MethodName) prog_1_method_32_code (4 : Nat) (Option.some Jvm.ClassFile.FieldType.int)) ∈ lw_all := lw_g (lw_at lw_m4 73 rfl) rfl
theorem q894 : (Jvm.Cond.instanceMethod ({ cls := "PromiseRoofs", name := "falls", desc := "(II)I" } : Jvm.MethodName)) ∈ lw_all := lw_g (lw_at lw_m4 75 rfl) rfl
theorem q895 : (Jvm.Cond.selects "PromiseRoofs" ({ cls := "PromiseRoofs", name := "falls", desc := "(II)I" } : Jvm.MethodName) ({ cls := "PromiseRoofs", name := "falls", desc := "(II)I" } : Jvm.MethodName)) ∈ lw_all := lw_g (lw_at lw_m4 76 rfl) rfl
theorem q896 : (Jvm.Cond.code ({ cls := "PromiseRoofs", name := "falls", desc := "(II)I" } : Jvm.MethodName) prog_1_method_34_code (4 : Nat) (Option.some Jvm.ClassFile.FieldType.int)) ∈ lw_all := lw_g (lw_at lw_m4 77 rfl) rfl
theorem q898 : (Jvm.Cond.instanceMethod ({ cls := "PromiseRoofs", name := "skyline", desc := "(I)I" } : Jvm.MethodName)) ∈ lw_all := lw_g (lw_at lw_m4 79 rfl) rfl
theorem q899 : (Jvm.Cond.selects "PromiseRoofs" ({ cls := "PromiseRoofs", name := "skyline", desc := "(I)I" } : Jvm.MethodName) ({ cls := "PromiseRoofs", name := "skyline", desc := "(I)I" } : Jvm.MethodName)) ∈ lw_all := lw_g (lw_at lw_m4 80 rfl) rfl
theorem q900 : (Jvm.Cond.code ({ cls := "PromiseRoofs", name := "skyline", desc := "(I)I" } : Jvm.MethodName) prog_1_method_36_code (5 : Nat) (Option.some Jvm.ClassFile.FieldType.int)) ∈ lw_all := lw_g (lw_at lw_m4 81 rfl) rfl
theorem q901 : (Jvm.Cond.methodLink "PromiseRoofs" (258 : Nat) ({ cls := "PromiseRoofs", name := "tallest", desc := "()I" } : Jvm.MethodName)) ∈ lw_all := lw_g (lw_at lw_m4 82 rfl) rfl
theorem q902 : (Jvm.Cond.privateMethod ({ cls := "PromiseRoofs", name := "tallest", desc := "()I" } : Jvm.MethodName)) ∈ lw_tbl := lw_at lw_m4 83 rfl
theorem q903 : (Jvm.Cond.instanceMethod ({ cls := "PromiseRoofs", name := "tallest", desc := "()I" } : Jvm.MethodName)) ∈ lw_all := lw_g (lw_at lw_m4 84 rfl) rfl
theorem q904 : (Jvm.Cond.code ({ cls := "PromiseRoofs", name := "tallest", desc := "()I" } : Jvm.MethodName) prog_1_method_35_code (3 : Nat) (Option.some Jvm.ClassFile.FieldType.int)) ∈ lw_all := lw_g (lw_at lw_m4 85 rfl) rfl
theorem q906 : (Jvm.Cond.instanceMethod ({ cls := "PromiseRoofs", name := "view", desc := "(II)I" } : Jvm.MethodName)) ∈ lw_all := lw_g (lw_at lw_m4 87 rfl) rfl
theorem q907 : (Jvm.Cond.selects "PromiseRoofs" ({ cls := "PromiseRoofs", name := "view", desc := "(II)I" } : Jvm.MethodName) ({ cls := "PromiseRoofs", name := "view", desc := "(II)I" } : Jvm.MethodName)) ∈ lw_all := lw_g (lw_at lw_m4 88 rfl) rfl
theorem q908 : (Jvm.Cond.code ({ cls := "PromiseRoofs", name := "view", desc := "(II)I" } : Jvm.MethodName) prog_1_method_37_code (7 : Nat) (Option.some Jvm.ClassFile.FieldType.int)) ∈ lw_all := lw_g (lw_at lw_m4 89 rfl) rfl
theorem q910 : (Jvm.Cond.instanceMethod ({ cls := "PromiseRoofs", name := "what", desc := "(III)I" } : Jvm.MethodName)) ∈ lw_all := lw_g (lw_at lw_m4 91 rfl) rfl
theorem q911 : (Jvm.Cond.selects "PromiseRoofs" ({ cls := "PromiseRoofs", name := "what", desc := "(III)I" } : Jvm.MethodName) ({ cls := "PromiseRoofs", name := "what", desc := "(III)I" } : Jvm.MethodName)) ∈ lw_all := lw_g (lw_at lw_m4 92 rfl) rfl
theorem q912 : (Jvm.Cond.code ({ cls := "PromiseRoofs", name := "what", desc := "(III)I" } : Jvm.MethodName) prog_1_method_40_code (4 : Nat) (Option.some Jvm.ClassFile.FieldType.int)) ∈ lw_all := lw_g (lw_at lw_m4 93 rfl) rfl
theorem q913 : (Jvm.Cond.methodLink "PromiseRoofs" (264 : Nat) ({ cls := "PromiseRoofs", name := "leastWorth", desc := "(IIIII)I" } : Jvm.MethodName)) ∈ lw_all := lw_g (lw_at lw_m4 94 rfl) rfl
theorem q914 : (Jvm.Cond.privateMethod ({ cls := "PromiseRoofs", name := "leastWorth", desc := "(IIIII)I" } : Jvm.MethodName)) ∈ lw_tbl := lw_at lw_m4 95 rfl
theorem q915 : (Jvm.Cond.instanceMethod ({ cls := "PromiseRoofs", name := "leastWorth", desc := "(IIIII)I" } : Jvm.MethodName)) ∈ lw_all := lw_g (lw_at lw_m4 96 rfl) rfl
theorem q916 : (Jvm.Cond.code ({ cls := "PromiseRoofs", name := "leastWorth", desc := "(IIIII)I" } : Jvm.MethodName) prog_1_method_39_code (9 : Nat) (Option.some Jvm.ClassFile.FieldType.int)) ∈ lw_all := lw_g (lw_at lw_m4 97 rfl) rfl
theorem q917 : (Jvm.Cond.methodLink "PromiseRoofs" (261 : Nat) ({ cls := "PromiseRoofs", name := "standsSo", desc := "(III)Z" } : Jvm.MethodName)) ∈ lw_all := lw_g (lw_at lw_m4 98 rfl) rfl
theorem q918 : (Jvm.Cond.privateMethod ({ cls := "PromiseRoofs", name := "standsSo", desc := "(III)Z" } : Jvm.MethodName)) ∈ lw_tbl := lw_at lw_m4 99 rfl
theorem q919 : (Jvm.Cond.instanceMethod ({ cls := "PromiseRoofs", name := "standsSo", desc := "(III)Z" } : Jvm.MethodName)) ∈ lw_all := lw_g (lw_at lw_m4 100 rfl) rfl
theorem q920 : (Jvm.Cond.code ({ cls := "PromiseRoofs", name := "standsSo", desc := "(III)Z" } : Jvm.MethodName) prog_1_method_38_code (5 : Nat) (Option.some Jvm.ClassFile.FieldType.boolean)) ∈ lw_all := lw_g (lw_at lw_m4 101 rfl) rfl
theorem q922 : (Jvm.Cond.instanceMethod ({ cls := "PromiseRoofs", name := "lower", desc := "(III)I" } : Jvm.MethodName)) ∈ lw_all := lw_g (lw_at lw_m4 103 rfl) rfl
theorem q923 : (Jvm.Cond.selects "PromiseRoofs" ({ cls := "PromiseRoofs", name := "lower", desc := "(III)I" } : Jvm.MethodName) ({ cls := "PromiseRoofs", name := "lower", desc := "(III)I" } : Jvm.MethodName)) ∈ lw_all := lw_g (lw_at lw_m4 104 rfl) rfl
theorem q924 : (Jvm.Cond.code ({ cls := "PromiseRoofs", name := "lower", desc := "(III)I" } : Jvm.MethodName) prog_1_method_46_code (5 : Nat) (Option.some Jvm.ClassFile.FieldType.int)) ∈ lw_all := lw_g (lw_at lw_m4 105 rfl) rfl
theorem q925 : (Jvm.Cond.methodLink "PromiseRoofs" (291 : Nat) ({ cls := "PromiseRoofs", name := "bestLower", desc := "(II)I" } : Jvm.MethodName)) ∈ lw_all := lw_g (lw_at lw_m4 106 rfl) rfl
theorem q926 : (Jvm.Cond.privateMethod ({ cls := "PromiseRoofs", name := "bestLower", desc := "(II)I" } : Jvm.MethodName)) ∈ lw_tbl := lw_at lw_m4 107 rfl
theorem q927 : (Jvm.Cond.instanceMethod ({ cls := "PromiseRoofs", name := "bestLower", desc := "(II)I" } : Jvm.MethodName)) ∈ lw_all := lw_g (lw_at lw_m4 108 rfl) rfl
theorem q928 : (Jvm.Cond.code ({ cls := "PromiseRoofs", name := "bestLower", desc := "(II)I" } : Jvm.MethodName) prog_1_method_45_code (6 : Nat) (Option.some Jvm.ClassFile.FieldType.int)) ∈ lw_all := lw_g (lw_at lw_m4 109 rfl) rfl
theorem q929 : (Jvm.Cond.methodLink "PromiseRoofs" (279 : Nat) ({ cls := "PromiseRoofs", name := "mayDo", desc := "(I)I" } : Jvm.MethodName)) ∈ lw_all := lw_g (lw_at lw_m4 110 rfl) rfl
theorem q930 : (Jvm.Cond.privateMethod ({ cls := "PromiseRoofs", name := "mayDo", desc := "(I)I" } : Jvm.MethodName)) ∈ lw_tbl := lw_at lw_m4 111 rfl
theorem q931 : (Jvm.Cond.instanceMethod ({ cls := "PromiseRoofs", name := "mayDo", desc := "(I)I" } : Jvm.MethodName)) ∈ lw_all := lw_g (lw_at lw_m4 112 rfl) rfl
theorem q932 : (Jvm.Cond.code ({ cls := "PromiseRoofs", name := "mayDo", desc := "(I)I" } : Jvm.MethodName) prog_1_method_43_code (4 : Nat) (Option.some Jvm.ClassFile.FieldType.int)) ∈ lw_all := lw_g (lw_at lw_m4 113 rfl) rfl
theorem q933 : (Jvm.Cond.methodLink "PromiseRoofs" (285 : Nat) ({ cls := "PromiseRoofs", name := "lowers", desc := "(III)Z" } : Jvm.MethodName)) ∈ lw_all := lw_g (lw_at lw_m4 114 rfl) rfl
theorem q934 : (Jvm.Cond.privateMethod ({ cls := "PromiseRoofs", name := "lowers", desc := "(III)Z" } : Jvm.MethodName)) ∈ lw_tbl := lw_at lw_m4 115 rfl
theorem q935 : (Jvm.Cond.instanceMethod ({ cls := "PromiseRoofs", name := "lowers", desc := "(III)Z" } : Jvm.MethodName)) ∈ lw_all := lw_g (lw_at lw_m4 116 rfl) rfl
theorem q936 : (Jvm.Cond.code ({ cls := "PromiseRoofs", name := "lowers", desc := "(III)Z" } : Jvm.MethodName) prog_1_method_42_code (6 : Nat) (Option.some Jvm.ClassFile.FieldType.boolean)) ∈ lw_all := lw_g (lw_at lw_m4 117 rfl) rfl
theorem q937 : (Jvm.Cond.methodLink "PromiseRoofs" (268 : Nat) ({ cls := "PromiseRoofs", name := "has", desc := "(II)Z" } : Jvm.MethodName)) ∈ lw_all := lw_g (lw_at lw_m4 118 rfl) rfl
theorem q938 : (Jvm.Cond.static ({ cls := "PromiseRoofs", name := "has", desc := "(II)Z" } : Jvm.MethodName)) ∈ lw_all := lw_g (lw_at lw_m4 119 rfl) rfl
theorem q939 : (Jvm.Cond.code ({ cls := "PromiseRoofs", name := "has", desc := "(II)Z" } : Jvm.MethodName) prog_1_method_3_code (2 : Nat) (Option.some Jvm.ClassFile.FieldType.boolean)) ∈ lw_all := lw_g (lw_at lw_m4 120 rfl) rfl
theorem q940 : (Jvm.Cond.methodLink "PromiseRoofs" (288 : Nat) ({ cls := "PromiseRoofs", name := "isBetter", desc := "(II)Z" } : Jvm.MethodName)) ∈ lw_all := lw_g (lw_at lw_m4 121 rfl) rfl
theorem q941 : (Jvm.Cond.privateMethod ({ cls := "PromiseRoofs", name := "isBetter", desc := "(II)Z" } : Jvm.MethodName)) ∈ lw_tbl := lw_at lw_m4 122 rfl
theorem q942 : (Jvm.Cond.instanceMethod ({ cls := "PromiseRoofs", name := "isBetter", desc := "(II)Z" } : Jvm.MethodName)) ∈ lw_all := lw_g (lw_at lw_m4 123 rfl) rfl
theorem q943 : (Jvm.Cond.code ({ cls := "PromiseRoofs", name := "isBetter", desc := "(II)Z" } : Jvm.MethodName) prog_1_method_44_code (4 : Nat) (Option.some Jvm.ClassFile.FieldType.boolean)) ∈ lw_all := lw_g (lw_at lw_m4 124 rfl) rfl
theorem q944 : (Jvm.Cond.methodLink "PromiseRoofs" (271 : Nat) ({ cls := "java/lang/Integer", name := "bitCount", desc := "(I)I" } : Jvm.MethodName)) ∈ lw_all := lw_g (lw_at lw_m4 125 rfl) rfl
theorem q950 : (Jvm.Cond.methodLink "PromiseRoofs" (276 : Nat) ({ cls := "PromiseRoofs", name := "worthOf", desc := "(I)I" } : Jvm.MethodName)) ∈ lw_all := lw_g (lw_at lw_m4 131 rfl) rfl
theorem q951 : (Jvm.Cond.privateMethod ({ cls := "PromiseRoofs", name := "worthOf", desc := "(I)I" } : Jvm.MethodName)) ∈ lw_tbl := lw_at lw_m4 132 rfl
theorem q952 : (Jvm.Cond.instanceMethod ({ cls := "PromiseRoofs", name := "worthOf", desc := "(I)I" } : Jvm.MethodName)) ∈ lw_all := lw_g (lw_at lw_m4 133 rfl) rfl
theorem q953 : (Jvm.Cond.code ({ cls := "PromiseRoofs", name := "worthOf", desc := "(I)I" } : Jvm.MethodName) prog_1_method_41_code (4 : Nat) (Option.some Jvm.ClassFile.FieldType.int)) ∈ lw_all := lw_g (lw_at lw_m4 134 rfl) rfl
theorem q955 : (Jvm.Cond.instanceMethod ({ cls := "PromiseRoofs", name := "holds", desc := "(II)I" } : Jvm.MethodName)) ∈ lw_all := lw_g (lw_at lw_m4 136 rfl) rfl
theorem q956 : (Jvm.Cond.selects "PromiseRoofs" ({ cls := "PromiseRoofs", name := "holds", desc := "(II)I" } : Jvm.MethodName) ({ cls := "PromiseRoofs", name := "holds", desc := "(II)I" } : Jvm.MethodName)) ∈ lw_all := lw_g (lw_at lw_m4 137 rfl) rfl
theorem q957 : (Jvm.Cond.code ({ cls := "PromiseRoofs", name := "holds", desc := "(II)I" } : Jvm.MethodName) prog_1_method_51_code (3 : Nat) (Option.some Jvm.ClassFile.FieldType.int)) ∈ lw_all := lw_g (lw_at lw_m4 138 rfl) rfl
theorem q958 : (Jvm.Cond.methodLink "PromiseRoofs" (294 : Nat) ({ cls := "PromiseRoofs", name := "holder", desc := "(I)I" } : Jvm.MethodName)) ∈ lw_all := lw_g (lw_at lw_m4 139 rfl) rfl
theorem q959 : (Jvm.Cond.privateMethod ({ cls := "PromiseRoofs", name := "holder", desc := "(I)I" } : Jvm.MethodName)) ∈ lw_tbl := lw_at lw_m4 140 rfl
theorem q960 : (Jvm.Cond.instanceMethod ({ cls := "PromiseRoofs", name := "holder", desc := "(I)I" } : Jvm.MethodName)) ∈ lw_all := lw_g (lw_at lw_m4 141 rfl) rfl
theorem q961 : (Jvm.Cond.code ({ cls := "PromiseRoofs", name := "holder", desc := "(I)I" } : Jvm.MethodName) prog_1_method_47_code (3 : Nat) (Option.some Jvm.ClassFile.FieldType.int)) ∈ lw_all := lw_g (lw_at lw_m4 142 rfl) rfl
theorem q962 : (Jvm.Cond.methodLink "PromiseRoofs" (297 : Nat) ({ cls := "PromiseRoofs", name := "ringOf", desc := "(I)I" } : Jvm.MethodName)) ∈ lw_all := lw_g (lw_at lw_m4 143 rfl) rfl
theorem q963 : (Jvm.Cond.privateMethod ({ cls := "PromiseRoofs", name := "ringOf", desc := "(I)I" } : Jvm.MethodName)) ∈ lw_tbl := lw_at lw_m4 144 rfl
theorem q964 : (Jvm.Cond.instanceMethod ({ cls := "PromiseRoofs", name := "ringOf", desc := "(I)I" } : Jvm.MethodName)) ∈ lw_all := lw_g (lw_at lw_m4 145 rfl) rfl
theorem q965 : (Jvm.Cond.code ({ cls := "PromiseRoofs", name := "ringOf", desc := "(I)I" } : Jvm.MethodName) prog_1_method_48_code (4 : Nat) (Option.some Jvm.ClassFile.FieldType.int)) ∈ lw_all := lw_g (lw_at lw_m4 146 rfl) rfl
theorem q966 : (Jvm.Cond.methodLink "PromiseRoofs" (300 : Nat) ({ cls := "PromiseRoofs", name := "endOf", desc := "(I)I" } : Jvm.MethodName)) ∈ lw_all := lw_g (lw_at lw_m4 147 rfl) rfl
theorem q967 : (Jvm.Cond.privateMethod ({ cls := "PromiseRoofs", name := "endOf", desc := "(I)I" } : Jvm.MethodName)) ∈ lw_tbl := lw_at lw_m4 148 rfl
theorem q968 : (Jvm.Cond.instanceMethod ({ cls := "PromiseRoofs", name := "endOf", desc := "(I)I" } : Jvm.MethodName)) ∈ lw_all := lw_g (lw_at lw_m4 149 rfl) rfl
theorem q969 : (Jvm.Cond.code ({ cls := "PromiseRoofs", name := "endOf", desc := "(I)I" } : Jvm.MethodName) prog_1_method_49_code (4 : Nat) (Option.some Jvm.ClassFile.FieldType.int)) ∈ lw_all := lw_g (lw_at lw_m4 150 rfl) rfl
theorem q970 : (Jvm.Cond.methodLink "PromiseRoofs" (303 : Nat) ({ cls := "PromiseRoofs", name := "owedTo", desc := "(I)I" } : Jvm.MethodName)) ∈ lw_all := lw_g (lw_at lw_m4 151 rfl) rfl
theorem q971 : (Jvm.Cond.privateMethod ({ cls := "PromiseRoofs", name := "owedTo", desc := "(I)I" } : Jvm.MethodName)) ∈ lw_tbl := lw_at lw_m4 152 rfl
theorem q972 : (Jvm.Cond.instanceMethod ({ cls := "PromiseRoofs", name := "owedTo", desc := "(I)I" } : Jvm.MethodName)) ∈ lw_all := lw_g (lw_at lw_m4 153 rfl) rfl
theorem q973 : (Jvm.Cond.code ({ cls := "PromiseRoofs", name := "owedTo", desc := "(I)I" } : Jvm.MethodName) prog_1_method_50_code (4 : Nat) (Option.some Jvm.ClassFile.FieldType.int)) ∈ lw_all := lw_g (lw_at lw_m4 154 rfl) rfl
theorem q975 : (Jvm.Cond.instanceMethod ({ cls := "PromiseRoofs", name := "judge", desc := "(II)I" } : Jvm.MethodName)) ∈ lw_all := lw_g (lw_at lw_m4 156 rfl) rfl
theorem q976 : (Jvm.Cond.selects "PromiseRoofs" ({ cls := "PromiseRoofs", name := "judge", desc := "(II)I" } : Jvm.MethodName) ({ cls := "PromiseRoofs", name := "judge", desc := "(II)I" } : Jvm.MethodName)) ∈ lw_all := lw_g (lw_at lw_m4 157 rfl) rfl
theorem q977 : (Jvm.Cond.code ({ cls := "PromiseRoofs", name := "judge", desc := "(II)I" } : Jvm.MethodName) prog_1_method_54_code (4 : Nat) (Option.some Jvm.ClassFile.FieldType.int)) ∈ lw_all := lw_g (lw_at lw_m4 158 rfl) rfl
theorem q978 : (Jvm.Cond.methodLink "PromiseRoofs" (312 : Nat) ({ cls := "PromiseRoofs", name := "layRow", desc := "(I)I" } : Jvm.MethodName)) ∈ lw_all := lw_g (lw_at lw_m4 159 rfl) rfl
theorem q979 : (Jvm.Cond.privateMethod ({ cls := "PromiseRoofs", name := "layRow", desc := "(I)I" } : Jvm.MethodName)) ∈ lw_tbl := lw_at lw_m4 160 rfl
theorem q980 : (Jvm.Cond.instanceMethod ({ cls := "PromiseRoofs", name := "layRow", desc := "(I)I" } : Jvm.MethodName)) ∈ lw_all := lw_g (lw_at lw_m4 161 rfl) rfl
theorem q981 : (Jvm.Cond.codeWith ({ cls := "PromiseRoofs", name := "layRow", desc := "(I)I" } : Jvm.MethodName) prog_1_method_52_code (4 : Nat) (Option.some Jvm.ClassFile.FieldType.int) [((5 : Nat), (53 : Nat), (56 : Nat), (107 : Nat)), ((5 : Nat), (53 : Nat), (60 : Nat), (109 : Nat))]) ∈ lw_all := lw_g (lw_at lw_m4 162 rfl) rfl
theorem q982 : (Jvm.Cond.methodLink "PromiseRoofs" (309 : Nat) ({ cls := "PromiseRoofs$ByteRow", name := "size", desc := "()I" } : Jvm.MethodName)) ∈ lw_all := lw_g (lw_at lw_m4 163 rfl) rfl
theorem q986 : (Jvm.Cond.methodLink "PromiseRoofs" (315 : Nat) ({ cls := "PromiseRoofs", name := "wrongDay", desc := "(I)I" } : Jvm.MethodName)) ∈ lw_all := lw_g (lw_at lw_m4 167 rfl) rfl
theorem q987 : (Jvm.Cond.privateMethod ({ cls := "PromiseRoofs", name := "wrongDay", desc := "(I)I" } : Jvm.MethodName)) ∈ lw_tbl := lw_at lw_m4 168 rfl
theorem q988 : (Jvm.Cond.instanceMethod ({ cls := "PromiseRoofs", name := "wrongDay", desc := "(I)I" } : Jvm.MethodName)) ∈ lw_all := lw_g (lw_at lw_m4 169 rfl) rfl
theorem q989 : (Jvm.Cond.code ({ cls := "PromiseRoofs", name := "wrongDay", desc := "(I)I" } : Jvm.MethodName) prog_1_method_53_code (3 : Nat) (Option.some Jvm.ClassFile.FieldType.int)) ∈ lw_all := lw_g (lw_at lw_m4 170 rfl) rfl
theorem q991 : (Jvm.Cond.instanceMethod ({ cls := "PromiseRoofs", name := "fits", desc := "(IIII)I" } : Jvm.MethodName)) ∈ lw_all := lw_g (lw_at lw_m4 172 rfl) rfl
theorem q992 : (Jvm.Cond.selects "PromiseRoofs" ({ cls := "PromiseRoofs", name := "fits", desc := "(IIII)I" } : Jvm.MethodName) ({ cls := "PromiseRoofs", name := "fits", desc := "(IIII)I" } : Jvm.MethodName)) ∈ lw_all := lw_g (lw_at lw_m4 173 rfl) rfl
theorem q993 : (Jvm.Cond.code ({ cls := "PromiseRoofs", name := "fits", desc := "(IIII)I" } : Jvm.MethodName) prog_1_method_57_code (6 : Nat) (Option.some Jvm.ClassFile.FieldType.int)) ∈ lw_all := lw_g (lw_at lw_m4 174 rfl) rfl
theorem q994 : (Jvm.Cond.methodLink "PromiseRoofs" (318 : Nat) ({ cls := "PromiseRoofs", name := "byWorths", desc := "(ILPromiseRoofs$Promise;Z)I" } : Jvm.MethodName)) ∈ lw_all := lw_g (lw_at lw_m4 175 rfl) rfl
theorem q995 : (Jvm.Cond.privateMethod ({ cls := "PromiseRoofs", name := "byWorths", desc := "(ILPromiseRoofs$Promise;Z)I" } : Jvm.MethodName)) ∈ lw_tbl := lw_at lw_m4 176 rfl
theorem q996 : (Jvm.Cond.instanceMethod ({ cls := "PromiseRoofs", name := "byWorths", desc := "(ILPromiseRoofs$Promise;Z)I" } : Jvm.MethodName)) ∈ lw_all := lw_g (lw_at lw_m4 177 rfl) rfl
theorem q997 : (Jvm.Cond.code ({ cls := "PromiseRoofs", name := "byWorths", desc := "(ILPromiseRoofs$Promise;Z)I" } : Jvm.MethodName) prog_1_method_55_code (8 : Nat) (Option.some Jvm.ClassFile.FieldType.int)) ∈ lw_all := lw_g (lw_at lw_m4 178 rfl) rfl
theorem q998 : (Jvm.Cond.methodLink "PromiseRoofs" (322 : Nat) ({ cls := "PromiseRoofs", name := "byLasts", desc := "(ILPromiseRoofs$Promise;Z)I" } : Jvm.MethodName)) ∈ lw_all := lw_g (lw_at lw_m4 179 rfl) rfl
theorem q999 : (Jvm.Cond.privateMethod ({ cls := "PromiseRoofs", name := "byLasts", desc := "(ILPromiseRoofs$Promise;Z)I" } : Jvm.MethodName)) ∈ lw_tbl := lw_at lw_m4 180 rfl
theorem q1000 : (Jvm.Cond.instanceMethod ({ cls := "PromiseRoofs", name := "byLasts", desc := "(ILPromiseRoofs$Promise;Z)I" } : Jvm.MethodName)) ∈ lw_all := lw_g (lw_at lw_m4 181 rfl) rfl
theorem q1001 : (Jvm.Cond.code ({ cls := "PromiseRoofs", name := "byLasts", desc := "(ILPromiseRoofs$Promise;Z)I" } : Jvm.MethodName) prog_1_method_56_code (8 : Nat) (Option.some Jvm.ClassFile.FieldType.int)) ∈ lw_all := lw_g (lw_at lw_m4 182 rfl) rfl
theorem q1003 : (Jvm.Cond.instanceMethod ({ cls := "PromiseRoofs", name := "share", desc := "(II)I" } : Jvm.MethodName)) ∈ lw_all := lw_g (lw_at lw_m4 184 rfl) rfl
theorem q1004 : (Jvm.Cond.selects "PromiseRoofs" ({ cls := "PromiseRoofs", name := "share", desc := "(II)I" } : Jvm.MethodName) ({ cls := "PromiseRoofs", name := "share", desc := "(II)I" } : Jvm.MethodName)) ∈ lw_all := lw_g (lw_at lw_m4 185 rfl) rfl
theorem q1005 : (Jvm.Cond.code ({ cls := "PromiseRoofs", name := "share", desc := "(II)I" } : Jvm.MethodName) prog_1_method_58_code (6 : Nat) (Option.some Jvm.ClassFile.FieldType.int)) ∈ lw_all := lw_g (lw_at lw_m4 186 rfl) rfl
theorem q1007 : (Jvm.Cond.instanceMethod ({ cls := "PromiseRoofs", name := "byTurns", desc := "(III)I" } : Jvm.MethodName)) ∈ lw_all := lw_g (lw_at lw_m4 188 rfl) rfl
theorem q1008 : (Jvm.Cond.selects "PromiseRoofs" ({ cls := "PromiseRoofs", name := "byTurns", desc := "(III)I" } : Jvm.MethodName) ({ cls := "PromiseRoofs", name := "byTurns", desc := "(III)I" } : Jvm.MethodName)) ∈ lw_all := lw_g (lw_at lw_m4 189 rfl) rfl
theorem q1009 : (Jvm.Cond.code ({ cls := "PromiseRoofs", name := "byTurns", desc := "(III)I" } : Jvm.MethodName) prog_1_method_61_code (7 : Nat) (Option.some Jvm.ClassFile.FieldType.int)) ∈ lw_all := lw_g (lw_at lw_m4 190 rfl) rfl
theorem q1010 : (Jvm.Cond.methodLink "PromiseRoofs" (325 : Nat) ({ cls := "PromiseRoofs", name := "bestOf", desc := "(IZ)I" } : Jvm.MethodName)) ∈ lw_all := lw_g (lw_at lw_m4 191 rfl) rfl
theorem q1011 : (Jvm.Cond.privateMethod ({ cls := "PromiseRoofs", name := "bestOf", desc := "(IZ)I" } : Jvm.MethodName)) ∈ lw_tbl := lw_at lw_m4 192 rfl
theorem q1012 : (Jvm.Cond.instanceMethod ({ cls := "PromiseRoofs", name := "bestOf", desc := "(IZ)I" } : Jvm.MethodName)) ∈ lw_all := lw_g (lw_at lw_m4 193 rfl) rfl
theorem q1013 : (Jvm.Cond.code ({ cls := "PromiseRoofs", name := "bestOf", desc := "(IZ)I" } : Jvm.MethodName) prog_1_method_60_code (7 : Nat) (Option.some Jvm.ClassFile.FieldType.int)) ∈ lw_all := lw_g (lw_at lw_m4 194 rfl) rfl
theorem q1014 : (Jvm.Cond.methodLink "PromiseRoofs" (335 : Nat) ({ cls := "PromiseRoofs", name := "byDeed", desc := "(IIZ)I" } : Jvm.MethodName)) ∈ lw_all := lw_g (lw_at lw_m4 195 rfl) rfl
theorem q1015 : (Jvm.Cond.privateMethod ({ cls := "PromiseRoofs", name := "byDeed", desc := "(IIZ)I" } : Jvm.MethodName)) ∈ lw_tbl := lw_at lw_m4 196 rfl
theorem q1016 : (Jvm.Cond.instanceMethod ({ cls := "PromiseRoofs", name := "byDeed", desc := "(IIZ)I" } : Jvm.MethodName)) ∈ lw_all := lw_g (lw_at lw_m4 197 rfl) rfl
theorem q1017 : (Jvm.Cond.code ({ cls := "PromiseRoofs", name := "byDeed", desc := "(IIZ)I" } : Jvm.MethodName) prog_1_method_59_code (5 : Nat) (Option.some Jvm.ClassFile.FieldType.int)) ∈ lw_all := lw_g (lw_at lw_m4 198 rfl) rfl
theorem q1019 : (Jvm.Cond.instanceMethod ({ cls := "PromiseRoofs", name := "drawn", desc := "(III)I" } : Jvm.MethodName)) ∈ lw_all := lw_g (lw_at lw_m4 200 rfl) rfl
theorem q1020 : (Jvm.Cond.selects "PromiseRoofs" ({ cls := "PromiseRoofs", name := "drawn", desc := "(III)I" } : Jvm.MethodName) ({ cls := "PromiseRoofs", name := "drawn", desc := "(III)I" } : Jvm.MethodName)) ∈ lw_all := lw_g (lw_at lw_m4 201 rfl) rfl
theorem q1021 : (Jvm.Cond.code ({ cls := "PromiseRoofs", name := "drawn", desc := "(III)I" } : Jvm.MethodName) prog_1_method_65_code (10 : Nat) (Option.some Jvm.ClassFile.FieldType.int)) ∈ lw_all := lw_g (lw_at lw_m4 202 rfl) rfl
theorem q1022 : (Jvm.Cond.methodLink "PromiseRoofs" (339 : Nat) ({ cls := "PromiseRoofs", name := "doneBits", desc := "()I" } : Jvm.MethodName)) ∈ lw_all := lw_g (lw_at lw_m4 203 rfl) rfl
theorem q1023 : (Jvm.Cond.privateMethod ({ cls := "PromiseRoofs", name := "doneBits", desc := "()I" } : Jvm.MethodName)) ∈ lw_tbl := lw_at lw_m4 204 rfl
theorem q1024 : (Jvm.Cond.instanceMethod ({ cls := "PromiseRoofs", name := "doneBits", desc := "()I" } : Jvm.MethodName)) ∈ lw_all := lw_g (lw_at lw_m4 205 rfl) rfl
theorem q1025 : (Jvm.Cond.code ({ cls := "PromiseRoofs", name := "doneBits", desc := "()I" } : Jvm.MethodName) prog_1_method_63_code (3 : Nat) (Option.some Jvm.ClassFile.FieldType.int)) ∈ lw_all := lw_g (lw_at lw_m4 206 rfl) rfl
theorem q1026 : (Jvm.Cond.constant "PromiseRoofs" (342 : Nat) (1103515245 : Int32)) ∈ lw_all := lw_g (lw_at lw_m4 207 rfl) rfl
theorem q1027 : (Jvm.Cond.methodLink "PromiseRoofs" (343 : Nat) ({ cls := "PromiseRoofs", name := "goDraw", desc := "(III)V" } : Jvm.MethodName)) ∈ lw_all := lw_g (lw_at lw_m4 208 rfl) rfl
theorem q1028 : (Jvm.Cond.privateMethod ({ cls := "PromiseRoofs", name := "goDraw", desc := "(III)V" } : Jvm.MethodName)) ∈ lw_tbl := lw_at lw_m4 209 rfl
theorem q1029 : (Jvm.Cond.instanceMethod ({ cls := "PromiseRoofs", name := "goDraw", desc := "(III)V" } : Jvm.MethodName)) ∈ lw_all := lw_g (lw_at lw_m4 210 rfl) rfl
theorem q1030 : (Jvm.Cond.code ({ cls := "PromiseRoofs", name := "goDraw", desc := "(III)V" } : Jvm.MethodName) prog_1_method_62_code (5 : Nat) (Option.none : Option Jvm.ClassFile.FieldType)) ∈ lw_all := lw_g (lw_at lw_m4 211 rfl) rfl
theorem q1031 : (Jvm.Cond.methodLink "PromiseRoofs" (346 : Nat) ({ cls := "PromiseRoofs", name := "layDone", desc := "(I)V" } : Jvm.MethodName)) ∈ lw_all := lw_g (lw_at lw_m4 212 rfl) rfl
theorem q1032 : (Jvm.Cond.privateMethod ({ cls := "PromiseRoofs", name := "layDone", desc := "(I)V" } : Jvm.MethodName)) ∈ lw_tbl := lw_at lw_m4 213 rfl
theorem q1033 : (Jvm.Cond.instanceMethod ({ cls := "PromiseRoofs", name := "layDone", desc := "(I)V" } : Jvm.MethodName)) ∈ lw_all := lw_g (lw_at lw_m4 214 rfl) rfl
theorem q1034 : (Jvm.Cond.code ({ cls := "PromiseRoofs", name := "layDone", desc := "(I)V" } : Jvm.MethodName) prog_1_method_64_code (3 : Nat) (Option.none : Option Jvm.ClassFile.FieldType)) ∈ lw_all := lw_g (lw_at lw_m4 215 rfl) rfl
theorem q1036 : (Jvm.Cond.instanceMethod ({ cls := "PromiseRoofs", name := "does", desc := "(II)I" } : Jvm.MethodName)) ∈ lw_all := lw_g (lw_at lw_m4 217 rfl) rfl
theorem q1037 : (Jvm.Cond.selects "PromiseRoofs" ({ cls := "PromiseRoofs", name := "does", desc := "(II)I" } : Jvm.MethodName) ({ cls := "PromiseRoofs", name := "does", desc := "(II)I" } : Jvm.MethodName)) ∈ lw_all := lw_g (lw_at lw_m4 218 rfl) rfl
theorem q1038 : (Jvm.Cond.code ({ cls := "PromiseRoofs", name := "does", desc := "(II)I" } : Jvm.MethodName) prog_1_method_66_code (4 : Nat) (Option.some Jvm.ClassFile.FieldType.int)) ∈ lw_all := lw_g (lw_at lw_m4 219 rfl) rfl
theorem q1040 : (Jvm.Cond.instanceMethod ({ cls := "PromiseRoofs", name := "release", desc := "(I)I" } : Jvm.MethodName)) ∈ lw_all := lw_g (lw_at lw_m4 221 rfl) rfl
theorem q1041 : (Jvm.Cond.selects "PromiseRoofs" ({ cls := "PromiseRoofs", name := "release", desc := "(I)I" } : Jvm.MethodName) ({ cls := "PromiseRoofs", name := "release", desc := "(I)I" } : Jvm.MethodName)) ∈ lw_all := lw_g (lw_at lw_m4 222 rfl) rfl
theorem q1042 : (Jvm.Cond.code ({ cls := "PromiseRoofs", name := "release", desc := "(I)I" } : Jvm.MethodName) prog_1_method_67_code (3 : Nat) (Option.some Jvm.ClassFile.FieldType.int)) ∈ lw_all := lw_g (lw_at lw_m4 223 rfl) rfl
theorem q1044 : (Jvm.Cond.instanceMethod ({ cls := "PromiseRoofs", name := "days", desc := "(I)I" } : Jvm.MethodName)) ∈ lw_all := lw_g (lw_at lw_m4 225 rfl) rfl
theorem q1045 : (Jvm.Cond.selects "PromiseRoofs" ({ cls := "PromiseRoofs", name := "days", desc := "(I)I" } : Jvm.MethodName) ({ cls := "PromiseRoofs", name := "days", desc := "(I)I" } : Jvm.MethodName)) ∈ lw_all := lw_g (lw_at lw_m4 226 rfl) rfl
theorem q1046 : (Jvm.Cond.code ({ cls := "PromiseRoofs", name := "days", desc := "(I)I" } : Jvm.MethodName) prog_1_method_68_code (2 : Nat) (Option.some Jvm.ClassFile.FieldType.int)) ∈ lw_all := lw_g (lw_at lw_m4 227 rfl) rfl
theorem q1048 : (Jvm.Cond.instanceMethod ({ cls := "PromiseRoofs", name := "led", desc := "(I)I" } : Jvm.MethodName)) ∈ lw_all := lw_g (lw_at lw_m4 229 rfl) rfl
theorem q1049 : (Jvm.Cond.selects "PromiseRoofs" ({ cls := "PromiseRoofs", name := "led", desc := "(I)I" } : Jvm.MethodName) ({ cls := "PromiseRoofs", name := "led", desc := "(I)I" } : Jvm.MethodName)) ∈ lw_all := lw_g (lw_at lw_m4 230 rfl) rfl
theorem q1050 : (Jvm.Cond.code ({ cls := "PromiseRoofs", name := "led", desc := "(I)I" } : Jvm.MethodName) prog_1_method_69_code (2 : Nat) (Option.some Jvm.ClassFile.FieldType.int)) ∈ lw_all := lw_g (lw_at lw_m4 231 rfl) rfl
theorem q1052 : (Jvm.Cond.instanceMethod ({ cls := "PromiseRoofs", name := "image", desc := "()I" } : Jvm.MethodName)) ∈ lw_all := lw_g (lw_at lw_m4 233 rfl) rfl
theorem q1053 : (Jvm.Cond.selects "PromiseRoofs" ({ cls := "PromiseRoofs", name := "image", desc := "()I" } : Jvm.MethodName) ({ cls := "PromiseRoofs", name := "image", desc := "()I" } : Jvm.MethodName)) ∈ lw_all := lw_g (lw_at lw_m4 234 rfl) rfl
theorem q1054 : (Jvm.Cond.code ({ cls := "PromiseRoofs", name := "image", desc := "()I" } : Jvm.MethodName) prog_1_method_70_code (2 : Nat) (Option.some Jvm.ClassFile.FieldType.int)) ∈ lw_all := lw_g (lw_at lw_m4 235 rfl) rfl
theorem q1056 : (Jvm.Cond.instanceMethod ({ cls := "PromiseRoofs", name := "back", desc := "()I" } : Jvm.MethodName)) ∈ lw_all := lw_g (lw_at lw_m4 237 rfl) rfl
theorem q1057 : (Jvm.Cond.selects "PromiseRoofs" ({ cls := "PromiseRoofs", name := "back", desc := "()I" } : Jvm.MethodName) ({ cls := "PromiseRoofs", name := "back", desc := "()I" } : Jvm.MethodName)) ∈ lw_all := lw_g (lw_at lw_m4 238 rfl) rfl
theorem q1058 : (Jvm.Cond.code ({ cls := "PromiseRoofs", name := "back", desc := "()I" } : Jvm.MethodName) prog_1_method_71_code (2 : Nat) (Option.some Jvm.ClassFile.FieldType.int)) ∈ lw_all := lw_g (lw_at lw_m4 239 rfl) rfl
theorem q1060 : (Jvm.Cond.instanceMethod ({ cls := "PromiseRoofs", name := "body", desc := "(I)I" } : Jvm.MethodName)) ∈ lw_all := lw_g (lw_at lw_m5 1 rfl) rfl
theorem q1061 : (Jvm.Cond.selects "PromiseRoofs" ({ cls := "PromiseRoofs", name := "body", desc := "(I)I" } : Jvm.MethodName) ({ cls := "PromiseRoofs", name := "body", desc := "(I)I" } : Jvm.MethodName)) ∈ lw_all := lw_g (lw_at lw_m5 2 rfl) rfl
theorem q1062 : (Jvm.Cond.code ({ cls := "PromiseRoofs", name := "body", desc := "(I)I" } : Jvm.MethodName) prog_1_method_75_code (2 : Nat) (Option.some Jvm.ClassFile.FieldType.int)) ∈ lw_all := lw_g (lw_at lw_m5 3 rfl) rfl
theorem q1063 : (Jvm.Cond.methodLink "PromiseRoofs" (419 : Nat) ({ cls := "PromiseRoofs", name := "bodyOf", desc := "(I)LPromiseRoofs$Storey;" } : Jvm.MethodName)) ∈ lw_all := lw_g (lw_at lw_m5 4 rfl) rfl
theorem q1064 : (Jvm.Cond.privateMethod ({ cls := "PromiseRoofs", name := "bodyOf", desc := "(I)LPromiseRoofs$Storey;" } : Jvm.MethodName)) ∈ lw_tbl := lw_at lw_m5 5 rfl
theorem q1065 : (Jvm.Cond.instanceMethod ({ cls := "PromiseRoofs", name := "bodyOf", desc := "(I)LPromiseRoofs$Storey;" } : Jvm.MethodName)) ∈ lw_all := lw_g (lw_at lw_m5 6 rfl) rfl
theorem q1066 : (Jvm.Cond.code ({ cls := "PromiseRoofs", name := "bodyOf", desc := "(I)LPromiseRoofs$Storey;" } : Jvm.MethodName) prog_1_method_74_code (2 : Nat) (Option.some (Jvm.ClassFile.FieldType.object "PromiseRoofs$Storey"))) ∈ lw_all := lw_g (lw_at lw_m5 7 rfl) rfl
theorem q1067 : (Jvm.Cond.classLink "PromiseRoofs" (395 : Nat) "PromiseRoofs$Attic") ∈ lw_all := lw_g (lw_at lw_m5 8 rfl) rfl
theorem q1069 : (Jvm.Cond.methodLink "PromiseRoofs" (397 : Nat) ({ cls := "PromiseRoofs$Attic", name := "<init>", desc := "(LPromiseRoofs;I)V" } : Jvm.MethodName)) ∈ lw_all := lw_g (lw_at lw_m5 10 rfl) rfl
theorem q1089 : (Jvm.Cond.classLink "PromiseRoofs" (400 : Nat) "PromiseRoofs$Cellar") ∈ lw_all := lw_g (lw_at lw_m5 30 rfl) rfl
theorem q1091 : (Jvm.Cond.methodLink "PromiseRoofs" (402 : Nat) ({ cls := "PromiseRoofs$Cellar", name := "<init>", desc := "(LPromiseRoofs;I)V" } : Jvm.MethodName)) ∈ lw_all := lw_g (lw_at lw_m5 32 rfl) rfl
theorem q1101 : (Jvm.Cond.classLink "PromiseRoofs" (403 : Nat) "PromiseRoofs$Tower") ∈ lw_all := lw_g (lw_at lw_m5 42 rfl) rfl
theorem q1103 : (Jvm.Cond.methodLink "PromiseRoofs" (405 : Nat) ({ cls := "PromiseRoofs$Tower", name := "<init>", desc := "(LPromiseRoofs;I)V" } : Jvm.MethodName)) ∈ lw_all := lw_g (lw_at lw_m5 44 rfl) rfl
theorem q1114 : (Jvm.Cond.classLink "PromiseRoofs" (406 : Nat) "PromiseRoofs$Widow") ∈ lw_all := lw_g (lw_at lw_m5 55 rfl) rfl
theorem q1116 : (Jvm.Cond.methodLink "PromiseRoofs" (408 : Nat) ({ cls := "PromiseRoofs$Widow", name := "<init>", desc := "(LPromiseRoofs;I)V" } : Jvm.MethodName)) ∈ lw_all := lw_g (lw_at lw_m5 57 rfl) rfl
theorem q1127 : (Jvm.Cond.classLink "PromiseRoofs" (409 : Nat) "PromiseRoofs$Saint") ∈ lw_all := lw_g (lw_at lw_m5 68 rfl) rfl
theorem q1129 : (Jvm.Cond.methodLink "PromiseRoofs" (411 : Nat) ({ cls := "PromiseRoofs$Saint", name := "<init>", desc := "(LPromiseRoofs;I)V" } : Jvm.MethodName)) ∈ lw_all := lw_g (lw_at lw_m5 70 rfl) rfl
theorem q1141 : (Jvm.Cond.classLink "PromiseRoofs" (412 : Nat) "PromiseRoofs$Pole") ∈ lw_all := lw_g (lw_at lw_m5 82 rfl) rfl
theorem q1143 : (Jvm.Cond.methodLink "PromiseRoofs" (414 : Nat) ({ cls := "PromiseRoofs$Pole", name := "<init>", desc := "(LPromiseRoofs;I)V" } : Jvm.MethodName)) ∈ lw_all := lw_g (lw_at lw_m5 84 rfl) rfl
theorem q1153 : (Jvm.Cond.classLink "PromiseRoofs" (415 : Nat) "PromiseRoofs$Potter") ∈ lw_all := lw_g (lw_at lw_m5 94 rfl) rfl
theorem q1155 : (Jvm.Cond.methodLink "PromiseRoofs" (417 : Nat) ({ cls := "PromiseRoofs$Potter", name := "<init>", desc := "(LPromiseRoofs;I)V" } : Jvm.MethodName)) ∈ lw_all := lw_g (lw_at lw_m5 96 rfl) rfl
theorem q1168 : (Jvm.Cond.methodLink "PromiseRoofs" (418 : Nat) ({ cls := "PromiseRoofs$Storey", name := "<init>", desc := "(LPromiseRoofs;I)V" } : Jvm.MethodName)) ∈ lw_all := lw_g (lw_at lw_m5 109 rfl) rfl
theorem q1173 : (Jvm.Cond.instanceMethod ({ cls := "PromiseRoofs", name := "act", desc := "(III)I" } : Jvm.MethodName)) ∈ lw_all := lw_g (lw_at lw_m5 114 rfl) rfl
theorem q1174 : (Jvm.Cond.selects "PromiseRoofs" ({ cls := "PromiseRoofs", name := "act", desc := "(III)I" } : Jvm.MethodName) ({ cls := "PromiseRoofs", name := "act", desc := "(III)I" } : Jvm.MethodName)) ∈ lw_all := lw_g (lw_at lw_m5 115 rfl) rfl
theorem q1175 : (Jvm.Cond.code ({ cls := "PromiseRoofs", name := "act", desc := "(III)I" } : Jvm.MethodName) prog_1_method_77_code (6 : Nat) (Option.some Jvm.ClassFile.FieldType.int)) ∈ lw_all := lw_g (lw_at lw_m5 116 rfl) rfl
theorem q1176 : (Jvm.Cond.methodLink "PromiseRoofs" (423 : Nat) ({ cls := "PromiseRoofs", name := "isBody", desc := "(I)Z" } : Jvm.MethodName)) ∈ lw_all := lw_g (lw_at lw_m5 117 rfl) rfl
theorem q1177 : (Jvm.Cond.privateMethod ({ cls := "PromiseRoofs", name := "isBody", desc := "(I)Z" } : Jvm.MethodName)) ∈ lw_tbl := lw_at lw_m5 118 rfl
theorem q1178 : (Jvm.Cond.instanceMethod ({ cls := "PromiseRoofs", name := "isBody", desc := "(I)Z" } : Jvm.MethodName)) ∈ lw_all := lw_g (lw_at lw_m5 119 rfl) rfl
theorem q1179 : (Jvm.Cond.code ({ cls := "PromiseRoofs", name := "isBody", desc := "(I)Z" } : Jvm.MethodName) prog_1_method_73_code (2 : Nat) (Option.some Jvm.ClassFile.FieldType.boolean)) ∈ lw_all := lw_g (lw_at lw_m5 120 rfl) rfl
theorem q1180 : (Jvm.Cond.interfaceEntry "PromiseRoofs" (426 : Nat)) ∈ lw_tbl := lw_at lw_m5 121 rfl
theorem q1181 : (Jvm.Cond.methodLink "PromiseRoofs" (426 : Nat) ({ cls := "PromiseRoofs$Swears", name := "swears", desc := "(I)I" } : Jvm.MethodName)) ∈ lw_all := lw_g (lw_at lw_m5 122 rfl) rfl
theorem q1191 : (Jvm.Cond.privateMethod ({ cls := "PromiseRoofs", name := "ran", desc := "(I)V" } : Jvm.MethodName)) ∈ lw_tbl := lw_at lw_m5 132 rfl
theorem q1192 : (Jvm.Cond.instanceMethod ({ cls := "PromiseRoofs", name := "ran", desc := "(I)V" } : Jvm.MethodName)) ∈ lw_all := lw_g (lw_at lw_m5 133 rfl) rfl
theorem q1193 : (Jvm.Cond.code ({ cls := "PromiseRoofs", name := "ran", desc := "(I)V" } : Jvm.MethodName) prog_1_method_72_code (2 : Nat) (Option.none : Option Jvm.ClassFile.FieldType)) ∈ lw_all := lw_g (lw_at lw_m5 134 rfl) rfl
theorem q1225 : (Jvm.Cond.interfaceEntry "PromiseRoofs" (431 : Nat)) ∈ lw_tbl := lw_at lw_m5 166 rfl
theorem q1226 : (Jvm.Cond.methodLink "PromiseRoofs" (431 : Nat) ({ cls := "PromiseRoofs$Tells", name := "tells", desc := "(I)I" } : Jvm.MethodName)) ∈ lw_all := lw_g (lw_at lw_m5 167 rfl) rfl
theorem q1317 : (Jvm.Cond.methodLink "PromiseRoofs" (436 : Nat) ({ cls := "PromiseRoofs$Storey", name := "builds", desc := "(I)I" } : Jvm.MethodName)) ∈ lw_all := lw_g (lw_at lw_m6 18 rfl) rfl
theorem q1318 : (Jvm.Cond.methodLink "PromiseRoofs" (439 : Nat) ({ cls := "PromiseRoofs$Storey", name := "comesDown", desc := "(I)I" } : Jvm.MethodName)) ∈ lw_all := lw_g (lw_at lw_m6 19 rfl) rfl
theorem q1320 : (Jvm.Cond.instanceMethod ({ cls := "PromiseRoofs", name := "trace", desc := "(I)I" } : Jvm.MethodName)) ∈ lw_all := lw_g (lw_at lw_m6 21 rfl) rfl
theorem q1321 : (Jvm.Cond.selects "PromiseRoofs" ({ cls := "PromiseRoofs", name := "trace", desc := "(I)I" } : Jvm.MethodName) ({ cls := "PromiseRoofs", name := "trace", desc := "(I)I" } : Jvm.MethodName)) ∈ lw_all := lw_g (lw_at lw_m6 22 rfl) rfl
theorem q1322 : (Jvm.Cond.code ({ cls := "PromiseRoofs", name := "trace", desc := "(I)I" } : Jvm.MethodName) prog_1_method_78_code (2 : Nat) (Option.some Jvm.ClassFile.FieldType.int)) ∈ lw_all := lw_g (lw_at lw_m6 23 rfl) rfl
theorem q1324 : (Jvm.Cond.instanceMethod ({ cls := "PromiseRoofs", name := "keep", desc := "(II)I" } : Jvm.MethodName)) ∈ lw_all := lw_g (lw_at lw_m6 25 rfl) rfl
theorem q1325 : (Jvm.Cond.selects "PromiseRoofs" ({ cls := "PromiseRoofs", name := "keep", desc := "(II)I" } : Jvm.MethodName) ({ cls := "PromiseRoofs", name := "keep", desc := "(II)I" } : Jvm.MethodName)) ∈ lw_all := lw_g (lw_at lw_m6 26 rfl) rfl
theorem q1326 : (Jvm.Cond.code ({ cls := "PromiseRoofs", name := "keep", desc := "(II)I" } : Jvm.MethodName) prog_1_method_79_code (3 : Nat) (Option.some Jvm.ClassFile.FieldType.int)) ∈ lw_all := lw_g (lw_at lw_m6 27 rfl) rfl
theorem q1328 : (Jvm.Cond.instanceMethod ({ cls := "PromiseRoofs", name := "row", desc := "(III)I" } : Jvm.MethodName)) ∈ lw_all := lw_g (lw_at lw_m6 29 rfl) rfl
theorem q1329 : (Jvm.Cond.selects "PromiseRoofs" ({ cls := "PromiseRoofs", name := "row", desc := "(III)I" } : Jvm.MethodName) ({ cls := "PromiseRoofs", name := "row", desc := "(III)I" } : Jvm.MethodName)) ∈ lw_all := lw_g (lw_at lw_m6 30 rfl) rfl
theorem q1330 : (Jvm.Cond.codeWith ({ cls := "PromiseRoofs", name := "row", desc := "(III)I" } : Jvm.MethodName) prog_1_method_81_code (5 : Nat) (Option.some Jvm.ClassFile.FieldType.int) [((24 : Nat), (35 : Nat), (38 : Nat), (459 : Nat))]) ∈ lw_all := lw_g (lw_at lw_m6 31 rfl) rfl
theorem q1331 : (Jvm.Cond.classLink "PromiseRoofs" (459 : Nat) "java/lang/NegativeArraySizeException") ∈ lw_all := lw_g (lw_at lw_m6 32 rfl) rfl
theorem q1345 : (Jvm.Cond.methodLink "PromiseRoofs" (455 : Nat) ({ cls := "PromiseRoofs", name := "newRow", desc := "(II)LPromiseRoofs$Row;" } : Jvm.MethodName)) ∈ lw_all := lw_g (lw_at lw_m6 46 rfl) rfl
theorem q1346 : (Jvm.Cond.static ({ cls := "PromiseRoofs", name := "newRow", desc := "(II)LPromiseRoofs$Row;" } : Jvm.MethodName)) ∈ lw_all := lw_g (lw_at lw_m6 47 rfl) rfl
theorem q1347 : (Jvm.Cond.code ({ cls := "PromiseRoofs", name := "newRow", desc := "(II)LPromiseRoofs$Row;" } : Jvm.MethodName) prog_1_method_80_code (2 : Nat) (Option.some (Jvm.ClassFile.FieldType.object "PromiseRoofs$Row"))) ∈ lw_all := lw_g (lw_at lw_m6 48 rfl) rfl
theorem q1349 : (Jvm.Cond.methodLink "PromiseRoofs" (442 : Nat) ({ cls := "PromiseRoofs$ByteRow", name := "<init>", desc := "(I)V" } : Jvm.MethodName)) ∈ lw_all := lw_g (lw_at lw_m6 50 rfl) rfl
theorem q1360 : (Jvm.Cond.classLink "PromiseRoofs" (443 : Nat) "PromiseRoofs$ShortRow") ∈ lw_all := lw_g (lw_at lw_m6 61 rfl) rfl
theorem q1362 : (Jvm.Cond.methodLink "PromiseRoofs" (445 : Nat) ({ cls := "PromiseRoofs$ShortRow", name := "<init>", desc := "(I)V" } : Jvm.MethodName)) ∈ lw_all := lw_g (lw_at lw_m6 63 rfl) rfl
theorem q1371 : (Jvm.Cond.classLink "PromiseRoofs" (446 : Nat) "PromiseRoofs$IntRow") ∈ lw_all := lw_g (lw_at lw_m6 72 rfl) rfl
theorem q1373 : (Jvm.Cond.methodLink "PromiseRoofs" (448 : Nat) ({ cls := "PromiseRoofs$IntRow", name := "<init>", desc := "(I)V" } : Jvm.MethodName)) ∈ lw_all := lw_g (lw_at lw_m6 74 rfl) rfl
theorem q1381 : (Jvm.Cond.classLink "PromiseRoofs" (449 : Nat) "PromiseRoofs$LongRow") ∈ lw_all := lw_g (lw_at lw_m6 82 rfl) rfl
theorem q1383 : (Jvm.Cond.methodLink "PromiseRoofs" (451 : Nat) ({ cls := "PromiseRoofs$LongRow", name := "<init>", desc := "(I)V" } : Jvm.MethodName)) ∈ lw_all := lw_g (lw_at lw_m6 84 rfl) rfl
theorem q1392 : (Jvm.Cond.classLink "PromiseRoofs" (452 : Nat) "PromiseRoofs$BooleanRow") ∈ lw_all := lw_g (lw_at lw_m6 93 rfl) rfl
theorem q1394 : (Jvm.Cond.methodLink "PromiseRoofs" (454 : Nat) ({ cls := "PromiseRoofs$BooleanRow", name := "<init>", desc := "(I)V" } : Jvm.MethodName)) ∈ lw_all := lw_g (lw_at lw_m6 95 rfl) rfl
theorem q1404 : (Jvm.Cond.instanceMethod ({ cls := "PromiseRoofs", name := "put", desc := "(IIJ)I" } : Jvm.MethodName)) ∈ lw_all := lw_g (lw_at lw_m6 105 rfl) rfl
theorem q1405 : (Jvm.Cond.selects "PromiseRoofs" ({ cls := "PromiseRoofs", name := "put", desc := "(IIJ)I" } : Jvm.MethodName) ({ cls := "PromiseRoofs", name := "put", desc := "(IIJ)I" } : Jvm.MethodName)) ∈ lw_all := lw_g (lw_at lw_m6 106 rfl) rfl
theorem q1406 : (Jvm.Cond.codeWith ({ cls := "PromiseRoofs", name := "put", desc := "(IIJ)I" } : Jvm.MethodName) prog_1_method_82_code (6 : Nat) (Option.some Jvm.ClassFile.FieldType.int) [((9 : Nat), (31 : Nat), (32 : Nat), (109 : Nat)), ((9 : Nat), (31 : Nat), (37 : Nat), (107 : Nat)), ((9 : Nat), (31 : Nat), (42 : Nat), (111 : Nat))]) ∈ lw_all := lw_g (lw_at lw_m6 107 rfl) rfl
theorem q1407 : (Jvm.Cond.classLink "PromiseRoofs" (461 : Nat) "PromiseRoofs$Row") ∈ lw_all := lw_g (lw_at lw_m6 108 rfl) rfl
theorem q1408 : (Jvm.Cond.methodLink "PromiseRoofs" (463 : Nat) ({ cls := "PromiseRoofs$Row", name := "put", desc := "(IJ)Z" } : Jvm.MethodName)) ∈ lw_all := lw_g (lw_at lw_m6 109 rfl) rfl
theorem q1427 : (Jvm.Cond.instanceMethod ({ cls := "PromiseRoofs", name := "element", desc := "(II)J" } : Jvm.MethodName)) ∈ lw_all := lw_g (lw_at lw_m6 128 rfl) rfl
theorem q1428 : (Jvm.Cond.selects "PromiseRoofs" ({ cls := "PromiseRoofs", name := "element", desc := "(II)J" } : Jvm.MethodName) ({ cls := "PromiseRoofs", name := "element", desc := "(II)J" } : Jvm.MethodName)) ∈ lw_all := lw_g (lw_at lw_m6 129 rfl) rfl
theorem q1429 : (Jvm.Cond.codeWith ({ cls := "PromiseRoofs", name := "element", desc := "(II)J" } : Jvm.MethodName) prog_1_method_83_code (4 : Nat) (Option.some Jvm.ClassFile.FieldType.long) [((11 : Nat), (24 : Nat), (25 : Nat), (109 : Nat)), ((11 : Nat), (24 : Nat), (30 : Nat), (107 : Nat)), ((11 : Nat), (24 : Nat), (35 : Nat), (111 : Nat))]) ∈ lw_all := lw_g (lw_at lw_m6 130 rfl) rfl
theorem q1430 : (Jvm.Cond.constantLong "PromiseRoofs" (469 : Nat) (-9223372036854775808 : Int64)) ∈ lw_all := lw_g (lw_at lw_m6 131 rfl) rfl
theorem q1431 : (Jvm.Cond.methodLink "PromiseRoofs" (471 : Nat) ({ cls := "PromiseRoofs$Row", name := "at", desc := "(I)J" } : Jvm.MethodName)) ∈ lw_all := lw_g (lw_at lw_m6 132 rfl) rfl
theorem q1448 : (Jvm.Cond.instanceMethod ({ cls := "PromiseRoofs", name := "shift", desc := "(IIIII)I" } : Jvm.MethodName)) ∈ lw_all := lw_g (lw_at lw_m6 149 rfl) rfl
theorem q1449 : (Jvm.Cond.selects "PromiseRoofs" ({ cls := "PromiseRoofs", name := "shift", desc := "(IIIII)I" } : Jvm.MethodName) ({ cls := "PromiseRoofs", name := "shift", desc := "(IIIII)I" } : Jvm.MethodName)) ∈ lw_all := lw_g (lw_at lw_m6 150 rfl) rfl
theorem q1450 : (Jvm.Cond.codeWith ({ cls := "PromiseRoofs", name := "shift", desc := "(IIIII)I" } : Jvm.MethodName) prog_1_method_84_code (7 : Nat) (Option.some Jvm.ClassFile.FieldType.int) [((37 : Nat), (63 : Nat), (66 : Nat), (107 : Nat)), ((37 : Nat), (63 : Nat), (71 : Nat), (111 : Nat))]) ∈ lw_all := lw_g (lw_at lw_m6 151 rfl) rfl
theorem q1451 : (Jvm.Cond.methodLink "PromiseRoofs" (472 : Nat) ({ cls := "PromiseRoofs$Row", name := "copy", desc := "(ILPromiseRoofs$Row;II)V" } : Jvm.MethodName)) ∈ lw_all := lw_g (lw_at lw_m6 152 rfl) rfl
theorem q1482 : (Jvm.Cond.instanceMethod ({ cls := "PromiseRoofs", name := "taken", desc := "(II)I" } : Jvm.MethodName)) ∈ lw_all := lw_g (lw_at lw_m6 183 rfl) rfl
theorem q1483 : (Jvm.Cond.selects "PromiseRoofs" ({ cls := "PromiseRoofs", name := "taken", desc := "(II)I" } : Jvm.MethodName) ({ cls := "PromiseRoofs", name := "taken", desc := "(II)I" } : Jvm.MethodName)) ∈ lw_all := lw_g (lw_at lw_m6 184 rfl) rfl
theorem q1484 : (Jvm.Cond.codeWith ({ cls := "PromiseRoofs", name := "taken", desc := "(II)I" } : Jvm.MethodName) prog_1_method_85_code (4 : Nat) (Option.some Jvm.ClassFile.FieldType.int) [((19 : Nat), (46 : Nat), (47 : Nat), (109 : Nat)), ((19 : Nat), (46 : Nat), (51 : Nat), (107 : Nat))]) ∈ lw_all := lw_g (lw_at lw_m6 185 rfl) rfl
theorem q1485 : (Jvm.Cond.methodLink "PromiseRoofs" (476 : Nat) ({ cls := "PromiseRoofs$Storey", name := "isUnder", desc := "(I)Z" } : Jvm.MethodName)) ∈ lw_all := lw_g (lw_at lw_m6 186 rfl) rfl
theorem q1535 : (Jvm.Cond.methodLink "PromiseRoofs" (479 : Nat) ({ cls := "PromiseRoofs$Storey", name := "kind", desc := "()I" } : Jvm.MethodName)) ∈ lw_all := lw_g (lw_at lw_m6 236 rfl) rfl
theorem q1537 : (Jvm.Cond.instanceMethod ({ cls := "PromiseRoofs", name := "count", desc := "(I)I" } : Jvm.MethodName)) ∈ lw_all := lw_g (lw_at lw_m6 238 rfl) rfl
theorem q1538 : (Jvm.Cond.selects "PromiseRoofs" ({ cls := "PromiseRoofs", name := "count", desc := "(I)I" } : Jvm.MethodName) ({ cls := "PromiseRoofs", name := "count", desc := "(I)I" } : Jvm.MethodName)) ∈ lw_all := lw_g (lw_at lw_m6 239 rfl) rfl
theorem q1539 : (Jvm.Cond.code ({ cls := "PromiseRoofs", name := "count", desc := "(I)I" } : Jvm.MethodName) prog_1_method_86_code (2 : Nat) (Option.some Jvm.ClassFile.FieldType.int)) ∈ lw_all := lw_g (lw_at lw_m7 0 rfl) rfl
theorem in_X0 : ∀ w ∈ wsX00, w ∈ lw_all := lw_in wsX00 [217, 219, 221, 223, 225, 227, 229, 231, 233, 235, 237, 239, 241, 243, 245, 247, 249, 251, 253, 255, 257, 259, 261, 263, 265, 267, 269, 271, 273, 275, 277, 279, 281, 283, 285, 287, 289, 291] (by decide +kernel) (by decide +kernel)
/-! PromiseRoofs$Facts -/
def RX1 : String := "PromiseRoofs$Facts"
def TX1 : u_T := fun k => match k with
  | _ => ("PromiseRoofs$Facts", "named", "[I", true)
def tyX1 : Nat → FieldType := fun k => match k with
  | _ => .array .int
abbrev wsX10 : List Cond := u_ws RX1 TX1 1
theorem nmX1 : ∀ a, a < 1 → ∀ b, b < 1 → a ≠ b → (TX1 a).2.1 ≠ (TX1 b).2.1 := by decide +kernel
theorem tyX1_ok : ∀ k, k < 1 → parseFieldDescriptor (TX1 k).2.2.1 = some (tyX1 k) := by decide +kernel
abbrev cX1_init : ByteArray := prog_8_method_1_code
def yX1_init : MethodName := ⟨RX1, "<init>", "()V"⟩
abbrev cX1_clear : ByteArray := prog_8_method_2_code
def yX1_clear : MethodName := ⟨RX1, "clear", "()V"⟩
theorem q101 : (Jvm.Cond.initialized "PromiseRoofs$Facts") ∈ lw_all := lw_g (lw_at lw_m1 2 rfl) rfl
theorem q160 : (Jvm.Cond.instantiable "PromiseRoofs$Facts" (1 : Nat)) ∈ lw_all := lw_g (lw_at lw_m1 61 rfl) rfl
theorem q162 : (Jvm.Cond.instanceMethod ({ cls := "PromiseRoofs$Facts", name := "<init>", desc := "()V" } : Jvm.MethodName)) ∈ lw_all := lw_g (lw_at lw_m1 63 rfl) rfl
theorem q163 : (Jvm.Cond.code ({ cls := "PromiseRoofs$Facts", name := "<init>", desc := "()V" } : Jvm.MethodName) prog_8_method_1_code (1 : Nat) (Option.none : Option Jvm.ClassFile.FieldType)) ∈ lw_all := lw_g (lw_at lw_m1 64 rfl) rfl
theorem q164 : (Jvm.Cond.methodLink "PromiseRoofs$Facts" (1 : Nat) ({ cls := "java/lang/Object", name := "<init>", desc := "()V" } : Jvm.MethodName)) ∈ lw_all := lw_g (lw_at lw_m1 65 rfl) rfl
theorem q165 : (Jvm.Cond.fieldLink "PromiseRoofs$Facts" (7 : Nat) "PromiseRoofs$Facts" "named" "[I") ∈ lw_all := lw_g (lw_at lw_m1 66 rfl) rfl
theorem q168 : (Jvm.Cond.laysFinal "PromiseRoofs$Facts" "PromiseRoofs$Facts" "named" "[I") ∈ lw_all := lw_g (lw_at lw_m1 69 rfl) rfl
theorem q169 : (Jvm.Cond.soleField "PromiseRoofs$Facts" "named") ∈ lw_all := lw_g (lw_at lw_m1 70 rfl) rfl
theorem q170 : (Jvm.Cond.superclass "PromiseRoofs$Facts" "java/lang/Object") ∈ lw_all := lw_g (lw_at lw_m1 71 rfl) rfl
theorem q825 : (Jvm.Cond.instanceMethod ({ cls := "PromiseRoofs$Facts", name := "clear", desc := "()V" } : Jvm.MethodName)) ∈ lw_all := lw_g (lw_at lw_m4 6 rfl) rfl
theorem q826 : (Jvm.Cond.selects "PromiseRoofs$Facts" ({ cls := "PromiseRoofs$Facts", name := "clear", desc := "()V" } : Jvm.MethodName) ({ cls := "PromiseRoofs$Facts", name := "clear", desc := "()V" } : Jvm.MethodName)) ∈ lw_all := lw_g (lw_at lw_m4 7 rfl) rfl
theorem q827 : (Jvm.Cond.code ({ cls := "PromiseRoofs$Facts", name := "clear", desc := "()V" } : Jvm.MethodName) prog_8_method_2_code (2 : Nat) (Option.none : Option Jvm.ClassFile.FieldType)) ∈ lw_all := lw_g (lw_at lw_m4 8 rfl) rfl
theorem in_X1 : ∀ w ∈ wsX10, w ∈ lw_all := lw_in wsX10 [168] (by decide +kernel) (by decide +kernel)
/-! PromiseRoofsModel -/
def RX2 : String := "PromiseRoofsModel"
def TX2 : u_T := fun k => match k with
  | 0 => ("PromiseRoofsModel", "owners", "I", false)
  | 1 => ("PromiseRoofsModel", "money", "[I", true)
  | 2 => ("PromiseRoofsModel", "many", "I", false)
  | 3 => ("PromiseRoofsModel", "ways", "[I", true)
  | 4 => ("PromiseRoofsModel", "by", "[I", true)
  | 5 => ("PromiseRoofsModel", "to", "[I", true)
  | 6 => ("PromiseRoofsModel", "today", "I", false)
  | 7 => ("PromiseRoofsModel", "taped", "I", false)
  | 8 => ("PromiseRoofsModel", "tape", "[I", true)
  | 9 => ("PromiseRoofsModel", "isTold", "Z", false)
  | 10 => ("PromiseRoofsModel", "lines", "I", false)
  | 11 => ("PromiseRoofsModel", "asks", "[I", true)
  | 12 => ("PromiseRoofsModel", "says", "[I", true)
  | 13 => ("PromiseRoofsModel", "ends", "[I", true)
  | 14 => ("PromiseRoofsModel", "code", "[I", true)
  | 15 => ("PromiseRoofsModel", "at", "I", false)
  | 16 => ("PromiseRoofsModel", "open", "I", false)
  | 17 => ("PromiseRoofsModel", "coded", "I", false)
  | 18 => ("PromiseRoofsModel", "newLines", "I", false)
  | 19 => ("PromiseRoofsModel", "newAsks", "[I", true)
  | 20 => ("PromiseRoofsModel", "newSays", "[I", true)
  | 21 => ("PromiseRoofsModel", "newEnds", "[I", true)
  | 22 => ("PromiseRoofsModel", "newCode", "[I", true)
  | 23 => ("PromiseRoofsModel", "stack", "[I", true)
  | 24 => ("PromiseRoofsModel", "names", "[I", true)
  | 25 => ("PromiseRoofsModel", "led", "[I", true)
  | 26 => ("PromiseRoofsModel", "imaged", "Z", false)
  | 27 => ("PromiseRoofsModel", "oldOwners", "I", false)
  | 28 => ("PromiseRoofsModel", "oldMany", "I", false)
  | 29 => ("PromiseRoofsModel", "old", "[I", true)
  | 30 => ("PromiseRoofsModel", "oldLed", "[I", true)
  | 31 => ("PromiseRoofsModel", "changes", "I", false)
  | 32 => ("PromiseRoofsModel", "done", "I", false)
  | 33 => ("PromiseRoofsModel", "changed", "[I", true)
  | 34 => ("PromiseRoofsModel", "bodies", "I", false)
  | 35 => ("PromiseRoofsModel", "bodyKind", "[I", true)
  | 36 => ("PromiseRoofsModel", "traced", "I", false)
  | 37 => ("PromiseRoofsModel", "traces", "[I", true)
  | 38 => ("PromiseRoofsModel", "holding", "[I", true)
  | 39 => ("PromiseRoofsModel", "rowLength", "[I", true)
  | 40 => ("PromiseRoofsModel", "rowOf", "[J", true)
  | _ => ("PromiseRoofsModel", "begun", "[I", true)
def tyX2 : Nat → FieldType := fun k => match k with
  | 0 => .int
  | 1 => .array .int
  | 2 => .int
  | 3 => .array .int
  | 4 => .array .int
  | 5 => .array .int
  | 6 => .int
  | 7 => .int
  | 8 => .array .int
  | 9 => .boolean
  | 10 => .int
  | 11 => .array .int
  | 12 => .array .int
  | 13 => .array .int
  | 14 => .array .int
  | 15 => .int
  | 16 => .int
  | 17 => .int
  | 18 => .int
  | 19 => .array .int
  | 20 => .array .int
  | 21 => .array .int
  | 22 => .array .int
  | 23 => .array .int
  | 24 => .array .int
  | 25 => .array .int
  | 26 => .boolean
  | 27 => .int
  | 28 => .int
  | 29 => .array .int
  | 30 => .array .int
  | 31 => .int
  | 32 => .int
  | 33 => .array .int
  | 34 => .int
  | 35 => .array .int
  | 36 => .int
  | 37 => .array .int
  | 38 => .array .int
  | 39 => .array .int
  | 40 => .array .long
  | _ => .array .int
abbrev wsX20 : List Cond := u_ws RX2 TX2 42
set_option maxRecDepth 100000 in
theorem nmX2 : ∀ a, a < 42 → ∀ b, b < 42 → a ≠ b → (TX2 a).2.1 ≠ (TX2 b).2.1 := by decide +kernel
set_option maxRecDepth 100000 in
theorem tyX2_ok : ∀ k, k < 42 → parseFieldDescriptor (TX2 k).2.2.1 = some (tyX2 k) := by decide +kernel
abbrev cX2_init : ByteArray := prog_32_method_1_code
def yX2_init : MethodName := ⟨RX2, "<init>", "()V"⟩
abbrev cX2_owner : ByteArray := prog_32_method_6_code
def yX2_owner : MethodName := ⟨RX2, "owner", "(I)I"⟩
abbrev cX2_within : ByteArray := prog_32_method_2_code
def yX2_within : MethodName := ⟨RX2, "within", "(III)Z"⟩
abbrev cX2_promise : ByteArray := prog_32_method_10_code
def yX2_promise : MethodName := ⟨RX2, "promise", "(III)I"⟩
abbrev cX2_isSuch : ByteArray := prog_32_method_7_code
def yX2_isSuch : MethodName := ⟨RX2, "isSuch", "(IIII)Z"⟩
abbrev cX2_isOwner : ByteArray := prog_32_method_3_code
def yX2_isOwner : MethodName := ⟨RX2, "isOwner", "(I)Z"⟩
abbrev cX2_newOne : ByteArray := prog_32_method_9_code
def yX2_newOne : MethodName := ⟨RX2, "newOne", "(IIII)I"⟩
abbrev cX2_becomesOne : ByteArray := prog_32_method_8_code
def yX2_becomesOne : MethodName := ⟨RX2, "becomesOne", "(IIIIII)V"⟩
abbrev cX2_promises : ByteArray := prog_32_method_11_code
def yX2_promises : MethodName := ⟨RX2, "promises", "(III)I"⟩
abbrev cX2_isShelf : ByteArray := prog_32_method_5_code
def yX2_isShelf : MethodName := ⟨RX2, "isShelf", "(I)Z"⟩
abbrev cX2_toldAt : ByteArray := prog_32_method_12_code
def yX2_toldAt : MethodName := ⟨RX2, "toldAt", "(II)I"⟩
abbrev cX2_mend : ByteArray := prog_32_method_17_code
def yX2_mend : MethodName := ⟨RX2, "mend", "(III)I"⟩
abbrev cX2_isOf : ByteArray := prog_32_method_13_code
def yX2_isOf : MethodName := ⟨RX2, "isOf", "(II)Z"⟩
abbrev cX2_isOne : ByteArray := prog_32_method_4_code
def yX2_isOne : MethodName := ⟨RX2, "isOne", "(I)Z"⟩
abbrev cX2_isFit : ByteArray := prog_32_method_14_code
def yX2_isFit : MethodName := ⟨RX2, "isFit", "(II)Z"⟩
abbrev cX2_get : ByteArray := prog_32_method_15_code
def yX2_get : MethodName := ⟨RX2, "get", "(II)I"⟩
abbrev cX2_becomes : ByteArray := prog_32_method_16_code
def yX2_becomes : MethodName := ⟨RX2, "becomes", "(III)V"⟩
abbrev cX2_of : ByteArray := prog_32_method_18_code
def yX2_of : MethodName := ⟨RX2, "of", "(II)I"⟩
abbrev cX2_undo : ByteArray := prog_32_method_19_code
def yX2_undo : MethodName := ⟨RX2, "undo", "()I"⟩
abbrev cX2_redo : ByteArray := prog_32_method_20_code
def yX2_redo : MethodName := ⟨RX2, "redo", "()I"⟩
abbrev cX2_feed : ByteArray := prog_32_method_21_code
def yX2_feed : MethodName := ⟨RX2, "feed", "(I)I"⟩
abbrev cX2_law : ByteArray := prog_32_method_34_code
def yX2_law : MethodName := ⟨RX2, "law", "()I"⟩
abbrev cX2_isLine : ByteArray := prog_32_method_33_code
def yX2_isLine : MethodName := ⟨RX2, "isLine", "()Z"⟩
abbrev cX2_isE : ByteArray := prog_32_method_32_code
def yX2_isE : MethodName := ⟨RX2, "isE", "()Z"⟩
abbrev cX2_isA : ByteArray := prog_32_method_31_code
def yX2_isA : MethodName := ⟨RX2, "isA", "()Z"⟩
abbrev cX2_isB : ByteArray := prog_32_method_30_code
def yX2_isB : MethodName := ⟨RX2, "isB", "()Z"⟩
abbrev cX2_isS : ByteArray := prog_32_method_29_code
def yX2_isS : MethodName := ⟨RX2, "isS", "()Z"⟩
abbrev cX2_isP : ByteArray := prog_32_method_28_code
def yX2_isP : MethodName := ⟨RX2, "isP", "()Z"⟩
abbrev cX2_isO : ByteArray := prog_32_method_27_code
def yX2_isO : MethodName := ⟨RX2, "isO", "()Z"⟩
abbrev cX2_isDigit : ByteArray := prog_32_method_25_code
def yX2_isDigit : MethodName := ⟨RX2, "isDigit", "()Z"⟩
abbrev cX2_sign : ByteArray := prog_32_method_22_code
def yX2_sign : MethodName := ⟨RX2, "sign", "()I"⟩
abbrev cX2_codes : ByteArray := prog_32_method_24_code
def yX2_codes : MethodName := ⟨RX2, "codes", "(I)Z"⟩
abbrev cX2_nameOf : ByteArray := prog_32_method_26_code
def yX2_nameOf : MethodName := ⟨RX2, "nameOf", "(I)I"⟩
abbrev cX2_is : ByteArray := prog_32_method_23_code
def yX2_is : MethodName := ⟨RX2, "is", "(I)Z"⟩
abbrev cX2_storeys : ByteArray := prog_32_method_41_code
def yX2_storeys : MethodName := ⟨RX2, "storeys", "(I)I"⟩
abbrev cX2_storeysOf : ByteArray := prog_32_method_40_code
def yX2_storeysOf : MethodName := ⟨RX2, "storeysOf", "(I)I"⟩
abbrev cX2_isOpen : ByteArray := prog_32_method_37_code
def yX2_isOpen : MethodName := ⟨RX2, "isOpen", "(I)Z"⟩
abbrev cX2_byLaw : ByteArray := prog_32_method_39_code
def yX2_byLaw : MethodName := ⟨RX2, "byLaw", "(I)I"⟩
abbrev cX2_isHis : ByteArray := prog_32_method_38_code
def yX2_isHis : MethodName := ⟨RX2, "isHis", "(II)Z"⟩
abbrev cX2_worked : ByteArray := prog_32_method_36_code
def yX2_worked : MethodName := ⟨RX2, "worked", "(II)I"⟩
abbrev cX2_both : ByteArray := prog_32_method_35_code
def yX2_both : MethodName := ⟨RX2, "both", "(III)I"⟩
abbrev cX2_high : ByteArray := prog_32_method_46_code
def yX2_high : MethodName := ⟨RX2, "high", "(II)I"⟩
abbrev cX2_ahead : ByteArray := prog_32_method_45_code
def yX2_ahead : MethodName := ⟨RX2, "ahead", "(I)I"⟩
abbrev cX2_allHigh : ByteArray := prog_32_method_44_code
def yX2_allHigh : MethodName := ⟨RX2, "allHigh", "()I"⟩
abbrev cX2_highOf : ByteArray := prog_32_method_43_code
def yX2_highOf : MethodName := ⟨RX2, "highOf", "(I)I"⟩
abbrev cX2_roofOf : ByteArray := prog_32_method_42_code
def yX2_roofOf : MethodName := ⟨RX2, "roofOf", "(I)I"⟩
abbrev cX2_opens : ByteArray := prog_32_method_47_code
def yX2_opens : MethodName := ⟨RX2, "opens", "(I)I"⟩
abbrev cX2_roof : ByteArray := prog_32_method_48_code
def yX2_roof : MethodName := ⟨RX2, "roof", "(I)I"⟩
abbrev cX2_falls : ByteArray := prog_32_method_49_code
def yX2_falls : MethodName := ⟨RX2, "falls", "(II)I"⟩
abbrev cX2_skyline : ByteArray := prog_32_method_50_code
def yX2_skyline : MethodName := ⟨RX2, "skyline", "(I)I"⟩
abbrev cX2_view : ByteArray := prog_32_method_51_code
def yX2_view : MethodName := ⟨RX2, "view", "(II)I"⟩
abbrev cX2_what : ByteArray := prog_32_method_53_code
def yX2_what : MethodName := ⟨RX2, "what", "(III)I"⟩
abbrev cX2_stands : ByteArray := prog_32_method_52_code
def yX2_stands : MethodName := ⟨RX2, "stands", "(II)Z"⟩
abbrev cX2_lower : ByteArray := prog_32_method_56_code
def yX2_lower : MethodName := ⟨RX2, "lower", "(III)I"⟩
abbrev cX2_highWithout : ByteArray := prog_32_method_55_code
def yX2_highWithout : MethodName := ⟨RX2, "highWithout", "(II)I"⟩
abbrev cX2_worthOf : ByteArray := prog_32_method_54_code
def yX2_worthOf : MethodName := ⟨RX2, "worthOf", "(I)I"⟩
abbrev cX2_holds : ByteArray := prog_32_method_61_code
def yX2_holds : MethodName := ⟨RX2, "holds", "(II)I"⟩
abbrev cX2_holder : ByteArray := prog_32_method_57_code
def yX2_holder : MethodName := ⟨RX2, "holder", "(I)I"⟩
abbrev cX2_ringOf : ByteArray := prog_32_method_58_code
def yX2_ringOf : MethodName := ⟨RX2, "ringOf", "(I)I"⟩
abbrev cX2_endOf : ByteArray := prog_32_method_59_code
def yX2_endOf : MethodName := ⟨RX2, "endOf", "(I)I"⟩
abbrev cX2_owed : ByteArray := prog_32_method_60_code
def yX2_owed : MethodName := ⟨RX2, "owed", "(I)I"⟩
abbrev cX2_judge : ByteArray := prog_32_method_64_code
def yX2_judge : MethodName := ⟨RX2, "judge", "(II)I"⟩
abbrev cX2_noBytes : ByteArray := prog_32_method_62_code
def yX2_noBytes : MethodName := ⟨RX2, "noBytes", "(I)I"⟩
abbrev cX2_unlike : ByteArray := prog_32_method_63_code
def yX2_unlike : MethodName := ⟨RX2, "unlike", "(II)I"⟩
abbrev cX2_fits : ByteArray := prog_32_method_65_code
def yX2_fits : MethodName := ⟨RX2, "fits", "(IIII)I"⟩
abbrev cX2_share : ByteArray := prog_32_method_66_code
def yX2_share : MethodName := ⟨RX2, "share", "(II)I"⟩
abbrev cX2_byTurns : ByteArray := prog_32_method_69_code
def yX2_byTurns : MethodName := ⟨RX2, "byTurns", "(III)I"⟩
abbrev cX2_turnFrom : ByteArray := prog_32_method_68_code
def yX2_turnFrom : MethodName := ⟨RX2, "turnFrom", "(III)I"⟩
abbrev cX2_mayDo : ByteArray := prog_32_method_67_code
def yX2_mayDo : MethodName := ⟨RX2, "mayDo", "(II)Z"⟩
abbrev cX2_drawn : ByteArray := prog_32_method_70_code
def yX2_drawn : MethodName := ⟨RX2, "drawn", "(III)I"⟩
abbrev cX2_does : ByteArray := prog_32_method_71_code
def yX2_does : MethodName := ⟨RX2, "does", "(II)I"⟩
abbrev cX2_release : ByteArray := prog_32_method_72_code
def yX2_release : MethodName := ⟨RX2, "release", "(I)I"⟩
abbrev cX2_days : ByteArray := prog_32_method_73_code
def yX2_days : MethodName := ⟨RX2, "days", "(I)I"⟩
abbrev cX2_led : ByteArray := prog_32_method_74_code
def yX2_led : MethodName := ⟨RX2, "led", "(I)I"⟩
abbrev cX2_image : ByteArray := prog_32_method_75_code
def yX2_image : MethodName := ⟨RX2, "image", "()I"⟩
abbrev cX2_back : ByteArray := prog_32_method_76_code
def yX2_back : MethodName := ⟨RX2, "back", "()I"⟩
abbrev cX2_body : ByteArray := prog_32_method_83_code
def yX2_body : MethodName := ⟨RX2, "body", "(I)I"⟩
abbrev cX2_act : ByteArray := prog_32_method_84_code
def yX2_act : MethodName := ⟨RX2, "act", "(III)I"⟩
abbrev cX2_swearsBy : ByteArray := prog_32_method_79_code
def yX2_swearsBy : MethodName := ⟨RX2, "swearsBy", "(III)I"⟩
abbrev cX2_ran : ByteArray := prog_32_method_78_code
def yX2_ran : MethodName := ⟨RX2, "ran", "(I)V"⟩
abbrev cX2_above : ByteArray := prog_32_method_77_code
def yX2_above : MethodName := ⟨RX2, "above", "(I)I"⟩
abbrev cX2_buildsBy : ByteArray := prog_32_method_80_code
def yX2_buildsBy : MethodName := ⟨RX2, "buildsBy", "(III)I"⟩
abbrev cX2_fallsBy : ByteArray := prog_32_method_81_code
def yX2_fallsBy : MethodName := ⟨RX2, "fallsBy", "(III)I"⟩
abbrev cX2_tells : ByteArray := prog_32_method_82_code
def yX2_tells : MethodName := ⟨RX2, "tells", "(III)I"⟩
abbrev cX2_trace : ByteArray := prog_32_method_85_code
def yX2_trace : MethodName := ⟨RX2, "trace", "(I)I"⟩
abbrev cX2_keep : ByteArray := prog_32_method_86_code
def yX2_keep : MethodName := ⟨RX2, "keep", "(II)I"⟩
abbrev cX2_row : ByteArray := prog_32_method_87_code
def yX2_row : MethodName := ⟨RX2, "row", "(III)I"⟩
abbrev cX2_put : ByteArray := prog_32_method_90_code
def yX2_put : MethodName := ⟨RX2, "put", "(IIJ)I"⟩
abbrev cX2_isRow : ByteArray := prog_32_method_88_code
def yX2_isRow : MethodName := ⟨RX2, "isRow", "(I)Z"⟩
abbrev cX2_kept : ByteArray := prog_32_method_89_code
def yX2_kept : MethodName := ⟨RX2, "kept", "(IJ)J"⟩
abbrev cX2_element : ByteArray := prog_32_method_91_code
def yX2_element : MethodName := ⟨RX2, "element", "(II)J"⟩
abbrev cX2_shift : ByteArray := prog_32_method_92_code
def yX2_shift : MethodName := ⟨RX2, "shift", "(IIIII)I"⟩
abbrev cX2_taken : ByteArray := prog_32_method_93_code
def yX2_taken : MethodName := ⟨RX2, "taken", "(II)I"⟩
abbrev cX2_count : ByteArray := prog_32_method_94_code
def yX2_count : MethodName := ⟨RX2, "count", "(I)I"⟩
theorem q102 : (Jvm.Cond.initialized "PromiseRoofsModel") ∈ lw_all := lw_g (lw_at lw_m1 3 rfl) rfl
theorem q1541 : (Jvm.Cond.instantiable "PromiseRoofsModel" (42 : Nat)) ∈ lw_all := lw_g (lw_at lw_m7 2 rfl) rfl
theorem q1543 : (Jvm.Cond.instanceMethod ({ cls := "PromiseRoofsModel", name := "<init>", desc := "()V" } : Jvm.MethodName)) ∈ lw_all := lw_g (lw_at lw_m7 4 rfl) rfl
theorem q1544 : (Jvm.Cond.code ({ cls := "PromiseRoofsModel", name := "<init>", desc := "()V" } : Jvm.MethodName) prog_32_method_1_code (2 : Nat) (Option.none : Option Jvm.ClassFile.FieldType)) ∈ lw_all := lw_g (lw_at lw_m7 5 rfl) rfl
theorem q1545 : (Jvm.Cond.methodLink "PromiseRoofsModel" (3 : Nat) ({ cls := "java/lang/Object", name := "<init>", desc := "()V" } : Jvm.MethodName)) ∈ lw_all := lw_g (lw_at lw_m7 6 rfl) rfl
theorem q1546 : (Jvm.Cond.fieldLink "PromiseRoofsModel" (88 : Nat) "PromiseRoofsModel" "owners" "I") ∈ lw_all := lw_g (lw_at lw_m7 7 rfl) rfl
theorem q1547 : (Jvm.Cond.fieldLink "PromiseRoofsModel" (9 : Nat) "PromiseRoofsModel" "money" "[I") ∈ lw_all := lw_g (lw_at lw_m7 8 rfl) rfl
theorem q1548 : (Jvm.Cond.fieldLink "PromiseRoofsModel" (96 : Nat) "PromiseRoofsModel" "many" "I") ∈ lw_all := lw_g (lw_at lw_m7 9 rfl) rfl
theorem q1549 : (Jvm.Cond.fieldLink "PromiseRoofsModel" (15 : Nat) "PromiseRoofsModel" "ways" "[I") ∈ lw_all := lw_g (lw_at lw_m7 10 rfl) rfl
theorem q1550 : (Jvm.Cond.fieldLink "PromiseRoofsModel" (18 : Nat) "PromiseRoofsModel" "by" "[I") ∈ lw_all := lw_g (lw_at lw_m7 11 rfl) rfl
theorem q1551 : (Jvm.Cond.fieldLink "PromiseRoofsModel" (21 : Nat) "PromiseRoofsModel" "to" "[I") ∈ lw_all := lw_g (lw_at lw_m7 12 rfl) rfl
theorem q1552 : (Jvm.Cond.fieldLink "PromiseRoofsModel" (103 : Nat) "PromiseRoofsModel" "today" "I") ∈ lw_all := lw_g (lw_at lw_m7 13 rfl) rfl
theorem q1553 : (Jvm.Cond.fieldLink "PromiseRoofsModel" (151 : Nat) "PromiseRoofsModel" "taped" "I") ∈ lw_all := lw_g (lw_at lw_m7 14 rfl) rfl
theorem q1554 : (Jvm.Cond.fieldLink "PromiseRoofsModel" (24 : Nat) "PromiseRoofsModel" "tape" "[I") ∈ lw_all := lw_g (lw_at lw_m7 15 rfl) rfl
theorem q1555 : (Jvm.Cond.fieldLink "PromiseRoofsModel" (205 : Nat) "PromiseRoofsModel" "isTold" "Z") ∈ lw_all := lw_g (lw_at lw_m7 16 rfl) rfl
theorem q1556 : (Jvm.Cond.fieldLink "PromiseRoofsModel" (209 : Nat) "PromiseRoofsModel" "lines" "I") ∈ lw_all := lw_g (lw_at lw_m7 17 rfl) rfl
theorem q1557 : (Jvm.Cond.fieldLink "PromiseRoofsModel" (27 : Nat) "PromiseRoofsModel" "asks" "[I") ∈ lw_all := lw_g (lw_at lw_m7 18 rfl) rfl
theorem q1558 : (Jvm.Cond.fieldLink "PromiseRoofsModel" (30 : Nat) "PromiseRoofsModel" "says" "[I") ∈ lw_all := lw_g (lw_at lw_m7 19 rfl) rfl
theorem q1559 : (Jvm.Cond.fieldLink "PromiseRoofsModel" (33 : Nat) "PromiseRoofsModel" "ends" "[I") ∈ lw_all := lw_g (lw_at lw_m7 20 rfl) rfl
theorem q1560 : (Jvm.Cond.fieldLink "PromiseRoofsModel" (36 : Nat) "PromiseRoofsModel" "code" "[I") ∈ lw_all := lw_g (lw_at lw_m7 21 rfl) rfl
theorem q1561 : (Jvm.Cond.fieldLink "PromiseRoofsModel" (154 : Nat) "PromiseRoofsModel" "at" "I") ∈ lw_all := lw_g (lw_at lw_m7 22 rfl) rfl
theorem q1562 : (Jvm.Cond.fieldLink "PromiseRoofsModel" (175 : Nat) "PromiseRoofsModel" "open" "I") ∈ lw_all := lw_g (lw_at lw_m7 23 rfl) rfl
theorem q1563 : (Jvm.Cond.fieldLink "PromiseRoofsModel" (161 : Nat) "PromiseRoofsModel" "coded" "I") ∈ lw_all := lw_g (lw_at lw_m7 24 rfl) rfl
theorem q1564 : (Jvm.Cond.fieldLink "PromiseRoofsModel" (199 : Nat) "PromiseRoofsModel" "newLines" "I") ∈ lw_all := lw_g (lw_at lw_m7 25 rfl) rfl
theorem q1565 : (Jvm.Cond.fieldLink "PromiseRoofsModel" (39 : Nat) "PromiseRoofsModel" "newAsks" "[I") ∈ lw_all := lw_g (lw_at lw_m7 26 rfl) rfl
theorem q1566 : (Jvm.Cond.fieldLink "PromiseRoofsModel" (42 : Nat) "PromiseRoofsModel" "newSays" "[I") ∈ lw_all := lw_g (lw_at lw_m7 27 rfl) rfl
theorem q1567 : (Jvm.Cond.fieldLink "PromiseRoofsModel" (45 : Nat) "PromiseRoofsModel" "newEnds" "[I") ∈ lw_all := lw_g (lw_at lw_m7 28 rfl) rfl
theorem q1568 : (Jvm.Cond.fieldLink "PromiseRoofsModel" (48 : Nat) "PromiseRoofsModel" "newCode" "[I") ∈ lw_all := lw_g (lw_at lw_m7 29 rfl) rfl
theorem q1569 : (Jvm.Cond.fieldLink "PromiseRoofsModel" (51 : Nat) "PromiseRoofsModel" "stack" "[I") ∈ lw_all := lw_g (lw_at lw_m7 30 rfl) rfl
theorem q1570 : (Jvm.Cond.fieldLink "PromiseRoofsModel" (54 : Nat) "PromiseRoofsModel" "names" "[I") ∈ lw_all := lw_g (lw_at lw_m7 31 rfl) rfl
theorem q1571 : (Jvm.Cond.fieldLink "PromiseRoofsModel" (57 : Nat) "PromiseRoofsModel" "led" "[I") ∈ lw_all := lw_g (lw_at lw_m7 32 rfl) rfl
theorem q1572 : (Jvm.Cond.fieldLink "PromiseRoofsModel" (293 : Nat) "PromiseRoofsModel" "imaged" "Z") ∈ lw_all := lw_g (lw_at lw_m7 33 rfl) rfl
theorem q1573 : (Jvm.Cond.fieldLink "PromiseRoofsModel" (296 : Nat) "PromiseRoofsModel" "oldOwners" "I") ∈ lw_all := lw_g (lw_at lw_m7 34 rfl) rfl
theorem q1574 : (Jvm.Cond.fieldLink "PromiseRoofsModel" (299 : Nat) "PromiseRoofsModel" "oldMany" "I") ∈ lw_all := lw_g (lw_at lw_m7 35 rfl) rfl
theorem q1575 : (Jvm.Cond.fieldLink "PromiseRoofsModel" (60 : Nat) "PromiseRoofsModel" "old" "[I") ∈ lw_all := lw_g (lw_at lw_m7 36 rfl) rfl
theorem q1576 : (Jvm.Cond.fieldLink "PromiseRoofsModel" (63 : Nat) "PromiseRoofsModel" "oldLed" "[I") ∈ lw_all := lw_g (lw_at lw_m7 37 rfl) rfl
theorem q1577 : (Jvm.Cond.fieldLink "PromiseRoofsModel" (148 : Nat) "PromiseRoofsModel" "changes" "I") ∈ lw_all := lw_g (lw_at lw_m7 38 rfl) rfl
theorem q1578 : (Jvm.Cond.fieldLink "PromiseRoofsModel" (145 : Nat) "PromiseRoofsModel" "done" "I") ∈ lw_all := lw_g (lw_at lw_m7 39 rfl) rfl
theorem q1579 : (Jvm.Cond.fieldLink "PromiseRoofsModel" (66 : Nat) "PromiseRoofsModel" "changed" "[I") ∈ lw_all := lw_g (lw_at lw_m7 40 rfl) rfl
theorem q1580 : (Jvm.Cond.fieldLink "PromiseRoofsModel" (324 : Nat) "PromiseRoofsModel" "bodies" "I") ∈ lw_all := lw_g (lw_at lw_m7 41 rfl) rfl
theorem q1581 : (Jvm.Cond.fieldLink "PromiseRoofsModel" (69 : Nat) "PromiseRoofsModel" "bodyKind" "[I") ∈ lw_all := lw_g (lw_at lw_m7 42 rfl) rfl
theorem q1582 : (Jvm.Cond.fieldLink "PromiseRoofsModel" (302 : Nat) "PromiseRoofsModel" "traced" "I") ∈ lw_all := lw_g (lw_at lw_m7 43 rfl) rfl
theorem q1583 : (Jvm.Cond.fieldLink "PromiseRoofsModel" (72 : Nat) "PromiseRoofsModel" "traces" "[I") ∈ lw_all := lw_g (lw_at lw_m7 44 rfl) rfl
theorem q1584 : (Jvm.Cond.fieldLink "PromiseRoofsModel" (75 : Nat) "PromiseRoofsModel" "holding" "[I") ∈ lw_all := lw_g (lw_at lw_m7 45 rfl) rfl
theorem q1585 : (Jvm.Cond.fieldLink "PromiseRoofsModel" (78 : Nat) "PromiseRoofsModel" "rowLength" "[I") ∈ lw_all := lw_g (lw_at lw_m7 46 rfl) rfl
theorem q1586 : (Jvm.Cond.fieldLink "PromiseRoofsModel" (81 : Nat) "PromiseRoofsModel" "rowOf" "[J") ∈ lw_all := lw_g (lw_at lw_m7 47 rfl) rfl
theorem q1587 : (Jvm.Cond.fieldLink "PromiseRoofsModel" (85 : Nat) "PromiseRoofsModel" "begun" "[I") ∈ lw_all := lw_g (lw_at lw_m7 48 rfl) rfl
theorem q1588 : (Jvm.Cond.lays "PromiseRoofsModel" "PromiseRoofsModel" "owners" "I") ∈ lw_all := lw_g (lw_at lw_m7 49 rfl) rfl
theorem q1589 : (Jvm.Cond.soleField "PromiseRoofsModel" "owners") ∈ lw_all := lw_g (lw_at lw_m7 50 rfl) rfl
theorem q1590 : (Jvm.Cond.laysFinal "PromiseRoofsModel" "PromiseRoofsModel" "money" "[I") ∈ lw_all := lw_g (lw_at lw_m7 51 rfl) rfl
theorem q1591 : (Jvm.Cond.soleField "PromiseRoofsModel" "money") ∈ lw_all := lw_g (lw_at lw_m7 52 rfl) rfl
theorem q1592 : (Jvm.Cond.lays "PromiseRoofsModel" "PromiseRoofsModel" "many" "I") ∈ lw_all := lw_g (lw_at lw_m7 53 rfl) rfl
theorem q1593 : (Jvm.Cond.soleField "PromiseRoofsModel" "many") ∈ lw_all := lw_g (lw_at lw_m7 54 rfl) rfl
theorem q1594 : (Jvm.Cond.laysFinal "PromiseRoofsModel" "PromiseRoofsModel" "ways" "[I") ∈ lw_all := lw_g (lw_at lw_m7 55 rfl) rfl
theorem q1595 : (Jvm.Cond.soleField "PromiseRoofsModel" "ways") ∈ lw_all := lw_g (lw_at lw_m7 56 rfl) rfl
theorem q1596 : (Jvm.Cond.laysFinal "PromiseRoofsModel" "PromiseRoofsModel" "by" "[I") ∈ lw_all := lw_g (lw_at lw_m7 57 rfl) rfl
theorem q1597 : (Jvm.Cond.soleField "PromiseRoofsModel" "by") ∈ lw_all := lw_g (lw_at lw_m7 58 rfl) rfl
theorem q1598 : (Jvm.Cond.laysFinal "PromiseRoofsModel" "PromiseRoofsModel" "to" "[I") ∈ lw_all := lw_g (lw_at lw_m7 59 rfl) rfl
theorem q1599 : (Jvm.Cond.soleField "PromiseRoofsModel" "to") ∈ lw_all := lw_g (lw_at lw_m7 60 rfl) rfl
theorem q1600 : (Jvm.Cond.lays "PromiseRoofsModel" "PromiseRoofsModel" "today" "I") ∈ lw_all := lw_g (lw_at lw_m7 61 rfl) rfl
theorem q1601 : (Jvm.Cond.soleField "PromiseRoofsModel" "today") ∈ lw_all := lw_g (lw_at lw_m7 62 rfl) rfl
theorem q1602 : (Jvm.Cond.lays "PromiseRoofsModel" "PromiseRoofsModel" "taped" "I") ∈ lw_all := lw_g (lw_at lw_m7 63 rfl) rfl
theorem q1603 : (Jvm.Cond.soleField "PromiseRoofsModel" "taped") ∈ lw_all := lw_g (lw_at lw_m7 64 rfl) rfl
theorem q1604 : (Jvm.Cond.laysFinal "PromiseRoofsModel" "PromiseRoofsModel" "tape" "[I") ∈ lw_all := lw_g (lw_at lw_m7 65 rfl) rfl
theorem q1605 : (Jvm.Cond.soleField "PromiseRoofsModel" "tape") ∈ lw_all := lw_g (lw_at lw_m7 66 rfl) rfl
theorem q1606 : (Jvm.Cond.lays "PromiseRoofsModel" "PromiseRoofsModel" "isTold" "Z") ∈ lw_all := lw_g (lw_at lw_m7 67 rfl) rfl
theorem q1607 : (Jvm.Cond.soleField "PromiseRoofsModel" "isTold") ∈ lw_all := lw_g (lw_at lw_m7 68 rfl) rfl
theorem q1608 : (Jvm.Cond.lays "PromiseRoofsModel" "PromiseRoofsModel" "lines" "I") ∈ lw_all := lw_g (lw_at lw_m7 69 rfl) rfl
theorem q1609 : (Jvm.Cond.soleField "PromiseRoofsModel" "lines") ∈ lw_all := lw_g (lw_at lw_m7 70 rfl) rfl
theorem q1610 : (Jvm.Cond.laysFinal "PromiseRoofsModel" "PromiseRoofsModel" "asks" "[I") ∈ lw_all := lw_g (lw_at lw_m7 71 rfl) rfl
theorem q1611 : (Jvm.Cond.soleField "PromiseRoofsModel" "asks") ∈ lw_all := lw_g (lw_at lw_m7 72 rfl) rfl
theorem q1612 : (Jvm.Cond.laysFinal "PromiseRoofsModel" "PromiseRoofsModel" "says" "[I") ∈ lw_all := lw_g (lw_at lw_m7 73 rfl) rfl
theorem q1613 : (Jvm.Cond.soleField "PromiseRoofsModel" "says") ∈ lw_all := lw_g (lw_at lw_m7 74 rfl) rfl
theorem q1614 : (Jvm.Cond.laysFinal "PromiseRoofsModel" "PromiseRoofsModel" "ends" "[I") ∈ lw_all := lw_g (lw_at lw_m7 75 rfl) rfl
theorem q1615 : (Jvm.Cond.soleField "PromiseRoofsModel" "ends") ∈ lw_all := lw_g (lw_at lw_m7 76 rfl) rfl
theorem q1616 : (Jvm.Cond.laysFinal "PromiseRoofsModel" "PromiseRoofsModel" "code" "[I") ∈ lw_all := lw_g (lw_at lw_m7 77 rfl) rfl
theorem q1617 : (Jvm.Cond.soleField "PromiseRoofsModel" "code") ∈ lw_all := lw_g (lw_at lw_m7 78 rfl) rfl
theorem q1618 : (Jvm.Cond.lays "PromiseRoofsModel" "PromiseRoofsModel" "at" "I") ∈ lw_all := lw_g (lw_at lw_m7 79 rfl) rfl
theorem q1619 : (Jvm.Cond.soleField "PromiseRoofsModel" "at") ∈ lw_all := lw_g (lw_at lw_m7 80 rfl) rfl
theorem q1620 : (Jvm.Cond.lays "PromiseRoofsModel" "PromiseRoofsModel" "open" "I") ∈ lw_all := lw_g (lw_at lw_m7 81 rfl) rfl
theorem q1621 : (Jvm.Cond.soleField "PromiseRoofsModel" "open") ∈ lw_all := lw_g (lw_at lw_m7 82 rfl) rfl
theorem q1622 : (Jvm.Cond.lays "PromiseRoofsModel" "PromiseRoofsModel" "coded" "I") ∈ lw_all := lw_g (lw_at lw_m7 83 rfl) rfl
theorem q1623 : (Jvm.Cond.soleField "PromiseRoofsModel" "coded") ∈ lw_all := lw_g (lw_at lw_m7 84 rfl) rfl
theorem q1624 : (Jvm.Cond.lays "PromiseRoofsModel" "PromiseRoofsModel" "newLines" "I") ∈ lw_all := lw_g (lw_at lw_m7 85 rfl) rfl
theorem q1625 : (Jvm.Cond.soleField "PromiseRoofsModel" "newLines") ∈ lw_all := lw_g (lw_at lw_m7 86 rfl) rfl
theorem q1626 : (Jvm.Cond.laysFinal "PromiseRoofsModel" "PromiseRoofsModel" "newAsks" "[I") ∈ lw_all := lw_g (lw_at lw_m7 87 rfl) rfl
theorem q1627 : (Jvm.Cond.soleField "PromiseRoofsModel" "newAsks") ∈ lw_all := lw_g (lw_at lw_m7 88 rfl) rfl
theorem q1628 : (Jvm.Cond.laysFinal "PromiseRoofsModel" "PromiseRoofsModel" "newSays" "[I") ∈ lw_all := lw_g (lw_at lw_m7 89 rfl) rfl
theorem q1629 : (Jvm.Cond.soleField "PromiseRoofsModel" "newSays") ∈ lw_all := lw_g (lw_at lw_m7 90 rfl) rfl
theorem q1630 : (Jvm.Cond.laysFinal "PromiseRoofsModel" "PromiseRoofsModel" "newEnds" "[I") ∈ lw_all := lw_g (lw_at lw_m7 91 rfl) rfl
theorem q1631 : (Jvm.Cond.soleField "PromiseRoofsModel" "newEnds") ∈ lw_all := lw_g (lw_at lw_m7 92 rfl) rfl
theorem q1632 : (Jvm.Cond.laysFinal "PromiseRoofsModel" "PromiseRoofsModel" "newCode" "[I") ∈ lw_all := lw_g (lw_at lw_m7 93 rfl) rfl
theorem q1633 : (Jvm.Cond.soleField "PromiseRoofsModel" "newCode") ∈ lw_all := lw_g (lw_at lw_m7 94 rfl) rfl
theorem q1634 : (Jvm.Cond.laysFinal "PromiseRoofsModel" "PromiseRoofsModel" "stack" "[I") ∈ lw_all := lw_g (lw_at lw_m7 95 rfl) rfl
theorem q1635 : (Jvm.Cond.soleField "PromiseRoofsModel" "stack") ∈ lw_all := lw_g (lw_at lw_m7 96 rfl) rfl
theorem q1636 : (Jvm.Cond.laysFinal "PromiseRoofsModel" "PromiseRoofsModel" "names" "[I") ∈ lw_all := lw_g (lw_at lw_m7 97 rfl) rfl
theorem q1637 : (Jvm.Cond.soleField "PromiseRoofsModel" "names") ∈ lw_all := lw_g (lw_at lw_m7 98 rfl) rfl
theorem q1638 : (Jvm.Cond.laysFinal "PromiseRoofsModel" "PromiseRoofsModel" "led" "[I") ∈ lw_all := lw_g (lw_at lw_m7 99 rfl) rfl
theorem q1639 : (Jvm.Cond.soleField "PromiseRoofsModel" "led") ∈ lw_all := lw_g (lw_at lw_m7 100 rfl) rfl
theorem q1640 : (Jvm.Cond.lays "PromiseRoofsModel" "PromiseRoofsModel" "imaged" "Z") ∈ lw_all := lw_g (lw_at lw_m7 101 rfl) rfl
theorem q1641 : (Jvm.Cond.soleField "PromiseRoofsModel" "imaged") ∈ lw_all := lw_g (lw_at lw_m7 102 rfl) rfl
theorem q1642 : (Jvm.Cond.lays "PromiseRoofsModel" "PromiseRoofsModel" "oldOwners" "I") ∈ lw_all := lw_g (lw_at lw_m7 103 rfl) rfl
theorem q1643 : (Jvm.Cond.soleField "PromiseRoofsModel" "oldOwners") ∈ lw_all := lw_g (lw_at lw_m7 104 rfl) rfl
theorem q1644 : (Jvm.Cond.lays "PromiseRoofsModel" "PromiseRoofsModel" "oldMany" "I") ∈ lw_all := lw_g (lw_at lw_m7 105 rfl) rfl
theorem q1645 : (Jvm.Cond.soleField "PromiseRoofsModel" "oldMany") ∈ lw_all := lw_g (lw_at lw_m7 106 rfl) rfl
theorem q1646 : (Jvm.Cond.laysFinal "PromiseRoofsModel" "PromiseRoofsModel" "old" "[I") ∈ lw_all := lw_g (lw_at lw_m7 107 rfl) rfl
theorem q1647 : (Jvm.Cond.soleField "PromiseRoofsModel" "old") ∈ lw_all := lw_g (lw_at lw_m7 108 rfl) rfl
theorem q1648 : (Jvm.Cond.laysFinal "PromiseRoofsModel" "PromiseRoofsModel" "oldLed" "[I") ∈ lw_all := lw_g (lw_at lw_m7 109 rfl) rfl
theorem q1649 : (Jvm.Cond.soleField "PromiseRoofsModel" "oldLed") ∈ lw_all := lw_g (lw_at lw_m7 110 rfl) rfl
theorem q1650 : (Jvm.Cond.lays "PromiseRoofsModel" "PromiseRoofsModel" "changes" "I") ∈ lw_all := lw_g (lw_at lw_m7 111 rfl) rfl
theorem q1651 : (Jvm.Cond.soleField "PromiseRoofsModel" "changes") ∈ lw_all := lw_g (lw_at lw_m7 112 rfl) rfl
theorem q1652 : (Jvm.Cond.lays "PromiseRoofsModel" "PromiseRoofsModel" "done" "I") ∈ lw_all := lw_g (lw_at lw_m7 113 rfl) rfl
theorem q1653 : (Jvm.Cond.soleField "PromiseRoofsModel" "done") ∈ lw_all := lw_g (lw_at lw_m7 114 rfl) rfl
theorem q1654 : (Jvm.Cond.laysFinal "PromiseRoofsModel" "PromiseRoofsModel" "changed" "[I") ∈ lw_all := lw_g (lw_at lw_m7 115 rfl) rfl
theorem q1655 : (Jvm.Cond.soleField "PromiseRoofsModel" "changed") ∈ lw_all := lw_g (lw_at lw_m7 116 rfl) rfl
theorem q1656 : (Jvm.Cond.lays "PromiseRoofsModel" "PromiseRoofsModel" "bodies" "I") ∈ lw_all := lw_g (lw_at lw_m7 117 rfl) rfl
theorem q1657 : (Jvm.Cond.soleField "PromiseRoofsModel" "bodies") ∈ lw_all := lw_g (lw_at lw_m7 118 rfl) rfl
theorem q1658 : (Jvm.Cond.laysFinal "PromiseRoofsModel" "PromiseRoofsModel" "bodyKind" "[I") ∈ lw_all := lw_g (lw_at lw_m7 119 rfl) rfl
theorem q1659 : (Jvm.Cond.soleField "PromiseRoofsModel" "bodyKind") ∈ lw_all := lw_g (lw_at lw_m7 120 rfl) rfl
theorem q1660 : (Jvm.Cond.lays "PromiseRoofsModel" "PromiseRoofsModel" "traced" "I") ∈ lw_all := lw_g (lw_at lw_m7 121 rfl) rfl
theorem q1661 : (Jvm.Cond.soleField "PromiseRoofsModel" "traced") ∈ lw_all := lw_g (lw_at lw_m7 122 rfl) rfl
theorem q1662 : (Jvm.Cond.laysFinal "PromiseRoofsModel" "PromiseRoofsModel" "traces" "[I") ∈ lw_all := lw_g (lw_at lw_m7 123 rfl) rfl
theorem q1663 : (Jvm.Cond.soleField "PromiseRoofsModel" "traces") ∈ lw_all := lw_g (lw_at lw_m7 124 rfl) rfl
theorem q1664 : (Jvm.Cond.laysFinal "PromiseRoofsModel" "PromiseRoofsModel" "holding" "[I") ∈ lw_all := lw_g (lw_at lw_m7 125 rfl) rfl
theorem q1665 : (Jvm.Cond.soleField "PromiseRoofsModel" "holding") ∈ lw_all := lw_g (lw_at lw_m7 126 rfl) rfl
theorem q1666 : (Jvm.Cond.laysFinal "PromiseRoofsModel" "PromiseRoofsModel" "rowLength" "[I") ∈ lw_all := lw_g (lw_at lw_m7 127 rfl) rfl
theorem q1667 : (Jvm.Cond.soleField "PromiseRoofsModel" "rowLength") ∈ lw_all := lw_g (lw_at lw_m7 128 rfl) rfl
theorem q1668 : (Jvm.Cond.laysFinal "PromiseRoofsModel" "PromiseRoofsModel" "rowOf" "[J") ∈ lw_all := lw_g (lw_at lw_m7 129 rfl) rfl
theorem q1669 : (Jvm.Cond.soleField "PromiseRoofsModel" "rowOf") ∈ lw_all := lw_g (lw_at lw_m7 130 rfl) rfl
theorem q1670 : (Jvm.Cond.laysFinal "PromiseRoofsModel" "PromiseRoofsModel" "begun" "[I") ∈ lw_all := lw_g (lw_at lw_m7 131 rfl) rfl
theorem q1671 : (Jvm.Cond.soleField "PromiseRoofsModel" "begun") ∈ lw_all := lw_g (lw_at lw_m7 132 rfl) rfl
theorem q1672 : (Jvm.Cond.superclass "PromiseRoofsModel" "java/lang/Object") ∈ lw_all := lw_g (lw_at lw_m7 133 rfl) rfl
theorem q1674 : (Jvm.Cond.instanceMethod ({ cls := "PromiseRoofsModel", name := "owner", desc := "(I)I" } : Jvm.MethodName)) ∈ lw_all := lw_g (lw_at lw_m7 135 rfl) rfl
theorem q1675 : (Jvm.Cond.selects "PromiseRoofsModel" ({ cls := "PromiseRoofsModel", name := "owner", desc := "(I)I" } : Jvm.MethodName) ({ cls := "PromiseRoofsModel", name := "owner", desc := "(I)I" } : Jvm.MethodName)) ∈ lw_all := lw_g (lw_at lw_m7 136 rfl) rfl
theorem q1676 : (Jvm.Cond.code ({ cls := "PromiseRoofsModel", name := "owner", desc := "(I)I" } : Jvm.MethodName) prog_32_method_6_code (2 : Nat) (Option.some Jvm.ClassFile.FieldType.int)) ∈ lw_all := lw_g (lw_at lw_m7 137 rfl) rfl
theorem q1677 : (Jvm.Cond.methodLink "PromiseRoofsModel" (92 : Nat) ({ cls := "PromiseRoofsModel", name := "within", desc := "(III)Z" } : Jvm.MethodName)) ∈ lw_all := lw_g (lw_at lw_m7 138 rfl) rfl
theorem q1678 : (Jvm.Cond.static ({ cls := "PromiseRoofsModel", name := "within", desc := "(III)Z" } : Jvm.MethodName)) ∈ lw_all := lw_g (lw_at lw_m7 139 rfl) rfl
theorem q1679 : (Jvm.Cond.code ({ cls := "PromiseRoofsModel", name := "within", desc := "(III)Z" } : Jvm.MethodName) prog_32_method_2_code (3 : Nat) (Option.some Jvm.ClassFile.FieldType.boolean)) ∈ lw_all := lw_g (lw_at lw_m7 140 rfl) rfl
theorem q1681 : (Jvm.Cond.instanceMethod ({ cls := "PromiseRoofsModel", name := "promise", desc := "(III)I" } : Jvm.MethodName)) ∈ lw_all := lw_g (lw_at lw_m7 142 rfl) rfl
theorem q1682 : (Jvm.Cond.selects "PromiseRoofsModel" ({ cls := "PromiseRoofsModel", name := "promise", desc := "(III)I" } : Jvm.MethodName) ({ cls := "PromiseRoofsModel", name := "promise", desc := "(III)I" } : Jvm.MethodName)) ∈ lw_all := lw_g (lw_at lw_m7 143 rfl) rfl
theorem q1683 : (Jvm.Cond.code ({ cls := "PromiseRoofsModel", name := "promise", desc := "(III)I" } : Jvm.MethodName) prog_32_method_10_code (4 : Nat) (Option.some Jvm.ClassFile.FieldType.int)) ∈ lw_all := lw_g (lw_at lw_m7 144 rfl) rfl
theorem q1684 : (Jvm.Cond.methodLink "PromiseRoofsModel" (110 : Nat) ({ cls := "PromiseRoofsModel", name := "isSuch", desc := "(IIII)Z" } : Jvm.MethodName)) ∈ lw_all := lw_g (lw_at lw_m7 145 rfl) rfl
theorem q1685 : (Jvm.Cond.privateMethod ({ cls := "PromiseRoofsModel", name := "isSuch", desc := "(IIII)Z" } : Jvm.MethodName)) ∈ lw_tbl := lw_at lw_m7 146 rfl
theorem q1686 : (Jvm.Cond.instanceMethod ({ cls := "PromiseRoofsModel", name := "isSuch", desc := "(IIII)Z" } : Jvm.MethodName)) ∈ lw_all := lw_g (lw_at lw_m7 147 rfl) rfl
theorem q1687 : (Jvm.Cond.code ({ cls := "PromiseRoofsModel", name := "isSuch", desc := "(IIII)Z" } : Jvm.MethodName) prog_32_method_7_code (5 : Nat) (Option.some Jvm.ClassFile.FieldType.boolean)) ∈ lw_all := lw_g (lw_at lw_m7 148 rfl) rfl
theorem q1688 : (Jvm.Cond.methodLink "PromiseRoofsModel" (99 : Nat) ({ cls := "PromiseRoofsModel", name := "isOwner", desc := "(I)Z" } : Jvm.MethodName)) ∈ lw_all := lw_g (lw_at lw_m7 149 rfl) rfl
theorem q1689 : (Jvm.Cond.privateMethod ({ cls := "PromiseRoofsModel", name := "isOwner", desc := "(I)Z" } : Jvm.MethodName)) ∈ lw_tbl := lw_at lw_m7 150 rfl
theorem q1690 : (Jvm.Cond.instanceMethod ({ cls := "PromiseRoofsModel", name := "isOwner", desc := "(I)Z" } : Jvm.MethodName)) ∈ lw_all := lw_g (lw_at lw_m7 151 rfl) rfl
theorem q1691 : (Jvm.Cond.code ({ cls := "PromiseRoofsModel", name := "isOwner", desc := "(I)Z" } : Jvm.MethodName) prog_32_method_3_code (2 : Nat) (Option.some Jvm.ClassFile.FieldType.boolean)) ∈ lw_all := lw_g (lw_at lw_m7 152 rfl) rfl
theorem q1692 : (Jvm.Cond.methodLink "PromiseRoofsModel" (114 : Nat) ({ cls := "PromiseRoofsModel", name := "newOne", desc := "(IIII)I" } : Jvm.MethodName)) ∈ lw_all := lw_g (lw_at lw_m7 153 rfl) rfl
theorem q1693 : (Jvm.Cond.privateMethod ({ cls := "PromiseRoofsModel", name := "newOne", desc := "(IIII)I" } : Jvm.MethodName)) ∈ lw_tbl := lw_at lw_m7 154 rfl
theorem q1694 : (Jvm.Cond.instanceMethod ({ cls := "PromiseRoofsModel", name := "newOne", desc := "(IIII)I" } : Jvm.MethodName)) ∈ lw_all := lw_g (lw_at lw_m7 155 rfl) rfl
theorem q1695 : (Jvm.Cond.code ({ cls := "PromiseRoofsModel", name := "newOne", desc := "(IIII)I" } : Jvm.MethodName) prog_32_method_9_code (5 : Nat) (Option.some Jvm.ClassFile.FieldType.int)) ∈ lw_all := lw_g (lw_at lw_m7 156 rfl) rfl
theorem q1696 : (Jvm.Cond.methodLink "PromiseRoofsModel" (106 : Nat) ({ cls := "PromiseRoofsModel", name := "becomesOne", desc := "(IIIIII)V" } : Jvm.MethodName)) ∈ lw_all := lw_g (lw_at lw_m7 157 rfl) rfl
theorem q1697 : (Jvm.Cond.privateMethod ({ cls := "PromiseRoofsModel", name := "becomesOne", desc := "(IIIIII)V" } : Jvm.MethodName)) ∈ lw_tbl := lw_at lw_m7 158 rfl
theorem q1698 : (Jvm.Cond.instanceMethod ({ cls := "PromiseRoofsModel", name := "becomesOne", desc := "(IIIIII)V" } : Jvm.MethodName)) ∈ lw_all := lw_g (lw_at lw_m7 159 rfl) rfl
theorem q1699 : (Jvm.Cond.code ({ cls := "PromiseRoofsModel", name := "becomesOne", desc := "(IIIIII)V" } : Jvm.MethodName) prog_32_method_8_code (7 : Nat) (Option.none : Option Jvm.ClassFile.FieldType)) ∈ lw_all := lw_g (lw_at lw_m7 160 rfl) rfl
theorem q1701 : (Jvm.Cond.instanceMethod ({ cls := "PromiseRoofsModel", name := "promises", desc := "(III)I" } : Jvm.MethodName)) ∈ lw_all := lw_g (lw_at lw_m7 162 rfl) rfl
theorem q1702 : (Jvm.Cond.selects "PromiseRoofsModel" ({ cls := "PromiseRoofsModel", name := "promises", desc := "(III)I" } : Jvm.MethodName) ({ cls := "PromiseRoofsModel", name := "promises", desc := "(III)I" } : Jvm.MethodName)) ∈ lw_all := lw_g (lw_at lw_m7 163 rfl) rfl
theorem q1703 : (Jvm.Cond.code ({ cls := "PromiseRoofsModel", name := "promises", desc := "(III)I" } : Jvm.MethodName) prog_32_method_11_code (9 : Nat) (Option.some Jvm.ClassFile.FieldType.int)) ∈ lw_all := lw_g (lw_at lw_m7 164 rfl) rfl
theorem q1704 : (Jvm.Cond.methodLink "PromiseRoofsModel" (118 : Nat) ({ cls := "PromiseRoofsModel", name := "isShelf", desc := "(I)Z" } : Jvm.MethodName)) ∈ lw_all := lw_g (lw_at lw_m7 165 rfl) rfl
theorem q1705 : (Jvm.Cond.static ({ cls := "PromiseRoofsModel", name := "isShelf", desc := "(I)Z" } : Jvm.MethodName)) ∈ lw_all := lw_g (lw_at lw_m7 166 rfl) rfl
theorem q1706 : (Jvm.Cond.code ({ cls := "PromiseRoofsModel", name := "isShelf", desc := "(I)Z" } : Jvm.MethodName) prog_32_method_5_code (1 : Nat) (Option.some Jvm.ClassFile.FieldType.boolean)) ∈ lw_all := lw_g (lw_at lw_m7 167 rfl) rfl
theorem q1707 : (Jvm.Cond.constantLong "PromiseRoofsModel" (121 : Nat) (4 : Int64)) ∈ lw_all := lw_g (lw_at lw_m7 168 rfl) rfl
theorem q1708 : (Jvm.Cond.methodLink "PromiseRoofsModel" (123 : Nat) ({ cls := "PromiseRoofsModel", name := "toldAt", desc := "(II)I" } : Jvm.MethodName)) ∈ lw_all := lw_g (lw_at lw_m7 169 rfl) rfl
theorem q1709 : (Jvm.Cond.privateMethod ({ cls := "PromiseRoofsModel", name := "toldAt", desc := "(II)I" } : Jvm.MethodName)) ∈ lw_tbl := lw_at lw_m7 170 rfl
theorem q1710 : (Jvm.Cond.instanceMethod ({ cls := "PromiseRoofsModel", name := "toldAt", desc := "(II)I" } : Jvm.MethodName)) ∈ lw_all := lw_g (lw_at lw_m7 171 rfl) rfl
theorem q1711 : (Jvm.Cond.code ({ cls := "PromiseRoofsModel", name := "toldAt", desc := "(II)I" } : Jvm.MethodName) prog_32_method_12_code (3 : Nat) (Option.some Jvm.ClassFile.FieldType.int)) ∈ lw_all := lw_g (lw_at lw_m7 172 rfl) rfl
theorem q1713 : (Jvm.Cond.instanceMethod ({ cls := "PromiseRoofsModel", name := "mend", desc := "(III)I" } : Jvm.MethodName)) ∈ lw_all := lw_g (lw_at lw_m7 174 rfl) rfl
theorem q1714 : (Jvm.Cond.selects "PromiseRoofsModel" ({ cls := "PromiseRoofsModel", name := "mend", desc := "(III)I" } : Jvm.MethodName) ({ cls := "PromiseRoofsModel", name := "mend", desc := "(III)I" } : Jvm.MethodName)) ∈ lw_all := lw_g (lw_at lw_m7 175 rfl) rfl
theorem q1715 : (Jvm.Cond.code ({ cls := "PromiseRoofsModel", name := "mend", desc := "(III)I" } : Jvm.MethodName) prog_32_method_17_code (6 : Nat) (Option.some Jvm.ClassFile.FieldType.int)) ∈ lw_all := lw_g (lw_at lw_m7 176 rfl) rfl
theorem q1716 : (Jvm.Cond.methodLink "PromiseRoofsModel" (130 : Nat) ({ cls := "PromiseRoofsModel", name := "isOf", desc := "(II)Z" } : Jvm.MethodName)) ∈ lw_all := lw_g (lw_at lw_m7 177 rfl) rfl
theorem q1717 : (Jvm.Cond.privateMethod ({ cls := "PromiseRoofsModel", name := "isOf", desc := "(II)Z" } : Jvm.MethodName)) ∈ lw_tbl := lw_at lw_m7 178 rfl
theorem q1718 : (Jvm.Cond.instanceMethod ({ cls := "PromiseRoofsModel", name := "isOf", desc := "(II)Z" } : Jvm.MethodName)) ∈ lw_all := lw_g (lw_at lw_m7 179 rfl) rfl
theorem q1719 : (Jvm.Cond.code ({ cls := "PromiseRoofsModel", name := "isOf", desc := "(II)Z" } : Jvm.MethodName) prog_32_method_13_code (3 : Nat) (Option.some Jvm.ClassFile.FieldType.boolean)) ∈ lw_all := lw_g (lw_at lw_m7 180 rfl) rfl
theorem q1720 : (Jvm.Cond.methodLink "PromiseRoofsModel" (127 : Nat) ({ cls := "PromiseRoofsModel", name := "isOne", desc := "(I)Z" } : Jvm.MethodName)) ∈ lw_all := lw_g (lw_at lw_m7 181 rfl) rfl
theorem q1721 : (Jvm.Cond.privateMethod ({ cls := "PromiseRoofsModel", name := "isOne", desc := "(I)Z" } : Jvm.MethodName)) ∈ lw_tbl := lw_at lw_m7 182 rfl
theorem q1722 : (Jvm.Cond.instanceMethod ({ cls := "PromiseRoofsModel", name := "isOne", desc := "(I)Z" } : Jvm.MethodName)) ∈ lw_all := lw_g (lw_at lw_m7 183 rfl) rfl
theorem q1723 : (Jvm.Cond.code ({ cls := "PromiseRoofsModel", name := "isOne", desc := "(I)Z" } : Jvm.MethodName) prog_32_method_4_code (2 : Nat) (Option.some Jvm.ClassFile.FieldType.boolean)) ∈ lw_all := lw_g (lw_at lw_m7 184 rfl) rfl
theorem q1724 : (Jvm.Cond.methodLink "PromiseRoofsModel" (134 : Nat) ({ cls := "PromiseRoofsModel", name := "isFit", desc := "(II)Z" } : Jvm.MethodName)) ∈ lw_all := lw_g (lw_at lw_m7 185 rfl) rfl
theorem q1725 : (Jvm.Cond.static ({ cls := "PromiseRoofsModel", name := "isFit", desc := "(II)Z" } : Jvm.MethodName)) ∈ lw_all := lw_g (lw_at lw_m7 186 rfl) rfl
theorem q1726 : (Jvm.Cond.code ({ cls := "PromiseRoofsModel", name := "isFit", desc := "(II)Z" } : Jvm.MethodName) prog_32_method_14_code (2 : Nat) (Option.some Jvm.ClassFile.FieldType.boolean)) ∈ lw_all := lw_g (lw_at lw_m7 187 rfl) rfl
theorem q1727 : (Jvm.Cond.constant "PromiseRoofsModel" (137 : Nat) (-2000000000 : Int32)) ∈ lw_all := lw_g (lw_at lw_m7 188 rfl) rfl
theorem q1728 : (Jvm.Cond.methodLink "PromiseRoofsModel" (138 : Nat) ({ cls := "PromiseRoofsModel", name := "get", desc := "(II)I" } : Jvm.MethodName)) ∈ lw_all := lw_g (lw_at lw_m7 189 rfl) rfl
theorem q1729 : (Jvm.Cond.privateMethod ({ cls := "PromiseRoofsModel", name := "get", desc := "(II)I" } : Jvm.MethodName)) ∈ lw_tbl := lw_at lw_m7 190 rfl
theorem q1730 : (Jvm.Cond.instanceMethod ({ cls := "PromiseRoofsModel", name := "get", desc := "(II)I" } : Jvm.MethodName)) ∈ lw_all := lw_g (lw_at lw_m7 191 rfl) rfl
theorem q1731 : (Jvm.Cond.code ({ cls := "PromiseRoofsModel", name := "get", desc := "(II)I" } : Jvm.MethodName) prog_32_method_15_code (3 : Nat) (Option.some Jvm.ClassFile.FieldType.int)) ∈ lw_all := lw_g (lw_at lw_m7 192 rfl) rfl
theorem q1732 : (Jvm.Cond.methodLink "PromiseRoofsModel" (141 : Nat) ({ cls := "PromiseRoofsModel", name := "becomes", desc := "(III)V" } : Jvm.MethodName)) ∈ lw_all := lw_g (lw_at lw_m7 193 rfl) rfl
theorem q1733 : (Jvm.Cond.privateMethod ({ cls := "PromiseRoofsModel", name := "becomes", desc := "(III)V" } : Jvm.MethodName)) ∈ lw_tbl := lw_at lw_m7 194 rfl
theorem q1734 : (Jvm.Cond.instanceMethod ({ cls := "PromiseRoofsModel", name := "becomes", desc := "(III)V" } : Jvm.MethodName)) ∈ lw_all := lw_g (lw_at lw_m7 195 rfl) rfl
theorem q1735 : (Jvm.Cond.code ({ cls := "PromiseRoofsModel", name := "becomes", desc := "(III)V" } : Jvm.MethodName) prog_32_method_16_code (4 : Nat) (Option.none : Option Jvm.ClassFile.FieldType)) ∈ lw_all := lw_g (lw_at lw_m7 196 rfl) rfl
theorem q1737 : (Jvm.Cond.instanceMethod ({ cls := "PromiseRoofsModel", name := "of", desc := "(II)I" } : Jvm.MethodName)) ∈ lw_all := lw_g (lw_at lw_m7 198 rfl) rfl
theorem q1738 : (Jvm.Cond.selects "PromiseRoofsModel" ({ cls := "PromiseRoofsModel", name := "of", desc := "(II)I" } : Jvm.MethodName) ({ cls := "PromiseRoofsModel", name := "of", desc := "(II)I" } : Jvm.MethodName)) ∈ lw_all := lw_g (lw_at lw_m7 199 rfl) rfl
theorem q1739 : (Jvm.Cond.code ({ cls := "PromiseRoofsModel", name := "of", desc := "(II)I" } : Jvm.MethodName) prog_32_method_18_code (3 : Nat) (Option.some Jvm.ClassFile.FieldType.int)) ∈ lw_all := lw_g (lw_at lw_m7 200 rfl) rfl
theorem q1741 : (Jvm.Cond.instanceMethod ({ cls := "PromiseRoofsModel", name := "undo", desc := "()I" } : Jvm.MethodName)) ∈ lw_all := lw_g (lw_at lw_m7 202 rfl) rfl
theorem q1742 : (Jvm.Cond.selects "PromiseRoofsModel" ({ cls := "PromiseRoofsModel", name := "undo", desc := "()I" } : Jvm.MethodName) ({ cls := "PromiseRoofsModel", name := "undo", desc := "()I" } : Jvm.MethodName)) ∈ lw_all := lw_g (lw_at lw_m7 203 rfl) rfl
theorem q1743 : (Jvm.Cond.code ({ cls := "PromiseRoofsModel", name := "undo", desc := "()I" } : Jvm.MethodName) prog_32_method_19_code (1 : Nat) (Option.some Jvm.ClassFile.FieldType.int)) ∈ lw_all := lw_g (lw_at lw_m7 204 rfl) rfl
theorem q1745 : (Jvm.Cond.instanceMethod ({ cls := "PromiseRoofsModel", name := "redo", desc := "()I" } : Jvm.MethodName)) ∈ lw_all := lw_g (lw_at lw_m7 206 rfl) rfl
theorem q1746 : (Jvm.Cond.selects "PromiseRoofsModel" ({ cls := "PromiseRoofsModel", name := "redo", desc := "()I" } : Jvm.MethodName) ({ cls := "PromiseRoofsModel", name := "redo", desc := "()I" } : Jvm.MethodName)) ∈ lw_all := lw_g (lw_at lw_m7 207 rfl) rfl
theorem q1747 : (Jvm.Cond.code ({ cls := "PromiseRoofsModel", name := "redo", desc := "()I" } : Jvm.MethodName) prog_32_method_20_code (1 : Nat) (Option.some Jvm.ClassFile.FieldType.int)) ∈ lw_all := lw_g (lw_at lw_m7 208 rfl) rfl
theorem q1749 : (Jvm.Cond.instanceMethod ({ cls := "PromiseRoofsModel", name := "feed", desc := "(I)I" } : Jvm.MethodName)) ∈ lw_all := lw_g (lw_at lw_m7 210 rfl) rfl
theorem q1750 : (Jvm.Cond.selects "PromiseRoofsModel" ({ cls := "PromiseRoofsModel", name := "feed", desc := "(I)I" } : Jvm.MethodName) ({ cls := "PromiseRoofsModel", name := "feed", desc := "(I)I" } : Jvm.MethodName)) ∈ lw_all := lw_g (lw_at lw_m7 211 rfl) rfl
theorem q1751 : (Jvm.Cond.code ({ cls := "PromiseRoofsModel", name := "feed", desc := "(I)I" } : Jvm.MethodName) prog_32_method_21_code (2 : Nat) (Option.some Jvm.ClassFile.FieldType.int)) ∈ lw_all := lw_g (lw_at lw_m7 212 rfl) rfl
theorem q1753 : (Jvm.Cond.instanceMethod ({ cls := "PromiseRoofsModel", name := "law", desc := "()I" } : Jvm.MethodName)) ∈ lw_all := lw_g (lw_at lw_m7 214 rfl) rfl
theorem q1754 : (Jvm.Cond.selects "PromiseRoofsModel" ({ cls := "PromiseRoofsModel", name := "law", desc := "()I" } : Jvm.MethodName) ({ cls := "PromiseRoofsModel", name := "law", desc := "()I" } : Jvm.MethodName)) ∈ lw_all := lw_g (lw_at lw_m7 215 rfl) rfl
theorem q1755 : (Jvm.Cond.code ({ cls := "PromiseRoofsModel", name := "law", desc := "()I" } : Jvm.MethodName) prog_32_method_34_code (4 : Nat) (Option.some Jvm.ClassFile.FieldType.int)) ∈ lw_all := lw_g (lw_at lw_m7 216 rfl) rfl
theorem q1756 : (Jvm.Cond.methodLink "PromiseRoofsModel" (202 : Nat) ({ cls := "PromiseRoofsModel", name := "isLine", desc := "()Z" } : Jvm.MethodName)) ∈ lw_all := lw_g (lw_at lw_m7 217 rfl) rfl
theorem q1757 : (Jvm.Cond.privateMethod ({ cls := "PromiseRoofsModel", name := "isLine", desc := "()Z" } : Jvm.MethodName)) ∈ lw_tbl := lw_at lw_m7 218 rfl
theorem q1758 : (Jvm.Cond.instanceMethod ({ cls := "PromiseRoofsModel", name := "isLine", desc := "()Z" } : Jvm.MethodName)) ∈ lw_all := lw_g (lw_at lw_m7 219 rfl) rfl
theorem q1759 : (Jvm.Cond.code ({ cls := "PromiseRoofsModel", name := "isLine", desc := "()Z" } : Jvm.MethodName) prog_32_method_33_code (1 : Nat) (Option.some Jvm.ClassFile.FieldType.boolean)) ∈ lw_all := lw_g (lw_at lw_m7 220 rfl) rfl
theorem q1760 : (Jvm.Cond.methodLink "PromiseRoofsModel" (184 : Nat) ({ cls := "PromiseRoofsModel", name := "isE", desc := "()Z" } : Jvm.MethodName)) ∈ lw_all := lw_g (lw_at lw_m7 221 rfl) rfl
theorem q1761 : (Jvm.Cond.privateMethod ({ cls := "PromiseRoofsModel", name := "isE", desc := "()Z" } : Jvm.MethodName)) ∈ lw_tbl := lw_at lw_m7 222 rfl
theorem q1762 : (Jvm.Cond.instanceMethod ({ cls := "PromiseRoofsModel", name := "isE", desc := "()Z" } : Jvm.MethodName)) ∈ lw_all := lw_g (lw_at lw_m7 223 rfl) rfl
theorem q1763 : (Jvm.Cond.code ({ cls := "PromiseRoofsModel", name := "isE", desc := "()Z" } : Jvm.MethodName) prog_32_method_32_code (1 : Nat) (Option.some Jvm.ClassFile.FieldType.boolean)) ∈ lw_all := lw_g (lw_at lw_m7 224 rfl) rfl
theorem q1764 : (Jvm.Cond.methodLink "PromiseRoofsModel" (196 : Nat) ({ cls := "PromiseRoofsModel", name := "isA", desc := "()Z" } : Jvm.MethodName)) ∈ lw_all := lw_g (lw_at lw_m7 225 rfl) rfl
theorem q1765 : (Jvm.Cond.privateMethod ({ cls := "PromiseRoofsModel", name := "isA", desc := "()Z" } : Jvm.MethodName)) ∈ lw_tbl := lw_at lw_m7 226 rfl
theorem q1766 : (Jvm.Cond.instanceMethod ({ cls := "PromiseRoofsModel", name := "isA", desc := "()Z" } : Jvm.MethodName)) ∈ lw_all := lw_g (lw_at lw_m7 227 rfl) rfl
theorem q1767 : (Jvm.Cond.code ({ cls := "PromiseRoofsModel", name := "isA", desc := "()Z" } : Jvm.MethodName) prog_32_method_31_code (1 : Nat) (Option.some Jvm.ClassFile.FieldType.boolean)) ∈ lw_all := lw_g (lw_at lw_m7 228 rfl) rfl
theorem q1768 : (Jvm.Cond.methodLink "PromiseRoofsModel" (193 : Nat) ({ cls := "PromiseRoofsModel", name := "isB", desc := "()Z" } : Jvm.MethodName)) ∈ lw_all := lw_g (lw_at lw_m7 229 rfl) rfl
theorem q1769 : (Jvm.Cond.privateMethod ({ cls := "PromiseRoofsModel", name := "isB", desc := "()Z" } : Jvm.MethodName)) ∈ lw_tbl := lw_at lw_m7 230 rfl
theorem q1770 : (Jvm.Cond.instanceMethod ({ cls := "PromiseRoofsModel", name := "isB", desc := "()Z" } : Jvm.MethodName)) ∈ lw_all := lw_g (lw_at lw_m7 231 rfl) rfl
theorem q1771 : (Jvm.Cond.code ({ cls := "PromiseRoofsModel", name := "isB", desc := "()Z" } : Jvm.MethodName) prog_32_method_30_code (2 : Nat) (Option.some Jvm.ClassFile.FieldType.boolean)) ∈ lw_all := lw_g (lw_at lw_m7 232 rfl) rfl
theorem q1772 : (Jvm.Cond.methodLink "PromiseRoofsModel" (190 : Nat) ({ cls := "PromiseRoofsModel", name := "isS", desc := "()Z" } : Jvm.MethodName)) ∈ lw_all := lw_g (lw_at lw_m7 233 rfl) rfl
theorem q1773 : (Jvm.Cond.privateMethod ({ cls := "PromiseRoofsModel", name := "isS", desc := "()Z" } : Jvm.MethodName)) ∈ lw_tbl := lw_at lw_m7 234 rfl
theorem q1774 : (Jvm.Cond.instanceMethod ({ cls := "PromiseRoofsModel", name := "isS", desc := "()Z" } : Jvm.MethodName)) ∈ lw_all := lw_g (lw_at lw_m7 235 rfl) rfl
theorem q1775 : (Jvm.Cond.code ({ cls := "PromiseRoofsModel", name := "isS", desc := "()Z" } : Jvm.MethodName) prog_32_method_29_code (2 : Nat) (Option.some Jvm.ClassFile.FieldType.boolean)) ∈ lw_all := lw_g (lw_at lw_m7 236 rfl) rfl
theorem q1776 : (Jvm.Cond.methodLink "PromiseRoofsModel" (187 : Nat) ({ cls := "PromiseRoofsModel", name := "isP", desc := "()Z" } : Jvm.MethodName)) ∈ lw_all := lw_g (lw_at lw_m7 237 rfl) rfl
theorem q1777 : (Jvm.Cond.privateMethod ({ cls := "PromiseRoofsModel", name := "isP", desc := "()Z" } : Jvm.MethodName)) ∈ lw_tbl := lw_at lw_m7 238 rfl
theorem q1778 : (Jvm.Cond.instanceMethod ({ cls := "PromiseRoofsModel", name := "isP", desc := "()Z" } : Jvm.MethodName)) ∈ lw_all := lw_g (lw_at lw_m7 239 rfl) rfl
theorem q1779 : (Jvm.Cond.code ({ cls := "PromiseRoofsModel", name := "isP", desc := "()Z" } : Jvm.MethodName) prog_32_method_28_code (2 : Nat) (Option.some Jvm.ClassFile.FieldType.boolean)) ∈ lw_all := lw_g (lw_at lw_m8 0 rfl) rfl
theorem q1780 : (Jvm.Cond.methodLink "PromiseRoofsModel" (181 : Nat) ({ cls := "PromiseRoofsModel", name := "isO", desc := "()Z" } : Jvm.MethodName)) ∈ lw_all := lw_g (lw_at lw_m8 1 rfl) rfl
theorem q1781 : (Jvm.Cond.privateMethod ({ cls := "PromiseRoofsModel", name := "isO", desc := "()Z" } : Jvm.MethodName)) ∈ lw_tbl := lw_at lw_m8 2 rfl
theorem q1782 : (Jvm.Cond.instanceMethod ({ cls := "PromiseRoofsModel", name := "isO", desc := "()Z" } : Jvm.MethodName)) ∈ lw_all := lw_g (lw_at lw_m8 3 rfl) rfl
theorem q1783 : (Jvm.Cond.code ({ cls := "PromiseRoofsModel", name := "isO", desc := "()Z" } : Jvm.MethodName) prog_32_method_27_code (3 : Nat) (Option.some Jvm.ClassFile.FieldType.boolean)) ∈ lw_all := lw_g (lw_at lw_m8 4 rfl) rfl
theorem q1784 : (Jvm.Cond.methodLink "PromiseRoofsModel" (164 : Nat) ({ cls := "PromiseRoofsModel", name := "isDigit", desc := "()Z" } : Jvm.MethodName)) ∈ lw_all := lw_g (lw_at lw_m8 5 rfl) rfl
theorem q1785 : (Jvm.Cond.privateMethod ({ cls := "PromiseRoofsModel", name := "isDigit", desc := "()Z" } : Jvm.MethodName)) ∈ lw_tbl := lw_at lw_m8 6 rfl
theorem q1786 : (Jvm.Cond.instanceMethod ({ cls := "PromiseRoofsModel", name := "isDigit", desc := "()Z" } : Jvm.MethodName)) ∈ lw_all := lw_g (lw_at lw_m8 7 rfl) rfl
theorem q1787 : (Jvm.Cond.code ({ cls := "PromiseRoofsModel", name := "isDigit", desc := "()Z" } : Jvm.MethodName) prog_32_method_25_code (1 : Nat) (Option.some Jvm.ClassFile.FieldType.boolean)) ∈ lw_all := lw_g (lw_at lw_m8 8 rfl) rfl
theorem q1788 : (Jvm.Cond.methodLink "PromiseRoofsModel" (157 : Nat) ({ cls := "PromiseRoofsModel", name := "sign", desc := "()I" } : Jvm.MethodName)) ∈ lw_all := lw_g (lw_at lw_m8 9 rfl) rfl
theorem q1789 : (Jvm.Cond.privateMethod ({ cls := "PromiseRoofsModel", name := "sign", desc := "()I" } : Jvm.MethodName)) ∈ lw_tbl := lw_at lw_m8 10 rfl
theorem q1790 : (Jvm.Cond.instanceMethod ({ cls := "PromiseRoofsModel", name := "sign", desc := "()I" } : Jvm.MethodName)) ∈ lw_all := lw_g (lw_at lw_m8 11 rfl) rfl
theorem q1791 : (Jvm.Cond.code ({ cls := "PromiseRoofsModel", name := "sign", desc := "()I" } : Jvm.MethodName) prog_32_method_22_code (1 : Nat) (Option.some Jvm.ClassFile.FieldType.int)) ∈ lw_all := lw_g (lw_at lw_m8 12 rfl) rfl
theorem q1792 : (Jvm.Cond.methodLink "PromiseRoofsModel" (168 : Nat) ({ cls := "PromiseRoofsModel", name := "codes", desc := "(I)Z" } : Jvm.MethodName)) ∈ lw_all := lw_g (lw_at lw_m8 13 rfl) rfl
theorem q1793 : (Jvm.Cond.privateMethod ({ cls := "PromiseRoofsModel", name := "codes", desc := "(I)Z" } : Jvm.MethodName)) ∈ lw_tbl := lw_at lw_m8 14 rfl
theorem q1794 : (Jvm.Cond.instanceMethod ({ cls := "PromiseRoofsModel", name := "codes", desc := "(I)Z" } : Jvm.MethodName)) ∈ lw_all := lw_g (lw_at lw_m8 15 rfl) rfl
theorem q1795 : (Jvm.Cond.code ({ cls := "PromiseRoofsModel", name := "codes", desc := "(I)Z" } : Jvm.MethodName) prog_32_method_24_code (2 : Nat) (Option.some Jvm.ClassFile.FieldType.boolean)) ∈ lw_all := lw_g (lw_at lw_m8 16 rfl) rfl
theorem q1796 : (Jvm.Cond.methodLink "PromiseRoofsModel" (171 : Nat) ({ cls := "PromiseRoofsModel", name := "nameOf", desc := "(I)I" } : Jvm.MethodName)) ∈ lw_all := lw_g (lw_at lw_m8 17 rfl) rfl
theorem q1797 : (Jvm.Cond.static ({ cls := "PromiseRoofsModel", name := "nameOf", desc := "(I)I" } : Jvm.MethodName)) ∈ lw_all := lw_g (lw_at lw_m8 18 rfl) rfl
theorem q1798 : (Jvm.Cond.code ({ cls := "PromiseRoofsModel", name := "nameOf", desc := "(I)I" } : Jvm.MethodName) prog_32_method_26_code (1 : Nat) (Option.some Jvm.ClassFile.FieldType.int)) ∈ lw_all := lw_g (lw_at lw_m8 19 rfl) rfl
theorem q1799 : (Jvm.Cond.methodLink "PromiseRoofsModel" (178 : Nat) ({ cls := "PromiseRoofsModel", name := "is", desc := "(I)Z" } : Jvm.MethodName)) ∈ lw_all := lw_g (lw_at lw_m8 20 rfl) rfl
theorem q1800 : (Jvm.Cond.privateMethod ({ cls := "PromiseRoofsModel", name := "is", desc := "(I)Z" } : Jvm.MethodName)) ∈ lw_tbl := lw_at lw_m8 21 rfl
theorem q1801 : (Jvm.Cond.instanceMethod ({ cls := "PromiseRoofsModel", name := "is", desc := "(I)Z" } : Jvm.MethodName)) ∈ lw_all := lw_g (lw_at lw_m8 22 rfl) rfl
theorem q1802 : (Jvm.Cond.code ({ cls := "PromiseRoofsModel", name := "is", desc := "(I)Z" } : Jvm.MethodName) prog_32_method_23_code (2 : Nat) (Option.some Jvm.ClassFile.FieldType.boolean)) ∈ lw_all := lw_g (lw_at lw_m8 23 rfl) rfl
theorem q1804 : (Jvm.Cond.instanceMethod ({ cls := "PromiseRoofsModel", name := "storeys", desc := "(I)I" } : Jvm.MethodName)) ∈ lw_all := lw_g (lw_at lw_m8 25 rfl) rfl
theorem q1805 : (Jvm.Cond.selects "PromiseRoofsModel" ({ cls := "PromiseRoofsModel", name := "storeys", desc := "(I)I" } : Jvm.MethodName) ({ cls := "PromiseRoofsModel", name := "storeys", desc := "(I)I" } : Jvm.MethodName)) ∈ lw_all := lw_g (lw_at lw_m8 26 rfl) rfl
theorem q1806 : (Jvm.Cond.code ({ cls := "PromiseRoofsModel", name := "storeys", desc := "(I)I" } : Jvm.MethodName) prog_32_method_41_code (2 : Nat) (Option.some Jvm.ClassFile.FieldType.int)) ∈ lw_all := lw_g (lw_at lw_m8 27 rfl) rfl
theorem q1807 : (Jvm.Cond.methodLink "PromiseRoofsModel" (236 : Nat) ({ cls := "PromiseRoofsModel", name := "storeysOf", desc := "(I)I" } : Jvm.MethodName)) ∈ lw_all := lw_g (lw_at lw_m8 28 rfl) rfl
theorem q1808 : (Jvm.Cond.privateMethod ({ cls := "PromiseRoofsModel", name := "storeysOf", desc := "(I)I" } : Jvm.MethodName)) ∈ lw_tbl := lw_at lw_m8 29 rfl
theorem q1809 : (Jvm.Cond.instanceMethod ({ cls := "PromiseRoofsModel", name := "storeysOf", desc := "(I)I" } : Jvm.MethodName)) ∈ lw_all := lw_g (lw_at lw_m8 30 rfl) rfl
theorem q1810 : (Jvm.Cond.code ({ cls := "PromiseRoofsModel", name := "storeysOf", desc := "(I)I" } : Jvm.MethodName) prog_32_method_40_code (3 : Nat) (Option.some Jvm.ClassFile.FieldType.int)) ∈ lw_all := lw_g (lw_at lw_m8 31 rfl) rfl
theorem q1811 : (Jvm.Cond.methodLink "PromiseRoofsModel" (216 : Nat) ({ cls := "PromiseRoofsModel", name := "isOpen", desc := "(I)Z" } : Jvm.MethodName)) ∈ lw_all := lw_g (lw_at lw_m8 32 rfl) rfl
theorem q1812 : (Jvm.Cond.privateMethod ({ cls := "PromiseRoofsModel", name := "isOpen", desc := "(I)Z" } : Jvm.MethodName)) ∈ lw_tbl := lw_at lw_m8 33 rfl
theorem q1813 : (Jvm.Cond.instanceMethod ({ cls := "PromiseRoofsModel", name := "isOpen", desc := "(I)Z" } : Jvm.MethodName)) ∈ lw_all := lw_g (lw_at lw_m8 34 rfl) rfl
theorem q1814 : (Jvm.Cond.code ({ cls := "PromiseRoofsModel", name := "isOpen", desc := "(I)Z" } : Jvm.MethodName) prog_32_method_37_code (2 : Nat) (Option.some Jvm.ClassFile.FieldType.boolean)) ∈ lw_all := lw_g (lw_at lw_m8 35 rfl) rfl
theorem q1815 : (Jvm.Cond.methodLink "PromiseRoofsModel" (230 : Nat) ({ cls := "PromiseRoofsModel", name := "byLaw", desc := "(I)I" } : Jvm.MethodName)) ∈ lw_all := lw_g (lw_at lw_m8 36 rfl) rfl
theorem q1816 : (Jvm.Cond.privateMethod ({ cls := "PromiseRoofsModel", name := "byLaw", desc := "(I)I" } : Jvm.MethodName)) ∈ lw_tbl := lw_at lw_m8 37 rfl
theorem q1817 : (Jvm.Cond.instanceMethod ({ cls := "PromiseRoofsModel", name := "byLaw", desc := "(I)I" } : Jvm.MethodName)) ∈ lw_all := lw_g (lw_at lw_m8 38 rfl) rfl
theorem q1818 : (Jvm.Cond.code ({ cls := "PromiseRoofsModel", name := "byLaw", desc := "(I)I" } : Jvm.MethodName) prog_32_method_39_code (4 : Nat) (Option.some Jvm.ClassFile.FieldType.int)) ∈ lw_all := lw_g (lw_at lw_m8 39 rfl) rfl
theorem q1819 : (Jvm.Cond.methodLink "PromiseRoofsModel" (219 : Nat) ({ cls := "PromiseRoofsModel", name := "isHis", desc := "(II)Z" } : Jvm.MethodName)) ∈ lw_all := lw_g (lw_at lw_m8 40 rfl) rfl
theorem q1820 : (Jvm.Cond.privateMethod ({ cls := "PromiseRoofsModel", name := "isHis", desc := "(II)Z" } : Jvm.MethodName)) ∈ lw_tbl := lw_at lw_m8 41 rfl
theorem q1821 : (Jvm.Cond.instanceMethod ({ cls := "PromiseRoofsModel", name := "isHis", desc := "(II)Z" } : Jvm.MethodName)) ∈ lw_all := lw_g (lw_at lw_m8 42 rfl) rfl
theorem q1822 : (Jvm.Cond.code ({ cls := "PromiseRoofsModel", name := "isHis", desc := "(II)Z" } : Jvm.MethodName) prog_32_method_38_code (3 : Nat) (Option.some Jvm.ClassFile.FieldType.boolean)) ∈ lw_all := lw_g (lw_at lw_m8 43 rfl) rfl
theorem q1823 : (Jvm.Cond.methodLink "PromiseRoofsModel" (222 : Nat) ({ cls := "java/lang/Math", name := "max", desc := "(II)I" } : Jvm.MethodName)) ∈ lw_all := lw_g (lw_at lw_m8 44 rfl) rfl
theorem q1824 : (Jvm.Cond.methodLink "PromiseRoofsModel" (227 : Nat) ({ cls := "PromiseRoofsModel", name := "worked", desc := "(II)I" } : Jvm.MethodName)) ∈ lw_all := lw_g (lw_at lw_m8 45 rfl) rfl
theorem q1825 : (Jvm.Cond.privateMethod ({ cls := "PromiseRoofsModel", name := "worked", desc := "(II)I" } : Jvm.MethodName)) ∈ lw_tbl := lw_at lw_m8 46 rfl
theorem q1826 : (Jvm.Cond.instanceMethod ({ cls := "PromiseRoofsModel", name := "worked", desc := "(II)I" } : Jvm.MethodName)) ∈ lw_all := lw_g (lw_at lw_m8 47 rfl) rfl
theorem q1827 : (Jvm.Cond.code ({ cls := "PromiseRoofsModel", name := "worked", desc := "(II)I" } : Jvm.MethodName) prog_32_method_36_code (6 : Nat) (Option.some Jvm.ClassFile.FieldType.int)) ∈ lw_all := lw_g (lw_at lw_m8 48 rfl) rfl
theorem q1828 : (Jvm.Cond.methodLink "PromiseRoofsModel" (212 : Nat) ({ cls := "PromiseRoofsModel", name := "both", desc := "(III)I" } : Jvm.MethodName)) ∈ lw_all := lw_g (lw_at lw_m8 49 rfl) rfl
theorem q1829 : (Jvm.Cond.static ({ cls := "PromiseRoofsModel", name := "both", desc := "(III)I" } : Jvm.MethodName)) ∈ lw_all := lw_g (lw_at lw_m8 50 rfl) rfl
theorem q1830 : (Jvm.Cond.code ({ cls := "PromiseRoofsModel", name := "both", desc := "(III)I" } : Jvm.MethodName) prog_32_method_35_code (3 : Nat) (Option.some Jvm.ClassFile.FieldType.int)) ∈ lw_all := lw_g (lw_at lw_m8 51 rfl) rfl
theorem q1831 : (Jvm.Cond.methodLink "PromiseRoofsModel" (233 : Nat) ({ cls := "java/lang/Math", name := "min", desc := "(II)I" } : Jvm.MethodName)) ∈ lw_all := lw_g (lw_at lw_m8 52 rfl) rfl
theorem q1833 : (Jvm.Cond.instanceMethod ({ cls := "PromiseRoofsModel", name := "high", desc := "(II)I" } : Jvm.MethodName)) ∈ lw_all := lw_g (lw_at lw_m8 54 rfl) rfl
theorem q1834 : (Jvm.Cond.selects "PromiseRoofsModel" ({ cls := "PromiseRoofsModel", name := "high", desc := "(II)I" } : Jvm.MethodName) ({ cls := "PromiseRoofsModel", name := "high", desc := "(II)I" } : Jvm.MethodName)) ∈ lw_all := lw_g (lw_at lw_m8 55 rfl) rfl
theorem q1835 : (Jvm.Cond.code ({ cls := "PromiseRoofsModel", name := "high", desc := "(II)I" } : Jvm.MethodName) prog_32_method_46_code (5 : Nat) (Option.some Jvm.ClassFile.FieldType.int)) ∈ lw_all := lw_g (lw_at lw_m8 56 rfl) rfl
theorem q1836 : (Jvm.Cond.methodLink "PromiseRoofsModel" (245 : Nat) ({ cls := "PromiseRoofsModel", name := "ahead", desc := "(I)I" } : Jvm.MethodName)) ∈ lw_all := lw_g (lw_at lw_m8 57 rfl) rfl
theorem q1837 : (Jvm.Cond.privateMethod ({ cls := "PromiseRoofsModel", name := "ahead", desc := "(I)I" } : Jvm.MethodName)) ∈ lw_tbl := lw_at lw_m8 58 rfl
theorem q1838 : (Jvm.Cond.instanceMethod ({ cls := "PromiseRoofsModel", name := "ahead", desc := "(I)I" } : Jvm.MethodName)) ∈ lw_all := lw_g (lw_at lw_m8 59 rfl) rfl
theorem q1839 : (Jvm.Cond.code ({ cls := "PromiseRoofsModel", name := "ahead", desc := "(I)I" } : Jvm.MethodName) prog_32_method_45_code (2 : Nat) (Option.some Jvm.ClassFile.FieldType.int)) ∈ lw_all := lw_g (lw_at lw_m8 60 rfl) rfl
theorem q1840 : (Jvm.Cond.methodLink "PromiseRoofsModel" (248 : Nat) ({ cls := "PromiseRoofsModel", name := "allHigh", desc := "()I" } : Jvm.MethodName)) ∈ lw_all := lw_g (lw_at lw_m8 61 rfl) rfl
theorem q1841 : (Jvm.Cond.privateMethod ({ cls := "PromiseRoofsModel", name := "allHigh", desc := "()I" } : Jvm.MethodName)) ∈ lw_tbl := lw_at lw_m8 62 rfl
theorem q1842 : (Jvm.Cond.instanceMethod ({ cls := "PromiseRoofsModel", name := "allHigh", desc := "()I" } : Jvm.MethodName)) ∈ lw_all := lw_g (lw_at lw_m8 63 rfl) rfl
theorem q1843 : (Jvm.Cond.code ({ cls := "PromiseRoofsModel", name := "allHigh", desc := "()I" } : Jvm.MethodName) prog_32_method_44_code (3 : Nat) (Option.some Jvm.ClassFile.FieldType.int)) ∈ lw_all := lw_g (lw_at lw_m8 64 rfl) rfl
theorem q1844 : (Jvm.Cond.methodLink "PromiseRoofsModel" (242 : Nat) ({ cls := "PromiseRoofsModel", name := "highOf", desc := "(I)I" } : Jvm.MethodName)) ∈ lw_all := lw_g (lw_at lw_m8 65 rfl) rfl
theorem q1845 : (Jvm.Cond.privateMethod ({ cls := "PromiseRoofsModel", name := "highOf", desc := "(I)I" } : Jvm.MethodName)) ∈ lw_tbl := lw_at lw_m8 66 rfl
theorem q1846 : (Jvm.Cond.instanceMethod ({ cls := "PromiseRoofsModel", name := "highOf", desc := "(I)I" } : Jvm.MethodName)) ∈ lw_all := lw_g (lw_at lw_m8 67 rfl) rfl
theorem q1847 : (Jvm.Cond.code ({ cls := "PromiseRoofsModel", name := "highOf", desc := "(I)I" } : Jvm.MethodName) prog_32_method_43_code (3 : Nat) (Option.some Jvm.ClassFile.FieldType.int)) ∈ lw_all := lw_g (lw_at lw_m8 68 rfl) rfl
theorem q1848 : (Jvm.Cond.methodLink "PromiseRoofsModel" (239 : Nat) ({ cls := "PromiseRoofsModel", name := "roofOf", desc := "(I)I" } : Jvm.MethodName)) ∈ lw_all := lw_g (lw_at lw_m8 69 rfl) rfl
theorem q1849 : (Jvm.Cond.privateMethod ({ cls := "PromiseRoofsModel", name := "roofOf", desc := "(I)I" } : Jvm.MethodName)) ∈ lw_tbl := lw_at lw_m8 70 rfl
theorem q1850 : (Jvm.Cond.instanceMethod ({ cls := "PromiseRoofsModel", name := "roofOf", desc := "(I)I" } : Jvm.MethodName)) ∈ lw_all := lw_g (lw_at lw_m8 71 rfl) rfl
theorem q1851 : (Jvm.Cond.code ({ cls := "PromiseRoofsModel", name := "roofOf", desc := "(I)I" } : Jvm.MethodName) prog_32_method_42_code (4 : Nat) (Option.some Jvm.ClassFile.FieldType.int)) ∈ lw_all := lw_g (lw_at lw_m8 72 rfl) rfl
theorem q1853 : (Jvm.Cond.instanceMethod ({ cls := "PromiseRoofsModel", name := "opens", desc := "(I)I" } : Jvm.MethodName)) ∈ lw_all := lw_g (lw_at lw_m8 74 rfl) rfl
theorem q1854 : (Jvm.Cond.selects "PromiseRoofsModel" ({ cls := "PromiseRoofsModel", name := "opens", desc := "(I)I" } : Jvm.MethodName) ({ cls := "PromiseRoofsModel", name := "opens", desc := "(I)I" } : Jvm.MethodName)) ∈ lw_all := lw_g (lw_at lw_m8 75 rfl) rfl
theorem q1855 : (Jvm.Cond.code ({ cls := "PromiseRoofsModel", name := "opens", desc := "(I)I" } : Jvm.MethodName) prog_32_method_47_code (5 : Nat) (Option.some Jvm.ClassFile.FieldType.int)) ∈ lw_all := lw_g (lw_at lw_m8 76 rfl) rfl
theorem q1857 : (Jvm.Cond.instanceMethod ({ cls := "PromiseRoofsModel", name := "roof", desc := "(I)I" } : Jvm.MethodName)) ∈ lw_all := lw_g (lw_at lw_m8 78 rfl) rfl
theorem q1858 : (Jvm.Cond.selects "PromiseRoofsModel" ({ cls := "PromiseRoofsModel", name := "roof", desc := "(I)I" } : Jvm.MethodName) ({ cls := "PromiseRoofsModel", name := "roof", desc := "(I)I" } : Jvm.MethodName)) ∈ lw_all := lw_g (lw_at lw_m8 79 rfl) rfl
theorem q1859 : (Jvm.Cond.code ({ cls := "PromiseRoofsModel", name := "roof", desc := "(I)I" } : Jvm.MethodName) prog_32_method_48_code (2 : Nat) (Option.some Jvm.ClassFile.FieldType.int)) ∈ lw_all := lw_g (lw_at lw_m8 80 rfl) rfl
theorem q1861 : (Jvm.Cond.instanceMethod ({ cls := "PromiseRoofsModel", name := "falls", desc := "(II)I" } : Jvm.MethodName)) ∈ lw_all := lw_g (lw_at lw_m8 82 rfl) rfl
theorem q1862 : (Jvm.Cond.selects "PromiseRoofsModel" ({ cls := "PromiseRoofsModel", name := "falls", desc := "(II)I" } : Jvm.MethodName) ({ cls := "PromiseRoofsModel", name := "falls", desc := "(II)I" } : Jvm.MethodName)) ∈ lw_all := lw_g (lw_at lw_m8 83 rfl) rfl
theorem q1863 : (Jvm.Cond.code ({ cls := "PromiseRoofsModel", name := "falls", desc := "(II)I" } : Jvm.MethodName) prog_32_method_49_code (6 : Nat) (Option.some Jvm.ClassFile.FieldType.int)) ∈ lw_all := lw_g (lw_at lw_m8 84 rfl) rfl
theorem q1865 : (Jvm.Cond.instanceMethod ({ cls := "PromiseRoofsModel", name := "skyline", desc := "(I)I" } : Jvm.MethodName)) ∈ lw_all := lw_g (lw_at lw_m8 86 rfl) rfl
theorem q1866 : (Jvm.Cond.selects "PromiseRoofsModel" ({ cls := "PromiseRoofsModel", name := "skyline", desc := "(I)I" } : Jvm.MethodName) ({ cls := "PromiseRoofsModel", name := "skyline", desc := "(I)I" } : Jvm.MethodName)) ∈ lw_all := lw_g (lw_at lw_m8 87 rfl) rfl
theorem q1867 : (Jvm.Cond.code ({ cls := "PromiseRoofsModel", name := "skyline", desc := "(I)I" } : Jvm.MethodName) prog_32_method_50_code (5 : Nat) (Option.some Jvm.ClassFile.FieldType.int)) ∈ lw_all := lw_g (lw_at lw_m8 88 rfl) rfl
theorem q1869 : (Jvm.Cond.instanceMethod ({ cls := "PromiseRoofsModel", name := "view", desc := "(II)I" } : Jvm.MethodName)) ∈ lw_all := lw_g (lw_at lw_m8 90 rfl) rfl
theorem q1870 : (Jvm.Cond.selects "PromiseRoofsModel" ({ cls := "PromiseRoofsModel", name := "view", desc := "(II)I" } : Jvm.MethodName) ({ cls := "PromiseRoofsModel", name := "view", desc := "(II)I" } : Jvm.MethodName)) ∈ lw_all := lw_g (lw_at lw_m8 91 rfl) rfl
theorem q1871 : (Jvm.Cond.code ({ cls := "PromiseRoofsModel", name := "view", desc := "(II)I" } : Jvm.MethodName) prog_32_method_51_code (6 : Nat) (Option.some Jvm.ClassFile.FieldType.int)) ∈ lw_all := lw_g (lw_at lw_m8 92 rfl) rfl
theorem q1873 : (Jvm.Cond.instanceMethod ({ cls := "PromiseRoofsModel", name := "what", desc := "(III)I" } : Jvm.MethodName)) ∈ lw_all := lw_g (lw_at lw_m8 94 rfl) rfl
theorem q1874 : (Jvm.Cond.selects "PromiseRoofsModel" ({ cls := "PromiseRoofsModel", name := "what", desc := "(III)I" } : Jvm.MethodName) ({ cls := "PromiseRoofsModel", name := "what", desc := "(III)I" } : Jvm.MethodName)) ∈ lw_all := lw_g (lw_at lw_m8 95 rfl) rfl
theorem q1875 : (Jvm.Cond.code ({ cls := "PromiseRoofsModel", name := "what", desc := "(III)I" } : Jvm.MethodName) prog_32_method_53_code (6 : Nat) (Option.some Jvm.ClassFile.FieldType.int)) ∈ lw_all := lw_g (lw_at lw_m8 96 rfl) rfl
theorem q1876 : (Jvm.Cond.methodLink "PromiseRoofsModel" (251 : Nat) ({ cls := "PromiseRoofsModel", name := "stands", desc := "(II)Z" } : Jvm.MethodName)) ∈ lw_all := lw_g (lw_at lw_m8 97 rfl) rfl
theorem q1877 : (Jvm.Cond.privateMethod ({ cls := "PromiseRoofsModel", name := "stands", desc := "(II)Z" } : Jvm.MethodName)) ∈ lw_tbl := lw_at lw_m8 98 rfl
theorem q1878 : (Jvm.Cond.instanceMethod ({ cls := "PromiseRoofsModel", name := "stands", desc := "(II)Z" } : Jvm.MethodName)) ∈ lw_all := lw_g (lw_at lw_m8 99 rfl) rfl
theorem q1879 : (Jvm.Cond.code ({ cls := "PromiseRoofsModel", name := "stands", desc := "(II)Z" } : Jvm.MethodName) prog_32_method_52_code (6 : Nat) (Option.some Jvm.ClassFile.FieldType.boolean)) ∈ lw_all := lw_g (lw_at lw_m8 100 rfl) rfl
theorem q1881 : (Jvm.Cond.instanceMethod ({ cls := "PromiseRoofsModel", name := "lower", desc := "(III)I" } : Jvm.MethodName)) ∈ lw_all := lw_g (lw_at lw_m8 102 rfl) rfl
theorem q1882 : (Jvm.Cond.selects "PromiseRoofsModel" ({ cls := "PromiseRoofsModel", name := "lower", desc := "(III)I" } : Jvm.MethodName) ({ cls := "PromiseRoofsModel", name := "lower", desc := "(III)I" } : Jvm.MethodName)) ∈ lw_all := lw_g (lw_at lw_m8 103 rfl) rfl
theorem q1883 : (Jvm.Cond.code ({ cls := "PromiseRoofsModel", name := "lower", desc := "(III)I" } : Jvm.MethodName) prog_32_method_56_code (10 : Nat) (Option.some Jvm.ClassFile.FieldType.int)) ∈ lw_all := lw_g (lw_at lw_m8 104 rfl) rfl
theorem q1884 : (Jvm.Cond.methodLink "PromiseRoofsModel" (254 : Nat) ({ cls := "PromiseRoofsModel", name := "highWithout", desc := "(II)I" } : Jvm.MethodName)) ∈ lw_all := lw_g (lw_at lw_m8 105 rfl) rfl
theorem q1885 : (Jvm.Cond.privateMethod ({ cls := "PromiseRoofsModel", name := "highWithout", desc := "(II)I" } : Jvm.MethodName)) ∈ lw_tbl := lw_at lw_m8 106 rfl
theorem q1886 : (Jvm.Cond.instanceMethod ({ cls := "PromiseRoofsModel", name := "highWithout", desc := "(II)I" } : Jvm.MethodName)) ∈ lw_all := lw_g (lw_at lw_m8 107 rfl) rfl
theorem q1887 : (Jvm.Cond.code ({ cls := "PromiseRoofsModel", name := "highWithout", desc := "(II)I" } : Jvm.MethodName) prog_32_method_55_code (5 : Nat) (Option.some Jvm.ClassFile.FieldType.int)) ∈ lw_all := lw_g (lw_at lw_m8 108 rfl) rfl
theorem q1888 : (Jvm.Cond.methodLink "PromiseRoofsModel" (257 : Nat) ({ cls := "PromiseRoofsModel", name := "worthOf", desc := "(I)I" } : Jvm.MethodName)) ∈ lw_all := lw_g (lw_at lw_m8 109 rfl) rfl
theorem q1889 : (Jvm.Cond.privateMethod ({ cls := "PromiseRoofsModel", name := "worthOf", desc := "(I)I" } : Jvm.MethodName)) ∈ lw_tbl := lw_at lw_m8 110 rfl
theorem q1890 : (Jvm.Cond.instanceMethod ({ cls := "PromiseRoofsModel", name := "worthOf", desc := "(I)I" } : Jvm.MethodName)) ∈ lw_all := lw_g (lw_at lw_m8 111 rfl) rfl
theorem q1891 : (Jvm.Cond.code ({ cls := "PromiseRoofsModel", name := "worthOf", desc := "(I)I" } : Jvm.MethodName) prog_32_method_54_code (4 : Nat) (Option.some Jvm.ClassFile.FieldType.int)) ∈ lw_all := lw_g (lw_at lw_m8 112 rfl) rfl
theorem q1892 : (Jvm.Cond.methodLink "PromiseRoofsModel" (260 : Nat) ({ cls := "java/lang/Integer", name := "bitCount", desc := "(I)I" } : Jvm.MethodName)) ∈ lw_all := lw_g (lw_at lw_m8 113 rfl) rfl
theorem q1894 : (Jvm.Cond.instanceMethod ({ cls := "PromiseRoofsModel", name := "holds", desc := "(II)I" } : Jvm.MethodName)) ∈ lw_all := lw_g (lw_at lw_m8 115 rfl) rfl
theorem q1895 : (Jvm.Cond.selects "PromiseRoofsModel" ({ cls := "PromiseRoofsModel", name := "holds", desc := "(II)I" } : Jvm.MethodName) ({ cls := "PromiseRoofsModel", name := "holds", desc := "(II)I" } : Jvm.MethodName)) ∈ lw_all := lw_g (lw_at lw_m8 116 rfl) rfl
theorem q1896 : (Jvm.Cond.code ({ cls := "PromiseRoofsModel", name := "holds", desc := "(II)I" } : Jvm.MethodName) prog_32_method_61_code (3 : Nat) (Option.some Jvm.ClassFile.FieldType.int)) ∈ lw_all := lw_g (lw_at lw_m8 117 rfl) rfl
theorem q1897 : (Jvm.Cond.methodLink "PromiseRoofsModel" (265 : Nat) ({ cls := "PromiseRoofsModel", name := "holder", desc := "(I)I" } : Jvm.MethodName)) ∈ lw_all := lw_g (lw_at lw_m8 118 rfl) rfl
theorem q1898 : (Jvm.Cond.privateMethod ({ cls := "PromiseRoofsModel", name := "holder", desc := "(I)I" } : Jvm.MethodName)) ∈ lw_tbl := lw_at lw_m8 119 rfl
theorem q1899 : (Jvm.Cond.instanceMethod ({ cls := "PromiseRoofsModel", name := "holder", desc := "(I)I" } : Jvm.MethodName)) ∈ lw_all := lw_g (lw_at lw_m8 120 rfl) rfl
theorem q1900 : (Jvm.Cond.code ({ cls := "PromiseRoofsModel", name := "holder", desc := "(I)I" } : Jvm.MethodName) prog_32_method_57_code (3 : Nat) (Option.some Jvm.ClassFile.FieldType.int)) ∈ lw_all := lw_g (lw_at lw_m8 121 rfl) rfl
theorem q1901 : (Jvm.Cond.methodLink "PromiseRoofsModel" (268 : Nat) ({ cls := "PromiseRoofsModel", name := "ringOf", desc := "(I)I" } : Jvm.MethodName)) ∈ lw_all := lw_g (lw_at lw_m8 122 rfl) rfl
theorem q1902 : (Jvm.Cond.privateMethod ({ cls := "PromiseRoofsModel", name := "ringOf", desc := "(I)I" } : Jvm.MethodName)) ∈ lw_tbl := lw_at lw_m8 123 rfl
theorem q1903 : (Jvm.Cond.instanceMethod ({ cls := "PromiseRoofsModel", name := "ringOf", desc := "(I)I" } : Jvm.MethodName)) ∈ lw_all := lw_g (lw_at lw_m8 124 rfl) rfl
theorem q1904 : (Jvm.Cond.code ({ cls := "PromiseRoofsModel", name := "ringOf", desc := "(I)I" } : Jvm.MethodName) prog_32_method_58_code (4 : Nat) (Option.some Jvm.ClassFile.FieldType.int)) ∈ lw_all := lw_g (lw_at lw_m8 125 rfl) rfl
theorem q1905 : (Jvm.Cond.methodLink "PromiseRoofsModel" (271 : Nat) ({ cls := "PromiseRoofsModel", name := "endOf", desc := "(I)I" } : Jvm.MethodName)) ∈ lw_all := lw_g (lw_at lw_m8 126 rfl) rfl
theorem q1906 : (Jvm.Cond.privateMethod ({ cls := "PromiseRoofsModel", name := "endOf", desc := "(I)I" } : Jvm.MethodName)) ∈ lw_tbl := lw_at lw_m8 127 rfl
theorem q1907 : (Jvm.Cond.instanceMethod ({ cls := "PromiseRoofsModel", name := "endOf", desc := "(I)I" } : Jvm.MethodName)) ∈ lw_all := lw_g (lw_at lw_m8 128 rfl) rfl
theorem q1908 : (Jvm.Cond.code ({ cls := "PromiseRoofsModel", name := "endOf", desc := "(I)I" } : Jvm.MethodName) prog_32_method_59_code (4 : Nat) (Option.some Jvm.ClassFile.FieldType.int)) ∈ lw_all := lw_g (lw_at lw_m8 129 rfl) rfl
theorem q1909 : (Jvm.Cond.methodLink "PromiseRoofsModel" (274 : Nat) ({ cls := "PromiseRoofsModel", name := "owed", desc := "(I)I" } : Jvm.MethodName)) ∈ lw_all := lw_g (lw_at lw_m8 130 rfl) rfl
theorem q1910 : (Jvm.Cond.privateMethod ({ cls := "PromiseRoofsModel", name := "owed", desc := "(I)I" } : Jvm.MethodName)) ∈ lw_tbl := lw_at lw_m8 131 rfl
theorem q1911 : (Jvm.Cond.instanceMethod ({ cls := "PromiseRoofsModel", name := "owed", desc := "(I)I" } : Jvm.MethodName)) ∈ lw_all := lw_g (lw_at lw_m8 132 rfl) rfl
theorem q1912 : (Jvm.Cond.code ({ cls := "PromiseRoofsModel", name := "owed", desc := "(I)I" } : Jvm.MethodName) prog_32_method_60_code (4 : Nat) (Option.some Jvm.ClassFile.FieldType.int)) ∈ lw_all := lw_g (lw_at lw_m8 133 rfl) rfl
theorem q1914 : (Jvm.Cond.instanceMethod ({ cls := "PromiseRoofsModel", name := "judge", desc := "(II)I" } : Jvm.MethodName)) ∈ lw_all := lw_g (lw_at lw_m8 135 rfl) rfl
theorem q1915 : (Jvm.Cond.selects "PromiseRoofsModel" ({ cls := "PromiseRoofsModel", name := "judge", desc := "(II)I" } : Jvm.MethodName) ({ cls := "PromiseRoofsModel", name := "judge", desc := "(II)I" } : Jvm.MethodName)) ∈ lw_all := lw_g (lw_at lw_m8 136 rfl) rfl
theorem q1916 : (Jvm.Cond.code ({ cls := "PromiseRoofsModel", name := "judge", desc := "(II)I" } : Jvm.MethodName) prog_32_method_64_code (4 : Nat) (Option.some Jvm.ClassFile.FieldType.int)) ∈ lw_all := lw_g (lw_at lw_m8 137 rfl) rfl
theorem q1917 : (Jvm.Cond.methodLink "PromiseRoofsModel" (277 : Nat) ({ cls := "PromiseRoofsModel", name := "noBytes", desc := "(I)I" } : Jvm.MethodName)) ∈ lw_all := lw_g (lw_at lw_m8 138 rfl) rfl
theorem q1918 : (Jvm.Cond.privateMethod ({ cls := "PromiseRoofsModel", name := "noBytes", desc := "(I)I" } : Jvm.MethodName)) ∈ lw_tbl := lw_at lw_m8 139 rfl
theorem q1919 : (Jvm.Cond.instanceMethod ({ cls := "PromiseRoofsModel", name := "noBytes", desc := "(I)I" } : Jvm.MethodName)) ∈ lw_all := lw_g (lw_at lw_m8 140 rfl) rfl
theorem q1920 : (Jvm.Cond.code ({ cls := "PromiseRoofsModel", name := "noBytes", desc := "(I)I" } : Jvm.MethodName) prog_32_method_62_code (2 : Nat) (Option.some Jvm.ClassFile.FieldType.int)) ∈ lw_all := lw_g (lw_at lw_m8 141 rfl) rfl
theorem q1921 : (Jvm.Cond.methodLink "PromiseRoofsModel" (280 : Nat) ({ cls := "PromiseRoofsModel", name := "unlike", desc := "(II)I" } : Jvm.MethodName)) ∈ lw_all := lw_g (lw_at lw_m8 142 rfl) rfl
theorem q1922 : (Jvm.Cond.privateMethod ({ cls := "PromiseRoofsModel", name := "unlike", desc := "(II)I" } : Jvm.MethodName)) ∈ lw_tbl := lw_at lw_m8 143 rfl
theorem q1923 : (Jvm.Cond.instanceMethod ({ cls := "PromiseRoofsModel", name := "unlike", desc := "(II)I" } : Jvm.MethodName)) ∈ lw_all := lw_g (lw_at lw_m8 144 rfl) rfl
theorem q1924 : (Jvm.Cond.code ({ cls := "PromiseRoofsModel", name := "unlike", desc := "(II)I" } : Jvm.MethodName) prog_32_method_63_code (6 : Nat) (Option.some Jvm.ClassFile.FieldType.int)) ∈ lw_all := lw_g (lw_at lw_m8 145 rfl) rfl
theorem q1926 : (Jvm.Cond.instanceMethod ({ cls := "PromiseRoofsModel", name := "fits", desc := "(IIII)I" } : Jvm.MethodName)) ∈ lw_all := lw_g (lw_at lw_m8 147 rfl) rfl
theorem q1927 : (Jvm.Cond.selects "PromiseRoofsModel" ({ cls := "PromiseRoofsModel", name := "fits", desc := "(IIII)I" } : Jvm.MethodName) ({ cls := "PromiseRoofsModel", name := "fits", desc := "(IIII)I" } : Jvm.MethodName)) ∈ lw_all := lw_g (lw_at lw_m8 148 rfl) rfl
theorem q1928 : (Jvm.Cond.code ({ cls := "PromiseRoofsModel", name := "fits", desc := "(IIII)I" } : Jvm.MethodName) prog_32_method_65_code (11 : Nat) (Option.some Jvm.ClassFile.FieldType.int)) ∈ lw_all := lw_g (lw_at lw_m8 149 rfl) rfl
theorem q1930 : (Jvm.Cond.instanceMethod ({ cls := "PromiseRoofsModel", name := "share", desc := "(II)I" } : Jvm.MethodName)) ∈ lw_all := lw_g (lw_at lw_m8 151 rfl) rfl
theorem q1931 : (Jvm.Cond.selects "PromiseRoofsModel" ({ cls := "PromiseRoofsModel", name := "share", desc := "(II)I" } : Jvm.MethodName) ({ cls := "PromiseRoofsModel", name := "share", desc := "(II)I" } : Jvm.MethodName)) ∈ lw_all := lw_g (lw_at lw_m8 152 rfl) rfl
theorem q1932 : (Jvm.Cond.code ({ cls := "PromiseRoofsModel", name := "share", desc := "(II)I" } : Jvm.MethodName) prog_32_method_66_code (6 : Nat) (Option.some Jvm.ClassFile.FieldType.int)) ∈ lw_all := lw_g (lw_at lw_m8 153 rfl) rfl
theorem q1933 : (Jvm.Cond.methodLink "PromiseRoofsModel" (283 : Nat) ({ cls := "PromiseRoofsModel", name := "skyline", desc := "(I)I" } : Jvm.MethodName)) ∈ lw_all := lw_g (lw_at lw_m8 154 rfl) rfl
theorem q1935 : (Jvm.Cond.instanceMethod ({ cls := "PromiseRoofsModel", name := "byTurns", desc := "(III)I" } : Jvm.MethodName)) ∈ lw_all := lw_g (lw_at lw_m8 156 rfl) rfl
theorem q1936 : (Jvm.Cond.selects "PromiseRoofsModel" ({ cls := "PromiseRoofsModel", name := "byTurns", desc := "(III)I" } : Jvm.MethodName) ({ cls := "PromiseRoofsModel", name := "byTurns", desc := "(III)I" } : Jvm.MethodName)) ∈ lw_all := lw_g (lw_at lw_m8 157 rfl) rfl
theorem q1937 : (Jvm.Cond.code ({ cls := "PromiseRoofsModel", name := "byTurns", desc := "(III)I" } : Jvm.MethodName) prog_32_method_69_code (8 : Nat) (Option.some Jvm.ClassFile.FieldType.int)) ∈ lw_all := lw_g (lw_at lw_m8 158 rfl) rfl
theorem q1938 : (Jvm.Cond.methodLink "PromiseRoofsModel" (286 : Nat) ({ cls := "PromiseRoofsModel", name := "turnFrom", desc := "(III)I" } : Jvm.MethodName)) ∈ lw_all := lw_g (lw_at lw_m8 159 rfl) rfl
theorem q1939 : (Jvm.Cond.privateMethod ({ cls := "PromiseRoofsModel", name := "turnFrom", desc := "(III)I" } : Jvm.MethodName)) ∈ lw_tbl := lw_at lw_m8 160 rfl
theorem q1940 : (Jvm.Cond.instanceMethod ({ cls := "PromiseRoofsModel", name := "turnFrom", desc := "(III)I" } : Jvm.MethodName)) ∈ lw_all := lw_g (lw_at lw_m8 161 rfl) rfl
theorem q1941 : (Jvm.Cond.code ({ cls := "PromiseRoofsModel", name := "turnFrom", desc := "(III)I" } : Jvm.MethodName) prog_32_method_68_code (8 : Nat) (Option.some Jvm.ClassFile.FieldType.int)) ∈ lw_all := lw_g (lw_at lw_m8 162 rfl) rfl
theorem q1942 : (Jvm.Cond.methodLink "PromiseRoofsModel" (289 : Nat) ({ cls := "PromiseRoofsModel", name := "mayDo", desc := "(II)Z" } : Jvm.MethodName)) ∈ lw_all := lw_g (lw_at lw_m8 163 rfl) rfl
theorem q1943 : (Jvm.Cond.privateMethod ({ cls := "PromiseRoofsModel", name := "mayDo", desc := "(II)Z" } : Jvm.MethodName)) ∈ lw_tbl := lw_at lw_m8 164 rfl
theorem q1944 : (Jvm.Cond.instanceMethod ({ cls := "PromiseRoofsModel", name := "mayDo", desc := "(II)Z" } : Jvm.MethodName)) ∈ lw_all := lw_g (lw_at lw_m8 165 rfl) rfl
theorem q1945 : (Jvm.Cond.code ({ cls := "PromiseRoofsModel", name := "mayDo", desc := "(II)Z" } : Jvm.MethodName) prog_32_method_67_code (3 : Nat) (Option.some Jvm.ClassFile.FieldType.boolean)) ∈ lw_all := lw_g (lw_at lw_m8 166 rfl) rfl
theorem q1947 : (Jvm.Cond.instanceMethod ({ cls := "PromiseRoofsModel", name := "drawn", desc := "(III)I" } : Jvm.MethodName)) ∈ lw_all := lw_g (lw_at lw_m8 168 rfl) rfl
theorem q1948 : (Jvm.Cond.selects "PromiseRoofsModel" ({ cls := "PromiseRoofsModel", name := "drawn", desc := "(III)I" } : Jvm.MethodName) ({ cls := "PromiseRoofsModel", name := "drawn", desc := "(III)I" } : Jvm.MethodName)) ∈ lw_all := lw_g (lw_at lw_m8 169 rfl) rfl
theorem q1949 : (Jvm.Cond.code ({ cls := "PromiseRoofsModel", name := "drawn", desc := "(III)I" } : Jvm.MethodName) prog_32_method_70_code (10 : Nat) (Option.some Jvm.ClassFile.FieldType.int)) ∈ lw_all := lw_g (lw_at lw_m8 170 rfl) rfl
theorem q1950 : (Jvm.Cond.constant "PromiseRoofsModel" (292 : Nat) (1103515245 : Int32)) ∈ lw_all := lw_g (lw_at lw_m8 171 rfl) rfl
theorem q1952 : (Jvm.Cond.instanceMethod ({ cls := "PromiseRoofsModel", name := "does", desc := "(II)I" } : Jvm.MethodName)) ∈ lw_all := lw_g (lw_at lw_m8 173 rfl) rfl
theorem q1953 : (Jvm.Cond.selects "PromiseRoofsModel" ({ cls := "PromiseRoofsModel", name := "does", desc := "(II)I" } : Jvm.MethodName) ({ cls := "PromiseRoofsModel", name := "does", desc := "(II)I" } : Jvm.MethodName)) ∈ lw_all := lw_g (lw_at lw_m8 174 rfl) rfl
theorem q1954 : (Jvm.Cond.code ({ cls := "PromiseRoofsModel", name := "does", desc := "(II)I" } : Jvm.MethodName) prog_32_method_71_code (3 : Nat) (Option.some Jvm.ClassFile.FieldType.int)) ∈ lw_all := lw_g (lw_at lw_m8 175 rfl) rfl
theorem q1956 : (Jvm.Cond.instanceMethod ({ cls := "PromiseRoofsModel", name := "release", desc := "(I)I" } : Jvm.MethodName)) ∈ lw_all := lw_g (lw_at lw_m8 177 rfl) rfl
theorem q1957 : (Jvm.Cond.selects "PromiseRoofsModel" ({ cls := "PromiseRoofsModel", name := "release", desc := "(I)I" } : Jvm.MethodName) ({ cls := "PromiseRoofsModel", name := "release", desc := "(I)I" } : Jvm.MethodName)) ∈ lw_all := lw_g (lw_at lw_m8 178 rfl) rfl
theorem q1958 : (Jvm.Cond.code ({ cls := "PromiseRoofsModel", name := "release", desc := "(I)I" } : Jvm.MethodName) prog_32_method_72_code (2 : Nat) (Option.some Jvm.ClassFile.FieldType.int)) ∈ lw_all := lw_g (lw_at lw_m8 179 rfl) rfl
theorem q1960 : (Jvm.Cond.instanceMethod ({ cls := "PromiseRoofsModel", name := "days", desc := "(I)I" } : Jvm.MethodName)) ∈ lw_all := lw_g (lw_at lw_m8 181 rfl) rfl
theorem q1961 : (Jvm.Cond.selects "PromiseRoofsModel" ({ cls := "PromiseRoofsModel", name := "days", desc := "(I)I" } : Jvm.MethodName) ({ cls := "PromiseRoofsModel", name := "days", desc := "(I)I" } : Jvm.MethodName)) ∈ lw_all := lw_g (lw_at lw_m8 182 rfl) rfl
theorem q1962 : (Jvm.Cond.code ({ cls := "PromiseRoofsModel", name := "days", desc := "(I)I" } : Jvm.MethodName) prog_32_method_73_code (2 : Nat) (Option.some Jvm.ClassFile.FieldType.int)) ∈ lw_all := lw_g (lw_at lw_m8 183 rfl) rfl
theorem q1964 : (Jvm.Cond.instanceMethod ({ cls := "PromiseRoofsModel", name := "led", desc := "(I)I" } : Jvm.MethodName)) ∈ lw_all := lw_g (lw_at lw_m8 185 rfl) rfl
theorem q1965 : (Jvm.Cond.selects "PromiseRoofsModel" ({ cls := "PromiseRoofsModel", name := "led", desc := "(I)I" } : Jvm.MethodName) ({ cls := "PromiseRoofsModel", name := "led", desc := "(I)I" } : Jvm.MethodName)) ∈ lw_all := lw_g (lw_at lw_m8 186 rfl) rfl
theorem q1966 : (Jvm.Cond.code ({ cls := "PromiseRoofsModel", name := "led", desc := "(I)I" } : Jvm.MethodName) prog_32_method_74_code (2 : Nat) (Option.some Jvm.ClassFile.FieldType.int)) ∈ lw_all := lw_g (lw_at lw_m8 187 rfl) rfl
theorem q1968 : (Jvm.Cond.instanceMethod ({ cls := "PromiseRoofsModel", name := "image", desc := "()I" } : Jvm.MethodName)) ∈ lw_all := lw_g (lw_at lw_m8 189 rfl) rfl
theorem q1969 : (Jvm.Cond.selects "PromiseRoofsModel" ({ cls := "PromiseRoofsModel", name := "image", desc := "()I" } : Jvm.MethodName) ({ cls := "PromiseRoofsModel", name := "image", desc := "()I" } : Jvm.MethodName)) ∈ lw_all := lw_g (lw_at lw_m8 190 rfl) rfl
theorem q1970 : (Jvm.Cond.code ({ cls := "PromiseRoofsModel", name := "image", desc := "()I" } : Jvm.MethodName) prog_32_method_75_code (2 : Nat) (Option.some Jvm.ClassFile.FieldType.int)) ∈ lw_all := lw_g (lw_at lw_m8 191 rfl) rfl
theorem q1972 : (Jvm.Cond.instanceMethod ({ cls := "PromiseRoofsModel", name := "back", desc := "()I" } : Jvm.MethodName)) ∈ lw_all := lw_g (lw_at lw_m8 193 rfl) rfl
theorem q1973 : (Jvm.Cond.selects "PromiseRoofsModel" ({ cls := "PromiseRoofsModel", name := "back", desc := "()I" } : Jvm.MethodName) ({ cls := "PromiseRoofsModel", name := "back", desc := "()I" } : Jvm.MethodName)) ∈ lw_all := lw_g (lw_at lw_m8 194 rfl) rfl
theorem q1974 : (Jvm.Cond.code ({ cls := "PromiseRoofsModel", name := "back", desc := "()I" } : Jvm.MethodName) prog_32_method_76_code (2 : Nat) (Option.some Jvm.ClassFile.FieldType.int)) ∈ lw_all := lw_g (lw_at lw_m8 195 rfl) rfl
theorem q1976 : (Jvm.Cond.instanceMethod ({ cls := "PromiseRoofsModel", name := "body", desc := "(I)I" } : Jvm.MethodName)) ∈ lw_all := lw_g (lw_at lw_m8 197 rfl) rfl
theorem q1977 : (Jvm.Cond.selects "PromiseRoofsModel" ({ cls := "PromiseRoofsModel", name := "body", desc := "(I)I" } : Jvm.MethodName) ({ cls := "PromiseRoofsModel", name := "body", desc := "(I)I" } : Jvm.MethodName)) ∈ lw_all := lw_g (lw_at lw_m8 198 rfl) rfl
theorem q1978 : (Jvm.Cond.code ({ cls := "PromiseRoofsModel", name := "body", desc := "(I)I" } : Jvm.MethodName) prog_32_method_83_code (2 : Nat) (Option.some Jvm.ClassFile.FieldType.int)) ∈ lw_all := lw_g (lw_at lw_m8 199 rfl) rfl
theorem q1980 : (Jvm.Cond.instanceMethod ({ cls := "PromiseRoofsModel", name := "act", desc := "(III)I" } : Jvm.MethodName)) ∈ lw_all := lw_g (lw_at lw_m8 201 rfl) rfl
theorem q1981 : (Jvm.Cond.selects "PromiseRoofsModel" ({ cls := "PromiseRoofsModel", name := "act", desc := "(III)I" } : Jvm.MethodName) ({ cls := "PromiseRoofsModel", name := "act", desc := "(III)I" } : Jvm.MethodName)) ∈ lw_all := lw_g (lw_at lw_m8 202 rfl) rfl
theorem q1982 : (Jvm.Cond.code ({ cls := "PromiseRoofsModel", name := "act", desc := "(III)I" } : Jvm.MethodName) prog_32_method_84_code (5 : Nat) (Option.some Jvm.ClassFile.FieldType.int)) ∈ lw_all := lw_g (lw_at lw_m8 203 rfl) rfl
theorem q1983 : (Jvm.Cond.methodLink "PromiseRoofsModel" (309 : Nat) ({ cls := "PromiseRoofsModel", name := "swearsBy", desc := "(III)I" } : Jvm.MethodName)) ∈ lw_all := lw_g (lw_at lw_m8 204 rfl) rfl
theorem q1984 : (Jvm.Cond.privateMethod ({ cls := "PromiseRoofsModel", name := "swearsBy", desc := "(III)I" } : Jvm.MethodName)) ∈ lw_tbl := lw_at lw_m8 205 rfl
theorem q1985 : (Jvm.Cond.instanceMethod ({ cls := "PromiseRoofsModel", name := "swearsBy", desc := "(III)I" } : Jvm.MethodName)) ∈ lw_all := lw_g (lw_at lw_m8 206 rfl) rfl
theorem q1986 : (Jvm.Cond.code ({ cls := "PromiseRoofsModel", name := "swearsBy", desc := "(III)I" } : Jvm.MethodName) prog_32_method_79_code (4 : Nat) (Option.some Jvm.ClassFile.FieldType.int)) ∈ lw_all := lw_g (lw_at lw_m8 207 rfl) rfl
theorem q1987 : (Jvm.Cond.methodLink "PromiseRoofsModel" (305 : Nat) ({ cls := "PromiseRoofsModel", name := "ran", desc := "(I)V" } : Jvm.MethodName)) ∈ lw_all := lw_g (lw_at lw_m8 208 rfl) rfl
theorem q1988 : (Jvm.Cond.privateMethod ({ cls := "PromiseRoofsModel", name := "ran", desc := "(I)V" } : Jvm.MethodName)) ∈ lw_tbl := lw_at lw_m8 209 rfl
theorem q1989 : (Jvm.Cond.instanceMethod ({ cls := "PromiseRoofsModel", name := "ran", desc := "(I)V" } : Jvm.MethodName)) ∈ lw_all := lw_g (lw_at lw_m8 210 rfl) rfl
theorem q1990 : (Jvm.Cond.code ({ cls := "PromiseRoofsModel", name := "ran", desc := "(I)V" } : Jvm.MethodName) prog_32_method_78_code (2 : Nat) (Option.none : Option Jvm.ClassFile.FieldType)) ∈ lw_all := lw_g (lw_at lw_m8 211 rfl) rfl
theorem q1991 : (Jvm.Cond.methodLink "PromiseRoofsModel" (312 : Nat) ({ cls := "PromiseRoofsModel", name := "above", desc := "(I)I" } : Jvm.MethodName)) ∈ lw_all := lw_g (lw_at lw_m8 212 rfl) rfl
theorem q1992 : (Jvm.Cond.static ({ cls := "PromiseRoofsModel", name := "above", desc := "(I)I" } : Jvm.MethodName)) ∈ lw_all := lw_g (lw_at lw_m8 213 rfl) rfl
theorem q1993 : (Jvm.Cond.code ({ cls := "PromiseRoofsModel", name := "above", desc := "(I)I" } : Jvm.MethodName) prog_32_method_77_code (1 : Nat) (Option.some Jvm.ClassFile.FieldType.int)) ∈ lw_all := lw_g (lw_at lw_m8 214 rfl) rfl
theorem q1994 : (Jvm.Cond.methodLink "PromiseRoofsModel" (315 : Nat) ({ cls := "PromiseRoofsModel", name := "buildsBy", desc := "(III)I" } : Jvm.MethodName)) ∈ lw_all := lw_g (lw_at lw_m8 215 rfl) rfl
theorem q1995 : (Jvm.Cond.privateMethod ({ cls := "PromiseRoofsModel", name := "buildsBy", desc := "(III)I" } : Jvm.MethodName)) ∈ lw_tbl := lw_at lw_m8 216 rfl
theorem q1996 : (Jvm.Cond.instanceMethod ({ cls := "PromiseRoofsModel", name := "buildsBy", desc := "(III)I" } : Jvm.MethodName)) ∈ lw_all := lw_g (lw_at lw_m8 217 rfl) rfl
theorem q1997 : (Jvm.Cond.code ({ cls := "PromiseRoofsModel", name := "buildsBy", desc := "(III)I" } : Jvm.MethodName) prog_32_method_80_code (5 : Nat) (Option.some Jvm.ClassFile.FieldType.int)) ∈ lw_all := lw_g (lw_at lw_m8 218 rfl) rfl
theorem q1998 : (Jvm.Cond.methodLink "PromiseRoofsModel" (318 : Nat) ({ cls := "PromiseRoofsModel", name := "fallsBy", desc := "(III)I" } : Jvm.MethodName)) ∈ lw_all := lw_g (lw_at lw_m8 219 rfl) rfl
theorem q1999 : (Jvm.Cond.privateMethod ({ cls := "PromiseRoofsModel", name := "fallsBy", desc := "(III)I" } : Jvm.MethodName)) ∈ lw_tbl := lw_at lw_m8 220 rfl
theorem q2000 : (Jvm.Cond.instanceMethod ({ cls := "PromiseRoofsModel", name := "fallsBy", desc := "(III)I" } : Jvm.MethodName)) ∈ lw_all := lw_g (lw_at lw_m8 221 rfl) rfl
theorem q2001 : (Jvm.Cond.code ({ cls := "PromiseRoofsModel", name := "fallsBy", desc := "(III)I" } : Jvm.MethodName) prog_32_method_81_code (5 : Nat) (Option.some Jvm.ClassFile.FieldType.int)) ∈ lw_all := lw_g (lw_at lw_m8 222 rfl) rfl
theorem q2002 : (Jvm.Cond.methodLink "PromiseRoofsModel" (321 : Nat) ({ cls := "PromiseRoofsModel", name := "tells", desc := "(III)I" } : Jvm.MethodName)) ∈ lw_all := lw_g (lw_at lw_m8 223 rfl) rfl
theorem q2003 : (Jvm.Cond.privateMethod ({ cls := "PromiseRoofsModel", name := "tells", desc := "(III)I" } : Jvm.MethodName)) ∈ lw_tbl := lw_at lw_m8 224 rfl
theorem q2004 : (Jvm.Cond.instanceMethod ({ cls := "PromiseRoofsModel", name := "tells", desc := "(III)I" } : Jvm.MethodName)) ∈ lw_all := lw_g (lw_at lw_m8 225 rfl) rfl
theorem q2005 : (Jvm.Cond.code ({ cls := "PromiseRoofsModel", name := "tells", desc := "(III)I" } : Jvm.MethodName) prog_32_method_82_code (5 : Nat) (Option.some Jvm.ClassFile.FieldType.int)) ∈ lw_all := lw_g (lw_at lw_m8 226 rfl) rfl
theorem q2007 : (Jvm.Cond.instanceMethod ({ cls := "PromiseRoofsModel", name := "trace", desc := "(I)I" } : Jvm.MethodName)) ∈ lw_all := lw_g (lw_at lw_m8 228 rfl) rfl
theorem q2008 : (Jvm.Cond.selects "PromiseRoofsModel" ({ cls := "PromiseRoofsModel", name := "trace", desc := "(I)I" } : Jvm.MethodName) ({ cls := "PromiseRoofsModel", name := "trace", desc := "(I)I" } : Jvm.MethodName)) ∈ lw_all := lw_g (lw_at lw_m8 229 rfl) rfl
theorem q2009 : (Jvm.Cond.code ({ cls := "PromiseRoofsModel", name := "trace", desc := "(I)I" } : Jvm.MethodName) prog_32_method_85_code (2 : Nat) (Option.some Jvm.ClassFile.FieldType.int)) ∈ lw_all := lw_g (lw_at lw_m8 230 rfl) rfl
theorem q2011 : (Jvm.Cond.instanceMethod ({ cls := "PromiseRoofsModel", name := "keep", desc := "(II)I" } : Jvm.MethodName)) ∈ lw_all := lw_g (lw_at lw_m8 232 rfl) rfl
theorem q2012 : (Jvm.Cond.selects "PromiseRoofsModel" ({ cls := "PromiseRoofsModel", name := "keep", desc := "(II)I" } : Jvm.MethodName) ({ cls := "PromiseRoofsModel", name := "keep", desc := "(II)I" } : Jvm.MethodName)) ∈ lw_all := lw_g (lw_at lw_m8 233 rfl) rfl
theorem q2013 : (Jvm.Cond.code ({ cls := "PromiseRoofsModel", name := "keep", desc := "(II)I" } : Jvm.MethodName) prog_32_method_86_code (3 : Nat) (Option.some Jvm.ClassFile.FieldType.int)) ∈ lw_all := lw_g (lw_at lw_m8 234 rfl) rfl
theorem q2015 : (Jvm.Cond.instanceMethod ({ cls := "PromiseRoofsModel", name := "row", desc := "(III)I" } : Jvm.MethodName)) ∈ lw_all := lw_g (lw_at lw_m8 236 rfl) rfl
theorem q2016 : (Jvm.Cond.selects "PromiseRoofsModel" ({ cls := "PromiseRoofsModel", name := "row", desc := "(III)I" } : Jvm.MethodName) ({ cls := "PromiseRoofsModel", name := "row", desc := "(III)I" } : Jvm.MethodName)) ∈ lw_all := lw_g (lw_at lw_m8 237 rfl) rfl
theorem q2017 : (Jvm.Cond.code ({ cls := "PromiseRoofsModel", name := "row", desc := "(III)I" } : Jvm.MethodName) prog_32_method_87_code (5 : Nat) (Option.some Jvm.ClassFile.FieldType.int)) ∈ lw_all := lw_g (lw_at lw_m8 238 rfl) rfl
theorem q2019 : (Jvm.Cond.instanceMethod ({ cls := "PromiseRoofsModel", name := "put", desc := "(IIJ)I" } : Jvm.MethodName)) ∈ lw_all := lw_g (lw_at lw_m9 0 rfl) rfl
theorem q2020 : (Jvm.Cond.selects "PromiseRoofsModel" ({ cls := "PromiseRoofsModel", name := "put", desc := "(IIJ)I" } : Jvm.MethodName) ({ cls := "PromiseRoofsModel", name := "put", desc := "(IIJ)I" } : Jvm.MethodName)) ∈ lw_all := lw_g (lw_at lw_m9 1 rfl) rfl
theorem q2021 : (Jvm.Cond.code ({ cls := "PromiseRoofsModel", name := "put", desc := "(IIJ)I" } : Jvm.MethodName) prog_32_method_90_code (5 : Nat) (Option.some Jvm.ClassFile.FieldType.int)) ∈ lw_all := lw_g (lw_at lw_m9 2 rfl) rfl
theorem q2022 : (Jvm.Cond.methodLink "PromiseRoofsModel" (327 : Nat) ({ cls := "PromiseRoofsModel", name := "isRow", desc := "(I)Z" } : Jvm.MethodName)) ∈ lw_all := lw_g (lw_at lw_m9 3 rfl) rfl
theorem q2023 : (Jvm.Cond.privateMethod ({ cls := "PromiseRoofsModel", name := "isRow", desc := "(I)Z" } : Jvm.MethodName)) ∈ lw_tbl := lw_at lw_m9 4 rfl
theorem q2024 : (Jvm.Cond.instanceMethod ({ cls := "PromiseRoofsModel", name := "isRow", desc := "(I)Z" } : Jvm.MethodName)) ∈ lw_all := lw_g (lw_at lw_m9 5 rfl) rfl
theorem q2025 : (Jvm.Cond.code ({ cls := "PromiseRoofsModel", name := "isRow", desc := "(I)Z" } : Jvm.MethodName) prog_32_method_88_code (2 : Nat) (Option.some Jvm.ClassFile.FieldType.boolean)) ∈ lw_all := lw_g (lw_at lw_m9 6 rfl) rfl
theorem q2026 : (Jvm.Cond.methodLink "PromiseRoofsModel" (330 : Nat) ({ cls := "PromiseRoofsModel", name := "kept", desc := "(IJ)J" } : Jvm.MethodName)) ∈ lw_all := lw_g (lw_at lw_m9 7 rfl) rfl
theorem q2027 : (Jvm.Cond.static ({ cls := "PromiseRoofsModel", name := "kept", desc := "(IJ)J" } : Jvm.MethodName)) ∈ lw_all := lw_g (lw_at lw_m9 8 rfl) rfl
theorem q2028 : (Jvm.Cond.code ({ cls := "PromiseRoofsModel", name := "kept", desc := "(IJ)J" } : Jvm.MethodName) prog_32_method_89_code (3 : Nat) (Option.some Jvm.ClassFile.FieldType.long)) ∈ lw_all := lw_g (lw_at lw_m9 9 rfl) rfl
theorem q2030 : (Jvm.Cond.instanceMethod ({ cls := "PromiseRoofsModel", name := "element", desc := "(II)J" } : Jvm.MethodName)) ∈ lw_all := lw_g (lw_at lw_m9 11 rfl) rfl
theorem q2031 : (Jvm.Cond.selects "PromiseRoofsModel" ({ cls := "PromiseRoofsModel", name := "element", desc := "(II)J" } : Jvm.MethodName) ({ cls := "PromiseRoofsModel", name := "element", desc := "(II)J" } : Jvm.MethodName)) ∈ lw_all := lw_g (lw_at lw_m9 12 rfl) rfl
theorem q2032 : (Jvm.Cond.code ({ cls := "PromiseRoofsModel", name := "element", desc := "(II)J" } : Jvm.MethodName) prog_32_method_91_code (3 : Nat) (Option.some Jvm.ClassFile.FieldType.long)) ∈ lw_all := lw_g (lw_at lw_m9 13 rfl) rfl
theorem q2033 : (Jvm.Cond.constantLong "PromiseRoofsModel" (334 : Nat) (-9223372036854775808 : Int64)) ∈ lw_all := lw_g (lw_at lw_m9 14 rfl) rfl
theorem q2035 : (Jvm.Cond.instanceMethod ({ cls := "PromiseRoofsModel", name := "shift", desc := "(IIIII)I" } : Jvm.MethodName)) ∈ lw_all := lw_g (lw_at lw_m9 16 rfl) rfl
theorem q2036 : (Jvm.Cond.selects "PromiseRoofsModel" ({ cls := "PromiseRoofsModel", name := "shift", desc := "(IIIII)I" } : Jvm.MethodName) ({ cls := "PromiseRoofsModel", name := "shift", desc := "(IIIII)I" } : Jvm.MethodName)) ∈ lw_all := lw_g (lw_at lw_m9 17 rfl) rfl
theorem q2037 : (Jvm.Cond.code ({ cls := "PromiseRoofsModel", name := "shift", desc := "(IIIII)I" } : Jvm.MethodName) prog_32_method_92_code (7 : Nat) (Option.some Jvm.ClassFile.FieldType.int)) ∈ lw_all := lw_g (lw_at lw_m9 18 rfl) rfl
theorem q2039 : (Jvm.Cond.instanceMethod ({ cls := "PromiseRoofsModel", name := "taken", desc := "(II)I" } : Jvm.MethodName)) ∈ lw_all := lw_g (lw_at lw_m9 20 rfl) rfl
theorem q2040 : (Jvm.Cond.selects "PromiseRoofsModel" ({ cls := "PromiseRoofsModel", name := "taken", desc := "(II)I" } : Jvm.MethodName) ({ cls := "PromiseRoofsModel", name := "taken", desc := "(II)I" } : Jvm.MethodName)) ∈ lw_all := lw_g (lw_at lw_m9 21 rfl) rfl
theorem q2041 : (Jvm.Cond.code ({ cls := "PromiseRoofsModel", name := "taken", desc := "(II)I" } : Jvm.MethodName) prog_32_method_93_code (5 : Nat) (Option.some Jvm.ClassFile.FieldType.int)) ∈ lw_all := lw_g (lw_at lw_m9 22 rfl) rfl
theorem q2043 : (Jvm.Cond.instanceMethod ({ cls := "PromiseRoofsModel", name := "count", desc := "(I)I" } : Jvm.MethodName)) ∈ lw_all := lw_g (lw_at lw_m9 24 rfl) rfl
theorem q2044 : (Jvm.Cond.selects "PromiseRoofsModel" ({ cls := "PromiseRoofsModel", name := "count", desc := "(I)I" } : Jvm.MethodName) ({ cls := "PromiseRoofsModel", name := "count", desc := "(I)I" } : Jvm.MethodName)) ∈ lw_all := lw_g (lw_at lw_m9 25 rfl) rfl
theorem q2045 : (Jvm.Cond.code ({ cls := "PromiseRoofsModel", name := "count", desc := "(I)I" } : Jvm.MethodName) prog_32_method_94_code (2 : Nat) (Option.some Jvm.ClassFile.FieldType.int)) ∈ lw_all := lw_g (lw_at lw_m9 26 rfl) rfl
theorem in_X2 : ∀ w ∈ wsX20, w ∈ lw_all := lw_in wsX20 [1588, 1590, 1592, 1594, 1596, 1598, 1600, 1602, 1604, 1606, 1608, 1610, 1612, 1614, 1616, 1618, 1620, 1622, 1624, 1626, 1628, 1630, 1632, 1634, 1636, 1638, 1640, 1642, 1644, 1646, 1648, 1650, 1652, 1654, 1656, 1658, 1660, 1662, 1664, 1666, 1668, 1670] (by decide +kernel) (by decide +kernel)
/-! PromiseRoofs$Owner -/
def RX3 : String := "PromiseRoofs$Owner"
def TX3 : u_T := fun k => match k with
  | _ => ("PromiseRoofs$Owner", "money", "I", false)
def tyX3 : Nat → FieldType := fun k => match k with
  | _ => .int
abbrev wsX30 : List Cond := u_ws RX3 TX3 1
theorem nmX3 : ∀ a, a < 1 → ∀ b, b < 1 → a ≠ b → (TX3 a).2.1 ≠ (TX3 b).2.1 := by decide +kernel
theorem tyX3_ok : ∀ k, k < 1 → parseFieldDescriptor (TX3 k).2.2.1 = some (tyX3 k) := by decide +kernel
abbrev cX3_init : ByteArray := prog_16_method_1_code
def yX3_init : MethodName := ⟨RX3, "<init>", "(I)V"⟩
theorem q103 : (Jvm.Cond.initialized "PromiseRoofs$Owner") ∈ lw_all := lw_g (lw_at lw_m1 4 rfl) rfl
theorem q301 : (Jvm.Cond.instantiable "PromiseRoofs$Owner" (1 : Nat)) ∈ lw_all := lw_g (lw_at lw_m1 202 rfl) rfl
theorem q303 : (Jvm.Cond.instanceMethod ({ cls := "PromiseRoofs$Owner", name := "<init>", desc := "(I)V" } : Jvm.MethodName)) ∈ lw_all := lw_g (lw_at lw_m1 204 rfl) rfl
theorem q304 : (Jvm.Cond.code ({ cls := "PromiseRoofs$Owner", name := "<init>", desc := "(I)V" } : Jvm.MethodName) prog_16_method_1_code (2 : Nat) (Option.none : Option Jvm.ClassFile.FieldType)) ∈ lw_all := lw_g (lw_at lw_m1 205 rfl) rfl
theorem q305 : (Jvm.Cond.methodLink "PromiseRoofs$Owner" (1 : Nat) ({ cls := "java/lang/Object", name := "<init>", desc := "()V" } : Jvm.MethodName)) ∈ lw_all := lw_g (lw_at lw_m1 206 rfl) rfl
theorem q306 : (Jvm.Cond.fieldLink "PromiseRoofs$Owner" (7 : Nat) "PromiseRoofs$Owner" "money" "I") ∈ lw_all := lw_g (lw_at lw_m1 207 rfl) rfl
theorem q308 : (Jvm.Cond.lays "PromiseRoofs$Owner" "PromiseRoofs$Owner" "money" "I") ∈ lw_all := lw_g (lw_at lw_m1 209 rfl) rfl
theorem q309 : (Jvm.Cond.soleField "PromiseRoofs$Owner" "money") ∈ lw_all := lw_g (lw_at lw_m1 210 rfl) rfl
theorem q310 : (Jvm.Cond.superclass "PromiseRoofs$Owner" "java/lang/Object") ∈ lw_all := lw_g (lw_at lw_m1 211 rfl) rfl
theorem in_X3 : ∀ w ∈ wsX30, w ∈ lw_all := lw_in wsX30 [308] (by decide +kernel) (by decide +kernel)
/-! PromiseRoofs$Promise -/
def RX4 : String := "PromiseRoofs$Promise"
def TX4 : u_T := fun k => match k with
  | 0 => ("PromiseRoofs$Promise", "by", "I", true)
  | 1 => ("PromiseRoofs$Promise", "to", "I", true)
  | 2 => ("PromiseRoofs$Promise", "worth", "I", false)
  | 3 => ("PromiseRoofs$Promise", "kind", "I", false)
  | 4 => ("PromiseRoofs$Promise", "lasts", "I", false)
  | 5 => ("PromiseRoofs$Promise", "made", "I", false)
  | _ => ("PromiseRoofs$Promise", "done", "I", false)
def tyX4 : Nat → FieldType := fun k => match k with
  | 0 => .int
  | 1 => .int
  | 2 => .int
  | 3 => .int
  | 4 => .int
  | 5 => .int
  | _ => .int
abbrev wsX40 : List Cond := u_ws RX4 TX4 7
theorem nmX4 : ∀ a, a < 7 → ∀ b, b < 7 → a ≠ b → (TX4 a).2.1 ≠ (TX4 b).2.1 := by decide +kernel
theorem tyX4_ok : ∀ k, k < 7 → parseFieldDescriptor (TX4 k).2.2.1 = some (tyX4 k) := by decide +kernel
abbrev cX4_init : ByteArray := prog_20_method_1_code
def yX4_init : MethodName := ⟨RX4, "<init>", "(IIIII)V"⟩
abbrev cX4_isOpen : ByteArray := prog_20_method_2_code
def yX4_isOpen : MethodName := ⟨RX4, "isOpen", "(I)Z"⟩
theorem q104 : (Jvm.Cond.initialized "PromiseRoofs$Promise") ∈ lw_all := lw_g (lw_at lw_m1 5 rfl) rfl
theorem q327 : (Jvm.Cond.instantiable "PromiseRoofs$Promise" (7 : Nat)) ∈ lw_all := lw_g (lw_at lw_m1 228 rfl) rfl
theorem q329 : (Jvm.Cond.instanceMethod ({ cls := "PromiseRoofs$Promise", name := "<init>", desc := "(IIIII)V" } : Jvm.MethodName)) ∈ lw_all := lw_g (lw_at lw_m1 230 rfl) rfl
theorem q330 : (Jvm.Cond.code ({ cls := "PromiseRoofs$Promise", name := "<init>", desc := "(IIIII)V" } : Jvm.MethodName) prog_20_method_1_code (6 : Nat) (Option.none : Option Jvm.ClassFile.FieldType)) ∈ lw_all := lw_g (lw_at lw_m1 231 rfl) rfl
theorem q331 : (Jvm.Cond.methodLink "PromiseRoofs$Promise" (3 : Nat) ({ cls := "java/lang/Object", name := "<init>", desc := "()V" } : Jvm.MethodName)) ∈ lw_all := lw_g (lw_at lw_m1 232 rfl) rfl
theorem q332 : (Jvm.Cond.fieldLink "PromiseRoofs$Promise" (15 : Nat) "PromiseRoofs$Promise" "by" "I") ∈ lw_all := lw_g (lw_at lw_m1 233 rfl) rfl
theorem q334 : (Jvm.Cond.fieldLink "PromiseRoofs$Promise" (18 : Nat) "PromiseRoofs$Promise" "to" "I") ∈ lw_all := lw_g (lw_at lw_m1 235 rfl) rfl
theorem q336 : (Jvm.Cond.fieldLink "PromiseRoofs$Promise" (21 : Nat) "PromiseRoofs$Promise" "worth" "I") ∈ lw_all := lw_g (lw_at lw_m1 237 rfl) rfl
theorem q338 : (Jvm.Cond.fieldLink "PromiseRoofs$Promise" (24 : Nat) "PromiseRoofs$Promise" "kind" "I") ∈ lw_all := lw_g (lw_at lw_m1 239 rfl) rfl
theorem q340 : (Jvm.Cond.fieldLink "PromiseRoofs$Promise" (9 : Nat) "PromiseRoofs$Promise" "lasts" "I") ∈ lw_all := lw_g (lw_at lw_m2 1 rfl) rfl
theorem q342 : (Jvm.Cond.fieldLink "PromiseRoofs$Promise" (27 : Nat) "PromiseRoofs$Promise" "made" "I") ∈ lw_all := lw_g (lw_at lw_m2 3 rfl) rfl
theorem q344 : (Jvm.Cond.fieldLink "PromiseRoofs$Promise" (30 : Nat) "PromiseRoofs$Promise" "done" "I") ∈ lw_all := lw_g (lw_at lw_m2 5 rfl) rfl
theorem q346 : (Jvm.Cond.laysFinal "PromiseRoofs$Promise" "PromiseRoofs$Promise" "by" "I") ∈ lw_all := lw_g (lw_at lw_m2 7 rfl) rfl
theorem q347 : (Jvm.Cond.soleField "PromiseRoofs$Promise" "by") ∈ lw_all := lw_g (lw_at lw_m2 8 rfl) rfl
theorem q348 : (Jvm.Cond.laysFinal "PromiseRoofs$Promise" "PromiseRoofs$Promise" "to" "I") ∈ lw_all := lw_g (lw_at lw_m2 9 rfl) rfl
theorem q349 : (Jvm.Cond.soleField "PromiseRoofs$Promise" "to") ∈ lw_all := lw_g (lw_at lw_m2 10 rfl) rfl
theorem q350 : (Jvm.Cond.lays "PromiseRoofs$Promise" "PromiseRoofs$Promise" "worth" "I") ∈ lw_all := lw_g (lw_at lw_m2 11 rfl) rfl
theorem q351 : (Jvm.Cond.soleField "PromiseRoofs$Promise" "worth") ∈ lw_all := lw_g (lw_at lw_m2 12 rfl) rfl
theorem q352 : (Jvm.Cond.lays "PromiseRoofs$Promise" "PromiseRoofs$Promise" "kind" "I") ∈ lw_all := lw_g (lw_at lw_m2 13 rfl) rfl
theorem q353 : (Jvm.Cond.soleField "PromiseRoofs$Promise" "kind") ∈ lw_all := lw_g (lw_at lw_m2 14 rfl) rfl
theorem q354 : (Jvm.Cond.lays "PromiseRoofs$Promise" "PromiseRoofs$Promise" "lasts" "I") ∈ lw_all := lw_g (lw_at lw_m2 15 rfl) rfl
theorem q355 : (Jvm.Cond.soleField "PromiseRoofs$Promise" "lasts") ∈ lw_all := lw_g (lw_at lw_m2 16 rfl) rfl
theorem q356 : (Jvm.Cond.lays "PromiseRoofs$Promise" "PromiseRoofs$Promise" "made" "I") ∈ lw_all := lw_g (lw_at lw_m2 17 rfl) rfl
theorem q357 : (Jvm.Cond.soleField "PromiseRoofs$Promise" "made") ∈ lw_all := lw_g (lw_at lw_m2 18 rfl) rfl
theorem q358 : (Jvm.Cond.lays "PromiseRoofs$Promise" "PromiseRoofs$Promise" "done" "I") ∈ lw_all := lw_g (lw_at lw_m2 19 rfl) rfl
theorem q359 : (Jvm.Cond.soleField "PromiseRoofs$Promise" "done") ∈ lw_all := lw_g (lw_at lw_m2 20 rfl) rfl
theorem q360 : (Jvm.Cond.superclass "PromiseRoofs$Promise" "java/lang/Object") ∈ lw_all := lw_g (lw_at lw_m2 21 rfl) rfl
theorem q821 : (Jvm.Cond.instanceMethod ({ cls := "PromiseRoofs$Promise", name := "isOpen", desc := "(I)Z" } : Jvm.MethodName)) ∈ lw_all := lw_g (lw_at lw_m4 2 rfl) rfl
theorem q822 : (Jvm.Cond.selects "PromiseRoofs$Promise" ({ cls := "PromiseRoofs$Promise", name := "isOpen", desc := "(I)Z" } : Jvm.MethodName) ({ cls := "PromiseRoofs$Promise", name := "isOpen", desc := "(I)Z" } : Jvm.MethodName)) ∈ lw_all := lw_g (lw_at lw_m4 3 rfl) rfl
theorem q823 : (Jvm.Cond.code ({ cls := "PromiseRoofs$Promise", name := "isOpen", desc := "(I)Z" } : Jvm.MethodName) prog_20_method_2_code (2 : Nat) (Option.some Jvm.ClassFile.FieldType.boolean)) ∈ lw_all := lw_g (lw_at lw_m4 4 rfl) rfl
theorem in_X4 : ∀ w ∈ wsX40, w ∈ lw_all := lw_in wsX40 [346, 348, 350, 352, 354, 356, 358] (by decide +kernel) (by decide +kernel)
/-! java/lang/Throwable -/
def RJ0 : String := "java/lang/Throwable"
def TJ0 : u_T := fun k => match k with
  | 0 => ("java/lang/Throwable", "cause", "Ljava/lang/Throwable;", false)
  | 1 => ("java/lang/Throwable", "stackTrace", "[Ljava/lang/StackTraceElement;", false)
  | 2 => ("java/lang/Throwable", "suppressedExceptions", "Ljava/util/List;", false)
  | 3 => ("java/lang/Throwable", "detailMessage", "Ljava/lang/String;", false)
  | _ => ("java/lang/Throwable", "backtrace", "Ljava/lang/Object;", false)
def tyJ0 : Nat → FieldType := fun k => match k with
  | 0 => .object "java/lang/Throwable"
  | 1 => .array (.object "java/lang/StackTraceElement")
  | 2 => .object "java/util/List"
  | 3 => .object "java/lang/String"
  | _ => .object "java/lang/Object"
abbrev wsJ00 : List Cond := u_ws RJ0 TJ0 5
theorem nmJ0 : ∀ a, a < 5 → ∀ b, b < 5 → a ≠ b → (TJ0 a).2.1 ≠ (TJ0 b).2.1 := by decide +kernel
theorem tyJ0_ok : ∀ k, k < 5 → parseFieldDescriptor (TJ0 k).2.2.1 = some (tyJ0 k) := by decide +kernel
abbrev cJ0_init : ByteArray := prog_47_method_2_code
def yJ0_init : MethodName := ⟨RJ0, "<init>", "(Ljava/lang/String;)V"⟩
abbrev cJ0_init_2 : ByteArray := prog_47_method_1_code
def yJ0_init_2 : MethodName := ⟨RJ0, "<init>", "()V"⟩
theorem q105 : (Jvm.Cond.initialized "java/lang/Throwable") ∈ lw_all := lw_g (lw_at lw_m1 6 rfl) rfl
theorem q376 : (Jvm.Cond.instanceMethod ({ cls := "java/lang/Throwable", name := "<init>", desc := "(Ljava/lang/String;)V" } : Jvm.MethodName)) ∈ lw_all := lw_g (lw_at lw_m2 37 rfl) rfl
theorem q377 : (Jvm.Cond.code ({ cls := "java/lang/Throwable", name := "<init>", desc := "(Ljava/lang/String;)V" } : Jvm.MethodName) prog_47_method_2_code (2 : Nat) (Option.none : Option Jvm.ClassFile.FieldType)) ∈ lw_all := lw_g (lw_at lw_m2 38 rfl) rfl
theorem q378 : (Jvm.Cond.methodLink "java/lang/Throwable" (1 : Nat) ({ cls := "java/lang/Object", name := "<init>", desc := "()V" } : Jvm.MethodName)) ∈ lw_all := lw_g (lw_at lw_m2 39 rfl) rfl
theorem q379 : (Jvm.Cond.fieldLink "java/lang/Throwable" (13 : Nat) "java/lang/Throwable" "UNASSIGNED_STACK" "[Ljava/lang/StackTraceElement;") ∈ lw_all := lw_g (lw_at lw_m2 40 rfl) rfl
theorem q380 : (Jvm.Cond.laysStatic "java/lang/Throwable" "UNASSIGNED_STACK" "[Ljava/lang/StackTraceElement;") ∈ lw_tbl := lw_at lw_m2 41 rfl
theorem q381 : (Jvm.Cond.fieldLink "java/lang/Throwable" (20 : Nat) "java/lang/Throwable" "SUPPRESSED_SENTINEL" "Ljava/util/List;") ∈ lw_all := lw_g (lw_at lw_m2 42 rfl) rfl
theorem q382 : (Jvm.Cond.laysStatic "java/lang/Throwable" "SUPPRESSED_SENTINEL" "Ljava/util/List;") ∈ lw_tbl := lw_at lw_m2 43 rfl
theorem q383 : (Jvm.Cond.methodLink "java/lang/Throwable" (27 : Nat) ({ cls := "java/lang/Throwable", name := "fillInStackTrace", desc := "()Ljava/lang/Throwable;" } : Jvm.MethodName)) ∈ lw_all := lw_g (lw_at lw_m2 44 rfl) rfl
theorem q384 : (Jvm.Cond.instanceMethod ({ cls := "java/lang/Throwable", name := "fillInStackTrace", desc := "()Ljava/lang/Throwable;" } : Jvm.MethodName)) ∈ lw_all := lw_g (lw_at lw_m2 45 rfl) rfl
theorem q385 : (Jvm.Cond.sameMethod "java/lang/Throwable" "java/lang/Throwable" "fillInStackTrace" "()Ljava/lang/Throwable;") ∈ lw_all := lw_g (lw_at lw_m2 46 rfl) rfl
theorem q399 : (Jvm.Cond.declares ({ cls := "java/lang/Throwable", name := "fillInStackTrace", desc := "()Ljava/lang/Throwable;" } : Jvm.MethodName)) ∈ lw_tbl := lw_at lw_m2 60 rfl
theorem q403 : (Jvm.Cond.codeSync ({ cls := "java/lang/Throwable", name := "fillInStackTrace", desc := "()Ljava/lang/Throwable;" } : Jvm.MethodName) prog_47_method_18_code (1 : Nat) (Option.some (Jvm.ClassFile.FieldType.object "java/lang/Throwable"))) ∈ lw_all := lw_g (lw_at lw_m2 64 rfl) rfl
theorem q404 : (Jvm.Cond.methodLink "java/lang/Throwable" (202 : Nat) ({ cls := "java/lang/Throwable", name := "fillInStackTrace", desc := "(I)Ljava/lang/Throwable;" } : Jvm.MethodName)) ∈ lw_all := lw_g (lw_at lw_m2 65 rfl) rfl
theorem q405 : (Jvm.Cond.privateMethod ({ cls := "java/lang/Throwable", name := "fillInStackTrace", desc := "(I)Ljava/lang/Throwable;" } : Jvm.MethodName)) ∈ lw_tbl := lw_at lw_m2 66 rfl
theorem q406 : (Jvm.Cond.instanceMethod ({ cls := "java/lang/Throwable", name := "fillInStackTrace", desc := "(I)Ljava/lang/Throwable;" } : Jvm.MethodName)) ∈ lw_all := lw_g (lw_at lw_m2 67 rfl) rfl
theorem q407 : (Jvm.Cond.instantiable "java/lang/Throwable" (6 : Nat)) ∈ lw_all := lw_g (lw_at lw_m2 68 rfl) rfl
theorem q408 : (Jvm.Cond.native ({ cls := "java/lang/Throwable", name := "fillInStackTrace", desc := "(I)Ljava/lang/Throwable;" } : Jvm.MethodName)) ∈ lw_all := lw_g (lw_at lw_m2 69 rfl) rfl
theorem q409 : (Jvm.Cond.fieldLink "java/lang/Throwable" (198 : Nat) "java/lang/Throwable" "backtrace" "Ljava/lang/Object;") ∈ lw_all := lw_g (lw_at lw_m2 70 rfl) rfl
theorem q410 : (Jvm.Cond.fieldLink "java/lang/Throwable" (31 : Nat) "java/lang/Throwable" "detailMessage" "Ljava/lang/String;") ∈ lw_all := lw_g (lw_at lw_m2 71 rfl) rfl
theorem q411 : (Jvm.Cond.fieldLink "java/lang/Throwable" (7 : Nat) "java/lang/Throwable" "cause" "Ljava/lang/Throwable;") ∈ lw_all := lw_g (lw_at lw_m2 72 rfl) rfl
theorem q412 : (Jvm.Cond.fieldLink "java/lang/Throwable" (17 : Nat) "java/lang/Throwable" "stackTrace" "[Ljava/lang/StackTraceElement;") ∈ lw_all := lw_g (lw_at lw_m2 73 rfl) rfl
theorem q413 : (Jvm.Cond.fieldLink "java/lang/Throwable" (24 : Nat) "java/lang/Throwable" "suppressedExceptions" "Ljava/util/List;") ∈ lw_all := lw_g (lw_at lw_m2 74 rfl) rfl
theorem q415 : (Jvm.Cond.soleField "java/lang/Throwable" "backtrace") ∈ lw_all := lw_g (lw_at lw_m2 76 rfl) rfl
theorem q417 : (Jvm.Cond.soleField "java/lang/Throwable" "detailMessage") ∈ lw_all := lw_g (lw_at lw_m2 78 rfl) rfl
theorem q419 : (Jvm.Cond.soleField "java/lang/Throwable" "cause") ∈ lw_all := lw_g (lw_at lw_m2 80 rfl) rfl
theorem q421 : (Jvm.Cond.soleField "java/lang/Throwable" "stackTrace") ∈ lw_all := lw_g (lw_at lw_m2 82 rfl) rfl
theorem q423 : (Jvm.Cond.soleField "java/lang/Throwable" "depth") ∈ lw_all := lw_g (lw_at lw_m2 84 rfl) rfl
theorem q425 : (Jvm.Cond.soleField "java/lang/Throwable" "suppressedExceptions") ∈ lw_all := lw_g (lw_at lw_m2 86 rfl) rfl
theorem q432 : (Jvm.Cond.declares ({ cls := "java/lang/Throwable", name := "<init>", desc := "()V" } : Jvm.MethodName)) ∈ lw_tbl := lw_at lw_m2 93 rfl
theorem q433 : (Jvm.Cond.declares ({ cls := "java/lang/Throwable", name := "<init>", desc := "(Ljava/lang/String;)V" } : Jvm.MethodName)) ∈ lw_tbl := lw_at lw_m2 94 rfl
theorem q435 : (Jvm.Cond.lays "java/lang/Throwable" "java/lang/Throwable" "cause" "Ljava/lang/Throwable;") ∈ lw_all := lw_g (lw_at lw_m2 96 rfl) rfl
theorem q436 : (Jvm.Cond.lays "java/lang/Throwable" "java/lang/Throwable" "stackTrace" "[Ljava/lang/StackTraceElement;") ∈ lw_all := lw_g (lw_at lw_m2 97 rfl) rfl
theorem q437 : (Jvm.Cond.lays "java/lang/Throwable" "java/lang/Throwable" "suppressedExceptions" "Ljava/util/List;") ∈ lw_all := lw_g (lw_at lw_m2 98 rfl) rfl
theorem q438 : (Jvm.Cond.lays "java/lang/Throwable" "java/lang/Throwable" "detailMessage" "Ljava/lang/String;") ∈ lw_all := lw_g (lw_at lw_m2 99 rfl) rfl
theorem q439 : (Jvm.Cond.lays "java/lang/Throwable" "java/lang/Throwable" "backtrace" "Ljava/lang/Object;") ∈ lw_all := lw_g (lw_at lw_m2 100 rfl) rfl
theorem q440 : (Jvm.Cond.fieldLink "java/lang/Throwable" (198 : Nat) "java/lang/Throwable" "backtrace" "Ljava/lang/Object;") ∈ lw_all := lw_g (lw_at lw_m2 101 rfl) rfl
theorem q441 : (Jvm.Cond.superclass "java/lang/Throwable" "java/lang/Object") ∈ lw_all := lw_g (lw_at lw_m2 102 rfl) rfl
theorem q442 : (Jvm.Cond.instanceMethod ({ cls := "java/lang/Throwable", name := "<init>", desc := "()V" } : Jvm.MethodName)) ∈ lw_all := lw_g (lw_at lw_m2 103 rfl) rfl
theorem q443 : (Jvm.Cond.code ({ cls := "java/lang/Throwable", name := "<init>", desc := "()V" } : Jvm.MethodName) prog_47_method_1_code (1 : Nat) (Option.none : Option Jvm.ClassFile.FieldType)) ∈ lw_all := lw_g (lw_at lw_m2 104 rfl) rfl
theorem q2047 : (Jvm.Cond.sameMethod "java/lang/Throwable" "java/lang/Throwable" "fillInStackTrace" "(I)Ljava/lang/Throwable;") ∈ lw_all := lw_g (lw_at lw_m9 28 rfl) rfl
theorem in_J0 : ∀ w ∈ wsJ00, w ∈ lw_all := lw_in wsJ00 [435, 436, 437, 438, 439] (by decide +kernel) (by decide +kernel)
/-! java/lang/Exception -/
def RJ1 : String := "java/lang/Exception"
abbrev cJ1_init : ByteArray := prog_36_method_2_code
def yJ1_init : MethodName := ⟨RJ1, "<init>", "(Ljava/lang/String;)V"⟩
abbrev cJ1_init_2 : ByteArray := prog_36_method_1_code
def yJ1_init_2 : MethodName := ⟨RJ1, "<init>", "()V"⟩
theorem q106 : (Jvm.Cond.initialized "java/lang/Exception") ∈ lw_all := lw_g (lw_at lw_m1 7 rfl) rfl
theorem q373 : (Jvm.Cond.instanceMethod ({ cls := "java/lang/Exception", name := "<init>", desc := "(Ljava/lang/String;)V" } : Jvm.MethodName)) ∈ lw_all := lw_g (lw_at lw_m2 34 rfl) rfl
theorem q374 : (Jvm.Cond.code ({ cls := "java/lang/Exception", name := "<init>", desc := "(Ljava/lang/String;)V" } : Jvm.MethodName) prog_36_method_2_code (2 : Nat) (Option.none : Option Jvm.ClassFile.FieldType)) ∈ lw_all := lw_g (lw_at lw_m2 35 rfl) rfl
theorem q375 : (Jvm.Cond.methodLink "java/lang/Exception" (7 : Nat) ({ cls := "java/lang/Throwable", name := "<init>", desc := "(Ljava/lang/String;)V" } : Jvm.MethodName)) ∈ lw_all := lw_g (lw_at lw_m2 36 rfl) rfl
theorem q402 : (Jvm.Cond.superclass "java/lang/Exception" "java/lang/Throwable") ∈ lw_all := lw_g (lw_at lw_m2 63 rfl) rfl
theorem q430 : (Jvm.Cond.declares ({ cls := "java/lang/Exception", name := "<init>", desc := "()V" } : Jvm.MethodName)) ∈ lw_tbl := lw_at lw_m2 91 rfl
theorem q431 : (Jvm.Cond.declares ({ cls := "java/lang/Exception", name := "<init>", desc := "(Ljava/lang/String;)V" } : Jvm.MethodName)) ∈ lw_tbl := lw_at lw_m2 92 rfl
theorem q456 : (Jvm.Cond.instanceMethod ({ cls := "java/lang/Exception", name := "<init>", desc := "()V" } : Jvm.MethodName)) ∈ lw_all := lw_g (lw_at lw_m2 117 rfl) rfl
theorem q457 : (Jvm.Cond.code ({ cls := "java/lang/Exception", name := "<init>", desc := "()V" } : Jvm.MethodName) prog_36_method_1_code (1 : Nat) (Option.none : Option Jvm.ClassFile.FieldType)) ∈ lw_all := lw_g (lw_at lw_m2 118 rfl) rfl
theorem q458 : (Jvm.Cond.methodLink "java/lang/Exception" (1 : Nat) ({ cls := "java/lang/Throwable", name := "<init>", desc := "()V" } : Jvm.MethodName)) ∈ lw_all := lw_g (lw_at lw_m2 119 rfl) rfl
/-! java/lang/RuntimeException -/
def RJ2 : String := "java/lang/RuntimeException"
abbrev cJ2_init : ByteArray := prog_42_method_2_code
def yJ2_init : MethodName := ⟨RJ2, "<init>", "(Ljava/lang/String;)V"⟩
abbrev cJ2_init_2 : ByteArray := prog_42_method_1_code
def yJ2_init_2 : MethodName := ⟨RJ2, "<init>", "()V"⟩
theorem q107 : (Jvm.Cond.initialized "java/lang/RuntimeException") ∈ lw_all := lw_g (lw_at lw_m1 8 rfl) rfl
theorem q370 : (Jvm.Cond.instanceMethod ({ cls := "java/lang/RuntimeException", name := "<init>", desc := "(Ljava/lang/String;)V" } : Jvm.MethodName)) ∈ lw_all := lw_g (lw_at lw_m2 31 rfl) rfl
theorem q371 : (Jvm.Cond.code ({ cls := "java/lang/RuntimeException", name := "<init>", desc := "(Ljava/lang/String;)V" } : Jvm.MethodName) prog_42_method_2_code (2 : Nat) (Option.none : Option Jvm.ClassFile.FieldType)) ∈ lw_all := lw_g (lw_at lw_m2 32 rfl) rfl
theorem q372 : (Jvm.Cond.methodLink "java/lang/RuntimeException" (7 : Nat) ({ cls := "java/lang/Exception", name := "<init>", desc := "(Ljava/lang/String;)V" } : Jvm.MethodName)) ∈ lw_all := lw_g (lw_at lw_m2 33 rfl) rfl
theorem q398 : (Jvm.Cond.sameMethod "java/lang/RuntimeException" "java/lang/Throwable" "fillInStackTrace" "()Ljava/lang/Throwable;") ∈ lw_all := lw_g (lw_at lw_m2 59 rfl) rfl
theorem q401 : (Jvm.Cond.superclass "java/lang/RuntimeException" "java/lang/Exception") ∈ lw_all := lw_g (lw_at lw_m2 62 rfl) rfl
theorem q428 : (Jvm.Cond.declares ({ cls := "java/lang/RuntimeException", name := "<init>", desc := "()V" } : Jvm.MethodName)) ∈ lw_tbl := lw_at lw_m2 89 rfl
theorem q429 : (Jvm.Cond.declares ({ cls := "java/lang/RuntimeException", name := "<init>", desc := "(Ljava/lang/String;)V" } : Jvm.MethodName)) ∈ lw_tbl := lw_at lw_m2 90 rfl
theorem q453 : (Jvm.Cond.instanceMethod ({ cls := "java/lang/RuntimeException", name := "<init>", desc := "()V" } : Jvm.MethodName)) ∈ lw_all := lw_g (lw_at lw_m2 114 rfl) rfl
theorem q454 : (Jvm.Cond.code ({ cls := "java/lang/RuntimeException", name := "<init>", desc := "()V" } : Jvm.MethodName) prog_42_method_1_code (1 : Nat) (Option.none : Option Jvm.ClassFile.FieldType)) ∈ lw_all := lw_g (lw_at lw_m2 115 rfl) rfl
theorem q455 : (Jvm.Cond.methodLink "java/lang/RuntimeException" (1 : Nat) ({ cls := "java/lang/Exception", name := "<init>", desc := "()V" } : Jvm.MethodName)) ∈ lw_all := lw_g (lw_at lw_m2 116 rfl) rfl
theorem q473 : (Jvm.Cond.castable "java/lang/RuntimeException" "java/lang/Throwable") ∈ lw_tbl := lw_at lw_m2 134 rfl
/-! java/lang/ClassCastException -/
def RJ3 : String := "java/lang/ClassCastException"
def TJ3 : u_T := fun k => match k with
  | 0 => ("java/lang/Throwable", "backtrace", "Ljava/lang/Object;", false)
  | 1 => ("java/lang/Throwable", "detailMessage", "Ljava/lang/String;", false)
  | 2 => ("java/lang/Throwable", "cause", "Ljava/lang/Throwable;", false)
  | 3 => ("java/lang/Throwable", "stackTrace", "[Ljava/lang/StackTraceElement;", false)
  | 4 => ("java/lang/Throwable", "depth", "I", false)
  | _ => ("java/lang/Throwable", "suppressedExceptions", "Ljava/util/List;", false)
def tyJ3 : Nat → FieldType := fun k => match k with
  | 0 => .object "java/lang/Object"
  | 1 => .object "java/lang/String"
  | 2 => .object "java/lang/Throwable"
  | 3 => .array (.object "java/lang/StackTraceElement")
  | 4 => .int
  | _ => .object "java/util/List"
abbrev wsJ30 : List Cond := u_ws RJ3 TJ3 6
theorem nmJ3 : ∀ a, a < 6 → ∀ b, b < 6 → a ≠ b → (TJ3 a).2.1 ≠ (TJ3 b).2.1 := by decide +kernel
theorem tyJ3_ok : ∀ k, k < 6 → parseFieldDescriptor (TJ3 k).2.2.1 = some (tyJ3 k) := by decide +kernel
abbrev cJ3_init : ByteArray := prog_35_method_2_code
def yJ3_init : MethodName := ⟨RJ3, "<init>", "(Ljava/lang/String;)V"⟩
theorem q108 : (Jvm.Cond.initialized "java/lang/ClassCastException") ∈ lw_all := lw_g (lw_at lw_m1 9 rfl) rfl
theorem q366 : (Jvm.Cond.instantiable "java/lang/ClassCastException" (6 : Nat)) ∈ lw_all := lw_g (lw_at lw_m2 27 rfl) rfl
theorem q367 : (Jvm.Cond.instanceMethod ({ cls := "java/lang/ClassCastException", name := "<init>", desc := "(Ljava/lang/String;)V" } : Jvm.MethodName)) ∈ lw_all := lw_g (lw_at lw_m2 28 rfl) rfl
theorem q368 : (Jvm.Cond.code ({ cls := "java/lang/ClassCastException", name := "<init>", desc := "(Ljava/lang/String;)V" } : Jvm.MethodName) prog_35_method_2_code (2 : Nat) (Option.none : Option Jvm.ClassFile.FieldType)) ∈ lw_all := lw_g (lw_at lw_m2 29 rfl) rfl
theorem q369 : (Jvm.Cond.methodLink "java/lang/ClassCastException" (7 : Nat) ({ cls := "java/lang/RuntimeException", name := "<init>", desc := "(Ljava/lang/String;)V" } : Jvm.MethodName)) ∈ lw_all := lw_g (lw_at lw_m2 30 rfl) rfl
theorem q387 : (Jvm.Cond.selects "java/lang/ClassCastException" ({ cls := "java/lang/Throwable", name := "fillInStackTrace", desc := "()Ljava/lang/Throwable;" } : Jvm.MethodName) ({ cls := "java/lang/Throwable", name := "fillInStackTrace", desc := "()Ljava/lang/Throwable;" } : Jvm.MethodName)) ∈ lw_all := lw_g (lw_at lw_m2 48 rfl) rfl
theorem q414 : (Jvm.Cond.lays "java/lang/ClassCastException" "java/lang/Throwable" "backtrace" "Ljava/lang/Object;") ∈ lw_all := lw_g (lw_at lw_m2 75 rfl) rfl
theorem q416 : (Jvm.Cond.lays "java/lang/ClassCastException" "java/lang/Throwable" "detailMessage" "Ljava/lang/String;") ∈ lw_all := lw_g (lw_at lw_m2 77 rfl) rfl
theorem q418 : (Jvm.Cond.lays "java/lang/ClassCastException" "java/lang/Throwable" "cause" "Ljava/lang/Throwable;") ∈ lw_all := lw_g (lw_at lw_m2 79 rfl) rfl
theorem q420 : (Jvm.Cond.lays "java/lang/ClassCastException" "java/lang/Throwable" "stackTrace" "[Ljava/lang/StackTraceElement;") ∈ lw_all := lw_g (lw_at lw_m2 81 rfl) rfl
theorem q422 : (Jvm.Cond.lays "java/lang/ClassCastException" "java/lang/Throwable" "depth" "I") ∈ lw_all := lw_g (lw_at lw_m2 83 rfl) rfl
theorem q424 : (Jvm.Cond.lays "java/lang/ClassCastException" "java/lang/Throwable" "suppressedExceptions" "Ljava/util/List;") ∈ lw_all := lw_g (lw_at lw_m2 85 rfl) rfl
theorem q426 : (Jvm.Cond.superclass "java/lang/ClassCastException" "java/lang/RuntimeException") ∈ lw_all := lw_g (lw_at lw_m2 87 rfl) rfl
theorem q427 : (Jvm.Cond.castable "java/lang/ClassCastException" "java/lang/ClassCastException") ∈ lw_tbl := lw_at lw_m2 88 rfl
theorem q434 : (Jvm.Cond.selects "java/lang/ClassCastException" ({ cls := "java/lang/Throwable", name := "fillInStackTrace", desc := "(I)Ljava/lang/Throwable;" } : Jvm.MethodName) ({ cls := "java/lang/Throwable", name := "fillInStackTrace", desc := "(I)Ljava/lang/Throwable;" } : Jvm.MethodName)) ∈ lw_all := lw_g (lw_at lw_m2 95 rfl) rfl
theorem in_J3 : ∀ w ∈ wsJ30, w ∈ lw_all := lw_in wsJ30 [414, 416, 418, 420, 422, 424] (by decide +kernel) (by decide +kernel)
/-! java/lang/String -/
def RJ4 : String := "java/lang/String"
def TJ4 : u_T := fun k => match k with
  | 0 => ("java/lang/String", "value", "[B", true)
  | _ => ("java/lang/String", "coder", "B", true)
def tyJ4 : Nat → FieldType := fun k => match k with
  | 0 => .array .byte
  | _ => .byte
abbrev wsJ40 : List Cond := u_ws RJ4 TJ4 2
theorem nmJ4 : ∀ a, a < 2 → ∀ b, b < 2 → a ≠ b → (TJ4 a).2.1 ≠ (TJ4 b).2.1 := by decide +kernel
theorem tyJ4_ok : ∀ k, k < 2 → parseFieldDescriptor (TJ4 k).2.2.1 = some (tyJ4 k) := by decide +kernel
abbrev cJ4_indexOf : ByteArray := prog_43_method_79_code
def yJ4_indexOf : MethodName := ⟨RJ4, "indexOf", "(I)I"⟩
abbrev cJ4_indexOf_2 : ByteArray := prog_43_method_80_code
def yJ4_indexOf_2 : MethodName := ⟨RJ4, "indexOf", "(II)I"⟩
abbrev cJ4_isLatin1 : ByteArray := prog_43_method_154_code
def yJ4_isLatin1 : MethodName := ⟨RJ4, "isLatin1", "()Z"⟩
abbrev cJ4_length : ByteArray := prog_43_method_54_code
def yJ4_length : MethodName := ⟨RJ4, "length", "()I"⟩
abbrev cJ4_coder : ByteArray := prog_43_method_152_code
def yJ4_coder : MethodName := ⟨RJ4, "coder", "()B"⟩
abbrev cJ4_checkBoundsBeginEnd : ByteArray := prog_43_method_158_code
def yJ4_checkBoundsBeginEnd : MethodName := ⟨RJ4, "checkBoundsBeginEnd", "(III)V"⟩
theorem q109 : (Jvm.Cond.initialized "java/lang/String") ∈ lw_all := lw_g (lw_at lw_m1 10 rfl) rfl
theorem q444 : (Jvm.Cond.instantiable "java/lang/String" (4 : Nat)) ∈ lw_all := lw_g (lw_at lw_m2 105 rfl) rfl
theorem q445 : (Jvm.Cond.laysFinal "java/lang/String" "java/lang/String" "value" "[B") ∈ lw_all := lw_g (lw_at lw_m2 106 rfl) rfl
theorem q446 : (Jvm.Cond.soleField "java/lang/String" "value") ∈ lw_all := lw_g (lw_at lw_m2 107 rfl) rfl
theorem q447 : (Jvm.Cond.laysFinal "java/lang/String" "java/lang/String" "coder" "B") ∈ lw_all := lw_g (lw_at lw_m2 108 rfl) rfl
theorem q448 : (Jvm.Cond.soleField "java/lang/String" "coder") ∈ lw_all := lw_g (lw_at lw_m2 109 rfl) rfl
theorem q652 : (Jvm.Cond.instanceMethod ({ cls := "java/lang/String", name := "indexOf", desc := "(I)I" } : Jvm.MethodName)) ∈ lw_all := lw_g (lw_at lw_m3 73 rfl) rfl
theorem q653 : (Jvm.Cond.selects "java/lang/String" ({ cls := "java/lang/String", name := "indexOf", desc := "(I)I" } : Jvm.MethodName) ({ cls := "java/lang/String", name := "indexOf", desc := "(I)I" } : Jvm.MethodName)) ∈ lw_all := lw_g (lw_at lw_m3 74 rfl) rfl
theorem q654 : (Jvm.Cond.code ({ cls := "java/lang/String", name := "indexOf", desc := "(I)I" } : Jvm.MethodName) prog_43_method_79_code (2 : Nat) (Option.some Jvm.ClassFile.FieldType.int)) ∈ lw_all := lw_g (lw_at lw_m3 75 rfl) rfl
theorem q655 : (Jvm.Cond.methodLink "java/lang/String" (633 : Nat) ({ cls := "java/lang/String", name := "indexOf", desc := "(II)I" } : Jvm.MethodName)) ∈ lw_all := lw_g (lw_at lw_m3 76 rfl) rfl
theorem q656 : (Jvm.Cond.instanceMethod ({ cls := "java/lang/String", name := "indexOf", desc := "(II)I" } : Jvm.MethodName)) ∈ lw_all := lw_g (lw_at lw_m3 77 rfl) rfl
theorem q657 : (Jvm.Cond.selects "java/lang/String" ({ cls := "java/lang/String", name := "indexOf", desc := "(II)I" } : Jvm.MethodName) ({ cls := "java/lang/String", name := "indexOf", desc := "(II)I" } : Jvm.MethodName)) ∈ lw_all := lw_g (lw_at lw_m3 78 rfl) rfl
theorem q658 : (Jvm.Cond.code ({ cls := "java/lang/String", name := "indexOf", desc := "(II)I" } : Jvm.MethodName) prog_43_method_80_code (3 : Nat) (Option.some Jvm.ClassFile.FieldType.int)) ∈ lw_all := lw_g (lw_at lw_m3 79 rfl) rfl
theorem q659 : (Jvm.Cond.methodLink "java/lang/String" (492 : Nat) ({ cls := "java/lang/String", name := "isLatin1", desc := "()Z" } : Jvm.MethodName)) ∈ lw_all := lw_g (lw_at lw_m3 80 rfl) rfl
theorem q660 : (Jvm.Cond.instanceMethod ({ cls := "java/lang/String", name := "isLatin1", desc := "()Z" } : Jvm.MethodName)) ∈ lw_all := lw_g (lw_at lw_m3 81 rfl) rfl
theorem q661 : (Jvm.Cond.selects "java/lang/String" ({ cls := "java/lang/String", name := "isLatin1", desc := "()Z" } : Jvm.MethodName) ({ cls := "java/lang/String", name := "isLatin1", desc := "()Z" } : Jvm.MethodName)) ∈ lw_all := lw_g (lw_at lw_m3 82 rfl) rfl
theorem q662 : (Jvm.Cond.code ({ cls := "java/lang/String", name := "isLatin1", desc := "()Z" } : Jvm.MethodName) prog_43_method_154_code (1 : Nat) (Option.some Jvm.ClassFile.FieldType.boolean)) ∈ lw_all := lw_g (lw_at lw_m3 83 rfl) rfl
theorem q663 : (Jvm.Cond.fieldLink "java/lang/String" (38 : Nat) "java/lang/String" "COMPACT_STRINGS" "Z") ∈ lw_all := lw_g (lw_at lw_m3 84 rfl) rfl
theorem q664 : (Jvm.Cond.laysStatic "java/lang/String" "COMPACT_STRINGS" "Z") ∈ lw_tbl := lw_at lw_m3 85 rfl
theorem q665 : (Jvm.Cond.methodLink "java/lang/String" (505 : Nat) ({ cls := "java/lang/String", name := "length", desc := "()I" } : Jvm.MethodName)) ∈ lw_all := lw_g (lw_at lw_m3 86 rfl) rfl
theorem q666 : (Jvm.Cond.instanceMethod ({ cls := "java/lang/String", name := "length", desc := "()I" } : Jvm.MethodName)) ∈ lw_all := lw_g (lw_at lw_m3 87 rfl) rfl
theorem q667 : (Jvm.Cond.selects "java/lang/String" ({ cls := "java/lang/String", name := "length", desc := "()I" } : Jvm.MethodName) ({ cls := "java/lang/String", name := "length", desc := "()I" } : Jvm.MethodName)) ∈ lw_all := lw_g (lw_at lw_m3 88 rfl) rfl
theorem q668 : (Jvm.Cond.code ({ cls := "java/lang/String", name := "length", desc := "()I" } : Jvm.MethodName) prog_43_method_54_code (1 : Nat) (Option.some Jvm.ClassFile.FieldType.int)) ∈ lw_all := lw_g (lw_at lw_m3 89 rfl) rfl
theorem q669 : (Jvm.Cond.methodLink "java/lang/String" (335 : Nat) ({ cls := "java/lang/String", name := "coder", desc := "()B" } : Jvm.MethodName)) ∈ lw_all := lw_g (lw_at lw_m3 90 rfl) rfl
theorem q670 : (Jvm.Cond.instanceMethod ({ cls := "java/lang/String", name := "coder", desc := "()B" } : Jvm.MethodName)) ∈ lw_all := lw_g (lw_at lw_m3 91 rfl) rfl
theorem q671 : (Jvm.Cond.selects "java/lang/String" ({ cls := "java/lang/String", name := "coder", desc := "()B" } : Jvm.MethodName) ({ cls := "java/lang/String", name := "coder", desc := "()B" } : Jvm.MethodName)) ∈ lw_all := lw_g (lw_at lw_m3 92 rfl) rfl
theorem q672 : (Jvm.Cond.code ({ cls := "java/lang/String", name := "coder", desc := "()B" } : Jvm.MethodName) prog_43_method_152_code (1 : Nat) (Option.some Jvm.ClassFile.FieldType.byte)) ∈ lw_all := lw_g (lw_at lw_m3 93 rfl) rfl
theorem q673 : (Jvm.Cond.methodLink "java/lang/String" (637 : Nat) ({ cls := "java/lang/StringLatin1", name := "indexOf", desc := "([BIII)I" } : Jvm.MethodName)) ∈ lw_all := lw_g (lw_at lw_m3 94 rfl) rfl
theorem q688 : (Jvm.Cond.methodLink "java/lang/String" (640 : Nat) ({ cls := "java/lang/StringUTF16", name := "indexOf", desc := "([BIII)I" } : Jvm.MethodName)) ∈ lw_all := lw_g (lw_at lw_m3 109 rfl) rfl
theorem q704 : (Jvm.Cond.static ({ cls := "java/lang/String", name := "checkBoundsBeginEnd", desc := "(III)V" } : Jvm.MethodName)) ∈ lw_all := lw_g (lw_at lw_m3 125 rfl) rfl
theorem q705 : (Jvm.Cond.code ({ cls := "java/lang/String", name := "checkBoundsBeginEnd", desc := "(III)V" } : Jvm.MethodName) prog_43_method_158_code (3 : Nat) (Option.none : Option Jvm.ClassFile.FieldType)) ∈ lw_all := lw_g (lw_at lw_m3 126 rfl) rfl
theorem q706 : (Jvm.Cond.fieldLink "java/lang/String" (1053 : Nat) "jdk/internal/util/Preconditions" "SIOOBE_FORMATTER" "Ljava/util/function/BiFunction;") ∈ lw_all := lw_g (lw_at lw_m3 127 rfl) rfl
theorem q708 : (Jvm.Cond.methodLink "java/lang/String" (1062 : Nat) ({ cls := "jdk/internal/util/Preconditions", name := "checkFromToIndex", desc := "(IIILjava/util/function/BiFunction;)I" } : Jvm.MethodName)) ∈ lw_all := lw_g (lw_at lw_m3 129 rfl) rfl
theorem q2095 : (Jvm.Cond.fieldLink "java/lang/String" (15 : Nat) "java/lang/String" "coder" "B") ∈ lw_all := lw_g (lw_at lw_m9 76 rfl) rfl
theorem q2096 : (Jvm.Cond.fieldLink "java/lang/String" (9 : Nat) "java/lang/String" "value" "[B") ∈ lw_all := lw_g (lw_at lw_m9 77 rfl) rfl
theorem in_J4 : ∀ w ∈ wsJ40, w ∈ lw_all := lw_in wsJ40 [445, 447] (by decide +kernel) (by decide +kernel)
/-! java/lang/NullPointerException -/
def RJ5 : String := "java/lang/NullPointerException"
def TJ5 : u_T := fun k => match k with
  | 0 => ("java/lang/Throwable", "backtrace", "Ljava/lang/Object;", false)
  | 1 => ("java/lang/Throwable", "detailMessage", "Ljava/lang/String;", false)
  | 2 => ("java/lang/Throwable", "cause", "Ljava/lang/Throwable;", false)
  | 3 => ("java/lang/Throwable", "stackTrace", "[Ljava/lang/StackTraceElement;", false)
  | 4 => ("java/lang/Throwable", "depth", "I", false)
  | 5 => ("java/lang/Throwable", "suppressedExceptions", "Ljava/util/List;", false)
  | 6 => ("java/lang/NullPointerException", "extendedMessageState", "I", false)
  | _ => ("java/lang/NullPointerException", "extendedMessage", "Ljava/lang/String;", false)
def tyJ5 : Nat → FieldType := fun k => match k with
  | 0 => .object "java/lang/Object"
  | 1 => .object "java/lang/String"
  | 2 => .object "java/lang/Throwable"
  | 3 => .array (.object "java/lang/StackTraceElement")
  | 4 => .int
  | 5 => .object "java/util/List"
  | 6 => .int
  | _ => .object "java/lang/String"
abbrev wsJ50 : List Cond := u_ws RJ5 TJ5 8
theorem nmJ5 : ∀ a, a < 8 → ∀ b, b < 8 → a ≠ b → (TJ5 a).2.1 ≠ (TJ5 b).2.1 := by decide +kernel
theorem tyJ5_ok : ∀ k, k < 8 → parseFieldDescriptor (TJ5 k).2.2.1 = some (tyJ5 k) := by decide +kernel
abbrev cJ5_init : ByteArray := prog_41_method_1_code
def yJ5_init : MethodName := ⟨RJ5, "<init>", "()V"⟩
theorem q110 : (Jvm.Cond.initialized "java/lang/NullPointerException") ∈ lw_all := lw_g (lw_at lw_m1 11 rfl) rfl
theorem q389 : (Jvm.Cond.selects "java/lang/NullPointerException" ({ cls := "java/lang/Throwable", name := "fillInStackTrace", desc := "()Ljava/lang/Throwable;" } : Jvm.MethodName) ({ cls := "java/lang/NullPointerException", name := "fillInStackTrace", desc := "()Ljava/lang/Throwable;" } : Jvm.MethodName)) ∈ lw_all := lw_g (lw_at lw_m2 50 rfl) rfl
theorem q390 : (Jvm.Cond.instanceMethod ({ cls := "java/lang/NullPointerException", name := "fillInStackTrace", desc := "()Ljava/lang/Throwable;" } : Jvm.MethodName)) ∈ lw_all := lw_g (lw_at lw_m2 51 rfl) rfl
theorem q391 : (Jvm.Cond.codeSync ({ cls := "java/lang/NullPointerException", name := "fillInStackTrace", desc := "()Ljava/lang/Throwable;" } : Jvm.MethodName) prog_41_method_3_code (1 : Nat) (Option.some (Jvm.ClassFile.FieldType.object "java/lang/Throwable"))) ∈ lw_all := lw_g (lw_at lw_m2 52 rfl) rfl
theorem q392 : (Jvm.Cond.methodLink "java/lang/NullPointerException" (16 : Nat) ({ cls := "java/lang/NullPointerException", name := "getExtendedNPEMessage", desc := "()Ljava/lang/String;" } : Jvm.MethodName)) ∈ lw_all := lw_g (lw_at lw_m2 53 rfl) rfl
theorem q393 : (Jvm.Cond.privateMethod ({ cls := "java/lang/NullPointerException", name := "getExtendedNPEMessage", desc := "()Ljava/lang/String;" } : Jvm.MethodName)) ∈ lw_tbl := lw_at lw_m2 54 rfl
theorem q394 : (Jvm.Cond.instanceMethod ({ cls := "java/lang/NullPointerException", name := "getExtendedNPEMessage", desc := "()Ljava/lang/String;" } : Jvm.MethodName)) ∈ lw_all := lw_g (lw_at lw_m2 55 rfl) rfl
theorem q395 : (Jvm.Cond.instantiable "java/lang/NullPointerException" (8 : Nat)) ∈ lw_all := lw_g (lw_at lw_m2 56 rfl) rfl
theorem q396 : (Jvm.Cond.native ({ cls := "java/lang/NullPointerException", name := "getExtendedNPEMessage", desc := "()Ljava/lang/String;" } : Jvm.MethodName)) ∈ lw_all := lw_g (lw_at lw_m2 57 rfl) rfl
theorem q397 : (Jvm.Cond.methodLink "java/lang/NullPointerException" (24 : Nat) ({ cls := "java/lang/RuntimeException", name := "fillInStackTrace", desc := "()Ljava/lang/Throwable;" } : Jvm.MethodName)) ∈ lw_all := lw_g (lw_at lw_m2 58 rfl) rfl
theorem q400 : (Jvm.Cond.superclass "java/lang/NullPointerException" "java/lang/RuntimeException") ∈ lw_all := lw_g (lw_at lw_m2 61 rfl) rfl
theorem q450 : (Jvm.Cond.instanceMethod ({ cls := "java/lang/NullPointerException", name := "<init>", desc := "()V" } : Jvm.MethodName)) ∈ lw_all := lw_g (lw_at lw_m2 111 rfl) rfl
theorem q451 : (Jvm.Cond.code ({ cls := "java/lang/NullPointerException", name := "<init>", desc := "()V" } : Jvm.MethodName) prog_41_method_1_code (1 : Nat) (Option.none : Option Jvm.ClassFile.FieldType)) ∈ lw_all := lw_g (lw_at lw_m2 112 rfl) rfl
theorem q452 : (Jvm.Cond.methodLink "java/lang/NullPointerException" (1 : Nat) ({ cls := "java/lang/RuntimeException", name := "<init>", desc := "()V" } : Jvm.MethodName)) ∈ lw_all := lw_g (lw_at lw_m2 113 rfl) rfl
theorem q459 : (Jvm.Cond.fieldLink "java/lang/NullPointerException" (10 : Nat) "java/lang/NullPointerException" "extendedMessageState" "I") ∈ lw_all := lw_g (lw_at lw_m2 120 rfl) rfl
theorem q460 : (Jvm.Cond.fieldLink "java/lang/NullPointerException" (20 : Nat) "java/lang/NullPointerException" "extendedMessage" "Ljava/lang/String;") ∈ lw_all := lw_g (lw_at lw_m2 121 rfl) rfl
theorem q461 : (Jvm.Cond.lays "java/lang/NullPointerException" "java/lang/NullPointerException" "extendedMessageState" "I") ∈ lw_all := lw_g (lw_at lw_m2 122 rfl) rfl
theorem q462 : (Jvm.Cond.soleField "java/lang/NullPointerException" "extendedMessageState") ∈ lw_all := lw_g (lw_at lw_m2 123 rfl) rfl
theorem q463 : (Jvm.Cond.lays "java/lang/NullPointerException" "java/lang/NullPointerException" "extendedMessage" "Ljava/lang/String;") ∈ lw_all := lw_g (lw_at lw_m2 124 rfl) rfl
theorem q464 : (Jvm.Cond.soleField "java/lang/NullPointerException" "extendedMessage") ∈ lw_all := lw_g (lw_at lw_m2 125 rfl) rfl
theorem q465 : (Jvm.Cond.lays "java/lang/NullPointerException" "java/lang/Throwable" "backtrace" "Ljava/lang/Object;") ∈ lw_all := lw_g (lw_at lw_m2 126 rfl) rfl
theorem q466 : (Jvm.Cond.lays "java/lang/NullPointerException" "java/lang/Throwable" "detailMessage" "Ljava/lang/String;") ∈ lw_all := lw_g (lw_at lw_m2 127 rfl) rfl
theorem q467 : (Jvm.Cond.lays "java/lang/NullPointerException" "java/lang/Throwable" "cause" "Ljava/lang/Throwable;") ∈ lw_all := lw_g (lw_at lw_m2 128 rfl) rfl
theorem q468 : (Jvm.Cond.lays "java/lang/NullPointerException" "java/lang/Throwable" "stackTrace" "[Ljava/lang/StackTraceElement;") ∈ lw_all := lw_g (lw_at lw_m2 129 rfl) rfl
theorem q469 : (Jvm.Cond.lays "java/lang/NullPointerException" "java/lang/Throwable" "depth" "I") ∈ lw_all := lw_g (lw_at lw_m2 130 rfl) rfl
theorem q470 : (Jvm.Cond.lays "java/lang/NullPointerException" "java/lang/Throwable" "suppressedExceptions" "Ljava/util/List;") ∈ lw_all := lw_g (lw_at lw_m2 131 rfl) rfl
theorem q471 : (Jvm.Cond.castable "java/lang/NullPointerException" "java/lang/NullPointerException") ∈ lw_tbl := lw_at lw_m2 132 rfl
theorem q472 : (Jvm.Cond.selects "java/lang/NullPointerException" ({ cls := "java/lang/Throwable", name := "fillInStackTrace", desc := "(I)Ljava/lang/Throwable;" } : Jvm.MethodName) ({ cls := "java/lang/Throwable", name := "fillInStackTrace", desc := "(I)Ljava/lang/Throwable;" } : Jvm.MethodName)) ∈ lw_all := lw_g (lw_at lw_m2 133 rfl) rfl
theorem in_J5 : ∀ w ∈ wsJ50, w ∈ lw_all := lw_in wsJ50 [465, 466, 467, 468, 469, 470, 461, 463] (by decide +kernel) (by decide +kernel)
/-! java/lang/IndexOutOfBoundsException -/
def RJ6 : String := "java/lang/IndexOutOfBoundsException"
abbrev cJ6_init : ByteArray := prog_37_method_2_code
def yJ6_init : MethodName := ⟨RJ6, "<init>", "(Ljava/lang/String;)V"⟩
theorem q111 : (Jvm.Cond.initialized "java/lang/IndexOutOfBoundsException") ∈ lw_all := lw_g (lw_at lw_m1 12 rfl) rfl
theorem q479 : (Jvm.Cond.instanceMethod ({ cls := "java/lang/IndexOutOfBoundsException", name := "<init>", desc := "(Ljava/lang/String;)V" } : Jvm.MethodName)) ∈ lw_all := lw_g (lw_at lw_m2 140 rfl) rfl
theorem q480 : (Jvm.Cond.code ({ cls := "java/lang/IndexOutOfBoundsException", name := "<init>", desc := "(Ljava/lang/String;)V" } : Jvm.MethodName) prog_37_method_2_code (2 : Nat) (Option.none : Option Jvm.ClassFile.FieldType)) ∈ lw_all := lw_g (lw_at lw_m2 141 rfl) rfl
theorem q481 : (Jvm.Cond.methodLink "java/lang/IndexOutOfBoundsException" (7 : Nat) ({ cls := "java/lang/RuntimeException", name := "<init>", desc := "(Ljava/lang/String;)V" } : Jvm.MethodName)) ∈ lw_all := lw_g (lw_at lw_m2 142 rfl) rfl
theorem q490 : (Jvm.Cond.declares ({ cls := "java/lang/IndexOutOfBoundsException", name := "<init>", desc := "()V" } : Jvm.MethodName)) ∈ lw_tbl := lw_at lw_m2 151 rfl
theorem q491 : (Jvm.Cond.declares ({ cls := "java/lang/IndexOutOfBoundsException", name := "<init>", desc := "(Ljava/lang/String;)V" } : Jvm.MethodName)) ∈ lw_tbl := lw_at lw_m2 152 rfl
/-! java/lang/ArrayIndexOutOfBoundsException -/
def RJ7 : String := "java/lang/ArrayIndexOutOfBoundsException"
def TJ7 : u_T := fun k => match k with
  | 0 => ("java/lang/Throwable", "backtrace", "Ljava/lang/Object;", false)
  | 1 => ("java/lang/Throwable", "detailMessage", "Ljava/lang/String;", false)
  | 2 => ("java/lang/Throwable", "cause", "Ljava/lang/Throwable;", false)
  | 3 => ("java/lang/Throwable", "stackTrace", "[Ljava/lang/StackTraceElement;", false)
  | 4 => ("java/lang/Throwable", "depth", "I", false)
  | _ => ("java/lang/Throwable", "suppressedExceptions", "Ljava/util/List;", false)
def tyJ7 : Nat → FieldType := fun k => match k with
  | 0 => .object "java/lang/Object"
  | 1 => .object "java/lang/String"
  | 2 => .object "java/lang/Throwable"
  | 3 => .array (.object "java/lang/StackTraceElement")
  | 4 => .int
  | _ => .object "java/util/List"
abbrev wsJ70 : List Cond := u_ws RJ7 TJ7 6
theorem nmJ7 : ∀ a, a < 6 → ∀ b, b < 6 → a ≠ b → (TJ7 a).2.1 ≠ (TJ7 b).2.1 := by decide +kernel
theorem tyJ7_ok : ∀ k, k < 6 → parseFieldDescriptor (TJ7 k).2.2.1 = some (tyJ7 k) := by decide +kernel
abbrev cJ7_init : ByteArray := prog_33_method_2_code
def yJ7_init : MethodName := ⟨RJ7, "<init>", "(Ljava/lang/String;)V"⟩
theorem q112 : (Jvm.Cond.initialized "java/lang/ArrayIndexOutOfBoundsException") ∈ lw_all := lw_g (lw_at lw_m1 13 rfl) rfl
theorem q386 : (Jvm.Cond.selects "java/lang/ArrayIndexOutOfBoundsException" ({ cls := "java/lang/Throwable", name := "fillInStackTrace", desc := "()Ljava/lang/Throwable;" } : Jvm.MethodName) ({ cls := "java/lang/Throwable", name := "fillInStackTrace", desc := "()Ljava/lang/Throwable;" } : Jvm.MethodName)) ∈ lw_all := lw_g (lw_at lw_m2 47 rfl) rfl
theorem q475 : (Jvm.Cond.instantiable "java/lang/ArrayIndexOutOfBoundsException" (6 : Nat)) ∈ lw_all := lw_g (lw_at lw_m2 136 rfl) rfl
theorem q476 : (Jvm.Cond.instanceMethod ({ cls := "java/lang/ArrayIndexOutOfBoundsException", name := "<init>", desc := "(Ljava/lang/String;)V" } : Jvm.MethodName)) ∈ lw_all := lw_g (lw_at lw_m2 137 rfl) rfl
theorem q477 : (Jvm.Cond.code ({ cls := "java/lang/ArrayIndexOutOfBoundsException", name := "<init>", desc := "(Ljava/lang/String;)V" } : Jvm.MethodName) prog_33_method_2_code (2 : Nat) (Option.none : Option Jvm.ClassFile.FieldType)) ∈ lw_all := lw_g (lw_at lw_m2 138 rfl) rfl
theorem q478 : (Jvm.Cond.methodLink "java/lang/ArrayIndexOutOfBoundsException" (7 : Nat) ({ cls := "java/lang/IndexOutOfBoundsException", name := "<init>", desc := "(Ljava/lang/String;)V" } : Jvm.MethodName)) ∈ lw_all := lw_g (lw_at lw_m2 139 rfl) rfl
theorem q482 : (Jvm.Cond.lays "java/lang/ArrayIndexOutOfBoundsException" "java/lang/Throwable" "backtrace" "Ljava/lang/Object;") ∈ lw_all := lw_g (lw_at lw_m2 143 rfl) rfl
theorem q483 : (Jvm.Cond.lays "java/lang/ArrayIndexOutOfBoundsException" "java/lang/Throwable" "detailMessage" "Ljava/lang/String;") ∈ lw_all := lw_g (lw_at lw_m2 144 rfl) rfl
theorem q484 : (Jvm.Cond.lays "java/lang/ArrayIndexOutOfBoundsException" "java/lang/Throwable" "cause" "Ljava/lang/Throwable;") ∈ lw_all := lw_g (lw_at lw_m2 145 rfl) rfl
theorem q485 : (Jvm.Cond.lays "java/lang/ArrayIndexOutOfBoundsException" "java/lang/Throwable" "stackTrace" "[Ljava/lang/StackTraceElement;") ∈ lw_all := lw_g (lw_at lw_m2 146 rfl) rfl
theorem q486 : (Jvm.Cond.lays "java/lang/ArrayIndexOutOfBoundsException" "java/lang/Throwable" "depth" "I") ∈ lw_all := lw_g (lw_at lw_m2 147 rfl) rfl
theorem q487 : (Jvm.Cond.lays "java/lang/ArrayIndexOutOfBoundsException" "java/lang/Throwable" "suppressedExceptions" "Ljava/util/List;") ∈ lw_all := lw_g (lw_at lw_m2 148 rfl) rfl
theorem q488 : (Jvm.Cond.superclass "java/lang/ArrayIndexOutOfBoundsException" "java/lang/IndexOutOfBoundsException") ∈ lw_all := lw_g (lw_at lw_m2 149 rfl) rfl
theorem q489 : (Jvm.Cond.castable "java/lang/ArrayIndexOutOfBoundsException" "java/lang/ArrayIndexOutOfBoundsException") ∈ lw_tbl := lw_at lw_m2 150 rfl
theorem q492 : (Jvm.Cond.selects "java/lang/ArrayIndexOutOfBoundsException" ({ cls := "java/lang/Throwable", name := "fillInStackTrace", desc := "(I)Ljava/lang/Throwable;" } : Jvm.MethodName) ({ cls := "java/lang/Throwable", name := "fillInStackTrace", desc := "(I)Ljava/lang/Throwable;" } : Jvm.MethodName)) ∈ lw_all := lw_g (lw_at lw_m2 153 rfl) rfl
theorem q2069 : (Jvm.Cond.castable "java/lang/ArrayIndexOutOfBoundsException" "java/lang/IndexOutOfBoundsException") ∈ lw_tbl := lw_at lw_m9 50 rfl
theorem in_J7 : ∀ w ∈ wsJ70, w ∈ lw_all := lw_in wsJ70 [482, 483, 484, 485, 486, 487] (by decide +kernel) (by decide +kernel)
/-! PromiseRoofs$Change -/
def RX5 : String := "PromiseRoofs$Change"
def TX5 : u_T := fun k => match k with
  | 0 => ("PromiseRoofs$Change", "of", "I", true)
  | 1 => ("PromiseRoofs$Change", "at", "I", true)
  | 2 => ("PromiseRoofs$Change", "before", "I", true)
  | _ => ("PromiseRoofs$Change", "behind", "I", true)
def tyX5 : Nat → FieldType := fun k => match k with
  | 0 => .int
  | 1 => .int
  | 2 => .int
  | _ => .int
abbrev wsX50 : List Cond := u_ws RX5 TX5 4
theorem nmX5 : ∀ a, a < 4 → ∀ b, b < 4 → a ≠ b → (TX5 a).2.1 ≠ (TX5 b).2.1 := by decide +kernel
theorem tyX5_ok : ∀ k, k < 4 → parseFieldDescriptor (TX5 k).2.2.1 = some (tyX5 k) := by decide +kernel
abbrev cX5_init : ByteArray := prog_6_method_1_code
def yX5_init : MethodName := ⟨RX5, "<init>", "(IIII)V"⟩
theorem q113 : (Jvm.Cond.initialized "PromiseRoofs$Change") ∈ lw_all := lw_g (lw_at lw_m1 14 rfl) rfl
theorem q536 : (Jvm.Cond.instantiable "PromiseRoofs$Change" (4 : Nat)) ∈ lw_all := lw_g (lw_at lw_m2 197 rfl) rfl
theorem q538 : (Jvm.Cond.instanceMethod ({ cls := "PromiseRoofs$Change", name := "<init>", desc := "(IIII)V" } : Jvm.MethodName)) ∈ lw_all := lw_g (lw_at lw_m2 199 rfl) rfl
theorem q539 : (Jvm.Cond.code ({ cls := "PromiseRoofs$Change", name := "<init>", desc := "(IIII)V" } : Jvm.MethodName) prog_6_method_1_code (5 : Nat) (Option.none : Option Jvm.ClassFile.FieldType)) ∈ lw_all := lw_g (lw_at lw_m2 200 rfl) rfl
theorem q540 : (Jvm.Cond.methodLink "PromiseRoofs$Change" (1 : Nat) ({ cls := "java/lang/Object", name := "<init>", desc := "()V" } : Jvm.MethodName)) ∈ lw_all := lw_g (lw_at lw_m2 201 rfl) rfl
theorem q541 : (Jvm.Cond.fieldLink "PromiseRoofs$Change" (7 : Nat) "PromiseRoofs$Change" "of" "I") ∈ lw_all := lw_g (lw_at lw_m2 202 rfl) rfl
theorem q543 : (Jvm.Cond.fieldLink "PromiseRoofs$Change" (13 : Nat) "PromiseRoofs$Change" "at" "I") ∈ lw_all := lw_g (lw_at lw_m2 204 rfl) rfl
theorem q545 : (Jvm.Cond.fieldLink "PromiseRoofs$Change" (16 : Nat) "PromiseRoofs$Change" "before" "I") ∈ lw_all := lw_g (lw_at lw_m2 206 rfl) rfl
theorem q547 : (Jvm.Cond.fieldLink "PromiseRoofs$Change" (19 : Nat) "PromiseRoofs$Change" "behind" "I") ∈ lw_all := lw_g (lw_at lw_m2 208 rfl) rfl
theorem q549 : (Jvm.Cond.laysFinal "PromiseRoofs$Change" "PromiseRoofs$Change" "of" "I") ∈ lw_all := lw_g (lw_at lw_m2 210 rfl) rfl
theorem q550 : (Jvm.Cond.soleField "PromiseRoofs$Change" "of") ∈ lw_all := lw_g (lw_at lw_m2 211 rfl) rfl
theorem q551 : (Jvm.Cond.laysFinal "PromiseRoofs$Change" "PromiseRoofs$Change" "at" "I") ∈ lw_all := lw_g (lw_at lw_m2 212 rfl) rfl
theorem q552 : (Jvm.Cond.soleField "PromiseRoofs$Change" "at") ∈ lw_all := lw_g (lw_at lw_m2 213 rfl) rfl
theorem q553 : (Jvm.Cond.laysFinal "PromiseRoofs$Change" "PromiseRoofs$Change" "before" "I") ∈ lw_all := lw_g (lw_at lw_m2 214 rfl) rfl
theorem q554 : (Jvm.Cond.soleField "PromiseRoofs$Change" "before") ∈ lw_all := lw_g (lw_at lw_m2 215 rfl) rfl
theorem q555 : (Jvm.Cond.laysFinal "PromiseRoofs$Change" "PromiseRoofs$Change" "behind" "I") ∈ lw_all := lw_g (lw_at lw_m2 216 rfl) rfl
theorem q556 : (Jvm.Cond.soleField "PromiseRoofs$Change" "behind") ∈ lw_all := lw_g (lw_at lw_m2 217 rfl) rfl
theorem q557 : (Jvm.Cond.superclass "PromiseRoofs$Change" "java/lang/Object") ∈ lw_all := lw_g (lw_at lw_m2 218 rfl) rfl
theorem in_X5 : ∀ w ∈ wsX50, w ∈ lw_all := lw_in wsX50 [549, 551, 553, 555] (by decide +kernel) (by decide +kernel)
/-! PromiseRoofs$Reader -/
def RX6 : String := "PromiseRoofs$Reader"
def TX6 : u_T := fun k => match k with
  | 0 => ("PromiseRoofs$Reader", "at", "I", false)
  | 1 => ("PromiseRoofs$Reader", "fault", "I", false)
  | 2 => ("PromiseRoofs$Reader", "open", "I", false)
  | _ => ("PromiseRoofs$Reader", "this$0", "LPromiseRoofs;", true)
def tyX6 : Nat → FieldType := fun k => match k with
  | 0 => .int
  | 1 => .int
  | 2 => .int
  | _ => .object "PromiseRoofs"
abbrev wsX60 : List Cond := u_ws RX6 TX6 4
theorem nmX6 : ∀ a, a < 4 → ∀ b, b < 4 → a ≠ b → (TX6 a).2.1 ≠ (TX6 b).2.1 := by decide +kernel
theorem tyX6_ok : ∀ k, k < 4 → parseFieldDescriptor (TX6 k).2.2.1 = some (tyX6 k) := by decide +kernel
abbrev cX6_init : ByteArray := prog_21_method_1_code
def yX6_init : MethodName := ⟨RX6, "<init>", "(LPromiseRoofs;)V"⟩
abbrev cX6_lines : ByteArray := prog_21_method_5_code
def yX6_lines : MethodName := ⟨RX6, "lines", "()LPromiseRoofs$Line;"⟩
abbrev cX6_line : ByteArray := prog_21_method_6_code
def yX6_line : MethodName := ⟨RX6, "line", "()LPromiseRoofs$Line;"⟩
abbrev cX6_either : ByteArray := prog_21_method_8_code
def yX6_either : MethodName := ⟨RX6, "either", "()LPromiseRoofs$Node;"⟩
abbrev cX6_all : ByteArray := prog_21_method_9_code
def yX6_all : MethodName := ⟨RX6, "all", "()LPromiseRoofs$Node;"⟩
abbrev cX6_compared : ByteArray := prog_21_method_10_code
def yX6_compared : MethodName := ⟨RX6, "compared", "()LPromiseRoofs$Node;"⟩
abbrev cX6_sum : ByteArray := prog_21_method_11_code
def yX6_sum : MethodName := ⟨RX6, "sum", "()LPromiseRoofs$Node;"⟩
abbrev cX6_product : ByteArray := prog_21_method_12_code
def yX6_product : MethodName := ⟨RX6, "product", "()LPromiseRoofs$Node;"⟩
abbrev cX6_operand : ByteArray := prog_21_method_14_code
def yX6_operand : MethodName := ⟨RX6, "operand", "()LPromiseRoofs$Node;"⟩
abbrev cX6_here : ByteArray := prog_21_method_2_code
def yX6_here : MethodName := ⟨RX6, "here", "()I"⟩
abbrev cX6_isOne : ByteArray := prog_21_method_3_code
def yX6_isOne : MethodName := ⟨RX6, "isOne", "(Ljava/lang/String;)Z"⟩
abbrev cX6_opens : ByteArray := prog_21_method_13_code
def yX6_opens : MethodName := ⟨RX6, "opens", "()Z"⟩
abbrev cX6_wrong : ByteArray := prog_21_method_4_code
def yX6_wrong : MethodName := ⟨RX6, "wrong", "()LPromiseRoofs$Node;"⟩
abbrev cX6_joined : ByteArray := prog_21_method_7_code
def yX6_joined : MethodName := ⟨RX6, "joined", "(ILPromiseRoofs$Node;LPromiseRoofs$Node;)LPromiseRoofs$Node;"⟩
theorem q114 : (Jvm.Cond.initialized "PromiseRoofs$Reader") ∈ lw_all := lw_g (lw_at lw_m1 15 rfl) rfl
theorem q187 : (Jvm.Cond.fieldLinkNest "PromiseRoofs$Reader" (25 : Nat) "PromiseRoofs" "tape" "[B" "PromiseRoofs") ∈ lw_tbl := lw_at lw_m1 88 rfl
theorem q188 : (Jvm.Cond.fieldLinkNest "PromiseRoofs$Reader" (22 : Nat) "PromiseRoofs" "taped" "I" "PromiseRoofs") ∈ lw_tbl := lw_at lw_m1 89 rfl
theorem q572 : (Jvm.Cond.instantiable "PromiseRoofs$Reader" (4 : Nat)) ∈ lw_all := lw_g (lw_at lw_m2 233 rfl) rfl
theorem q574 : (Jvm.Cond.instanceMethod ({ cls := "PromiseRoofs$Reader", name := "<init>", desc := "(LPromiseRoofs;)V" } : Jvm.MethodName)) ∈ lw_all := lw_g (lw_at lw_m2 235 rfl) rfl
theorem q575 : (Jvm.Cond.code ({ cls := "PromiseRoofs$Reader", name := "<init>", desc := "(LPromiseRoofs;)V" } : Jvm.MethodName) prog_21_method_1_code (2 : Nat) (Option.none : Option Jvm.ClassFile.FieldType)) ∈ lw_all := lw_g (lw_at lw_m2 236 rfl) rfl
theorem q576 : (Jvm.Cond.methodLink "PromiseRoofs$Reader" (9 : Nat) ({ cls := "java/lang/Object", name := "<init>", desc := "()V" } : Jvm.MethodName)) ∈ lw_all := lw_g (lw_at lw_m2 237 rfl) rfl
theorem q577 : (Jvm.Cond.fieldLink "PromiseRoofs$Reader" (19 : Nat) "PromiseRoofs$Reader" "at" "I") ∈ lw_all := lw_g (lw_at lw_m2 238 rfl) rfl
theorem q578 : (Jvm.Cond.fieldLink "PromiseRoofs$Reader" (15 : Nat) "PromiseRoofs$Reader" "fault" "I") ∈ lw_all := lw_g (lw_at lw_m2 239 rfl) rfl
theorem q580 : (Jvm.Cond.fieldLink "PromiseRoofs$Reader" (95 : Nat) "PromiseRoofs$Reader" "open" "I") ∈ lw_all := lw_g (lw_at lw_m3 1 rfl) rfl
theorem q581 : (Jvm.Cond.fieldLink "PromiseRoofs$Reader" (3 : Nat) "PromiseRoofs$Reader" "this$0" "LPromiseRoofs;") ∈ lw_all := lw_g (lw_at lw_m3 2 rfl) rfl
theorem q582 : (Jvm.Cond.lays "PromiseRoofs$Reader" "PromiseRoofs$Reader" "at" "I") ∈ lw_all := lw_g (lw_at lw_m3 3 rfl) rfl
theorem q583 : (Jvm.Cond.soleField "PromiseRoofs$Reader" "at") ∈ lw_all := lw_g (lw_at lw_m3 4 rfl) rfl
theorem q584 : (Jvm.Cond.lays "PromiseRoofs$Reader" "PromiseRoofs$Reader" "fault" "I") ∈ lw_all := lw_g (lw_at lw_m3 5 rfl) rfl
theorem q585 : (Jvm.Cond.soleField "PromiseRoofs$Reader" "fault") ∈ lw_all := lw_g (lw_at lw_m3 6 rfl) rfl
theorem q586 : (Jvm.Cond.lays "PromiseRoofs$Reader" "PromiseRoofs$Reader" "open" "I") ∈ lw_all := lw_g (lw_at lw_m3 7 rfl) rfl
theorem q587 : (Jvm.Cond.soleField "PromiseRoofs$Reader" "open") ∈ lw_all := lw_g (lw_at lw_m3 8 rfl) rfl
theorem q588 : (Jvm.Cond.laysFinal "PromiseRoofs$Reader" "PromiseRoofs$Reader" "this$0" "LPromiseRoofs;") ∈ lw_all := lw_g (lw_at lw_m3 9 rfl) rfl
theorem q589 : (Jvm.Cond.soleField "PromiseRoofs$Reader" "this$0") ∈ lw_all := lw_g (lw_at lw_m3 10 rfl) rfl
theorem q590 : (Jvm.Cond.superclass "PromiseRoofs$Reader" "java/lang/Object") ∈ lw_all := lw_g (lw_at lw_m3 11 rfl) rfl
theorem q592 : (Jvm.Cond.instanceMethod ({ cls := "PromiseRoofs$Reader", name := "lines", desc := "()LPromiseRoofs$Line;" } : Jvm.MethodName)) ∈ lw_all := lw_g (lw_at lw_m3 13 rfl) rfl
theorem q593 : (Jvm.Cond.selects "PromiseRoofs$Reader" ({ cls := "PromiseRoofs$Reader", name := "lines", desc := "()LPromiseRoofs$Line;" } : Jvm.MethodName) ({ cls := "PromiseRoofs$Reader", name := "lines", desc := "()LPromiseRoofs$Line;" } : Jvm.MethodName)) ∈ lw_all := lw_g (lw_at lw_m3 14 rfl) rfl
theorem q594 : (Jvm.Cond.code ({ cls := "PromiseRoofs$Reader", name := "lines", desc := "()LPromiseRoofs$Line;" } : Jvm.MethodName) prog_21_method_5_code (3 : Nat) (Option.some (Jvm.ClassFile.FieldType.object "PromiseRoofs$Line"))) ∈ lw_all := lw_g (lw_at lw_m3 15 rfl) rfl
theorem q595 : (Jvm.Cond.methodLink "PromiseRoofs$Reader" (39 : Nat) ({ cls := "PromiseRoofs$Reader", name := "line", desc := "()LPromiseRoofs$Line;" } : Jvm.MethodName)) ∈ lw_all := lw_g (lw_at lw_m3 16 rfl) rfl
theorem q596 : (Jvm.Cond.privateMethod ({ cls := "PromiseRoofs$Reader", name := "line", desc := "()LPromiseRoofs$Line;" } : Jvm.MethodName)) ∈ lw_tbl := lw_at lw_m3 17 rfl
theorem q597 : (Jvm.Cond.instanceMethod ({ cls := "PromiseRoofs$Reader", name := "line", desc := "()LPromiseRoofs$Line;" } : Jvm.MethodName)) ∈ lw_all := lw_g (lw_at lw_m3 18 rfl) rfl
theorem q598 : (Jvm.Cond.code ({ cls := "PromiseRoofs$Reader", name := "line", desc := "()LPromiseRoofs$Line;" } : Jvm.MethodName) prog_21_method_6_code (2 : Nat) (Option.some (Jvm.ClassFile.FieldType.object "PromiseRoofs$Line"))) ∈ lw_all := lw_g (lw_at lw_m3 19 rfl) rfl
theorem q599 : (Jvm.Cond.classLink "PromiseRoofs$Reader" (44 : Nat) "PromiseRoofs$Line") ∈ lw_all := lw_g (lw_at lw_m3 20 rfl) rfl
theorem q601 : (Jvm.Cond.methodLinkNest "PromiseRoofs$Reader" (49 : Nat) ({ cls := "PromiseRoofs$Line", name := "<init>", desc := "()V" } : Jvm.MethodName) "PromiseRoofs") ∈ lw_tbl := lw_at lw_m3 22 rfl
theorem q605 : (Jvm.Cond.fieldLinkNest "PromiseRoofs$Reader" (58 : Nat) "PromiseRoofs$Line" "test" "LPromiseRoofs$Node;" "PromiseRoofs") ∈ lw_tbl := lw_at lw_m3 26 rfl
theorem q607 : (Jvm.Cond.fieldLinkNest "PromiseRoofs$Reader" (54 : Nat) "PromiseRoofs$Line" "gives" "LPromiseRoofs$Node;" "PromiseRoofs") ∈ lw_tbl := lw_at lw_m3 28 rfl
theorem q609 : (Jvm.Cond.fieldLinkNest "PromiseRoofs$Reader" (43 : Nat) "PromiseRoofs$Line" "next" "LPromiseRoofs$Line;" "PromiseRoofs") ∈ lw_tbl := lw_at lw_m3 30 rfl
theorem q618 : (Jvm.Cond.methodLink "PromiseRoofs$Reader" (50 : Nat) ({ cls := "PromiseRoofs$Reader", name := "either", desc := "()LPromiseRoofs$Node;" } : Jvm.MethodName)) ∈ lw_all := lw_g (lw_at lw_m3 39 rfl) rfl
theorem q619 : (Jvm.Cond.privateMethod ({ cls := "PromiseRoofs$Reader", name := "either", desc := "()LPromiseRoofs$Node;" } : Jvm.MethodName)) ∈ lw_tbl := lw_at lw_m3 40 rfl
theorem q620 : (Jvm.Cond.instanceMethod ({ cls := "PromiseRoofs$Reader", name := "either", desc := "()LPromiseRoofs$Node;" } : Jvm.MethodName)) ∈ lw_all := lw_g (lw_at lw_m3 41 rfl) rfl
theorem q621 : (Jvm.Cond.code ({ cls := "PromiseRoofs$Reader", name := "either", desc := "()LPromiseRoofs$Node;" } : Jvm.MethodName) prog_21_method_8_code (2 : Nat) (Option.some (Jvm.ClassFile.FieldType.object "PromiseRoofs$Node"))) ∈ lw_all := lw_g (lw_at lw_m3 42 rfl) rfl
theorem q622 : (Jvm.Cond.methodLink "PromiseRoofs$Reader" (66 : Nat) ({ cls := "PromiseRoofs$Reader", name := "all", desc := "()LPromiseRoofs$Node;" } : Jvm.MethodName)) ∈ lw_all := lw_g (lw_at lw_m3 43 rfl) rfl
theorem q623 : (Jvm.Cond.privateMethod ({ cls := "PromiseRoofs$Reader", name := "all", desc := "()LPromiseRoofs$Node;" } : Jvm.MethodName)) ∈ lw_tbl := lw_at lw_m3 44 rfl
theorem q624 : (Jvm.Cond.instanceMethod ({ cls := "PromiseRoofs$Reader", name := "all", desc := "()LPromiseRoofs$Node;" } : Jvm.MethodName)) ∈ lw_all := lw_g (lw_at lw_m3 45 rfl) rfl
theorem q625 : (Jvm.Cond.code ({ cls := "PromiseRoofs$Reader", name := "all", desc := "()LPromiseRoofs$Node;" } : Jvm.MethodName) prog_21_method_9_code (2 : Nat) (Option.some (Jvm.ClassFile.FieldType.object "PromiseRoofs$Node"))) ∈ lw_all := lw_g (lw_at lw_m3 46 rfl) rfl
theorem q626 : (Jvm.Cond.methodLink "PromiseRoofs$Reader" (73 : Nat) ({ cls := "PromiseRoofs$Reader", name := "compared", desc := "()LPromiseRoofs$Node;" } : Jvm.MethodName)) ∈ lw_all := lw_g (lw_at lw_m3 47 rfl) rfl
theorem q627 : (Jvm.Cond.privateMethod ({ cls := "PromiseRoofs$Reader", name := "compared", desc := "()LPromiseRoofs$Node;" } : Jvm.MethodName)) ∈ lw_tbl := lw_at lw_m3 48 rfl
theorem q628 : (Jvm.Cond.instanceMethod ({ cls := "PromiseRoofs$Reader", name := "compared", desc := "()LPromiseRoofs$Node;" } : Jvm.MethodName)) ∈ lw_all := lw_g (lw_at lw_m3 49 rfl) rfl
theorem q629 : (Jvm.Cond.code ({ cls := "PromiseRoofs$Reader", name := "compared", desc := "()LPromiseRoofs$Node;" } : Jvm.MethodName) prog_21_method_10_code (3 : Nat) (Option.some (Jvm.ClassFile.FieldType.object "PromiseRoofs$Node"))) ∈ lw_all := lw_g (lw_at lw_m3 50 rfl) rfl
theorem q630 : (Jvm.Cond.methodLink "PromiseRoofs$Reader" (76 : Nat) ({ cls := "PromiseRoofs$Reader", name := "sum", desc := "()LPromiseRoofs$Node;" } : Jvm.MethodName)) ∈ lw_all := lw_g (lw_at lw_m3 51 rfl) rfl
theorem q631 : (Jvm.Cond.privateMethod ({ cls := "PromiseRoofs$Reader", name := "sum", desc := "()LPromiseRoofs$Node;" } : Jvm.MethodName)) ∈ lw_tbl := lw_at lw_m3 52 rfl
theorem q632 : (Jvm.Cond.instanceMethod ({ cls := "PromiseRoofs$Reader", name := "sum", desc := "()LPromiseRoofs$Node;" } : Jvm.MethodName)) ∈ lw_all := lw_g (lw_at lw_m3 53 rfl) rfl
theorem q633 : (Jvm.Cond.code ({ cls := "PromiseRoofs$Reader", name := "sum", desc := "()LPromiseRoofs$Node;" } : Jvm.MethodName) prog_21_method_11_code (3 : Nat) (Option.some (Jvm.ClassFile.FieldType.object "PromiseRoofs$Node"))) ∈ lw_all := lw_g (lw_at lw_m3 54 rfl) rfl
theorem q634 : (Jvm.Cond.methodLink "PromiseRoofs$Reader" (85 : Nat) ({ cls := "PromiseRoofs$Reader", name := "product", desc := "()LPromiseRoofs$Node;" } : Jvm.MethodName)) ∈ lw_all := lw_g (lw_at lw_m3 55 rfl) rfl
theorem q635 : (Jvm.Cond.privateMethod ({ cls := "PromiseRoofs$Reader", name := "product", desc := "()LPromiseRoofs$Node;" } : Jvm.MethodName)) ∈ lw_tbl := lw_at lw_m3 56 rfl
theorem q636 : (Jvm.Cond.instanceMethod ({ cls := "PromiseRoofs$Reader", name := "product", desc := "()LPromiseRoofs$Node;" } : Jvm.MethodName)) ∈ lw_all := lw_g (lw_at lw_m3 57 rfl) rfl
theorem q637 : (Jvm.Cond.code ({ cls := "PromiseRoofs$Reader", name := "product", desc := "()LPromiseRoofs$Node;" } : Jvm.MethodName) prog_21_method_12_code (3 : Nat) (Option.some (Jvm.ClassFile.FieldType.object "PromiseRoofs$Node"))) ∈ lw_all := lw_g (lw_at lw_m3 58 rfl) rfl
theorem q638 : (Jvm.Cond.methodLink "PromiseRoofs$Reader" (90 : Nat) ({ cls := "PromiseRoofs$Reader", name := "operand", desc := "()LPromiseRoofs$Node;" } : Jvm.MethodName)) ∈ lw_all := lw_g (lw_at lw_m3 59 rfl) rfl
theorem q639 : (Jvm.Cond.privateMethod ({ cls := "PromiseRoofs$Reader", name := "operand", desc := "()LPromiseRoofs$Node;" } : Jvm.MethodName)) ∈ lw_tbl := lw_at lw_m3 60 rfl
theorem q640 : (Jvm.Cond.instanceMethod ({ cls := "PromiseRoofs$Reader", name := "operand", desc := "()LPromiseRoofs$Node;" } : Jvm.MethodName)) ∈ lw_all := lw_g (lw_at lw_m3 61 rfl) rfl
theorem q641 : (Jvm.Cond.code ({ cls := "PromiseRoofs$Reader", name := "operand", desc := "()LPromiseRoofs$Node;" } : Jvm.MethodName) prog_21_method_14_code (4 : Nat) (Option.some (Jvm.ClassFile.FieldType.object "PromiseRoofs$Node"))) ∈ lw_all := lw_g (lw_at lw_m3 62 rfl) rfl
theorem q642 : (Jvm.Cond.methodLink "PromiseRoofs$Reader" (29 : Nat) ({ cls := "PromiseRoofs$Reader", name := "here", desc := "()I" } : Jvm.MethodName)) ∈ lw_all := lw_g (lw_at lw_m3 63 rfl) rfl
theorem q643 : (Jvm.Cond.privateMethod ({ cls := "PromiseRoofs$Reader", name := "here", desc := "()I" } : Jvm.MethodName)) ∈ lw_tbl := lw_at lw_m3 64 rfl
theorem q644 : (Jvm.Cond.instanceMethod ({ cls := "PromiseRoofs$Reader", name := "here", desc := "()I" } : Jvm.MethodName)) ∈ lw_all := lw_g (lw_at lw_m3 65 rfl) rfl
theorem q645 : (Jvm.Cond.code ({ cls := "PromiseRoofs$Reader", name := "here", desc := "()I" } : Jvm.MethodName) prog_21_method_2_code (1 : Nat) (Option.some Jvm.ClassFile.FieldType.int)) ∈ lw_all := lw_g (lw_at lw_m3 66 rfl) rfl
theorem q646 : (Jvm.Cond.stringRef "PromiseRoofs$Reader" (98 : Nat) "wdlkmn") ∈ lw_tbl := lw_at lw_m3 67 rfl
theorem q647 : (Jvm.Cond.methodLink "PromiseRoofs$Reader" (81 : Nat) ({ cls := "PromiseRoofs$Reader", name := "isOne", desc := "(Ljava/lang/String;)Z" } : Jvm.MethodName)) ∈ lw_all := lw_g (lw_at lw_m3 68 rfl) rfl
theorem q648 : (Jvm.Cond.privateMethod ({ cls := "PromiseRoofs$Reader", name := "isOne", desc := "(Ljava/lang/String;)Z" } : Jvm.MethodName)) ∈ lw_tbl := lw_at lw_m3 69 rfl
theorem q649 : (Jvm.Cond.instanceMethod ({ cls := "PromiseRoofs$Reader", name := "isOne", desc := "(Ljava/lang/String;)Z" } : Jvm.MethodName)) ∈ lw_all := lw_g (lw_at lw_m3 70 rfl) rfl
theorem q650 : (Jvm.Cond.code ({ cls := "PromiseRoofs$Reader", name := "isOne", desc := "(Ljava/lang/String;)Z" } : Jvm.MethodName) prog_21_method_3_code (2 : Nat) (Option.some Jvm.ClassFile.FieldType.boolean)) ∈ lw_all := lw_g (lw_at lw_m3 71 rfl) rfl
theorem q651 : (Jvm.Cond.methodLink "PromiseRoofs$Reader" (33 : Nat) ({ cls := "java/lang/String", name := "indexOf", desc := "(I)I" } : Jvm.MethodName)) ∈ lw_all := lw_g (lw_at lw_m3 72 rfl) rfl
theorem q737 : (Jvm.Cond.classLink "PromiseRoofs$Reader" (100 : Nat) "PromiseRoofs$Name") ∈ lw_all := lw_g (lw_at lw_m3 158 rfl) rfl
theorem q739 : (Jvm.Cond.methodLink "PromiseRoofs$Reader" (102 : Nat) ({ cls := "PromiseRoofs$Name", name := "<init>", desc := "(I)V" } : Jvm.MethodName)) ∈ lw_all := lw_g (lw_at lw_m3 160 rfl) rfl
theorem q750 : (Jvm.Cond.methodLink "PromiseRoofs$Reader" (105 : Nat) ({ cls := "PromiseRoofs$Reader", name := "opens", desc := "()Z" } : Jvm.MethodName)) ∈ lw_all := lw_g (lw_at lw_m3 171 rfl) rfl
theorem q751 : (Jvm.Cond.privateMethod ({ cls := "PromiseRoofs$Reader", name := "opens", desc := "()Z" } : Jvm.MethodName)) ∈ lw_tbl := lw_at lw_m3 172 rfl
theorem q752 : (Jvm.Cond.instanceMethod ({ cls := "PromiseRoofs$Reader", name := "opens", desc := "()Z" } : Jvm.MethodName)) ∈ lw_all := lw_g (lw_at lw_m3 173 rfl) rfl
theorem q753 : (Jvm.Cond.code ({ cls := "PromiseRoofs$Reader", name := "opens", desc := "()Z" } : Jvm.MethodName) prog_21_method_13_code (1 : Nat) (Option.some Jvm.ClassFile.FieldType.boolean)) ∈ lw_all := lw_g (lw_at lw_m3 174 rfl) rfl
theorem q754 : (Jvm.Cond.methodLink "PromiseRoofs$Reader" (109 : Nat) ({ cls := "PromiseRoofs$Reader", name := "wrong", desc := "()LPromiseRoofs$Node;" } : Jvm.MethodName)) ∈ lw_all := lw_g (lw_at lw_m3 175 rfl) rfl
theorem q755 : (Jvm.Cond.privateMethod ({ cls := "PromiseRoofs$Reader", name := "wrong", desc := "()LPromiseRoofs$Node;" } : Jvm.MethodName)) ∈ lw_tbl := lw_at lw_m3 176 rfl
theorem q756 : (Jvm.Cond.instanceMethod ({ cls := "PromiseRoofs$Reader", name := "wrong", desc := "()LPromiseRoofs$Node;" } : Jvm.MethodName)) ∈ lw_all := lw_g (lw_at lw_m3 177 rfl) rfl
theorem q757 : (Jvm.Cond.code ({ cls := "PromiseRoofs$Reader", name := "wrong", desc := "()LPromiseRoofs$Node;" } : Jvm.MethodName) prog_21_method_4_code (1 : Nat) (Option.some (Jvm.ClassFile.FieldType.object "PromiseRoofs$Node"))) ∈ lw_all := lw_g (lw_at lw_m3 178 rfl) rfl
theorem q758 : (Jvm.Cond.classLink "PromiseRoofs$Reader" (112 : Nat) "PromiseRoofs$Denied") ∈ lw_all := lw_g (lw_at lw_m3 179 rfl) rfl
theorem q760 : (Jvm.Cond.methodLink "PromiseRoofs$Reader" (114 : Nat) ({ cls := "PromiseRoofs$Denied", name := "<init>", desc := "(LPromiseRoofs$Node;)V" } : Jvm.MethodName)) ∈ lw_all := lw_g (lw_at lw_m3 181 rfl) rfl
theorem q768 : (Jvm.Cond.classLink "PromiseRoofs$Reader" (117 : Nat) "PromiseRoofs$Turned") ∈ lw_all := lw_g (lw_at lw_m3 189 rfl) rfl
theorem q770 : (Jvm.Cond.methodLink "PromiseRoofs$Reader" (119 : Nat) ({ cls := "PromiseRoofs$Turned", name := "<init>", desc := "(LPromiseRoofs$Node;)V" } : Jvm.MethodName)) ∈ lw_all := lw_g (lw_at lw_m3 191 rfl) rfl
theorem q778 : (Jvm.Cond.methodLinkNest "PromiseRoofs$Reader" (120 : Nat) ({ cls := "PromiseRoofs", name := "in", desc := "(III)Z" } : Jvm.MethodName) "PromiseRoofs") ∈ lw_tbl := lw_at lw_m3 199 rfl
theorem q779 : (Jvm.Cond.classLink "PromiseRoofs$Reader" (124 : Nat) "PromiseRoofs$Leaf") ∈ lw_all := lw_g (lw_at lw_m3 200 rfl) rfl
theorem q781 : (Jvm.Cond.methodLink "PromiseRoofs$Reader" (126 : Nat) ({ cls := "PromiseRoofs$Leaf", name := "<init>", desc := "(I)V" } : Jvm.MethodName)) ∈ lw_all := lw_g (lw_at lw_m3 202 rfl) rfl
theorem q789 : (Jvm.Cond.stringRef "PromiseRoofs$Reader" (93 : Nat) "*/%") ∈ lw_tbl := lw_at lw_m3 210 rfl
theorem q790 : (Jvm.Cond.methodLink "PromiseRoofs$Reader" (69 : Nat) ({ cls := "PromiseRoofs$Reader", name := "joined", desc := "(ILPromiseRoofs$Node;LPromiseRoofs$Node;)LPromiseRoofs$Node;" } : Jvm.MethodName)) ∈ lw_all := lw_g (lw_at lw_m3 211 rfl) rfl
theorem q791 : (Jvm.Cond.privateMethod ({ cls := "PromiseRoofs$Reader", name := "joined", desc := "(ILPromiseRoofs$Node;LPromiseRoofs$Node;)LPromiseRoofs$Node;" } : Jvm.MethodName)) ∈ lw_tbl := lw_at lw_m3 212 rfl
theorem q792 : (Jvm.Cond.instanceMethod ({ cls := "PromiseRoofs$Reader", name := "joined", desc := "(ILPromiseRoofs$Node;LPromiseRoofs$Node;)LPromiseRoofs$Node;" } : Jvm.MethodName)) ∈ lw_all := lw_g (lw_at lw_m3 213 rfl) rfl
theorem q793 : (Jvm.Cond.code ({ cls := "PromiseRoofs$Reader", name := "joined", desc := "(ILPromiseRoofs$Node;LPromiseRoofs$Node;)LPromiseRoofs$Node;" } : Jvm.MethodName) prog_21_method_7_code (4 : Nat) (Option.some (Jvm.ClassFile.FieldType.object "PromiseRoofs$Node"))) ∈ lw_all := lw_g (lw_at lw_m3 214 rfl) rfl
theorem q794 : (Jvm.Cond.classLink "PromiseRoofs$Reader" (61 : Nat) "PromiseRoofs$Pair") ∈ lw_all := lw_g (lw_at lw_m3 215 rfl) rfl
theorem q796 : (Jvm.Cond.methodLink "PromiseRoofs$Reader" (63 : Nat) ({ cls := "PromiseRoofs$Pair", name := "<init>", desc := "(ILPromiseRoofs$Node;LPromiseRoofs$Node;)V" } : Jvm.MethodName)) ∈ lw_all := lw_g (lw_at lw_m3 217 rfl) rfl
theorem q810 : (Jvm.Cond.stringRef "PromiseRoofs$Reader" (88 : Nat) "+-") ∈ lw_tbl := lw_at lw_m3 231 rfl
theorem q811 : (Jvm.Cond.stringRef "PromiseRoofs$Reader" (79 : Nat) "<=>") ∈ lw_tbl := lw_at lw_m3 232 rfl
theorem in_X6 : ∀ w ∈ wsX60, w ∈ lw_all := lw_in wsX60 [582, 584, 586, 588] (by decide +kernel) (by decide +kernel)
/-! PromiseRoofs$Line -/
def RX7 : String := "PromiseRoofs$Line"
def TX7 : u_T := fun k => match k with
  | 0 => ("PromiseRoofs$Line", "test", "LPromiseRoofs$Node;", false)
  | 1 => ("PromiseRoofs$Line", "gives", "LPromiseRoofs$Node;", false)
  | _ => ("PromiseRoofs$Line", "next", "LPromiseRoofs$Line;", false)
def tyX7 : Nat → FieldType := fun k => match k with
  | 0 => .object "PromiseRoofs$Node"
  | 1 => .object "PromiseRoofs$Node"
  | _ => .object "PromiseRoofs$Line"
abbrev wsX70 : List Cond := u_ws RX7 TX7 3
theorem nmX7 : ∀ a, a < 3 → ∀ b, b < 3 → a ≠ b → (TX7 a).2.1 ≠ (TX7 b).2.1 := by decide +kernel
theorem tyX7_ok : ∀ k, k < 3 → parseFieldDescriptor (TX7 k).2.2.1 = some (tyX7 k) := by decide +kernel
abbrev cX7_init : ByteArray := prog_12_method_1_code
def yX7_init : MethodName := ⟨RX7, "<init>", "()V"⟩
theorem q115 : (Jvm.Cond.initialized "PromiseRoofs$Line") ∈ lw_all := lw_g (lw_at lw_m1 16 rfl) rfl
theorem q600 : (Jvm.Cond.instantiable "PromiseRoofs$Line" (3 : Nat)) ∈ lw_all := lw_g (lw_at lw_m3 21 rfl) rfl
theorem q602 : (Jvm.Cond.instanceMethod ({ cls := "PromiseRoofs$Line", name := "<init>", desc := "()V" } : Jvm.MethodName)) ∈ lw_all := lw_g (lw_at lw_m3 23 rfl) rfl
theorem q603 : (Jvm.Cond.code ({ cls := "PromiseRoofs$Line", name := "<init>", desc := "()V" } : Jvm.MethodName) prog_12_method_1_code (1 : Nat) (Option.none : Option Jvm.ClassFile.FieldType)) ∈ lw_all := lw_g (lw_at lw_m3 24 rfl) rfl
theorem q604 : (Jvm.Cond.methodLink "PromiseRoofs$Line" (1 : Nat) ({ cls := "java/lang/Object", name := "<init>", desc := "()V" } : Jvm.MethodName)) ∈ lw_all := lw_g (lw_at lw_m3 25 rfl) rfl
theorem q611 : (Jvm.Cond.lays "PromiseRoofs$Line" "PromiseRoofs$Line" "test" "LPromiseRoofs$Node;") ∈ lw_all := lw_g (lw_at lw_m3 32 rfl) rfl
theorem q612 : (Jvm.Cond.soleField "PromiseRoofs$Line" "test") ∈ lw_all := lw_g (lw_at lw_m3 33 rfl) rfl
theorem q613 : (Jvm.Cond.lays "PromiseRoofs$Line" "PromiseRoofs$Line" "gives" "LPromiseRoofs$Node;") ∈ lw_all := lw_g (lw_at lw_m3 34 rfl) rfl
theorem q614 : (Jvm.Cond.soleField "PromiseRoofs$Line" "gives") ∈ lw_all := lw_g (lw_at lw_m3 35 rfl) rfl
theorem q615 : (Jvm.Cond.lays "PromiseRoofs$Line" "PromiseRoofs$Line" "next" "LPromiseRoofs$Line;") ∈ lw_all := lw_g (lw_at lw_m3 36 rfl) rfl
theorem q616 : (Jvm.Cond.soleField "PromiseRoofs$Line" "next") ∈ lw_all := lw_g (lw_at lw_m3 37 rfl) rfl
theorem q617 : (Jvm.Cond.superclass "PromiseRoofs$Line" "java/lang/Object") ∈ lw_all := lw_g (lw_at lw_m3 38 rfl) rfl
theorem in_X7 : ∀ w ∈ wsX70, w ∈ lw_all := lw_in wsX70 [611, 613, 615] (by decide +kernel) (by decide +kernel)
/-! java/lang/StringLatin1 -/
def RJ8 : String := "java/lang/StringLatin1"
abbrev cJ8_indexOf : ByteArray := prog_44_method_22_code
def yJ8_indexOf : MethodName := ⟨RJ8, "indexOf", "([BIII)I"⟩
abbrev cJ8_canEncode : ByteArray := prog_44_method_4_code
def yJ8_canEncode : MethodName := ⟨RJ8, "canEncode", "(I)Z"⟩
abbrev cJ8_indexOfChar : ByteArray := prog_44_method_23_code
def yJ8_indexOfChar : MethodName := ⟨RJ8, "indexOfChar", "([BIII)I"⟩
theorem q116 : (Jvm.Cond.initialized "java/lang/StringLatin1") ∈ lw_all := lw_g (lw_at lw_m1 17 rfl) rfl
theorem q674 : (Jvm.Cond.static ({ cls := "java/lang/StringLatin1", name := "indexOf", desc := "([BIII)I" } : Jvm.MethodName)) ∈ lw_all := lw_g (lw_at lw_m3 95 rfl) rfl
theorem q675 : (Jvm.Cond.code ({ cls := "java/lang/StringLatin1", name := "indexOf", desc := "([BIII)I" } : Jvm.MethodName) prog_44_method_22_code (4 : Nat) (Option.some Jvm.ClassFile.FieldType.int)) ∈ lw_all := lw_g (lw_at lw_m3 96 rfl) rfl
theorem q676 : (Jvm.Cond.methodLink "java/lang/StringLatin1" (88 : Nat) ({ cls := "java/lang/StringLatin1", name := "canEncode", desc := "(I)Z" } : Jvm.MethodName)) ∈ lw_all := lw_g (lw_at lw_m3 97 rfl) rfl
theorem q677 : (Jvm.Cond.static ({ cls := "java/lang/StringLatin1", name := "canEncode", desc := "(I)Z" } : Jvm.MethodName)) ∈ lw_all := lw_g (lw_at lw_m3 98 rfl) rfl
theorem q678 : (Jvm.Cond.code ({ cls := "java/lang/StringLatin1", name := "canEncode", desc := "(I)Z" } : Jvm.MethodName) prog_44_method_4_code (1 : Nat) (Option.some Jvm.ClassFile.FieldType.boolean)) ∈ lw_all := lw_g (lw_at lw_m3 99 rfl) rfl
theorem q679 : (Jvm.Cond.methodLink "java/lang/StringLatin1" (92 : Nat) ({ cls := "java/lang/Math", name := "max", desc := "(II)I" } : Jvm.MethodName)) ∈ lw_all := lw_g (lw_at lw_m3 100 rfl) rfl
theorem q682 : (Jvm.Cond.methodLink "java/lang/StringLatin1" (38 : Nat) ({ cls := "java/lang/Math", name := "min", desc := "(II)I" } : Jvm.MethodName)) ∈ lw_all := lw_g (lw_at lw_m3 103 rfl) rfl
theorem q685 : (Jvm.Cond.methodLink "java/lang/StringLatin1" (95 : Nat) ({ cls := "java/lang/StringLatin1", name := "indexOfChar", desc := "([BIII)I" } : Jvm.MethodName)) ∈ lw_all := lw_g (lw_at lw_m3 106 rfl) rfl
theorem q686 : (Jvm.Cond.static ({ cls := "java/lang/StringLatin1", name := "indexOfChar", desc := "([BIII)I" } : Jvm.MethodName)) ∈ lw_all := lw_g (lw_at lw_m3 107 rfl) rfl
theorem q687 : (Jvm.Cond.code ({ cls := "java/lang/StringLatin1", name := "indexOfChar", desc := "([BIII)I" } : Jvm.MethodName) prog_44_method_23_code (6 : Nat) (Option.some Jvm.ClassFile.FieldType.int)) ∈ lw_all := lw_g (lw_at lw_m3 108 rfl) rfl
/-! java/lang/Math -/
def RJ9 : String := "java/lang/Math"
abbrev cJ9_max : ByteArray := prog_39_method_65_code
def yJ9_max : MethodName := ⟨RJ9, "max", "(II)I"⟩
abbrev cJ9_min : ByteArray := prog_39_method_69_code
def yJ9_min : MethodName := ⟨RJ9, "min", "(II)I"⟩
theorem q117 : (Jvm.Cond.initialized "java/lang/Math") ∈ lw_all := lw_g (lw_at lw_m1 18 rfl) rfl
theorem q680 : (Jvm.Cond.static ({ cls := "java/lang/Math", name := "max", desc := "(II)I" } : Jvm.MethodName)) ∈ lw_all := lw_g (lw_at lw_m3 101 rfl) rfl
theorem q681 : (Jvm.Cond.code ({ cls := "java/lang/Math", name := "max", desc := "(II)I" } : Jvm.MethodName) prog_39_method_65_code (2 : Nat) (Option.some Jvm.ClassFile.FieldType.int)) ∈ lw_all := lw_g (lw_at lw_m3 102 rfl) rfl
theorem q683 : (Jvm.Cond.static ({ cls := "java/lang/Math", name := "min", desc := "(II)I" } : Jvm.MethodName)) ∈ lw_all := lw_g (lw_at lw_m3 104 rfl) rfl
theorem q684 : (Jvm.Cond.code ({ cls := "java/lang/Math", name := "min", desc := "(II)I" } : Jvm.MethodName) prog_39_method_69_code (2 : Nat) (Option.some Jvm.ClassFile.FieldType.int)) ∈ lw_all := lw_g (lw_at lw_m3 105 rfl) rfl
/-! java/lang/StringUTF16 -/
def RJ10 : String := "java/lang/StringUTF16"
abbrev cJ10_indexOf : ByteArray := prog_45_method_40_code
def yJ10_indexOf : MethodName := ⟨RJ10, "indexOf", "([BIII)I"⟩
abbrev cJ10_indexOfChar : ByteArray := prog_45_method_47_code
def yJ10_indexOfChar : MethodName := ⟨RJ10, "indexOfChar", "([BIII)I"⟩
abbrev cJ10_checkBoundsBeginEnd : ByteArray := prog_45_method_93_code
def yJ10_checkBoundsBeginEnd : MethodName := ⟨RJ10, "checkBoundsBeginEnd", "(II[B)V"⟩
abbrev cJ10_length : ByteArray := prog_45_method_6_code
def yJ10_length : MethodName := ⟨RJ10, "length", "([B)I"⟩
abbrev cJ10_indexOfCharUnsafe : ByteArray := prog_45_method_48_code
def yJ10_indexOfCharUnsafe : MethodName := ⟨RJ10, "indexOfCharUnsafe", "([BIII)I"⟩
abbrev cJ10_getChar : ByteArray := prog_45_method_5_code
def yJ10_getChar : MethodName := ⟨RJ10, "getChar", "([BI)C"⟩
abbrev cJ10_indexOfSupplementary : ByteArray := prog_45_method_49_code
def yJ10_indexOfSupplementary : MethodName := ⟨RJ10, "indexOfSupplementary", "([BIII)I"⟩
theorem q118 : (Jvm.Cond.initialized "java/lang/StringUTF16") ∈ lw_all := lw_g (lw_at lw_m1 19 rfl) rfl
theorem q689 : (Jvm.Cond.static ({ cls := "java/lang/StringUTF16", name := "indexOf", desc := "([BIII)I" } : Jvm.MethodName)) ∈ lw_all := lw_g (lw_at lw_m3 110 rfl) rfl
theorem q690 : (Jvm.Cond.code ({ cls := "java/lang/StringUTF16", name := "indexOf", desc := "([BIII)I" } : Jvm.MethodName) prog_45_method_40_code (4 : Nat) (Option.some Jvm.ClassFile.FieldType.int)) ∈ lw_all := lw_g (lw_at lw_m3 111 rfl) rfl
theorem q691 : (Jvm.Cond.methodLink "java/lang/StringUTF16" (224 : Nat) ({ cls := "java/lang/Math", name := "max", desc := "(II)I" } : Jvm.MethodName)) ∈ lw_all := lw_g (lw_at lw_m3 112 rfl) rfl
theorem q692 : (Jvm.Cond.methodLink "java/lang/StringUTF16" (183 : Nat) ({ cls := "java/lang/Math", name := "min", desc := "(II)I" } : Jvm.MethodName)) ∈ lw_all := lw_g (lw_at lw_m3 113 rfl) rfl
theorem q693 : (Jvm.Cond.constant "java/lang/StringUTF16" (227 : Nat) (65536 : Int32)) ∈ lw_all := lw_g (lw_at lw_m3 114 rfl) rfl
theorem q694 : (Jvm.Cond.methodLink "java/lang/StringUTF16" (228 : Nat) ({ cls := "java/lang/StringUTF16", name := "indexOfChar", desc := "([BIII)I" } : Jvm.MethodName)) ∈ lw_all := lw_g (lw_at lw_m3 115 rfl) rfl
theorem q695 : (Jvm.Cond.static ({ cls := "java/lang/StringUTF16", name := "indexOfChar", desc := "([BIII)I" } : Jvm.MethodName)) ∈ lw_all := lw_g (lw_at lw_m3 116 rfl) rfl
theorem q696 : (Jvm.Cond.code ({ cls := "java/lang/StringUTF16", name := "indexOfChar", desc := "([BIII)I" } : Jvm.MethodName) prog_45_method_47_code (4 : Nat) (Option.some Jvm.ClassFile.FieldType.int)) ∈ lw_all := lw_g (lw_at lw_m3 117 rfl) rfl
theorem q697 : (Jvm.Cond.methodLink "java/lang/StringUTF16" (96 : Nat) ({ cls := "java/lang/StringUTF16", name := "checkBoundsBeginEnd", desc := "(II[B)V" } : Jvm.MethodName)) ∈ lw_all := lw_g (lw_at lw_m3 118 rfl) rfl
theorem q698 : (Jvm.Cond.static ({ cls := "java/lang/StringUTF16", name := "checkBoundsBeginEnd", desc := "(II[B)V" } : Jvm.MethodName)) ∈ lw_all := lw_g (lw_at lw_m3 119 rfl) rfl
theorem q699 : (Jvm.Cond.code ({ cls := "java/lang/StringUTF16", name := "checkBoundsBeginEnd", desc := "(II[B)V" } : Jvm.MethodName) prog_45_method_93_code (3 : Nat) (Option.none : Option Jvm.ClassFile.FieldType)) ∈ lw_all := lw_g (lw_at lw_m3 120 rfl) rfl
theorem q700 : (Jvm.Cond.methodLink "java/lang/StringUTF16" (48 : Nat) ({ cls := "java/lang/StringUTF16", name := "length", desc := "([B)I" } : Jvm.MethodName)) ∈ lw_all := lw_g (lw_at lw_m3 121 rfl) rfl
theorem q701 : (Jvm.Cond.static ({ cls := "java/lang/StringUTF16", name := "length", desc := "([B)I" } : Jvm.MethodName)) ∈ lw_all := lw_g (lw_at lw_m3 122 rfl) rfl
theorem q702 : (Jvm.Cond.code ({ cls := "java/lang/StringUTF16", name := "length", desc := "([B)I" } : Jvm.MethodName) prog_45_method_6_code (1 : Nat) (Option.some Jvm.ClassFile.FieldType.int)) ∈ lw_all := lw_g (lw_at lw_m3 123 rfl) rfl
theorem q703 : (Jvm.Cond.methodLink "java/lang/StringUTF16" (241 : Nat) ({ cls := "java/lang/String", name := "checkBoundsBeginEnd", desc := "(III)V" } : Jvm.MethodName)) ∈ lw_all := lw_g (lw_at lw_m3 124 rfl) rfl
theorem q711 : (Jvm.Cond.methodLink "java/lang/StringUTF16" (244 : Nat) ({ cls := "java/lang/StringUTF16", name := "indexOfCharUnsafe", desc := "([BIII)I" } : Jvm.MethodName)) ∈ lw_all := lw_g (lw_at lw_m3 132 rfl) rfl
theorem q712 : (Jvm.Cond.static ({ cls := "java/lang/StringUTF16", name := "indexOfCharUnsafe", desc := "([BIII)I" } : Jvm.MethodName)) ∈ lw_all := lw_g (lw_at lw_m3 133 rfl) rfl
theorem q713 : (Jvm.Cond.code ({ cls := "java/lang/StringUTF16", name := "indexOfCharUnsafe", desc := "([BIII)I" } : Jvm.MethodName) prog_45_method_48_code (5 : Nat) (Option.some Jvm.ClassFile.FieldType.int)) ∈ lw_all := lw_g (lw_at lw_m3 134 rfl) rfl
theorem q714 : (Jvm.Cond.methodLink "java/lang/StringUTF16" (71 : Nat) ({ cls := "java/lang/StringUTF16", name := "getChar", desc := "([BI)C" } : Jvm.MethodName)) ∈ lw_all := lw_g (lw_at lw_m3 135 rfl) rfl
theorem q715 : (Jvm.Cond.static ({ cls := "java/lang/StringUTF16", name := "getChar", desc := "([BI)C" } : Jvm.MethodName)) ∈ lw_all := lw_g (lw_at lw_m3 136 rfl) rfl
theorem q716 : (Jvm.Cond.code ({ cls := "java/lang/StringUTF16", name := "getChar", desc := "([BI)C" } : Jvm.MethodName) prog_45_method_5_code (2 : Nat) (Option.some Jvm.ClassFile.FieldType.char)) ∈ lw_all := lw_g (lw_at lw_m3 137 rfl) rfl
theorem q717 : (Jvm.Cond.fieldLink "java/lang/StringUTF16" (44 : Nat) "java/lang/StringUTF16" "$assertionsDisabled" "Z") ∈ lw_all := lw_g (lw_at lw_m3 138 rfl) rfl
theorem q718 : (Jvm.Cond.laysStatic "java/lang/StringUTF16" "$assertionsDisabled" "Z") ∈ lw_tbl := lw_at lw_m3 139 rfl
theorem q719 : (Jvm.Cond.fieldLink "java/lang/StringUTF16" (59 : Nat) "java/lang/StringUTF16" "HI_BYTE_SHIFT" "I") ∈ lw_all := lw_g (lw_at lw_m3 140 rfl) rfl
theorem q720 : (Jvm.Cond.laysStatic "java/lang/StringUTF16" "HI_BYTE_SHIFT" "I") ∈ lw_tbl := lw_at lw_m3 141 rfl
theorem q721 : (Jvm.Cond.fieldLink "java/lang/StringUTF16" (63 : Nat) "java/lang/StringUTF16" "LO_BYTE_SHIFT" "I") ∈ lw_all := lw_g (lw_at lw_m3 142 rfl) rfl
theorem q722 : (Jvm.Cond.laysStatic "java/lang/StringUTF16" "LO_BYTE_SHIFT" "I") ∈ lw_tbl := lw_at lw_m3 143 rfl
theorem q723 : (Jvm.Cond.methodLink "java/lang/StringUTF16" (232 : Nat) ({ cls := "java/lang/StringUTF16", name := "indexOfSupplementary", desc := "([BIII)I" } : Jvm.MethodName)) ∈ lw_all := lw_g (lw_at lw_m3 144 rfl) rfl
theorem q724 : (Jvm.Cond.static ({ cls := "java/lang/StringUTF16", name := "indexOfSupplementary", desc := "([BIII)I" } : Jvm.MethodName)) ∈ lw_all := lw_g (lw_at lw_m3 145 rfl) rfl
theorem q725 : (Jvm.Cond.code ({ cls := "java/lang/StringUTF16", name := "indexOfSupplementary", desc := "([BIII)I" } : Jvm.MethodName) prog_45_method_49_code (7 : Nat) (Option.some Jvm.ClassFile.FieldType.int)) ∈ lw_all := lw_g (lw_at lw_m3 146 rfl) rfl
theorem q726 : (Jvm.Cond.methodLink "java/lang/StringUTF16" (164 : Nat) ({ cls := "java/lang/Character", name := "isValidCodePoint", desc := "(I)Z" } : Jvm.MethodName)) ∈ lw_all := lw_g (lw_at lw_m3 147 rfl) rfl
theorem q729 : (Jvm.Cond.methodLink "java/lang/StringUTF16" (157 : Nat) ({ cls := "java/lang/Character", name := "highSurrogate", desc := "(I)C" } : Jvm.MethodName)) ∈ lw_all := lw_g (lw_at lw_m3 150 rfl) rfl
theorem q733 : (Jvm.Cond.methodLink "java/lang/StringUTF16" (161 : Nat) ({ cls := "java/lang/Character", name := "lowSurrogate", desc := "(I)C" } : Jvm.MethodName)) ∈ lw_all := lw_g (lw_at lw_m3 154 rfl) rfl
/-! jdk/internal/util/Preconditions -/
def RJ11 : String := "jdk/internal/util/Preconditions"
abbrev cJ11_checkFromToIndex : ByteArray := prog_48_method_12_code
def yJ11_checkFromToIndex : MethodName := ⟨RJ11, "checkFromToIndex", "(IIILjava/util/function/BiFunction;)I"⟩
theorem q119 : (Jvm.Cond.initialized "jdk/internal/util/Preconditions") ∈ lw_all := lw_g (lw_at lw_m1 20 rfl) rfl
theorem q707 : (Jvm.Cond.laysStatic "jdk/internal/util/Preconditions" "SIOOBE_FORMATTER" "Ljava/util/function/BiFunction;") ∈ lw_tbl := lw_at lw_m3 128 rfl
theorem q709 : (Jvm.Cond.static ({ cls := "jdk/internal/util/Preconditions", name := "checkFromToIndex", desc := "(IIILjava/util/function/BiFunction;)I" } : Jvm.MethodName)) ∈ lw_all := lw_g (lw_at lw_m3 130 rfl) rfl
theorem q710 : (Jvm.Cond.code ({ cls := "jdk/internal/util/Preconditions", name := "checkFromToIndex", desc := "(IIILjava/util/function/BiFunction;)I" } : Jvm.MethodName) prog_48_method_12_code (4 : Nat) (Option.some Jvm.ClassFile.FieldType.int)) ∈ lw_all := lw_g (lw_at lw_m3 131 rfl) rfl
/-! java/lang/Character -/
def RJ12 : String := "java/lang/Character"
abbrev cJ12_isValidCodePoint : ByteArray := prog_34_method_11_code
def yJ12_isValidCodePoint : MethodName := ⟨RJ12, "isValidCodePoint", "(I)Z"⟩
abbrev cJ12_highSurrogate : ByteArray := prog_34_method_28_code
def yJ12_highSurrogate : MethodName := ⟨RJ12, "highSurrogate", "(I)C"⟩
abbrev cJ12_lowSurrogate : ByteArray := prog_34_method_29_code
def yJ12_lowSurrogate : MethodName := ⟨RJ12, "lowSurrogate", "(I)C"⟩
theorem q120 : (Jvm.Cond.initialized "java/lang/Character") ∈ lw_all := lw_g (lw_at lw_m1 21 rfl) rfl
theorem q727 : (Jvm.Cond.static ({ cls := "java/lang/Character", name := "isValidCodePoint", desc := "(I)Z" } : Jvm.MethodName)) ∈ lw_all := lw_g (lw_at lw_m3 148 rfl) rfl
theorem q728 : (Jvm.Cond.code ({ cls := "java/lang/Character", name := "isValidCodePoint", desc := "(I)Z" } : Jvm.MethodName) prog_34_method_11_code (2 : Nat) (Option.some Jvm.ClassFile.FieldType.boolean)) ∈ lw_all := lw_g (lw_at lw_m3 149 rfl) rfl
theorem q730 : (Jvm.Cond.static ({ cls := "java/lang/Character", name := "highSurrogate", desc := "(I)C" } : Jvm.MethodName)) ∈ lw_all := lw_g (lw_at lw_m3 151 rfl) rfl
theorem q731 : (Jvm.Cond.code ({ cls := "java/lang/Character", name := "highSurrogate", desc := "(I)C" } : Jvm.MethodName) prog_34_method_28_code (1 : Nat) (Option.some Jvm.ClassFile.FieldType.char)) ∈ lw_all := lw_g (lw_at lw_m3 152 rfl) rfl
theorem q732 : (Jvm.Cond.constant "java/lang/Character" (110 : Nat) (55232 : Int32)) ∈ lw_all := lw_g (lw_at lw_m3 153 rfl) rfl
theorem q734 : (Jvm.Cond.static ({ cls := "java/lang/Character", name := "lowSurrogate", desc := "(I)C" } : Jvm.MethodName)) ∈ lw_all := lw_g (lw_at lw_m3 155 rfl) rfl
theorem q735 : (Jvm.Cond.code ({ cls := "java/lang/Character", name := "lowSurrogate", desc := "(I)C" } : Jvm.MethodName) prog_34_method_29_code (1 : Nat) (Option.some Jvm.ClassFile.FieldType.char)) ∈ lw_all := lw_g (lw_at lw_m3 156 rfl) rfl
theorem q736 : (Jvm.Cond.constant "java/lang/Character" (76 : Nat) (56320 : Int32)) ∈ lw_all := lw_g (lw_at lw_m3 157 rfl) rfl
/-! PromiseRoofs$Node -/
def RX8 : String := "PromiseRoofs$Node"
abbrev cX8_init : ByteArray := prog_15_method_1_code
def yX8_init : MethodName := ⟨RX8, "<init>", "()V"⟩
theorem q121 : (Jvm.Cond.initialized "PromiseRoofs$Node") ∈ lw_all := lw_g (lw_at lw_m1 22 rfl) rfl
theorem q743 : (Jvm.Cond.instanceMethod ({ cls := "PromiseRoofs$Node", name := "<init>", desc := "()V" } : Jvm.MethodName)) ∈ lw_all := lw_g (lw_at lw_m3 164 rfl) rfl
theorem q744 : (Jvm.Cond.code ({ cls := "PromiseRoofs$Node", name := "<init>", desc := "()V" } : Jvm.MethodName) prog_15_method_1_code (1 : Nat) (Option.none : Option Jvm.ClassFile.FieldType)) ∈ lw_all := lw_g (lw_at lw_m3 165 rfl) rfl
theorem q745 : (Jvm.Cond.methodLink "PromiseRoofs$Node" (1 : Nat) ({ cls := "java/lang/Object", name := "<init>", desc := "()V" } : Jvm.MethodName)) ∈ lw_all := lw_g (lw_at lw_m3 166 rfl) rfl
theorem q838 : (Jvm.Cond.declares ({ cls := "PromiseRoofs$Node", name := "value", desc := "(LPromiseRoofs$Facts;)I" } : Jvm.MethodName)) ∈ lw_tbl := lw_at lw_m4 19 rfl
theorem q839 : (Jvm.Cond.sameMethod "PromiseRoofs$Node" "PromiseRoofs$Node" "value" "(LPromiseRoofs$Facts;)I") ∈ lw_all := lw_g (lw_at lw_m4 20 rfl) rfl
/-! PromiseRoofs$Name -/
def RX9 : String := "PromiseRoofs$Name"
def TX9 : u_T := fun k => match k with
  | _ => ("PromiseRoofs$Name", "letter", "I", true)
def tyX9 : Nat → FieldType := fun k => match k with
  | _ => .int
abbrev wsX90 : List Cond := u_ws RX9 TX9 1
theorem nmX9 : ∀ a, a < 1 → ∀ b, b < 1 → a ≠ b → (TX9 a).2.1 ≠ (TX9 b).2.1 := by decide +kernel
theorem tyX9_ok : ∀ k, k < 1 → parseFieldDescriptor (TX9 k).2.2.1 = some (tyX9 k) := by decide +kernel
abbrev cX9_init : ByteArray := prog_14_method_1_code
def yX9_init : MethodName := ⟨RX9, "<init>", "(I)V"⟩
abbrev cX9_value : ByteArray := prog_14_method_2_code
def yX9_value : MethodName := ⟨RX9, "value", "(LPromiseRoofs$Facts;)I"⟩
theorem q122 : (Jvm.Cond.initialized "PromiseRoofs$Name") ∈ lw_all := lw_g (lw_at lw_m1 23 rfl) rfl
theorem q166 : (Jvm.Cond.fieldLinkNest "PromiseRoofs$Name" (13 : Nat) "PromiseRoofs$Facts" "named" "[I" "PromiseRoofs") ∈ lw_tbl := lw_at lw_m1 67 rfl
theorem q738 : (Jvm.Cond.instantiable "PromiseRoofs$Name" (1 : Nat)) ∈ lw_all := lw_g (lw_at lw_m3 159 rfl) rfl
theorem q740 : (Jvm.Cond.instanceMethod ({ cls := "PromiseRoofs$Name", name := "<init>", desc := "(I)V" } : Jvm.MethodName)) ∈ lw_all := lw_g (lw_at lw_m3 161 rfl) rfl
theorem q741 : (Jvm.Cond.code ({ cls := "PromiseRoofs$Name", name := "<init>", desc := "(I)V" } : Jvm.MethodName) prog_14_method_1_code (2 : Nat) (Option.none : Option Jvm.ClassFile.FieldType)) ∈ lw_all := lw_g (lw_at lw_m3 162 rfl) rfl
theorem q742 : (Jvm.Cond.methodLinkNest "PromiseRoofs$Name" (1 : Nat) ({ cls := "PromiseRoofs$Node", name := "<init>", desc := "()V" } : Jvm.MethodName) "PromiseRoofs") ∈ lw_tbl := lw_at lw_m3 163 rfl
theorem q746 : (Jvm.Cond.fieldLink "PromiseRoofs$Name" (7 : Nat) "PromiseRoofs$Name" "letter" "I") ∈ lw_all := lw_g (lw_at lw_m3 167 rfl) rfl
theorem q747 : (Jvm.Cond.laysFinal "PromiseRoofs$Name" "PromiseRoofs$Name" "letter" "I") ∈ lw_all := lw_g (lw_at lw_m3 168 rfl) rfl
theorem q748 : (Jvm.Cond.soleField "PromiseRoofs$Name" "letter") ∈ lw_all := lw_g (lw_at lw_m3 169 rfl) rfl
theorem q749 : (Jvm.Cond.superclass "PromiseRoofs$Name" "PromiseRoofs$Node") ∈ lw_all := lw_g (lw_at lw_m3 170 rfl) rfl
theorem q846 : (Jvm.Cond.instanceMethod ({ cls := "PromiseRoofs$Name", name := "value", desc := "(LPromiseRoofs$Facts;)I" } : Jvm.MethodName)) ∈ lw_all := lw_g (lw_at lw_m4 27 rfl) rfl
theorem q847 : (Jvm.Cond.code ({ cls := "PromiseRoofs$Name", name := "value", desc := "(LPromiseRoofs$Facts;)I" } : Jvm.MethodName) prog_14_method_2_code (2 : Nat) (Option.some Jvm.ClassFile.FieldType.int)) ∈ lw_all := lw_g (lw_at lw_m4 28 rfl) rfl
theorem q858 : (Jvm.Cond.selects "PromiseRoofs$Name" ({ cls := "PromiseRoofs$Node", name := "value", desc := "(LPromiseRoofs$Facts;)I" } : Jvm.MethodName) ({ cls := "PromiseRoofs$Name", name := "value", desc := "(LPromiseRoofs$Facts;)I" } : Jvm.MethodName)) ∈ lw_all := lw_g (lw_at lw_m4 39 rfl) rfl
theorem in_X9 : ∀ w ∈ wsX90, w ∈ lw_all := lw_in wsX90 [747] (by decide +kernel) (by decide +kernel)
/-! PromiseRoofs$Denied -/
def RX10 : String := "PromiseRoofs$Denied"
def TX10 : u_T := fun k => match k with
  | _ => ("PromiseRoofs$Denied", "of", "LPromiseRoofs$Node;", true)
def tyX10 : Nat → FieldType := fun k => match k with
  | _ => .object "PromiseRoofs$Node"
abbrev wsX100 : List Cond := u_ws RX10 TX10 1
theorem nmX10 : ∀ a, a < 1 → ∀ b, b < 1 → a ≠ b → (TX10 a).2.1 ≠ (TX10 b).2.1 := by decide +kernel
theorem tyX10_ok : ∀ k, k < 1 → parseFieldDescriptor (TX10 k).2.2.1 = some (tyX10 k) := by decide +kernel
abbrev cX10_init : ByteArray := prog_7_method_1_code
def yX10_init : MethodName := ⟨RX10, "<init>", "(LPromiseRoofs$Node;)V"⟩
abbrev cX10_value : ByteArray := prog_7_method_2_code
def yX10_value : MethodName := ⟨RX10, "value", "(LPromiseRoofs$Facts;)I"⟩
theorem q123 : (Jvm.Cond.initialized "PromiseRoofs$Denied") ∈ lw_all := lw_g (lw_at lw_m1 24 rfl) rfl
theorem q759 : (Jvm.Cond.instantiable "PromiseRoofs$Denied" (1 : Nat)) ∈ lw_all := lw_g (lw_at lw_m3 180 rfl) rfl
theorem q761 : (Jvm.Cond.instanceMethod ({ cls := "PromiseRoofs$Denied", name := "<init>", desc := "(LPromiseRoofs$Node;)V" } : Jvm.MethodName)) ∈ lw_all := lw_g (lw_at lw_m3 182 rfl) rfl
theorem q762 : (Jvm.Cond.code ({ cls := "PromiseRoofs$Denied", name := "<init>", desc := "(LPromiseRoofs$Node;)V" } : Jvm.MethodName) prog_7_method_1_code (2 : Nat) (Option.none : Option Jvm.ClassFile.FieldType)) ∈ lw_all := lw_g (lw_at lw_m3 183 rfl) rfl
theorem q763 : (Jvm.Cond.methodLinkNest "PromiseRoofs$Denied" (1 : Nat) ({ cls := "PromiseRoofs$Node", name := "<init>", desc := "()V" } : Jvm.MethodName) "PromiseRoofs") ∈ lw_tbl := lw_at lw_m3 184 rfl
theorem q764 : (Jvm.Cond.fieldLink "PromiseRoofs$Denied" (7 : Nat) "PromiseRoofs$Denied" "of" "LPromiseRoofs$Node;") ∈ lw_all := lw_g (lw_at lw_m3 185 rfl) rfl
theorem q765 : (Jvm.Cond.laysFinal "PromiseRoofs$Denied" "PromiseRoofs$Denied" "of" "LPromiseRoofs$Node;") ∈ lw_all := lw_g (lw_at lw_m3 186 rfl) rfl
theorem q766 : (Jvm.Cond.soleField "PromiseRoofs$Denied" "of") ∈ lw_all := lw_g (lw_at lw_m3 187 rfl) rfl
theorem q767 : (Jvm.Cond.superclass "PromiseRoofs$Denied" "PromiseRoofs$Node") ∈ lw_all := lw_g (lw_at lw_m3 188 rfl) rfl
theorem q840 : (Jvm.Cond.selects "PromiseRoofs$Denied" ({ cls := "PromiseRoofs$Node", name := "value", desc := "(LPromiseRoofs$Facts;)I" } : Jvm.MethodName) ({ cls := "PromiseRoofs$Denied", name := "value", desc := "(LPromiseRoofs$Facts;)I" } : Jvm.MethodName)) ∈ lw_all := lw_g (lw_at lw_m4 21 rfl) rfl
theorem q841 : (Jvm.Cond.instanceMethod ({ cls := "PromiseRoofs$Denied", name := "value", desc := "(LPromiseRoofs$Facts;)I" } : Jvm.MethodName)) ∈ lw_all := lw_g (lw_at lw_m4 22 rfl) rfl
theorem q842 : (Jvm.Cond.code ({ cls := "PromiseRoofs$Denied", name := "value", desc := "(LPromiseRoofs$Facts;)I" } : Jvm.MethodName) prog_7_method_2_code (2 : Nat) (Option.some Jvm.ClassFile.FieldType.int)) ∈ lw_all := lw_g (lw_at lw_m4 23 rfl) rfl
theorem q843 : (Jvm.Cond.methodLink "PromiseRoofs$Denied" (13 : Nat) ({ cls := "PromiseRoofs$Node", name := "value", desc := "(LPromiseRoofs$Facts;)I" } : Jvm.MethodName)) ∈ lw_all := lw_g (lw_at lw_m4 24 rfl) rfl
theorem in_X10 : ∀ w ∈ wsX100, w ∈ lw_all := lw_in wsX100 [765] (by decide +kernel) (by decide +kernel)
/-! PromiseRoofs$Turned -/
def RX11 : String := "PromiseRoofs$Turned"
def TX11 : u_T := fun k => match k with
  | _ => ("PromiseRoofs$Turned", "of", "LPromiseRoofs$Node;", true)
def tyX11 : Nat → FieldType := fun k => match k with
  | _ => .object "PromiseRoofs$Node"
abbrev wsX110 : List Cond := u_ws RX11 TX11 1
theorem nmX11 : ∀ a, a < 1 → ∀ b, b < 1 → a ≠ b → (TX11 a).2.1 ≠ (TX11 b).2.1 := by decide +kernel
theorem tyX11_ok : ∀ k, k < 1 → parseFieldDescriptor (TX11 k).2.2.1 = some (tyX11 k) := by decide +kernel
abbrev cX11_init : ByteArray := prog_29_method_1_code
def yX11_init : MethodName := ⟨RX11, "<init>", "(LPromiseRoofs$Node;)V"⟩
abbrev cX11_value : ByteArray := prog_29_method_2_code
def yX11_value : MethodName := ⟨RX11, "value", "(LPromiseRoofs$Facts;)I"⟩
theorem q124 : (Jvm.Cond.initialized "PromiseRoofs$Turned") ∈ lw_all := lw_g (lw_at lw_m1 25 rfl) rfl
theorem q769 : (Jvm.Cond.instantiable "PromiseRoofs$Turned" (1 : Nat)) ∈ lw_all := lw_g (lw_at lw_m3 190 rfl) rfl
theorem q771 : (Jvm.Cond.instanceMethod ({ cls := "PromiseRoofs$Turned", name := "<init>", desc := "(LPromiseRoofs$Node;)V" } : Jvm.MethodName)) ∈ lw_all := lw_g (lw_at lw_m3 192 rfl) rfl
theorem q772 : (Jvm.Cond.code ({ cls := "PromiseRoofs$Turned", name := "<init>", desc := "(LPromiseRoofs$Node;)V" } : Jvm.MethodName) prog_29_method_1_code (2 : Nat) (Option.none : Option Jvm.ClassFile.FieldType)) ∈ lw_all := lw_g (lw_at lw_m3 193 rfl) rfl
theorem q773 : (Jvm.Cond.methodLinkNest "PromiseRoofs$Turned" (1 : Nat) ({ cls := "PromiseRoofs$Node", name := "<init>", desc := "()V" } : Jvm.MethodName) "PromiseRoofs") ∈ lw_tbl := lw_at lw_m3 194 rfl
theorem q774 : (Jvm.Cond.fieldLink "PromiseRoofs$Turned" (7 : Nat) "PromiseRoofs$Turned" "of" "LPromiseRoofs$Node;") ∈ lw_all := lw_g (lw_at lw_m3 195 rfl) rfl
theorem q775 : (Jvm.Cond.laysFinal "PromiseRoofs$Turned" "PromiseRoofs$Turned" "of" "LPromiseRoofs$Node;") ∈ lw_all := lw_g (lw_at lw_m3 196 rfl) rfl
theorem q776 : (Jvm.Cond.soleField "PromiseRoofs$Turned" "of") ∈ lw_all := lw_g (lw_at lw_m3 197 rfl) rfl
theorem q777 : (Jvm.Cond.superclass "PromiseRoofs$Turned" "PromiseRoofs$Node") ∈ lw_all := lw_g (lw_at lw_m3 198 rfl) rfl
theorem q851 : (Jvm.Cond.instanceMethod ({ cls := "PromiseRoofs$Turned", name := "value", desc := "(LPromiseRoofs$Facts;)I" } : Jvm.MethodName)) ∈ lw_all := lw_g (lw_at lw_m4 32 rfl) rfl
theorem q852 : (Jvm.Cond.code ({ cls := "PromiseRoofs$Turned", name := "value", desc := "(LPromiseRoofs$Facts;)I" } : Jvm.MethodName) prog_29_method_2_code (2 : Nat) (Option.some Jvm.ClassFile.FieldType.int)) ∈ lw_all := lw_g (lw_at lw_m4 33 rfl) rfl
theorem q853 : (Jvm.Cond.methodLink "PromiseRoofs$Turned" (13 : Nat) ({ cls := "PromiseRoofs$Node", name := "value", desc := "(LPromiseRoofs$Facts;)I" } : Jvm.MethodName)) ∈ lw_all := lw_g (lw_at lw_m4 34 rfl) rfl
theorem q860 : (Jvm.Cond.selects "PromiseRoofs$Turned" ({ cls := "PromiseRoofs$Node", name := "value", desc := "(LPromiseRoofs$Facts;)I" } : Jvm.MethodName) ({ cls := "PromiseRoofs$Turned", name := "value", desc := "(LPromiseRoofs$Facts;)I" } : Jvm.MethodName)) ∈ lw_all := lw_g (lw_at lw_m4 41 rfl) rfl
theorem in_X11 : ∀ w ∈ wsX110, w ∈ lw_all := lw_in wsX110 [775] (by decide +kernel) (by decide +kernel)
/-! PromiseRoofs$Leaf -/
def RX12 : String := "PromiseRoofs$Leaf"
def TX12 : u_T := fun k => match k with
  | _ => ("PromiseRoofs$Leaf", "number", "I", true)
def tyX12 : Nat → FieldType := fun k => match k with
  | _ => .int
abbrev wsX120 : List Cond := u_ws RX12 TX12 1
theorem nmX12 : ∀ a, a < 1 → ∀ b, b < 1 → a ≠ b → (TX12 a).2.1 ≠ (TX12 b).2.1 := by decide +kernel
theorem tyX12_ok : ∀ k, k < 1 → parseFieldDescriptor (TX12 k).2.2.1 = some (tyX12 k) := by decide +kernel
abbrev cX12_init : ByteArray := prog_11_method_1_code
def yX12_init : MethodName := ⟨RX12, "<init>", "(I)V"⟩
abbrev cX12_value : ByteArray := prog_11_method_2_code
def yX12_value : MethodName := ⟨RX12, "value", "(LPromiseRoofs$Facts;)I"⟩
theorem q125 : (Jvm.Cond.initialized "PromiseRoofs$Leaf") ∈ lw_all := lw_g (lw_at lw_m1 26 rfl) rfl
theorem q780 : (Jvm.Cond.instantiable "PromiseRoofs$Leaf" (1 : Nat)) ∈ lw_all := lw_g (lw_at lw_m3 201 rfl) rfl
theorem q782 : (Jvm.Cond.instanceMethod ({ cls := "PromiseRoofs$Leaf", name := "<init>", desc := "(I)V" } : Jvm.MethodName)) ∈ lw_all := lw_g (lw_at lw_m3 203 rfl) rfl
theorem q783 : (Jvm.Cond.code ({ cls := "PromiseRoofs$Leaf", name := "<init>", desc := "(I)V" } : Jvm.MethodName) prog_11_method_1_code (2 : Nat) (Option.none : Option Jvm.ClassFile.FieldType)) ∈ lw_all := lw_g (lw_at lw_m3 204 rfl) rfl
theorem q784 : (Jvm.Cond.methodLinkNest "PromiseRoofs$Leaf" (1 : Nat) ({ cls := "PromiseRoofs$Node", name := "<init>", desc := "()V" } : Jvm.MethodName) "PromiseRoofs") ∈ lw_tbl := lw_at lw_m3 205 rfl
theorem q785 : (Jvm.Cond.fieldLink "PromiseRoofs$Leaf" (7 : Nat) "PromiseRoofs$Leaf" "number" "I") ∈ lw_all := lw_g (lw_at lw_m3 206 rfl) rfl
theorem q786 : (Jvm.Cond.laysFinal "PromiseRoofs$Leaf" "PromiseRoofs$Leaf" "number" "I") ∈ lw_all := lw_g (lw_at lw_m3 207 rfl) rfl
theorem q787 : (Jvm.Cond.soleField "PromiseRoofs$Leaf" "number") ∈ lw_all := lw_g (lw_at lw_m3 208 rfl) rfl
theorem q788 : (Jvm.Cond.superclass "PromiseRoofs$Leaf" "PromiseRoofs$Node") ∈ lw_all := lw_g (lw_at lw_m3 209 rfl) rfl
theorem q844 : (Jvm.Cond.instanceMethod ({ cls := "PromiseRoofs$Leaf", name := "value", desc := "(LPromiseRoofs$Facts;)I" } : Jvm.MethodName)) ∈ lw_all := lw_g (lw_at lw_m4 25 rfl) rfl
theorem q845 : (Jvm.Cond.code ({ cls := "PromiseRoofs$Leaf", name := "value", desc := "(LPromiseRoofs$Facts;)I" } : Jvm.MethodName) prog_11_method_2_code (2 : Nat) (Option.some Jvm.ClassFile.FieldType.int)) ∈ lw_all := lw_g (lw_at lw_m4 26 rfl) rfl
theorem q857 : (Jvm.Cond.selects "PromiseRoofs$Leaf" ({ cls := "PromiseRoofs$Node", name := "value", desc := "(LPromiseRoofs$Facts;)I" } : Jvm.MethodName) ({ cls := "PromiseRoofs$Leaf", name := "value", desc := "(LPromiseRoofs$Facts;)I" } : Jvm.MethodName)) ∈ lw_all := lw_g (lw_at lw_m4 38 rfl) rfl
theorem in_X12 : ∀ w ∈ wsX120, w ∈ lw_all := lw_in wsX120 [786] (by decide +kernel) (by decide +kernel)
/-! PromiseRoofs$Pair -/
def RX13 : String := "PromiseRoofs$Pair"
def TX13 : u_T := fun k => match k with
  | 0 => ("PromiseRoofs$Pair", "sign", "I", true)
  | 1 => ("PromiseRoofs$Pair", "left", "LPromiseRoofs$Node;", true)
  | _ => ("PromiseRoofs$Pair", "right", "LPromiseRoofs$Node;", true)
def tyX13 : Nat → FieldType := fun k => match k with
  | 0 => .int
  | 1 => .object "PromiseRoofs$Node"
  | _ => .object "PromiseRoofs$Node"
abbrev wsX130 : List Cond := u_ws RX13 TX13 3
theorem nmX13 : ∀ a, a < 3 → ∀ b, b < 3 → a ≠ b → (TX13 a).2.1 ≠ (TX13 b).2.1 := by decide +kernel
theorem tyX13_ok : ∀ k, k < 3 → parseFieldDescriptor (TX13 k).2.2.1 = some (tyX13 k) := by decide +kernel
abbrev cX13_init : ByteArray := prog_17_method_1_code
def yX13_init : MethodName := ⟨RX13, "<init>", "(ILPromiseRoofs$Node;LPromiseRoofs$Node;)V"⟩
abbrev cX13_value : ByteArray := prog_17_method_3_code
def yX13_value : MethodName := ⟨RX13, "value", "(LPromiseRoofs$Facts;)I"⟩
abbrev cX13_is : ByteArray := prog_17_method_2_code
def yX13_is : MethodName := ⟨RX13, "is", "(Z)I"⟩
theorem q126 : (Jvm.Cond.initialized "PromiseRoofs$Pair") ∈ lw_all := lw_g (lw_at lw_m1 27 rfl) rfl
theorem q795 : (Jvm.Cond.instantiable "PromiseRoofs$Pair" (3 : Nat)) ∈ lw_all := lw_g (lw_at lw_m3 216 rfl) rfl
theorem q797 : (Jvm.Cond.instanceMethod ({ cls := "PromiseRoofs$Pair", name := "<init>", desc := "(ILPromiseRoofs$Node;LPromiseRoofs$Node;)V" } : Jvm.MethodName)) ∈ lw_all := lw_g (lw_at lw_m3 218 rfl) rfl
theorem q798 : (Jvm.Cond.code ({ cls := "PromiseRoofs$Pair", name := "<init>", desc := "(ILPromiseRoofs$Node;LPromiseRoofs$Node;)V" } : Jvm.MethodName) prog_17_method_1_code (4 : Nat) (Option.none : Option Jvm.ClassFile.FieldType)) ∈ lw_all := lw_g (lw_at lw_m3 219 rfl) rfl
theorem q799 : (Jvm.Cond.methodLinkNest "PromiseRoofs$Pair" (1 : Nat) ({ cls := "PromiseRoofs$Node", name := "<init>", desc := "()V" } : Jvm.MethodName) "PromiseRoofs") ∈ lw_tbl := lw_at lw_m3 220 rfl
theorem q800 : (Jvm.Cond.fieldLink "PromiseRoofs$Pair" (7 : Nat) "PromiseRoofs$Pair" "sign" "I") ∈ lw_all := lw_g (lw_at lw_m3 221 rfl) rfl
theorem q801 : (Jvm.Cond.fieldLink "PromiseRoofs$Pair" (13 : Nat) "PromiseRoofs$Pair" "left" "LPromiseRoofs$Node;") ∈ lw_all := lw_g (lw_at lw_m3 222 rfl) rfl
theorem q802 : (Jvm.Cond.fieldLink "PromiseRoofs$Pair" (17 : Nat) "PromiseRoofs$Pair" "right" "LPromiseRoofs$Node;") ∈ lw_all := lw_g (lw_at lw_m3 223 rfl) rfl
theorem q803 : (Jvm.Cond.laysFinal "PromiseRoofs$Pair" "PromiseRoofs$Pair" "sign" "I") ∈ lw_all := lw_g (lw_at lw_m3 224 rfl) rfl
theorem q804 : (Jvm.Cond.soleField "PromiseRoofs$Pair" "sign") ∈ lw_all := lw_g (lw_at lw_m3 225 rfl) rfl
theorem q805 : (Jvm.Cond.laysFinal "PromiseRoofs$Pair" "PromiseRoofs$Pair" "left" "LPromiseRoofs$Node;") ∈ lw_all := lw_g (lw_at lw_m3 226 rfl) rfl
theorem q806 : (Jvm.Cond.soleField "PromiseRoofs$Pair" "left") ∈ lw_all := lw_g (lw_at lw_m3 227 rfl) rfl
theorem q807 : (Jvm.Cond.laysFinal "PromiseRoofs$Pair" "PromiseRoofs$Pair" "right" "LPromiseRoofs$Node;") ∈ lw_all := lw_g (lw_at lw_m3 228 rfl) rfl
theorem q808 : (Jvm.Cond.soleField "PromiseRoofs$Pair" "right") ∈ lw_all := lw_g (lw_at lw_m3 229 rfl) rfl
theorem q809 : (Jvm.Cond.superclass "PromiseRoofs$Pair" "PromiseRoofs$Node") ∈ lw_all := lw_g (lw_at lw_m3 230 rfl) rfl
theorem q848 : (Jvm.Cond.instanceMethod ({ cls := "PromiseRoofs$Pair", name := "value", desc := "(LPromiseRoofs$Facts;)I" } : Jvm.MethodName)) ∈ lw_all := lw_g (lw_at lw_m4 29 rfl) rfl
theorem q849 : (Jvm.Cond.code ({ cls := "PromiseRoofs$Pair", name := "value", desc := "(LPromiseRoofs$Facts;)I" } : Jvm.MethodName) prog_17_method_3_code (4 : Nat) (Option.some Jvm.ClassFile.FieldType.int)) ∈ lw_all := lw_g (lw_at lw_m4 30 rfl) rfl
theorem q850 : (Jvm.Cond.methodLink "PromiseRoofs$Pair" (20 : Nat) ({ cls := "PromiseRoofs$Node", name := "value", desc := "(LPromiseRoofs$Facts;)I" } : Jvm.MethodName)) ∈ lw_all := lw_g (lw_at lw_m4 31 rfl) rfl
theorem q854 : (Jvm.Cond.methodLink "PromiseRoofs$Pair" (24 : Nat) ({ cls := "PromiseRoofs$Pair", name := "is", desc := "(Z)I" } : Jvm.MethodName)) ∈ lw_all := lw_g (lw_at lw_m4 35 rfl) rfl
theorem q855 : (Jvm.Cond.static ({ cls := "PromiseRoofs$Pair", name := "is", desc := "(Z)I" } : Jvm.MethodName)) ∈ lw_all := lw_g (lw_at lw_m4 36 rfl) rfl
theorem q856 : (Jvm.Cond.code ({ cls := "PromiseRoofs$Pair", name := "is", desc := "(Z)I" } : Jvm.MethodName) prog_17_method_2_code (1 : Nat) (Option.some Jvm.ClassFile.FieldType.int)) ∈ lw_all := lw_g (lw_at lw_m4 37 rfl) rfl
theorem q859 : (Jvm.Cond.selects "PromiseRoofs$Pair" ({ cls := "PromiseRoofs$Node", name := "value", desc := "(LPromiseRoofs$Facts;)I" } : Jvm.MethodName) ({ cls := "PromiseRoofs$Pair", name := "value", desc := "(LPromiseRoofs$Facts;)I" } : Jvm.MethodName)) ∈ lw_all := lw_g (lw_at lw_m4 40 rfl) rfl
theorem in_X13 : ∀ w ∈ wsX130, w ∈ lw_all := lw_in wsX130 [803, 805, 807] (by decide +kernel) (by decide +kernel)
/-! java/lang/Integer -/
def RJ13 : String := "java/lang/Integer"
abbrev cJ13_bitCount : ByteArray := prog_38_method_49_code
def yJ13_bitCount : MethodName := ⟨RJ13, "bitCount", "(I)I"⟩
theorem q127 : (Jvm.Cond.initialized "java/lang/Integer") ∈ lw_all := lw_g (lw_at lw_m1 28 rfl) rfl
theorem q945 : (Jvm.Cond.static ({ cls := "java/lang/Integer", name := "bitCount", desc := "(I)I" } : Jvm.MethodName)) ∈ lw_all := lw_g (lw_at lw_m4 126 rfl) rfl
theorem q946 : (Jvm.Cond.code ({ cls := "java/lang/Integer", name := "bitCount", desc := "(I)I" } : Jvm.MethodName) prog_38_method_49_code (1 : Nat) (Option.some Jvm.ClassFile.FieldType.int)) ∈ lw_all := lw_g (lw_at lw_m4 127 rfl) rfl
theorem q947 : (Jvm.Cond.constant "java/lang/Integer" (265 : Nat) (1431655765 : Int32)) ∈ lw_all := lw_g (lw_at lw_m4 128 rfl) rfl
theorem q948 : (Jvm.Cond.constant "java/lang/Integer" (266 : Nat) (858993459 : Int32)) ∈ lw_all := lw_g (lw_at lw_m4 129 rfl) rfl
theorem q949 : (Jvm.Cond.constant "java/lang/Integer" (267 : Nat) (252645135 : Int32)) ∈ lw_all := lw_g (lw_at lw_m4 130 rfl) rfl
/-! PromiseRoofs$Held -/
def RX14 : String := "PromiseRoofs$Held"
abbrev cX14_init : ByteArray := prog_9_method_1_code
def yX14_init : MethodName := ⟨RX14, "<init>", "()V"⟩
theorem q128 : (Jvm.Cond.initialized "PromiseRoofs$Held") ∈ lw_all := lw_g (lw_at lw_m1 29 rfl) rfl
theorem q1076 : (Jvm.Cond.instanceMethod ({ cls := "PromiseRoofs$Held", name := "<init>", desc := "()V" } : Jvm.MethodName)) ∈ lw_all := lw_g (lw_at lw_m5 17 rfl) rfl
theorem q1077 : (Jvm.Cond.code ({ cls := "PromiseRoofs$Held", name := "<init>", desc := "()V" } : Jvm.MethodName) prog_9_method_1_code (1 : Nat) (Option.none : Option Jvm.ClassFile.FieldType)) ∈ lw_all := lw_g (lw_at lw_m5 18 rfl) rfl
theorem q1078 : (Jvm.Cond.methodLink "PromiseRoofs$Held" (1 : Nat) ({ cls := "java/lang/Object", name := "<init>", desc := "()V" } : Jvm.MethodName)) ∈ lw_all := lw_g (lw_at lw_m5 19 rfl) rfl
/-! PromiseRoofs$Storey -/
def RX15 : String := "PromiseRoofs$Storey"
def TX15 : u_T := fun k => match k with
  | 0 => ("PromiseRoofs$Storey", "number", "I", true)
  | _ => ("PromiseRoofs$Storey", "this$0", "LPromiseRoofs;", true)
def tyX15 : Nat → FieldType := fun k => match k with
  | 0 => .int
  | _ => .object "PromiseRoofs"
abbrev wsX150 : List Cond := u_ws RX15 TX15 2
theorem nmX15 : ∀ a, a < 2 → ∀ b, b < 2 → a ≠ b → (TX15 a).2.1 ≠ (TX15 b).2.1 := by decide +kernel
theorem tyX15_ok : ∀ k, k < 2 → parseFieldDescriptor (TX15 k).2.2.1 = some (tyX15 k) := by decide +kernel
abbrev cX15_init : ByteArray := prog_25_method_1_code
def yX15_init : MethodName := ⟨RX15, "<init>", "(LPromiseRoofs;I)V"⟩
abbrev cX15_swears : ByteArray := prog_25_method_5_code
def yX15_swears : MethodName := ⟨RX15, "swears", "(I)I"⟩
abbrev cX15_tells : ByteArray := prog_25_method_8_code
def yX15_tells : MethodName := ⟨RX15, "tells", "(I)I"⟩
abbrev cX15_builds : ByteArray := prog_25_method_6_code
def yX15_builds : MethodName := ⟨RX15, "builds", "(I)I"⟩
abbrev cX15_comesDown : ByteArray := prog_25_method_7_code
def yX15_comesDown : MethodName := ⟨RX15, "comesDown", "(I)I"⟩
abbrev cX15_isUnder : ByteArray := prog_25_method_4_code
def yX15_isUnder : MethodName := ⟨RX15, "isUnder", "(I)Z"⟩
abbrev cX15_kind : ByteArray := prog_25_method_3_code
def yX15_kind : MethodName := ⟨RX15, "kind", "()I"⟩
theorem q129 : (Jvm.Cond.initialized "PromiseRoofs$Storey") ∈ lw_all := lw_g (lw_at lw_m1 30 rfl) rfl
theorem q1073 : (Jvm.Cond.instanceMethod ({ cls := "PromiseRoofs$Storey", name := "<init>", desc := "(LPromiseRoofs;I)V" } : Jvm.MethodName)) ∈ lw_all := lw_g (lw_at lw_m5 14 rfl) rfl
theorem q1074 : (Jvm.Cond.code ({ cls := "PromiseRoofs$Storey", name := "<init>", desc := "(LPromiseRoofs;I)V" } : Jvm.MethodName) prog_25_method_1_code (3 : Nat) (Option.none : Option Jvm.ClassFile.FieldType)) ∈ lw_all := lw_g (lw_at lw_m5 15 rfl) rfl
theorem q1075 : (Jvm.Cond.methodLinkNest "PromiseRoofs$Storey" (9 : Nat) ({ cls := "PromiseRoofs$Held", name := "<init>", desc := "()V" } : Jvm.MethodName) "PromiseRoofs") ∈ lw_tbl := lw_at lw_m5 16 rfl
theorem q1080 : (Jvm.Cond.fieldLink "PromiseRoofs$Storey" (15 : Nat) "PromiseRoofs$Storey" "number" "I") ∈ lw_all := lw_g (lw_at lw_m5 21 rfl) rfl
theorem q1081 : (Jvm.Cond.fieldLink "PromiseRoofs$Storey" (3 : Nat) "PromiseRoofs$Storey" "this$0" "LPromiseRoofs;") ∈ lw_all := lw_g (lw_at lw_m5 22 rfl) rfl
theorem q1085 : (Jvm.Cond.soleField "PromiseRoofs$Storey" "number") ∈ lw_all := lw_g (lw_at lw_m5 26 rfl) rfl
theorem q1087 : (Jvm.Cond.soleField "PromiseRoofs$Storey" "this$0") ∈ lw_all := lw_g (lw_at lw_m5 28 rfl) rfl
theorem q1167 : (Jvm.Cond.instantiable "PromiseRoofs$Storey" (2 : Nat)) ∈ lw_all := lw_g (lw_at lw_m5 108 rfl) rfl
theorem q1169 : (Jvm.Cond.laysFinal "PromiseRoofs$Storey" "PromiseRoofs$Storey" "number" "I") ∈ lw_all := lw_g (lw_at lw_m5 110 rfl) rfl
theorem q1170 : (Jvm.Cond.laysFinal "PromiseRoofs$Storey" "PromiseRoofs$Storey" "this$0" "LPromiseRoofs;") ∈ lw_all := lw_g (lw_at lw_m5 111 rfl) rfl
theorem q1171 : (Jvm.Cond.superclass "PromiseRoofs$Storey" "PromiseRoofs$Held") ∈ lw_all := lw_g (lw_at lw_m5 112 rfl) rfl
theorem q1195 : (Jvm.Cond.instanceMethod ({ cls := "PromiseRoofs$Storey", name := "swears", desc := "(I)I" } : Jvm.MethodName)) ∈ lw_all := lw_g (lw_at lw_m5 136 rfl) rfl
theorem q1196 : (Jvm.Cond.code ({ cls := "PromiseRoofs$Storey", name := "swears", desc := "(I)I" } : Jvm.MethodName) prog_25_method_5_code (2 : Nat) (Option.some Jvm.ClassFile.FieldType.int)) ∈ lw_all := lw_g (lw_at lw_m5 137 rfl) rfl
theorem q1197 : (Jvm.Cond.methodLinkNest "PromiseRoofs$Storey" (23 : Nat) ({ cls := "PromiseRoofs", name := "ran", desc := "(I)V" } : Jvm.MethodName) "PromiseRoofs") ∈ lw_tbl := lw_at lw_m5 138 rfl
theorem q1201 : (Jvm.Cond.publicMethod ({ cls := "PromiseRoofs$Storey", name := "swears", desc := "(I)I" } : Jvm.MethodName)) ∈ lw_tbl := lw_at lw_m5 142 rfl
theorem q1216 : (Jvm.Cond.castable "PromiseRoofs$Storey" "PromiseRoofs$Swears") ∈ lw_tbl := lw_at lw_m5 157 rfl
theorem q1217 : (Jvm.Cond.selects "PromiseRoofs$Storey" ({ cls := "PromiseRoofs$Swears", name := "swears", desc := "(I)I" } : Jvm.MethodName) ({ cls := "PromiseRoofs$Storey", name := "swears", desc := "(I)I" } : Jvm.MethodName)) ∈ lw_all := lw_g (lw_at lw_m5 158 rfl) rfl
theorem q1218 : (Jvm.Cond.unhidden "PromiseRoofs$Storey" "swears" "(I)I") ∈ lw_tbl := lw_at lw_m5 159 rfl
theorem q1232 : (Jvm.Cond.instanceMethod ({ cls := "PromiseRoofs$Storey", name := "tells", desc := "(I)I" } : Jvm.MethodName)) ∈ lw_all := lw_g (lw_at lw_m5 173 rfl) rfl
theorem q1233 : (Jvm.Cond.publicMethod ({ cls := "PromiseRoofs$Storey", name := "tells", desc := "(I)I" } : Jvm.MethodName)) ∈ lw_tbl := lw_at lw_m5 174 rfl
theorem q1234 : (Jvm.Cond.code ({ cls := "PromiseRoofs$Storey", name := "tells", desc := "(I)I" } : Jvm.MethodName) prog_25_method_8_code (3 : Nat) (Option.some Jvm.ClassFile.FieldType.int)) ∈ lw_all := lw_g (lw_at lw_m5 175 rfl) rfl
theorem q1235 : (Jvm.Cond.methodLink "PromiseRoofs$Storey" (31 : Nat) ({ cls := "PromiseRoofs$Storey", name := "builds", desc := "(I)I" } : Jvm.MethodName)) ∈ lw_all := lw_g (lw_at lw_m5 176 rfl) rfl
theorem q1236 : (Jvm.Cond.instanceMethod ({ cls := "PromiseRoofs$Storey", name := "builds", desc := "(I)I" } : Jvm.MethodName)) ∈ lw_all := lw_g (lw_at lw_m5 177 rfl) rfl
theorem q1237 : (Jvm.Cond.selects "PromiseRoofs$Storey" ({ cls := "PromiseRoofs$Storey", name := "builds", desc := "(I)I" } : Jvm.MethodName) ({ cls := "PromiseRoofs$Storey", name := "builds", desc := "(I)I" } : Jvm.MethodName)) ∈ lw_all := lw_g (lw_at lw_m5 178 rfl) rfl
theorem q1238 : (Jvm.Cond.sameMethod "PromiseRoofs$Storey" "PromiseRoofs$Storey" "builds" "(I)I") ∈ lw_all := lw_g (lw_at lw_m5 179 rfl) rfl
theorem q1245 : (Jvm.Cond.code ({ cls := "PromiseRoofs$Storey", name := "builds", desc := "(I)I" } : Jvm.MethodName) prog_25_method_6_code (2 : Nat) (Option.some Jvm.ClassFile.FieldType.int)) ∈ lw_all := lw_g (lw_at lw_m5 186 rfl) rfl
theorem q1246 : (Jvm.Cond.methodLink "PromiseRoofs$Storey" (27 : Nat) ({ cls := "PromiseRoofs$Storey", name := "swears", desc := "(I)I" } : Jvm.MethodName)) ∈ lw_all := lw_g (lw_at lw_m5 187 rfl) rfl
theorem q1254 : (Jvm.Cond.declares ({ cls := "PromiseRoofs$Storey", name := "builds", desc := "(I)I" } : Jvm.MethodName)) ∈ lw_tbl := lw_at lw_m5 195 rfl
theorem q1264 : (Jvm.Cond.declares ({ cls := "PromiseRoofs$Storey", name := "comesDown", desc := "(I)I" } : Jvm.MethodName)) ∈ lw_tbl := lw_at lw_m5 205 rfl
theorem q1265 : (Jvm.Cond.instanceMethod ({ cls := "PromiseRoofs$Storey", name := "comesDown", desc := "(I)I" } : Jvm.MethodName)) ∈ lw_all := lw_g (lw_at lw_m5 206 rfl) rfl
theorem q1266 : (Jvm.Cond.code ({ cls := "PromiseRoofs$Storey", name := "comesDown", desc := "(I)I" } : Jvm.MethodName) prog_25_method_7_code (2 : Nat) (Option.some Jvm.ClassFile.FieldType.int)) ∈ lw_all := lw_g (lw_at lw_m5 207 rfl) rfl
theorem q1279 : (Jvm.Cond.methodLink "PromiseRoofs$Storey" (34 : Nat) ({ cls := "PromiseRoofs$Storey", name := "comesDown", desc := "(I)I" } : Jvm.MethodName)) ∈ lw_all := lw_g (lw_at lw_m5 220 rfl) rfl
theorem q1298 : (Jvm.Cond.declares ({ cls := "PromiseRoofs$Storey", name := "tells", desc := "(I)I" } : Jvm.MethodName)) ∈ lw_tbl := lw_at lw_m5 239 rfl
theorem q1308 : (Jvm.Cond.castable "PromiseRoofs$Storey" "PromiseRoofs$Tells") ∈ lw_tbl := lw_at lw_m6 9 rfl
theorem q1309 : (Jvm.Cond.selects "PromiseRoofs$Storey" ({ cls := "PromiseRoofs$Tells", name := "tells", desc := "(I)I" } : Jvm.MethodName) ({ cls := "PromiseRoofs$Storey", name := "tells", desc := "(I)I" } : Jvm.MethodName)) ∈ lw_all := lw_g (lw_at lw_m6 10 rfl) rfl
theorem q1310 : (Jvm.Cond.unhidden "PromiseRoofs$Storey" "tells" "(I)I") ∈ lw_tbl := lw_at lw_m6 11 rfl
theorem q1486 : (Jvm.Cond.instanceMethod ({ cls := "PromiseRoofs$Storey", name := "isUnder", desc := "(I)Z" } : Jvm.MethodName)) ∈ lw_all := lw_g (lw_at lw_m6 187 rfl) rfl
theorem q1487 : (Jvm.Cond.selects "PromiseRoofs$Storey" ({ cls := "PromiseRoofs$Storey", name := "isUnder", desc := "(I)Z" } : Jvm.MethodName) ({ cls := "PromiseRoofs$Storey", name := "isUnder", desc := "(I)Z" } : Jvm.MethodName)) ∈ lw_all := lw_g (lw_at lw_m6 188 rfl) rfl
theorem q1488 : (Jvm.Cond.sameMethod "PromiseRoofs$Storey" "PromiseRoofs$Storey" "isUnder" "(I)Z") ∈ lw_all := lw_g (lw_at lw_m6 189 rfl) rfl
theorem q1493 : (Jvm.Cond.code ({ cls := "PromiseRoofs$Storey", name := "isUnder", desc := "(I)Z" } : Jvm.MethodName) prog_25_method_4_code (2 : Nat) (Option.some Jvm.ClassFile.FieldType.boolean)) ∈ lw_all := lw_g (lw_at lw_m6 194 rfl) rfl
theorem q1494 : (Jvm.Cond.methodLink "PromiseRoofs$Storey" (19 : Nat) ({ cls := "PromiseRoofs$Storey", name := "kind", desc := "()I" } : Jvm.MethodName)) ∈ lw_all := lw_g (lw_at lw_m6 195 rfl) rfl
theorem q1495 : (Jvm.Cond.instanceMethod ({ cls := "PromiseRoofs$Storey", name := "kind", desc := "()I" } : Jvm.MethodName)) ∈ lw_all := lw_g (lw_at lw_m6 196 rfl) rfl
theorem q1496 : (Jvm.Cond.selects "PromiseRoofs$Storey" ({ cls := "PromiseRoofs$Storey", name := "kind", desc := "()I" } : Jvm.MethodName) ({ cls := "PromiseRoofs$Storey", name := "kind", desc := "()I" } : Jvm.MethodName)) ∈ lw_all := lw_g (lw_at lw_m6 197 rfl) rfl
theorem q1497 : (Jvm.Cond.sameMethod "PromiseRoofs$Storey" "PromiseRoofs$Storey" "kind" "()I") ∈ lw_all := lw_g (lw_at lw_m6 198 rfl) rfl
theorem q1519 : (Jvm.Cond.code ({ cls := "PromiseRoofs$Storey", name := "kind", desc := "()I" } : Jvm.MethodName) prog_25_method_3_code (1 : Nat) (Option.some Jvm.ClassFile.FieldType.int)) ∈ lw_all := lw_g (lw_at lw_m6 220 rfl) rfl
theorem q2048 : (Jvm.Cond.sameMethod "PromiseRoofs$Storey" "PromiseRoofs$Storey" "swears" "(I)I") ∈ lw_all := lw_g (lw_at lw_m9 29 rfl) rfl
theorem q2054 : (Jvm.Cond.selects "PromiseRoofs$Storey" ({ cls := "PromiseRoofs$Storey", name := "swears", desc := "(I)I" } : Jvm.MethodName) ({ cls := "PromiseRoofs$Storey", name := "swears", desc := "(I)I" } : Jvm.MethodName)) ∈ lw_all := lw_g (lw_at lw_m9 35 rfl) rfl
theorem q2058 : (Jvm.Cond.sameMethod "PromiseRoofs$Storey" "PromiseRoofs$Storey" "comesDown" "(I)I") ∈ lw_all := lw_g (lw_at lw_m9 39 rfl) rfl
theorem q2064 : (Jvm.Cond.selects "PromiseRoofs$Storey" ({ cls := "PromiseRoofs$Storey", name := "comesDown", desc := "(I)I" } : Jvm.MethodName) ({ cls := "PromiseRoofs$Storey", name := "comesDown", desc := "(I)I" } : Jvm.MethodName)) ∈ lw_all := lw_g (lw_at lw_m9 45 rfl) rfl
theorem q2089 : (Jvm.Cond.castable "PromiseRoofs$Storey" "PromiseRoofs$Held") ∈ lw_tbl := lw_at lw_m9 70 rfl
theorem in_X15 : ∀ w ∈ wsX150, w ∈ lw_all := lw_in wsX150 [1169, 1170] (by decide +kernel) (by decide +kernel)
/-! PromiseRoofs$Attic -/
def RX16 : String := "PromiseRoofs$Attic"
def TX16 : u_T := fun k => match k with
  | 0 => ("PromiseRoofs$Storey", "number", "I", true)
  | 1 => ("PromiseRoofs$Storey", "this$0", "LPromiseRoofs;", true)
  | _ => ("PromiseRoofs$Attic", "this$0", "LPromiseRoofs;", true)
def tyX16 : Nat → FieldType := fun k => match k with
  | 0 => .int
  | 1 => .object "PromiseRoofs"
  | _ => .object "PromiseRoofs"
abbrev wsX160 : List Cond := u_ws RX16 TX16 3
-- two fields of one name: no nmX16
theorem tyX16_ok : ∀ k, k < 3 → parseFieldDescriptor (TX16 k).2.2.1 = some (tyX16 k) := by decide +kernel
abbrev cX16_init : ByteArray := prog_2_method_1_code
def yX16_init : MethodName := ⟨RX16, "<init>", "(LPromiseRoofs;I)V"⟩
abbrev cX16_swears : ByteArray := prog_2_method_4_code
def yX16_swears : MethodName := ⟨RX16, "swears", "(I)I"⟩
abbrev cX16_isUnder : ByteArray := prog_2_method_3_code
def yX16_isUnder : MethodName := ⟨RX16, "isUnder", "(I)Z"⟩
abbrev cX16_kind : ByteArray := prog_2_method_2_code
def yX16_kind : MethodName := ⟨RX16, "kind", "()I"⟩
theorem q130 : (Jvm.Cond.initialized "PromiseRoofs$Attic") ∈ lw_all := lw_g (lw_at lw_m1 31 rfl) rfl
theorem q1068 : (Jvm.Cond.instantiable "PromiseRoofs$Attic" (3 : Nat)) ∈ lw_all := lw_g (lw_at lw_m5 9 rfl) rfl
theorem q1070 : (Jvm.Cond.instanceMethod ({ cls := "PromiseRoofs$Attic", name := "<init>", desc := "(LPromiseRoofs;I)V" } : Jvm.MethodName)) ∈ lw_all := lw_g (lw_at lw_m5 11 rfl) rfl
theorem q1071 : (Jvm.Cond.code ({ cls := "PromiseRoofs$Attic", name := "<init>", desc := "(LPromiseRoofs;I)V" } : Jvm.MethodName) prog_2_method_1_code (3 : Nat) (Option.none : Option Jvm.ClassFile.FieldType)) ∈ lw_all := lw_g (lw_at lw_m5 12 rfl) rfl
theorem q1072 : (Jvm.Cond.methodLink "PromiseRoofs$Attic" (7 : Nat) ({ cls := "PromiseRoofs$Storey", name := "<init>", desc := "(LPromiseRoofs;I)V" } : Jvm.MethodName)) ∈ lw_all := lw_g (lw_at lw_m5 13 rfl) rfl
theorem q1079 : (Jvm.Cond.fieldLink "PromiseRoofs$Attic" (1 : Nat) "PromiseRoofs$Attic" "this$0" "LPromiseRoofs;") ∈ lw_all := lw_g (lw_at lw_m5 20 rfl) rfl
theorem q1082 : (Jvm.Cond.laysFinal "PromiseRoofs$Attic" "PromiseRoofs$Attic" "this$0" "LPromiseRoofs;") ∈ lw_all := lw_g (lw_at lw_m5 23 rfl) rfl
theorem q1083 : (Jvm.Cond.soleField "PromiseRoofs$Attic" "this$0") ∈ lw_all := lw_g (lw_at lw_m5 24 rfl) rfl
theorem q1084 : (Jvm.Cond.laysFinal "PromiseRoofs$Attic" "PromiseRoofs$Storey" "number" "I") ∈ lw_all := lw_g (lw_at lw_m5 25 rfl) rfl
theorem q1086 : (Jvm.Cond.laysFinal "PromiseRoofs$Attic" "PromiseRoofs$Storey" "this$0" "LPromiseRoofs;") ∈ lw_all := lw_g (lw_at lw_m5 27 rfl) rfl
theorem q1088 : (Jvm.Cond.superclass "PromiseRoofs$Attic" "PromiseRoofs$Storey") ∈ lw_all := lw_g (lw_at lw_m5 29 rfl) rfl
theorem q1184 : (Jvm.Cond.castable "PromiseRoofs$Attic" "PromiseRoofs$Swears") ∈ lw_tbl := lw_at lw_m5 125 rfl
theorem q1185 : (Jvm.Cond.selects "PromiseRoofs$Attic" ({ cls := "PromiseRoofs$Swears", name := "swears", desc := "(I)I" } : Jvm.MethodName) ({ cls := "PromiseRoofs$Attic", name := "swears", desc := "(I)I" } : Jvm.MethodName)) ∈ lw_all := lw_g (lw_at lw_m5 126 rfl) rfl
theorem q1186 : (Jvm.Cond.unhidden "PromiseRoofs$Attic" "swears" "(I)I") ∈ lw_tbl := lw_at lw_m5 127 rfl
theorem q1187 : (Jvm.Cond.instanceMethod ({ cls := "PromiseRoofs$Attic", name := "swears", desc := "(I)I" } : Jvm.MethodName)) ∈ lw_all := lw_g (lw_at lw_m5 128 rfl) rfl
theorem q1188 : (Jvm.Cond.publicMethod ({ cls := "PromiseRoofs$Attic", name := "swears", desc := "(I)I" } : Jvm.MethodName)) ∈ lw_tbl := lw_at lw_m5 129 rfl
theorem q1189 : (Jvm.Cond.code ({ cls := "PromiseRoofs$Attic", name := "swears", desc := "(I)I" } : Jvm.MethodName) prog_2_method_4_code (2 : Nat) (Option.some Jvm.ClassFile.FieldType.int)) ∈ lw_all := lw_g (lw_at lw_m5 130 rfl) rfl
theorem q1190 : (Jvm.Cond.methodLinkNest "PromiseRoofs$Attic" (17 : Nat) ({ cls := "PromiseRoofs", name := "ran", desc := "(I)V" } : Jvm.MethodName) "PromiseRoofs") ∈ lw_tbl := lw_at lw_m5 131 rfl
theorem q1194 : (Jvm.Cond.methodLink "PromiseRoofs$Attic" (23 : Nat) ({ cls := "PromiseRoofs$Storey", name := "swears", desc := "(I)I" } : Jvm.MethodName)) ∈ lw_all := lw_g (lw_at lw_m5 135 rfl) rfl
theorem q1229 : (Jvm.Cond.castable "PromiseRoofs$Attic" "PromiseRoofs$Tells") ∈ lw_tbl := lw_at lw_m5 170 rfl
theorem q1230 : (Jvm.Cond.selects "PromiseRoofs$Attic" ({ cls := "PromiseRoofs$Tells", name := "tells", desc := "(I)I" } : Jvm.MethodName) ({ cls := "PromiseRoofs$Storey", name := "tells", desc := "(I)I" } : Jvm.MethodName)) ∈ lw_all := lw_g (lw_at lw_m5 171 rfl) rfl
theorem q1231 : (Jvm.Cond.unhidden "PromiseRoofs$Attic" "tells" "(I)I") ∈ lw_tbl := lw_at lw_m5 172 rfl
theorem q1239 : (Jvm.Cond.selects "PromiseRoofs$Attic" ({ cls := "PromiseRoofs$Storey", name := "builds", desc := "(I)I" } : Jvm.MethodName) ({ cls := "PromiseRoofs$Storey", name := "builds", desc := "(I)I" } : Jvm.MethodName)) ∈ lw_all := lw_g (lw_at lw_m5 180 rfl) rfl
theorem q1263 : (Jvm.Cond.sameMethod "PromiseRoofs$Attic" "PromiseRoofs$Storey" "comesDown" "(I)I") ∈ lw_all := lw_g (lw_at lw_m5 204 rfl) rfl
theorem q1269 : (Jvm.Cond.declares ({ cls := "PromiseRoofs$Attic", name := "swears", desc := "(I)I" } : Jvm.MethodName)) ∈ lw_tbl := lw_at lw_m5 210 rfl
theorem q1489 : (Jvm.Cond.selects "PromiseRoofs$Attic" ({ cls := "PromiseRoofs$Storey", name := "isUnder", desc := "(I)Z" } : Jvm.MethodName) ({ cls := "PromiseRoofs$Attic", name := "isUnder", desc := "(I)Z" } : Jvm.MethodName)) ∈ lw_all := lw_g (lw_at lw_m6 190 rfl) rfl
theorem q1490 : (Jvm.Cond.instanceMethod ({ cls := "PromiseRoofs$Attic", name := "isUnder", desc := "(I)Z" } : Jvm.MethodName)) ∈ lw_all := lw_g (lw_at lw_m6 191 rfl) rfl
theorem q1491 : (Jvm.Cond.code ({ cls := "PromiseRoofs$Attic", name := "isUnder", desc := "(I)Z" } : Jvm.MethodName) prog_2_method_3_code (2 : Nat) (Option.some Jvm.ClassFile.FieldType.boolean)) ∈ lw_all := lw_g (lw_at lw_m6 192 rfl) rfl
theorem q1492 : (Jvm.Cond.methodLink "PromiseRoofs$Attic" (13 : Nat) ({ cls := "PromiseRoofs$Storey", name := "isUnder", desc := "(I)Z" } : Jvm.MethodName)) ∈ lw_all := lw_g (lw_at lw_m6 193 rfl) rfl
theorem q1498 : (Jvm.Cond.selects "PromiseRoofs$Attic" ({ cls := "PromiseRoofs$Storey", name := "kind", desc := "()I" } : Jvm.MethodName) ({ cls := "PromiseRoofs$Attic", name := "kind", desc := "()I" } : Jvm.MethodName)) ∈ lw_all := lw_g (lw_at lw_m6 199 rfl) rfl
theorem q1499 : (Jvm.Cond.instanceMethod ({ cls := "PromiseRoofs$Attic", name := "kind", desc := "()I" } : Jvm.MethodName)) ∈ lw_all := lw_g (lw_at lw_m6 200 rfl) rfl
theorem q1500 : (Jvm.Cond.code ({ cls := "PromiseRoofs$Attic", name := "kind", desc := "()I" } : Jvm.MethodName) prog_2_method_2_code (1 : Nat) (Option.some Jvm.ClassFile.FieldType.int)) ∈ lw_all := lw_g (lw_at lw_m6 201 rfl) rfl
theorem q2049 : (Jvm.Cond.selects "PromiseRoofs$Attic" ({ cls := "PromiseRoofs$Storey", name := "swears", desc := "(I)I" } : Jvm.MethodName) ({ cls := "PromiseRoofs$Attic", name := "swears", desc := "(I)I" } : Jvm.MethodName)) ∈ lw_all := lw_g (lw_at lw_m9 30 rfl) rfl
theorem q2059 : (Jvm.Cond.selects "PromiseRoofs$Attic" ({ cls := "PromiseRoofs$Storey", name := "comesDown", desc := "(I)I" } : Jvm.MethodName) ({ cls := "PromiseRoofs$Storey", name := "comesDown", desc := "(I)I" } : Jvm.MethodName)) ∈ lw_all := lw_g (lw_at lw_m9 40 rfl) rfl
theorem q2067 : (Jvm.Cond.sameMethod "PromiseRoofs$Attic" "PromiseRoofs$Attic" "isUnder" "(I)Z") ∈ lw_all := lw_g (lw_at lw_m9 48 rfl) rfl
theorem q2075 : (Jvm.Cond.castable "PromiseRoofs$Attic" "PromiseRoofs$Storey") ∈ lw_tbl := lw_at lw_m9 56 rfl
theorem q2082 : (Jvm.Cond.castable "PromiseRoofs$Attic" "PromiseRoofs$Held") ∈ lw_tbl := lw_at lw_m9 63 rfl
theorem in_X16 : ∀ w ∈ wsX160, w ∈ lw_all := lw_in wsX160 [1084, 1086, 1082] (by decide +kernel) (by decide +kernel)
/-! PromiseRoofs$Cellar -/
def RX17 : String := "PromiseRoofs$Cellar"
def TX17 : u_T := fun k => match k with
  | 0 => ("PromiseRoofs$Storey", "number", "I", true)
  | 1 => ("PromiseRoofs$Storey", "this$0", "LPromiseRoofs;", true)
  | _ => ("PromiseRoofs$Cellar", "this$0", "LPromiseRoofs;", true)
def tyX17 : Nat → FieldType := fun k => match k with
  | 0 => .int
  | 1 => .object "PromiseRoofs"
  | _ => .object "PromiseRoofs"
abbrev wsX170 : List Cond := u_ws RX17 TX17 3
-- two fields of one name: no nmX17
theorem tyX17_ok : ∀ k, k < 3 → parseFieldDescriptor (TX17 k).2.2.1 = some (tyX17 k) := by decide +kernel
abbrev cX17_init : ByteArray := prog_5_method_1_code
def yX17_init : MethodName := ⟨RX17, "<init>", "(LPromiseRoofs;I)V"⟩
abbrev cX17_builds : ByteArray := prog_5_method_4_code
def yX17_builds : MethodName := ⟨RX17, "builds", "(I)I"⟩
abbrev cX17_kind : ByteArray := prog_5_method_2_code
def yX17_kind : MethodName := ⟨RX17, "kind", "()I"⟩
abbrev cX17_isUnder : ByteArray := prog_5_method_3_code
def yX17_isUnder : MethodName := ⟨RX17, "isUnder", "(I)Z"⟩
theorem q131 : (Jvm.Cond.initialized "PromiseRoofs$Cellar") ∈ lw_all := lw_g (lw_at lw_m1 32 rfl) rfl
theorem q1090 : (Jvm.Cond.instantiable "PromiseRoofs$Cellar" (3 : Nat)) ∈ lw_all := lw_g (lw_at lw_m5 31 rfl) rfl
theorem q1092 : (Jvm.Cond.instanceMethod ({ cls := "PromiseRoofs$Cellar", name := "<init>", desc := "(LPromiseRoofs;I)V" } : Jvm.MethodName)) ∈ lw_all := lw_g (lw_at lw_m5 33 rfl) rfl
theorem q1093 : (Jvm.Cond.code ({ cls := "PromiseRoofs$Cellar", name := "<init>", desc := "(LPromiseRoofs;I)V" } : Jvm.MethodName) prog_5_method_1_code (3 : Nat) (Option.none : Option Jvm.ClassFile.FieldType)) ∈ lw_all := lw_g (lw_at lw_m5 34 rfl) rfl
theorem q1094 : (Jvm.Cond.methodLink "PromiseRoofs$Cellar" (7 : Nat) ({ cls := "PromiseRoofs$Storey", name := "<init>", desc := "(LPromiseRoofs;I)V" } : Jvm.MethodName)) ∈ lw_all := lw_g (lw_at lw_m5 35 rfl) rfl
theorem q1095 : (Jvm.Cond.fieldLink "PromiseRoofs$Cellar" (1 : Nat) "PromiseRoofs$Cellar" "this$0" "LPromiseRoofs;") ∈ lw_all := lw_g (lw_at lw_m5 36 rfl) rfl
theorem q1096 : (Jvm.Cond.laysFinal "PromiseRoofs$Cellar" "PromiseRoofs$Cellar" "this$0" "LPromiseRoofs;") ∈ lw_all := lw_g (lw_at lw_m5 37 rfl) rfl
theorem q1097 : (Jvm.Cond.soleField "PromiseRoofs$Cellar" "this$0") ∈ lw_all := lw_g (lw_at lw_m5 38 rfl) rfl
theorem q1098 : (Jvm.Cond.laysFinal "PromiseRoofs$Cellar" "PromiseRoofs$Storey" "number" "I") ∈ lw_all := lw_g (lw_at lw_m5 39 rfl) rfl
theorem q1099 : (Jvm.Cond.laysFinal "PromiseRoofs$Cellar" "PromiseRoofs$Storey" "this$0" "LPromiseRoofs;") ∈ lw_all := lw_g (lw_at lw_m5 40 rfl) rfl
theorem q1100 : (Jvm.Cond.superclass "PromiseRoofs$Cellar" "PromiseRoofs$Storey") ∈ lw_all := lw_g (lw_at lw_m5 41 rfl) rfl
theorem q1198 : (Jvm.Cond.castable "PromiseRoofs$Cellar" "PromiseRoofs$Swears") ∈ lw_tbl := lw_at lw_m5 139 rfl
theorem q1199 : (Jvm.Cond.selects "PromiseRoofs$Cellar" ({ cls := "PromiseRoofs$Swears", name := "swears", desc := "(I)I" } : Jvm.MethodName) ({ cls := "PromiseRoofs$Storey", name := "swears", desc := "(I)I" } : Jvm.MethodName)) ∈ lw_all := lw_g (lw_at lw_m5 140 rfl) rfl
theorem q1200 : (Jvm.Cond.unhidden "PromiseRoofs$Cellar" "swears" "(I)I") ∈ lw_tbl := lw_at lw_m5 141 rfl
theorem q1240 : (Jvm.Cond.selects "PromiseRoofs$Cellar" ({ cls := "PromiseRoofs$Storey", name := "builds", desc := "(I)I" } : Jvm.MethodName) ({ cls := "PromiseRoofs$Cellar", name := "builds", desc := "(I)I" } : Jvm.MethodName)) ∈ lw_all := lw_g (lw_at lw_m5 181 rfl) rfl
theorem q1241 : (Jvm.Cond.instanceMethod ({ cls := "PromiseRoofs$Cellar", name := "builds", desc := "(I)I" } : Jvm.MethodName)) ∈ lw_all := lw_g (lw_at lw_m5 182 rfl) rfl
theorem q1242 : (Jvm.Cond.code ({ cls := "PromiseRoofs$Cellar", name := "builds", desc := "(I)I" } : Jvm.MethodName) prog_5_method_4_code (2 : Nat) (Option.some Jvm.ClassFile.FieldType.int)) ∈ lw_all := lw_g (lw_at lw_m5 183 rfl) rfl
theorem q1243 : (Jvm.Cond.methodLinkNest "PromiseRoofs$Cellar" (17 : Nat) ({ cls := "PromiseRoofs", name := "ran", desc := "(I)V" } : Jvm.MethodName) "PromiseRoofs") ∈ lw_tbl := lw_at lw_m5 184 rfl
theorem q1244 : (Jvm.Cond.methodLink "PromiseRoofs$Cellar" (23 : Nat) ({ cls := "PromiseRoofs$Storey", name := "builds", desc := "(I)I" } : Jvm.MethodName)) ∈ lw_all := lw_g (lw_at lw_m5 185 rfl) rfl
theorem q1283 : (Jvm.Cond.sameMethod "PromiseRoofs$Cellar" "PromiseRoofs$Storey" "comesDown" "(I)I") ∈ lw_all := lw_g (lw_at lw_m5 224 rfl) rfl
theorem q1284 : (Jvm.Cond.castable "PromiseRoofs$Cellar" "PromiseRoofs$Tells") ∈ lw_tbl := lw_at lw_m5 225 rfl
theorem q1285 : (Jvm.Cond.selects "PromiseRoofs$Cellar" ({ cls := "PromiseRoofs$Tells", name := "tells", desc := "(I)I" } : Jvm.MethodName) ({ cls := "PromiseRoofs$Storey", name := "tells", desc := "(I)I" } : Jvm.MethodName)) ∈ lw_all := lw_g (lw_at lw_m5 226 rfl) rfl
theorem q1286 : (Jvm.Cond.unhidden "PromiseRoofs$Cellar" "tells" "(I)I") ∈ lw_tbl := lw_at lw_m5 227 rfl
theorem q1501 : (Jvm.Cond.selects "PromiseRoofs$Cellar" ({ cls := "PromiseRoofs$Storey", name := "kind", desc := "()I" } : Jvm.MethodName) ({ cls := "PromiseRoofs$Cellar", name := "kind", desc := "()I" } : Jvm.MethodName)) ∈ lw_all := lw_g (lw_at lw_m6 202 rfl) rfl
theorem q1502 : (Jvm.Cond.instanceMethod ({ cls := "PromiseRoofs$Cellar", name := "kind", desc := "()I" } : Jvm.MethodName)) ∈ lw_all := lw_g (lw_at lw_m6 203 rfl) rfl
theorem q1503 : (Jvm.Cond.code ({ cls := "PromiseRoofs$Cellar", name := "kind", desc := "()I" } : Jvm.MethodName) prog_5_method_2_code (1 : Nat) (Option.some Jvm.ClassFile.FieldType.int)) ∈ lw_all := lw_g (lw_at lw_m6 204 rfl) rfl
theorem q1520 : (Jvm.Cond.selects "PromiseRoofs$Cellar" ({ cls := "PromiseRoofs$Storey", name := "isUnder", desc := "(I)Z" } : Jvm.MethodName) ({ cls := "PromiseRoofs$Cellar", name := "isUnder", desc := "(I)Z" } : Jvm.MethodName)) ∈ lw_all := lw_g (lw_at lw_m6 221 rfl) rfl
theorem q1521 : (Jvm.Cond.instanceMethod ({ cls := "PromiseRoofs$Cellar", name := "isUnder", desc := "(I)Z" } : Jvm.MethodName)) ∈ lw_all := lw_g (lw_at lw_m6 222 rfl) rfl
theorem q1522 : (Jvm.Cond.code ({ cls := "PromiseRoofs$Cellar", name := "isUnder", desc := "(I)Z" } : Jvm.MethodName) prog_5_method_3_code (2 : Nat) (Option.some Jvm.ClassFile.FieldType.boolean)) ∈ lw_all := lw_g (lw_at lw_m6 223 rfl) rfl
theorem q1523 : (Jvm.Cond.methodLink "PromiseRoofs$Cellar" (13 : Nat) ({ cls := "PromiseRoofs$Storey", name := "isUnder", desc := "(I)Z" } : Jvm.MethodName)) ∈ lw_all := lw_g (lw_at lw_m6 224 rfl) rfl
theorem q2050 : (Jvm.Cond.selects "PromiseRoofs$Cellar" ({ cls := "PromiseRoofs$Storey", name := "swears", desc := "(I)I" } : Jvm.MethodName) ({ cls := "PromiseRoofs$Storey", name := "swears", desc := "(I)I" } : Jvm.MethodName)) ∈ lw_all := lw_g (lw_at lw_m9 31 rfl) rfl
theorem q2057 : (Jvm.Cond.sameMethod "PromiseRoofs$Cellar" "PromiseRoofs$Cellar" "builds" "(I)I") ∈ lw_all := lw_g (lw_at lw_m9 38 rfl) rfl
theorem q2060 : (Jvm.Cond.selects "PromiseRoofs$Cellar" ({ cls := "PromiseRoofs$Storey", name := "comesDown", desc := "(I)I" } : Jvm.MethodName) ({ cls := "PromiseRoofs$Storey", name := "comesDown", desc := "(I)I" } : Jvm.MethodName)) ∈ lw_all := lw_g (lw_at lw_m9 41 rfl) rfl
theorem q2068 : (Jvm.Cond.sameMethod "PromiseRoofs$Cellar" "PromiseRoofs$Cellar" "isUnder" "(I)Z") ∈ lw_all := lw_g (lw_at lw_m9 49 rfl) rfl
theorem q2076 : (Jvm.Cond.castable "PromiseRoofs$Cellar" "PromiseRoofs$Storey") ∈ lw_tbl := lw_at lw_m9 57 rfl
theorem q2083 : (Jvm.Cond.castable "PromiseRoofs$Cellar" "PromiseRoofs$Held") ∈ lw_tbl := lw_at lw_m9 64 rfl
theorem in_X17 : ∀ w ∈ wsX170, w ∈ lw_all := lw_in wsX170 [1098, 1099, 1096] (by decide +kernel) (by decide +kernel)
/-! PromiseRoofs$Tower -/
def RX18 : String := "PromiseRoofs$Tower"
def TX18 : u_T := fun k => match k with
  | 0 => ("PromiseRoofs$Storey", "number", "I", true)
  | 1 => ("PromiseRoofs$Storey", "this$0", "LPromiseRoofs;", true)
  | 2 => ("PromiseRoofs$Cellar", "this$0", "LPromiseRoofs;", true)
  | _ => ("PromiseRoofs$Tower", "this$0", "LPromiseRoofs;", true)
def tyX18 : Nat → FieldType := fun k => match k with
  | 0 => .int
  | 1 => .object "PromiseRoofs"
  | 2 => .object "PromiseRoofs"
  | _ => .object "PromiseRoofs"
abbrev wsX180 : List Cond := u_ws RX18 TX18 4
-- two fields of one name: no nmX18
theorem tyX18_ok : ∀ k, k < 4 → parseFieldDescriptor (TX18 k).2.2.1 = some (tyX18 k) := by decide +kernel
abbrev cX18_init : ByteArray := prog_28_method_1_code
def yX18_init : MethodName := ⟨RX18, "<init>", "(LPromiseRoofs;I)V"⟩
abbrev cX18_builds : ByteArray := prog_28_method_5_code
def yX18_builds : MethodName := ⟨RX18, "builds", "(I)I"⟩
abbrev cX18_comesDown : ByteArray := prog_28_method_4_code
def yX18_comesDown : MethodName := ⟨RX18, "comesDown", "(I)I"⟩
abbrev cX18_kind : ByteArray := prog_28_method_2_code
def yX18_kind : MethodName := ⟨RX18, "kind", "()I"⟩
abbrev cX18_isUnder : ByteArray := prog_28_method_3_code
def yX18_isUnder : MethodName := ⟨RX18, "isUnder", "(I)Z"⟩
theorem q132 : (Jvm.Cond.initialized "PromiseRoofs$Tower") ∈ lw_all := lw_g (lw_at lw_m1 33 rfl) rfl
theorem q1102 : (Jvm.Cond.instantiable "PromiseRoofs$Tower" (4 : Nat)) ∈ lw_all := lw_g (lw_at lw_m5 43 rfl) rfl
theorem q1104 : (Jvm.Cond.instanceMethod ({ cls := "PromiseRoofs$Tower", name := "<init>", desc := "(LPromiseRoofs;I)V" } : Jvm.MethodName)) ∈ lw_all := lw_g (lw_at lw_m5 45 rfl) rfl
theorem q1105 : (Jvm.Cond.code ({ cls := "PromiseRoofs$Tower", name := "<init>", desc := "(LPromiseRoofs;I)V" } : Jvm.MethodName) prog_28_method_1_code (3 : Nat) (Option.none : Option Jvm.ClassFile.FieldType)) ∈ lw_all := lw_g (lw_at lw_m5 46 rfl) rfl
theorem q1106 : (Jvm.Cond.methodLink "PromiseRoofs$Tower" (7 : Nat) ({ cls := "PromiseRoofs$Cellar", name := "<init>", desc := "(LPromiseRoofs;I)V" } : Jvm.MethodName)) ∈ lw_all := lw_g (lw_at lw_m5 47 rfl) rfl
theorem q1107 : (Jvm.Cond.fieldLink "PromiseRoofs$Tower" (1 : Nat) "PromiseRoofs$Tower" "this$0" "LPromiseRoofs;") ∈ lw_all := lw_g (lw_at lw_m5 48 rfl) rfl
theorem q1108 : (Jvm.Cond.laysFinal "PromiseRoofs$Tower" "PromiseRoofs$Tower" "this$0" "LPromiseRoofs;") ∈ lw_all := lw_g (lw_at lw_m5 49 rfl) rfl
theorem q1109 : (Jvm.Cond.soleField "PromiseRoofs$Tower" "this$0") ∈ lw_all := lw_g (lw_at lw_m5 50 rfl) rfl
theorem q1110 : (Jvm.Cond.laysFinal "PromiseRoofs$Tower" "PromiseRoofs$Cellar" "this$0" "LPromiseRoofs;") ∈ lw_all := lw_g (lw_at lw_m5 51 rfl) rfl
theorem q1111 : (Jvm.Cond.laysFinal "PromiseRoofs$Tower" "PromiseRoofs$Storey" "number" "I") ∈ lw_all := lw_g (lw_at lw_m5 52 rfl) rfl
theorem q1112 : (Jvm.Cond.laysFinal "PromiseRoofs$Tower" "PromiseRoofs$Storey" "this$0" "LPromiseRoofs;") ∈ lw_all := lw_g (lw_at lw_m5 53 rfl) rfl
theorem q1113 : (Jvm.Cond.superclass "PromiseRoofs$Tower" "PromiseRoofs$Cellar") ∈ lw_all := lw_g (lw_at lw_m5 54 rfl) rfl
theorem q1219 : (Jvm.Cond.castable "PromiseRoofs$Tower" "PromiseRoofs$Swears") ∈ lw_tbl := lw_at lw_m5 160 rfl
theorem q1220 : (Jvm.Cond.selects "PromiseRoofs$Tower" ({ cls := "PromiseRoofs$Swears", name := "swears", desc := "(I)I" } : Jvm.MethodName) ({ cls := "PromiseRoofs$Storey", name := "swears", desc := "(I)I" } : Jvm.MethodName)) ∈ lw_all := lw_g (lw_at lw_m5 161 rfl) rfl
theorem q1221 : (Jvm.Cond.unhidden "PromiseRoofs$Tower" "swears" "(I)I") ∈ lw_tbl := lw_at lw_m5 162 rfl
theorem q1273 : (Jvm.Cond.instanceMethod ({ cls := "PromiseRoofs$Tower", name := "builds", desc := "(I)I" } : Jvm.MethodName)) ∈ lw_all := lw_g (lw_at lw_m5 214 rfl) rfl
theorem q1274 : (Jvm.Cond.code ({ cls := "PromiseRoofs$Tower", name := "builds", desc := "(I)I" } : Jvm.MethodName) prog_28_method_5_code (2 : Nat) (Option.some Jvm.ClassFile.FieldType.int)) ∈ lw_all := lw_g (lw_at lw_m5 215 rfl) rfl
theorem q1275 : (Jvm.Cond.methodLinkNest "PromiseRoofs$Tower" (17 : Nat) ({ cls := "PromiseRoofs", name := "ran", desc := "(I)V" } : Jvm.MethodName) "PromiseRoofs") ∈ lw_tbl := lw_at lw_m5 216 rfl
theorem q1276 : (Jvm.Cond.methodLink "PromiseRoofs$Tower" (27 : Nat) ({ cls := "PromiseRoofs$Cellar", name := "builds", desc := "(I)I" } : Jvm.MethodName)) ∈ lw_all := lw_g (lw_at lw_m5 217 rfl) rfl
theorem q1277 : (Jvm.Cond.selects "PromiseRoofs$Tower" ({ cls := "PromiseRoofs$Storey", name := "builds", desc := "(I)I" } : Jvm.MethodName) ({ cls := "PromiseRoofs$Tower", name := "builds", desc := "(I)I" } : Jvm.MethodName)) ∈ lw_all := lw_g (lw_at lw_m5 218 rfl) rfl
theorem q1280 : (Jvm.Cond.instanceMethod ({ cls := "PromiseRoofs$Tower", name := "comesDown", desc := "(I)I" } : Jvm.MethodName)) ∈ lw_all := lw_g (lw_at lw_m5 221 rfl) rfl
theorem q1281 : (Jvm.Cond.code ({ cls := "PromiseRoofs$Tower", name := "comesDown", desc := "(I)I" } : Jvm.MethodName) prog_28_method_4_code (2 : Nat) (Option.some Jvm.ClassFile.FieldType.int)) ∈ lw_all := lw_g (lw_at lw_m5 222 rfl) rfl
theorem q1282 : (Jvm.Cond.methodLink "PromiseRoofs$Tower" (23 : Nat) ({ cls := "PromiseRoofs$Cellar", name := "comesDown", desc := "(I)I" } : Jvm.MethodName)) ∈ lw_all := lw_g (lw_at lw_m5 223 rfl) rfl
theorem q1307 : (Jvm.Cond.sameMethod "PromiseRoofs$Tower" "PromiseRoofs$Storey" "tells" "(I)I") ∈ lw_all := lw_g (lw_at lw_m6 8 rfl) rfl
theorem q1311 : (Jvm.Cond.castable "PromiseRoofs$Tower" "PromiseRoofs$Tells") ∈ lw_tbl := lw_at lw_m6 12 rfl
theorem q1312 : (Jvm.Cond.selects "PromiseRoofs$Tower" ({ cls := "PromiseRoofs$Tells", name := "tells", desc := "(I)I" } : Jvm.MethodName) ({ cls := "PromiseRoofs$Storey", name := "tells", desc := "(I)I" } : Jvm.MethodName)) ∈ lw_all := lw_g (lw_at lw_m6 13 rfl) rfl
theorem q1313 : (Jvm.Cond.unhidden "PromiseRoofs$Tower" "tells" "(I)I") ∈ lw_tbl := lw_at lw_m6 14 rfl
theorem q1513 : (Jvm.Cond.selects "PromiseRoofs$Tower" ({ cls := "PromiseRoofs$Storey", name := "kind", desc := "()I" } : Jvm.MethodName) ({ cls := "PromiseRoofs$Tower", name := "kind", desc := "()I" } : Jvm.MethodName)) ∈ lw_all := lw_g (lw_at lw_m6 214 rfl) rfl
theorem q1514 : (Jvm.Cond.instanceMethod ({ cls := "PromiseRoofs$Tower", name := "kind", desc := "()I" } : Jvm.MethodName)) ∈ lw_all := lw_g (lw_at lw_m6 215 rfl) rfl
theorem q1515 : (Jvm.Cond.code ({ cls := "PromiseRoofs$Tower", name := "kind", desc := "()I" } : Jvm.MethodName) prog_28_method_2_code (1 : Nat) (Option.some Jvm.ClassFile.FieldType.int)) ∈ lw_all := lw_g (lw_at lw_m6 216 rfl) rfl
theorem q1530 : (Jvm.Cond.instanceMethod ({ cls := "PromiseRoofs$Tower", name := "isUnder", desc := "(I)Z" } : Jvm.MethodName)) ∈ lw_all := lw_g (lw_at lw_m6 231 rfl) rfl
theorem q1531 : (Jvm.Cond.code ({ cls := "PromiseRoofs$Tower", name := "isUnder", desc := "(I)Z" } : Jvm.MethodName) prog_28_method_3_code (2 : Nat) (Option.some Jvm.ClassFile.FieldType.boolean)) ∈ lw_all := lw_g (lw_at lw_m6 232 rfl) rfl
theorem q1532 : (Jvm.Cond.methodLink "PromiseRoofs$Tower" (13 : Nat) ({ cls := "PromiseRoofs$Cellar", name := "isUnder", desc := "(I)Z" } : Jvm.MethodName)) ∈ lw_all := lw_g (lw_at lw_m6 233 rfl) rfl
theorem q1533 : (Jvm.Cond.selects "PromiseRoofs$Tower" ({ cls := "PromiseRoofs$Storey", name := "isUnder", desc := "(I)Z" } : Jvm.MethodName) ({ cls := "PromiseRoofs$Tower", name := "isUnder", desc := "(I)Z" } : Jvm.MethodName)) ∈ lw_all := lw_g (lw_at lw_m6 234 rfl) rfl
theorem q2055 : (Jvm.Cond.selects "PromiseRoofs$Tower" ({ cls := "PromiseRoofs$Storey", name := "swears", desc := "(I)I" } : Jvm.MethodName) ({ cls := "PromiseRoofs$Storey", name := "swears", desc := "(I)I" } : Jvm.MethodName)) ∈ lw_all := lw_g (lw_at lw_m9 36 rfl) rfl
theorem q2065 : (Jvm.Cond.selects "PromiseRoofs$Tower" ({ cls := "PromiseRoofs$Storey", name := "comesDown", desc := "(I)I" } : Jvm.MethodName) ({ cls := "PromiseRoofs$Tower", name := "comesDown", desc := "(I)I" } : Jvm.MethodName)) ∈ lw_all := lw_g (lw_at lw_m9 46 rfl) rfl
theorem q2080 : (Jvm.Cond.castable "PromiseRoofs$Tower" "PromiseRoofs$Storey") ∈ lw_tbl := lw_at lw_m9 61 rfl
theorem q2084 : (Jvm.Cond.castable "PromiseRoofs$Tower" "PromiseRoofs$Held") ∈ lw_tbl := lw_at lw_m9 65 rfl
theorem in_X18 : ∀ w ∈ wsX180, w ∈ lw_all := lw_in wsX180 [1111, 1112, 1110, 1108] (by decide +kernel) (by decide +kernel)
/-! PromiseRoofs$Widow -/
def RX19 : String := "PromiseRoofs$Widow"
def TX19 : u_T := fun k => match k with
  | 0 => ("PromiseRoofs$Storey", "number", "I", true)
  | 1 => ("PromiseRoofs$Storey", "this$0", "LPromiseRoofs;", true)
  | 2 => ("PromiseRoofs$Attic", "this$0", "LPromiseRoofs;", true)
  | _ => ("PromiseRoofs$Widow", "this$0", "LPromiseRoofs;", true)
def tyX19 : Nat → FieldType := fun k => match k with
  | 0 => .int
  | 1 => .object "PromiseRoofs"
  | 2 => .object "PromiseRoofs"
  | _ => .object "PromiseRoofs"
abbrev wsX190 : List Cond := u_ws RX19 TX19 4
-- two fields of one name: no nmX19
theorem tyX19_ok : ∀ k, k < 4 → parseFieldDescriptor (TX19 k).2.2.1 = some (tyX19 k) := by decide +kernel
abbrev cX19_init : ByteArray := prog_30_method_1_code
def yX19_init : MethodName := ⟨RX19, "<init>", "(LPromiseRoofs;I)V"⟩
abbrev cX19_comesDown : ByteArray := prog_30_method_4_code
def yX19_comesDown : MethodName := ⟨RX19, "comesDown", "(I)I"⟩
abbrev cX19_kind : ByteArray := prog_30_method_2_code
def yX19_kind : MethodName := ⟨RX19, "kind", "()I"⟩
abbrev cX19_isUnder : ByteArray := prog_30_method_3_code
def yX19_isUnder : MethodName := ⟨RX19, "isUnder", "(I)Z"⟩
theorem q133 : (Jvm.Cond.initialized "PromiseRoofs$Widow") ∈ lw_all := lw_g (lw_at lw_m1 34 rfl) rfl
theorem q1115 : (Jvm.Cond.instantiable "PromiseRoofs$Widow" (4 : Nat)) ∈ lw_all := lw_g (lw_at lw_m5 56 rfl) rfl
theorem q1117 : (Jvm.Cond.instanceMethod ({ cls := "PromiseRoofs$Widow", name := "<init>", desc := "(LPromiseRoofs;I)V" } : Jvm.MethodName)) ∈ lw_all := lw_g (lw_at lw_m5 58 rfl) rfl
theorem q1118 : (Jvm.Cond.code ({ cls := "PromiseRoofs$Widow", name := "<init>", desc := "(LPromiseRoofs;I)V" } : Jvm.MethodName) prog_30_method_1_code (3 : Nat) (Option.none : Option Jvm.ClassFile.FieldType)) ∈ lw_all := lw_g (lw_at lw_m5 59 rfl) rfl
theorem q1119 : (Jvm.Cond.methodLink "PromiseRoofs$Widow" (7 : Nat) ({ cls := "PromiseRoofs$Attic", name := "<init>", desc := "(LPromiseRoofs;I)V" } : Jvm.MethodName)) ∈ lw_all := lw_g (lw_at lw_m5 60 rfl) rfl
theorem q1120 : (Jvm.Cond.fieldLink "PromiseRoofs$Widow" (1 : Nat) "PromiseRoofs$Widow" "this$0" "LPromiseRoofs;") ∈ lw_all := lw_g (lw_at lw_m5 61 rfl) rfl
theorem q1121 : (Jvm.Cond.laysFinal "PromiseRoofs$Widow" "PromiseRoofs$Widow" "this$0" "LPromiseRoofs;") ∈ lw_all := lw_g (lw_at lw_m5 62 rfl) rfl
theorem q1122 : (Jvm.Cond.soleField "PromiseRoofs$Widow" "this$0") ∈ lw_all := lw_g (lw_at lw_m5 63 rfl) rfl
theorem q1123 : (Jvm.Cond.laysFinal "PromiseRoofs$Widow" "PromiseRoofs$Attic" "this$0" "LPromiseRoofs;") ∈ lw_all := lw_g (lw_at lw_m5 64 rfl) rfl
theorem q1124 : (Jvm.Cond.laysFinal "PromiseRoofs$Widow" "PromiseRoofs$Storey" "number" "I") ∈ lw_all := lw_g (lw_at lw_m5 65 rfl) rfl
theorem q1125 : (Jvm.Cond.laysFinal "PromiseRoofs$Widow" "PromiseRoofs$Storey" "this$0" "LPromiseRoofs;") ∈ lw_all := lw_g (lw_at lw_m5 66 rfl) rfl
theorem q1126 : (Jvm.Cond.superclass "PromiseRoofs$Widow" "PromiseRoofs$Attic") ∈ lw_all := lw_g (lw_at lw_m5 67 rfl) rfl
theorem q1222 : (Jvm.Cond.castable "PromiseRoofs$Widow" "PromiseRoofs$Swears") ∈ lw_tbl := lw_at lw_m5 163 rfl
theorem q1223 : (Jvm.Cond.selects "PromiseRoofs$Widow" ({ cls := "PromiseRoofs$Swears", name := "swears", desc := "(I)I" } : Jvm.MethodName) ({ cls := "PromiseRoofs$Attic", name := "swears", desc := "(I)I" } : Jvm.MethodName)) ∈ lw_all := lw_g (lw_at lw_m5 164 rfl) rfl
theorem q1224 : (Jvm.Cond.unhidden "PromiseRoofs$Widow" "swears" "(I)I") ∈ lw_tbl := lw_at lw_m5 165 rfl
theorem q1253 : (Jvm.Cond.sameMethod "PromiseRoofs$Widow" "PromiseRoofs$Storey" "builds" "(I)I") ∈ lw_all := lw_g (lw_at lw_m5 194 rfl) rfl
theorem q1257 : (Jvm.Cond.declares ({ cls := "PromiseRoofs$Widow", name := "comesDown", desc := "(I)I" } : Jvm.MethodName)) ∈ lw_tbl := lw_at lw_m5 198 rfl
theorem q1259 : (Jvm.Cond.instanceMethod ({ cls := "PromiseRoofs$Widow", name := "comesDown", desc := "(I)I" } : Jvm.MethodName)) ∈ lw_all := lw_g (lw_at lw_m5 200 rfl) rfl
theorem q1260 : (Jvm.Cond.code ({ cls := "PromiseRoofs$Widow", name := "comesDown", desc := "(I)I" } : Jvm.MethodName) prog_30_method_4_code (3 : Nat) (Option.some Jvm.ClassFile.FieldType.int)) ∈ lw_all := lw_g (lw_at lw_m5 201 rfl) rfl
theorem q1261 : (Jvm.Cond.methodLinkNest "PromiseRoofs$Widow" (17 : Nat) ({ cls := "PromiseRoofs", name := "ran", desc := "(I)V" } : Jvm.MethodName) "PromiseRoofs") ∈ lw_tbl := lw_at lw_m5 202 rfl
theorem q1262 : (Jvm.Cond.methodLink "PromiseRoofs$Widow" (23 : Nat) ({ cls := "PromiseRoofs$Attic", name := "comesDown", desc := "(I)I" } : Jvm.MethodName)) ∈ lw_all := lw_g (lw_at lw_m5 203 rfl) rfl
theorem q1267 : (Jvm.Cond.methodLink "PromiseRoofs$Widow" (27 : Nat) ({ cls := "PromiseRoofs$Widow", name := "swears", desc := "(I)I" } : Jvm.MethodName)) ∈ lw_all := lw_g (lw_at lw_m5 208 rfl) rfl
theorem q1268 : (Jvm.Cond.sameMethod "PromiseRoofs$Widow" "PromiseRoofs$Attic" "swears" "(I)I") ∈ lw_all := lw_g (lw_at lw_m5 209 rfl) rfl
theorem q1271 : (Jvm.Cond.selects "PromiseRoofs$Widow" ({ cls := "PromiseRoofs$Widow", name := "swears", desc := "(I)I" } : Jvm.MethodName) ({ cls := "PromiseRoofs$Attic", name := "swears", desc := "(I)I" } : Jvm.MethodName)) ∈ lw_all := lw_g (lw_at lw_m5 212 rfl) rfl
theorem q1278 : (Jvm.Cond.selects "PromiseRoofs$Widow" ({ cls := "PromiseRoofs$Storey", name := "builds", desc := "(I)I" } : Jvm.MethodName) ({ cls := "PromiseRoofs$Storey", name := "builds", desc := "(I)I" } : Jvm.MethodName)) ∈ lw_all := lw_g (lw_at lw_m5 219 rfl) rfl
theorem q1297 : (Jvm.Cond.sameMethod "PromiseRoofs$Widow" "PromiseRoofs$Storey" "tells" "(I)I") ∈ lw_all := lw_g (lw_at lw_m5 238 rfl) rfl
theorem q1314 : (Jvm.Cond.castable "PromiseRoofs$Widow" "PromiseRoofs$Tells") ∈ lw_tbl := lw_at lw_m6 15 rfl
theorem q1315 : (Jvm.Cond.selects "PromiseRoofs$Widow" ({ cls := "PromiseRoofs$Tells", name := "tells", desc := "(I)I" } : Jvm.MethodName) ({ cls := "PromiseRoofs$Storey", name := "tells", desc := "(I)I" } : Jvm.MethodName)) ∈ lw_all := lw_g (lw_at lw_m6 16 rfl) rfl
theorem q1316 : (Jvm.Cond.unhidden "PromiseRoofs$Widow" "tells" "(I)I") ∈ lw_tbl := lw_at lw_m6 17 rfl
theorem q1516 : (Jvm.Cond.selects "PromiseRoofs$Widow" ({ cls := "PromiseRoofs$Storey", name := "kind", desc := "()I" } : Jvm.MethodName) ({ cls := "PromiseRoofs$Widow", name := "kind", desc := "()I" } : Jvm.MethodName)) ∈ lw_all := lw_g (lw_at lw_m6 217 rfl) rfl
theorem q1517 : (Jvm.Cond.instanceMethod ({ cls := "PromiseRoofs$Widow", name := "kind", desc := "()I" } : Jvm.MethodName)) ∈ lw_all := lw_g (lw_at lw_m6 218 rfl) rfl
theorem q1518 : (Jvm.Cond.code ({ cls := "PromiseRoofs$Widow", name := "kind", desc := "()I" } : Jvm.MethodName) prog_30_method_2_code (1 : Nat) (Option.some Jvm.ClassFile.FieldType.int)) ∈ lw_all := lw_g (lw_at lw_m6 219 rfl) rfl
theorem q1526 : (Jvm.Cond.instanceMethod ({ cls := "PromiseRoofs$Widow", name := "isUnder", desc := "(I)Z" } : Jvm.MethodName)) ∈ lw_all := lw_g (lw_at lw_m6 227 rfl) rfl
theorem q1527 : (Jvm.Cond.code ({ cls := "PromiseRoofs$Widow", name := "isUnder", desc := "(I)Z" } : Jvm.MethodName) prog_30_method_3_code (2 : Nat) (Option.some Jvm.ClassFile.FieldType.boolean)) ∈ lw_all := lw_g (lw_at lw_m6 228 rfl) rfl
theorem q1528 : (Jvm.Cond.methodLink "PromiseRoofs$Widow" (13 : Nat) ({ cls := "PromiseRoofs$Attic", name := "isUnder", desc := "(I)Z" } : Jvm.MethodName)) ∈ lw_all := lw_g (lw_at lw_m6 229 rfl) rfl
theorem q1534 : (Jvm.Cond.selects "PromiseRoofs$Widow" ({ cls := "PromiseRoofs$Storey", name := "isUnder", desc := "(I)Z" } : Jvm.MethodName) ({ cls := "PromiseRoofs$Widow", name := "isUnder", desc := "(I)Z" } : Jvm.MethodName)) ∈ lw_all := lw_g (lw_at lw_m6 235 rfl) rfl
theorem q2056 : (Jvm.Cond.selects "PromiseRoofs$Widow" ({ cls := "PromiseRoofs$Storey", name := "swears", desc := "(I)I" } : Jvm.MethodName) ({ cls := "PromiseRoofs$Attic", name := "swears", desc := "(I)I" } : Jvm.MethodName)) ∈ lw_all := lw_g (lw_at lw_m9 37 rfl) rfl
theorem q2066 : (Jvm.Cond.selects "PromiseRoofs$Widow" ({ cls := "PromiseRoofs$Storey", name := "comesDown", desc := "(I)I" } : Jvm.MethodName) ({ cls := "PromiseRoofs$Widow", name := "comesDown", desc := "(I)I" } : Jvm.MethodName)) ∈ lw_all := lw_g (lw_at lw_m9 47 rfl) rfl
theorem q2081 : (Jvm.Cond.castable "PromiseRoofs$Widow" "PromiseRoofs$Storey") ∈ lw_tbl := lw_at lw_m9 62 rfl
theorem q2085 : (Jvm.Cond.castable "PromiseRoofs$Widow" "PromiseRoofs$Held") ∈ lw_tbl := lw_at lw_m9 66 rfl
theorem in_X19 : ∀ w ∈ wsX190, w ∈ lw_all := lw_in wsX190 [1124, 1125, 1123, 1121] (by decide +kernel) (by decide +kernel)
/-! PromiseRoofs$Saint -/
def RX20 : String := "PromiseRoofs$Saint"
def TX20 : u_T := fun k => match k with
  | 0 => ("PromiseRoofs$Storey", "number", "I", true)
  | 1 => ("PromiseRoofs$Storey", "this$0", "LPromiseRoofs;", true)
  | 2 => ("PromiseRoofs$Cellar", "this$0", "LPromiseRoofs;", true)
  | 3 => ("PromiseRoofs$Tower", "this$0", "LPromiseRoofs;", true)
  | _ => ("PromiseRoofs$Saint", "this$0", "LPromiseRoofs;", true)
def tyX20 : Nat → FieldType := fun k => match k with
  | 0 => .int
  | 1 => .object "PromiseRoofs"
  | 2 => .object "PromiseRoofs"
  | 3 => .object "PromiseRoofs"
  | _ => .object "PromiseRoofs"
abbrev wsX200 : List Cond := u_ws RX20 TX20 5
-- two fields of one name: no nmX20
theorem tyX20_ok : ∀ k, k < 5 → parseFieldDescriptor (TX20 k).2.2.1 = some (tyX20 k) := by decide +kernel
abbrev cX20_init : ByteArray := prog_23_method_1_code
def yX20_init : MethodName := ⟨RX20, "<init>", "(LPromiseRoofs;I)V"⟩
abbrev cX20_tells : ByteArray := prog_23_method_3_code
def yX20_tells : MethodName := ⟨RX20, "tells", "(I)I"⟩
abbrev cX20_kind : ByteArray := prog_23_method_2_code
def yX20_kind : MethodName := ⟨RX20, "kind", "()I"⟩
theorem q134 : (Jvm.Cond.initialized "PromiseRoofs$Saint") ∈ lw_all := lw_g (lw_at lw_m1 35 rfl) rfl
theorem q1128 : (Jvm.Cond.instantiable "PromiseRoofs$Saint" (5 : Nat)) ∈ lw_all := lw_g (lw_at lw_m5 69 rfl) rfl
theorem q1130 : (Jvm.Cond.instanceMethod ({ cls := "PromiseRoofs$Saint", name := "<init>", desc := "(LPromiseRoofs;I)V" } : Jvm.MethodName)) ∈ lw_all := lw_g (lw_at lw_m5 71 rfl) rfl
theorem q1131 : (Jvm.Cond.code ({ cls := "PromiseRoofs$Saint", name := "<init>", desc := "(LPromiseRoofs;I)V" } : Jvm.MethodName) prog_23_method_1_code (3 : Nat) (Option.none : Option Jvm.ClassFile.FieldType)) ∈ lw_all := lw_g (lw_at lw_m5 72 rfl) rfl
theorem q1132 : (Jvm.Cond.methodLink "PromiseRoofs$Saint" (7 : Nat) ({ cls := "PromiseRoofs$Tower", name := "<init>", desc := "(LPromiseRoofs;I)V" } : Jvm.MethodName)) ∈ lw_all := lw_g (lw_at lw_m5 73 rfl) rfl
theorem q1133 : (Jvm.Cond.fieldLink "PromiseRoofs$Saint" (1 : Nat) "PromiseRoofs$Saint" "this$0" "LPromiseRoofs;") ∈ lw_all := lw_g (lw_at lw_m5 74 rfl) rfl
theorem q1134 : (Jvm.Cond.laysFinal "PromiseRoofs$Saint" "PromiseRoofs$Saint" "this$0" "LPromiseRoofs;") ∈ lw_all := lw_g (lw_at lw_m5 75 rfl) rfl
theorem q1135 : (Jvm.Cond.soleField "PromiseRoofs$Saint" "this$0") ∈ lw_all := lw_g (lw_at lw_m5 76 rfl) rfl
theorem q1136 : (Jvm.Cond.laysFinal "PromiseRoofs$Saint" "PromiseRoofs$Tower" "this$0" "LPromiseRoofs;") ∈ lw_all := lw_g (lw_at lw_m5 77 rfl) rfl
theorem q1137 : (Jvm.Cond.laysFinal "PromiseRoofs$Saint" "PromiseRoofs$Cellar" "this$0" "LPromiseRoofs;") ∈ lw_all := lw_g (lw_at lw_m5 78 rfl) rfl
theorem q1138 : (Jvm.Cond.laysFinal "PromiseRoofs$Saint" "PromiseRoofs$Storey" "number" "I") ∈ lw_all := lw_g (lw_at lw_m5 79 rfl) rfl
theorem q1139 : (Jvm.Cond.laysFinal "PromiseRoofs$Saint" "PromiseRoofs$Storey" "this$0" "LPromiseRoofs;") ∈ lw_all := lw_g (lw_at lw_m5 80 rfl) rfl
theorem q1140 : (Jvm.Cond.superclass "PromiseRoofs$Saint" "PromiseRoofs$Tower") ∈ lw_all := lw_g (lw_at lw_m5 81 rfl) rfl
theorem q1213 : (Jvm.Cond.castable "PromiseRoofs$Saint" "PromiseRoofs$Swears") ∈ lw_tbl := lw_at lw_m5 154 rfl
theorem q1214 : (Jvm.Cond.selects "PromiseRoofs$Saint" ({ cls := "PromiseRoofs$Swears", name := "swears", desc := "(I)I" } : Jvm.MethodName) ({ cls := "PromiseRoofs$Storey", name := "swears", desc := "(I)I" } : Jvm.MethodName)) ∈ lw_all := lw_g (lw_at lw_m5 155 rfl) rfl
theorem q1215 : (Jvm.Cond.unhidden "PromiseRoofs$Saint" "swears" "(I)I") ∈ lw_tbl := lw_at lw_m5 156 rfl
theorem q1272 : (Jvm.Cond.selects "PromiseRoofs$Saint" ({ cls := "PromiseRoofs$Storey", name := "builds", desc := "(I)I" } : Jvm.MethodName) ({ cls := "PromiseRoofs$Tower", name := "builds", desc := "(I)I" } : Jvm.MethodName)) ∈ lw_all := lw_g (lw_at lw_m5 213 rfl) rfl
theorem q1299 : (Jvm.Cond.castable "PromiseRoofs$Saint" "PromiseRoofs$Tells") ∈ lw_tbl := lw_at lw_m6 0 rfl
theorem q1300 : (Jvm.Cond.selects "PromiseRoofs$Saint" ({ cls := "PromiseRoofs$Tells", name := "tells", desc := "(I)I" } : Jvm.MethodName) ({ cls := "PromiseRoofs$Saint", name := "tells", desc := "(I)I" } : Jvm.MethodName)) ∈ lw_all := lw_g (lw_at lw_m6 1 rfl) rfl
theorem q1301 : (Jvm.Cond.unhidden "PromiseRoofs$Saint" "tells" "(I)I") ∈ lw_tbl := lw_at lw_m6 2 rfl
theorem q1302 : (Jvm.Cond.instanceMethod ({ cls := "PromiseRoofs$Saint", name := "tells", desc := "(I)I" } : Jvm.MethodName)) ∈ lw_all := lw_g (lw_at lw_m6 3 rfl) rfl
theorem q1303 : (Jvm.Cond.publicMethod ({ cls := "PromiseRoofs$Saint", name := "tells", desc := "(I)I" } : Jvm.MethodName)) ∈ lw_tbl := lw_at lw_m6 4 rfl
theorem q1304 : (Jvm.Cond.code ({ cls := "PromiseRoofs$Saint", name := "tells", desc := "(I)I" } : Jvm.MethodName) prog_23_method_3_code (2 : Nat) (Option.some Jvm.ClassFile.FieldType.int)) ∈ lw_all := lw_g (lw_at lw_m6 5 rfl) rfl
theorem q1305 : (Jvm.Cond.methodLinkNest "PromiseRoofs$Saint" (13 : Nat) ({ cls := "PromiseRoofs", name := "ran", desc := "(I)V" } : Jvm.MethodName) "PromiseRoofs") ∈ lw_tbl := lw_at lw_m6 6 rfl
theorem q1306 : (Jvm.Cond.methodLink "PromiseRoofs$Saint" (19 : Nat) ({ cls := "PromiseRoofs$Tower", name := "tells", desc := "(I)I" } : Jvm.MethodName)) ∈ lw_all := lw_g (lw_at lw_m6 7 rfl) rfl
theorem q1510 : (Jvm.Cond.selects "PromiseRoofs$Saint" ({ cls := "PromiseRoofs$Storey", name := "kind", desc := "()I" } : Jvm.MethodName) ({ cls := "PromiseRoofs$Saint", name := "kind", desc := "()I" } : Jvm.MethodName)) ∈ lw_all := lw_g (lw_at lw_m6 211 rfl) rfl
theorem q1511 : (Jvm.Cond.instanceMethod ({ cls := "PromiseRoofs$Saint", name := "kind", desc := "()I" } : Jvm.MethodName)) ∈ lw_all := lw_g (lw_at lw_m6 212 rfl) rfl
theorem q1512 : (Jvm.Cond.code ({ cls := "PromiseRoofs$Saint", name := "kind", desc := "()I" } : Jvm.MethodName) prog_23_method_2_code (1 : Nat) (Option.some Jvm.ClassFile.FieldType.int)) ∈ lw_all := lw_g (lw_at lw_m6 213 rfl) rfl
theorem q1529 : (Jvm.Cond.selects "PromiseRoofs$Saint" ({ cls := "PromiseRoofs$Storey", name := "isUnder", desc := "(I)Z" } : Jvm.MethodName) ({ cls := "PromiseRoofs$Tower", name := "isUnder", desc := "(I)Z" } : Jvm.MethodName)) ∈ lw_all := lw_g (lw_at lw_m6 230 rfl) rfl
theorem q2053 : (Jvm.Cond.selects "PromiseRoofs$Saint" ({ cls := "PromiseRoofs$Storey", name := "swears", desc := "(I)I" } : Jvm.MethodName) ({ cls := "PromiseRoofs$Storey", name := "swears", desc := "(I)I" } : Jvm.MethodName)) ∈ lw_all := lw_g (lw_at lw_m9 34 rfl) rfl
theorem q2063 : (Jvm.Cond.selects "PromiseRoofs$Saint" ({ cls := "PromiseRoofs$Storey", name := "comesDown", desc := "(I)I" } : Jvm.MethodName) ({ cls := "PromiseRoofs$Tower", name := "comesDown", desc := "(I)I" } : Jvm.MethodName)) ∈ lw_all := lw_g (lw_at lw_m9 44 rfl) rfl
theorem q2079 : (Jvm.Cond.castable "PromiseRoofs$Saint" "PromiseRoofs$Storey") ∈ lw_tbl := lw_at lw_m9 60 rfl
theorem q2086 : (Jvm.Cond.castable "PromiseRoofs$Saint" "PromiseRoofs$Held") ∈ lw_tbl := lw_at lw_m9 67 rfl
theorem in_X20 : ∀ w ∈ wsX200, w ∈ lw_all := lw_in wsX200 [1138, 1139, 1137, 1136, 1134] (by decide +kernel) (by decide +kernel)
/-! PromiseRoofs$Pole -/
def RX21 : String := "PromiseRoofs$Pole"
def TX21 : u_T := fun k => match k with
  | 0 => ("PromiseRoofs$Storey", "number", "I", true)
  | 1 => ("PromiseRoofs$Storey", "this$0", "LPromiseRoofs;", true)
  | _ => ("PromiseRoofs$Pole", "this$0", "LPromiseRoofs;", true)
def tyX21 : Nat → FieldType := fun k => match k with
  | 0 => .int
  | 1 => .object "PromiseRoofs"
  | _ => .object "PromiseRoofs"
abbrev wsX210 : List Cond := u_ws RX21 TX21 3
-- two fields of one name: no nmX21
theorem tyX21_ok : ∀ k, k < 3 → parseFieldDescriptor (TX21 k).2.2.1 = some (tyX21 k) := by decide +kernel
abbrev cX21_init : ByteArray := prog_18_method_1_code
def yX21_init : MethodName := ⟨RX21, "<init>", "(LPromiseRoofs;I)V"⟩
abbrev cX21_swears : ByteArray := prog_18_method_3_code
def yX21_swears : MethodName := ⟨RX21, "swears", "(I)I"⟩
abbrev cX21_kind : ByteArray := prog_18_method_2_code
def yX21_kind : MethodName := ⟨RX21, "kind", "()I"⟩
theorem q135 : (Jvm.Cond.initialized "PromiseRoofs$Pole") ∈ lw_all := lw_g (lw_at lw_m1 36 rfl) rfl
theorem q1142 : (Jvm.Cond.instantiable "PromiseRoofs$Pole" (3 : Nat)) ∈ lw_all := lw_g (lw_at lw_m5 83 rfl) rfl
theorem q1144 : (Jvm.Cond.instanceMethod ({ cls := "PromiseRoofs$Pole", name := "<init>", desc := "(LPromiseRoofs;I)V" } : Jvm.MethodName)) ∈ lw_all := lw_g (lw_at lw_m5 85 rfl) rfl
theorem q1145 : (Jvm.Cond.code ({ cls := "PromiseRoofs$Pole", name := "<init>", desc := "(LPromiseRoofs;I)V" } : Jvm.MethodName) prog_18_method_1_code (3 : Nat) (Option.none : Option Jvm.ClassFile.FieldType)) ∈ lw_all := lw_g (lw_at lw_m5 86 rfl) rfl
theorem q1146 : (Jvm.Cond.methodLink "PromiseRoofs$Pole" (7 : Nat) ({ cls := "PromiseRoofs$Storey", name := "<init>", desc := "(LPromiseRoofs;I)V" } : Jvm.MethodName)) ∈ lw_all := lw_g (lw_at lw_m5 87 rfl) rfl
theorem q1147 : (Jvm.Cond.fieldLink "PromiseRoofs$Pole" (1 : Nat) "PromiseRoofs$Pole" "this$0" "LPromiseRoofs;") ∈ lw_all := lw_g (lw_at lw_m5 88 rfl) rfl
theorem q1148 : (Jvm.Cond.laysFinal "PromiseRoofs$Pole" "PromiseRoofs$Pole" "this$0" "LPromiseRoofs;") ∈ lw_all := lw_g (lw_at lw_m5 89 rfl) rfl
theorem q1149 : (Jvm.Cond.soleField "PromiseRoofs$Pole" "this$0") ∈ lw_all := lw_g (lw_at lw_m5 90 rfl) rfl
theorem q1150 : (Jvm.Cond.laysFinal "PromiseRoofs$Pole" "PromiseRoofs$Storey" "number" "I") ∈ lw_all := lw_g (lw_at lw_m5 91 rfl) rfl
theorem q1151 : (Jvm.Cond.laysFinal "PromiseRoofs$Pole" "PromiseRoofs$Storey" "this$0" "LPromiseRoofs;") ∈ lw_all := lw_g (lw_at lw_m5 92 rfl) rfl
theorem q1152 : (Jvm.Cond.superclass "PromiseRoofs$Pole" "PromiseRoofs$Storey") ∈ lw_all := lw_g (lw_at lw_m5 93 rfl) rfl
theorem q1202 : (Jvm.Cond.castable "PromiseRoofs$Pole" "PromiseRoofs$Swears") ∈ lw_tbl := lw_at lw_m5 143 rfl
theorem q1203 : (Jvm.Cond.selects "PromiseRoofs$Pole" ({ cls := "PromiseRoofs$Swears", name := "swears", desc := "(I)I" } : Jvm.MethodName) ({ cls := "PromiseRoofs$Pole", name := "swears", desc := "(I)I" } : Jvm.MethodName)) ∈ lw_all := lw_g (lw_at lw_m5 144 rfl) rfl
theorem q1204 : (Jvm.Cond.unhidden "PromiseRoofs$Pole" "swears" "(I)I") ∈ lw_tbl := lw_at lw_m5 145 rfl
theorem q1205 : (Jvm.Cond.instanceMethod ({ cls := "PromiseRoofs$Pole", name := "swears", desc := "(I)I" } : Jvm.MethodName)) ∈ lw_all := lw_g (lw_at lw_m5 146 rfl) rfl
theorem q1206 : (Jvm.Cond.publicMethod ({ cls := "PromiseRoofs$Pole", name := "swears", desc := "(I)I" } : Jvm.MethodName)) ∈ lw_tbl := lw_at lw_m5 147 rfl
theorem q1207 : (Jvm.Cond.code ({ cls := "PromiseRoofs$Pole", name := "swears", desc := "(I)I" } : Jvm.MethodName) prog_18_method_3_code (2 : Nat) (Option.some Jvm.ClassFile.FieldType.int)) ∈ lw_all := lw_g (lw_at lw_m5 148 rfl) rfl
theorem q1208 : (Jvm.Cond.methodLinkNest "PromiseRoofs$Pole" (13 : Nat) ({ cls := "PromiseRoofs", name := "ran", desc := "(I)V" } : Jvm.MethodName) "PromiseRoofs") ∈ lw_tbl := lw_at lw_m5 149 rfl
theorem q1209 : (Jvm.Cond.methodLink "PromiseRoofs$Pole" (19 : Nat) ({ cls := "PromiseRoofs$Storey", name := "swears", desc := "(I)I" } : Jvm.MethodName)) ∈ lw_all := lw_g (lw_at lw_m5 150 rfl) rfl
theorem q1247 : (Jvm.Cond.selects "PromiseRoofs$Pole" ({ cls := "PromiseRoofs$Storey", name := "builds", desc := "(I)I" } : Jvm.MethodName) ({ cls := "PromiseRoofs$Storey", name := "builds", desc := "(I)I" } : Jvm.MethodName)) ∈ lw_all := lw_g (lw_at lw_m5 188 rfl) rfl
theorem q1287 : (Jvm.Cond.castable "PromiseRoofs$Pole" "PromiseRoofs$Tells") ∈ lw_tbl := lw_at lw_m5 228 rfl
theorem q1288 : (Jvm.Cond.selects "PromiseRoofs$Pole" ({ cls := "PromiseRoofs$Tells", name := "tells", desc := "(I)I" } : Jvm.MethodName) ({ cls := "PromiseRoofs$Storey", name := "tells", desc := "(I)I" } : Jvm.MethodName)) ∈ lw_all := lw_g (lw_at lw_m5 229 rfl) rfl
theorem q1289 : (Jvm.Cond.unhidden "PromiseRoofs$Pole" "tells" "(I)I") ∈ lw_tbl := lw_at lw_m5 230 rfl
theorem q1504 : (Jvm.Cond.selects "PromiseRoofs$Pole" ({ cls := "PromiseRoofs$Storey", name := "kind", desc := "()I" } : Jvm.MethodName) ({ cls := "PromiseRoofs$Pole", name := "kind", desc := "()I" } : Jvm.MethodName)) ∈ lw_all := lw_g (lw_at lw_m6 205 rfl) rfl
theorem q1505 : (Jvm.Cond.instanceMethod ({ cls := "PromiseRoofs$Pole", name := "kind", desc := "()I" } : Jvm.MethodName)) ∈ lw_all := lw_g (lw_at lw_m6 206 rfl) rfl
theorem q1506 : (Jvm.Cond.code ({ cls := "PromiseRoofs$Pole", name := "kind", desc := "()I" } : Jvm.MethodName) prog_18_method_2_code (1 : Nat) (Option.some Jvm.ClassFile.FieldType.int)) ∈ lw_all := lw_g (lw_at lw_m6 207 rfl) rfl
theorem q1524 : (Jvm.Cond.selects "PromiseRoofs$Pole" ({ cls := "PromiseRoofs$Storey", name := "isUnder", desc := "(I)Z" } : Jvm.MethodName) ({ cls := "PromiseRoofs$Storey", name := "isUnder", desc := "(I)Z" } : Jvm.MethodName)) ∈ lw_all := lw_g (lw_at lw_m6 225 rfl) rfl
theorem q2051 : (Jvm.Cond.selects "PromiseRoofs$Pole" ({ cls := "PromiseRoofs$Storey", name := "swears", desc := "(I)I" } : Jvm.MethodName) ({ cls := "PromiseRoofs$Pole", name := "swears", desc := "(I)I" } : Jvm.MethodName)) ∈ lw_all := lw_g (lw_at lw_m9 32 rfl) rfl
theorem q2061 : (Jvm.Cond.selects "PromiseRoofs$Pole" ({ cls := "PromiseRoofs$Storey", name := "comesDown", desc := "(I)I" } : Jvm.MethodName) ({ cls := "PromiseRoofs$Storey", name := "comesDown", desc := "(I)I" } : Jvm.MethodName)) ∈ lw_all := lw_g (lw_at lw_m9 42 rfl) rfl
theorem q2077 : (Jvm.Cond.castable "PromiseRoofs$Pole" "PromiseRoofs$Storey") ∈ lw_tbl := lw_at lw_m9 58 rfl
theorem q2087 : (Jvm.Cond.castable "PromiseRoofs$Pole" "PromiseRoofs$Held") ∈ lw_tbl := lw_at lw_m9 68 rfl
theorem in_X21 : ∀ w ∈ wsX210, w ∈ lw_all := lw_in wsX210 [1150, 1151, 1148] (by decide +kernel) (by decide +kernel)
/-! PromiseRoofs$Potter -/
def RX22 : String := "PromiseRoofs$Potter"
def TX22 : u_T := fun k => match k with
  | 0 => ("PromiseRoofs$Storey", "number", "I", true)
  | 1 => ("PromiseRoofs$Storey", "this$0", "LPromiseRoofs;", true)
  | 2 => ("PromiseRoofs$Attic", "this$0", "LPromiseRoofs;", true)
  | 3 => ("PromiseRoofs$Widow", "this$0", "LPromiseRoofs;", true)
  | _ => ("PromiseRoofs$Potter", "this$0", "LPromiseRoofs;", true)
def tyX22 : Nat → FieldType := fun k => match k with
  | 0 => .int
  | 1 => .object "PromiseRoofs"
  | 2 => .object "PromiseRoofs"
  | 3 => .object "PromiseRoofs"
  | _ => .object "PromiseRoofs"
abbrev wsX220 : List Cond := u_ws RX22 TX22 5
-- two fields of one name: no nmX22
theorem tyX22_ok : ∀ k, k < 5 → parseFieldDescriptor (TX22 k).2.2.1 = some (tyX22 k) := by decide +kernel
abbrev cX22_init : ByteArray := prog_19_method_1_code
def yX22_init : MethodName := ⟨RX22, "<init>", "(LPromiseRoofs;I)V"⟩
abbrev cX22_builds : ByteArray := prog_19_method_3_code
def yX22_builds : MethodName := ⟨RX22, "builds", "(I)I"⟩
abbrev cX22_tells : ByteArray := prog_19_method_4_code
def yX22_tells : MethodName := ⟨RX22, "tells", "(I)I"⟩
abbrev cX22_kind : ByteArray := prog_19_method_2_code
def yX22_kind : MethodName := ⟨RX22, "kind", "()I"⟩
theorem q136 : (Jvm.Cond.initialized "PromiseRoofs$Potter") ∈ lw_all := lw_g (lw_at lw_m1 37 rfl) rfl
theorem q1154 : (Jvm.Cond.instantiable "PromiseRoofs$Potter" (5 : Nat)) ∈ lw_all := lw_g (lw_at lw_m5 95 rfl) rfl
theorem q1156 : (Jvm.Cond.instanceMethod ({ cls := "PromiseRoofs$Potter", name := "<init>", desc := "(LPromiseRoofs;I)V" } : Jvm.MethodName)) ∈ lw_all := lw_g (lw_at lw_m5 97 rfl) rfl
theorem q1157 : (Jvm.Cond.code ({ cls := "PromiseRoofs$Potter", name := "<init>", desc := "(LPromiseRoofs;I)V" } : Jvm.MethodName) prog_19_method_1_code (3 : Nat) (Option.none : Option Jvm.ClassFile.FieldType)) ∈ lw_all := lw_g (lw_at lw_m5 98 rfl) rfl
theorem q1158 : (Jvm.Cond.methodLink "PromiseRoofs$Potter" (7 : Nat) ({ cls := "PromiseRoofs$Widow", name := "<init>", desc := "(LPromiseRoofs;I)V" } : Jvm.MethodName)) ∈ lw_all := lw_g (lw_at lw_m5 99 rfl) rfl
theorem q1159 : (Jvm.Cond.fieldLink "PromiseRoofs$Potter" (1 : Nat) "PromiseRoofs$Potter" "this$0" "LPromiseRoofs;") ∈ lw_all := lw_g (lw_at lw_m5 100 rfl) rfl
theorem q1160 : (Jvm.Cond.laysFinal "PromiseRoofs$Potter" "PromiseRoofs$Potter" "this$0" "LPromiseRoofs;") ∈ lw_all := lw_g (lw_at lw_m5 101 rfl) rfl
theorem q1161 : (Jvm.Cond.soleField "PromiseRoofs$Potter" "this$0") ∈ lw_all := lw_g (lw_at lw_m5 102 rfl) rfl
theorem q1162 : (Jvm.Cond.laysFinal "PromiseRoofs$Potter" "PromiseRoofs$Widow" "this$0" "LPromiseRoofs;") ∈ lw_all := lw_g (lw_at lw_m5 103 rfl) rfl
theorem q1163 : (Jvm.Cond.laysFinal "PromiseRoofs$Potter" "PromiseRoofs$Attic" "this$0" "LPromiseRoofs;") ∈ lw_all := lw_g (lw_at lw_m5 104 rfl) rfl
theorem q1164 : (Jvm.Cond.laysFinal "PromiseRoofs$Potter" "PromiseRoofs$Storey" "number" "I") ∈ lw_all := lw_g (lw_at lw_m5 105 rfl) rfl
theorem q1165 : (Jvm.Cond.laysFinal "PromiseRoofs$Potter" "PromiseRoofs$Storey" "this$0" "LPromiseRoofs;") ∈ lw_all := lw_g (lw_at lw_m5 106 rfl) rfl
theorem q1166 : (Jvm.Cond.superclass "PromiseRoofs$Potter" "PromiseRoofs$Widow") ∈ lw_all := lw_g (lw_at lw_m5 107 rfl) rfl
theorem q1210 : (Jvm.Cond.castable "PromiseRoofs$Potter" "PromiseRoofs$Swears") ∈ lw_tbl := lw_at lw_m5 151 rfl
theorem q1211 : (Jvm.Cond.selects "PromiseRoofs$Potter" ({ cls := "PromiseRoofs$Swears", name := "swears", desc := "(I)I" } : Jvm.MethodName) ({ cls := "PromiseRoofs$Attic", name := "swears", desc := "(I)I" } : Jvm.MethodName)) ∈ lw_all := lw_g (lw_at lw_m5 152 rfl) rfl
theorem q1212 : (Jvm.Cond.unhidden "PromiseRoofs$Potter" "swears" "(I)I") ∈ lw_tbl := lw_at lw_m5 153 rfl
theorem q1248 : (Jvm.Cond.selects "PromiseRoofs$Potter" ({ cls := "PromiseRoofs$Storey", name := "builds", desc := "(I)I" } : Jvm.MethodName) ({ cls := "PromiseRoofs$Potter", name := "builds", desc := "(I)I" } : Jvm.MethodName)) ∈ lw_all := lw_g (lw_at lw_m5 189 rfl) rfl
theorem q1249 : (Jvm.Cond.instanceMethod ({ cls := "PromiseRoofs$Potter", name := "builds", desc := "(I)I" } : Jvm.MethodName)) ∈ lw_all := lw_g (lw_at lw_m5 190 rfl) rfl
theorem q1250 : (Jvm.Cond.code ({ cls := "PromiseRoofs$Potter", name := "builds", desc := "(I)I" } : Jvm.MethodName) prog_19_method_3_code (3 : Nat) (Option.some Jvm.ClassFile.FieldType.int)) ∈ lw_all := lw_g (lw_at lw_m5 191 rfl) rfl
theorem q1251 : (Jvm.Cond.methodLinkNest "PromiseRoofs$Potter" (13 : Nat) ({ cls := "PromiseRoofs", name := "ran", desc := "(I)V" } : Jvm.MethodName) "PromiseRoofs") ∈ lw_tbl := lw_at lw_m5 192 rfl
theorem q1252 : (Jvm.Cond.methodLink "PromiseRoofs$Potter" (19 : Nat) ({ cls := "PromiseRoofs$Widow", name := "builds", desc := "(I)I" } : Jvm.MethodName)) ∈ lw_all := lw_g (lw_at lw_m5 193 rfl) rfl
theorem q1255 : (Jvm.Cond.methodLink "PromiseRoofs$Potter" (23 : Nat) ({ cls := "PromiseRoofs$Potter", name := "comesDown", desc := "(I)I" } : Jvm.MethodName)) ∈ lw_all := lw_g (lw_at lw_m5 196 rfl) rfl
theorem q1256 : (Jvm.Cond.sameMethod "PromiseRoofs$Potter" "PromiseRoofs$Widow" "comesDown" "(I)I") ∈ lw_all := lw_g (lw_at lw_m5 197 rfl) rfl
theorem q1258 : (Jvm.Cond.selects "PromiseRoofs$Potter" ({ cls := "PromiseRoofs$Potter", name := "comesDown", desc := "(I)I" } : Jvm.MethodName) ({ cls := "PromiseRoofs$Widow", name := "comesDown", desc := "(I)I" } : Jvm.MethodName)) ∈ lw_all := lw_g (lw_at lw_m5 199 rfl) rfl
theorem q1270 : (Jvm.Cond.selects "PromiseRoofs$Potter" ({ cls := "PromiseRoofs$Widow", name := "swears", desc := "(I)I" } : Jvm.MethodName) ({ cls := "PromiseRoofs$Attic", name := "swears", desc := "(I)I" } : Jvm.MethodName)) ∈ lw_all := lw_g (lw_at lw_m5 211 rfl) rfl
theorem q1290 : (Jvm.Cond.castable "PromiseRoofs$Potter" "PromiseRoofs$Tells") ∈ lw_tbl := lw_at lw_m5 231 rfl
theorem q1291 : (Jvm.Cond.selects "PromiseRoofs$Potter" ({ cls := "PromiseRoofs$Tells", name := "tells", desc := "(I)I" } : Jvm.MethodName) ({ cls := "PromiseRoofs$Potter", name := "tells", desc := "(I)I" } : Jvm.MethodName)) ∈ lw_all := lw_g (lw_at lw_m5 232 rfl) rfl
theorem q1292 : (Jvm.Cond.unhidden "PromiseRoofs$Potter" "tells" "(I)I") ∈ lw_tbl := lw_at lw_m5 233 rfl
theorem q1293 : (Jvm.Cond.instanceMethod ({ cls := "PromiseRoofs$Potter", name := "tells", desc := "(I)I" } : Jvm.MethodName)) ∈ lw_all := lw_g (lw_at lw_m5 234 rfl) rfl
theorem q1294 : (Jvm.Cond.publicMethod ({ cls := "PromiseRoofs$Potter", name := "tells", desc := "(I)I" } : Jvm.MethodName)) ∈ lw_tbl := lw_at lw_m5 235 rfl
theorem q1295 : (Jvm.Cond.code ({ cls := "PromiseRoofs$Potter", name := "tells", desc := "(I)I" } : Jvm.MethodName) prog_19_method_4_code (2 : Nat) (Option.some Jvm.ClassFile.FieldType.int)) ∈ lw_all := lw_g (lw_at lw_m5 236 rfl) rfl
theorem q1296 : (Jvm.Cond.methodLink "PromiseRoofs$Potter" (26 : Nat) ({ cls := "PromiseRoofs$Widow", name := "tells", desc := "(I)I" } : Jvm.MethodName)) ∈ lw_all := lw_g (lw_at lw_m5 237 rfl) rfl
theorem q1507 : (Jvm.Cond.selects "PromiseRoofs$Potter" ({ cls := "PromiseRoofs$Storey", name := "kind", desc := "()I" } : Jvm.MethodName) ({ cls := "PromiseRoofs$Potter", name := "kind", desc := "()I" } : Jvm.MethodName)) ∈ lw_all := lw_g (lw_at lw_m6 208 rfl) rfl
theorem q1508 : (Jvm.Cond.instanceMethod ({ cls := "PromiseRoofs$Potter", name := "kind", desc := "()I" } : Jvm.MethodName)) ∈ lw_all := lw_g (lw_at lw_m6 209 rfl) rfl
theorem q1509 : (Jvm.Cond.code ({ cls := "PromiseRoofs$Potter", name := "kind", desc := "()I" } : Jvm.MethodName) prog_19_method_2_code (1 : Nat) (Option.some Jvm.ClassFile.FieldType.int)) ∈ lw_all := lw_g (lw_at lw_m6 210 rfl) rfl
theorem q1525 : (Jvm.Cond.selects "PromiseRoofs$Potter" ({ cls := "PromiseRoofs$Storey", name := "isUnder", desc := "(I)Z" } : Jvm.MethodName) ({ cls := "PromiseRoofs$Widow", name := "isUnder", desc := "(I)Z" } : Jvm.MethodName)) ∈ lw_all := lw_g (lw_at lw_m6 226 rfl) rfl
theorem q2052 : (Jvm.Cond.selects "PromiseRoofs$Potter" ({ cls := "PromiseRoofs$Storey", name := "swears", desc := "(I)I" } : Jvm.MethodName) ({ cls := "PromiseRoofs$Attic", name := "swears", desc := "(I)I" } : Jvm.MethodName)) ∈ lw_all := lw_g (lw_at lw_m9 33 rfl) rfl
theorem q2062 : (Jvm.Cond.selects "PromiseRoofs$Potter" ({ cls := "PromiseRoofs$Storey", name := "comesDown", desc := "(I)I" } : Jvm.MethodName) ({ cls := "PromiseRoofs$Widow", name := "comesDown", desc := "(I)I" } : Jvm.MethodName)) ∈ lw_all := lw_g (lw_at lw_m9 43 rfl) rfl
theorem q2078 : (Jvm.Cond.castable "PromiseRoofs$Potter" "PromiseRoofs$Storey") ∈ lw_tbl := lw_at lw_m9 59 rfl
theorem q2088 : (Jvm.Cond.castable "PromiseRoofs$Potter" "PromiseRoofs$Held") ∈ lw_tbl := lw_at lw_m9 69 rfl
theorem in_X22 : ∀ w ∈ wsX220, w ∈ lw_all := lw_in wsX220 [1164, 1165, 1163, 1162, 1160] (by decide +kernel) (by decide +kernel)
/-! java/lang/NegativeArraySizeException -/
def RJ14 : String := "java/lang/NegativeArraySizeException"
def TJ14 : u_T := fun k => match k with
  | 0 => ("java/lang/Throwable", "backtrace", "Ljava/lang/Object;", false)
  | 1 => ("java/lang/Throwable", "detailMessage", "Ljava/lang/String;", false)
  | 2 => ("java/lang/Throwable", "cause", "Ljava/lang/Throwable;", false)
  | 3 => ("java/lang/Throwable", "stackTrace", "[Ljava/lang/StackTraceElement;", false)
  | 4 => ("java/lang/Throwable", "depth", "I", false)
  | _ => ("java/lang/Throwable", "suppressedExceptions", "Ljava/util/List;", false)
def tyJ14 : Nat → FieldType := fun k => match k with
  | 0 => .object "java/lang/Object"
  | 1 => .object "java/lang/String"
  | 2 => .object "java/lang/Throwable"
  | 3 => .array (.object "java/lang/StackTraceElement")
  | 4 => .int
  | _ => .object "java/util/List"
abbrev wsJ140 : List Cond := u_ws RJ14 TJ14 6
theorem nmJ14 : ∀ a, a < 6 → ∀ b, b < 6 → a ≠ b → (TJ14 a).2.1 ≠ (TJ14 b).2.1 := by decide +kernel
theorem tyJ14_ok : ∀ k, k < 6 → parseFieldDescriptor (TJ14 k).2.2.1 = some (tyJ14 k) := by decide +kernel
abbrev cJ14_init : ByteArray := prog_40_method_2_code
def yJ14_init : MethodName := ⟨RJ14, "<init>", "(Ljava/lang/String;)V"⟩
theorem q137 : (Jvm.Cond.initialized "java/lang/NegativeArraySizeException") ∈ lw_all := lw_g (lw_at lw_m1 38 rfl) rfl
theorem q388 : (Jvm.Cond.selects "java/lang/NegativeArraySizeException" ({ cls := "java/lang/Throwable", name := "fillInStackTrace", desc := "()Ljava/lang/Throwable;" } : Jvm.MethodName) ({ cls := "java/lang/Throwable", name := "fillInStackTrace", desc := "()Ljava/lang/Throwable;" } : Jvm.MethodName)) ∈ lw_all := lw_g (lw_at lw_m2 49 rfl) rfl
theorem q1332 : (Jvm.Cond.instantiable "java/lang/NegativeArraySizeException" (6 : Nat)) ∈ lw_all := lw_g (lw_at lw_m6 33 rfl) rfl
theorem q1333 : (Jvm.Cond.instanceMethod ({ cls := "java/lang/NegativeArraySizeException", name := "<init>", desc := "(Ljava/lang/String;)V" } : Jvm.MethodName)) ∈ lw_all := lw_g (lw_at lw_m6 34 rfl) rfl
theorem q1334 : (Jvm.Cond.code ({ cls := "java/lang/NegativeArraySizeException", name := "<init>", desc := "(Ljava/lang/String;)V" } : Jvm.MethodName) prog_40_method_2_code (2 : Nat) (Option.none : Option Jvm.ClassFile.FieldType)) ∈ lw_all := lw_g (lw_at lw_m6 35 rfl) rfl
theorem q1335 : (Jvm.Cond.methodLink "java/lang/NegativeArraySizeException" (7 : Nat) ({ cls := "java/lang/RuntimeException", name := "<init>", desc := "(Ljava/lang/String;)V" } : Jvm.MethodName)) ∈ lw_all := lw_g (lw_at lw_m6 36 rfl) rfl
theorem q1336 : (Jvm.Cond.lays "java/lang/NegativeArraySizeException" "java/lang/Throwable" "backtrace" "Ljava/lang/Object;") ∈ lw_all := lw_g (lw_at lw_m6 37 rfl) rfl
theorem q1337 : (Jvm.Cond.lays "java/lang/NegativeArraySizeException" "java/lang/Throwable" "detailMessage" "Ljava/lang/String;") ∈ lw_all := lw_g (lw_at lw_m6 38 rfl) rfl
theorem q1338 : (Jvm.Cond.lays "java/lang/NegativeArraySizeException" "java/lang/Throwable" "cause" "Ljava/lang/Throwable;") ∈ lw_all := lw_g (lw_at lw_m6 39 rfl) rfl
theorem q1339 : (Jvm.Cond.lays "java/lang/NegativeArraySizeException" "java/lang/Throwable" "stackTrace" "[Ljava/lang/StackTraceElement;") ∈ lw_all := lw_g (lw_at lw_m6 40 rfl) rfl
theorem q1340 : (Jvm.Cond.lays "java/lang/NegativeArraySizeException" "java/lang/Throwable" "depth" "I") ∈ lw_all := lw_g (lw_at lw_m6 41 rfl) rfl
theorem q1341 : (Jvm.Cond.lays "java/lang/NegativeArraySizeException" "java/lang/Throwable" "suppressedExceptions" "Ljava/util/List;") ∈ lw_all := lw_g (lw_at lw_m6 42 rfl) rfl
theorem q1342 : (Jvm.Cond.superclass "java/lang/NegativeArraySizeException" "java/lang/RuntimeException") ∈ lw_all := lw_g (lw_at lw_m6 43 rfl) rfl
theorem q1343 : (Jvm.Cond.castable "java/lang/NegativeArraySizeException" "java/lang/NegativeArraySizeException") ∈ lw_tbl := lw_at lw_m6 44 rfl
theorem q1344 : (Jvm.Cond.selects "java/lang/NegativeArraySizeException" ({ cls := "java/lang/Throwable", name := "fillInStackTrace", desc := "(I)Ljava/lang/Throwable;" } : Jvm.MethodName) ({ cls := "java/lang/Throwable", name := "fillInStackTrace", desc := "(I)Ljava/lang/Throwable;" } : Jvm.MethodName)) ∈ lw_all := lw_g (lw_at lw_m6 45 rfl) rfl
theorem in_J14 : ∀ w ∈ wsJ140, w ∈ lw_all := lw_in wsJ140 [1336, 1337, 1338, 1339, 1340, 1341] (by decide +kernel) (by decide +kernel)
/-! PromiseRoofs$Row -/
def RX23 : String := "PromiseRoofs$Row"
abbrev cX23_init : ByteArray := prog_22_method_1_code
def yX23_init : MethodName := ⟨RX23, "<init>", "()V"⟩
theorem q138 : (Jvm.Cond.initialized "PromiseRoofs$Row") ∈ lw_all := lw_g (lw_at lw_m1 39 rfl) rfl
theorem q1353 : (Jvm.Cond.instanceMethod ({ cls := "PromiseRoofs$Row", name := "<init>", desc := "()V" } : Jvm.MethodName)) ∈ lw_all := lw_g (lw_at lw_m6 54 rfl) rfl
theorem q1354 : (Jvm.Cond.code ({ cls := "PromiseRoofs$Row", name := "<init>", desc := "()V" } : Jvm.MethodName) prog_22_method_1_code (1 : Nat) (Option.none : Option Jvm.ClassFile.FieldType)) ∈ lw_all := lw_g (lw_at lw_m6 55 rfl) rfl
theorem q1355 : (Jvm.Cond.methodLinkNest "PromiseRoofs$Row" (1 : Nat) ({ cls := "PromiseRoofs$Held", name := "<init>", desc := "()V" } : Jvm.MethodName) "PromiseRoofs") ∈ lw_tbl := lw_at lw_m6 56 rfl
theorem q1409 : (Jvm.Cond.declares ({ cls := "PromiseRoofs$Row", name := "put", desc := "(IJ)Z" } : Jvm.MethodName)) ∈ lw_tbl := lw_at lw_m6 110 rfl
theorem q1410 : (Jvm.Cond.sameMethod "PromiseRoofs$Row" "PromiseRoofs$Row" "put" "(IJ)Z") ∈ lw_all := lw_g (lw_at lw_m6 111 rfl) rfl
theorem q1432 : (Jvm.Cond.declares ({ cls := "PromiseRoofs$Row", name := "at", desc := "(I)J" } : Jvm.MethodName)) ∈ lw_tbl := lw_at lw_m6 133 rfl
theorem q1433 : (Jvm.Cond.sameMethod "PromiseRoofs$Row" "PromiseRoofs$Row" "at" "(I)J") ∈ lw_all := lw_g (lw_at lw_m6 134 rfl) rfl
theorem q1452 : (Jvm.Cond.declares ({ cls := "PromiseRoofs$Row", name := "copy", desc := "(ILPromiseRoofs$Row;II)V" } : Jvm.MethodName)) ∈ lw_tbl := lw_at lw_m6 153 rfl
theorem q1453 : (Jvm.Cond.sameMethod "PromiseRoofs$Row" "PromiseRoofs$Row" "copy" "(ILPromiseRoofs$Row;II)V") ∈ lw_all := lw_g (lw_at lw_m6 154 rfl) rfl
/-! PromiseRoofs$ByteRow -/
def RX24 : String := "PromiseRoofs$ByteRow"
def TX24 : u_T := fun k => match k with
  | _ => ("PromiseRoofs$ByteRow", "items", "[B", true)
def tyX24 : Nat → FieldType := fun k => match k with
  | _ => .array .byte
abbrev wsX240 : List Cond := u_ws RX24 TX24 1
theorem nmX24 : ∀ a, a < 1 → ∀ b, b < 1 → a ≠ b → (TX24 a).2.1 ≠ (TX24 b).2.1 := by decide +kernel
theorem tyX24_ok : ∀ k, k < 1 → parseFieldDescriptor (TX24 k).2.2.1 = some (tyX24 k) := by decide +kernel
abbrev cX24_at : ByteArray := prog_4_method_4_code
def yX24_at : MethodName := ⟨RX24, "at", "(I)J"⟩
abbrev cX24_size : ByteArray := prog_4_method_3_code
def yX24_size : MethodName := ⟨RX24, "size", "()I"⟩
abbrev cX24_init : ByteArray := prog_4_method_1_code
def yX24_init : MethodName := ⟨RX24, "<init>", "(I)V"⟩
abbrev cX24_put : ByteArray := prog_4_method_5_code
def yX24_put : MethodName := ⟨RX24, "put", "(IJ)Z"⟩
abbrev cX24_copy : ByteArray := prog_4_method_6_code
def yX24_copy : MethodName := ⟨RX24, "copy", "(ILPromiseRoofs$Row;II)V"⟩
theorem q139 : (Jvm.Cond.initialized "PromiseRoofs$ByteRow") ∈ lw_all := lw_g (lw_at lw_m1 40 rfl) rfl
theorem q498 : (Jvm.Cond.instanceMethod ({ cls := "PromiseRoofs$ByteRow", name := "at", desc := "(I)J" } : Jvm.MethodName)) ∈ lw_all := lw_g (lw_at lw_m2 159 rfl) rfl
theorem q499 : (Jvm.Cond.selects "PromiseRoofs$ByteRow" ({ cls := "PromiseRoofs$ByteRow", name := "at", desc := "(I)J" } : Jvm.MethodName) ({ cls := "PromiseRoofs$ByteRow", name := "at", desc := "(I)J" } : Jvm.MethodName)) ∈ lw_all := lw_g (lw_at lw_m2 160 rfl) rfl
theorem q500 : (Jvm.Cond.code ({ cls := "PromiseRoofs$ByteRow", name := "at", desc := "(I)J" } : Jvm.MethodName) prog_4_method_4_code (2 : Nat) (Option.some Jvm.ClassFile.FieldType.long)) ∈ lw_all := lw_g (lw_at lw_m2 161 rfl) rfl
theorem q983 : (Jvm.Cond.instanceMethod ({ cls := "PromiseRoofs$ByteRow", name := "size", desc := "()I" } : Jvm.MethodName)) ∈ lw_all := lw_g (lw_at lw_m4 164 rfl) rfl
theorem q984 : (Jvm.Cond.selects "PromiseRoofs$ByteRow" ({ cls := "PromiseRoofs$ByteRow", name := "size", desc := "()I" } : Jvm.MethodName) ({ cls := "PromiseRoofs$ByteRow", name := "size", desc := "()I" } : Jvm.MethodName)) ∈ lw_all := lw_g (lw_at lw_m4 165 rfl) rfl
theorem q985 : (Jvm.Cond.code ({ cls := "PromiseRoofs$ByteRow", name := "size", desc := "()I" } : Jvm.MethodName) prog_4_method_3_code (1 : Nat) (Option.some Jvm.ClassFile.FieldType.int)) ∈ lw_all := lw_g (lw_at lw_m4 166 rfl) rfl
theorem q1348 : (Jvm.Cond.instantiable "PromiseRoofs$ByteRow" (1 : Nat)) ∈ lw_all := lw_g (lw_at lw_m6 49 rfl) rfl
theorem q1350 : (Jvm.Cond.instanceMethod ({ cls := "PromiseRoofs$ByteRow", name := "<init>", desc := "(I)V" } : Jvm.MethodName)) ∈ lw_all := lw_g (lw_at lw_m6 51 rfl) rfl
theorem q1351 : (Jvm.Cond.code ({ cls := "PromiseRoofs$ByteRow", name := "<init>", desc := "(I)V" } : Jvm.MethodName) prog_4_method_1_code (2 : Nat) (Option.none : Option Jvm.ClassFile.FieldType)) ∈ lw_all := lw_g (lw_at lw_m6 52 rfl) rfl
theorem q1352 : (Jvm.Cond.methodLinkNest "PromiseRoofs$ByteRow" (1 : Nat) ({ cls := "PromiseRoofs$Row", name := "<init>", desc := "()V" } : Jvm.MethodName) "PromiseRoofs") ∈ lw_tbl := lw_at lw_m6 53 rfl
theorem q1356 : (Jvm.Cond.fieldLink "PromiseRoofs$ByteRow" (7 : Nat) "PromiseRoofs$ByteRow" "items" "[B") ∈ lw_all := lw_g (lw_at lw_m6 57 rfl) rfl
theorem q1357 : (Jvm.Cond.laysFinal "PromiseRoofs$ByteRow" "PromiseRoofs$ByteRow" "items" "[B") ∈ lw_all := lw_g (lw_at lw_m6 58 rfl) rfl
theorem q1358 : (Jvm.Cond.soleField "PromiseRoofs$ByteRow" "items") ∈ lw_all := lw_g (lw_at lw_m6 59 rfl) rfl
theorem q1359 : (Jvm.Cond.superclass "PromiseRoofs$ByteRow" "PromiseRoofs$Row") ∈ lw_all := lw_g (lw_at lw_m6 60 rfl) rfl
theorem q1414 : (Jvm.Cond.selects "PromiseRoofs$ByteRow" ({ cls := "PromiseRoofs$Row", name := "put", desc := "(IJ)Z" } : Jvm.MethodName) ({ cls := "PromiseRoofs$ByteRow", name := "put", desc := "(IJ)Z" } : Jvm.MethodName)) ∈ lw_all := lw_g (lw_at lw_m6 115 rfl) rfl
theorem q1415 : (Jvm.Cond.instanceMethod ({ cls := "PromiseRoofs$ByteRow", name := "put", desc := "(IJ)Z" } : Jvm.MethodName)) ∈ lw_all := lw_g (lw_at lw_m6 116 rfl) rfl
theorem q1416 : (Jvm.Cond.code ({ cls := "PromiseRoofs$ByteRow", name := "put", desc := "(IJ)Z" } : Jvm.MethodName) prog_4_method_5_code (4 : Nat) (Option.some Jvm.ClassFile.FieldType.boolean)) ∈ lw_all := lw_g (lw_at lw_m6 117 rfl) rfl
theorem q1437 : (Jvm.Cond.selects "PromiseRoofs$ByteRow" ({ cls := "PromiseRoofs$Row", name := "at", desc := "(I)J" } : Jvm.MethodName) ({ cls := "PromiseRoofs$ByteRow", name := "at", desc := "(I)J" } : Jvm.MethodName)) ∈ lw_all := lw_g (lw_at lw_m6 138 rfl) rfl
theorem q1461 : (Jvm.Cond.selects "PromiseRoofs$ByteRow" ({ cls := "PromiseRoofs$Row", name := "copy", desc := "(ILPromiseRoofs$Row;II)V" } : Jvm.MethodName) ({ cls := "PromiseRoofs$ByteRow", name := "copy", desc := "(ILPromiseRoofs$Row;II)V" } : Jvm.MethodName)) ∈ lw_all := lw_g (lw_at lw_m6 162 rfl) rfl
theorem q1462 : (Jvm.Cond.instanceMethod ({ cls := "PromiseRoofs$ByteRow", name := "copy", desc := "(ILPromiseRoofs$Row;II)V" } : Jvm.MethodName)) ∈ lw_all := lw_g (lw_at lw_m6 163 rfl) rfl
theorem q1463 : (Jvm.Cond.code ({ cls := "PromiseRoofs$ByteRow", name := "copy", desc := "(ILPromiseRoofs$Row;II)V" } : Jvm.MethodName) prog_4_method_6_code (5 : Nat) (Option.none : Option Jvm.ClassFile.FieldType)) ∈ lw_all := lw_g (lw_at lw_m6 164 rfl) rfl
theorem q1464 : (Jvm.Cond.classLink "PromiseRoofs$ByteRow" (8 : Nat) "PromiseRoofs$ByteRow") ∈ lw_all := lw_g (lw_at lw_m6 165 rfl) rfl
theorem q1465 : (Jvm.Cond.methodLink "PromiseRoofs$ByteRow" (13 : Nat) ({ cls := "java/lang/System", name := "arraycopy", desc := "(Ljava/lang/Object;ILjava/lang/Object;II)V" } : Jvm.MethodName)) ∈ lw_all := lw_g (lw_at lw_m6 166 rfl) rfl
theorem q2071 : (Jvm.Cond.castable "PromiseRoofs$ByteRow" "PromiseRoofs$Row") ∈ lw_tbl := lw_at lw_m9 52 rfl
theorem q2090 : (Jvm.Cond.castable "PromiseRoofs$ByteRow" "PromiseRoofs$Held") ∈ lw_tbl := lw_at lw_m9 71 rfl
theorem in_X24 : ∀ w ∈ wsX240, w ∈ lw_all := lw_in wsX240 [1357] (by decide +kernel) (by decide +kernel)
/-! PromiseRoofs$ShortRow -/
def RX25 : String := "PromiseRoofs$ShortRow"
def TX25 : u_T := fun k => match k with
  | _ => ("PromiseRoofs$ShortRow", "items", "[S", true)
def tyX25 : Nat → FieldType := fun k => match k with
  | _ => .array .short
abbrev wsX250 : List Cond := u_ws RX25 TX25 1
theorem nmX25 : ∀ a, a < 1 → ∀ b, b < 1 → a ≠ b → (TX25 a).2.1 ≠ (TX25 b).2.1 := by decide +kernel
theorem tyX25_ok : ∀ k, k < 1 → parseFieldDescriptor (TX25 k).2.2.1 = some (tyX25 k) := by decide +kernel
abbrev cX25_init : ByteArray := prog_24_method_1_code
def yX25_init : MethodName := ⟨RX25, "<init>", "(I)V"⟩
abbrev cX25_put : ByteArray := prog_24_method_5_code
def yX25_put : MethodName := ⟨RX25, "put", "(IJ)Z"⟩
abbrev cX25_at : ByteArray := prog_24_method_4_code
def yX25_at : MethodName := ⟨RX25, "at", "(I)J"⟩
abbrev cX25_copy : ByteArray := prog_24_method_6_code
def yX25_copy : MethodName := ⟨RX25, "copy", "(ILPromiseRoofs$Row;II)V"⟩
theorem q140 : (Jvm.Cond.initialized "PromiseRoofs$ShortRow") ∈ lw_all := lw_g (lw_at lw_m1 41 rfl) rfl
theorem q1361 : (Jvm.Cond.instantiable "PromiseRoofs$ShortRow" (1 : Nat)) ∈ lw_all := lw_g (lw_at lw_m6 62 rfl) rfl
theorem q1363 : (Jvm.Cond.instanceMethod ({ cls := "PromiseRoofs$ShortRow", name := "<init>", desc := "(I)V" } : Jvm.MethodName)) ∈ lw_all := lw_g (lw_at lw_m6 64 rfl) rfl
theorem q1364 : (Jvm.Cond.code ({ cls := "PromiseRoofs$ShortRow", name := "<init>", desc := "(I)V" } : Jvm.MethodName) prog_24_method_1_code (2 : Nat) (Option.none : Option Jvm.ClassFile.FieldType)) ∈ lw_all := lw_g (lw_at lw_m6 65 rfl) rfl
theorem q1365 : (Jvm.Cond.methodLinkNest "PromiseRoofs$ShortRow" (1 : Nat) ({ cls := "PromiseRoofs$Row", name := "<init>", desc := "()V" } : Jvm.MethodName) "PromiseRoofs") ∈ lw_tbl := lw_at lw_m6 66 rfl
theorem q1366 : (Jvm.Cond.fieldLink "PromiseRoofs$ShortRow" (7 : Nat) "PromiseRoofs$ShortRow" "items" "[S") ∈ lw_all := lw_g (lw_at lw_m6 67 rfl) rfl
theorem q1367 : (Jvm.Cond.laysFinal "PromiseRoofs$ShortRow" "PromiseRoofs$ShortRow" "items" "[S") ∈ lw_all := lw_g (lw_at lw_m6 68 rfl) rfl
theorem q1368 : (Jvm.Cond.soleField "PromiseRoofs$ShortRow" "items") ∈ lw_all := lw_g (lw_at lw_m6 69 rfl) rfl
theorem q1369 : (Jvm.Cond.superclass "PromiseRoofs$ShortRow" "PromiseRoofs$Row") ∈ lw_all := lw_g (lw_at lw_m6 70 rfl) rfl
theorem q1423 : (Jvm.Cond.selects "PromiseRoofs$ShortRow" ({ cls := "PromiseRoofs$Row", name := "put", desc := "(IJ)Z" } : Jvm.MethodName) ({ cls := "PromiseRoofs$ShortRow", name := "put", desc := "(IJ)Z" } : Jvm.MethodName)) ∈ lw_all := lw_g (lw_at lw_m6 124 rfl) rfl
theorem q1424 : (Jvm.Cond.instanceMethod ({ cls := "PromiseRoofs$ShortRow", name := "put", desc := "(IJ)Z" } : Jvm.MethodName)) ∈ lw_all := lw_g (lw_at lw_m6 125 rfl) rfl
theorem q1425 : (Jvm.Cond.code ({ cls := "PromiseRoofs$ShortRow", name := "put", desc := "(IJ)Z" } : Jvm.MethodName) prog_24_method_5_code (4 : Nat) (Option.some Jvm.ClassFile.FieldType.boolean)) ∈ lw_all := lw_g (lw_at lw_m6 126 rfl) rfl
theorem q1444 : (Jvm.Cond.selects "PromiseRoofs$ShortRow" ({ cls := "PromiseRoofs$Row", name := "at", desc := "(I)J" } : Jvm.MethodName) ({ cls := "PromiseRoofs$ShortRow", name := "at", desc := "(I)J" } : Jvm.MethodName)) ∈ lw_all := lw_g (lw_at lw_m6 145 rfl) rfl
theorem q1445 : (Jvm.Cond.instanceMethod ({ cls := "PromiseRoofs$ShortRow", name := "at", desc := "(I)J" } : Jvm.MethodName)) ∈ lw_all := lw_g (lw_at lw_m6 146 rfl) rfl
theorem q1446 : (Jvm.Cond.code ({ cls := "PromiseRoofs$ShortRow", name := "at", desc := "(I)J" } : Jvm.MethodName) prog_24_method_4_code (2 : Nat) (Option.some Jvm.ClassFile.FieldType.long)) ∈ lw_all := lw_g (lw_at lw_m6 147 rfl) rfl
theorem q1476 : (Jvm.Cond.selects "PromiseRoofs$ShortRow" ({ cls := "PromiseRoofs$Row", name := "copy", desc := "(ILPromiseRoofs$Row;II)V" } : Jvm.MethodName) ({ cls := "PromiseRoofs$ShortRow", name := "copy", desc := "(ILPromiseRoofs$Row;II)V" } : Jvm.MethodName)) ∈ lw_all := lw_g (lw_at lw_m6 177 rfl) rfl
theorem q1477 : (Jvm.Cond.instanceMethod ({ cls := "PromiseRoofs$ShortRow", name := "copy", desc := "(ILPromiseRoofs$Row;II)V" } : Jvm.MethodName)) ∈ lw_all := lw_g (lw_at lw_m6 178 rfl) rfl
theorem q1478 : (Jvm.Cond.code ({ cls := "PromiseRoofs$ShortRow", name := "copy", desc := "(ILPromiseRoofs$Row;II)V" } : Jvm.MethodName) prog_24_method_6_code (5 : Nat) (Option.none : Option Jvm.ClassFile.FieldType)) ∈ lw_all := lw_g (lw_at lw_m6 179 rfl) rfl
theorem q1479 : (Jvm.Cond.classLink "PromiseRoofs$ShortRow" (8 : Nat) "PromiseRoofs$ShortRow") ∈ lw_all := lw_g (lw_at lw_m6 180 rfl) rfl
theorem q1480 : (Jvm.Cond.methodLink "PromiseRoofs$ShortRow" (13 : Nat) ({ cls := "java/lang/System", name := "arraycopy", desc := "(Ljava/lang/Object;ILjava/lang/Object;II)V" } : Jvm.MethodName)) ∈ lw_all := lw_g (lw_at lw_m6 181 rfl) rfl
theorem q2074 : (Jvm.Cond.castable "PromiseRoofs$ShortRow" "PromiseRoofs$Row") ∈ lw_tbl := lw_at lw_m9 55 rfl
theorem q2091 : (Jvm.Cond.castable "PromiseRoofs$ShortRow" "PromiseRoofs$Held") ∈ lw_tbl := lw_at lw_m9 72 rfl
theorem in_X25 : ∀ w ∈ wsX250, w ∈ lw_all := lw_in wsX250 [1367] (by decide +kernel) (by decide +kernel)
/-! PromiseRoofs$IntRow -/
def RX26 : String := "PromiseRoofs$IntRow"
def TX26 : u_T := fun k => match k with
  | _ => ("PromiseRoofs$IntRow", "items", "[I", true)
def tyX26 : Nat → FieldType := fun k => match k with
  | _ => .array .int
abbrev wsX260 : List Cond := u_ws RX26 TX26 1
theorem nmX26 : ∀ a, a < 1 → ∀ b, b < 1 → a ≠ b → (TX26 a).2.1 ≠ (TX26 b).2.1 := by decide +kernel
theorem tyX26_ok : ∀ k, k < 1 → parseFieldDescriptor (TX26 k).2.2.1 = some (tyX26 k) := by decide +kernel
abbrev cX26_init : ByteArray := prog_10_method_1_code
def yX26_init : MethodName := ⟨RX26, "<init>", "(I)V"⟩
abbrev cX26_put : ByteArray := prog_10_method_5_code
def yX26_put : MethodName := ⟨RX26, "put", "(IJ)Z"⟩
abbrev cX26_at : ByteArray := prog_10_method_4_code
def yX26_at : MethodName := ⟨RX26, "at", "(I)J"⟩
abbrev cX26_copy : ByteArray := prog_10_method_6_code
def yX26_copy : MethodName := ⟨RX26, "copy", "(ILPromiseRoofs$Row;II)V"⟩
theorem q141 : (Jvm.Cond.initialized "PromiseRoofs$IntRow") ∈ lw_all := lw_g (lw_at lw_m1 42 rfl) rfl
theorem q1372 : (Jvm.Cond.instantiable "PromiseRoofs$IntRow" (1 : Nat)) ∈ lw_all := lw_g (lw_at lw_m6 73 rfl) rfl
theorem q1374 : (Jvm.Cond.instanceMethod ({ cls := "PromiseRoofs$IntRow", name := "<init>", desc := "(I)V" } : Jvm.MethodName)) ∈ lw_all := lw_g (lw_at lw_m6 75 rfl) rfl
theorem q1375 : (Jvm.Cond.code ({ cls := "PromiseRoofs$IntRow", name := "<init>", desc := "(I)V" } : Jvm.MethodName) prog_10_method_1_code (2 : Nat) (Option.none : Option Jvm.ClassFile.FieldType)) ∈ lw_all := lw_g (lw_at lw_m6 76 rfl) rfl
theorem q1376 : (Jvm.Cond.methodLinkNest "PromiseRoofs$IntRow" (1 : Nat) ({ cls := "PromiseRoofs$Row", name := "<init>", desc := "()V" } : Jvm.MethodName) "PromiseRoofs") ∈ lw_tbl := lw_at lw_m6 77 rfl
theorem q1377 : (Jvm.Cond.fieldLink "PromiseRoofs$IntRow" (7 : Nat) "PromiseRoofs$IntRow" "items" "[I") ∈ lw_all := lw_g (lw_at lw_m6 78 rfl) rfl
theorem q1378 : (Jvm.Cond.laysFinal "PromiseRoofs$IntRow" "PromiseRoofs$IntRow" "items" "[I") ∈ lw_all := lw_g (lw_at lw_m6 79 rfl) rfl
theorem q1379 : (Jvm.Cond.soleField "PromiseRoofs$IntRow" "items") ∈ lw_all := lw_g (lw_at lw_m6 80 rfl) rfl
theorem q1380 : (Jvm.Cond.superclass "PromiseRoofs$IntRow" "PromiseRoofs$Row") ∈ lw_all := lw_g (lw_at lw_m6 81 rfl) rfl
theorem q1417 : (Jvm.Cond.selects "PromiseRoofs$IntRow" ({ cls := "PromiseRoofs$Row", name := "put", desc := "(IJ)Z" } : Jvm.MethodName) ({ cls := "PromiseRoofs$IntRow", name := "put", desc := "(IJ)Z" } : Jvm.MethodName)) ∈ lw_all := lw_g (lw_at lw_m6 118 rfl) rfl
theorem q1418 : (Jvm.Cond.instanceMethod ({ cls := "PromiseRoofs$IntRow", name := "put", desc := "(IJ)Z" } : Jvm.MethodName)) ∈ lw_all := lw_g (lw_at lw_m6 119 rfl) rfl
theorem q1419 : (Jvm.Cond.code ({ cls := "PromiseRoofs$IntRow", name := "put", desc := "(IJ)Z" } : Jvm.MethodName) prog_10_method_5_code (4 : Nat) (Option.some Jvm.ClassFile.FieldType.boolean)) ∈ lw_all := lw_g (lw_at lw_m6 120 rfl) rfl
theorem q1438 : (Jvm.Cond.selects "PromiseRoofs$IntRow" ({ cls := "PromiseRoofs$Row", name := "at", desc := "(I)J" } : Jvm.MethodName) ({ cls := "PromiseRoofs$IntRow", name := "at", desc := "(I)J" } : Jvm.MethodName)) ∈ lw_all := lw_g (lw_at lw_m6 139 rfl) rfl
theorem q1439 : (Jvm.Cond.instanceMethod ({ cls := "PromiseRoofs$IntRow", name := "at", desc := "(I)J" } : Jvm.MethodName)) ∈ lw_all := lw_g (lw_at lw_m6 140 rfl) rfl
theorem q1440 : (Jvm.Cond.code ({ cls := "PromiseRoofs$IntRow", name := "at", desc := "(I)J" } : Jvm.MethodName) prog_10_method_4_code (2 : Nat) (Option.some Jvm.ClassFile.FieldType.long)) ∈ lw_all := lw_g (lw_at lw_m6 141 rfl) rfl
theorem q1466 : (Jvm.Cond.selects "PromiseRoofs$IntRow" ({ cls := "PromiseRoofs$Row", name := "copy", desc := "(ILPromiseRoofs$Row;II)V" } : Jvm.MethodName) ({ cls := "PromiseRoofs$IntRow", name := "copy", desc := "(ILPromiseRoofs$Row;II)V" } : Jvm.MethodName)) ∈ lw_all := lw_g (lw_at lw_m6 167 rfl) rfl
theorem q1467 : (Jvm.Cond.instanceMethod ({ cls := "PromiseRoofs$IntRow", name := "copy", desc := "(ILPromiseRoofs$Row;II)V" } : Jvm.MethodName)) ∈ lw_all := lw_g (lw_at lw_m6 168 rfl) rfl
theorem q1468 : (Jvm.Cond.code ({ cls := "PromiseRoofs$IntRow", name := "copy", desc := "(ILPromiseRoofs$Row;II)V" } : Jvm.MethodName) prog_10_method_6_code (5 : Nat) (Option.none : Option Jvm.ClassFile.FieldType)) ∈ lw_all := lw_g (lw_at lw_m6 169 rfl) rfl
theorem q1469 : (Jvm.Cond.classLink "PromiseRoofs$IntRow" (8 : Nat) "PromiseRoofs$IntRow") ∈ lw_all := lw_g (lw_at lw_m6 170 rfl) rfl
theorem q1470 : (Jvm.Cond.methodLink "PromiseRoofs$IntRow" (13 : Nat) ({ cls := "java/lang/System", name := "arraycopy", desc := "(Ljava/lang/Object;ILjava/lang/Object;II)V" } : Jvm.MethodName)) ∈ lw_all := lw_g (lw_at lw_m6 171 rfl) rfl
theorem q2072 : (Jvm.Cond.castable "PromiseRoofs$IntRow" "PromiseRoofs$Row") ∈ lw_tbl := lw_at lw_m9 53 rfl
theorem q2092 : (Jvm.Cond.castable "PromiseRoofs$IntRow" "PromiseRoofs$Held") ∈ lw_tbl := lw_at lw_m9 73 rfl
theorem in_X26 : ∀ w ∈ wsX260, w ∈ lw_all := lw_in wsX260 [1378] (by decide +kernel) (by decide +kernel)
/-! PromiseRoofs$LongRow -/
def RX27 : String := "PromiseRoofs$LongRow"
def TX27 : u_T := fun k => match k with
  | _ => ("PromiseRoofs$LongRow", "items", "[J", true)
def tyX27 : Nat → FieldType := fun k => match k with
  | _ => .array .long
abbrev wsX270 : List Cond := u_ws RX27 TX27 1
theorem nmX27 : ∀ a, a < 1 → ∀ b, b < 1 → a ≠ b → (TX27 a).2.1 ≠ (TX27 b).2.1 := by decide +kernel
theorem tyX27_ok : ∀ k, k < 1 → parseFieldDescriptor (TX27 k).2.2.1 = some (tyX27 k) := by decide +kernel
abbrev cX27_init : ByteArray := prog_13_method_1_code
def yX27_init : MethodName := ⟨RX27, "<init>", "(I)V"⟩
abbrev cX27_put : ByteArray := prog_13_method_5_code
def yX27_put : MethodName := ⟨RX27, "put", "(IJ)Z"⟩
abbrev cX27_at : ByteArray := prog_13_method_4_code
def yX27_at : MethodName := ⟨RX27, "at", "(I)J"⟩
abbrev cX27_copy : ByteArray := prog_13_method_6_code
def yX27_copy : MethodName := ⟨RX27, "copy", "(ILPromiseRoofs$Row;II)V"⟩
theorem q142 : (Jvm.Cond.initialized "PromiseRoofs$LongRow") ∈ lw_all := lw_g (lw_at lw_m1 43 rfl) rfl
theorem q1382 : (Jvm.Cond.instantiable "PromiseRoofs$LongRow" (1 : Nat)) ∈ lw_all := lw_g (lw_at lw_m6 83 rfl) rfl
theorem q1384 : (Jvm.Cond.instanceMethod ({ cls := "PromiseRoofs$LongRow", name := "<init>", desc := "(I)V" } : Jvm.MethodName)) ∈ lw_all := lw_g (lw_at lw_m6 85 rfl) rfl
theorem q1385 : (Jvm.Cond.code ({ cls := "PromiseRoofs$LongRow", name := "<init>", desc := "(I)V" } : Jvm.MethodName) prog_13_method_1_code (2 : Nat) (Option.none : Option Jvm.ClassFile.FieldType)) ∈ lw_all := lw_g (lw_at lw_m6 86 rfl) rfl
theorem q1386 : (Jvm.Cond.methodLinkNest "PromiseRoofs$LongRow" (1 : Nat) ({ cls := "PromiseRoofs$Row", name := "<init>", desc := "()V" } : Jvm.MethodName) "PromiseRoofs") ∈ lw_tbl := lw_at lw_m6 87 rfl
theorem q1387 : (Jvm.Cond.fieldLink "PromiseRoofs$LongRow" (7 : Nat) "PromiseRoofs$LongRow" "items" "[J") ∈ lw_all := lw_g (lw_at lw_m6 88 rfl) rfl
theorem q1388 : (Jvm.Cond.laysFinal "PromiseRoofs$LongRow" "PromiseRoofs$LongRow" "items" "[J") ∈ lw_all := lw_g (lw_at lw_m6 89 rfl) rfl
theorem q1389 : (Jvm.Cond.soleField "PromiseRoofs$LongRow" "items") ∈ lw_all := lw_g (lw_at lw_m6 90 rfl) rfl
theorem q1390 : (Jvm.Cond.superclass "PromiseRoofs$LongRow" "PromiseRoofs$Row") ∈ lw_all := lw_g (lw_at lw_m6 91 rfl) rfl
theorem q1420 : (Jvm.Cond.selects "PromiseRoofs$LongRow" ({ cls := "PromiseRoofs$Row", name := "put", desc := "(IJ)Z" } : Jvm.MethodName) ({ cls := "PromiseRoofs$LongRow", name := "put", desc := "(IJ)Z" } : Jvm.MethodName)) ∈ lw_all := lw_g (lw_at lw_m6 121 rfl) rfl
theorem q1421 : (Jvm.Cond.instanceMethod ({ cls := "PromiseRoofs$LongRow", name := "put", desc := "(IJ)Z" } : Jvm.MethodName)) ∈ lw_all := lw_g (lw_at lw_m6 122 rfl) rfl
theorem q1422 : (Jvm.Cond.code ({ cls := "PromiseRoofs$LongRow", name := "put", desc := "(IJ)Z" } : Jvm.MethodName) prog_13_method_5_code (4 : Nat) (Option.some Jvm.ClassFile.FieldType.boolean)) ∈ lw_all := lw_g (lw_at lw_m6 123 rfl) rfl
theorem q1441 : (Jvm.Cond.selects "PromiseRoofs$LongRow" ({ cls := "PromiseRoofs$Row", name := "at", desc := "(I)J" } : Jvm.MethodName) ({ cls := "PromiseRoofs$LongRow", name := "at", desc := "(I)J" } : Jvm.MethodName)) ∈ lw_all := lw_g (lw_at lw_m6 142 rfl) rfl
theorem q1442 : (Jvm.Cond.instanceMethod ({ cls := "PromiseRoofs$LongRow", name := "at", desc := "(I)J" } : Jvm.MethodName)) ∈ lw_all := lw_g (lw_at lw_m6 143 rfl) rfl
theorem q1443 : (Jvm.Cond.code ({ cls := "PromiseRoofs$LongRow", name := "at", desc := "(I)J" } : Jvm.MethodName) prog_13_method_4_code (2 : Nat) (Option.some Jvm.ClassFile.FieldType.long)) ∈ lw_all := lw_g (lw_at lw_m6 144 rfl) rfl
theorem q1471 : (Jvm.Cond.selects "PromiseRoofs$LongRow" ({ cls := "PromiseRoofs$Row", name := "copy", desc := "(ILPromiseRoofs$Row;II)V" } : Jvm.MethodName) ({ cls := "PromiseRoofs$LongRow", name := "copy", desc := "(ILPromiseRoofs$Row;II)V" } : Jvm.MethodName)) ∈ lw_all := lw_g (lw_at lw_m6 172 rfl) rfl
theorem q1472 : (Jvm.Cond.instanceMethod ({ cls := "PromiseRoofs$LongRow", name := "copy", desc := "(ILPromiseRoofs$Row;II)V" } : Jvm.MethodName)) ∈ lw_all := lw_g (lw_at lw_m6 173 rfl) rfl
theorem q1473 : (Jvm.Cond.code ({ cls := "PromiseRoofs$LongRow", name := "copy", desc := "(ILPromiseRoofs$Row;II)V" } : Jvm.MethodName) prog_13_method_6_code (5 : Nat) (Option.none : Option Jvm.ClassFile.FieldType)) ∈ lw_all := lw_g (lw_at lw_m6 174 rfl) rfl
theorem q1474 : (Jvm.Cond.classLink "PromiseRoofs$LongRow" (8 : Nat) "PromiseRoofs$LongRow") ∈ lw_all := lw_g (lw_at lw_m6 175 rfl) rfl
theorem q1475 : (Jvm.Cond.methodLink "PromiseRoofs$LongRow" (13 : Nat) ({ cls := "java/lang/System", name := "arraycopy", desc := "(Ljava/lang/Object;ILjava/lang/Object;II)V" } : Jvm.MethodName)) ∈ lw_all := lw_g (lw_at lw_m6 176 rfl) rfl
theorem q2073 : (Jvm.Cond.castable "PromiseRoofs$LongRow" "PromiseRoofs$Row") ∈ lw_tbl := lw_at lw_m9 54 rfl
theorem q2093 : (Jvm.Cond.castable "PromiseRoofs$LongRow" "PromiseRoofs$Held") ∈ lw_tbl := lw_at lw_m9 74 rfl
theorem in_X27 : ∀ w ∈ wsX270, w ∈ lw_all := lw_in wsX270 [1388] (by decide +kernel) (by decide +kernel)
/-! PromiseRoofs$BooleanRow -/
def RX28 : String := "PromiseRoofs$BooleanRow"
def TX28 : u_T := fun k => match k with
  | _ => ("PromiseRoofs$BooleanRow", "items", "[Z", true)
def tyX28 : Nat → FieldType := fun k => match k with
  | _ => .array .boolean
abbrev wsX280 : List Cond := u_ws RX28 TX28 1
theorem nmX28 : ∀ a, a < 1 → ∀ b, b < 1 → a ≠ b → (TX28 a).2.1 ≠ (TX28 b).2.1 := by decide +kernel
theorem tyX28_ok : ∀ k, k < 1 → parseFieldDescriptor (TX28 k).2.2.1 = some (tyX28 k) := by decide +kernel
abbrev cX28_init : ByteArray := prog_3_method_1_code
def yX28_init : MethodName := ⟨RX28, "<init>", "(I)V"⟩
abbrev cX28_put : ByteArray := prog_3_method_5_code
def yX28_put : MethodName := ⟨RX28, "put", "(IJ)Z"⟩
abbrev cX28_at : ByteArray := prog_3_method_4_code
def yX28_at : MethodName := ⟨RX28, "at", "(I)J"⟩
abbrev cX28_copy : ByteArray := prog_3_method_6_code
def yX28_copy : MethodName := ⟨RX28, "copy", "(ILPromiseRoofs$Row;II)V"⟩
theorem q143 : (Jvm.Cond.initialized "PromiseRoofs$BooleanRow") ∈ lw_all := lw_g (lw_at lw_m1 44 rfl) rfl
theorem q1393 : (Jvm.Cond.instantiable "PromiseRoofs$BooleanRow" (1 : Nat)) ∈ lw_all := lw_g (lw_at lw_m6 94 rfl) rfl
theorem q1395 : (Jvm.Cond.instanceMethod ({ cls := "PromiseRoofs$BooleanRow", name := "<init>", desc := "(I)V" } : Jvm.MethodName)) ∈ lw_all := lw_g (lw_at lw_m6 96 rfl) rfl
theorem q1396 : (Jvm.Cond.code ({ cls := "PromiseRoofs$BooleanRow", name := "<init>", desc := "(I)V" } : Jvm.MethodName) prog_3_method_1_code (2 : Nat) (Option.none : Option Jvm.ClassFile.FieldType)) ∈ lw_all := lw_g (lw_at lw_m6 97 rfl) rfl
theorem q1397 : (Jvm.Cond.methodLinkNest "PromiseRoofs$BooleanRow" (1 : Nat) ({ cls := "PromiseRoofs$Row", name := "<init>", desc := "()V" } : Jvm.MethodName) "PromiseRoofs") ∈ lw_tbl := lw_at lw_m6 98 rfl
theorem q1398 : (Jvm.Cond.fieldLink "PromiseRoofs$BooleanRow" (7 : Nat) "PromiseRoofs$BooleanRow" "items" "[Z") ∈ lw_all := lw_g (lw_at lw_m6 99 rfl) rfl
theorem q1399 : (Jvm.Cond.laysFinal "PromiseRoofs$BooleanRow" "PromiseRoofs$BooleanRow" "items" "[Z") ∈ lw_all := lw_g (lw_at lw_m6 100 rfl) rfl
theorem q1400 : (Jvm.Cond.soleField "PromiseRoofs$BooleanRow" "items") ∈ lw_all := lw_g (lw_at lw_m6 101 rfl) rfl
theorem q1401 : (Jvm.Cond.superclass "PromiseRoofs$BooleanRow" "PromiseRoofs$Row") ∈ lw_all := lw_g (lw_at lw_m6 102 rfl) rfl
theorem q1411 : (Jvm.Cond.selects "PromiseRoofs$BooleanRow" ({ cls := "PromiseRoofs$Row", name := "put", desc := "(IJ)Z" } : Jvm.MethodName) ({ cls := "PromiseRoofs$BooleanRow", name := "put", desc := "(IJ)Z" } : Jvm.MethodName)) ∈ lw_all := lw_g (lw_at lw_m6 112 rfl) rfl
theorem q1412 : (Jvm.Cond.instanceMethod ({ cls := "PromiseRoofs$BooleanRow", name := "put", desc := "(IJ)Z" } : Jvm.MethodName)) ∈ lw_all := lw_g (lw_at lw_m6 113 rfl) rfl
theorem q1413 : (Jvm.Cond.code ({ cls := "PromiseRoofs$BooleanRow", name := "put", desc := "(IJ)Z" } : Jvm.MethodName) prog_3_method_5_code (4 : Nat) (Option.some Jvm.ClassFile.FieldType.boolean)) ∈ lw_all := lw_g (lw_at lw_m6 114 rfl) rfl
theorem q1434 : (Jvm.Cond.selects "PromiseRoofs$BooleanRow" ({ cls := "PromiseRoofs$Row", name := "at", desc := "(I)J" } : Jvm.MethodName) ({ cls := "PromiseRoofs$BooleanRow", name := "at", desc := "(I)J" } : Jvm.MethodName)) ∈ lw_all := lw_g (lw_at lw_m6 135 rfl) rfl
theorem q1435 : (Jvm.Cond.instanceMethod ({ cls := "PromiseRoofs$BooleanRow", name := "at", desc := "(I)J" } : Jvm.MethodName)) ∈ lw_all := lw_g (lw_at lw_m6 136 rfl) rfl
theorem q1436 : (Jvm.Cond.code ({ cls := "PromiseRoofs$BooleanRow", name := "at", desc := "(I)J" } : Jvm.MethodName) prog_3_method_4_code (2 : Nat) (Option.some Jvm.ClassFile.FieldType.long)) ∈ lw_all := lw_g (lw_at lw_m6 137 rfl) rfl
theorem q1454 : (Jvm.Cond.selects "PromiseRoofs$BooleanRow" ({ cls := "PromiseRoofs$Row", name := "copy", desc := "(ILPromiseRoofs$Row;II)V" } : Jvm.MethodName) ({ cls := "PromiseRoofs$BooleanRow", name := "copy", desc := "(ILPromiseRoofs$Row;II)V" } : Jvm.MethodName)) ∈ lw_all := lw_g (lw_at lw_m6 155 rfl) rfl
theorem q1455 : (Jvm.Cond.instanceMethod ({ cls := "PromiseRoofs$BooleanRow", name := "copy", desc := "(ILPromiseRoofs$Row;II)V" } : Jvm.MethodName)) ∈ lw_all := lw_g (lw_at lw_m6 156 rfl) rfl
theorem q1456 : (Jvm.Cond.code ({ cls := "PromiseRoofs$BooleanRow", name := "copy", desc := "(ILPromiseRoofs$Row;II)V" } : Jvm.MethodName) prog_3_method_6_code (5 : Nat) (Option.none : Option Jvm.ClassFile.FieldType)) ∈ lw_all := lw_g (lw_at lw_m6 157 rfl) rfl
theorem q1457 : (Jvm.Cond.classLink "PromiseRoofs$BooleanRow" (8 : Nat) "PromiseRoofs$BooleanRow") ∈ lw_all := lw_g (lw_at lw_m6 158 rfl) rfl
theorem q1458 : (Jvm.Cond.methodLink "PromiseRoofs$BooleanRow" (13 : Nat) ({ cls := "java/lang/System", name := "arraycopy", desc := "(Ljava/lang/Object;ILjava/lang/Object;II)V" } : Jvm.MethodName)) ∈ lw_all := lw_g (lw_at lw_m6 159 rfl) rfl
theorem q2070 : (Jvm.Cond.castable "PromiseRoofs$BooleanRow" "PromiseRoofs$Row") ∈ lw_tbl := lw_at lw_m9 51 rfl
theorem q2094 : (Jvm.Cond.castable "PromiseRoofs$BooleanRow" "PromiseRoofs$Held") ∈ lw_tbl := lw_at lw_m9 75 rfl
theorem in_X28 : ∀ w ∈ wsX280, w ∈ lw_all := lw_in wsX280 [1399] (by decide +kernel) (by decide +kernel)
/-! java/lang/Object -/
def RJ15 : String := "java/lang/Object"
abbrev cJ15_init : ByteArray := object_method_1_code
def yJ15_init : MethodName := ⟨RJ15, "<init>", "()V"⟩
theorem q151 : (Jvm.Cond.instanceMethod ({ cls := "java/lang/Object", name := "<init>", desc := "()V" } : Jvm.MethodName)) ∈ lw_all := lw_g (lw_at lw_m1 52 rfl) rfl
theorem q152 : (Jvm.Cond.code ({ cls := "java/lang/Object", name := "<init>", desc := "()V" } : Jvm.MethodName) object_method_1_code (1 : Nat) (Option.none : Option Jvm.ClassFile.FieldType)) ∈ lw_all := lw_g (lw_at lw_m1 53 rfl) rfl
/-! the law's own entry -/
abbrev cL_law : ByteArray := code
theorem q154 : (Jvm.Cond.arrayOver (Jvm.ClassFile.FieldType.object "PromiseRoofs$Owner")) ∈ lw_tbl := lw_at lw_m1 55 rfl
theorem q156 : (Jvm.Cond.arrayOver (Jvm.ClassFile.FieldType.object "PromiseRoofs$Promise")) ∈ lw_tbl := lw_at lw_m1 57 rfl
theorem q158 : (Jvm.Cond.arrayOver (Jvm.ClassFile.FieldType.object "PromiseRoofs$Change")) ∈ lw_tbl := lw_at lw_m1 59 rfl
theorem q171 : (Jvm.Cond.arrayClass Jvm.ClassFile.FieldType.byte) ∈ lw_all := lw_g (lw_at lw_m1 72 rfl) rfl
theorem q172 : (Jvm.Cond.arrayClass Jvm.ClassFile.FieldType.int) ∈ lw_all := lw_g (lw_at lw_m1 73 rfl) rfl
theorem q174 : (Jvm.Cond.arrayOver (Jvm.ClassFile.FieldType.object "PromiseRoofs$Storey")) ∈ lw_tbl := lw_at lw_m1 75 rfl
theorem q176 : (Jvm.Cond.arrayOver (Jvm.ClassFile.FieldType.object "PromiseRoofs$Held")) ∈ lw_tbl := lw_at lw_m1 77 rfl
theorem q1370 : (Jvm.Cond.arrayClass Jvm.ClassFile.FieldType.short) ∈ lw_all := lw_g (lw_at lw_m6 71 rfl) rfl
theorem q1391 : (Jvm.Cond.arrayClass Jvm.ClassFile.FieldType.long) ∈ lw_all := lw_g (lw_at lw_m6 92 rfl) rfl
theorem q1402 : (Jvm.Cond.arrayClass Jvm.ClassFile.FieldType.boolean) ∈ lw_all := lw_g (lw_at lw_m6 103 rfl) rfl
theorem q99 : (Jvm.Cond.initialized "PromiseRoofsLaw") ∈ lw_all := lw_g (lw_at lw_m1 0 rfl) rfl
theorem q145 : (Jvm.Cond.classLink "PromiseRoofsLaw" (7 : Nat) "PromiseRoofs") ∈ lw_all := lw_g (lw_at lw_m1 46 rfl) rfl
theorem q147 : (Jvm.Cond.methodLink "PromiseRoofsLaw" (9 : Nat) ({ cls := "PromiseRoofs", name := "<init>", desc := "()V" } : Jvm.MethodName)) ∈ lw_all := lw_g (lw_at lw_m1 48 rfl) rfl
theorem q294 : (Jvm.Cond.methodLink "PromiseRoofsLaw" (13 : Nat) ({ cls := "PromiseRoofs", name := "owner", desc := "(I)I" } : Jvm.MethodName)) ∈ lw_all := lw_g (lw_at lw_m1 195 rfl) rfl
theorem q311 : (Jvm.Cond.methodLink "PromiseRoofsLaw" (18 : Nat) ({ cls := "PromiseRoofs", name := "promise", desc := "(III)I" } : Jvm.MethodName)) ∈ lw_all := lw_g (lw_at lw_m1 212 rfl) rfl
theorem q361 : (Jvm.Cond.methodLink "PromiseRoofsLaw" (23 : Nat) ({ cls := "PromiseRoofs", name := "promises", desc := "(III)I" } : Jvm.MethodName)) ∈ lw_all := lw_g (lw_at lw_m2 22 rfl) rfl
theorem q501 : (Jvm.Cond.methodLink "PromiseRoofsLaw" (130 : Nat) ({ cls := "PromiseRoofs", name := "undo", desc := "()I" } : Jvm.MethodName)) ∈ lw_all := lw_g (lw_at lw_m2 162 rfl) rfl
theorem q509 : (Jvm.Cond.methodLink "PromiseRoofsLaw" (134 : Nat) ({ cls := "PromiseRoofs", name := "redo", desc := "()I" } : Jvm.MethodName)) ∈ lw_all := lw_g (lw_at lw_m2 170 rfl) rfl
theorem q513 : (Jvm.Cond.methodLink "PromiseRoofsLaw" (27 : Nat) ({ cls := "PromiseRoofs", name := "mend", desc := "(III)I" } : Jvm.MethodName)) ∈ lw_all := lw_g (lw_at lw_m2 174 rfl) rfl
theorem q559 : (Jvm.Cond.methodLink "PromiseRoofsLaw" (31 : Nat) ({ cls := "PromiseRoofs", name := "of", desc := "(II)I" } : Jvm.MethodName)) ∈ lw_all := lw_g (lw_at lw_m2 220 rfl) rfl
theorem q563 : (Jvm.Cond.methodLink "PromiseRoofsLaw" (36 : Nat) ({ cls := "PromiseRoofs", name := "feed", desc := "(I)I" } : Jvm.MethodName)) ∈ lw_all := lw_g (lw_at lw_m2 224 rfl) rfl
theorem q567 : (Jvm.Cond.methodLink "PromiseRoofsLaw" (40 : Nat) ({ cls := "PromiseRoofs", name := "law", desc := "()I" } : Jvm.MethodName)) ∈ lw_all := lw_g (lw_at lw_m2 228 rfl) rfl
theorem q812 : (Jvm.Cond.methodLink "PromiseRoofsLaw" (45 : Nat) ({ cls := "PromiseRoofs", name := "storeys", desc := "(I)I" } : Jvm.MethodName)) ∈ lw_all := lw_g (lw_at lw_m3 233 rfl) rfl
theorem q862 : (Jvm.Cond.methodLink "PromiseRoofsLaw" (49 : Nat) ({ cls := "PromiseRoofs", name := "high", desc := "(II)I" } : Jvm.MethodName)) ∈ lw_all := lw_g (lw_at lw_m4 43 rfl) rfl
theorem q881 : (Jvm.Cond.methodLink "PromiseRoofsLaw" (53 : Nat) ({ cls := "PromiseRoofs", name := "opens", desc := "(I)I" } : Jvm.MethodName)) ∈ lw_all := lw_g (lw_at lw_m4 62 rfl) rfl
theorem q885 : (Jvm.Cond.methodLink "PromiseRoofsLaw" (57 : Nat) ({ cls := "PromiseRoofs", name := "roof", desc := "(I)I" } : Jvm.MethodName)) ∈ lw_all := lw_g (lw_at lw_m4 66 rfl) rfl
theorem q893 : (Jvm.Cond.methodLink "PromiseRoofsLaw" (61 : Nat) ({ cls := "PromiseRoofs", name := "falls", desc := "(II)I" } : Jvm.MethodName)) ∈ lw_all := lw_g (lw_at lw_m4 74 rfl) rfl
theorem q897 : (Jvm.Cond.methodLink "PromiseRoofsLaw" (65 : Nat) ({ cls := "PromiseRoofs", name := "skyline", desc := "(I)I" } : Jvm.MethodName)) ∈ lw_all := lw_g (lw_at lw_m4 78 rfl) rfl
theorem q905 : (Jvm.Cond.methodLink "PromiseRoofsLaw" (69 : Nat) ({ cls := "PromiseRoofs", name := "view", desc := "(II)I" } : Jvm.MethodName)) ∈ lw_all := lw_g (lw_at lw_m4 86 rfl) rfl
theorem q909 : (Jvm.Cond.methodLink "PromiseRoofsLaw" (73 : Nat) ({ cls := "PromiseRoofs", name := "what", desc := "(III)I" } : Jvm.MethodName)) ∈ lw_all := lw_g (lw_at lw_m4 90 rfl) rfl
theorem q921 : (Jvm.Cond.methodLink "PromiseRoofsLaw" (77 : Nat) ({ cls := "PromiseRoofs", name := "lower", desc := "(III)I" } : Jvm.MethodName)) ∈ lw_all := lw_g (lw_at lw_m4 102 rfl) rfl
theorem q954 : (Jvm.Cond.methodLink "PromiseRoofsLaw" (81 : Nat) ({ cls := "PromiseRoofs", name := "holds", desc := "(II)I" } : Jvm.MethodName)) ∈ lw_all := lw_g (lw_at lw_m4 135 rfl) rfl
theorem q974 : (Jvm.Cond.methodLink "PromiseRoofsLaw" (85 : Nat) ({ cls := "PromiseRoofs", name := "judge", desc := "(II)I" } : Jvm.MethodName)) ∈ lw_all := lw_g (lw_at lw_m4 155 rfl) rfl
theorem q990 : (Jvm.Cond.methodLink "PromiseRoofsLaw" (89 : Nat) ({ cls := "PromiseRoofs", name := "fits", desc := "(IIII)I" } : Jvm.MethodName)) ∈ lw_all := lw_g (lw_at lw_m4 171 rfl) rfl
theorem q1002 : (Jvm.Cond.methodLink "PromiseRoofsLaw" (94 : Nat) ({ cls := "PromiseRoofs", name := "share", desc := "(II)I" } : Jvm.MethodName)) ∈ lw_all := lw_g (lw_at lw_m4 183 rfl) rfl
theorem q1006 : (Jvm.Cond.methodLink "PromiseRoofsLaw" (98 : Nat) ({ cls := "PromiseRoofs", name := "byTurns", desc := "(III)I" } : Jvm.MethodName)) ∈ lw_all := lw_g (lw_at lw_m4 187 rfl) rfl
theorem q1018 : (Jvm.Cond.methodLink "PromiseRoofsLaw" (102 : Nat) ({ cls := "PromiseRoofs", name := "drawn", desc := "(III)I" } : Jvm.MethodName)) ∈ lw_all := lw_g (lw_at lw_m4 199 rfl) rfl
theorem q1035 : (Jvm.Cond.methodLink "PromiseRoofsLaw" (106 : Nat) ({ cls := "PromiseRoofs", name := "does", desc := "(II)I" } : Jvm.MethodName)) ∈ lw_all := lw_g (lw_at lw_m4 216 rfl) rfl
theorem q1039 : (Jvm.Cond.methodLink "PromiseRoofsLaw" (110 : Nat) ({ cls := "PromiseRoofs", name := "release", desc := "(I)I" } : Jvm.MethodName)) ∈ lw_all := lw_g (lw_at lw_m4 220 rfl) rfl
theorem q1043 : (Jvm.Cond.methodLink "PromiseRoofsLaw" (114 : Nat) ({ cls := "PromiseRoofs", name := "days", desc := "(I)I" } : Jvm.MethodName)) ∈ lw_all := lw_g (lw_at lw_m4 224 rfl) rfl
theorem q1047 : (Jvm.Cond.methodLink "PromiseRoofsLaw" (118 : Nat) ({ cls := "PromiseRoofs", name := "led", desc := "(I)I" } : Jvm.MethodName)) ∈ lw_all := lw_g (lw_at lw_m4 228 rfl) rfl
theorem q1051 : (Jvm.Cond.methodLink "PromiseRoofsLaw" (122 : Nat) ({ cls := "PromiseRoofs", name := "image", desc := "()I" } : Jvm.MethodName)) ∈ lw_all := lw_g (lw_at lw_m4 232 rfl) rfl
theorem q1055 : (Jvm.Cond.methodLink "PromiseRoofsLaw" (126 : Nat) ({ cls := "PromiseRoofs", name := "back", desc := "()I" } : Jvm.MethodName)) ∈ lw_all := lw_g (lw_at lw_m4 236 rfl) rfl
theorem q1059 : (Jvm.Cond.methodLink "PromiseRoofsLaw" (138 : Nat) ({ cls := "PromiseRoofs", name := "body", desc := "(I)I" } : Jvm.MethodName)) ∈ lw_all := lw_g (lw_at lw_m5 0 rfl) rfl
theorem q1172 : (Jvm.Cond.methodLink "PromiseRoofsLaw" (142 : Nat) ({ cls := "PromiseRoofs", name := "act", desc := "(III)I" } : Jvm.MethodName)) ∈ lw_all := lw_g (lw_at lw_m5 113 rfl) rfl
theorem q1319 : (Jvm.Cond.methodLink "PromiseRoofsLaw" (146 : Nat) ({ cls := "PromiseRoofs", name := "trace", desc := "(I)I" } : Jvm.MethodName)) ∈ lw_all := lw_g (lw_at lw_m6 20 rfl) rfl
theorem q1323 : (Jvm.Cond.methodLink "PromiseRoofsLaw" (150 : Nat) ({ cls := "PromiseRoofs", name := "keep", desc := "(II)I" } : Jvm.MethodName)) ∈ lw_all := lw_g (lw_at lw_m6 24 rfl) rfl
theorem q1327 : (Jvm.Cond.methodLink "PromiseRoofsLaw" (154 : Nat) ({ cls := "PromiseRoofs", name := "row", desc := "(III)I" } : Jvm.MethodName)) ∈ lw_all := lw_g (lw_at lw_m6 28 rfl) rfl
theorem q1403 : (Jvm.Cond.methodLink "PromiseRoofsLaw" (160 : Nat) ({ cls := "PromiseRoofs", name := "put", desc := "(IIJ)I" } : Jvm.MethodName)) ∈ lw_all := lw_g (lw_at lw_m6 104 rfl) rfl
theorem q1426 : (Jvm.Cond.methodLink "PromiseRoofsLaw" (165 : Nat) ({ cls := "PromiseRoofs", name := "element", desc := "(II)J" } : Jvm.MethodName)) ∈ lw_all := lw_g (lw_at lw_m6 127 rfl) rfl
theorem q1447 : (Jvm.Cond.methodLink "PromiseRoofsLaw" (170 : Nat) ({ cls := "PromiseRoofs", name := "shift", desc := "(IIIII)I" } : Jvm.MethodName)) ∈ lw_all := lw_g (lw_at lw_m6 148 rfl) rfl
theorem q1481 : (Jvm.Cond.methodLink "PromiseRoofsLaw" (175 : Nat) ({ cls := "PromiseRoofs", name := "taken", desc := "(II)I" } : Jvm.MethodName)) ∈ lw_all := lw_g (lw_at lw_m6 182 rfl) rfl
theorem q1536 : (Jvm.Cond.methodLink "PromiseRoofsLaw" (179 : Nat) ({ cls := "PromiseRoofs", name := "count", desc := "(I)I" } : Jvm.MethodName)) ∈ lw_all := lw_g (lw_at lw_m6 237 rfl) rfl
theorem q1540 : (Jvm.Cond.classLink "PromiseRoofsLaw" (10 : Nat) "PromiseRoofsModel") ∈ lw_all := lw_g (lw_at lw_m7 1 rfl) rfl
theorem q1542 : (Jvm.Cond.methodLink "PromiseRoofsLaw" (12 : Nat) ({ cls := "PromiseRoofsModel", name := "<init>", desc := "()V" } : Jvm.MethodName)) ∈ lw_all := lw_g (lw_at lw_m7 3 rfl) rfl
theorem q1673 : (Jvm.Cond.methodLink "PromiseRoofsLaw" (17 : Nat) ({ cls := "PromiseRoofsModel", name := "owner", desc := "(I)I" } : Jvm.MethodName)) ∈ lw_all := lw_g (lw_at lw_m7 134 rfl) rfl
theorem q1680 : (Jvm.Cond.methodLink "PromiseRoofsLaw" (22 : Nat) ({ cls := "PromiseRoofsModel", name := "promise", desc := "(III)I" } : Jvm.MethodName)) ∈ lw_all := lw_g (lw_at lw_m7 141 rfl) rfl
theorem q1700 : (Jvm.Cond.methodLink "PromiseRoofsLaw" (26 : Nat) ({ cls := "PromiseRoofsModel", name := "promises", desc := "(III)I" } : Jvm.MethodName)) ∈ lw_all := lw_g (lw_at lw_m7 161 rfl) rfl
theorem q1712 : (Jvm.Cond.methodLink "PromiseRoofsLaw" (30 : Nat) ({ cls := "PromiseRoofsModel", name := "mend", desc := "(III)I" } : Jvm.MethodName)) ∈ lw_all := lw_g (lw_at lw_m7 173 rfl) rfl
theorem q1736 : (Jvm.Cond.methodLink "PromiseRoofsLaw" (35 : Nat) ({ cls := "PromiseRoofsModel", name := "of", desc := "(II)I" } : Jvm.MethodName)) ∈ lw_all := lw_g (lw_at lw_m7 197 rfl) rfl
theorem q1740 : (Jvm.Cond.methodLink "PromiseRoofsLaw" (133 : Nat) ({ cls := "PromiseRoofsModel", name := "undo", desc := "()I" } : Jvm.MethodName)) ∈ lw_all := lw_g (lw_at lw_m7 201 rfl) rfl
theorem q1744 : (Jvm.Cond.methodLink "PromiseRoofsLaw" (137 : Nat) ({ cls := "PromiseRoofsModel", name := "redo", desc := "()I" } : Jvm.MethodName)) ∈ lw_all := lw_g (lw_at lw_m7 205 rfl) rfl
theorem q1748 : (Jvm.Cond.methodLink "PromiseRoofsLaw" (39 : Nat) ({ cls := "PromiseRoofsModel", name := "feed", desc := "(I)I" } : Jvm.MethodName)) ∈ lw_all := lw_g (lw_at lw_m7 209 rfl) rfl
theorem q1752 : (Jvm.Cond.methodLink "PromiseRoofsLaw" (44 : Nat) ({ cls := "PromiseRoofsModel", name := "law", desc := "()I" } : Jvm.MethodName)) ∈ lw_all := lw_g (lw_at lw_m7 213 rfl) rfl
theorem q1803 : (Jvm.Cond.methodLink "PromiseRoofsLaw" (48 : Nat) ({ cls := "PromiseRoofsModel", name := "storeys", desc := "(I)I" } : Jvm.MethodName)) ∈ lw_all := lw_g (lw_at lw_m8 24 rfl) rfl
theorem q1832 : (Jvm.Cond.methodLink "PromiseRoofsLaw" (52 : Nat) ({ cls := "PromiseRoofsModel", name := "high", desc := "(II)I" } : Jvm.MethodName)) ∈ lw_all := lw_g (lw_at lw_m8 53 rfl) rfl
theorem q1852 : (Jvm.Cond.methodLink "PromiseRoofsLaw" (56 : Nat) ({ cls := "PromiseRoofsModel", name := "opens", desc := "(I)I" } : Jvm.MethodName)) ∈ lw_all := lw_g (lw_at lw_m8 73 rfl) rfl
theorem q1856 : (Jvm.Cond.methodLink "PromiseRoofsLaw" (60 : Nat) ({ cls := "PromiseRoofsModel", name := "roof", desc := "(I)I" } : Jvm.MethodName)) ∈ lw_all := lw_g (lw_at lw_m8 77 rfl) rfl
theorem q1860 : (Jvm.Cond.methodLink "PromiseRoofsLaw" (64 : Nat) ({ cls := "PromiseRoofsModel", name := "falls", desc := "(II)I" } : Jvm.MethodName)) ∈ lw_all := lw_g (lw_at lw_m8 81 rfl) rfl
theorem q1864 : (Jvm.Cond.methodLink "PromiseRoofsLaw" (68 : Nat) ({ cls := "PromiseRoofsModel", name := "skyline", desc := "(I)I" } : Jvm.MethodName)) ∈ lw_all := lw_g (lw_at lw_m8 85 rfl) rfl
theorem q1868 : (Jvm.Cond.methodLink "PromiseRoofsLaw" (72 : Nat) ({ cls := "PromiseRoofsModel", name := "view", desc := "(II)I" } : Jvm.MethodName)) ∈ lw_all := lw_g (lw_at lw_m8 89 rfl) rfl
theorem q1872 : (Jvm.Cond.methodLink "PromiseRoofsLaw" (76 : Nat) ({ cls := "PromiseRoofsModel", name := "what", desc := "(III)I" } : Jvm.MethodName)) ∈ lw_all := lw_g (lw_at lw_m8 93 rfl) rfl
theorem q1880 : (Jvm.Cond.methodLink "PromiseRoofsLaw" (80 : Nat) ({ cls := "PromiseRoofsModel", name := "lower", desc := "(III)I" } : Jvm.MethodName)) ∈ lw_all := lw_g (lw_at lw_m8 101 rfl) rfl
theorem q1893 : (Jvm.Cond.methodLink "PromiseRoofsLaw" (84 : Nat) ({ cls := "PromiseRoofsModel", name := "holds", desc := "(II)I" } : Jvm.MethodName)) ∈ lw_all := lw_g (lw_at lw_m8 114 rfl) rfl
theorem q1913 : (Jvm.Cond.methodLink "PromiseRoofsLaw" (88 : Nat) ({ cls := "PromiseRoofsModel", name := "judge", desc := "(II)I" } : Jvm.MethodName)) ∈ lw_all := lw_g (lw_at lw_m8 134 rfl) rfl
theorem q1925 : (Jvm.Cond.methodLink "PromiseRoofsLaw" (93 : Nat) ({ cls := "PromiseRoofsModel", name := "fits", desc := "(IIII)I" } : Jvm.MethodName)) ∈ lw_all := lw_g (lw_at lw_m8 146 rfl) rfl
theorem q1929 : (Jvm.Cond.methodLink "PromiseRoofsLaw" (97 : Nat) ({ cls := "PromiseRoofsModel", name := "share", desc := "(II)I" } : Jvm.MethodName)) ∈ lw_all := lw_g (lw_at lw_m8 150 rfl) rfl
theorem q1934 : (Jvm.Cond.methodLink "PromiseRoofsLaw" (101 : Nat) ({ cls := "PromiseRoofsModel", name := "byTurns", desc := "(III)I" } : Jvm.MethodName)) ∈ lw_all := lw_g (lw_at lw_m8 155 rfl) rfl
theorem q1946 : (Jvm.Cond.methodLink "PromiseRoofsLaw" (105 : Nat) ({ cls := "PromiseRoofsModel", name := "drawn", desc := "(III)I" } : Jvm.MethodName)) ∈ lw_all := lw_g (lw_at lw_m8 167 rfl) rfl
theorem q1951 : (Jvm.Cond.methodLink "PromiseRoofsLaw" (109 : Nat) ({ cls := "PromiseRoofsModel", name := "does", desc := "(II)I" } : Jvm.MethodName)) ∈ lw_all := lw_g (lw_at lw_m8 172 rfl) rfl
theorem q1955 : (Jvm.Cond.methodLink "PromiseRoofsLaw" (113 : Nat) ({ cls := "PromiseRoofsModel", name := "release", desc := "(I)I" } : Jvm.MethodName)) ∈ lw_all := lw_g (lw_at lw_m8 176 rfl) rfl
theorem q1959 : (Jvm.Cond.methodLink "PromiseRoofsLaw" (117 : Nat) ({ cls := "PromiseRoofsModel", name := "days", desc := "(I)I" } : Jvm.MethodName)) ∈ lw_all := lw_g (lw_at lw_m8 180 rfl) rfl
theorem q1963 : (Jvm.Cond.methodLink "PromiseRoofsLaw" (121 : Nat) ({ cls := "PromiseRoofsModel", name := "led", desc := "(I)I" } : Jvm.MethodName)) ∈ lw_all := lw_g (lw_at lw_m8 184 rfl) rfl
theorem q1967 : (Jvm.Cond.methodLink "PromiseRoofsLaw" (125 : Nat) ({ cls := "PromiseRoofsModel", name := "image", desc := "()I" } : Jvm.MethodName)) ∈ lw_all := lw_g (lw_at lw_m8 188 rfl) rfl
theorem q1971 : (Jvm.Cond.methodLink "PromiseRoofsLaw" (129 : Nat) ({ cls := "PromiseRoofsModel", name := "back", desc := "()I" } : Jvm.MethodName)) ∈ lw_all := lw_g (lw_at lw_m8 192 rfl) rfl
theorem q1975 : (Jvm.Cond.methodLink "PromiseRoofsLaw" (141 : Nat) ({ cls := "PromiseRoofsModel", name := "body", desc := "(I)I" } : Jvm.MethodName)) ∈ lw_all := lw_g (lw_at lw_m8 196 rfl) rfl
theorem q1979 : (Jvm.Cond.methodLink "PromiseRoofsLaw" (145 : Nat) ({ cls := "PromiseRoofsModel", name := "act", desc := "(III)I" } : Jvm.MethodName)) ∈ lw_all := lw_g (lw_at lw_m8 200 rfl) rfl
theorem q2006 : (Jvm.Cond.methodLink "PromiseRoofsLaw" (149 : Nat) ({ cls := "PromiseRoofsModel", name := "trace", desc := "(I)I" } : Jvm.MethodName)) ∈ lw_all := lw_g (lw_at lw_m8 227 rfl) rfl
theorem q2010 : (Jvm.Cond.methodLink "PromiseRoofsLaw" (153 : Nat) ({ cls := "PromiseRoofsModel", name := "keep", desc := "(II)I" } : Jvm.MethodName)) ∈ lw_all := lw_g (lw_at lw_m8 231 rfl) rfl
theorem q2014 : (Jvm.Cond.methodLink "PromiseRoofsLaw" (157 : Nat) ({ cls := "PromiseRoofsModel", name := "row", desc := "(III)I" } : Jvm.MethodName)) ∈ lw_all := lw_g (lw_at lw_m8 235 rfl) rfl
theorem q2018 : (Jvm.Cond.methodLink "PromiseRoofsLaw" (164 : Nat) ({ cls := "PromiseRoofsModel", name := "put", desc := "(IIJ)I" } : Jvm.MethodName)) ∈ lw_all := lw_g (lw_at lw_m8 239 rfl) rfl
theorem q2029 : (Jvm.Cond.methodLink "PromiseRoofsLaw" (169 : Nat) ({ cls := "PromiseRoofsModel", name := "element", desc := "(II)J" } : Jvm.MethodName)) ∈ lw_all := lw_g (lw_at lw_m9 10 rfl) rfl
theorem q2034 : (Jvm.Cond.methodLink "PromiseRoofsLaw" (174 : Nat) ({ cls := "PromiseRoofsModel", name := "shift", desc := "(IIIII)I" } : Jvm.MethodName)) ∈ lw_all := lw_g (lw_at lw_m9 15 rfl) rfl
theorem q2038 : (Jvm.Cond.methodLink "PromiseRoofsLaw" (178 : Nat) ({ cls := "PromiseRoofsModel", name := "taken", desc := "(II)I" } : Jvm.MethodName)) ∈ lw_all := lw_g (lw_at lw_m9 19 rfl) rfl
theorem q2042 : (Jvm.Cond.methodLink "PromiseRoofsLaw" (182 : Nat) ({ cls := "PromiseRoofsModel", name := "count", desc := "(I)I" } : Jvm.MethodName)) ∈ lw_all := lw_g (lw_at lw_m9 23 rfl) rfl
theorem q2046 : (Jvm.Cond.constantLong "PromiseRoofsLaw" (158 : Nat) (4294967295 : Int64)) ∈ lw_all := lw_g (lw_at lw_m9 27 rfl) rfl
theorem q144 : (Jvm.Cond.initialized "java/lang/System") ∈ lw_all := lw_g (lw_at lw_m1 45 rfl) rfl
theorem q1459 : (Jvm.Cond.static ({ cls := "java/lang/System", name := "arraycopy", desc := "(Ljava/lang/Object;ILjava/lang/Object;II)V" } : Jvm.MethodName)) ∈ lw_all := lw_g (lw_at lw_m6 160 rfl) rfl
theorem q1460 : (Jvm.Cond.native ({ cls := "java/lang/System", name := "arraycopy", desc := "(Ljava/lang/Object;ILjava/lang/Object;II)V" } : Jvm.MethodName)) ∈ lw_all := lw_g (lw_at lw_m6 161 rfl) rfl
theorem q1182 : (Jvm.Cond.interfaceMethod "PromiseRoofs$Swears" "PromiseRoofs$Swears" "swears" "(I)I") ∈ lw_tbl := lw_at lw_m5 123 rfl
theorem q1183 : (Jvm.Cond.declares ({ cls := "PromiseRoofs$Swears", name := "swears", desc := "(I)I" } : Jvm.MethodName)) ∈ lw_tbl := lw_at lw_m5 124 rfl
theorem q1227 : (Jvm.Cond.interfaceMethod "PromiseRoofs$Tells" "PromiseRoofs$Tells" "tells" "(I)I") ∈ lw_tbl := lw_at lw_m5 168 rfl
theorem q1228 : (Jvm.Cond.declares ({ cls := "PromiseRoofs$Tells", name := "tells", desc := "(I)I" } : Jvm.MethodName)) ∈ lw_tbl := lw_at lw_m5 169 rfl
