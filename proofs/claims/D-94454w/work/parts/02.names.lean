/-! DECODE ROWS BY BYTES: one lemma an opcode; a method's code is cut into short pieces once, and a row reads its own piece alone. -/
set_option maxRecDepth 100000
/-- the code has just these bytes from pc on -/
def DkAt (code : ByteArray) (pc : Nat) (bs : List UInt8) : Prop := ∀ (j : Nat) (b : UInt8), bs[j]? = some b → code.data.toList[pc + j]? = some b
/-- the piece W has the bytes bs from its place j on -/
def dkIn (W : List UInt8) (j : Nat) (bs : List UInt8) : Bool := decide ((W.drop j).take bs.length = bs)
theorem dk_seg {l W T : List UInt8} {o o2 : Nat} (h : l.drop o = W ++ T) (n : Nat) (hn : W.length = n) (ho : o + n = o2) : l.drop o2 = T := by
  subst ho
  rw [← List.drop_drop, h, List.drop_left' hn]
theorem dk_at {code : ByteArray} {W T bs : List UInt8} {o pc : Nat} (h : code.data.toList.drop o = W ++ T) (j : Nat) (hp : o + j = pc) (hw : dkIn W j bs = true) : DkAt code pc bs := by
  subst hp
  intro i b e
  have h1 := of_decide_eq_true hw
  have h2 : i < bs.length := (List.getElem?_eq_some_iff.mp e).1
  have h3 : W[j + i]? = some b := by
    rw [← h1, List.getElem?_take, if_pos h2, List.getElem?_drop] at e
    exact e
  have h4 : j + i < W.length := (List.getElem?_eq_some_iff.mp h3).1
  have h5 : (code.data.toList.drop o)[j + i]? = some b := by
    rw [h, List.getElem?_append_left h4]
    exact h3
  rw [List.getElem?_drop, ← Nat.add_assoc] at h5
  exact h5
theorem dk_u1 {A : ByteArray} {p : Nat} {b : UInt8} (h : A.data.toList[p]? = some b) : (Reader.u1 : Reader DecodeError Nat) A p = .ok (b.toNat, p + 1) := by
  obtain ⟨h1, h2⟩ := List.getElem?_eq_some_iff.mp h
  have h3 : p < A.size := by simpa using h1
  have h4 : A[p]'h3 = b := h2
  have e : (Reader.u1 : Reader DecodeError Nat) A p = (if h : p < A.size then .ok (A[p].toNat, p + 1) else .error (HasTruncated.truncated p)) := by
    show (do if h : p < A.size then do set (p + 1); Pure.pure A[p].toNat else MonadExcept.throw (HasTruncated.truncated p) : Reader DecodeError Nat) A p = _
    by_cases hi : p < A.size
    · rw [dif_pos hi, dif_pos hi]; rfl
    · rw [dif_neg hi, dif_neg hi]; rfl
  rw [e, dif_pos h3, h4]
theorem dk_bind {α β : Type} {r : Reader DecodeError α} {f : α → Reader DecodeError β} {A : ByteArray} {p s : Nat} {a : α} (h : r A p = .ok (a, s)) : (r >>= f) A p = f a A s := by
  show (do let (a, s) ← r A p; f a A s : Except DecodeError (β × Nat)) = _
  rw [h]
  rfl
theorem dk_map {α β : Type} {r : Reader DecodeError α} {g : α → β} {A : ByteArray} {p s : Nat} {a : α} (h : r A p = .ok (a, s)) : (g <$> r) A p = .ok (g a, s) := by
  show (do let (a, s) ← r A p; .ok (g a, s) : Except DecodeError (β × Nat)) = _
  rw [h]
  rfl
theorem dk_u2 {A : ByteArray} {p : Nat} {a b : UInt8} (h : A.data.toList[p]? = some a) (h2 : A.data.toList[p + 1]? = some b) : (Reader.u2 : Reader DecodeError Nat) A p = .ok (a.toNat * 256 + b.toNat, p + 2) := by
  show (Reader.u1 >>= fun hi => Reader.u1 >>= fun lo => Pure.pure (hi * 256 + lo) : Reader DecodeError Nat) A p = _
  rw [dk_bind (dk_u1 h), dk_bind (dk_u1 h2)]
  rfl
theorem dk_of {code : ByteArray} {pc n : Nat} {i : Instr} (h : Decoder.instr pc code pc = .ok (i, pc + n)) : decode code pc = .ok (i, n) := by
  have e : decode code pc = (match Decoder.instr pc code pc with | .error x => .error x | .ok (j, s) => .ok (j, s - pc)) := by
    show (do let (j, s) ← Decoder.instr pc code pc; Pure.pure (j, s - pc) : Except DecodeError (Instr × Nat)) = _
    cases Decoder.instr pc code pc <;> rfl
  rw [e, h]
  show Except.ok (i, pc + n - pc) = _
  rw [Nat.add_sub_cancel_left]
theorem dk_1 {code : ByteArray} {pc : Nat} (h : DkAt code pc [1]) : decode code pc = .ok (.aconst_null, 1) := dk_of ((dk_bind (dk_u1 (h 0 _ rfl))).trans rfl)
theorem dk_2 {code : ByteArray} {pc : Nat} (h : DkAt code pc [2]) : decode code pc = .ok (.iconst (-1), 1) := dk_of ((dk_bind (dk_u1 (h 0 _ rfl))).trans rfl)
theorem dk_3 {code : ByteArray} {pc : Nat} (h : DkAt code pc [3]) : decode code pc = .ok (.iconst 0, 1) := dk_of ((dk_bind (dk_u1 (h 0 _ rfl))).trans rfl)
theorem dk_4 {code : ByteArray} {pc : Nat} (h : DkAt code pc [4]) : decode code pc = .ok (.iconst 1, 1) := dk_of ((dk_bind (dk_u1 (h 0 _ rfl))).trans rfl)
theorem dk_5 {code : ByteArray} {pc : Nat} (h : DkAt code pc [5]) : decode code pc = .ok (.iconst 2, 1) := dk_of ((dk_bind (dk_u1 (h 0 _ rfl))).trans rfl)
theorem dk_6 {code : ByteArray} {pc : Nat} (h : DkAt code pc [6]) : decode code pc = .ok (.iconst 3, 1) := dk_of ((dk_bind (dk_u1 (h 0 _ rfl))).trans rfl)
theorem dk_7 {code : ByteArray} {pc : Nat} (h : DkAt code pc [7]) : decode code pc = .ok (.iconst 4, 1) := dk_of ((dk_bind (dk_u1 (h 0 _ rfl))).trans rfl)
theorem dk_8 {code : ByteArray} {pc : Nat} (h : DkAt code pc [8]) : decode code pc = .ok (.iconst 5, 1) := dk_of ((dk_bind (dk_u1 (h 0 _ rfl))).trans rfl)
theorem dk_9 {code : ByteArray} {pc : Nat} (h : DkAt code pc [9]) : decode code pc = .ok (.lconst 0, 1) := dk_of ((dk_bind (dk_u1 (h 0 _ rfl))).trans rfl)
theorem dk_10 {code : ByteArray} {pc : Nat} (h : DkAt code pc [10]) : decode code pc = .ok (.lconst 1, 1) := dk_of ((dk_bind (dk_u1 (h 0 _ rfl))).trans rfl)
theorem dk_16 {code : ByteArray} {pc : Nat} (a : UInt8) (h : DkAt code pc [16, a]) : decode code pc = .ok (.bipush (Reader.signed 8 a.toNat), 2) := dk_of ((dk_bind (dk_u1 (h 0 _ rfl))).trans ((dk_bind (dk_map (dk_u1 (h 1 _ rfl)))).trans rfl))
theorem dk_17 {code : ByteArray} {pc : Nat} (a b : UInt8) (h : DkAt code pc [17, a, b]) : decode code pc = .ok (.sipush (Reader.signed 16 (a.toNat * 256 + b.toNat)), 3) := dk_of ((dk_bind (dk_u1 (h 0 _ rfl))).trans ((dk_bind (dk_map (dk_u2 (h 1 _ rfl) (h 2 _ rfl)))).trans rfl))
theorem dk_18 {code : ByteArray} {pc : Nat} (a : UInt8) (h : DkAt code pc [18, a]) : decode code pc = .ok (.ldc a.toNat, 2) := dk_of ((dk_bind (dk_u1 (h 0 _ rfl))).trans ((dk_bind (dk_u1 (h 1 _ rfl))).trans rfl))
theorem dk_19 {code : ByteArray} {pc : Nat} (a b : UInt8) (h : DkAt code pc [19, a, b]) : decode code pc = .ok (.ldc_w (a.toNat * 256 + b.toNat), 3) := dk_of ((dk_bind (dk_u1 (h 0 _ rfl))).trans ((dk_bind (dk_u2 (h 1 _ rfl) (h 2 _ rfl))).trans rfl))
theorem dk_20 {code : ByteArray} {pc : Nat} (a b : UInt8) (h : DkAt code pc [20, a, b]) : decode code pc = .ok (.ldc2_w (a.toNat * 256 + b.toNat), 3) := dk_of ((dk_bind (dk_u1 (h 0 _ rfl))).trans ((dk_bind (dk_u2 (h 1 _ rfl) (h 2 _ rfl))).trans rfl))
theorem dk_21 {code : ByteArray} {pc : Nat} (a : UInt8) (h : DkAt code pc [21, a]) : decode code pc = .ok (.iload a.toNat, 2) := dk_of ((dk_bind (dk_u1 (h 0 _ rfl))).trans ((dk_bind (dk_u1 (h 1 _ rfl))).trans rfl))
theorem dk_22 {code : ByteArray} {pc : Nat} (a : UInt8) (h : DkAt code pc [22, a]) : decode code pc = .ok (.lload a.toNat, 2) := dk_of ((dk_bind (dk_u1 (h 0 _ rfl))).trans ((dk_bind (dk_u1 (h 1 _ rfl))).trans rfl))
theorem dk_25 {code : ByteArray} {pc : Nat} (a : UInt8) (h : DkAt code pc [25, a]) : decode code pc = .ok (.aload a.toNat, 2) := dk_of ((dk_bind (dk_u1 (h 0 _ rfl))).trans ((dk_bind (dk_u1 (h 1 _ rfl))).trans rfl))
theorem dk_26 {code : ByteArray} {pc : Nat} (h : DkAt code pc [26]) : decode code pc = .ok (.iload_n 0, 1) := dk_of ((dk_bind (dk_u1 (h 0 _ rfl))).trans rfl)
theorem dk_27 {code : ByteArray} {pc : Nat} (h : DkAt code pc [27]) : decode code pc = .ok (.iload_n 1, 1) := dk_of ((dk_bind (dk_u1 (h 0 _ rfl))).trans rfl)
theorem dk_28 {code : ByteArray} {pc : Nat} (h : DkAt code pc [28]) : decode code pc = .ok (.iload_n 2, 1) := dk_of ((dk_bind (dk_u1 (h 0 _ rfl))).trans rfl)
theorem dk_29 {code : ByteArray} {pc : Nat} (h : DkAt code pc [29]) : decode code pc = .ok (.iload_n 3, 1) := dk_of ((dk_bind (dk_u1 (h 0 _ rfl))).trans rfl)
theorem dk_30 {code : ByteArray} {pc : Nat} (h : DkAt code pc [30]) : decode code pc = .ok (.lload_n 0, 1) := dk_of ((dk_bind (dk_u1 (h 0 _ rfl))).trans rfl)
theorem dk_31 {code : ByteArray} {pc : Nat} (h : DkAt code pc [31]) : decode code pc = .ok (.lload_n 1, 1) := dk_of ((dk_bind (dk_u1 (h 0 _ rfl))).trans rfl)
theorem dk_33 {code : ByteArray} {pc : Nat} (h : DkAt code pc [33]) : decode code pc = .ok (.lload_n 3, 1) := dk_of ((dk_bind (dk_u1 (h 0 _ rfl))).trans rfl)
theorem dk_42 {code : ByteArray} {pc : Nat} (h : DkAt code pc [42]) : decode code pc = .ok (.aload_n 0, 1) := dk_of ((dk_bind (dk_u1 (h 0 _ rfl))).trans rfl)
theorem dk_43 {code : ByteArray} {pc : Nat} (h : DkAt code pc [43]) : decode code pc = .ok (.aload_n 1, 1) := dk_of ((dk_bind (dk_u1 (h 0 _ rfl))).trans rfl)
theorem dk_44 {code : ByteArray} {pc : Nat} (h : DkAt code pc [44]) : decode code pc = .ok (.aload_n 2, 1) := dk_of ((dk_bind (dk_u1 (h 0 _ rfl))).trans rfl)
theorem dk_45 {code : ByteArray} {pc : Nat} (h : DkAt code pc [45]) : decode code pc = .ok (.aload_n 3, 1) := dk_of ((dk_bind (dk_u1 (h 0 _ rfl))).trans rfl)
theorem dk_46 {code : ByteArray} {pc : Nat} (h : DkAt code pc [46]) : decode code pc = .ok (.iaload, 1) := dk_of ((dk_bind (dk_u1 (h 0 _ rfl))).trans rfl)
theorem dk_47 {code : ByteArray} {pc : Nat} (h : DkAt code pc [47]) : decode code pc = .ok (.laload, 1) := dk_of ((dk_bind (dk_u1 (h 0 _ rfl))).trans rfl)
theorem dk_50 {code : ByteArray} {pc : Nat} (h : DkAt code pc [50]) : decode code pc = .ok (.aaload, 1) := dk_of ((dk_bind (dk_u1 (h 0 _ rfl))).trans rfl)
theorem dk_51 {code : ByteArray} {pc : Nat} (h : DkAt code pc [51]) : decode code pc = .ok (.baload, 1) := dk_of ((dk_bind (dk_u1 (h 0 _ rfl))).trans rfl)
theorem dk_54 {code : ByteArray} {pc : Nat} (a : UInt8) (h : DkAt code pc [54, a]) : decode code pc = .ok (.istore a.toNat, 2) := dk_of ((dk_bind (dk_u1 (h 0 _ rfl))).trans ((dk_bind (dk_u1 (h 1 _ rfl))).trans rfl))
theorem dk_55 {code : ByteArray} {pc : Nat} (a : UInt8) (h : DkAt code pc [55, a]) : decode code pc = .ok (.lstore a.toNat, 2) := dk_of ((dk_bind (dk_u1 (h 0 _ rfl))).trans ((dk_bind (dk_u1 (h 1 _ rfl))).trans rfl))
theorem dk_58 {code : ByteArray} {pc : Nat} (a : UInt8) (h : DkAt code pc [58, a]) : decode code pc = .ok (.astore a.toNat, 2) := dk_of ((dk_bind (dk_u1 (h 0 _ rfl))).trans ((dk_bind (dk_u1 (h 1 _ rfl))).trans rfl))
theorem dk_59 {code : ByteArray} {pc : Nat} (h : DkAt code pc [59]) : decode code pc = .ok (.istore_n 0, 1) := dk_of ((dk_bind (dk_u1 (h 0 _ rfl))).trans rfl)
theorem dk_60 {code : ByteArray} {pc : Nat} (h : DkAt code pc [60]) : decode code pc = .ok (.istore_n 1, 1) := dk_of ((dk_bind (dk_u1 (h 0 _ rfl))).trans rfl)
theorem dk_61 {code : ByteArray} {pc : Nat} (h : DkAt code pc [61]) : decode code pc = .ok (.istore_n 2, 1) := dk_of ((dk_bind (dk_u1 (h 0 _ rfl))).trans rfl)
theorem dk_62 {code : ByteArray} {pc : Nat} (h : DkAt code pc [62]) : decode code pc = .ok (.istore_n 3, 1) := dk_of ((dk_bind (dk_u1 (h 0 _ rfl))).trans rfl)
theorem dk_63 {code : ByteArray} {pc : Nat} (h : DkAt code pc [63]) : decode code pc = .ok (.lstore_n 0, 1) := dk_of ((dk_bind (dk_u1 (h 0 _ rfl))).trans rfl)
theorem dk_64 {code : ByteArray} {pc : Nat} (h : DkAt code pc [64]) : decode code pc = .ok (.lstore_n 1, 1) := dk_of ((dk_bind (dk_u1 (h 0 _ rfl))).trans rfl)
theorem dk_66 {code : ByteArray} {pc : Nat} (h : DkAt code pc [66]) : decode code pc = .ok (.lstore_n 3, 1) := dk_of ((dk_bind (dk_u1 (h 0 _ rfl))).trans rfl)
theorem dk_76 {code : ByteArray} {pc : Nat} (h : DkAt code pc [76]) : decode code pc = .ok (.astore_n 1, 1) := dk_of ((dk_bind (dk_u1 (h 0 _ rfl))).trans rfl)
theorem dk_77 {code : ByteArray} {pc : Nat} (h : DkAt code pc [77]) : decode code pc = .ok (.astore_n 2, 1) := dk_of ((dk_bind (dk_u1 (h 0 _ rfl))).trans rfl)
theorem dk_78 {code : ByteArray} {pc : Nat} (h : DkAt code pc [78]) : decode code pc = .ok (.astore_n 3, 1) := dk_of ((dk_bind (dk_u1 (h 0 _ rfl))).trans rfl)
theorem dk_79 {code : ByteArray} {pc : Nat} (h : DkAt code pc [79]) : decode code pc = .ok (.iastore, 1) := dk_of ((dk_bind (dk_u1 (h 0 _ rfl))).trans rfl)
theorem dk_80 {code : ByteArray} {pc : Nat} (h : DkAt code pc [80]) : decode code pc = .ok (.lastore, 1) := dk_of ((dk_bind (dk_u1 (h 0 _ rfl))).trans rfl)
theorem dk_83 {code : ByteArray} {pc : Nat} (h : DkAt code pc [83]) : decode code pc = .ok (.aastore, 1) := dk_of ((dk_bind (dk_u1 (h 0 _ rfl))).trans rfl)
theorem dk_84 {code : ByteArray} {pc : Nat} (h : DkAt code pc [84]) : decode code pc = .ok (.bastore, 1) := dk_of ((dk_bind (dk_u1 (h 0 _ rfl))).trans rfl)
theorem dk_87 {code : ByteArray} {pc : Nat} (h : DkAt code pc [87]) : decode code pc = .ok (.pop, 1) := dk_of ((dk_bind (dk_u1 (h 0 _ rfl))).trans rfl)
theorem dk_89 {code : ByteArray} {pc : Nat} (h : DkAt code pc [89]) : decode code pc = .ok (.dup, 1) := dk_of ((dk_bind (dk_u1 (h 0 _ rfl))).trans rfl)
theorem dk_92 {code : ByteArray} {pc : Nat} (h : DkAt code pc [92]) : decode code pc = .ok (.dup2, 1) := dk_of ((dk_bind (dk_u1 (h 0 _ rfl))).trans rfl)
theorem dk_96 {code : ByteArray} {pc : Nat} (h : DkAt code pc [96]) : decode code pc = .ok (.iadd, 1) := dk_of ((dk_bind (dk_u1 (h 0 _ rfl))).trans rfl)
theorem dk_97 {code : ByteArray} {pc : Nat} (h : DkAt code pc [97]) : decode code pc = .ok (.ladd, 1) := dk_of ((dk_bind (dk_u1 (h 0 _ rfl))).trans rfl)
theorem dk_100 {code : ByteArray} {pc : Nat} (h : DkAt code pc [100]) : decode code pc = .ok (.isub, 1) := dk_of ((dk_bind (dk_u1 (h 0 _ rfl))).trans rfl)
theorem dk_101 {code : ByteArray} {pc : Nat} (h : DkAt code pc [101]) : decode code pc = .ok (.lsub, 1) := dk_of ((dk_bind (dk_u1 (h 0 _ rfl))).trans rfl)
theorem dk_104 {code : ByteArray} {pc : Nat} (h : DkAt code pc [104]) : decode code pc = .ok (.imul, 1) := dk_of ((dk_bind (dk_u1 (h 0 _ rfl))).trans rfl)
theorem dk_105 {code : ByteArray} {pc : Nat} (h : DkAt code pc [105]) : decode code pc = .ok (.lmul, 1) := dk_of ((dk_bind (dk_u1 (h 0 _ rfl))).trans rfl)
theorem dk_108 {code : ByteArray} {pc : Nat} (h : DkAt code pc [108]) : decode code pc = .ok (.idiv, 1) := dk_of ((dk_bind (dk_u1 (h 0 _ rfl))).trans rfl)
theorem dk_112 {code : ByteArray} {pc : Nat} (h : DkAt code pc [112]) : decode code pc = .ok (.irem, 1) := dk_of ((dk_bind (dk_u1 (h 0 _ rfl))).trans rfl)
theorem dk_116 {code : ByteArray} {pc : Nat} (h : DkAt code pc [116]) : decode code pc = .ok (.ineg, 1) := dk_of ((dk_bind (dk_u1 (h 0 _ rfl))).trans rfl)
theorem dk_120 {code : ByteArray} {pc : Nat} (h : DkAt code pc [120]) : decode code pc = .ok (.ishl, 1) := dk_of ((dk_bind (dk_u1 (h 0 _ rfl))).trans rfl)
theorem dk_121 {code : ByteArray} {pc : Nat} (h : DkAt code pc [121]) : decode code pc = .ok (.lshl, 1) := dk_of ((dk_bind (dk_u1 (h 0 _ rfl))).trans rfl)
theorem dk_122 {code : ByteArray} {pc : Nat} (h : DkAt code pc [122]) : decode code pc = .ok (.ishr, 1) := dk_of ((dk_bind (dk_u1 (h 0 _ rfl))).trans rfl)
theorem dk_123 {code : ByteArray} {pc : Nat} (h : DkAt code pc [123]) : decode code pc = .ok (.lshr, 1) := dk_of ((dk_bind (dk_u1 (h 0 _ rfl))).trans rfl)
theorem dk_124 {code : ByteArray} {pc : Nat} (h : DkAt code pc [124]) : decode code pc = .ok (.iushr, 1) := dk_of ((dk_bind (dk_u1 (h 0 _ rfl))).trans rfl)
theorem dk_125 {code : ByteArray} {pc : Nat} (h : DkAt code pc [125]) : decode code pc = .ok (.lushr, 1) := dk_of ((dk_bind (dk_u1 (h 0 _ rfl))).trans rfl)
theorem dk_126 {code : ByteArray} {pc : Nat} (h : DkAt code pc [126]) : decode code pc = .ok (.iand, 1) := dk_of ((dk_bind (dk_u1 (h 0 _ rfl))).trans rfl)
theorem dk_127 {code : ByteArray} {pc : Nat} (h : DkAt code pc [127]) : decode code pc = .ok (.land, 1) := dk_of ((dk_bind (dk_u1 (h 0 _ rfl))).trans rfl)
theorem dk_128 {code : ByteArray} {pc : Nat} (h : DkAt code pc [128]) : decode code pc = .ok (.ior, 1) := dk_of ((dk_bind (dk_u1 (h 0 _ rfl))).trans rfl)
theorem dk_129 {code : ByteArray} {pc : Nat} (h : DkAt code pc [129]) : decode code pc = .ok (.lor, 1) := dk_of ((dk_bind (dk_u1 (h 0 _ rfl))).trans rfl)
theorem dk_130 {code : ByteArray} {pc : Nat} (h : DkAt code pc [130]) : decode code pc = .ok (.ixor, 1) := dk_of ((dk_bind (dk_u1 (h 0 _ rfl))).trans rfl)
theorem dk_132 {code : ByteArray} {pc : Nat} (a b : UInt8) (h : DkAt code pc [132, a, b]) : decode code pc = .ok (.iinc a.toNat (Reader.signed 8 b.toNat), 3) := dk_of ((dk_bind (dk_u1 (h 0 _ rfl))).trans ((dk_bind (dk_u1 (h 1 _ rfl))).trans ((dk_bind (dk_map (dk_u1 (h 2 _ rfl)))).trans rfl)))
theorem dk_133 {code : ByteArray} {pc : Nat} (h : DkAt code pc [133]) : decode code pc = .ok (.i2l, 1) := dk_of ((dk_bind (dk_u1 (h 0 _ rfl))).trans rfl)
theorem dk_136 {code : ByteArray} {pc : Nat} (h : DkAt code pc [136]) : decode code pc = .ok (.l2i, 1) := dk_of ((dk_bind (dk_u1 (h 0 _ rfl))).trans rfl)
theorem dk_145 {code : ByteArray} {pc : Nat} (h : DkAt code pc [145]) : decode code pc = .ok (.i2b, 1) := dk_of ((dk_bind (dk_u1 (h 0 _ rfl))).trans rfl)
theorem dk_146 {code : ByteArray} {pc : Nat} (h : DkAt code pc [146]) : decode code pc = .ok (.i2c, 1) := dk_of ((dk_bind (dk_u1 (h 0 _ rfl))).trans rfl)
theorem dk_148 {code : ByteArray} {pc : Nat} (h : DkAt code pc [148]) : decode code pc = .ok (.lcmp, 1) := dk_of ((dk_bind (dk_u1 (h 0 _ rfl))).trans rfl)
theorem dk_153 {code : ByteArray} {pc : Nat} (a b : UInt8) (h : DkAt code pc [153, a, b]) : decode code pc = .ok (.ifCond .eq (Reader.signed 16 (a.toNat * 256 + b.toNat)), 3) := dk_of ((dk_bind (dk_u1 (h 0 _ rfl))).trans ((dk_bind (dk_map (dk_u2 (h 1 _ rfl) (h 2 _ rfl)))).trans rfl))
theorem dk_154 {code : ByteArray} {pc : Nat} (a b : UInt8) (h : DkAt code pc [154, a, b]) : decode code pc = .ok (.ifCond .ne (Reader.signed 16 (a.toNat * 256 + b.toNat)), 3) := dk_of ((dk_bind (dk_u1 (h 0 _ rfl))).trans ((dk_bind (dk_map (dk_u2 (h 1 _ rfl) (h 2 _ rfl)))).trans rfl))
theorem dk_155 {code : ByteArray} {pc : Nat} (a b : UInt8) (h : DkAt code pc [155, a, b]) : decode code pc = .ok (.ifCond .lt (Reader.signed 16 (a.toNat * 256 + b.toNat)), 3) := dk_of ((dk_bind (dk_u1 (h 0 _ rfl))).trans ((dk_bind (dk_map (dk_u2 (h 1 _ rfl) (h 2 _ rfl)))).trans rfl))
theorem dk_156 {code : ByteArray} {pc : Nat} (a b : UInt8) (h : DkAt code pc [156, a, b]) : decode code pc = .ok (.ifCond .ge (Reader.signed 16 (a.toNat * 256 + b.toNat)), 3) := dk_of ((dk_bind (dk_u1 (h 0 _ rfl))).trans ((dk_bind (dk_map (dk_u2 (h 1 _ rfl) (h 2 _ rfl)))).trans rfl))
theorem dk_157 {code : ByteArray} {pc : Nat} (a b : UInt8) (h : DkAt code pc [157, a, b]) : decode code pc = .ok (.ifCond .gt (Reader.signed 16 (a.toNat * 256 + b.toNat)), 3) := dk_of ((dk_bind (dk_u1 (h 0 _ rfl))).trans ((dk_bind (dk_map (dk_u2 (h 1 _ rfl) (h 2 _ rfl)))).trans rfl))
theorem dk_158 {code : ByteArray} {pc : Nat} (a b : UInt8) (h : DkAt code pc [158, a, b]) : decode code pc = .ok (.ifCond .le (Reader.signed 16 (a.toNat * 256 + b.toNat)), 3) := dk_of ((dk_bind (dk_u1 (h 0 _ rfl))).trans ((dk_bind (dk_map (dk_u2 (h 1 _ rfl) (h 2 _ rfl)))).trans rfl))
theorem dk_159 {code : ByteArray} {pc : Nat} (a b : UInt8) (h : DkAt code pc [159, a, b]) : decode code pc = .ok (.if_icmp .eq (Reader.signed 16 (a.toNat * 256 + b.toNat)), 3) := dk_of ((dk_bind (dk_u1 (h 0 _ rfl))).trans ((dk_bind (dk_map (dk_u2 (h 1 _ rfl) (h 2 _ rfl)))).trans rfl))
theorem dk_160 {code : ByteArray} {pc : Nat} (a b : UInt8) (h : DkAt code pc [160, a, b]) : decode code pc = .ok (.if_icmp .ne (Reader.signed 16 (a.toNat * 256 + b.toNat)), 3) := dk_of ((dk_bind (dk_u1 (h 0 _ rfl))).trans ((dk_bind (dk_map (dk_u2 (h 1 _ rfl) (h 2 _ rfl)))).trans rfl))
theorem dk_161 {code : ByteArray} {pc : Nat} (a b : UInt8) (h : DkAt code pc [161, a, b]) : decode code pc = .ok (.if_icmp .lt (Reader.signed 16 (a.toNat * 256 + b.toNat)), 3) := dk_of ((dk_bind (dk_u1 (h 0 _ rfl))).trans ((dk_bind (dk_map (dk_u2 (h 1 _ rfl) (h 2 _ rfl)))).trans rfl))
theorem dk_162 {code : ByteArray} {pc : Nat} (a b : UInt8) (h : DkAt code pc [162, a, b]) : decode code pc = .ok (.if_icmp .ge (Reader.signed 16 (a.toNat * 256 + b.toNat)), 3) := dk_of ((dk_bind (dk_u1 (h 0 _ rfl))).trans ((dk_bind (dk_map (dk_u2 (h 1 _ rfl) (h 2 _ rfl)))).trans rfl))
theorem dk_163 {code : ByteArray} {pc : Nat} (a b : UInt8) (h : DkAt code pc [163, a, b]) : decode code pc = .ok (.if_icmp .gt (Reader.signed 16 (a.toNat * 256 + b.toNat)), 3) := dk_of ((dk_bind (dk_u1 (h 0 _ rfl))).trans ((dk_bind (dk_map (dk_u2 (h 1 _ rfl) (h 2 _ rfl)))).trans rfl))
theorem dk_164 {code : ByteArray} {pc : Nat} (a b : UInt8) (h : DkAt code pc [164, a, b]) : decode code pc = .ok (.if_icmp .le (Reader.signed 16 (a.toNat * 256 + b.toNat)), 3) := dk_of ((dk_bind (dk_u1 (h 0 _ rfl))).trans ((dk_bind (dk_map (dk_u2 (h 1 _ rfl) (h 2 _ rfl)))).trans rfl))
theorem dk_167 {code : ByteArray} {pc : Nat} (a b : UInt8) (h : DkAt code pc [167, a, b]) : decode code pc = .ok (.goto (Reader.signed 16 (a.toNat * 256 + b.toNat)), 3) := dk_of ((dk_bind (dk_u1 (h 0 _ rfl))).trans ((dk_bind (dk_map (dk_u2 (h 1 _ rfl) (h 2 _ rfl)))).trans rfl))
theorem dk_172 {code : ByteArray} {pc : Nat} (h : DkAt code pc [172]) : decode code pc = .ok (.ireturn, 1) := dk_of ((dk_bind (dk_u1 (h 0 _ rfl))).trans rfl)
theorem dk_173 {code : ByteArray} {pc : Nat} (h : DkAt code pc [173]) : decode code pc = .ok (.lreturn, 1) := dk_of ((dk_bind (dk_u1 (h 0 _ rfl))).trans rfl)
theorem dk_176 {code : ByteArray} {pc : Nat} (h : DkAt code pc [176]) : decode code pc = .ok (.areturn, 1) := dk_of ((dk_bind (dk_u1 (h 0 _ rfl))).trans rfl)
theorem dk_177 {code : ByteArray} {pc : Nat} (h : DkAt code pc [177]) : decode code pc = .ok (.return_, 1) := dk_of ((dk_bind (dk_u1 (h 0 _ rfl))).trans rfl)
theorem dk_178 {code : ByteArray} {pc : Nat} (a b : UInt8) (h : DkAt code pc [178, a, b]) : decode code pc = .ok (.getstatic (a.toNat * 256 + b.toNat), 3) := dk_of ((dk_bind (dk_u1 (h 0 _ rfl))).trans ((dk_bind (dk_u2 (h 1 _ rfl) (h 2 _ rfl))).trans rfl))
theorem dk_180 {code : ByteArray} {pc : Nat} (a b : UInt8) (h : DkAt code pc [180, a, b]) : decode code pc = .ok (.getfield (a.toNat * 256 + b.toNat), 3) := dk_of ((dk_bind (dk_u1 (h 0 _ rfl))).trans ((dk_bind (dk_u2 (h 1 _ rfl) (h 2 _ rfl))).trans rfl))
theorem dk_181 {code : ByteArray} {pc : Nat} (a b : UInt8) (h : DkAt code pc [181, a, b]) : decode code pc = .ok (.putfield (a.toNat * 256 + b.toNat), 3) := dk_of ((dk_bind (dk_u1 (h 0 _ rfl))).trans ((dk_bind (dk_u2 (h 1 _ rfl) (h 2 _ rfl))).trans rfl))
theorem dk_182 {code : ByteArray} {pc : Nat} (a b : UInt8) (h : DkAt code pc [182, a, b]) : decode code pc = .ok (.invokevirtual (a.toNat * 256 + b.toNat), 3) := dk_of ((dk_bind (dk_u1 (h 0 _ rfl))).trans ((dk_bind (dk_u2 (h 1 _ rfl) (h 2 _ rfl))).trans rfl))
theorem dk_183 {code : ByteArray} {pc : Nat} (a b : UInt8) (h : DkAt code pc [183, a, b]) : decode code pc = .ok (.invokespecial (a.toNat * 256 + b.toNat), 3) := dk_of ((dk_bind (dk_u1 (h 0 _ rfl))).trans ((dk_bind (dk_u2 (h 1 _ rfl) (h 2 _ rfl))).trans rfl))
theorem dk_184 {code : ByteArray} {pc : Nat} (a b : UInt8) (h : DkAt code pc [184, a, b]) : decode code pc = .ok (.invokestatic (a.toNat * 256 + b.toNat), 3) := dk_of ((dk_bind (dk_u1 (h 0 _ rfl))).trans ((dk_bind (dk_u2 (h 1 _ rfl) (h 2 _ rfl))).trans rfl))
theorem dk_187 {code : ByteArray} {pc : Nat} (a b : UInt8) (h : DkAt code pc [187, a, b]) : decode code pc = .ok (.new (a.toNat * 256 + b.toNat), 3) := dk_of ((dk_bind (dk_u1 (h 0 _ rfl))).trans ((dk_bind (dk_u2 (h 1 _ rfl) (h 2 _ rfl))).trans rfl))
theorem dk_188_4 {code : ByteArray} {pc : Nat} (h : DkAt code pc [188, 4]) : decode code pc = .ok (.newarray .boolean, 2) := dk_of ((dk_bind (dk_u1 (h 0 _ rfl))).trans ((dk_bind (dk_u1 (h 1 _ rfl))).trans rfl))
theorem dk_188_8 {code : ByteArray} {pc : Nat} (h : DkAt code pc [188, 8]) : decode code pc = .ok (.newarray .byte, 2) := dk_of ((dk_bind (dk_u1 (h 0 _ rfl))).trans ((dk_bind (dk_u1 (h 1 _ rfl))).trans rfl))
theorem dk_188_10 {code : ByteArray} {pc : Nat} (h : DkAt code pc [188, 10]) : decode code pc = .ok (.newarray .int, 2) := dk_of ((dk_bind (dk_u1 (h 0 _ rfl))).trans ((dk_bind (dk_u1 (h 1 _ rfl))).trans rfl))
theorem dk_188_11 {code : ByteArray} {pc : Nat} (h : DkAt code pc [188, 11]) : decode code pc = .ok (.newarray .long, 2) := dk_of ((dk_bind (dk_u1 (h 0 _ rfl))).trans ((dk_bind (dk_u1 (h 1 _ rfl))).trans rfl))
theorem dk_189 {code : ByteArray} {pc : Nat} (a b : UInt8) (h : DkAt code pc [189, a, b]) : decode code pc = .ok (.anewarray (a.toNat * 256 + b.toNat), 3) := dk_of ((dk_bind (dk_u1 (h 0 _ rfl))).trans ((dk_bind (dk_u2 (h 1 _ rfl) (h 2 _ rfl))).trans rfl))
theorem dk_190 {code : ByteArray} {pc : Nat} (h : DkAt code pc [190]) : decode code pc = .ok (.arraylength, 1) := dk_of ((dk_bind (dk_u1 (h 0 _ rfl))).trans rfl)
theorem dk_191 {code : ByteArray} {pc : Nat} (h : DkAt code pc [191]) : decode code pc = .ok (.athrow, 1) := dk_of ((dk_bind (dk_u1 (h 0 _ rfl))).trans rfl)
theorem dk_199 {code : ByteArray} {pc : Nat} (a b : UInt8) (h : DkAt code pc [199, a, b]) : decode code pc = .ok (.ifnonnull (Reader.signed 16 (a.toNat * 256 + b.toNat)), 3) := dk_of ((dk_bind (dk_u1 (h 0 _ rfl))).trans ((dk_bind (dk_map (dk_u2 (h 1 _ rfl) (h 2 _ rfl)))).trans rfl))
def RJ0 : String := "java/lang/Throwable"
def TJ0 : u_T := fun k => match k with
  | 0 => ("java/lang/Throwable", "cause", "Ljava/lang/Throwable;", false)
  | 1 => ("java/lang/Throwable", "stackTrace", "[Ljava/lang/StackTraceElement;", false)
  | 2 => ("java/lang/Throwable", "suppressedExceptions", "Ljava/util/List;", false)
  | 3 => ("java/lang/Throwable", "detailMessage", "Ljava/lang/String;", false)
  | _ => ("java/lang/Throwable", "backtrace", "Ljava/lang/Object;", false)
def tyJ0 : Nat → FieldType := fun k => match k with
  | 0 => .object "java/lang/Throwable"
  | 1 => .array (.object "java/lang/StackTraceElement")
  | 2 => .object "java/util/List"
  | 3 => .object "java/lang/String"
  | _ => .object "java/lang/Object"
abbrev wsJ00 : List Cond := u_ws RJ0 TJ0 5
theorem nmJ0 : ∀ a, a < 5 → ∀ b, b < 5 → a ≠ b → (TJ0 a).2.1 ≠ (TJ0 b).2.1 := by decide +kernel
theorem tyJ0_ok : ∀ k, k < 5 → parseFieldDescriptor (TJ0 k).2.2.1 = some (tyJ0 k) := by decide +kernel
def RJ1 : String := "java/lang/Exception"
def RJ2 : String := "java/lang/String"
def RJ3 : String := "java/lang/StringLatin1"
def RJ4 : String := "jdk/internal/util/Preconditions"
def RJ5 : String := "java/lang/StringUTF16"
def RJ6 : String := "java/lang/Math"
def RJ7 : String := "java/lang/Long"
def RJ8 : String := "java/lang/RuntimeException"
def RJ9 : String := "java/util/NoSuchElementException"
def TJ9 : u_T := fun k => match k with
  | 0 => ("java/lang/Throwable", "cause", "Ljava/lang/Throwable;", false)
  | 1 => ("java/lang/Throwable", "stackTrace", "[Ljava/lang/StackTraceElement;", false)
  | 2 => ("java/lang/Throwable", "suppressedExceptions", "Ljava/util/List;", false)
  | 3 => ("java/lang/Throwable", "detailMessage", "Ljava/lang/String;", false)
  | 4 => ("java/lang/Throwable", "backtrace", "Ljava/lang/Object;", false)
  | _ => ("java/lang/Throwable", "depth", "I", false)
def tyJ9 : Nat → FieldType := fun k => match k with
  | 0 => .object "java/lang/Throwable"
  | 1 => .array (.object "java/lang/StackTraceElement")
  | 2 => .object "java/util/List"
  | 3 => .object "java/lang/String"
  | 4 => .object "java/lang/Object"
  | _ => .int
abbrev wsJ90 : List Cond := u_ws RJ9 TJ9 6
theorem nmJ9 : ∀ a, a < 6 → ∀ b, b < 6 → a ≠ b → (TJ9 a).2.1 ≠ (TJ9 b).2.1 := by decide +kernel
theorem tyJ9_ok : ∀ k, k < 6 → parseFieldDescriptor (TJ9 k).2.2.1 = some (tyJ9 k) := by decide +kernel
def RJ10 : String := "java/lang/Integer"
def RJ11 : String := "java/lang/Object"
def RX0 : String := "BitingDoorsLaw"
def RX1 : String := "BitingDoors"
def TX1 : u_T := fun k => match k with
  | 0 => ("BitingDoors", "tape", "[B", true)
  | 1 => ("BitingDoors", "length", "I", false)
  | 2 => ("BitingDoors", "size", "I", false)
  | 3 => ("BitingDoors", "today", "I", false)
  | 4 => ("BitingDoors", "broken", "LBitingDoors$Fault;", true)
  | 5 => ("BitingDoors", "words", "[Ljava/lang/String;", true)
  | 6 => ("BitingDoors", "lines", "[Ljava/lang/String;", true)
  | 7 => ("BitingDoors", "sides", "[Ljava/lang/String;", true)
  | 8 => ("BitingDoors", "does", "[Ljava/lang/String;", true)
  | 9 => ("BitingDoors", "now", "LBitingDoors$Walker;", true)
  | 10 => ("BitingDoors", "tried", "LBitingDoors$Walker;", true)
  | 11 => ("BitingDoors", "day", "LBitingDoors$Day;", false)
  | 12 => ("BitingDoors", "houseReader", "LBitingDoors$HouseReader;", true)
  | 13 => ("BitingDoors", "dayReader", "LBitingDoors$DayReader;", true)
  | 14 => ("BitingDoors", "fault", "I", false)
  | 15 => ("BitingDoors", "domains", "[I", true)
  | 16 => ("BitingDoors", "hung", "[I", true)
  | 17 => ("BitingDoors", "bestHung", "[I", true)
  | 18 => ("BitingDoors", "bestCosts", "I", false)
  | 19 => ("BitingDoors", "bestMany", "I", false)
  | 20 => ("BitingDoors", "wayMany", "I", false)
  | 21 => ("BitingDoors", "left", "[I", true)
  | 22 => ("BitingDoors", "forcedTo", "[I", true)
  | 23 => ("BitingDoors", "chain", "[I", true)
  | 24 => ("BitingDoors", "forcedMany", "I", false)
  | 25 => ("BitingDoors", "chainMany", "I", false)
  | 26 => ("BitingDoors", "changes", "[I", true)
  | 27 => ("BitingDoors", "order", "[I", true)
  | 28 => ("BitingDoors", "meanwhile", "[I", true)
  | 29 => ("BitingDoors", "behind", "[I", true)
  | 30 => ("BitingDoors", "clash", "[I", true)
  | 31 => ("BitingDoors", "orderMany", "I", false)
  | 32 => ("BitingDoors", "judged", "[I", true)
  | 33 => ("BitingDoors", "hasJudged", "Z", false)
  | 34 => ("BitingDoors", "from", "[I", true)
  | 35 => ("BitingDoors", "by", "[I", true)
  | 36 => ("BitingDoors", "queue", "[I", true)
  | 37 => ("BitingDoors", "found", "[I", true)
  | 38 => ("BitingDoors", "queued", "I", false)
  | 39 => ("BitingDoors", "foundMany", "I", false)
  | 40 => ("BitingDoors", "seen", "[Z", true)
  | 41 => ("BitingDoors", "sentenceReader", "LBitingDoors$SentenceReader;", true)
  | 42 => ("BitingDoors", "sentence", "LBitingDoors$Cond;", false)
  | 43 => ("BitingDoors", "images", "[LBitingDoors$Walker;", true)
  | 44 => ("BitingDoors", "days", "[LBitingDoors$Day;", true)
  | _ => ("BitingDoors", "sentences", "[LBitingDoors$Cond;", true)
def tyX1 : Nat → FieldType := fun k => match k with
  | 0 => .array .byte
  | 1 => .int
  | 2 => .int
  | 3 => .int
  | 4 => .object "BitingDoors$Fault"
  | 5 => .array (.object "java/lang/String")
  | 6 => .array (.object "java/lang/String")
  | 7 => .array (.object "java/lang/String")
  | 8 => .array (.object "java/lang/String")
  | 9 => .object "BitingDoors$Walker"
  | 10 => .object "BitingDoors$Walker"
  | 11 => .object "BitingDoors$Day"
  | 12 => .object "BitingDoors$HouseReader"
  | 13 => .object "BitingDoors$DayReader"
  | 14 => .int
  | 15 => .array .int
  | 16 => .array .int
  | 17 => .array .int
  | 18 => .int
  | 19 => .int
  | 20 => .int
  | 21 => .array .int
  | 22 => .array .int
  | 23 => .array .int
  | 24 => .int
  | 25 => .int
  | 26 => .array .int
  | 27 => .array .int
  | 28 => .array .int
  | 29 => .array .int
  | 30 => .array .int
  | 31 => .int
  | 32 => .array .int
  | 33 => .boolean
  | 34 => .array .int
  | 35 => .array .int
  | 36 => .array .int
  | 37 => .array .int
  | 38 => .int
  | 39 => .int
  | 40 => .array .boolean
  | 41 => .object "BitingDoors$SentenceReader"
  | 42 => .object "BitingDoors$Cond"
  | 43 => .array (.object "BitingDoors$Walker")
  | 44 => .array (.object "BitingDoors$Day")
  | _ => .array (.object "BitingDoors$Cond")
abbrev wsX10 : List Cond := u_ws RX1 TX1 46
theorem nmX1 : ∀ a, a < 46 → ∀ b, b < 46 → a ≠ b → (TX1 a).2.1 ≠ (TX1 b).2.1 := by decide +kernel
theorem tyX1_ok : ∀ k, k < 46 → parseFieldDescriptor (TX1 k).2.2.1 = some (tyX1 k) := by decide +kernel
def RX2 : String := "BitingDoors$Fault"
def TX2 : u_T := fun k => match k with
  | 0 => ("java/lang/Throwable", "cause", "Ljava/lang/Throwable;", false)
  | 1 => ("java/lang/Throwable", "stackTrace", "[Ljava/lang/StackTraceElement;", false)
  | 2 => ("java/lang/Throwable", "suppressedExceptions", "Ljava/util/List;", false)
  | 3 => ("java/lang/Throwable", "detailMessage", "Ljava/lang/String;", false)
  | 4 => ("java/lang/Throwable", "backtrace", "Ljava/lang/Object;", false)
  | 5 => ("java/lang/Throwable", "depth", "I", false)
  | 6 => ("BitingDoors$Fault", "kind", "I", false)
  | _ => ("BitingDoors$Fault", "place", "I", false)
def tyX2 : Nat → FieldType := fun k => match k with
  | 0 => .object "java/lang/Throwable"
  | 1 => .array (.object "java/lang/StackTraceElement")
  | 2 => .object "java/util/List"
  | 3 => .object "java/lang/String"
  | 4 => .object "java/lang/Object"
  | 5 => .int
  | 6 => .int
  | _ => .int
abbrev wsX20 : List Cond := u_ws RX2 TX2 8
theorem nmX2 : ∀ a, a < 8 → ∀ b, b < 8 → a ≠ b → (TX2 a).2.1 ≠ (TX2 b).2.1 := by decide +kernel
theorem tyX2_ok : ∀ k, k < 8 → parseFieldDescriptor (TX2 k).2.2.1 = some (tyX2 k) := by decide +kernel
def RX3 : String := "BitingDoors$Walker"
def TX3 : u_T := fun k => match k with
  | 0 => ("BitingDoors$Walker", "house", "LBitingDoors$House;", false)
  | 1 => ("BitingDoors$Walker", "hanging", "[I", true)
  | 2 => ("BitingDoors$Walker", "angle", "[I", true)
  | 3 => ("BitingDoors$Walker", "place", "I", false)
  | 4 => ("BitingDoors$Walker", "minutes", "I", false)
  | _ => ("BitingDoors$Walker", "shuts", "I", false)
def tyX3 : Nat → FieldType := fun k => match k with
  | 0 => .object "BitingDoors$House"
  | 1 => .array .int
  | 2 => .array .int
  | 3 => .int
  | 4 => .int
  | _ => .int
abbrev wsX30 : List Cond := u_ws RX3 TX3 6
theorem nmX3 : ∀ a, a < 6 → ∀ b, b < 6 → a ≠ b → (TX3 a).2.1 ≠ (TX3 b).2.1 := by decide +kernel
theorem tyX3_ok : ∀ k, k < 6 → parseFieldDescriptor (TX3 k).2.2.1 = some (tyX3 k) := by decide +kernel
def RX4 : String := "BitingDoors$House"
def TX4 : u_T := fun k => match k with
  | 0 => ("BitingDoors$House", "cells", "[I", true)
  | 1 => ("BitingDoors$House", "draughts", "[I", true)
  | 2 => ("BitingDoors$House", "doors", "[LBitingDoors$Door;", true)
  | 3 => ("BitingDoors$House", "bites", "[I", true)
  | 4 => ("BitingDoors$House", "columns", "I", false)
  | 5 => ("BitingDoors$House", "rows", "I", false)
  | 6 => ("BitingDoors$House", "many", "I", false)
  | 7 => ("BitingDoors$House", "draughtMany", "I", false)
  | _ => ("BitingDoors$House", "bed", "I", false)
def tyX4 : Nat → FieldType := fun k => match k with
  | 0 => .array .int
  | 1 => .array .int
  | 2 => .array (.object "BitingDoors$Door")
  | 3 => .array .int
  | 4 => .int
  | 5 => .int
  | 6 => .int
  | 7 => .int
  | _ => .int
abbrev wsX40 : List Cond := u_ws RX4 TX4 9
theorem nmX4 : ∀ a, a < 9 → ∀ b, b < 9 → a ≠ b → (TX4 a).2.1 ≠ (TX4 b).2.1 := by decide +kernel
theorem tyX4_ok : ∀ k, k < 9 → parseFieldDescriptor (TX4 k).2.2.1 = some (tyX4 k) := by decide +kernel
def RX5 : String := "BitingDoors$Day"
def TX5 : u_T := fun k => match k with
  | 0 => ("BitingDoors$Day", "acts", "[LBitingDoors$Act;", true)
  | _ => ("BitingDoors$Day", "many", "I", false)
def tyX5 : Nat → FieldType := fun k => match k with
  | 0 => .array (.object "BitingDoors$Act")
  | _ => .int
abbrev wsX50 : List Cond := u_ws RX5 TX5 2
theorem nmX5 : ∀ a, a < 2 → ∀ b, b < 2 → a ≠ b → (TX5 a).2.1 ≠ (TX5 b).2.1 := by decide +kernel
theorem tyX5_ok : ∀ k, k < 2 → parseFieldDescriptor (TX5 k).2.2.1 = some (tyX5 k) := by decide +kernel
def RX6 : String := "BitingDoors$Reader"
def RX7 : String := "BitingDoors$HouseReader"
def TX7 : u_T := fun k => match k with
  | 0 => ("BitingDoors$Reader", "most", "I", true)
  | 1 => ("BitingDoors$Reader", "p", "I", false)
  | 2 => ("BitingDoors$Reader", "at", "I", false)
  | 3 => ("BitingDoors$Reader", "token", "I", false)
  | 4 => ("BitingDoors$Reader", "value", "I", false)
  | 5 => ("BitingDoors$Reader", "many", "I", false)
  | 6 => ("BitingDoors$Reader", "name", "J", false)
  | 7 => ("BitingDoors$Reader", "this$0", "LBitingDoors;", true)
  | 8 => ("BitingDoors$HouseReader", "x", "LBitingDoors$House;", false)
  | _ => ("BitingDoors$HouseReader", "this$0", "LBitingDoors;", true)
def tyX7 : Nat → FieldType := fun k => match k with
  | 0 => .int
  | 1 => .int
  | 2 => .int
  | 3 => .int
  | 4 => .int
  | 5 => .int
  | 6 => .long
  | 7 => .object "BitingDoors"
  | 8 => .object "BitingDoors$House"
  | _ => .object "BitingDoors"
abbrev wsX70 : List Cond := u_ws RX7 TX7 10
-- two fields of one name: no nmX7
theorem tyX7_ok : ∀ k, k < 10 → parseFieldDescriptor (TX7 k).2.2.1 = some (tyX7 k) := by decide +kernel
def RX8 : String := "BitingDoors$DayReader"
def TX8 : u_T := fun k => match k with
  | 0 => ("BitingDoors$Reader", "most", "I", true)
  | 1 => ("BitingDoors$Reader", "p", "I", false)
  | 2 => ("BitingDoors$Reader", "at", "I", false)
  | 3 => ("BitingDoors$Reader", "token", "I", false)
  | 4 => ("BitingDoors$Reader", "value", "I", false)
  | 5 => ("BitingDoors$Reader", "many", "I", false)
  | 6 => ("BitingDoors$Reader", "name", "J", false)
  | 7 => ("BitingDoors$Reader", "this$0", "LBitingDoors;", true)
  | _ => ("BitingDoors$DayReader", "this$0", "LBitingDoors;", true)
def tyX8 : Nat → FieldType := fun k => match k with
  | 0 => .int
  | 1 => .int
  | 2 => .int
  | 3 => .int
  | 4 => .int
  | 5 => .int
  | 6 => .long
  | 7 => .object "BitingDoors"
  | _ => .object "BitingDoors"
abbrev wsX80 : List Cond := u_ws RX8 TX8 9
-- two fields of one name: no nmX8
theorem tyX8_ok : ∀ k, k < 9 → parseFieldDescriptor (TX8 k).2.2.1 = some (tyX8 k) := by decide +kernel
def RX9 : String := "BitingDoors$SentenceReader"
def TX9 : u_T := fun k => match k with
  | 0 => ("BitingDoors$Reader", "most", "I", true)
  | 1 => ("BitingDoors$Reader", "p", "I", false)
  | 2 => ("BitingDoors$Reader", "at", "I", false)
  | 3 => ("BitingDoors$Reader", "token", "I", false)
  | 4 => ("BitingDoors$Reader", "value", "I", false)
  | 5 => ("BitingDoors$Reader", "many", "I", false)
  | 6 => ("BitingDoors$Reader", "name", "J", false)
  | 7 => ("BitingDoors$Reader", "this$0", "LBitingDoors;", true)
  | 8 => ("BitingDoors$SentenceReader", "stands", "[Ljava/lang/String;", true)
  | 9 => ("BitingDoors$SentenceReader", "counts", "[Ljava/lang/String;", true)
  | 10 => ("BitingDoors$SentenceReader", "ones", "I", false)
  | _ => ("BitingDoors$SentenceReader", "this$0", "LBitingDoors;", true)
def tyX9 : Nat → FieldType := fun k => match k with
  | 0 => .int
  | 1 => .int
  | 2 => .int
  | 3 => .int
  | 4 => .int
  | 5 => .int
  | 6 => .long
  | 7 => .object "BitingDoors"
  | 8 => .array (.object "java/lang/String")
  | 9 => .array (.object "java/lang/String")
  | 10 => .int
  | _ => .object "BitingDoors"
abbrev wsX90 : List Cond := u_ws RX9 TX9 12
-- two fields of one name: no nmX9
theorem tyX9_ok : ∀ k, k < 12 → parseFieldDescriptor (TX9 k).2.2.1 = some (tyX9 k) := by decide +kernel
def RX10 : String := "BitingDoorsModel"
def TX10 : u_T := fun k => match k with
  | 0 => ("BitingDoorsModel", "thrown", "I", false)
  | 1 => ("BitingDoorsModel", "tape", "[I", true)
  | 2 => ("BitingDoorsModel", "taped", "I", false)
  | 3 => ("BitingDoorsModel", "size", "I", false)
  | 4 => ("BitingDoorsModel", "limit", "I", false)
  | 5 => ("BitingDoorsModel", "to", "I", false)
  | 6 => ("BitingDoorsModel", "from", "I", false)
  | 7 => ("BitingDoorsModel", "kind", "I", false)
  | 8 => ("BitingDoorsModel", "number", "I", false)
  | 9 => ("BitingDoorsModel", "sign", "I", false)
  | 10 => ("BitingDoorsModel", "fault", "I", false)
  | 11 => ("BitingDoorsModel", "place", "I", false)
  | 12 => ("BitingDoorsModel", "word", "J", false)
  | 13 => ("BitingDoorsModel", "told", "I", false)
  | 14 => ("BitingDoorsModel", "now", "[I", true)
  | 15 => ("BitingDoorsModel", "read", "[I", true)
  | 16 => ("BitingDoorsModel", "line", "[I", true)
  | 17 => ("BitingDoorsModel", "kept", "[I", true)
  | 18 => ("BitingDoorsModel", "name", "[J", true)
  | 19 => ("BitingDoorsModel", "readName", "[J", true)
  | 20 => ("BitingDoorsModel", "keptName", "[J", true)
  | 21 => ("BitingDoorsModel", "isKept", "[Z", true)
  | 22 => ("BitingDoorsModel", "isBegun", "Z", false)
  | 23 => ("BitingDoorsModel", "minutes", "I", false)
  | 24 => ("BitingDoorsModel", "leafX", "[I", true)
  | 25 => ("BitingDoorsModel", "leafY", "[I", true)
  | 26 => ("BitingDoorsModel", "leafMany", "I", false)
  | 27 => ("BitingDoorsModel", "upper", "[J", true)
  | 28 => ("BitingDoorsModel", "lower", "[J", true)
  | 29 => ("BitingDoorsModel", "fits", "[I", true)
  | 30 => ("BitingDoorsModel", "trial", "[I", true)
  | 31 => ("BitingDoorsModel", "best", "[I", true)
  | 32 => ("BitingDoorsModel", "least", "I", false)
  | 33 => ("BitingDoorsModel", "waysMany", "I", false)
  | 34 => ("BitingDoorsModel", "left", "[I", true)
  | 35 => ("BitingDoorsModel", "forcedTo", "[I", true)
  | 36 => ("BitingDoorsModel", "forcedRow", "[I", true)
  | 37 => ("BitingDoorsModel", "forcedMany", "I", false)
  | 38 => ("BitingDoorsModel", "forcedDoors", "I", false)
  | 39 => ("BitingDoorsModel", "clash", "[I", true)
  | 40 => ("BitingDoorsModel", "worst", "[I", true)
  | 41 => ("BitingDoorsModel", "joined", "[I", true)
  | 42 => ("BitingDoorsModel", "joinedMany", "I", false)
  | 43 => ("BitingDoorsModel", "angle", "[I", true)
  | 44 => ("BitingDoorsModel", "leafOn", "[I", true)
  | 45 => ("BitingDoorsModel", "stands", "I", false)
  | 46 => ("BitingDoorsModel", "draughtShut", "I", false)
  | 47 => ("BitingDoorsModel", "lineMany", "I", false)
  | 48 => ("BitingDoorsModel", "judged", "[I", true)
  | 49 => ("BitingDoorsModel", "spent", "I", false)
  | 50 => ("BitingDoorsModel", "queue", "[I", true)
  | 51 => ("BitingDoorsModel", "cameFrom", "[I", true)
  | 52 => ("BitingDoorsModel", "cameBy", "[I", true)
  | 53 => ("BitingDoorsModel", "wayRow", "[I", true)
  | 54 => ("BitingDoorsModel", "wayTold", "[I", true)
  | 55 => ("BitingDoorsModel", "queued", "I", false)
  | 56 => ("BitingDoorsModel", "wayMany", "I", false)
  | 57 => ("BitingDoorsModel", "wayToldMany", "I", false)
  | 58 => ("BitingDoorsModel", "met", "[Z", true)
  | 59 => ("BitingDoorsModel", "node", "[I", true)
  | 60 => ("BitingDoorsModel", "nodes", "I", false)
  | 61 => ("BitingDoorsModel", "onesMany", "I", false)
  | 62 => ("BitingDoorsModel", "within", "I", false)
  | _ => ("BitingDoorsModel", "top", "I", false)
def tyX10 : Nat → FieldType := fun k => match k with
  | 0 => .int
  | 1 => .array .int
  | 2 => .int
  | 3 => .int
  | 4 => .int
  | 5 => .int
  | 6 => .int
  | 7 => .int
  | 8 => .int
  | 9 => .int
  | 10 => .int
  | 11 => .int
  | 12 => .long
  | 13 => .int
  | 14 => .array .int
  | 15 => .array .int
  | 16 => .array .int
  | 17 => .array .int
  | 18 => .array .long
  | 19 => .array .long
  | 20 => .array .long
  | 21 => .array .boolean
  | 22 => .boolean
  | 23 => .int
  | 24 => .array .int
  | 25 => .array .int
  | 26 => .int
  | 27 => .array .long
  | 28 => .array .long
  | 29 => .array .int
  | 30 => .array .int
  | 31 => .array .int
  | 32 => .int
  | 33 => .int
  | 34 => .array .int
  | 35 => .array .int
  | 36 => .array .int
  | 37 => .int
  | 38 => .int
  | 39 => .array .int
  | 40 => .array .int
  | 41 => .array .int
  | 42 => .int
  | 43 => .array .int
  | 44 => .array .int
  | 45 => .int
  | 46 => .int
  | 47 => .int
  | 48 => .array .int
  | 49 => .int
  | 50 => .array .int
  | 51 => .array .int
  | 52 => .array .int
  | 53 => .array .int
  | 54 => .array .int
  | 55 => .int
  | 56 => .int
  | 57 => .int
  | 58 => .array .boolean
  | 59 => .array .int
  | 60 => .int
  | 61 => .int
  | 62 => .int
  | _ => .int
abbrev wsX100 : List Cond := u_ws RX10 TX10 64
theorem nmX10 : ∀ a, a < 64 → ∀ b, b < 64 → a ≠ b → (TX10 a).2.1 ≠ (TX10 b).2.1 := by decide +kernel
theorem tyX10_ok : ∀ k, k < 64 → parseFieldDescriptor (TX10 k).2.2.1 = some (tyX10 k) := by decide +kernel
def RX11 : String := "BitingDoors$Door"
def TX11 : u_T := fun k => match k with
  | 0 => ("BitingDoors$Door", "name", "J", true)
  | 1 => ("BitingDoors$Door", "x", "I", true)
  | 2 => ("BitingDoors$Door", "y", "I", true)
  | 3 => ("BitingDoors$Door", "length", "I", true)
  | 4 => ("BitingDoors$Door", "across", "Z", true)
  | 5 => ("BitingDoors$Door", "leaves", "[LBitingDoors$Cells;", true)
  | 6 => ("BitingDoors$Door", "swept", "[LBitingDoors$Cells;", true)
  | 7 => ("BitingDoors$Door", "can", "[I", true)
  | 8 => ("BitingDoors$Door", "hanging", "I", false)
  | 9 => ("BitingDoors$Door", "told", "I", false)
  | 10 => ("BitingDoors$Door", "costs", "I", false)
  | _ => ("BitingDoors$Door", "whole", "Z", false)
def tyX11 : Nat → FieldType := fun k => match k with
  | 0 => .long
  | 1 => .int
  | 2 => .int
  | 3 => .int
  | 4 => .boolean
  | 5 => .array (.object "BitingDoors$Cells")
  | 6 => .array (.object "BitingDoors$Cells")
  | 7 => .array .int
  | 8 => .int
  | 9 => .int
  | 10 => .int
  | _ => .boolean
abbrev wsX110 : List Cond := u_ws RX11 TX11 12
theorem nmX11 : ∀ a, a < 12 → ∀ b, b < 12 → a ≠ b → (TX11 a).2.1 ≠ (TX11 b).2.1 := by decide +kernel
theorem tyX11_ok : ∀ k, k < 12 → parseFieldDescriptor (TX11 k).2.2.1 = some (tyX11 k) := by decide +kernel
def RX12 : String := "BitingDoors$Cells"
def TX12 : u_T := fun k => match k with
  | 0 => ("BitingDoors$Cells", "row", "[I", true)
  | 1 => ("BitingDoors$Cells", "many", "I", false)
  | 2 => ("BitingDoors$Cells", "low", "J", false)
  | 3 => ("BitingDoors$Cells", "high", "J", false)
  | _ => ("BitingDoors$Cells", "beyond", "Z", false)
def tyX12 : Nat → FieldType := fun k => match k with
  | 0 => .array .int
  | 1 => .int
  | 2 => .long
  | 3 => .long
  | _ => .boolean
abbrev wsX120 : List Cond := u_ws RX12 TX12 5
theorem nmX12 : ∀ a, a < 5 → ∀ b, b < 5 → a ≠ b → (TX12 a).2.1 ≠ (TX12 b).2.1 := by decide +kernel
theorem tyX12_ok : ∀ k, k < 5 → parseFieldDescriptor (TX12 k).2.2.1 = some (tyX12 k) := by decide +kernel
def RX13 : String := "BitingDoors$Act"
def RX14 : String := "BitingDoors$Go"
def TX14 : u_T := fun k => match k with
  | 0 => ("BitingDoors$Go", "side", "I", true)
  | _ => ("BitingDoors$Go", "times", "I", true)
def tyX14 : Nat → FieldType := fun k => match k with
  | 0 => .int
  | _ => .int
abbrev wsX140 : List Cond := u_ws RX14 TX14 2
theorem nmX14 : ∀ a, a < 2 → ∀ b, b < 2 → a ≠ b → (TX14 a).2.1 ≠ (TX14 b).2.1 := by decide +kernel
theorem tyX14_ok : ∀ k, k < 2 → parseFieldDescriptor (TX14 k).2.2.1 = some (tyX14 k) := by decide +kernel
def RX15 : String := "BitingDoors$Turn"
def RX16 : String := "BitingDoors$Open"
def TX16 : u_T := fun k => match k with
  | _ => ("BitingDoors$Turn", "door", "I", true)
def tyX16 : Nat → FieldType := fun k => match k with
  | _ => .int
abbrev wsX160 : List Cond := u_ws RX16 TX16 1
theorem nmX16 : ∀ a, a < 1 → ∀ b, b < 1 → a ≠ b → (TX16 a).2.1 ≠ (TX16 b).2.1 := by decide +kernel
theorem tyX16_ok : ∀ k, k < 1 → parseFieldDescriptor (TX16 k).2.2.1 = some (tyX16 k) := by decide +kernel
def RX17 : String := "BitingDoors$Shut"
def TX17 : u_T := fun k => match k with
  | _ => ("BitingDoors$Turn", "door", "I", true)
def tyX17 : Nat → FieldType := fun k => match k with
  | _ => .int
abbrev wsX170 : List Cond := u_ws RX17 TX17 1
theorem nmX17 : ∀ a, a < 1 → ∀ b, b < 1 → a ≠ b → (TX17 a).2.1 ≠ (TX17 b).2.1 := by decide +kernel
theorem tyX17_ok : ∀ k, k < 1 → parseFieldDescriptor (TX17 k).2.2.1 = some (tyX17 k) := by decide +kernel
def RX18 : String := "BitingDoors$Rest"
def TX18 : u_T := fun k => match k with
  | _ => ("BitingDoors$Rest", "times", "I", true)
def tyX18 : Nat → FieldType := fun k => match k with
  | _ => .int
abbrev wsX180 : List Cond := u_ws RX18 TX18 1
theorem nmX18 : ∀ a, a < 1 → ∀ b, b < 1 → a ≠ b → (TX18 a).2.1 ≠ (TX18 b).2.1 := by decide +kernel
theorem tyX18_ok : ∀ k, k < 1 → parseFieldDescriptor (TX18 k).2.2.1 = some (tyX18 k) := by decide +kernel
def RX19 : String := "BitingDoors$Cond"
def RX20 : String := "BitingDoors$Not"
def TX20 : u_T := fun k => match k with
  | _ => ("BitingDoors$Not", "a", "LBitingDoors$Cond;", true)
def tyX20 : Nat → FieldType := fun k => match k with
  | _ => .object "BitingDoors$Cond"
abbrev wsX200 : List Cond := u_ws RX20 TX20 1
theorem nmX20 : ∀ a, a < 1 → ∀ b, b < 1 → a ≠ b → (TX20 a).2.1 ≠ (TX20 b).2.1 := by decide +kernel
theorem tyX20_ok : ∀ k, k < 1 → parseFieldDescriptor (TX20 k).2.2.1 = some (tyX20 k) := by decide +kernel
def RX21 : String := "BitingDoors$Bites"
def TX21 : u_T := fun k => match k with
  | _ => ("BitingDoors$Bites", "other", "I", true)
def tyX21 : Nat → FieldType := fun k => match k with
  | _ => .int
abbrev wsX210 : List Cond := u_ws RX21 TX21 1
theorem nmX21 : ∀ a, a < 1 → ∀ b, b < 1 → a ≠ b → (TX21 a).2.1 ≠ (TX21 b).2.1 := by decide +kernel
theorem tyX21_ok : ∀ k, k < 1 → parseFieldDescriptor (TX21 k).2.2.1 = some (tyX21 k) := by decide +kernel
def RX22 : String := "BitingDoors$Stands"
def TX22 : u_T := fun k => match k with
  | _ => ("BitingDoors$Stands", "what", "I", true)
def tyX22 : Nat → FieldType := fun k => match k with
  | _ => .int
abbrev wsX220 : List Cond := u_ws RX22 TX22 1
theorem nmX22 : ∀ a, a < 1 → ∀ b, b < 1 → a ≠ b → (TX22 a).2.1 ≠ (TX22 b).2.1 := by decide +kernel
theorem tyX22_ok : ∀ k, k < 1 → parseFieldDescriptor (TX22 k).2.2.1 = some (tyX22 k) := by decide +kernel
def RX23 : String := "BitingDoors$Counts"
def TX23 : u_T := fun k => match k with
  | 0 => ("BitingDoors$Counts", "what", "I", true)
  | 1 => ("BitingDoors$Counts", "sign", "I", true)
  | _ => ("BitingDoors$Counts", "number", "I", true)
def tyX23 : Nat → FieldType := fun k => match k with
  | 0 => .int
  | 1 => .int
  | _ => .int
abbrev wsX230 : List Cond := u_ws RX23 TX23 3
theorem nmX23 : ∀ a, a < 3 → ∀ b, b < 3 → a ≠ b → (TX23 a).2.1 ≠ (TX23 b).2.1 := by decide +kernel
theorem tyX23_ok : ∀ k, k < 3 → parseFieldDescriptor (TX23 k).2.2.1 = some (tyX23 k) := by decide +kernel
def RX24 : String := "BitingDoors$Both"
def TX24 : u_T := fun k => match k with
  | 0 => ("BitingDoors$Both", "a", "LBitingDoors$Cond;", true)
  | _ => ("BitingDoors$Both", "b", "LBitingDoors$Cond;", true)
def tyX24 : Nat → FieldType := fun k => match k with
  | 0 => .object "BitingDoors$Cond"
  | _ => .object "BitingDoors$Cond"
abbrev wsX240 : List Cond := u_ws RX24 TX24 2
theorem nmX24 : ∀ a, a < 2 → ∀ b, b < 2 → a ≠ b → (TX24 a).2.1 ≠ (TX24 b).2.1 := by decide +kernel
theorem tyX24_ok : ∀ k, k < 2 → parseFieldDescriptor (TX24 k).2.2.1 = some (tyX24 k) := by decide +kernel
def RX25 : String := "BitingDoors$Any"
def TX25 : u_T := fun k => match k with
  | 0 => ("BitingDoors$Any", "a", "LBitingDoors$Cond;", true)
  | _ => ("BitingDoors$Any", "b", "LBitingDoors$Cond;", true)
def tyX25 : Nat → FieldType := fun k => match k with
  | 0 => .object "BitingDoors$Cond"
  | _ => .object "BitingDoors$Cond"
abbrev wsX250 : List Cond := u_ws RX25 TX25 2
theorem nmX25 : ∀ a, a < 2 → ∀ b, b < 2 → a ≠ b → (TX25 a).2.1 ≠ (TX25 b).2.1 := by decide +kernel
theorem tyX25_ok : ∀ k, k < 2 → parseFieldDescriptor (TX25 k).2.2.1 = some (tyX25 k) := by decide +kernel
abbrev cJ0_init : ByteArray := prog_36_method_1_code
def yJ0_init : MethodName := ⟨RJ0, "<init>", "()V"⟩
abbrev cJ0_init_2 : ByteArray := prog_36_method_5_code
def yJ0_init_2 : MethodName := ⟨RJ0, "<init>", "(Ljava/lang/String;Ljava/lang/Throwable;ZZ)V"⟩
abbrev cJ1_init : ByteArray := prog_27_method_5_code
def yJ1_init : MethodName := ⟨RJ1, "<init>", "(Ljava/lang/String;Ljava/lang/Throwable;ZZ)V"⟩
abbrev cJ1_init_2 : ByteArray := prog_27_method_1_code
def yJ1_init_2 : MethodName := ⟨RJ1, "<init>", "()V"⟩
abbrev cJ2_charAt : ByteArray := prog_32_method_56_code
def yJ2_charAt : MethodName := ⟨RJ2, "charAt", "(I)C"⟩
abbrev cJ2_checkIndex : ByteArray := prog_32_method_155_code
def yJ2_checkIndex : MethodName := ⟨RJ2, "checkIndex", "(II)V"⟩
abbrev cJ2_coder : ByteArray := prog_32_method_152_code
def yJ2_coder : MethodName := ⟨RJ2, "coder", "()B"⟩
abbrev cJ2_isLatin1 : ByteArray := prog_32_method_154_code
def yJ2_isLatin1 : MethodName := ⟨RJ2, "isLatin1", "()Z"⟩
abbrev cJ2_length : ByteArray := prog_32_method_54_code
def yJ2_length : MethodName := ⟨RJ2, "length", "()I"⟩
abbrev cJ3_charAt : ByteArray := prog_33_method_2_code
def yJ3_charAt : MethodName := ⟨RJ3, "charAt", "([BI)C"⟩
abbrev cJ4_checkIndex : ByteArray := prog_38_method_11_code
def yJ4_checkIndex : MethodName := ⟨RJ4, "checkIndex", "(IILjava/util/function/BiFunction;)I"⟩
abbrev cJ5_charAt : ByteArray := prog_34_method_83_code
def yJ5_charAt : MethodName := ⟨RJ5, "charAt", "([BI)C"⟩
abbrev cJ5_checkIndex : ByteArray := prog_34_method_91_code
def yJ5_checkIndex : MethodName := ⟨RJ5, "checkIndex", "(I[B)V"⟩
abbrev cJ5_getChar : ByteArray := prog_34_method_5_code
def yJ5_getChar : MethodName := ⟨RJ5, "getChar", "([BI)C"⟩
abbrev cJ5_length : ByteArray := prog_34_method_6_code
def yJ5_length : MethodName := ⟨RJ5, "length", "([B)I"⟩
abbrev cJ6_abs : ByteArray := prog_30_method_59_code
def yJ6_abs : MethodName := ⟨RJ6, "abs", "(I)I"⟩
abbrev cJ6_max : ByteArray := prog_30_method_65_code
def yJ6_max : MethodName := ⟨RJ6, "max", "(II)I"⟩
abbrev cJ6_min : ByteArray := prog_30_method_69_code
def yJ6_min : MethodName := ⟨RJ6, "min", "(II)I"⟩
abbrev cJ7_bitCount : ByteArray := prog_29_method_50_code
def yJ7_bitCount : MethodName := ⟨RJ7, "bitCount", "(J)I"⟩
abbrev cJ8_init : ByteArray := prog_31_method_1_code
def yJ8_init : MethodName := ⟨RJ8, "<init>", "()V"⟩
abbrev cJ9_init : ByteArray := prog_37_method_1_code
def yJ9_init : MethodName := ⟨RJ9, "<init>", "()V"⟩
abbrev cJ10_bitCount : ByteArray := prog_28_method_49_code
def yJ10_bitCount : MethodName := ⟨RJ10, "bitCount", "(I)I"⟩
abbrev cJ10_numberOfTrailingZeros : ByteArray := prog_28_method_48_code
def yJ10_numberOfTrailingZeros : MethodName := ⟨RJ10, "numberOfTrailingZeros", "(I)I"⟩
abbrev cJ11_init : ByteArray := object_method_1_code
def yJ11_init : MethodName := ⟨RJ11, "<init>", "()V"⟩
abbrev cL_law : ByteArray := code
abbrev cX0_door : ByteArray := method_3_code
def yX0_door : MethodName := ⟨RX0, "door", "(LBitingDoors;II[J)I"⟩
abbrev cX1_at : ByteArray := prog_1_method_15_code
def yX1_at : MethodName := ⟨RX1, "at", "(I)LBitingDoors$Door;"⟩
abbrev cX1_bites : ByteArray := prog_1_method_21_code
def yX1_bites : MethodName := ⟨RX1, "bites", "(IIII)I"⟩
abbrev cX1_bitesAway : ByteArray := prog_1_method_36_code
def yX1_bitesAway : MethodName := ⟨RX1, "bitesAway", "(III)I"⟩
abbrev cX1_can : ByteArray := prog_1_method_19_code
def yX1_can : MethodName := ⟨RX1, "can", "(II)I"⟩
abbrev cX1_cell : ByteArray := prog_1_method_16_code
def yX1_cell : MethodName := ⟨RX1, "cell", "(II)I"⟩
abbrev cX1_cheapest : ByteArray := prog_1_method_28_code
def yX1_cheapest : MethodName := ⟨RX1, "cheapest", "()I"⟩
abbrev cX1_cheapest_2 : ByteArray := prog_1_method_26_code
def yX1_cheapest_2 : MethodName := ⟨RX1, "cheapest", "(III)V"⟩
abbrev cX1_clashes : ByteArray := prog_1_method_23_code
def yX1_clashes : MethodName := ⟨RX1, "clashes", "()I"⟩
abbrev cX1_code : ByteArray := prog_1_method_53_code
def yX1_code : MethodName := ⟨RX1, "code", "(LBitingDoors$Walker;)I"⟩
abbrev cX1_count : ByteArray := prog_1_method_67_code
def yX1_count : MethodName := ⟨RX1, "count", "(I)I"⟩
abbrev cX1_day : ByteArray := prog_1_method_12_code
def yX1_day : MethodName := ⟨RX1, "day", "()I"⟩
abbrev cX1_does : ByteArray := prog_1_method_47_code
def yX1_does : MethodName := ⟨RX1, "does", "(I)I"⟩
abbrev cX1_domains : ByteArray := prog_1_method_24_code
def yX1_domains : MethodName := ⟨RX1, "domains", "()V"⟩
abbrev cX1_door : ByteArray := prog_1_method_17_code
def yX1_door : MethodName := ⟨RX1, "door", "(II)I"⟩
abbrev cX1_end : ByteArray := prog_1_method_4_code
def yX1_end : MethodName := ⟨RX1, "end", "(I)Z"⟩
abbrev cX1_fault : ByteArray := prog_1_method_11_code
def yX1_fault : MethodName := ⟨RX1, "fault", "()I"⟩
abbrev cX1_feed : ByteArray := prog_1_method_2_code
def yX1_feed : MethodName := ⟨RX1, "feed", "(IIIII)I"⟩
abbrev cX1_fewest : ByteArray := prog_1_method_33_code
def yX1_fewest : MethodName := ⟨RX1, "fewest", "()I"⟩
abbrev cX1_fewestBy : ByteArray := prog_1_method_34_code
def yX1_fewestBy : MethodName := ⟨RX1, "fewestBy", "(I)I"⟩
abbrev cX1_fewest_2 : ByteArray := prog_1_method_31_code
def yX1_fewest_2 : MethodName := ⟨RX1, "fewest", "(III)V"⟩
abbrev cX1_findCheapest : ByteArray := prog_1_method_27_code
def yX1_findCheapest : MethodName := ⟨RX1, "findCheapest", "()Z"⟩
abbrev cX1_findFewest : ByteArray := prog_1_method_32_code
def yX1_findFewest : MethodName := ⟨RX1, "findFewest", "()Z"⟩
abbrev cX1_fit : ByteArray := prog_1_method_20_code
def yX1_fit : MethodName := ⟨RX1, "fit", "(II)I"⟩
abbrev cX1_forced : ByteArray := prog_1_method_38_code
def yX1_forced : MethodName := ⟨RX1, "forced", "(I)I"⟩
abbrev cX1_forcedAt : ByteArray := prog_1_method_39_code
def yX1_forcedAt : MethodName := ⟨RX1, "forcedAt", "(I)I"⟩
abbrev cX1_forces : ByteArray := prog_1_method_37_code
def yX1_forces : MethodName := ⟨RX1, "forces", "(III)I"⟩
abbrev cX1_four : ByteArray := prog_1_method_3_code
def yX1_four : MethodName := ⟨RX1, "four", "(I)V"⟩
abbrev cX1_has : ByteArray := prog_1_method_8_code
def yX1_has : MethodName := ⟨RX1, "has", "(II)Z"⟩
abbrev cX1_house : ByteArray := prog_1_method_10_code
def yX1_house : MethodName := ⟨RX1, "house", "()I"⟩
abbrev cX1_hung : ByteArray := prog_1_method_29_code
def yX1_hung : MethodName := ⟨RX1, "hung", "(I)I"⟩
abbrev cX1_image : ByteArray := prog_1_method_65_code
def yX1_image : MethodName := ⟨RX1, "image", "(I)Z"⟩
abbrev cX1_init : ByteArray := prog_1_method_1_code
def yX1_init : MethodName := ⟨RX1, "<init>", "()V"⟩
abbrev cX1_isBitten : ByteArray := prog_1_method_25_code
def yX1_isBitten : MethodName := ⟨RX1, "isBitten", "(III)Z"⟩
abbrev cX1_isDoor : ByteArray := prog_1_method_13_code
def yX1_isDoor : MethodName := ⟨RX1, "isDoor", "(I)Z"⟩
abbrev cX1_isHanging : ByteArray := prog_1_method_14_code
def yX1_isHanging : MethodName := ⟨RX1, "isHanging", "(I)Z"⟩
abbrev cX1_isHungWell : ByteArray := prog_1_method_40_code
def yX1_isHungWell : MethodName := ⟨RX1, "isHungWell", "(II)Z"⟩
abbrev cX1_isIn : ByteArray := prog_1_method_6_code
def yX1_isIn : MethodName := ⟨RX1, "isIn", "(III)Z"⟩
abbrev cX1_joiner : ByteArray := prog_1_method_42_code
def yX1_joiner : MethodName := ⟨RX1, "joiner", "()I"⟩
abbrev cX1_joinerAt : ByteArray := prog_1_method_43_code
def yX1_joinerAt : MethodName := ⟨RX1, "joinerAt", "(I)I"⟩
abbrev cX1_judge : ByteArray := prog_1_method_50_code
def yX1_judge : MethodName := ⟨RX1, "judge", "()I"⟩
abbrev cX1_judged : ByteArray := prog_1_method_51_code
def yX1_judged : MethodName := ⟨RX1, "judged", "(I)I"⟩
abbrev cX1_leaf : ByteArray := prog_1_method_18_code
def yX1_leaf : MethodName := ⟨RX1, "leaf", "(IIII)I"⟩
abbrev cX1_live : ByteArray := prog_1_method_52_code
def yX1_live : MethodName := ⟨RX1, "live", "()I"⟩
abbrev cX1_minutes : ByteArray := prog_1_method_48_code
def yX1_minutes : MethodName := ⟨RX1, "minutes", "()I"⟩
abbrev cX1_must : ByteArray := prog_1_method_7_code
def yX1_must : MethodName := ⟨RX1, "must", "(Z)V"⟩
abbrev cX1_one : ByteArray := prog_1_method_9_code
def yX1_one : MethodName := ⟨RX1, "one", "(I)I"⟩
abbrev cX1_pairs : ByteArray := prog_1_method_22_code
def yX1_pairs : MethodName := ⟨RX1, "pairs", "([I)I"⟩
abbrev cX1_place : ByteArray := prog_1_method_46_code
def yX1_place : MethodName := ⟨RX1, "place", "()I"⟩
abbrev cX1_quiet : ByteArray := prog_1_method_61_code
def yX1_quiet : MethodName := ⟨RX1, "quiet", "()I"⟩
abbrev cX1_reach : ByteArray := prog_1_method_60_code
def yX1_reach : MethodName := ⟨RX1, "reach", "(I)I"⟩
abbrev cX1_rehang : ByteArray := prog_1_method_44_code
def yX1_rehang : MethodName := ⟨RX1, "rehang", "(II)Z"⟩
abbrev cX1_restore : ByteArray := prog_1_method_66_code
def yX1_restore : MethodName := ⟨RX1, "restore", "(I)Z"⟩
abbrev cX1_rings : ByteArray := prog_1_method_55_code
def yX1_rings : MethodName := ⟨RX1, "rings", "(I)I"⟩
abbrev cX1_run : ByteArray := prog_1_method_49_code
def yX1_run : MethodName := ⟨RX1, "run", "(LBitingDoors$Walker;)I"⟩
abbrev cX1_said : ByteArray := prog_1_method_64_code
def yX1_said : MethodName := ⟨RX1, "said", "()I"⟩
abbrev cX1_sentence : ByteArray := prog_1_method_63_code
def yX1_sentence : MethodName := ⟨RX1, "sentence", "()I"⟩
abbrev cX1_spread : ByteArray := prog_1_method_59_code
def yX1_spread : MethodName := ⟨RX1, "spread", "(I)I"⟩
abbrev cX1_stand : ByteArray := prog_1_method_45_code
def yX1_stand : MethodName := ⟨RX1, "stand", "(II)Z"⟩
abbrev cX1_stride : ByteArray := prog_1_method_62_code
def yX1_stride : MethodName := ⟨RX1, "stride", "()I"⟩
abbrev cX1_stuck : ByteArray := prog_1_method_41_code
def yX1_stuck : MethodName := ⟨RX1, "stuck", "()I"⟩
abbrev cX1_taken : ByteArray := prog_1_method_5_code
def yX1_taken : MethodName := ⟨RX1, "taken", "()V"⟩
abbrev cX1_unfold : ByteArray := prog_1_method_54_code
def yX1_unfold : MethodName := ⟨RX1, "unfold", "(I)V"⟩
abbrev cX1_walk : ByteArray := prog_1_method_58_code
def yX1_walk : MethodName := ⟨RX1, "walk", "()I"⟩
abbrev cX1_way : ByteArray := prog_1_method_56_code
def yX1_way : MethodName := ⟨RX1, "way", "(II)I"⟩
abbrev cX1_wayAt : ByteArray := prog_1_method_57_code
def yX1_wayAt : MethodName := ⟨RX1, "wayAt", "(I)I"⟩
abbrev cX1_ways : ByteArray := prog_1_method_35_code
def yX1_ways : MethodName := ⟨RX1, "ways", "()I"⟩
abbrev cX1_ways_2 : ByteArray := prog_1_method_30_code
def yX1_ways_2 : MethodName := ⟨RX1, "ways", "(I)V"⟩
abbrev cX2_init : ByteArray := prog_12_method_1_code
def yX2_init : MethodName := ⟨RX2, "<init>", "()V"⟩
abbrev cX3_bar : ByteArray := prog_24_method_7_code
def yX3_bar : MethodName := ⟨RX3, "bar", "(II)I"⟩
abbrev cX3_be : ByteArray := prog_24_method_3_code
def yX3_be : MethodName := ⟨RX3, "be", "(LBitingDoors$Walker;)V"⟩
abbrev cX3_begin : ByteArray := prog_24_method_2_code
def yX3_begin : MethodName := ⟨RX3, "begin", "(LBitingDoors$House;)V"⟩
abbrev cX3_blows : ByteArray := prog_24_method_10_code
def yX3_blows : MethodName := ⟨RX3, "blows", "(III)V"⟩
abbrev cX3_init : ByteArray := prog_24_method_1_code
def yX3_init : MethodName := ⟨RX3, "<init>", "()V"⟩
abbrev cX3_isAt : ByteArray := prog_24_method_6_code
def yX3_isAt : MethodName := ⟨RX3, "isAt", "(I)Z"⟩
abbrev cX3_isLeaf : ByteArray := prog_24_method_5_code
def yX3_isLeaf : MethodName := ⟨RX3, "isLeaf", "(II)Z"⟩
abbrev cX3_leaf : ByteArray := prog_24_method_4_code
def yX3_leaf : MethodName := ⟨RX3, "leaf", "(I)LBitingDoors$Cells;"⟩
abbrev cX3_minute : ByteArray := prog_24_method_9_code
def yX3_minute : MethodName := ⟨RX3, "minute", "(I)I"⟩
abbrev cX3_why : ByteArray := prog_24_method_8_code
def yX3_why : MethodName := ⟨RX3, "why", "(I)I"⟩
abbrev cX4_bitten : ByteArray := prog_14_method_5_code
def yX4_bitten : MethodName := ⟨RX4, "bitten", "(III)I"⟩
abbrev cX4_domain : ByteArray := prog_14_method_7_code
def yX4_domain : MethodName := ⟨RX4, "domain", "(I)I"⟩
abbrev cX4_init : ByteArray := prog_14_method_1_code
def yX4_init : MethodName := ⟨RX4, "<init>", "()V"⟩
abbrev cX4_isCell : ByteArray := prog_14_method_2_code
def yX4_isCell : MethodName := ⟨RX4, "isCell", "(II)Z"⟩
abbrev cX4_isFree : ByteArray := prog_14_method_4_code
def yX4_isFree : MethodName := ⟨RX4, "isFree", "(LBitingDoors$Cells;)Z"⟩
abbrev cX4_isOpen : ByteArray := prog_14_method_3_code
def yX4_isOpen : MethodName := ⟨RX4, "isOpen", "(I)Z"⟩
abbrev cX4_settle : ByteArray := prog_14_method_6_code
def yX4_settle : MethodName := ⟨RX4, "settle", "()V"⟩
abbrev cX5_init : ByteArray := prog_9_method_1_code
def yX5_init : MethodName := ⟨RX5, "<init>", "()V"⟩
abbrev cX6_areCells : ByteArray := prog_18_method_10_code
def yX6_areCells : MethodName := ⟨RX6, "areCells", "()Z"⟩
abbrev cX6_begin : ByteArray := prog_18_method_2_code
def yX6_begin : MethodName := ⟨RX6, "begin", "()V"⟩
abbrev cX6_find : ByteArray := prog_18_method_9_code
def yX6_find : MethodName := ⟨RX6, "find", "([Ljava/lang/String;)I"⟩
abbrev cX6_init : ByteArray := prog_18_method_1_code
def yX6_init : MethodName := ⟨RX6, "<init>", "(LBitingDoors;I)V"⟩
abbrev cX6_is : ByteArray := prog_18_method_8_code
def yX6_is : MethodName := ⟨RX6, "is", "(Ljava/lang/String;)Z"⟩
abbrev cX6_isDigit : ByteArray := prog_18_method_5_code
def yX6_isDigit : MethodName := ⟨RX6, "isDigit", "(I)Z"⟩
abbrev cX6_isLetter : ByteArray := prog_18_method_4_code
def yX6_isLetter : MethodName := ⟨RX6, "isLetter", "(I)Z"⟩
abbrev cX6_isName : ByteArray := prog_18_method_11_code
def yX6_isName : MethodName := ⟨RX6, "isName", "()Z"⟩
abbrev cX6_is_2 : ByteArray := prog_18_method_14_code
def yX6_is_2 : MethodName := ⟨RX6, "is", "(I)Z"⟩
abbrev cX6_known : ByteArray := prog_18_method_18_code
def yX6_known : MethodName := ⟨RX6, "known", "(LBitingDoors$House;)I"⟩
abbrev cX6_must : ByteArray := prog_18_method_13_code
def yX6_must : MethodName := ⟨RX6, "must", "(ZI)V"⟩
abbrev cX6_next : ByteArray := prog_18_method_6_code
def yX6_next : MethodName := ⟨RX6, "next", "()V"⟩
abbrev cX6_number : ByteArray := prog_18_method_16_code
def yX6_number : MethodName := ⟨RX6, "number", "(II)I"⟩
abbrev cX6_of : ByteArray := prog_18_method_17_code
def yX6_of : MethodName := ⟨RX6, "of", "(LBitingDoors$House;)I"⟩
abbrev cX6_peek : ByteArray := prog_18_method_3_code
def yX6_peek : MethodName := ⟨RX6, "peek", "()I"⟩
abbrev cX6_run : ByteArray := prog_18_method_7_code
def yX6_run : MethodName := ⟨RX6, "run", "(Z)V"⟩
abbrev cX6_sign : ByteArray := prog_18_method_15_code
def yX6_sign : MethodName := ⟨RX6, "sign", "(I)V"⟩
abbrev cX6_wrong : ByteArray := prog_18_method_12_code
def yX6_wrong : MethodName := ⟨RX6, "wrong", "(I)LBitingDoors$Fault;"⟩
abbrev cX7_door : ByteArray := prog_15_method_5_code
def yX7_door : MethodName := ⟨RX7, "door", "()V"⟩
abbrev cX7_draught : ByteArray := prog_15_method_7_code
def yX7_draught : MethodName := ⟨RX7, "draught", "()V"⟩
abbrev cX7_init : ByteArray := prog_15_method_1_code
def yX7_init : MethodName := ⟨RX7, "<init>", "(LBitingDoors;)V"⟩
abbrev cX7_isWay : ByteArray := prog_15_method_6_code
def yX7_isWay : MethodName := ⟨RX7, "isWay", "(IIZIZ)Z"⟩
abbrev cX7_line : ByteArray := prog_15_method_3_code
def yX7_line : MethodName := ⟨RX7, "line", "(I)V"⟩
abbrev cX7_read : ByteArray := prog_15_method_2_code
def yX7_read : MethodName := ⟨RX7, "read", "(LBitingDoors$House;)I"⟩
abbrev cX7_row : ByteArray := prog_15_method_4_code
def yX7_row : MethodName := ⟨RX7, "row", "()V"⟩
abbrev cX8_act : ByteArray := prog_10_method_3_code
def yX8_act : MethodName := ⟨RX8, "act", "(I)LBitingDoors$Act;"⟩
abbrev cX8_init : ByteArray := prog_10_method_1_code
def yX8_init : MethodName := ⟨RX8, "<init>", "(LBitingDoors;)V"⟩
abbrev cX8_read : ByteArray := prog_10_method_2_code
def yX8_read : MethodName := ⟨RX8, "read", "()LBitingDoors$Day;"⟩
abbrev cX9_any : ByteArray := prog_20_method_3_code
def yX9_any : MethodName := ⟨RX9, "any", "(I)LBitingDoors$Cond;"⟩
abbrev cX9_both : ByteArray := prog_20_method_4_code
def yX9_both : MethodName := ⟨RX9, "both", "(I)LBitingDoors$Cond;"⟩
abbrev cX9_counts : ByteArray := prog_20_method_6_code
def yX9_counts : MethodName := ⟨RX9, "counts", "(I)LBitingDoors$Cond;"⟩
abbrev cX9_init : ByteArray := prog_20_method_1_code
def yX9_init : MethodName := ⟨RX9, "<init>", "(LBitingDoors;)V"⟩
abbrev cX9_read : ByteArray := prog_20_method_2_code
def yX9_read : MethodName := ⟨RX9, "read", "()LBitingDoors$Cond;"⟩
abbrev cX9_single : ByteArray := prog_20_method_5_code
def yX9_single : MethodName := ⟨RX9, "single", "(I)LBitingDoors$Cond;"⟩
abbrev cX10_bad : ByteArray := prog_26_method_24_code
def yX10_bad : MethodName := ⟨RX10, "bad", "(I)Z"⟩
abbrev cX10_begin : ByteArray := prog_26_method_27_code
def yX10_begin : MethodName := ⟨RX10, "begin", "(I)V"⟩
abbrev cX10_bite : ByteArray := prog_26_method_53_code
def yX10_bite : MethodName := ⟨RX10, "bite", "(IIII)Z"⟩
abbrev cX10_bites : ByteArray := prog_26_method_54_code
def yX10_bites : MethodName := ⟨RX10, "bites", "(IIII)I"⟩
abbrev cX10_bits : ByteArray := prog_26_method_10_code
def yX10_bits : MethodName := ⟨RX10, "bits", "(I)I"⟩
abbrev cX10_blows : ByteArray := prog_26_method_86_code
def yX10_blows : MethodName := ⟨RX10, "blows", "()I"⟩
abbrev cX10_byteAt : ByteArray := prog_26_method_12_code
def yX10_byteAt : MethodName := ⟨RX10, "byteAt", "(I)I"⟩
abbrev cX10_can : ByteArray := prog_26_method_48_code
def yX10_can : MethodName := ⟨RX10, "can", "(II)I"⟩
abbrev cX10_canBe : ByteArray := prog_26_method_47_code
def yX10_canBe : MethodName := ⟨RX10, "canBe", "(III)Z"⟩
abbrev cX10_canHang : ByteArray := prog_26_method_73_code
def yX10_canHang : MethodName := ⟨RX10, "canHang", "(II)Z"⟩
abbrev cX10_cell : ByteArray := prog_26_method_42_code
def yX10_cell : MethodName := ⟨RX10, "cell", "(II)I"⟩
abbrev cX10_cheapest : ByteArray := prog_26_method_61_code
def yX10_cheapest : MethodName := ⟨RX10, "cheapest", "()I"⟩
abbrev cX10_clashes : ByteArray := prog_26_method_56_code
def yX10_clashes : MethodName := ⟨RX10, "clashes", "()I"⟩
abbrev cX10_clashesOf : ByteArray := prog_26_method_55_code
def yX10_clashesOf : MethodName := ⟨RX10, "clashesOf", "([I)I"⟩
abbrev cX10_come : ByteArray := prog_26_method_4_code
def yX10_come : MethodName := ⟨RX10, "come", "(I)V"⟩
abbrev cX10_count : ByteArray := prog_26_method_127_code
def yX10_count : MethodName := ⟨RX10, "count", "(I)I"⟩
abbrev cX10_countWays : ByteArray := prog_26_method_65_code
def yX10_countWays : MethodName := ⟨RX10, "countWays", "(I)V"⟩
abbrev cX10_day : ByteArray := prog_26_method_94_code
def yX10_day : MethodName := ⟨RX10, "day", "()I"⟩
abbrev cX10_deadOne : ByteArray := prog_26_method_68_code
def yX10_deadOne : MethodName := ⟨RX10, "deadOne", "(I)I"⟩
abbrev cX10_doAct : ByteArray := prog_26_method_96_code
def yX10_doAct : MethodName := ⟨RX10, "doAct", "(II)I"⟩
abbrev cX10_doDay : ByteArray := prog_26_method_97_code
def yX10_doDay : MethodName := ⟨RX10, "doDay", "()I"⟩
abbrev cX10_does : ByteArray := prog_26_method_91_code
def yX10_does : MethodName := ⟨RX10, "does", "(I)I"⟩
abbrev cX10_door : ByteArray := prog_26_method_43_code
def yX10_door : MethodName := ⟨RX10, "door", "(II)I"⟩
abbrev cX10_doors : ByteArray := prog_26_method_29_code
def yX10_doors : MethodName := ⟨RX10, "doors", "()I"⟩
abbrev cX10_drop : ByteArray := prog_26_method_67_code
def yX10_drop : MethodName := ⟨RX10, "drop", "(III)V"⟩
abbrev cX10_end : ByteArray := prog_26_method_6_code
def yX10_end : MethodName := ⟨RX10, "end", "(I)Z"⟩
abbrev cX10_fault : ByteArray := prog_26_method_41_code
def yX10_fault : MethodName := ⟨RX10, "fault", "()I"⟩
abbrev cX10_feed : ByteArray := prog_26_method_5_code
def yX10_feed : MethodName := ⟨RX10, "feed", "(IIIII)I"⟩
abbrev cX10_fewest : ByteArray := prog_26_method_63_code
def yX10_fewest : MethodName := ⟨RX10, "fewest", "()I"⟩
abbrev cX10_fewestBy : ByteArray := prog_26_method_64_code
def yX10_fewestBy : MethodName := ⟨RX10, "fewestBy", "(I)I"⟩
abbrev cX10_findRead : ByteArray := prog_26_method_34_code
def yX10_findRead : MethodName := ⟨RX10, "findRead", "()I"⟩
abbrev cX10_findWay : ByteArray := prog_26_method_104_code
def yX10_findWay : MethodName := ⟨RX10, "findWay", "(I)I"⟩
abbrev cX10_fit : ByteArray := prog_26_method_50_code
def yX10_fit : MethodName := ⟨RX10, "fit", "(II)I"⟩
abbrev cX10_forced : ByteArray := prog_26_method_71_code
def yX10_forced : MethodName := ⟨RX10, "forced", "(I)I"⟩
abbrev cX10_forcedAt : ByteArray := prog_26_method_72_code
def yX10_forcedAt : MethodName := ⟨RX10, "forcedAt", "(I)I"⟩
abbrev cX10_forces : ByteArray := prog_26_method_70_code
def yX10_forces : MethodName := ⟨RX10, "forces", "(III)I"⟩
abbrev cX10_go : ByteArray := prog_26_method_15_code
def yX10_go : MethodName := ⟨RX10, "go", "()V"⟩
abbrev cX10_goalOf : ByteArray := prog_26_method_95_code
def yX10_goalOf : MethodName := ⟨RX10, "goalOf", "(II)I"⟩
abbrev cX10_hang : ByteArray := prog_26_method_59_code
def yX10_hang : MethodName := ⟨RX10, "hang", "(IIZ)V"⟩
abbrev cX10_hangAll : ByteArray := prog_26_method_60_code
def yX10_hangAll : MethodName := ⟨RX10, "hangAll", "(Z)I"⟩
abbrev cX10_has : ByteArray := prog_26_method_9_code
def yX10_has : MethodName := ⟨RX10, "has", "(II)Z"⟩
abbrev cX10_hinders : ByteArray := prog_26_method_83_code
def yX10_hinders : MethodName := ⟨RX10, "hinders", "(II)I"⟩
abbrev cX10_house : ByteArray := prog_26_method_40_code
def yX10_house : MethodName := ⟨RX10, "house", "()I"⟩
abbrev cX10_hung : ByteArray := prog_26_method_62_code
def yX10_hung : MethodName := ⟨RX10, "hung", "(I)I"⟩
abbrev cX10_image : ByteArray := prog_26_method_125_code
def yX10_image : MethodName := ⟨RX10, "image", "(I)Z"⟩
abbrev cX10_init : ByteArray := prog_26_method_1_code
def yX10_init : MethodName := ⟨RX10, "<init>", "()V"⟩
abbrev cX10_isAct : ByteArray := prog_26_method_90_code
def yX10_isAct : MethodName := ⟨RX10, "isAct", "(I)Z"⟩
abbrev cX10_isAt : ByteArray := prog_26_method_82_code
def yX10_isAt : MethodName := ⟨RX10, "isAt", "(I)Z"⟩
abbrev cX10_isCell : ByteArray := prog_26_method_32_code
def yX10_isCell : MethodName := ⟨RX10, "isCell", "(II)Z"⟩
abbrev cX10_isCellLetter : ByteArray := prog_26_method_21_code
def yX10_isCellLetter : MethodName := ⟨RX10, "isCellLetter", "(I)Z"⟩
abbrev cX10_isCells : ByteArray := prog_26_method_22_code
def yX10_isCells : MethodName := ⟨RX10, "isCells", "()Z"⟩
abbrev cX10_isDigit : ByteArray := prog_26_method_13_code
def yX10_isDigit : MethodName := ⟨RX10, "isDigit", "(I)Z"⟩
abbrev cX10_isDoor : ByteArray := prog_26_method_30_code
def yX10_isDoor : MethodName := ⟨RX10, "isDoor", "(I)Z"⟩
abbrev cX10_isFit : ByteArray := prog_26_method_49_code
def yX10_isFit : MethodName := ⟨RX10, "isFit", "(II)Z"⟩
abbrev cX10_isIn : ByteArray := prog_26_method_8_code
def yX10_isIn : MethodName := ⟨RX10, "isIn", "(III)Z"⟩
abbrev cX10_isLetter : ByteArray := prog_26_method_14_code
def yX10_isLetter : MethodName := ⟨RX10, "isLetter", "(I)Z"⟩
abbrev cX10_isName : ByteArray := prog_26_method_23_code
def yX10_isName : MethodName := ⟨RX10, "isName", "()Z"⟩
abbrev cX10_isSign : ByteArray := prog_26_method_20_code
def yX10_isSign : MethodName := ⟨RX10, "isSign", "(I)Z"⟩
abbrev cX10_isSo : ByteArray := prog_26_method_123_code
def yX10_isSo : MethodName := ⟨RX10, "isSo", "(II)Z"⟩
abbrev cX10_isWalked : ByteArray := prog_26_method_81_code
def yX10_isWalked : MethodName := ⟨RX10, "isWalked", "(II)Z"⟩
abbrev cX10_isWord : ByteArray := prog_26_method_19_code
def yX10_isWord : MethodName := ⟨RX10, "isWord", "(I)Z"⟩
abbrev cX10_joiner : ByteArray := prog_26_method_75_code
def yX10_joiner : MethodName := ⟨RX10, "joiner", "()I"⟩
abbrev cX10_joinerAt : ByteArray := prog_26_method_76_code
def yX10_joinerAt : MethodName := ⟨RX10, "joinerAt", "(I)I"⟩
abbrev cX10_judge : ByteArray := prog_26_method_98_code
def yX10_judge : MethodName := ⟨RX10, "judge", "()I"⟩
abbrev cX10_judged : ByteArray := prog_26_method_99_code
def yX10_judged : MethodName := ⟨RX10, "judged", "(I)I"⟩
abbrev cX10_keepNow : ByteArray := prog_26_method_80_code
def yX10_keepNow : MethodName := ⟨RX10, "keepNow", "()V"⟩
abbrev cX10_lay : ByteArray := prog_26_method_28_code
def yX10_lay : MethodName := ⟨RX10, "lay", "()V"⟩
abbrev cX10_layLeaf : ByteArray := prog_26_method_45_code
def yX10_layLeaf : MethodName := ⟨RX10, "layLeaf", "(III)V"⟩
abbrev cX10_layLeaves : ByteArray := prog_26_method_78_code
def yX10_layLeaves : MethodName := ⟨RX10, "layLeaves", "()V"⟩
abbrev cX10_layState : ByteArray := prog_26_method_102_code
def yX10_layState : MethodName := ⟨RX10, "layState", "(I)V"⟩
abbrev cX10_laySwept : ByteArray := prog_26_method_51_code
def yX10_laySwept : MethodName := ⟨RX10, "laySwept", "()V"⟩
abbrev cX10_lays : ByteArray := prog_26_method_112_code
def yX10_lays : MethodName := ⟨RX10, "lays", "(IIII)I"⟩
abbrev cX10_leaf : ByteArray := prog_26_method_46_code
def yX10_leaf : MethodName := ⟨RX10, "leaf", "(IIII)I"⟩
abbrev cX10_live : ByteArray := prog_26_method_100_code
def yX10_live : MethodName := ⟨RX10, "live", "()I"⟩
abbrev cX10_looksAt : ByteArray := prog_26_method_35_code
def yX10_looksAt : MethodName := ⟨RX10, "looksAt", "(IIII)I"⟩
abbrev cX10_mayHang : ByteArray := prog_26_method_58_code
def yX10_mayHang : MethodName := ⟨RX10, "mayHang", "(III)Z"⟩
abbrev cX10_minute : ByteArray := prog_26_method_87_code
def yX10_minute : MethodName := ⟨RX10, "minute", "(I)I"⟩
abbrev cX10_minutes : ByteArray := prog_26_method_92_code
def yX10_minutes : MethodName := ⟨RX10, "minutes", "()I"⟩
abbrev cX10_nextForced : ByteArray := prog_26_method_69_code
def yX10_nextForced : MethodName := ⟨RX10, "nextForced", "(II)I"⟩
abbrev cX10_of : ByteArray := prog_26_method_31_code
def yX10_of : MethodName := ⟨RX10, "of", "(II)I"⟩
abbrev cX10_on : ByteArray := prog_26_method_17_code
def yX10_on : MethodName := ⟨RX10, "on", "(JIII)J"⟩
abbrev cX10_oneAtHand : ByteArray := prog_26_method_115_code
def yX10_oneAtHand : MethodName := ⟨RX10, "oneAtHand", "()I"⟩
abbrev cX10_ones : ByteArray := prog_26_method_11_code
def yX10_ones : MethodName := ⟨RX10, "ones", "(J)I"⟩
abbrev cX10_place : ByteArray := prog_26_method_89_code
def yX10_place : MethodName := ⟨RX10, "place", "()I"⟩
abbrev cX10_put : ByteArray := prog_26_method_44_code
def yX10_put : MethodName := ⟨RX10, "put", "(II)V"⟩
abbrev cX10_quiet : ByteArray := prog_26_method_110_code
def yX10_quiet : MethodName := ⟨RX10, "quiet", "()I"⟩
abbrev cX10_reach : ByteArray := prog_26_method_108_code
def yX10_reach : MethodName := ⟨RX10, "reach", "(I)I"⟩
abbrev cX10_readAnd : ByteArray := prog_26_method_114_code
def yX10_readAnd : MethodName := ⟨RX10, "readAnd", "()Z"⟩
abbrev cX10_readBed : ByteArray := prog_26_method_38_code
def yX10_readBed : MethodName := ⟨RX10, "readBed", "()Z"⟩
abbrev cX10_readBites : ByteArray := prog_26_method_119_code
def yX10_readBites : MethodName := ⟨RX10, "readBites", "()Z"⟩
abbrev cX10_readBracket : ByteArray := prog_26_method_118_code
def yX10_readBracket : MethodName := ⟨RX10, "readBracket", "()Z"⟩
abbrev cX10_readCompare : ByteArray := prog_26_method_120_code
def yX10_readCompare : MethodName := ⟨RX10, "readCompare", "(I)Z"⟩
abbrev cX10_readDayLine : ByteArray := prog_26_method_93_code
def yX10_readDayLine : MethodName := ⟨RX10, "readDayLine", "()Z"⟩
abbrev cX10_readDoor : ByteArray := prog_26_method_36_code
def yX10_readDoor : MethodName := ⟨RX10, "readDoor", "()Z"⟩
abbrev cX10_readDraught : ByteArray := prog_26_method_37_code
def yX10_readDraught : MethodName := ⟨RX10, "readDraught", "()Z"⟩
abbrev cX10_readEnd : ByteArray := prog_26_method_26_code
def yX10_readEnd : MethodName := ⟨RX10, "readEnd", "()Z"⟩
abbrev cX10_readLine : ByteArray := prog_26_method_39_code
def yX10_readLine : MethodName := ⟨RX10, "readLine", "()Z"⟩
abbrev cX10_readNot : ByteArray := prog_26_method_117_code
def yX10_readNot : MethodName := ⟨RX10, "readNot", "()Z"⟩
abbrev cX10_readNumber : ByteArray := prog_26_method_25_code
def yX10_readNumber : MethodName := ⟨RX10, "readNumber", "(II)Z"⟩
abbrev cX10_readOne : ByteArray := prog_26_method_116_code
def yX10_readOne : MethodName := ⟨RX10, "readOne", "()Z"⟩
abbrev cX10_readOr : ByteArray := prog_26_method_113_code
def yX10_readOr : MethodName := ⟨RX10, "readOr", "()Z"⟩
abbrev cX10_readRow : ByteArray := prog_26_method_33_code
def yX10_readRow : MethodName := ⟨RX10, "readRow", "()Z"⟩
abbrev cX10_refuse : ByteArray := prog_26_method_3_code
def yX10_refuse : MethodName := ⟨RX10, "refuse", "()I"⟩
abbrev cX10_rehang : ByteArray := prog_26_method_77_code
def yX10_rehang : MethodName := ⟨RX10, "rehang", "(II)Z"⟩
abbrev cX10_restore : ByteArray := prog_26_method_126_code
def yX10_restore : MethodName := ⟨RX10, "restore", "(I)Z"⟩
abbrev cX10_said : ByteArray := prog_26_method_124_code
def yX10_said : MethodName := ⟨RX10, "said", "()I"⟩
abbrev cX10_search : ByteArray := prog_26_method_103_code
def yX10_search : MethodName := ⟨RX10, "search", "(I)I"⟩
abbrev cX10_sentence : ByteArray := prog_26_method_121_code
def yX10_sentence : MethodName := ⟨RX10, "sentence", "()I"⟩
abbrev cX10_shared : ByteArray := prog_26_method_52_code
def yX10_shared : MethodName := ⟨RX10, "shared", "(IIII)I"⟩
abbrev cX10_spelt : ByteArray := prog_26_method_16_code
def yX10_spelt : MethodName := ⟨RX10, "spelt", "(IIII)J"⟩
abbrev cX10_stand : ByteArray := prog_26_method_88_code
def yX10_stand : MethodName := ⟨RX10, "stand", "(II)Z"⟩
abbrev cX10_stateAtHand : ByteArray := prog_26_method_101_code
def yX10_stateAtHand : MethodName := ⟨RX10, "stateAtHand", "()I"⟩
abbrev cX10_stride : ByteArray := prog_26_method_111_code
def yX10_stride : MethodName := ⟨RX10, "stride", "()I"⟩
abbrev cX10_stuck : ByteArray := prog_26_method_74_code
def yX10_stuck : MethodName := ⟨RX10, "stuck", "()I"⟩
abbrev cX10_swing : ByteArray := prog_26_method_84_code
def yX10_swing : MethodName := ⟨RX10, "swing", "(II)V"⟩
abbrev cX10_take : ByteArray := prog_26_method_7_code
def yX10_take : MethodName := ⟨RX10, "take", "()I"⟩
abbrev cX10_takeNow : ByteArray := prog_26_method_79_code
def yX10_takeNow : MethodName := ⟨RX10, "takeNow", "()V"⟩
abbrev cX10_thrown : ByteArray := prog_26_method_2_code
def yX10_thrown : MethodName := ⟨RX10, "thrown", "()I"⟩
abbrev cX10_tries : ByteArray := prog_26_method_85_code
def yX10_tries : MethodName := ⟨RX10, "tries", "(I)I"⟩
abbrev cX10_valueOf : ByteArray := prog_26_method_122_code
def yX10_valueOf : MethodName := ⟨RX10, "valueOf", "(II)I"⟩
abbrev cX10_walk : ByteArray := prog_26_method_107_code
def yX10_walk : MethodName := ⟨RX10, "walk", "()I"⟩
abbrev cX10_walkOn : ByteArray := prog_26_method_109_code
def yX10_walkOn : MethodName := ⟨RX10, "walkOn", "()V"⟩
abbrev cX10_way : ByteArray := prog_26_method_105_code
def yX10_way : MethodName := ⟨RX10, "way", "(II)I"⟩
abbrev cX10_wayAt : ByteArray := prog_26_method_106_code
def yX10_wayAt : MethodName := ⟨RX10, "wayAt", "(I)I"⟩
abbrev cX10_ways : ByteArray := prog_26_method_66_code
def yX10_ways : MethodName := ⟨RX10, "ways", "()I"⟩
abbrev cX10_weightOf : ByteArray := prog_26_method_57_code
def yX10_weightOf : MethodName := ⟨RX10, "weightOf", "(IZ)I"⟩
abbrev cX10_wordOf : ByteArray := prog_26_method_18_code
def yX10_wordOf : MethodName := ⟨RX10, "wordOf", "(I)J"⟩
abbrev cX11_can : ByteArray := prog_11_method_3_code
def yX11_can : MethodName := ⟨RX11, "can", "(II)Z"⟩
abbrev cX11_hang : ByteArray := prog_11_method_5_code
def yX11_hang : MethodName := ⟨RX11, "hang", "(LBitingDoors$House;)V"⟩
abbrev cX11_init : ByteArray := prog_11_method_1_code
def yX11_init : MethodName := ⟨RX11, "<init>", "(JIIZI)V"⟩
abbrev cX11_isFit : ByteArray := prog_11_method_4_code
def yX11_isFit : MethodName := ⟨RX11, "isFit", "(I)Z"⟩
abbrev cX11_leaf : ByteArray := prog_11_method_6_code
def yX11_leaf : MethodName := ⟨RX11, "leaf", "(IZZ)LBitingDoors$Cells;"⟩
abbrev cX11_leaf_2 : ByteArray := prog_11_method_2_code
def yX11_leaf_2 : MethodName := ⟨RX11, "leaf", "(II)LBitingDoors$Cells;"⟩
abbrev cX11_put : ByteArray := prog_11_method_7_code
def yX11_put : MethodName := ⟨RX11, "put", "(LBitingDoors$Cells;II)V"⟩
abbrev cX12_add : ByteArray := prog_6_method_6_code
def yX12_add : MethodName := ⟨RX12, "add", "(LBitingDoors$Cells;)V"⟩
abbrev cX12_get : ByteArray := prog_6_method_7_code
def yX12_get : MethodName := ⟨RX12, "get", "(I)I"⟩
abbrev cX12_has : ByteArray := prog_6_method_4_code
def yX12_has : MethodName := ⟨RX12, "has", "(I)Z"⟩
abbrev cX12_init : ByteArray := prog_6_method_1_code
def yX12_init : MethodName := ⟨RX12, "<init>", "()V"⟩
abbrev cX12_put : ByteArray := prog_6_method_2_code
def yX12_put : MethodName := ⟨RX12, "put", "(II)V"⟩
abbrev cX12_put_2 : ByteArray := prog_6_method_3_code
def yX12_put_2 : MethodName := ⟨RX12, "put", "(I)V"⟩
abbrev cX12_shared : ByteArray := prog_6_method_5_code
def yX12_shared : MethodName := ⟨RX12, "shared", "(LBitingDoors$Cells;)I"⟩
abbrev cX13_init : ByteArray := prog_2_method_1_code
def yX13_init : MethodName := ⟨RX13, "<init>", "()V"⟩
abbrev cX14_init : ByteArray := prog_13_method_1_code
def yX14_init : MethodName := ⟨RX14, "<init>", "(II)V"⟩
abbrev cX14_run : ByteArray := prog_13_method_2_code
def yX14_run : MethodName := ⟨RX14, "run", "(LBitingDoors$Walker;)I"⟩
abbrev cX15_init : ByteArray := prog_23_method_1_code
def yX15_init : MethodName := ⟨RX15, "<init>", "(I)V"⟩
abbrev cX15_run : ByteArray := prog_23_method_4_code
def yX15_run : MethodName := ⟨RX15, "run", "(LBitingDoors$Walker;)I"⟩
abbrev cX16_act : ByteArray := prog_17_method_3_code
def yX16_act : MethodName := ⟨RX16, "act", "()I"⟩
abbrev cX16_goal : ByteArray := prog_17_method_2_code
def yX16_goal : MethodName := ⟨RX16, "goal", "(LBitingDoors$Walker;)I"⟩
abbrev cX16_init : ByteArray := prog_17_method_1_code
def yX16_init : MethodName := ⟨RX16, "<init>", "(I)V"⟩
abbrev cX17_act : ByteArray := prog_21_method_3_code
def yX17_act : MethodName := ⟨RX17, "act", "()I"⟩
abbrev cX17_goal : ByteArray := prog_21_method_2_code
def yX17_goal : MethodName := ⟨RX17, "goal", "(LBitingDoors$Walker;)I"⟩
abbrev cX17_init : ByteArray := prog_21_method_1_code
def yX17_init : MethodName := ⟨RX17, "<init>", "(I)V"⟩
abbrev cX18_init : ByteArray := prog_19_method_1_code
def yX18_init : MethodName := ⟨RX18, "<init>", "(I)V"⟩
abbrev cX18_run : ByteArray := prog_19_method_2_code
def yX18_run : MethodName := ⟨RX18, "run", "(LBitingDoors$Walker;)I"⟩
abbrev cX19_init : ByteArray := prog_7_method_1_code
def yX19_init : MethodName := ⟨RX19, "<init>", "()V"⟩
abbrev cX20_init : ByteArray := prog_16_method_1_code
def yX20_init : MethodName := ⟨RX20, "<init>", "(LBitingDoors$Cond;)V"⟩
abbrev cX20_is : ByteArray := prog_16_method_2_code
def yX20_is : MethodName := ⟨RX20, "is", "(LBitingDoors$Walker;I)Z"⟩
abbrev cX21_init : ByteArray := prog_4_method_1_code
def yX21_init : MethodName := ⟨RX21, "<init>", "(I)V"⟩
abbrev cX21_is : ByteArray := prog_4_method_2_code
def yX21_is : MethodName := ⟨RX21, "is", "(LBitingDoors$Walker;I)Z"⟩
abbrev cX22_init : ByteArray := prog_22_method_1_code
def yX22_init : MethodName := ⟨RX22, "<init>", "(I)V"⟩
abbrev cX22_is : ByteArray := prog_22_method_2_code
def yX22_is : MethodName := ⟨RX22, "is", "(LBitingDoors$Walker;I)Z"⟩
abbrev cX23_init : ByteArray := prog_8_method_1_code
def yX23_init : MethodName := ⟨RX23, "<init>", "(III)V"⟩
abbrev cX23_is : ByteArray := prog_8_method_3_code
def yX23_is : MethodName := ⟨RX23, "is", "(LBitingDoors$Walker;I)Z"⟩
abbrev cX23_of : ByteArray := prog_8_method_2_code
def yX23_of : MethodName := ⟨RX23, "of", "(LBitingDoors$Walker;I)I"⟩
abbrev cX24_init : ByteArray := prog_5_method_1_code
def yX24_init : MethodName := ⟨RX24, "<init>", "(LBitingDoors$Cond;LBitingDoors$Cond;)V"⟩
abbrev cX24_is : ByteArray := prog_5_method_2_code
def yX24_is : MethodName := ⟨RX24, "is", "(LBitingDoors$Walker;I)Z"⟩
abbrev cX25_init : ByteArray := prog_3_method_1_code
def yX25_init : MethodName := ⟨RX25, "<init>", "(LBitingDoors$Cond;LBitingDoors$Cond;)V"⟩
abbrev cX25_is : ByteArray := prog_3_method_2_code
def yX25_is : MethodName := ⟨RX25, "is", "(LBitingDoors$Walker;I)Z"⟩
theorem q110 : (Jvm.Cond.initialized "java/lang/Throwable") ∈ lw_all := lw_g (lw_at lw_m1 2 rfl) rfl
theorem q159 : (Jvm.Cond.declares ({ cls := "java/lang/Throwable", name := "<init>", desc := "()V" } : Jvm.MethodName)) ∈ lw_tbl := lw_at lw_m1 51 rfl
theorem q160 : (Jvm.Cond.declares ({ cls := "java/lang/Throwable", name := "<init>", desc := "(Ljava/lang/String;)V" } : Jvm.MethodName)) ∈ lw_tbl := lw_at lw_m1 52 rfl
theorem q164 : (Jvm.Cond.lays "java/lang/Throwable" "java/lang/Throwable" "cause" "Ljava/lang/Throwable;") ∈ lw_all := lw_g (lw_at lw_m1 56 rfl) rfl
theorem q166 : (Jvm.Cond.lays "java/lang/Throwable" "java/lang/Throwable" "stackTrace" "[Ljava/lang/StackTraceElement;") ∈ lw_all := lw_g (lw_at lw_m1 58 rfl) rfl
theorem q168 : (Jvm.Cond.lays "java/lang/Throwable" "java/lang/Throwable" "suppressedExceptions" "Ljava/util/List;") ∈ lw_all := lw_g (lw_at lw_m1 60 rfl) rfl
theorem q170 : (Jvm.Cond.lays "java/lang/Throwable" "java/lang/Throwable" "detailMessage" "Ljava/lang/String;") ∈ lw_all := lw_g (lw_at lw_m1 62 rfl) rfl
theorem q172 : (Jvm.Cond.lays "java/lang/Throwable" "java/lang/Throwable" "backtrace" "Ljava/lang/Object;") ∈ lw_all := lw_g (lw_at lw_m1 64 rfl) rfl
theorem q173 : (Jvm.Cond.fieldLink "java/lang/Throwable" (198 : Nat) "java/lang/Throwable" "backtrace" "Ljava/lang/Object;") ∈ lw_all := lw_g (lw_at lw_m1 65 rfl) rfl
theorem q174 : (Jvm.Cond.superclass "java/lang/Throwable" "java/lang/Object") ∈ lw_all := lw_g (lw_at lw_m1 66 rfl) rfl
theorem q175 : (Jvm.Cond.instanceMethod ({ cls := "java/lang/Throwable", name := "<init>", desc := "()V" } : Jvm.MethodName)) ∈ lw_all := lw_g (lw_at lw_m1 67 rfl) rfl
theorem q176 : (Jvm.Cond.code ({ cls := "java/lang/Throwable", name := "<init>", desc := "()V" } : Jvm.MethodName) prog_36_method_1_code (1 : Nat) (Option.none : Option Jvm.ClassFile.FieldType)) ∈ lw_all := lw_g (lw_at lw_m1 68 rfl) rfl
theorem q177 : (Jvm.Cond.methodLink "java/lang/Throwable" (1 : Nat) ({ cls := "java/lang/Object", name := "<init>", desc := "()V" } : Jvm.MethodName)) ∈ lw_all := lw_g (lw_at lw_m1 69 rfl) rfl
theorem q178 : (Jvm.Cond.fieldLink "java/lang/Throwable" (13 : Nat) "java/lang/Throwable" "UNASSIGNED_STACK" "[Ljava/lang/StackTraceElement;") ∈ lw_all := lw_g (lw_at lw_m1 70 rfl) rfl
theorem q179 : (Jvm.Cond.laysStatic "java/lang/Throwable" "UNASSIGNED_STACK" "[Ljava/lang/StackTraceElement;") ∈ lw_tbl := lw_at lw_m1 71 rfl
theorem q180 : (Jvm.Cond.fieldLink "java/lang/Throwable" (20 : Nat) "java/lang/Throwable" "SUPPRESSED_SENTINEL" "Ljava/util/List;") ∈ lw_all := lw_g (lw_at lw_m1 72 rfl) rfl
theorem q181 : (Jvm.Cond.laysStatic "java/lang/Throwable" "SUPPRESSED_SENTINEL" "Ljava/util/List;") ∈ lw_tbl := lw_at lw_m1 73 rfl
theorem q182 : (Jvm.Cond.methodLink "java/lang/Throwable" (27 : Nat) ({ cls := "java/lang/Throwable", name := "fillInStackTrace", desc := "()Ljava/lang/Throwable;" } : Jvm.MethodName)) ∈ lw_all := lw_g (lw_at lw_m1 74 rfl) rfl
theorem q183 : (Jvm.Cond.instanceMethod ({ cls := "java/lang/Throwable", name := "fillInStackTrace", desc := "()Ljava/lang/Throwable;" } : Jvm.MethodName)) ∈ lw_all := lw_g (lw_at lw_m1 75 rfl) rfl
theorem q184 : (Jvm.Cond.sameMethod "java/lang/Throwable" "java/lang/Throwable" "fillInStackTrace" "()Ljava/lang/Throwable;") ∈ lw_all := lw_g (lw_at lw_m1 76 rfl) rfl
theorem q186 : (Jvm.Cond.codeSync ({ cls := "java/lang/Throwable", name := "fillInStackTrace", desc := "()Ljava/lang/Throwable;" } : Jvm.MethodName) prog_36_method_18_code (1 : Nat) (Option.some (Jvm.ClassFile.FieldType.object "java/lang/Throwable"))) ∈ lw_all := lw_g (lw_at lw_m1 78 rfl) rfl
theorem q187 : (Jvm.Cond.methodLink "java/lang/Throwable" (202 : Nat) ({ cls := "java/lang/Throwable", name := "fillInStackTrace", desc := "(I)Ljava/lang/Throwable;" } : Jvm.MethodName)) ∈ lw_all := lw_g (lw_at lw_m1 79 rfl) rfl
theorem q188 : (Jvm.Cond.privateMethod ({ cls := "java/lang/Throwable", name := "fillInStackTrace", desc := "(I)Ljava/lang/Throwable;" } : Jvm.MethodName)) ∈ lw_tbl := lw_at lw_m1 80 rfl
theorem q189 : (Jvm.Cond.instanceMethod ({ cls := "java/lang/Throwable", name := "fillInStackTrace", desc := "(I)Ljava/lang/Throwable;" } : Jvm.MethodName)) ∈ lw_all := lw_g (lw_at lw_m1 81 rfl) rfl
theorem q190 : (Jvm.Cond.instantiable "java/lang/Throwable" (6 : Nat)) ∈ lw_all := lw_g (lw_at lw_m1 82 rfl) rfl
theorem q191 : (Jvm.Cond.native ({ cls := "java/lang/Throwable", name := "fillInStackTrace", desc := "(I)Ljava/lang/Throwable;" } : Jvm.MethodName)) ∈ lw_all := lw_g (lw_at lw_m1 83 rfl) rfl
theorem q199 : (Jvm.Cond.instanceMethod ({ cls := "java/lang/Throwable", name := "<init>", desc := "(Ljava/lang/String;Ljava/lang/Throwable;ZZ)V" } : Jvm.MethodName)) ∈ lw_all := lw_g (lw_at lw_m1 91 rfl) rfl
theorem q200 : (Jvm.Cond.code ({ cls := "java/lang/Throwable", name := "<init>", desc := "(Ljava/lang/String;Ljava/lang/Throwable;ZZ)V" } : Jvm.MethodName) prog_36_method_5_code (5 : Nat) (Option.none : Option Jvm.ClassFile.FieldType)) ∈ lw_all := lw_g (lw_at lw_m1 92 rfl) rfl
theorem q205 : (Jvm.Cond.fieldLink "java/lang/Throwable" (198 : Nat) "java/lang/Throwable" "backtrace" "Ljava/lang/Object;") ∈ lw_all := lw_g (lw_at lw_m1 97 rfl) rfl
theorem q206 : (Jvm.Cond.fieldLink "java/lang/Throwable" (31 : Nat) "java/lang/Throwable" "detailMessage" "Ljava/lang/String;") ∈ lw_all := lw_g (lw_at lw_m1 98 rfl) rfl
theorem q207 : (Jvm.Cond.fieldLink "java/lang/Throwable" (7 : Nat) "java/lang/Throwable" "cause" "Ljava/lang/Throwable;") ∈ lw_all := lw_g (lw_at lw_m1 99 rfl) rfl
theorem q208 : (Jvm.Cond.fieldLink "java/lang/Throwable" (17 : Nat) "java/lang/Throwable" "stackTrace" "[Ljava/lang/StackTraceElement;") ∈ lw_all := lw_g (lw_at lw_m1 100 rfl) rfl
theorem q209 : (Jvm.Cond.fieldLink "java/lang/Throwable" (24 : Nat) "java/lang/Throwable" "suppressedExceptions" "Ljava/util/List;") ∈ lw_all := lw_g (lw_at lw_m1 101 rfl) rfl
theorem q214 : (Jvm.Cond.soleField "java/lang/Throwable" "backtrace") ∈ lw_all := lw_g (lw_at lw_m1 106 rfl) rfl
theorem q215 : (Jvm.Cond.soleField "java/lang/Throwable" "detailMessage") ∈ lw_all := lw_g (lw_at lw_m1 107 rfl) rfl
theorem q216 : (Jvm.Cond.soleField "java/lang/Throwable" "cause") ∈ lw_all := lw_g (lw_at lw_m1 108 rfl) rfl
theorem q217 : (Jvm.Cond.soleField "java/lang/Throwable" "stackTrace") ∈ lw_all := lw_g (lw_at lw_m1 109 rfl) rfl
theorem q219 : (Jvm.Cond.soleField "java/lang/Throwable" "depth") ∈ lw_all := lw_g (lw_at lw_m1 111 rfl) rfl
theorem q220 : (Jvm.Cond.soleField "java/lang/Throwable" "suppressedExceptions") ∈ lw_all := lw_g (lw_at lw_m1 112 rfl) rfl
theorem q2340 : (Jvm.Cond.sameMethod "java/lang/Throwable" "java/lang/Throwable" "fillInStackTrace" "(I)Ljava/lang/Throwable;") ∈ lw_all := lw_g (lw_at lw_m10 72 rfl) rfl
theorem q2387 : (Jvm.Cond.castable "java/lang/Throwable" "java/lang/Object") ∈ lw_tbl := lw_at lw_m10 119 rfl
theorem in_J0 : ∀ w ∈ wsJ00, w ∈ lw_all := lw_in wsJ00 [164, 166, 168, 170, 172] (by decide +kernel) (by decide +kernel)
theorem q111 : (Jvm.Cond.initialized "java/lang/Exception") ∈ lw_all := lw_g (lw_at lw_m1 3 rfl) rfl
theorem q157 : (Jvm.Cond.declares ({ cls := "java/lang/Exception", name := "<init>", desc := "()V" } : Jvm.MethodName)) ∈ lw_tbl := lw_at lw_m1 49 rfl
theorem q158 : (Jvm.Cond.declares ({ cls := "java/lang/Exception", name := "<init>", desc := "(Ljava/lang/String;)V" } : Jvm.MethodName)) ∈ lw_tbl := lw_at lw_m1 50 rfl
theorem q196 : (Jvm.Cond.instanceMethod ({ cls := "java/lang/Exception", name := "<init>", desc := "(Ljava/lang/String;Ljava/lang/Throwable;ZZ)V" } : Jvm.MethodName)) ∈ lw_all := lw_g (lw_at lw_m1 88 rfl) rfl
theorem q197 : (Jvm.Cond.code ({ cls := "java/lang/Exception", name := "<init>", desc := "(Ljava/lang/String;Ljava/lang/Throwable;ZZ)V" } : Jvm.MethodName) prog_27_method_5_code (5 : Nat) (Option.none : Option Jvm.ClassFile.FieldType)) ∈ lw_all := lw_g (lw_at lw_m1 89 rfl) rfl
theorem q198 : (Jvm.Cond.methodLink "java/lang/Exception" (16 : Nat) ({ cls := "java/lang/Throwable", name := "<init>", desc := "(Ljava/lang/String;Ljava/lang/Throwable;ZZ)V" } : Jvm.MethodName)) ∈ lw_all := lw_g (lw_at lw_m1 90 rfl) rfl
theorem q1639 : (Jvm.Cond.instanceMethod ({ cls := "java/lang/Exception", name := "<init>", desc := "()V" } : Jvm.MethodName)) ∈ lw_all := lw_g (lw_at lw_m7 91 rfl) rfl
theorem q1640 : (Jvm.Cond.code ({ cls := "java/lang/Exception", name := "<init>", desc := "()V" } : Jvm.MethodName) prog_27_method_1_code (1 : Nat) (Option.none : Option Jvm.ClassFile.FieldType)) ∈ lw_all := lw_g (lw_at lw_m7 92 rfl) rfl
theorem q1641 : (Jvm.Cond.methodLink "java/lang/Exception" (1 : Nat) ({ cls := "java/lang/Throwable", name := "<init>", desc := "()V" } : Jvm.MethodName)) ∈ lw_all := lw_g (lw_at lw_m7 93 rfl) rfl
theorem q121 : (Jvm.Cond.initialized "java/lang/String") ∈ lw_all := lw_g (lw_at lw_m1 13 rfl) rfl
theorem q712 : (Jvm.Cond.instanceMethod ({ cls := "java/lang/String", name := "length", desc := "()I" } : Jvm.MethodName)) ∈ lw_all := lw_g (lw_at lw_m3 124 rfl) rfl
theorem q713 : (Jvm.Cond.selects "java/lang/String" ({ cls := "java/lang/String", name := "length", desc := "()I" } : Jvm.MethodName) ({ cls := "java/lang/String", name := "length", desc := "()I" } : Jvm.MethodName)) ∈ lw_all := lw_g (lw_at lw_m3 125 rfl) rfl
theorem q714 : (Jvm.Cond.code ({ cls := "java/lang/String", name := "length", desc := "()I" } : Jvm.MethodName) prog_32_method_54_code (1 : Nat) (Option.some Jvm.ClassFile.FieldType.int)) ∈ lw_all := lw_g (lw_at lw_m3 126 rfl) rfl
theorem q715 : (Jvm.Cond.methodLink "java/lang/String" (335 : Nat) ({ cls := "java/lang/String", name := "coder", desc := "()B" } : Jvm.MethodName)) ∈ lw_all := lw_g (lw_at lw_m3 127 rfl) rfl
theorem q716 : (Jvm.Cond.instanceMethod ({ cls := "java/lang/String", name := "coder", desc := "()B" } : Jvm.MethodName)) ∈ lw_all := lw_g (lw_at lw_m3 128 rfl) rfl
theorem q717 : (Jvm.Cond.selects "java/lang/String" ({ cls := "java/lang/String", name := "coder", desc := "()B" } : Jvm.MethodName) ({ cls := "java/lang/String", name := "coder", desc := "()B" } : Jvm.MethodName)) ∈ lw_all := lw_g (lw_at lw_m3 129 rfl) rfl
theorem q718 : (Jvm.Cond.code ({ cls := "java/lang/String", name := "coder", desc := "()B" } : Jvm.MethodName) prog_32_method_152_code (1 : Nat) (Option.some Jvm.ClassFile.FieldType.byte)) ∈ lw_all := lw_g (lw_at lw_m3 130 rfl) rfl
theorem q719 : (Jvm.Cond.fieldLink "java/lang/String" (38 : Nat) "java/lang/String" "COMPACT_STRINGS" "Z") ∈ lw_all := lw_g (lw_at lw_m3 131 rfl) rfl
theorem q720 : (Jvm.Cond.laysStatic "java/lang/String" "COMPACT_STRINGS" "Z") ∈ lw_tbl := lw_at lw_m3 132 rfl
theorem q722 : (Jvm.Cond.instanceMethod ({ cls := "java/lang/String", name := "charAt", desc := "(I)C" } : Jvm.MethodName)) ∈ lw_all := lw_g (lw_at lw_m3 134 rfl) rfl
theorem q723 : (Jvm.Cond.selects "java/lang/String" ({ cls := "java/lang/String", name := "charAt", desc := "(I)C" } : Jvm.MethodName) ({ cls := "java/lang/String", name := "charAt", desc := "(I)C" } : Jvm.MethodName)) ∈ lw_all := lw_g (lw_at lw_m3 135 rfl) rfl
theorem q724 : (Jvm.Cond.code ({ cls := "java/lang/String", name := "charAt", desc := "(I)C" } : Jvm.MethodName) prog_32_method_56_code (2 : Nat) (Option.some Jvm.ClassFile.FieldType.char)) ∈ lw_all := lw_g (lw_at lw_m3 136 rfl) rfl
theorem q725 : (Jvm.Cond.methodLink "java/lang/String" (492 : Nat) ({ cls := "java/lang/String", name := "isLatin1", desc := "()Z" } : Jvm.MethodName)) ∈ lw_all := lw_g (lw_at lw_m3 137 rfl) rfl
theorem q726 : (Jvm.Cond.instanceMethod ({ cls := "java/lang/String", name := "isLatin1", desc := "()Z" } : Jvm.MethodName)) ∈ lw_all := lw_g (lw_at lw_m3 138 rfl) rfl
theorem q727 : (Jvm.Cond.selects "java/lang/String" ({ cls := "java/lang/String", name := "isLatin1", desc := "()Z" } : Jvm.MethodName) ({ cls := "java/lang/String", name := "isLatin1", desc := "()Z" } : Jvm.MethodName)) ∈ lw_all := lw_g (lw_at lw_m3 139 rfl) rfl
theorem q728 : (Jvm.Cond.code ({ cls := "java/lang/String", name := "isLatin1", desc := "()Z" } : Jvm.MethodName) prog_32_method_154_code (1 : Nat) (Option.some Jvm.ClassFile.FieldType.boolean)) ∈ lw_all := lw_g (lw_at lw_m3 140 rfl) rfl
theorem q729 : (Jvm.Cond.methodLink "java/lang/String" (495 : Nat) ({ cls := "java/lang/StringLatin1", name := "charAt", desc := "([BI)C" } : Jvm.MethodName)) ∈ lw_all := lw_g (lw_at lw_m3 141 rfl) rfl
theorem q733 : (Jvm.Cond.static ({ cls := "java/lang/String", name := "checkIndex", desc := "(II)V" } : Jvm.MethodName)) ∈ lw_all := lw_g (lw_at lw_m3 145 rfl) rfl
theorem q734 : (Jvm.Cond.code ({ cls := "java/lang/String", name := "checkIndex", desc := "(II)V" } : Jvm.MethodName) prog_32_method_155_code (2 : Nat) (Option.none : Option Jvm.ClassFile.FieldType)) ∈ lw_all := lw_g (lw_at lw_m3 146 rfl) rfl
theorem q735 : (Jvm.Cond.fieldLink "java/lang/String" (1053 : Nat) "jdk/internal/util/Preconditions" "SIOOBE_FORMATTER" "Ljava/util/function/BiFunction;") ∈ lw_all := lw_g (lw_at lw_m3 147 rfl) rfl
theorem q737 : (Jvm.Cond.methodLink "java/lang/String" (1059 : Nat) ({ cls := "jdk/internal/util/Preconditions", name := "checkIndex", desc := "(IILjava/util/function/BiFunction;)I" } : Jvm.MethodName)) ∈ lw_all := lw_g (lw_at lw_m3 149 rfl) rfl
theorem q740 : (Jvm.Cond.methodLink "java/lang/String" (498 : Nat) ({ cls := "java/lang/StringUTF16", name := "charAt", desc := "([BI)C" } : Jvm.MethodName)) ∈ lw_all := lw_g (lw_at lw_m3 152 rfl) rfl
theorem q2388 : (Jvm.Cond.castable "java/lang/String" "java/lang/Object") ∈ lw_tbl := lw_at lw_m10 120 rfl
theorem q2399 : (Jvm.Cond.fieldLink "java/lang/String" (9 : Nat) "java/lang/String" "value" "[B") ∈ lw_all := lw_g (lw_at lw_m10 131 rfl) rfl
theorem q2400 : (Jvm.Cond.fieldLink "java/lang/String" (15 : Nat) "java/lang/String" "coder" "B") ∈ lw_all := lw_g (lw_at lw_m10 132 rfl) rfl
theorem q122 : (Jvm.Cond.initialized "java/lang/StringLatin1") ∈ lw_all := lw_g (lw_at lw_m1 14 rfl) rfl
theorem q730 : (Jvm.Cond.static ({ cls := "java/lang/StringLatin1", name := "charAt", desc := "([BI)C" } : Jvm.MethodName)) ∈ lw_all := lw_g (lw_at lw_m3 142 rfl) rfl
theorem q731 : (Jvm.Cond.code ({ cls := "java/lang/StringLatin1", name := "charAt", desc := "([BI)C" } : Jvm.MethodName) prog_33_method_2_code (2 : Nat) (Option.some Jvm.ClassFile.FieldType.char)) ∈ lw_all := lw_g (lw_at lw_m3 143 rfl) rfl
theorem q732 : (Jvm.Cond.methodLink "java/lang/StringLatin1" (9 : Nat) ({ cls := "java/lang/String", name := "checkIndex", desc := "(II)V" } : Jvm.MethodName)) ∈ lw_all := lw_g (lw_at lw_m3 144 rfl) rfl
theorem q123 : (Jvm.Cond.initialized "jdk/internal/util/Preconditions") ∈ lw_all := lw_g (lw_at lw_m1 15 rfl) rfl
theorem q736 : (Jvm.Cond.laysStatic "jdk/internal/util/Preconditions" "SIOOBE_FORMATTER" "Ljava/util/function/BiFunction;") ∈ lw_tbl := lw_at lw_m3 148 rfl
theorem q738 : (Jvm.Cond.static ({ cls := "jdk/internal/util/Preconditions", name := "checkIndex", desc := "(IILjava/util/function/BiFunction;)I" } : Jvm.MethodName)) ∈ lw_all := lw_g (lw_at lw_m3 150 rfl) rfl
theorem q739 : (Jvm.Cond.code ({ cls := "jdk/internal/util/Preconditions", name := "checkIndex", desc := "(IILjava/util/function/BiFunction;)I" } : Jvm.MethodName) prog_38_method_11_code (3 : Nat) (Option.some Jvm.ClassFile.FieldType.int)) ∈ lw_all := lw_g (lw_at lw_m3 151 rfl) rfl
theorem q124 : (Jvm.Cond.initialized "java/lang/StringUTF16") ∈ lw_all := lw_g (lw_at lw_m1 16 rfl) rfl
theorem q741 : (Jvm.Cond.static ({ cls := "java/lang/StringUTF16", name := "charAt", desc := "([BI)C" } : Jvm.MethodName)) ∈ lw_all := lw_g (lw_at lw_m3 153 rfl) rfl
theorem q742 : (Jvm.Cond.code ({ cls := "java/lang/StringUTF16", name := "charAt", desc := "([BI)C" } : Jvm.MethodName) prog_34_method_83_code (2 : Nat) (Option.some Jvm.ClassFile.FieldType.char)) ∈ lw_all := lw_g (lw_at lw_m3 154 rfl) rfl
theorem q743 : (Jvm.Cond.methodLink "java/lang/StringUTF16" (67 : Nat) ({ cls := "java/lang/StringUTF16", name := "checkIndex", desc := "(I[B)V" } : Jvm.MethodName)) ∈ lw_all := lw_g (lw_at lw_m3 155 rfl) rfl
theorem q744 : (Jvm.Cond.static ({ cls := "java/lang/StringUTF16", name := "checkIndex", desc := "(I[B)V" } : Jvm.MethodName)) ∈ lw_all := lw_g (lw_at lw_m3 156 rfl) rfl
theorem q745 : (Jvm.Cond.code ({ cls := "java/lang/StringUTF16", name := "checkIndex", desc := "(I[B)V" } : Jvm.MethodName) prog_34_method_91_code (2 : Nat) (Option.none : Option Jvm.ClassFile.FieldType)) ∈ lw_all := lw_g (lw_at lw_m3 157 rfl) rfl
theorem q746 : (Jvm.Cond.methodLink "java/lang/StringUTF16" (48 : Nat) ({ cls := "java/lang/StringUTF16", name := "length", desc := "([B)I" } : Jvm.MethodName)) ∈ lw_all := lw_g (lw_at lw_m3 158 rfl) rfl
theorem q747 : (Jvm.Cond.static ({ cls := "java/lang/StringUTF16", name := "length", desc := "([B)I" } : Jvm.MethodName)) ∈ lw_all := lw_g (lw_at lw_m3 159 rfl) rfl
theorem q748 : (Jvm.Cond.code ({ cls := "java/lang/StringUTF16", name := "length", desc := "([B)I" } : Jvm.MethodName) prog_34_method_6_code (1 : Nat) (Option.some Jvm.ClassFile.FieldType.int)) ∈ lw_all := lw_g (lw_at lw_m3 160 rfl) rfl
theorem q749 : (Jvm.Cond.methodLink "java/lang/StringUTF16" (414 : Nat) ({ cls := "java/lang/String", name := "checkIndex", desc := "(II)V" } : Jvm.MethodName)) ∈ lw_all := lw_g (lw_at lw_m3 161 rfl) rfl
theorem q750 : (Jvm.Cond.methodLink "java/lang/StringUTF16" (71 : Nat) ({ cls := "java/lang/StringUTF16", name := "getChar", desc := "([BI)C" } : Jvm.MethodName)) ∈ lw_all := lw_g (lw_at lw_m3 162 rfl) rfl
theorem q751 : (Jvm.Cond.static ({ cls := "java/lang/StringUTF16", name := "getChar", desc := "([BI)C" } : Jvm.MethodName)) ∈ lw_all := lw_g (lw_at lw_m3 163 rfl) rfl
theorem q752 : (Jvm.Cond.code ({ cls := "java/lang/StringUTF16", name := "getChar", desc := "([BI)C" } : Jvm.MethodName) prog_34_method_5_code (2 : Nat) (Option.some Jvm.ClassFile.FieldType.char)) ∈ lw_all := lw_g (lw_at lw_m3 164 rfl) rfl
theorem q753 : (Jvm.Cond.fieldLink "java/lang/StringUTF16" (44 : Nat) "java/lang/StringUTF16" "$assertionsDisabled" "Z") ∈ lw_all := lw_g (lw_at lw_m3 165 rfl) rfl
theorem q754 : (Jvm.Cond.laysStatic "java/lang/StringUTF16" "$assertionsDisabled" "Z") ∈ lw_tbl := lw_at lw_m3 166 rfl
theorem q755 : (Jvm.Cond.fieldLink "java/lang/StringUTF16" (59 : Nat) "java/lang/StringUTF16" "HI_BYTE_SHIFT" "I") ∈ lw_all := lw_g (lw_at lw_m3 167 rfl) rfl
theorem q756 : (Jvm.Cond.laysStatic "java/lang/StringUTF16" "HI_BYTE_SHIFT" "I") ∈ lw_tbl := lw_at lw_m3 168 rfl
theorem q757 : (Jvm.Cond.fieldLink "java/lang/StringUTF16" (63 : Nat) "java/lang/StringUTF16" "LO_BYTE_SHIFT" "I") ∈ lw_all := lw_g (lw_at lw_m3 169 rfl) rfl
theorem q758 : (Jvm.Cond.laysStatic "java/lang/StringUTF16" "LO_BYTE_SHIFT" "I") ∈ lw_tbl := lw_at lw_m3 170 rfl
theorem q127 : (Jvm.Cond.initialized "java/lang/Math") ∈ lw_all := lw_g (lw_at lw_m1 19 rfl) rfl
theorem q973 : (Jvm.Cond.static ({ cls := "java/lang/Math", name := "max", desc := "(II)I" } : Jvm.MethodName)) ∈ lw_all := lw_g (lw_at lw_m4 145 rfl) rfl
theorem q974 : (Jvm.Cond.code ({ cls := "java/lang/Math", name := "max", desc := "(II)I" } : Jvm.MethodName) prog_30_method_65_code (2 : Nat) (Option.some Jvm.ClassFile.FieldType.int)) ∈ lw_all := lw_g (lw_at lw_m4 146 rfl) rfl
theorem q976 : (Jvm.Cond.static ({ cls := "java/lang/Math", name := "min", desc := "(II)I" } : Jvm.MethodName)) ∈ lw_all := lw_g (lw_at lw_m4 148 rfl) rfl
theorem q977 : (Jvm.Cond.code ({ cls := "java/lang/Math", name := "min", desc := "(II)I" } : Jvm.MethodName) prog_30_method_69_code (2 : Nat) (Option.some Jvm.ClassFile.FieldType.int)) ∈ lw_all := lw_g (lw_at lw_m4 149 rfl) rfl
theorem q1365 : (Jvm.Cond.static ({ cls := "java/lang/Math", name := "abs", desc := "(I)I" } : Jvm.MethodName)) ∈ lw_all := lw_g (lw_at lw_m6 57 rfl) rfl
theorem q1366 : (Jvm.Cond.code ({ cls := "java/lang/Math", name := "abs", desc := "(I)I" } : Jvm.MethodName) prog_30_method_59_code (1 : Nat) (Option.some Jvm.ClassFile.FieldType.int)) ∈ lw_all := lw_g (lw_at lw_m6 58 rfl) rfl
theorem q128 : (Jvm.Cond.initialized "java/lang/Long") ∈ lw_all := lw_g (lw_at lw_m1 20 rfl) rfl
theorem q1001 : (Jvm.Cond.static ({ cls := "java/lang/Long", name := "bitCount", desc := "(J)I" } : Jvm.MethodName)) ∈ lw_all := lw_g (lw_at lw_m4 173 rfl) rfl
theorem q1002 : (Jvm.Cond.code ({ cls := "java/lang/Long", name := "bitCount", desc := "(J)I" } : Jvm.MethodName) prog_29_method_50_code (2 : Nat) (Option.some Jvm.ClassFile.FieldType.int)) ∈ lw_all := lw_g (lw_at lw_m4 174 rfl) rfl
theorem q1003 : (Jvm.Cond.constantLong "java/lang/Long" (314 : Nat) (6148914691236517205 : Int64)) ∈ lw_all := lw_g (lw_at lw_m4 175 rfl) rfl
theorem q1004 : (Jvm.Cond.constantLong "java/lang/Long" (316 : Nat) (3689348814741910323 : Int64)) ∈ lw_all := lw_g (lw_at lw_m4 176 rfl) rfl
theorem q1005 : (Jvm.Cond.constantLong "java/lang/Long" (318 : Nat) (1085102592571150095 : Int64)) ∈ lw_all := lw_g (lw_at lw_m4 177 rfl) rfl
theorem q129 : (Jvm.Cond.initialized "java/lang/RuntimeException") ∈ lw_all := lw_g (lw_at lw_m1 21 rfl) rfl
theorem q1624 : (Jvm.Cond.declares ({ cls := "java/lang/RuntimeException", name := "<init>", desc := "()V" } : Jvm.MethodName)) ∈ lw_tbl := lw_at lw_m7 76 rfl
theorem q1625 : (Jvm.Cond.declares ({ cls := "java/lang/RuntimeException", name := "<init>", desc := "(Ljava/lang/String;)V" } : Jvm.MethodName)) ∈ lw_tbl := lw_at lw_m7 77 rfl
theorem q1636 : (Jvm.Cond.instanceMethod ({ cls := "java/lang/RuntimeException", name := "<init>", desc := "()V" } : Jvm.MethodName)) ∈ lw_all := lw_g (lw_at lw_m7 88 rfl) rfl
theorem q1637 : (Jvm.Cond.code ({ cls := "java/lang/RuntimeException", name := "<init>", desc := "()V" } : Jvm.MethodName) prog_31_method_1_code (1 : Nat) (Option.none : Option Jvm.ClassFile.FieldType)) ∈ lw_all := lw_g (lw_at lw_m7 89 rfl) rfl
theorem q1638 : (Jvm.Cond.methodLink "java/lang/RuntimeException" (1 : Nat) ({ cls := "java/lang/Exception", name := "<init>", desc := "()V" } : Jvm.MethodName)) ∈ lw_all := lw_g (lw_at lw_m7 90 rfl) rfl
theorem q130 : (Jvm.Cond.initialized "java/util/NoSuchElementException") ∈ lw_all := lw_g (lw_at lw_m1 22 rfl) rfl
theorem q185 : (Jvm.Cond.selects "java/util/NoSuchElementException" ({ cls := "java/lang/Throwable", name := "fillInStackTrace", desc := "()Ljava/lang/Throwable;" } : Jvm.MethodName) ({ cls := "java/lang/Throwable", name := "fillInStackTrace", desc := "()Ljava/lang/Throwable;" } : Jvm.MethodName)) ∈ lw_all := lw_g (lw_at lw_m1 77 rfl) rfl
theorem q1622 : (Jvm.Cond.instantiable "java/util/NoSuchElementException" (6 : Nat)) ∈ lw_all := lw_g (lw_at lw_m7 74 rfl) rfl
theorem q1623 : (Jvm.Cond.castable "java/util/NoSuchElementException" "java/util/NoSuchElementException") ∈ lw_tbl := lw_at lw_m7 75 rfl
theorem q1626 : (Jvm.Cond.selects "java/util/NoSuchElementException" ({ cls := "java/lang/Throwable", name := "fillInStackTrace", desc := "(I)Ljava/lang/Throwable;" } : Jvm.MethodName) ({ cls := "java/lang/Throwable", name := "fillInStackTrace", desc := "(I)Ljava/lang/Throwable;" } : Jvm.MethodName)) ∈ lw_all := lw_g (lw_at lw_m7 78 rfl) rfl
theorem q1627 : (Jvm.Cond.lays "java/util/NoSuchElementException" "java/lang/Throwable" "cause" "Ljava/lang/Throwable;") ∈ lw_all := lw_g (lw_at lw_m7 79 rfl) rfl
theorem q1628 : (Jvm.Cond.lays "java/util/NoSuchElementException" "java/lang/Throwable" "stackTrace" "[Ljava/lang/StackTraceElement;") ∈ lw_all := lw_g (lw_at lw_m7 80 rfl) rfl
theorem q1629 : (Jvm.Cond.lays "java/util/NoSuchElementException" "java/lang/Throwable" "suppressedExceptions" "Ljava/util/List;") ∈ lw_all := lw_g (lw_at lw_m7 81 rfl) rfl
theorem q1630 : (Jvm.Cond.lays "java/util/NoSuchElementException" "java/lang/Throwable" "detailMessage" "Ljava/lang/String;") ∈ lw_all := lw_g (lw_at lw_m7 82 rfl) rfl
theorem q1631 : (Jvm.Cond.lays "java/util/NoSuchElementException" "java/lang/Throwable" "backtrace" "Ljava/lang/Object;") ∈ lw_all := lw_g (lw_at lw_m7 83 rfl) rfl
theorem q1633 : (Jvm.Cond.instanceMethod ({ cls := "java/util/NoSuchElementException", name := "<init>", desc := "()V" } : Jvm.MethodName)) ∈ lw_all := lw_g (lw_at lw_m7 85 rfl) rfl
theorem q1634 : (Jvm.Cond.code ({ cls := "java/util/NoSuchElementException", name := "<init>", desc := "()V" } : Jvm.MethodName) prog_37_method_1_code (1 : Nat) (Option.none : Option Jvm.ClassFile.FieldType)) ∈ lw_all := lw_g (lw_at lw_m7 86 rfl) rfl
theorem q1635 : (Jvm.Cond.methodLink "java/util/NoSuchElementException" (1 : Nat) ({ cls := "java/lang/RuntimeException", name := "<init>", desc := "()V" } : Jvm.MethodName)) ∈ lw_all := lw_g (lw_at lw_m7 87 rfl) rfl
theorem q1642 : (Jvm.Cond.lays "java/util/NoSuchElementException" "java/lang/Throwable" "depth" "I") ∈ lw_all := lw_g (lw_at lw_m7 94 rfl) rfl
theorem q1643 : (Jvm.Cond.superclass "java/util/NoSuchElementException" "java/lang/RuntimeException") ∈ lw_all := lw_g (lw_at lw_m7 95 rfl) rfl
theorem q2376 : (Jvm.Cond.castable "java/util/NoSuchElementException" "java/lang/Object") ∈ lw_tbl := lw_at lw_m10 108 rfl
theorem in_J9 : ∀ w ∈ wsJ90, w ∈ lw_all := lw_in wsJ90 [1627, 1628, 1629, 1630, 1631, 1642] (by decide +kernel) (by decide +kernel)
theorem q132 : (Jvm.Cond.initialized "java/lang/Integer") ∈ lw_all := lw_g (lw_at lw_m1 24 rfl) rfl
theorem q1231 : (Jvm.Cond.static ({ cls := "java/lang/Integer", name := "bitCount", desc := "(I)I" } : Jvm.MethodName)) ∈ lw_all := lw_g (lw_at lw_m5 163 rfl) rfl
theorem q1232 : (Jvm.Cond.code ({ cls := "java/lang/Integer", name := "bitCount", desc := "(I)I" } : Jvm.MethodName) prog_28_method_49_code (1 : Nat) (Option.some Jvm.ClassFile.FieldType.int)) ∈ lw_all := lw_g (lw_at lw_m5 164 rfl) rfl
theorem q1233 : (Jvm.Cond.constant "java/lang/Integer" (265 : Nat) (1431655765 : Int32)) ∈ lw_all := lw_g (lw_at lw_m5 165 rfl) rfl
theorem q1234 : (Jvm.Cond.constant "java/lang/Integer" (266 : Nat) (858993459 : Int32)) ∈ lw_all := lw_g (lw_at lw_m5 166 rfl) rfl
theorem q1235 : (Jvm.Cond.constant "java/lang/Integer" (267 : Nat) (252645135 : Int32)) ∈ lw_all := lw_g (lw_at lw_m5 167 rfl) rfl
theorem q1237 : (Jvm.Cond.static ({ cls := "java/lang/Integer", name := "numberOfTrailingZeros", desc := "(I)I" } : Jvm.MethodName)) ∈ lw_all := lw_g (lw_at lw_m5 169 rfl) rfl
theorem q1238 : (Jvm.Cond.code ({ cls := "java/lang/Integer", name := "numberOfTrailingZeros", desc := "(I)I" } : Jvm.MethodName) prog_28_method_48_code (2 : Nat) (Option.some Jvm.ClassFile.FieldType.int)) ∈ lw_all := lw_g (lw_at lw_m5 170 rfl) rfl
theorem q1239 : (Jvm.Cond.constant "java/lang/Integer" (264 : Nat) (65536 : Int32)) ∈ lw_all := lw_g (lw_at lw_m5 171 rfl) rfl
theorem q152 : (Jvm.Cond.instanceMethod ({ cls := "java/lang/Object", name := "<init>", desc := "()V" } : Jvm.MethodName)) ∈ lw_all := lw_g (lw_at lw_m1 44 rfl) rfl
theorem q153 : (Jvm.Cond.code ({ cls := "java/lang/Object", name := "<init>", desc := "()V" } : Jvm.MethodName) object_method_1_code (1 : Nat) (Option.none : Option Jvm.ClassFile.FieldType)) ∈ lw_all := lw_g (lw_at lw_m1 45 rfl) rfl
theorem q108 : (Jvm.Cond.initialized "BitingDoorsLaw") ∈ lw_all := lw_g (lw_at lw_m1 0 rfl) rfl
theorem q146 : (Jvm.Cond.classLink "BitingDoorsLaw" (8 : Nat) "BitingDoors") ∈ lw_all := lw_g (lw_at lw_m1 38 rfl) rfl
theorem q148 : (Jvm.Cond.methodLink "BitingDoorsLaw" (15 : Nat) ({ cls := "BitingDoors", name := "<init>", desc := "()V" } : Jvm.MethodName)) ∈ lw_all := lw_g (lw_at lw_m1 40 rfl) rfl
theorem q640 : (Jvm.Cond.methodLink "BitingDoorsLaw" (19 : Nat) ({ cls := "BitingDoors", name := "feed", desc := "(IIIII)I" } : Jvm.MethodName)) ∈ lw_all := lw_g (lw_at lw_m3 52 rfl) rfl
theorem q648 : (Jvm.Cond.methodLink "BitingDoorsLaw" (24 : Nat) ({ cls := "BitingDoors", name := "end", desc := "(I)Z" } : Jvm.MethodName)) ∈ lw_all := lw_g (lw_at lw_m3 60 rfl) rfl
theorem q652 : (Jvm.Cond.methodLink "BitingDoorsLaw" (29 : Nat) ({ cls := "BitingDoors", name := "house", desc := "()I" } : Jvm.MethodName)) ∈ lw_all := lw_g (lw_at lw_m3 64 rfl) rfl
theorem q1011 : (Jvm.Cond.methodLink "BitingDoorsLaw" (34 : Nat) ({ cls := "BitingDoors", name := "fault", desc := "()I" } : Jvm.MethodName)) ∈ lw_all := lw_g (lw_at lw_m4 183 rfl) rfl
theorem q1015 : (Jvm.Cond.methodLink "BitingDoorsLaw" (139 : Nat) ({ cls := "BitingDoors", name := "day", desc := "()I" } : Jvm.MethodName)) ∈ lw_all := lw_g (lw_at lw_m4 187 rfl) rfl
theorem q1106 : (Jvm.Cond.methodLink "BitingDoorsLaw" (38 : Nat) ({ cls := "BitingDoors", name := "cell", desc := "(II)I" } : Jvm.MethodName)) ∈ lw_all := lw_g (lw_at lw_m5 38 rfl) rfl
theorem q1111 : (Jvm.Cond.methodLink "BitingDoorsLaw" (51 : Nat) ({ cls := "BitingDoors", name := "leaf", desc := "(IIII)I" } : Jvm.MethodName)) ∈ lw_all := lw_g (lw_at lw_m5 43 rfl) rfl
theorem q1129 : (Jvm.Cond.methodLink "BitingDoorsLaw" (56 : Nat) ({ cls := "BitingDoors", name := "can", desc := "(II)I" } : Jvm.MethodName)) ∈ lw_all := lw_g (lw_at lw_m5 61 rfl) rfl
theorem q1133 : (Jvm.Cond.methodLink "BitingDoorsLaw" (60 : Nat) ({ cls := "BitingDoors", name := "fit", desc := "(II)I" } : Jvm.MethodName)) ∈ lw_all := lw_g (lw_at lw_m5 65 rfl) rfl
theorem q1146 : (Jvm.Cond.methodLink "BitingDoorsLaw" (64 : Nat) ({ cls := "BitingDoors", name := "bites", desc := "(IIII)I" } : Jvm.MethodName)) ∈ lw_all := lw_g (lw_at lw_m5 78 rfl) rfl
theorem q1151 : (Jvm.Cond.methodLink "BitingDoorsLaw" (68 : Nat) ({ cls := "BitingDoors", name := "clashes", desc := "()I" } : Jvm.MethodName)) ∈ lw_all := lw_g (lw_at lw_m5 83 rfl) rfl
theorem q1164 : (Jvm.Cond.methodLink "BitingDoorsLaw" (72 : Nat) ({ cls := "BitingDoors", name := "cheapest", desc := "()I" } : Jvm.MethodName)) ∈ lw_all := lw_g (lw_at lw_m5 96 rfl) rfl
theorem q1194 : (Jvm.Cond.methodLink "BitingDoorsLaw" (76 : Nat) ({ cls := "BitingDoors", name := "hung", desc := "(I)I" } : Jvm.MethodName)) ∈ lw_all := lw_g (lw_at lw_m5 126 rfl) rfl
theorem q1198 : (Jvm.Cond.methodLink "BitingDoorsLaw" (81 : Nat) ({ cls := "BitingDoors", name := "fewest", desc := "()I" } : Jvm.MethodName)) ∈ lw_all := lw_g (lw_at lw_m5 130 rfl) rfl
theorem q1210 : (Jvm.Cond.methodLink "BitingDoorsLaw" (85 : Nat) ({ cls := "BitingDoors", name := "fewestBy", desc := "(I)I" } : Jvm.MethodName)) ∈ lw_all := lw_g (lw_at lw_m5 142 rfl) rfl
theorem q1214 : (Jvm.Cond.methodLink "BitingDoorsLaw" (89 : Nat) ({ cls := "BitingDoors", name := "ways", desc := "()I" } : Jvm.MethodName)) ∈ lw_all := lw_g (lw_at lw_m5 146 rfl) rfl
theorem q1222 : (Jvm.Cond.methodLink "BitingDoorsLaw" (93 : Nat) ({ cls := "BitingDoors", name := "forces", desc := "(III)I" } : Jvm.MethodName)) ∈ lw_all := lw_g (lw_at lw_m5 154 rfl) rfl
theorem q1241 : (Jvm.Cond.methodLink "BitingDoorsLaw" (98 : Nat) ({ cls := "BitingDoors", name := "forced", desc := "(I)I" } : Jvm.MethodName)) ∈ lw_all := lw_g (lw_at lw_m5 173 rfl) rfl
theorem q1245 : (Jvm.Cond.methodLink "BitingDoorsLaw" (102 : Nat) ({ cls := "BitingDoors", name := "forcedAt", desc := "(I)I" } : Jvm.MethodName)) ∈ lw_all := lw_g (lw_at lw_m5 177 rfl) rfl
theorem q1249 : (Jvm.Cond.methodLink "BitingDoorsLaw" (106 : Nat) ({ cls := "BitingDoors", name := "stuck", desc := "()I" } : Jvm.MethodName)) ∈ lw_all := lw_g (lw_at lw_m5 181 rfl) rfl
theorem q1257 : (Jvm.Cond.methodLink "BitingDoorsLaw" (110 : Nat) ({ cls := "BitingDoors", name := "joiner", desc := "()I" } : Jvm.MethodName)) ∈ lw_all := lw_g (lw_at lw_m5 189 rfl) rfl
theorem q1263 : (Jvm.Cond.methodLink "BitingDoorsLaw" (114 : Nat) ({ cls := "BitingDoors", name := "joinerAt", desc := "(I)I" } : Jvm.MethodName)) ∈ lw_all := lw_g (lw_at lw_m5 195 rfl) rfl
theorem q1267 : (Jvm.Cond.methodLink "BitingDoorsLaw" (118 : Nat) ({ cls := "BitingDoors", name := "rehang", desc := "(II)Z" } : Jvm.MethodName)) ∈ lw_all := lw_g (lw_at lw_m5 199 rfl) rfl
theorem q1271 : (Jvm.Cond.methodLink "BitingDoorsLaw" (123 : Nat) ({ cls := "BitingDoors", name := "stand", desc := "(II)Z" } : Jvm.MethodName)) ∈ lw_all := lw_g (lw_at lw_m5 203 rfl) rfl
theorem q1289 : (Jvm.Cond.methodLink "BitingDoorsLaw" (127 : Nat) ({ cls := "BitingDoors", name := "place", desc := "()I" } : Jvm.MethodName)) ∈ lw_all := lw_g (lw_at lw_m5 221 rfl) rfl
theorem q1293 : (Jvm.Cond.methodLink "BitingDoorsLaw" (131 : Nat) ({ cls := "BitingDoors", name := "does", desc := "(I)I" } : Jvm.MethodName)) ∈ lw_all := lw_g (lw_at lw_m5 225 rfl) rfl
theorem q1327 : (Jvm.Cond.methodLink "BitingDoorsLaw" (135 : Nat) ({ cls := "BitingDoors", name := "minutes", desc := "()I" } : Jvm.MethodName)) ∈ lw_all := lw_g (lw_at lw_m6 19 rfl) rfl
theorem q1331 : (Jvm.Cond.methodLink "BitingDoorsLaw" (143 : Nat) ({ cls := "BitingDoors", name := "judge", desc := "()I" } : Jvm.MethodName)) ∈ lw_all := lw_g (lw_at lw_m6 23 rfl) rfl
theorem q1383 : (Jvm.Cond.methodLink "BitingDoorsLaw" (147 : Nat) ({ cls := "BitingDoors", name := "judged", desc := "(I)I" } : Jvm.MethodName)) ∈ lw_all := lw_g (lw_at lw_m6 75 rfl) rfl
theorem q1387 : (Jvm.Cond.methodLink "BitingDoorsLaw" (151 : Nat) ({ cls := "BitingDoors", name := "live", desc := "()I" } : Jvm.MethodName)) ∈ lw_all := lw_g (lw_at lw_m6 79 rfl) rfl
theorem q1391 : (Jvm.Cond.methodLink "BitingDoorsLaw" (155 : Nat) ({ cls := "BitingDoors", name := "way", desc := "(II)I" } : Jvm.MethodName)) ∈ lw_all := lw_g (lw_at lw_m6 83 rfl) rfl
theorem q1406 : (Jvm.Cond.methodLink "BitingDoorsLaw" (159 : Nat) ({ cls := "BitingDoors", name := "wayAt", desc := "(I)I" } : Jvm.MethodName)) ∈ lw_all := lw_g (lw_at lw_m6 98 rfl) rfl
theorem q1410 : (Jvm.Cond.methodLink "BitingDoorsLaw" (163 : Nat) ({ cls := "BitingDoors", name := "walk", desc := "()I" } : Jvm.MethodName)) ∈ lw_all := lw_g (lw_at lw_m6 102 rfl) rfl
theorem q1414 : (Jvm.Cond.methodLink "BitingDoorsLaw" (167 : Nat) ({ cls := "BitingDoors", name := "reach", desc := "(I)I" } : Jvm.MethodName)) ∈ lw_all := lw_g (lw_at lw_m6 106 rfl) rfl
theorem q1424 : (Jvm.Cond.methodLink "BitingDoorsLaw" (171 : Nat) ({ cls := "BitingDoors", name := "quiet", desc := "()I" } : Jvm.MethodName)) ∈ lw_all := lw_g (lw_at lw_m6 116 rfl) rfl
theorem q1428 : (Jvm.Cond.methodLink "BitingDoorsLaw" (175 : Nat) ({ cls := "BitingDoors", name := "stride", desc := "()I" } : Jvm.MethodName)) ∈ lw_all := lw_g (lw_at lw_m6 120 rfl) rfl
theorem q1432 : (Jvm.Cond.methodLink "BitingDoorsLaw" (179 : Nat) ({ cls := "BitingDoors", name := "sentence", desc := "()I" } : Jvm.MethodName)) ∈ lw_all := lw_g (lw_at lw_m6 124 rfl) rfl
theorem q1560 : (Jvm.Cond.methodLink "BitingDoorsLaw" (183 : Nat) ({ cls := "BitingDoors", name := "said", desc := "()I" } : Jvm.MethodName)) ∈ lw_all := lw_g (lw_at lw_m7 12 rfl) rfl
theorem q1598 : (Jvm.Cond.methodLink "BitingDoorsLaw" (187 : Nat) ({ cls := "BitingDoors", name := "image", desc := "(I)Z" } : Jvm.MethodName)) ∈ lw_all := lw_g (lw_at lw_m7 50 rfl) rfl
theorem q1602 : (Jvm.Cond.methodLink "BitingDoorsLaw" (191 : Nat) ({ cls := "BitingDoors", name := "restore", desc := "(I)Z" } : Jvm.MethodName)) ∈ lw_all := lw_g (lw_at lw_m7 54 rfl) rfl
theorem q1606 : (Jvm.Cond.methodLink "BitingDoorsLaw" (195 : Nat) ({ cls := "BitingDoors", name := "count", desc := "(I)I" } : Jvm.MethodName)) ∈ lw_all := lw_g (lw_at lw_m7 58 rfl) rfl
theorem q1610 : (Jvm.Cond.methodLink "BitingDoorsLaw" (42 : Nat) ({ cls := "BitingDoorsLaw", name := "door", desc := "(LBitingDoors;II[J)I" } : Jvm.MethodName)) ∈ lw_all := lw_g (lw_at lw_m7 62 rfl) rfl
theorem q1611 : (Jvm.Cond.static ({ cls := "BitingDoorsLaw", name := "door", desc := "(LBitingDoors;II[J)I" } : Jvm.MethodName)) ∈ lw_all := lw_g (lw_at lw_m7 63 rfl) rfl
theorem q1612 : (Jvm.Cond.codeWith ({ cls := "BitingDoorsLaw", name := "door", desc := "(LBitingDoors;II[J)I" } : Jvm.MethodName) method_3_code (5 : Nat) (Option.some Jvm.ClassFile.FieldType.int) [((0 : Nat), (10 : Nat), (13 : Nat), (13 : Nat))]) ∈ lw_all := lw_g (lw_at lw_m7 64 rfl) rfl
theorem q1613 : (Jvm.Cond.classLink "BitingDoorsLaw" (13 : Nat) "java/util/NoSuchElementException") ∈ lw_all := lw_g (lw_at lw_m7 65 rfl) rfl
theorem q1614 : (Jvm.Cond.methodLink "BitingDoorsLaw" (7 : Nat) ({ cls := "BitingDoors", name := "door", desc := "(II)I" } : Jvm.MethodName)) ∈ lw_all := lw_g (lw_at lw_m7 66 rfl) rfl
theorem q1644 : (Jvm.Cond.classLink "BitingDoorsLaw" (16 : Nat) "BitingDoorsModel") ∈ lw_all := lw_g (lw_at lw_m7 96 rfl) rfl
theorem q1646 : (Jvm.Cond.methodLink "BitingDoorsLaw" (18 : Nat) ({ cls := "BitingDoorsModel", name := "<init>", desc := "()V" } : Jvm.MethodName)) ∈ lw_all := lw_g (lw_at lw_m7 98 rfl) rfl
theorem q1844 : (Jvm.Cond.methodLink "BitingDoorsLaw" (48 : Nat) ({ cls := "BitingDoorsModel", name := "thrown", desc := "()I" } : Jvm.MethodName)) ∈ lw_all := lw_g (lw_at lw_m8 56 rfl) rfl
theorem q1848 : (Jvm.Cond.methodLink "BitingDoorsLaw" (23 : Nat) ({ cls := "BitingDoorsModel", name := "feed", desc := "(IIIII)I" } : Jvm.MethodName)) ∈ lw_all := lw_g (lw_at lw_m8 60 rfl) rfl
theorem q1856 : (Jvm.Cond.methodLink "BitingDoorsLaw" (28 : Nat) ({ cls := "BitingDoorsModel", name := "end", desc := "(I)Z" } : Jvm.MethodName)) ∈ lw_all := lw_g (lw_at lw_m8 68 rfl) rfl
theorem q1860 : (Jvm.Cond.methodLink "BitingDoorsLaw" (33 : Nat) ({ cls := "BitingDoorsModel", name := "house", desc := "()I" } : Jvm.MethodName)) ∈ lw_all := lw_g (lw_at lw_m8 72 rfl) rfl
theorem q1966 : (Jvm.Cond.methodLink "BitingDoorsLaw" (37 : Nat) ({ cls := "BitingDoorsModel", name := "fault", desc := "()I" } : Jvm.MethodName)) ∈ lw_all := lw_g (lw_at lw_m8 178 rfl) rfl
theorem q1970 : (Jvm.Cond.methodLink "BitingDoorsLaw" (41 : Nat) ({ cls := "BitingDoorsModel", name := "cell", desc := "(II)I" } : Jvm.MethodName)) ∈ lw_all := lw_g (lw_at lw_m8 182 rfl) rfl
theorem q1978 : (Jvm.Cond.methodLink "BitingDoorsLaw" (47 : Nat) ({ cls := "BitingDoorsModel", name := "door", desc := "(II)I" } : Jvm.MethodName)) ∈ lw_all := lw_g (lw_at lw_m8 190 rfl) rfl
theorem q1998 : (Jvm.Cond.methodLink "BitingDoorsLaw" (55 : Nat) ({ cls := "BitingDoorsModel", name := "leaf", desc := "(IIII)I" } : Jvm.MethodName)) ∈ lw_all := lw_g (lw_at lw_m8 210 rfl) rfl
theorem q2010 : (Jvm.Cond.methodLink "BitingDoorsLaw" (59 : Nat) ({ cls := "BitingDoorsModel", name := "can", desc := "(II)I" } : Jvm.MethodName)) ∈ lw_all := lw_g (lw_at lw_m8 222 rfl) rfl
theorem q2018 : (Jvm.Cond.methodLink "BitingDoorsLaw" (63 : Nat) ({ cls := "BitingDoorsModel", name := "fit", desc := "(II)I" } : Jvm.MethodName)) ∈ lw_all := lw_g (lw_at lw_m8 230 rfl) rfl
theorem q2026 : (Jvm.Cond.methodLink "BitingDoorsLaw" (67 : Nat) ({ cls := "BitingDoorsModel", name := "bites", desc := "(IIII)I" } : Jvm.MethodName)) ∈ lw_all := lw_g (lw_at lw_m8 238 rfl) rfl
theorem q2041 : (Jvm.Cond.methodLink "BitingDoorsLaw" (71 : Nat) ({ cls := "BitingDoorsModel", name := "clashes", desc := "()I" } : Jvm.MethodName)) ∈ lw_all := lw_g (lw_at lw_m9 13 rfl) rfl
theorem q2053 : (Jvm.Cond.methodLink "BitingDoorsLaw" (75 : Nat) ({ cls := "BitingDoorsModel", name := "cheapest", desc := "()I" } : Jvm.MethodName)) ∈ lw_all := lw_g (lw_at lw_m9 25 rfl) rfl
theorem q2073 : (Jvm.Cond.methodLink "BitingDoorsLaw" (80 : Nat) ({ cls := "BitingDoorsModel", name := "hung", desc := "(I)I" } : Jvm.MethodName)) ∈ lw_all := lw_g (lw_at lw_m9 45 rfl) rfl
theorem q2077 : (Jvm.Cond.methodLink "BitingDoorsLaw" (84 : Nat) ({ cls := "BitingDoorsModel", name := "fewest", desc := "()I" } : Jvm.MethodName)) ∈ lw_all := lw_g (lw_at lw_m9 49 rfl) rfl
theorem q2081 : (Jvm.Cond.methodLink "BitingDoorsLaw" (88 : Nat) ({ cls := "BitingDoorsModel", name := "fewestBy", desc := "(I)I" } : Jvm.MethodName)) ∈ lw_all := lw_g (lw_at lw_m9 53 rfl) rfl
theorem q2085 : (Jvm.Cond.methodLink "BitingDoorsLaw" (92 : Nat) ({ cls := "BitingDoorsModel", name := "ways", desc := "()I" } : Jvm.MethodName)) ∈ lw_all := lw_g (lw_at lw_m9 57 rfl) rfl
theorem q2093 : (Jvm.Cond.methodLink "BitingDoorsLaw" (97 : Nat) ({ cls := "BitingDoorsModel", name := "forces", desc := "(III)I" } : Jvm.MethodName)) ∈ lw_all := lw_g (lw_at lw_m9 65 rfl) rfl
theorem q2112 : (Jvm.Cond.methodLink "BitingDoorsLaw" (101 : Nat) ({ cls := "BitingDoorsModel", name := "forced", desc := "(I)I" } : Jvm.MethodName)) ∈ lw_all := lw_g (lw_at lw_m9 84 rfl) rfl
theorem q2116 : (Jvm.Cond.methodLink "BitingDoorsLaw" (105 : Nat) ({ cls := "BitingDoorsModel", name := "forcedAt", desc := "(I)I" } : Jvm.MethodName)) ∈ lw_all := lw_g (lw_at lw_m9 88 rfl) rfl
theorem q2120 : (Jvm.Cond.methodLink "BitingDoorsLaw" (109 : Nat) ({ cls := "BitingDoorsModel", name := "stuck", desc := "()I" } : Jvm.MethodName)) ∈ lw_all := lw_g (lw_at lw_m9 92 rfl) rfl
theorem q2128 : (Jvm.Cond.methodLink "BitingDoorsLaw" (113 : Nat) ({ cls := "BitingDoorsModel", name := "joiner", desc := "()I" } : Jvm.MethodName)) ∈ lw_all := lw_g (lw_at lw_m9 100 rfl) rfl
theorem q2132 : (Jvm.Cond.methodLink "BitingDoorsLaw" (117 : Nat) ({ cls := "BitingDoorsModel", name := "joinerAt", desc := "(I)I" } : Jvm.MethodName)) ∈ lw_all := lw_g (lw_at lw_m9 104 rfl) rfl
theorem q2136 : (Jvm.Cond.methodLink "BitingDoorsLaw" (122 : Nat) ({ cls := "BitingDoorsModel", name := "rehang", desc := "(II)Z" } : Jvm.MethodName)) ∈ lw_all := lw_g (lw_at lw_m9 108 rfl) rfl
theorem q2140 : (Jvm.Cond.methodLink "BitingDoorsLaw" (126 : Nat) ({ cls := "BitingDoorsModel", name := "stand", desc := "(II)Z" } : Jvm.MethodName)) ∈ lw_all := lw_g (lw_at lw_m9 112 rfl) rfl
theorem q2156 : (Jvm.Cond.methodLink "BitingDoorsLaw" (130 : Nat) ({ cls := "BitingDoorsModel", name := "place", desc := "()I" } : Jvm.MethodName)) ∈ lw_all := lw_g (lw_at lw_m9 128 rfl) rfl
theorem q2160 : (Jvm.Cond.methodLink "BitingDoorsLaw" (134 : Nat) ({ cls := "BitingDoorsModel", name := "does", desc := "(I)I" } : Jvm.MethodName)) ∈ lw_all := lw_g (lw_at lw_m9 132 rfl) rfl
theorem q2196 : (Jvm.Cond.methodLink "BitingDoorsLaw" (138 : Nat) ({ cls := "BitingDoorsModel", name := "minutes", desc := "()I" } : Jvm.MethodName)) ∈ lw_all := lw_g (lw_at lw_m9 168 rfl) rfl
theorem q2200 : (Jvm.Cond.methodLink "BitingDoorsLaw" (142 : Nat) ({ cls := "BitingDoorsModel", name := "day", desc := "()I" } : Jvm.MethodName)) ∈ lw_all := lw_g (lw_at lw_m9 172 rfl) rfl
theorem q2208 : (Jvm.Cond.methodLink "BitingDoorsLaw" (146 : Nat) ({ cls := "BitingDoorsModel", name := "judge", desc := "()I" } : Jvm.MethodName)) ∈ lw_all := lw_g (lw_at lw_m9 180 rfl) rfl
theorem q2224 : (Jvm.Cond.methodLink "BitingDoorsLaw" (150 : Nat) ({ cls := "BitingDoorsModel", name := "judged", desc := "(I)I" } : Jvm.MethodName)) ∈ lw_all := lw_g (lw_at lw_m9 196 rfl) rfl
theorem q2228 : (Jvm.Cond.methodLink "BitingDoorsLaw" (154 : Nat) ({ cls := "BitingDoorsModel", name := "live", desc := "()I" } : Jvm.MethodName)) ∈ lw_all := lw_g (lw_at lw_m9 200 rfl) rfl
theorem q2232 : (Jvm.Cond.methodLink "BitingDoorsLaw" (158 : Nat) ({ cls := "BitingDoorsModel", name := "way", desc := "(II)I" } : Jvm.MethodName)) ∈ lw_all := lw_g (lw_at lw_m9 204 rfl) rfl
theorem q2252 : (Jvm.Cond.methodLink "BitingDoorsLaw" (162 : Nat) ({ cls := "BitingDoorsModel", name := "wayAt", desc := "(I)I" } : Jvm.MethodName)) ∈ lw_all := lw_g (lw_at lw_m9 224 rfl) rfl
theorem q2256 : (Jvm.Cond.methodLink "BitingDoorsLaw" (166 : Nat) ({ cls := "BitingDoorsModel", name := "walk", desc := "()I" } : Jvm.MethodName)) ∈ lw_all := lw_g (lw_at lw_m9 228 rfl) rfl
theorem q2260 : (Jvm.Cond.methodLink "BitingDoorsLaw" (170 : Nat) ({ cls := "BitingDoorsModel", name := "reach", desc := "(I)I" } : Jvm.MethodName)) ∈ lw_all := lw_g (lw_at lw_m9 232 rfl) rfl
theorem q2268 : (Jvm.Cond.methodLink "BitingDoorsLaw" (174 : Nat) ({ cls := "BitingDoorsModel", name := "quiet", desc := "()I" } : Jvm.MethodName)) ∈ lw_all := lw_g (lw_at lw_m10 0 rfl) rfl
theorem q2272 : (Jvm.Cond.methodLink "BitingDoorsLaw" (178 : Nat) ({ cls := "BitingDoorsModel", name := "stride", desc := "()I" } : Jvm.MethodName)) ∈ lw_all := lw_g (lw_at lw_m10 4 rfl) rfl
theorem q2276 : (Jvm.Cond.methodLink "BitingDoorsLaw" (182 : Nat) ({ cls := "BitingDoorsModel", name := "sentence", desc := "()I" } : Jvm.MethodName)) ∈ lw_all := lw_g (lw_at lw_m10 8 rfl) rfl
theorem q2316 : (Jvm.Cond.methodLink "BitingDoorsLaw" (186 : Nat) ({ cls := "BitingDoorsModel", name := "said", desc := "()I" } : Jvm.MethodName)) ∈ lw_all := lw_g (lw_at lw_m10 48 rfl) rfl
theorem q2328 : (Jvm.Cond.methodLink "BitingDoorsLaw" (190 : Nat) ({ cls := "BitingDoorsModel", name := "image", desc := "(I)Z" } : Jvm.MethodName)) ∈ lw_all := lw_g (lw_at lw_m10 60 rfl) rfl
theorem q2332 : (Jvm.Cond.methodLink "BitingDoorsLaw" (194 : Nat) ({ cls := "BitingDoorsModel", name := "restore", desc := "(I)Z" } : Jvm.MethodName)) ∈ lw_all := lw_g (lw_at lw_m10 64 rfl) rfl
theorem q2336 : (Jvm.Cond.methodLink "BitingDoorsLaw" (198 : Nat) ({ cls := "BitingDoorsModel", name := "count", desc := "(I)I" } : Jvm.MethodName)) ∈ lw_all := lw_g (lw_at lw_m10 68 rfl) rfl
theorem q109 : (Jvm.Cond.initialized "BitingDoors") ∈ lw_all := lw_g (lw_at lw_m1 1 rfl) rfl
theorem q147 : (Jvm.Cond.instantiable "BitingDoors" (46 : Nat)) ∈ lw_all := lw_g (lw_at lw_m1 39 rfl) rfl
theorem q149 : (Jvm.Cond.instanceMethod ({ cls := "BitingDoors", name := "<init>", desc := "()V" } : Jvm.MethodName)) ∈ lw_all := lw_g (lw_at lw_m1 41 rfl) rfl
theorem q150 : (Jvm.Cond.code ({ cls := "BitingDoors", name := "<init>", desc := "()V" } : Jvm.MethodName) prog_1_method_1_code (1 : Nat) (Option.none : Option Jvm.ClassFile.FieldType)) ∈ lw_all := lw_g (lw_at lw_m1 42 rfl) rfl
theorem q151 : (Jvm.Cond.methodLink "BitingDoors" (1 : Nat) ({ cls := "java/lang/Object", name := "<init>", desc := "()V" } : Jvm.MethodName)) ∈ lw_all := lw_g (lw_at lw_m1 43 rfl) rfl
theorem q154 : (Jvm.Cond.classLink "BitingDoors" (13 : Nat) "BitingDoors$Fault") ∈ lw_all := lw_g (lw_at lw_m1 46 rfl) rfl
theorem q192 : (Jvm.Cond.methodLink "BitingDoors" (15 : Nat) ({ cls := "BitingDoors$Fault", name := "<init>", desc := "()V" } : Jvm.MethodName)) ∈ lw_all := lw_g (lw_at lw_m1 84 rfl) rfl
theorem q201 : (Jvm.Cond.fieldLink "BitingDoors" (231 : Nat) "BitingDoors$Fault" "kind" "I") ∈ lw_all := lw_g (lw_at lw_m1 93 rfl) rfl
theorem q203 : (Jvm.Cond.fieldLink "BitingDoors" (234 : Nat) "BitingDoors$Fault" "place" "I") ∈ lw_all := lw_g (lw_at lw_m1 95 rfl) rfl
theorem q223 : (Jvm.Cond.classLink "BitingDoors" (20 : Nat) "java/lang/String") ∈ lw_all := lw_g (lw_at lw_m1 115 rfl) rfl
theorem q225 : (Jvm.Cond.stringRef "BitingDoors" (22 : Nat) "row") ∈ lw_tbl := lw_at lw_m1 117 rfl
theorem q226 : (Jvm.Cond.stringRef "BitingDoors" (24 : Nat) "door") ∈ lw_tbl := lw_at lw_m1 118 rfl
theorem q227 : (Jvm.Cond.stringRef "BitingDoors" (26 : Nat) "draught") ∈ lw_tbl := lw_at lw_m1 119 rfl
theorem q228 : (Jvm.Cond.stringRef "BitingDoors" (28 : Nat) "bed") ∈ lw_tbl := lw_at lw_m1 120 rfl
theorem q229 : (Jvm.Cond.stringRef "BitingDoors" (30 : Nat) "along") ∈ lw_tbl := lw_at lw_m1 121 rfl
theorem q230 : (Jvm.Cond.stringRef "BitingDoors" (32 : Nat) "across") ∈ lw_tbl := lw_at lw_m1 122 rfl
theorem q231 : (Jvm.Cond.stringRef "BitingDoors" (34 : Nat) "may") ∈ lw_tbl := lw_at lw_m1 123 rfl
theorem q232 : (Jvm.Cond.stringRef "BitingDoors" (36 : Nat) "costs") ∈ lw_tbl := lw_at lw_m1 124 rfl
theorem q233 : (Jvm.Cond.stringRef "BitingDoors" (38 : Nat) "whole") ∈ lw_tbl := lw_at lw_m1 125 rfl
theorem q234 : (Jvm.Cond.stringRef "BitingDoors" (40 : Nat) "go") ∈ lw_tbl := lw_at lw_m1 126 rfl
theorem q235 : (Jvm.Cond.stringRef "BitingDoors" (42 : Nat) "open") ∈ lw_tbl := lw_at lw_m1 127 rfl
theorem q236 : (Jvm.Cond.stringRef "BitingDoors" (44 : Nat) "shut") ∈ lw_tbl := lw_at lw_m1 128 rfl
theorem q237 : (Jvm.Cond.stringRef "BitingDoors" (46 : Nat) "wait") ∈ lw_tbl := lw_at lw_m1 129 rfl
theorem q238 : (Jvm.Cond.stringRef "BitingDoors" (48 : Nat) "north") ∈ lw_tbl := lw_at lw_m1 130 rfl
theorem q239 : (Jvm.Cond.stringRef "BitingDoors" (50 : Nat) "east") ∈ lw_tbl := lw_at lw_m1 131 rfl
theorem q240 : (Jvm.Cond.stringRef "BitingDoors" (52 : Nat) "south") ∈ lw_tbl := lw_at lw_m1 132 rfl
theorem q241 : (Jvm.Cond.stringRef "BitingDoors" (54 : Nat) "west") ∈ lw_tbl := lw_at lw_m1 133 rfl
theorem q242 : (Jvm.Cond.stringRef "BitingDoors" (56 : Nat) "or") ∈ lw_tbl := lw_at lw_m1 134 rfl
theorem q243 : (Jvm.Cond.stringRef "BitingDoors" (58 : Nat) "and") ∈ lw_tbl := lw_at lw_m1 135 rfl
theorem q244 : (Jvm.Cond.stringRef "BitingDoors" (60 : Nat) "not") ∈ lw_tbl := lw_at lw_m1 136 rfl
theorem q245 : (Jvm.Cond.stringRef "BitingDoors" (62 : Nat) "fit") ∈ lw_tbl := lw_at lw_m1 137 rfl
theorem q246 : (Jvm.Cond.stringRef "BitingDoors" (64 : Nat) "at") ∈ lw_tbl := lw_at lw_m1 138 rfl
theorem q247 : (Jvm.Cond.stringRef "BitingDoors" (66 : Nat) "bites") ∈ lw_tbl := lw_at lw_m1 139 rfl
theorem q248 : (Jvm.Cond.stringRef "BitingDoors" (68 : Nat) "angle") ∈ lw_tbl := lw_at lw_m1 140 rfl
theorem q249 : (Jvm.Cond.stringRef "BitingDoors" (70 : Nat) "length") ∈ lw_tbl := lw_at lw_m1 141 rfl
theorem q250 : (Jvm.Cond.stringRef "BitingDoors" (72 : Nat) "sweeps") ∈ lw_tbl := lw_at lw_m1 142 rfl
theorem q251 : (Jvm.Cond.classLink "BitingDoors" (87 : Nat) "BitingDoors$Walker") ∈ lw_all := lw_g (lw_at lw_m1 143 rfl) rfl
theorem q253 : (Jvm.Cond.methodLinkNest "BitingDoors" (89 : Nat) ({ cls := "BitingDoors$Walker", name := "<init>", desc := "()V" } : Jvm.MethodName) "BitingDoors") ∈ lw_tbl := lw_at lw_m1 145 rfl
theorem q267 : (Jvm.Cond.fieldLinkNest "BitingDoors" (260 : Nat) "BitingDoors$House" "cells" "[I" "BitingDoors") ∈ lw_tbl := lw_at lw_m1 159 rfl
theorem q277 : (Jvm.Cond.fieldLinkNest "BitingDoors" (252 : Nat) "BitingDoors$House" "doors" "[LBitingDoors$Door;" "BitingDoors") ∈ lw_tbl := lw_at lw_m1 169 rfl
theorem q282 : (Jvm.Cond.fieldLinkNest "BitingDoors" (479 : Nat) "BitingDoors$House" "columns" "I" "BitingDoors") ∈ lw_tbl := lw_at lw_m1 174 rfl
theorem q285 : (Jvm.Cond.fieldLinkNest "BitingDoors" (482 : Nat) "BitingDoors$House" "rows" "I" "BitingDoors") ∈ lw_tbl := lw_at lw_m1 177 rfl
theorem q289 : (Jvm.Cond.fieldLinkNest "BitingDoors" (247 : Nat) "BitingDoors$House" "many" "I" "BitingDoors") ∈ lw_tbl := lw_at lw_m1 181 rfl
theorem q293 : (Jvm.Cond.fieldLinkNest "BitingDoors" (485 : Nat) "BitingDoors$House" "draughtMany" "I" "BitingDoors") ∈ lw_tbl := lw_at lw_m1 185 rfl
theorem q297 : (Jvm.Cond.fieldLinkNest "BitingDoors" (467 : Nat) "BitingDoors$House" "bed" "I" "BitingDoors") ∈ lw_tbl := lw_at lw_m1 189 rfl
theorem q325 : (Jvm.Cond.fieldLinkNest "BitingDoors" (243 : Nat) "BitingDoors$Walker" "house" "LBitingDoors$House;" "BitingDoors") ∈ lw_tbl := lw_at lw_m1 217 rfl
theorem q331 : (Jvm.Cond.fieldLinkNest "BitingDoors" (286 : Nat) "BitingDoors$Walker" "hanging" "[I" "BitingDoors") ∈ lw_tbl := lw_at lw_m1 223 rfl
theorem q336 : (Jvm.Cond.fieldLinkNest "BitingDoors" (289 : Nat) "BitingDoors$Walker" "angle" "[I" "BitingDoors") ∈ lw_tbl := lw_at lw_m1 228 rfl
theorem q340 : (Jvm.Cond.fieldLinkNest "BitingDoors" (418 : Nat) "BitingDoors$Walker" "place" "I" "BitingDoors") ∈ lw_tbl := lw_at lw_m1 232 rfl
theorem q342 : (Jvm.Cond.fieldLinkNest "BitingDoors" (224 : Nat) "BitingDoors$Walker" "minutes" "I" "BitingDoors") ∈ lw_tbl := lw_at lw_m1 234 rfl
theorem q344 : (Jvm.Cond.fieldLinkNest "BitingDoors" (422 : Nat) "BitingDoors$Walker" "shuts" "I" "BitingDoors") ∈ lw_tbl := lw_at lw_m1 236 rfl
theorem q358 : (Jvm.Cond.classLink "BitingDoors" (97 : Nat) "BitingDoors$Day") ∈ lw_all := lw_g (lw_at lw_m2 10 rfl) rfl
theorem q360 : (Jvm.Cond.methodLinkNest "BitingDoors" (99 : Nat) ({ cls := "BitingDoors$Day", name := "<init>", desc := "()V" } : Jvm.MethodName) "BitingDoors") ∈ lw_tbl := lw_at lw_m2 12 rfl
theorem q368 : (Jvm.Cond.fieldLinkNest "BitingDoors" (425 : Nat) "BitingDoors$Day" "acts" "[LBitingDoors$Act;" "BitingDoors") ∈ lw_tbl := lw_at lw_m2 20 rfl
theorem q370 : (Jvm.Cond.fieldLinkNest "BitingDoors" (240 : Nat) "BitingDoors$Day" "many" "I" "BitingDoors") ∈ lw_tbl := lw_at lw_m2 22 rfl
theorem q376 : (Jvm.Cond.classLink "BitingDoors" (104 : Nat) "BitingDoors$HouseReader") ∈ lw_all := lw_g (lw_at lw_m2 28 rfl) rfl
theorem q378 : (Jvm.Cond.methodLink "BitingDoors" (106 : Nat) ({ cls := "BitingDoors$HouseReader", name := "<init>", desc := "(LBitingDoors;)V" } : Jvm.MethodName)) ∈ lw_all := lw_g (lw_at lw_m2 30 rfl) rfl
theorem q432 : (Jvm.Cond.classLink "BitingDoors" (113 : Nat) "BitingDoors$DayReader") ∈ lw_all := lw_g (lw_at lw_m2 84 rfl) rfl
theorem q434 : (Jvm.Cond.methodLink "BitingDoors" (115 : Nat) ({ cls := "BitingDoors$DayReader", name := "<init>", desc := "(LBitingDoors;)V" } : Jvm.MethodName)) ∈ lw_all := lw_g (lw_at lw_m2 86 rfl) rfl
theorem q450 : (Jvm.Cond.classLink "BitingDoors" (173 : Nat) "BitingDoors$SentenceReader") ∈ lw_all := lw_g (lw_at lw_m2 102 rfl) rfl
theorem q452 : (Jvm.Cond.methodLink "BitingDoors" (175 : Nat) ({ cls := "BitingDoors$SentenceReader", name := "<init>", desc := "(LBitingDoors;)V" } : Jvm.MethodName)) ∈ lw_all := lw_g (lw_at lw_m2 104 rfl) rfl
theorem q468 : (Jvm.Cond.fieldLinkNest "BitingDoors" (472 : Nat) "BitingDoors$SentenceReader" "ones" "I" "BitingDoors") ∈ lw_tbl := lw_at lw_m2 120 rfl
theorem q490 : (Jvm.Cond.classLink "BitingDoors" (188 : Nat) "BitingDoors$Cond") ∈ lw_all := lw_g (lw_at lw_m2 142 rfl) rfl
theorem q492 : (Jvm.Cond.fieldLink "BitingDoors" (9 : Nat) "BitingDoors" "tape" "[B") ∈ lw_all := lw_g (lw_at lw_m2 144 rfl) rfl
theorem q495 : (Jvm.Cond.fieldLink "BitingDoors" (194 : Nat) "BitingDoors" "length" "I") ∈ lw_all := lw_g (lw_at lw_m2 147 rfl) rfl
theorem q497 : (Jvm.Cond.fieldLink "BitingDoors" (201 : Nat) "BitingDoors" "size" "I") ∈ lw_all := lw_g (lw_at lw_m2 149 rfl) rfl
theorem q498 : (Jvm.Cond.fieldLink "BitingDoors" (16 : Nat) "BitingDoors" "broken" "LBitingDoors$Fault;") ∈ lw_all := lw_g (lw_at lw_m2 150 rfl) rfl
theorem q500 : (Jvm.Cond.fieldLink "BitingDoors" (74 : Nat) "BitingDoors" "words" "[Ljava/lang/String;") ∈ lw_all := lw_g (lw_at lw_m2 152 rfl) rfl
theorem q502 : (Jvm.Cond.fieldLink "BitingDoors" (78 : Nat) "BitingDoors" "lines" "[Ljava/lang/String;") ∈ lw_all := lw_g (lw_at lw_m2 154 rfl) rfl
theorem q504 : (Jvm.Cond.fieldLink "BitingDoors" (81 : Nat) "BitingDoors" "sides" "[Ljava/lang/String;") ∈ lw_all := lw_g (lw_at lw_m2 156 rfl) rfl
theorem q506 : (Jvm.Cond.fieldLink "BitingDoors" (84 : Nat) "BitingDoors" "does" "[Ljava/lang/String;") ∈ lw_all := lw_g (lw_at lw_m2 158 rfl) rfl
theorem q508 : (Jvm.Cond.fieldLink "BitingDoors" (90 : Nat) "BitingDoors" "now" "LBitingDoors$Walker;") ∈ lw_all := lw_g (lw_at lw_m2 160 rfl) rfl
theorem q511 : (Jvm.Cond.fieldLink "BitingDoors" (94 : Nat) "BitingDoors" "tried" "LBitingDoors$Walker;") ∈ lw_all := lw_g (lw_at lw_m2 163 rfl) rfl
theorem q512 : (Jvm.Cond.fieldLink "BitingDoors" (100 : Nat) "BitingDoors" "day" "LBitingDoors$Day;") ∈ lw_all := lw_g (lw_at lw_m2 164 rfl) rfl
theorem q513 : (Jvm.Cond.fieldLink "BitingDoors" (109 : Nat) "BitingDoors" "houseReader" "LBitingDoors$HouseReader;") ∈ lw_all := lw_g (lw_at lw_m2 165 rfl) rfl
theorem q514 : (Jvm.Cond.fieldLink "BitingDoors" (116 : Nat) "BitingDoors" "dayReader" "LBitingDoors$DayReader;") ∈ lw_all := lw_g (lw_at lw_m2 166 rfl) rfl
theorem q515 : (Jvm.Cond.fieldLink "BitingDoors" (210 : Nat) "BitingDoors" "fault" "I") ∈ lw_all := lw_g (lw_at lw_m2 167 rfl) rfl
theorem q516 : (Jvm.Cond.fieldLink "BitingDoors" (120 : Nat) "BitingDoors" "domains" "[I") ∈ lw_all := lw_g (lw_at lw_m2 168 rfl) rfl
theorem q517 : (Jvm.Cond.fieldLink "BitingDoors" (124 : Nat) "BitingDoors" "hung" "[I") ∈ lw_all := lw_g (lw_at lw_m2 169 rfl) rfl
theorem q518 : (Jvm.Cond.fieldLink "BitingDoors" (127 : Nat) "BitingDoors" "bestHung" "[I") ∈ lw_all := lw_g (lw_at lw_m2 170 rfl) rfl
theorem q519 : (Jvm.Cond.fieldLink "BitingDoors" (339 : Nat) "BitingDoors" "bestCosts" "I") ∈ lw_all := lw_g (lw_at lw_m2 171 rfl) rfl
theorem q520 : (Jvm.Cond.fieldLink "BitingDoors" (342 : Nat) "BitingDoors" "bestMany" "I") ∈ lw_all := lw_g (lw_at lw_m2 172 rfl) rfl
theorem q521 : (Jvm.Cond.fieldLink "BitingDoors" (365 : Nat) "BitingDoors" "wayMany" "I") ∈ lw_all := lw_g (lw_at lw_m2 173 rfl) rfl
theorem q522 : (Jvm.Cond.fieldLink "BitingDoors" (130 : Nat) "BitingDoors" "left" "[I") ∈ lw_all := lw_g (lw_at lw_m2 174 rfl) rfl
theorem q523 : (Jvm.Cond.fieldLink "BitingDoors" (133 : Nat) "BitingDoors" "forcedTo" "[I") ∈ lw_all := lw_g (lw_at lw_m2 175 rfl) rfl
theorem q524 : (Jvm.Cond.fieldLink "BitingDoors" (136 : Nat) "BitingDoors" "chain" "[I") ∈ lw_all := lw_g (lw_at lw_m2 176 rfl) rfl
theorem q525 : (Jvm.Cond.fieldLink "BitingDoors" (377 : Nat) "BitingDoors" "forcedMany" "I") ∈ lw_all := lw_g (lw_at lw_m2 177 rfl) rfl
theorem q526 : (Jvm.Cond.fieldLink "BitingDoors" (383 : Nat) "BitingDoors" "chainMany" "I") ∈ lw_all := lw_g (lw_at lw_m2 178 rfl) rfl
theorem q527 : (Jvm.Cond.fieldLink "BitingDoors" (139 : Nat) "BitingDoors" "changes" "[I") ∈ lw_all := lw_g (lw_at lw_m2 179 rfl) rfl
theorem q528 : (Jvm.Cond.fieldLink "BitingDoors" (142 : Nat) "BitingDoors" "order" "[I") ∈ lw_all := lw_g (lw_at lw_m2 180 rfl) rfl
theorem q529 : (Jvm.Cond.fieldLink "BitingDoors" (145 : Nat) "BitingDoors" "meanwhile" "[I") ∈ lw_all := lw_g (lw_at lw_m2 181 rfl) rfl
theorem q530 : (Jvm.Cond.fieldLink "BitingDoors" (148 : Nat) "BitingDoors" "behind" "[I") ∈ lw_all := lw_g (lw_at lw_m2 182 rfl) rfl
theorem q531 : (Jvm.Cond.fieldLink "BitingDoors" (151 : Nat) "BitingDoors" "clash" "[I") ∈ lw_all := lw_g (lw_at lw_m2 183 rfl) rfl
theorem q532 : (Jvm.Cond.fieldLink "BitingDoors" (409 : Nat) "BitingDoors" "orderMany" "I") ∈ lw_all := lw_g (lw_at lw_m2 184 rfl) rfl
theorem q533 : (Jvm.Cond.fieldLink "BitingDoors" (154 : Nat) "BitingDoors" "judged" "[I") ∈ lw_all := lw_g (lw_at lw_m2 185 rfl) rfl
theorem q534 : (Jvm.Cond.fieldLink "BitingDoors" (435 : Nat) "BitingDoors" "hasJudged" "Z") ∈ lw_all := lw_g (lw_at lw_m2 186 rfl) rfl
theorem q535 : (Jvm.Cond.fieldLink "BitingDoors" (157 : Nat) "BitingDoors" "from" "[I") ∈ lw_all := lw_g (lw_at lw_m2 187 rfl) rfl
theorem q536 : (Jvm.Cond.fieldLink "BitingDoors" (160 : Nat) "BitingDoors" "by" "[I") ∈ lw_all := lw_g (lw_at lw_m2 188 rfl) rfl
theorem q537 : (Jvm.Cond.fieldLink "BitingDoors" (163 : Nat) "BitingDoors" "queue" "[I") ∈ lw_all := lw_g (lw_at lw_m2 189 rfl) rfl
theorem q538 : (Jvm.Cond.fieldLink "BitingDoors" (166 : Nat) "BitingDoors" "found" "[I") ∈ lw_all := lw_g (lw_at lw_m2 190 rfl) rfl
theorem q539 : (Jvm.Cond.fieldLink "BitingDoors" (446 : Nat) "BitingDoors" "queued" "I") ∈ lw_all := lw_g (lw_at lw_m2 191 rfl) rfl
theorem q540 : (Jvm.Cond.fieldLink "BitingDoors" (455 : Nat) "BitingDoors" "foundMany" "I") ∈ lw_all := lw_g (lw_at lw_m2 192 rfl) rfl
theorem q541 : (Jvm.Cond.fieldLink "BitingDoors" (169 : Nat) "BitingDoors" "seen" "[Z") ∈ lw_all := lw_g (lw_at lw_m2 193 rfl) rfl
theorem q542 : (Jvm.Cond.fieldLink "BitingDoors" (176 : Nat) "BitingDoors" "sentenceReader" "LBitingDoors$SentenceReader;") ∈ lw_all := lw_g (lw_at lw_m2 194 rfl) rfl
theorem q543 : (Jvm.Cond.fieldLink "BitingDoors" (227 : Nat) "BitingDoors" "sentence" "LBitingDoors$Cond;") ∈ lw_all := lw_g (lw_at lw_m2 195 rfl) rfl
theorem q544 : (Jvm.Cond.fieldLink "BitingDoors" (180 : Nat) "BitingDoors" "images" "[LBitingDoors$Walker;") ∈ lw_all := lw_g (lw_at lw_m2 196 rfl) rfl
theorem q545 : (Jvm.Cond.fieldLink "BitingDoors" (184 : Nat) "BitingDoors" "days" "[LBitingDoors$Day;") ∈ lw_all := lw_g (lw_at lw_m2 197 rfl) rfl
theorem q546 : (Jvm.Cond.fieldLink "BitingDoors" (190 : Nat) "BitingDoors" "sentences" "[LBitingDoors$Cond;") ∈ lw_all := lw_g (lw_at lw_m2 198 rfl) rfl
theorem q547 : (Jvm.Cond.laysFinal "BitingDoors" "BitingDoors" "tape" "[B") ∈ lw_all := lw_g (lw_at lw_m2 199 rfl) rfl
theorem q548 : (Jvm.Cond.soleField "BitingDoors" "tape") ∈ lw_all := lw_g (lw_at lw_m2 200 rfl) rfl
theorem q549 : (Jvm.Cond.lays "BitingDoors" "BitingDoors" "length" "I") ∈ lw_all := lw_g (lw_at lw_m2 201 rfl) rfl
theorem q550 : (Jvm.Cond.soleField "BitingDoors" "length") ∈ lw_all := lw_g (lw_at lw_m2 202 rfl) rfl
theorem q551 : (Jvm.Cond.lays "BitingDoors" "BitingDoors" "size" "I") ∈ lw_all := lw_g (lw_at lw_m2 203 rfl) rfl
theorem q552 : (Jvm.Cond.soleField "BitingDoors" "size") ∈ lw_all := lw_g (lw_at lw_m2 204 rfl) rfl
theorem q553 : (Jvm.Cond.lays "BitingDoors" "BitingDoors" "today" "I") ∈ lw_all := lw_g (lw_at lw_m2 205 rfl) rfl
theorem q554 : (Jvm.Cond.soleField "BitingDoors" "today") ∈ lw_all := lw_g (lw_at lw_m2 206 rfl) rfl
theorem q555 : (Jvm.Cond.laysFinal "BitingDoors" "BitingDoors" "broken" "LBitingDoors$Fault;") ∈ lw_all := lw_g (lw_at lw_m2 207 rfl) rfl
theorem q556 : (Jvm.Cond.soleField "BitingDoors" "broken") ∈ lw_all := lw_g (lw_at lw_m2 208 rfl) rfl
theorem q557 : (Jvm.Cond.laysFinal "BitingDoors" "BitingDoors" "words" "[Ljava/lang/String;") ∈ lw_all := lw_g (lw_at lw_m2 209 rfl) rfl
theorem q558 : (Jvm.Cond.soleField "BitingDoors" "words") ∈ lw_all := lw_g (lw_at lw_m2 210 rfl) rfl
theorem q559 : (Jvm.Cond.laysFinal "BitingDoors" "BitingDoors" "lines" "[Ljava/lang/String;") ∈ lw_all := lw_g (lw_at lw_m2 211 rfl) rfl
theorem q560 : (Jvm.Cond.soleField "BitingDoors" "lines") ∈ lw_all := lw_g (lw_at lw_m2 212 rfl) rfl
theorem q561 : (Jvm.Cond.laysFinal "BitingDoors" "BitingDoors" "sides" "[Ljava/lang/String;") ∈ lw_all := lw_g (lw_at lw_m2 213 rfl) rfl
theorem q562 : (Jvm.Cond.soleField "BitingDoors" "sides") ∈ lw_all := lw_g (lw_at lw_m2 214 rfl) rfl
theorem q563 : (Jvm.Cond.laysFinal "BitingDoors" "BitingDoors" "does" "[Ljava/lang/String;") ∈ lw_all := lw_g (lw_at lw_m2 215 rfl) rfl
theorem q564 : (Jvm.Cond.soleField "BitingDoors" "does") ∈ lw_all := lw_g (lw_at lw_m2 216 rfl) rfl
theorem q565 : (Jvm.Cond.laysFinal "BitingDoors" "BitingDoors" "now" "LBitingDoors$Walker;") ∈ lw_all := lw_g (lw_at lw_m2 217 rfl) rfl
theorem q566 : (Jvm.Cond.soleField "BitingDoors" "now") ∈ lw_all := lw_g (lw_at lw_m2 218 rfl) rfl
theorem q567 : (Jvm.Cond.laysFinal "BitingDoors" "BitingDoors" "tried" "LBitingDoors$Walker;") ∈ lw_all := lw_g (lw_at lw_m2 219 rfl) rfl
theorem q568 : (Jvm.Cond.soleField "BitingDoors" "tried") ∈ lw_all := lw_g (lw_at lw_m2 220 rfl) rfl
theorem q569 : (Jvm.Cond.lays "BitingDoors" "BitingDoors" "day" "LBitingDoors$Day;") ∈ lw_all := lw_g (lw_at lw_m2 221 rfl) rfl
theorem q570 : (Jvm.Cond.soleField "BitingDoors" "day") ∈ lw_all := lw_g (lw_at lw_m2 222 rfl) rfl
theorem q571 : (Jvm.Cond.laysFinal "BitingDoors" "BitingDoors" "houseReader" "LBitingDoors$HouseReader;") ∈ lw_all := lw_g (lw_at lw_m2 223 rfl) rfl
theorem q572 : (Jvm.Cond.soleField "BitingDoors" "houseReader") ∈ lw_all := lw_g (lw_at lw_m2 224 rfl) rfl
theorem q573 : (Jvm.Cond.laysFinal "BitingDoors" "BitingDoors" "dayReader" "LBitingDoors$DayReader;") ∈ lw_all := lw_g (lw_at lw_m2 225 rfl) rfl
theorem q574 : (Jvm.Cond.soleField "BitingDoors" "dayReader") ∈ lw_all := lw_g (lw_at lw_m2 226 rfl) rfl
theorem q575 : (Jvm.Cond.lays "BitingDoors" "BitingDoors" "fault" "I") ∈ lw_all := lw_g (lw_at lw_m2 227 rfl) rfl
theorem q576 : (Jvm.Cond.soleField "BitingDoors" "fault") ∈ lw_all := lw_g (lw_at lw_m2 228 rfl) rfl
theorem q577 : (Jvm.Cond.laysFinal "BitingDoors" "BitingDoors" "domains" "[I") ∈ lw_all := lw_g (lw_at lw_m2 229 rfl) rfl
theorem q578 : (Jvm.Cond.soleField "BitingDoors" "domains") ∈ lw_all := lw_g (lw_at lw_m2 230 rfl) rfl
theorem q579 : (Jvm.Cond.laysFinal "BitingDoors" "BitingDoors" "hung" "[I") ∈ lw_all := lw_g (lw_at lw_m2 231 rfl) rfl
theorem q580 : (Jvm.Cond.soleField "BitingDoors" "hung") ∈ lw_all := lw_g (lw_at lw_m2 232 rfl) rfl
theorem q581 : (Jvm.Cond.laysFinal "BitingDoors" "BitingDoors" "bestHung" "[I") ∈ lw_all := lw_g (lw_at lw_m2 233 rfl) rfl
theorem q582 : (Jvm.Cond.soleField "BitingDoors" "bestHung") ∈ lw_all := lw_g (lw_at lw_m2 234 rfl) rfl
theorem q583 : (Jvm.Cond.lays "BitingDoors" "BitingDoors" "bestCosts" "I") ∈ lw_all := lw_g (lw_at lw_m2 235 rfl) rfl
theorem q584 : (Jvm.Cond.soleField "BitingDoors" "bestCosts") ∈ lw_all := lw_g (lw_at lw_m2 236 rfl) rfl
theorem q585 : (Jvm.Cond.lays "BitingDoors" "BitingDoors" "bestMany" "I") ∈ lw_all := lw_g (lw_at lw_m2 237 rfl) rfl
theorem q586 : (Jvm.Cond.soleField "BitingDoors" "bestMany") ∈ lw_all := lw_g (lw_at lw_m2 238 rfl) rfl
theorem q587 : (Jvm.Cond.lays "BitingDoors" "BitingDoors" "wayMany" "I") ∈ lw_all := lw_g (lw_at lw_m2 239 rfl) rfl
theorem q588 : (Jvm.Cond.soleField "BitingDoors" "wayMany") ∈ lw_all := lw_g (lw_at lw_m3 0 rfl) rfl
theorem q589 : (Jvm.Cond.laysFinal "BitingDoors" "BitingDoors" "left" "[I") ∈ lw_all := lw_g (lw_at lw_m3 1 rfl) rfl
theorem q590 : (Jvm.Cond.soleField "BitingDoors" "left") ∈ lw_all := lw_g (lw_at lw_m3 2 rfl) rfl
theorem q591 : (Jvm.Cond.laysFinal "BitingDoors" "BitingDoors" "forcedTo" "[I") ∈ lw_all := lw_g (lw_at lw_m3 3 rfl) rfl
theorem q592 : (Jvm.Cond.soleField "BitingDoors" "forcedTo") ∈ lw_all := lw_g (lw_at lw_m3 4 rfl) rfl
theorem q593 : (Jvm.Cond.laysFinal "BitingDoors" "BitingDoors" "chain" "[I") ∈ lw_all := lw_g (lw_at lw_m3 5 rfl) rfl
theorem q594 : (Jvm.Cond.soleField "BitingDoors" "chain") ∈ lw_all := lw_g (lw_at lw_m3 6 rfl) rfl
theorem q595 : (Jvm.Cond.lays "BitingDoors" "BitingDoors" "forcedMany" "I") ∈ lw_all := lw_g (lw_at lw_m3 7 rfl) rfl
theorem q596 : (Jvm.Cond.soleField "BitingDoors" "forcedMany") ∈ lw_all := lw_g (lw_at lw_m3 8 rfl) rfl
theorem q597 : (Jvm.Cond.lays "BitingDoors" "BitingDoors" "chainMany" "I") ∈ lw_all := lw_g (lw_at lw_m3 9 rfl) rfl
theorem q598 : (Jvm.Cond.soleField "BitingDoors" "chainMany") ∈ lw_all := lw_g (lw_at lw_m3 10 rfl) rfl
theorem q599 : (Jvm.Cond.laysFinal "BitingDoors" "BitingDoors" "changes" "[I") ∈ lw_all := lw_g (lw_at lw_m3 11 rfl) rfl
theorem q600 : (Jvm.Cond.soleField "BitingDoors" "changes") ∈ lw_all := lw_g (lw_at lw_m3 12 rfl) rfl
theorem q601 : (Jvm.Cond.laysFinal "BitingDoors" "BitingDoors" "order" "[I") ∈ lw_all := lw_g (lw_at lw_m3 13 rfl) rfl
theorem q602 : (Jvm.Cond.soleField "BitingDoors" "order") ∈ lw_all := lw_g (lw_at lw_m3 14 rfl) rfl
theorem q603 : (Jvm.Cond.laysFinal "BitingDoors" "BitingDoors" "meanwhile" "[I") ∈ lw_all := lw_g (lw_at lw_m3 15 rfl) rfl
theorem q604 : (Jvm.Cond.soleField "BitingDoors" "meanwhile") ∈ lw_all := lw_g (lw_at lw_m3 16 rfl) rfl
theorem q605 : (Jvm.Cond.laysFinal "BitingDoors" "BitingDoors" "behind" "[I") ∈ lw_all := lw_g (lw_at lw_m3 17 rfl) rfl
theorem q606 : (Jvm.Cond.soleField "BitingDoors" "behind") ∈ lw_all := lw_g (lw_at lw_m3 18 rfl) rfl
theorem q607 : (Jvm.Cond.laysFinal "BitingDoors" "BitingDoors" "clash" "[I") ∈ lw_all := lw_g (lw_at lw_m3 19 rfl) rfl
theorem q608 : (Jvm.Cond.soleField "BitingDoors" "clash") ∈ lw_all := lw_g (lw_at lw_m3 20 rfl) rfl
theorem q609 : (Jvm.Cond.lays "BitingDoors" "BitingDoors" "orderMany" "I") ∈ lw_all := lw_g (lw_at lw_m3 21 rfl) rfl
theorem q610 : (Jvm.Cond.soleField "BitingDoors" "orderMany") ∈ lw_all := lw_g (lw_at lw_m3 22 rfl) rfl
theorem q611 : (Jvm.Cond.laysFinal "BitingDoors" "BitingDoors" "judged" "[I") ∈ lw_all := lw_g (lw_at lw_m3 23 rfl) rfl
theorem q612 : (Jvm.Cond.soleField "BitingDoors" "judged") ∈ lw_all := lw_g (lw_at lw_m3 24 rfl) rfl
theorem q613 : (Jvm.Cond.lays "BitingDoors" "BitingDoors" "hasJudged" "Z") ∈ lw_all := lw_g (lw_at lw_m3 25 rfl) rfl
theorem q614 : (Jvm.Cond.soleField "BitingDoors" "hasJudged") ∈ lw_all := lw_g (lw_at lw_m3 26 rfl) rfl
theorem q615 : (Jvm.Cond.laysFinal "BitingDoors" "BitingDoors" "from" "[I") ∈ lw_all := lw_g (lw_at lw_m3 27 rfl) rfl
theorem q616 : (Jvm.Cond.soleField "BitingDoors" "from") ∈ lw_all := lw_g (lw_at lw_m3 28 rfl) rfl
theorem q617 : (Jvm.Cond.laysFinal "BitingDoors" "BitingDoors" "by" "[I") ∈ lw_all := lw_g (lw_at lw_m3 29 rfl) rfl
theorem q618 : (Jvm.Cond.soleField "BitingDoors" "by") ∈ lw_all := lw_g (lw_at lw_m3 30 rfl) rfl
theorem q619 : (Jvm.Cond.laysFinal "BitingDoors" "BitingDoors" "queue" "[I") ∈ lw_all := lw_g (lw_at lw_m3 31 rfl) rfl
theorem q620 : (Jvm.Cond.soleField "BitingDoors" "queue") ∈ lw_all := lw_g (lw_at lw_m3 32 rfl) rfl
theorem q621 : (Jvm.Cond.laysFinal "BitingDoors" "BitingDoors" "found" "[I") ∈ lw_all := lw_g (lw_at lw_m3 33 rfl) rfl
theorem q622 : (Jvm.Cond.soleField "BitingDoors" "found") ∈ lw_all := lw_g (lw_at lw_m3 34 rfl) rfl
theorem q623 : (Jvm.Cond.lays "BitingDoors" "BitingDoors" "queued" "I") ∈ lw_all := lw_g (lw_at lw_m3 35 rfl) rfl
theorem q624 : (Jvm.Cond.soleField "BitingDoors" "queued") ∈ lw_all := lw_g (lw_at lw_m3 36 rfl) rfl
theorem q625 : (Jvm.Cond.lays "BitingDoors" "BitingDoors" "foundMany" "I") ∈ lw_all := lw_g (lw_at lw_m3 37 rfl) rfl
theorem q626 : (Jvm.Cond.soleField "BitingDoors" "foundMany") ∈ lw_all := lw_g (lw_at lw_m3 38 rfl) rfl
theorem q627 : (Jvm.Cond.laysFinal "BitingDoors" "BitingDoors" "seen" "[Z") ∈ lw_all := lw_g (lw_at lw_m3 39 rfl) rfl
theorem q628 : (Jvm.Cond.soleField "BitingDoors" "seen") ∈ lw_all := lw_g (lw_at lw_m3 40 rfl) rfl
theorem q629 : (Jvm.Cond.laysFinal "BitingDoors" "BitingDoors" "sentenceReader" "LBitingDoors$SentenceReader;") ∈ lw_all := lw_g (lw_at lw_m3 41 rfl) rfl
theorem q630 : (Jvm.Cond.soleField "BitingDoors" "sentenceReader") ∈ lw_all := lw_g (lw_at lw_m3 42 rfl) rfl
theorem q631 : (Jvm.Cond.lays "BitingDoors" "BitingDoors" "sentence" "LBitingDoors$Cond;") ∈ lw_all := lw_g (lw_at lw_m3 43 rfl) rfl
theorem q632 : (Jvm.Cond.soleField "BitingDoors" "sentence") ∈ lw_all := lw_g (lw_at lw_m3 44 rfl) rfl
theorem q633 : (Jvm.Cond.laysFinal "BitingDoors" "BitingDoors" "images" "[LBitingDoors$Walker;") ∈ lw_all := lw_g (lw_at lw_m3 45 rfl) rfl
theorem q634 : (Jvm.Cond.soleField "BitingDoors" "images") ∈ lw_all := lw_g (lw_at lw_m3 46 rfl) rfl
theorem q635 : (Jvm.Cond.laysFinal "BitingDoors" "BitingDoors" "days" "[LBitingDoors$Day;") ∈ lw_all := lw_g (lw_at lw_m3 47 rfl) rfl
theorem q636 : (Jvm.Cond.soleField "BitingDoors" "days") ∈ lw_all := lw_g (lw_at lw_m3 48 rfl) rfl
theorem q637 : (Jvm.Cond.laysFinal "BitingDoors" "BitingDoors" "sentences" "[LBitingDoors$Cond;") ∈ lw_all := lw_g (lw_at lw_m3 49 rfl) rfl
theorem q638 : (Jvm.Cond.soleField "BitingDoors" "sentences") ∈ lw_all := lw_g (lw_at lw_m3 50 rfl) rfl
theorem q639 : (Jvm.Cond.superclass "BitingDoors" "java/lang/Object") ∈ lw_all := lw_g (lw_at lw_m3 51 rfl) rfl
theorem q641 : (Jvm.Cond.instanceMethod ({ cls := "BitingDoors", name := "feed", desc := "(IIIII)I" } : Jvm.MethodName)) ∈ lw_all := lw_g (lw_at lw_m3 53 rfl) rfl
theorem q642 : (Jvm.Cond.selects "BitingDoors" ({ cls := "BitingDoors", name := "feed", desc := "(IIIII)I" } : Jvm.MethodName) ({ cls := "BitingDoors", name := "feed", desc := "(IIIII)I" } : Jvm.MethodName)) ∈ lw_all := lw_g (lw_at lw_m3 54 rfl) rfl
theorem q643 : (Jvm.Cond.code ({ cls := "BitingDoors", name := "feed", desc := "(IIIII)I" } : Jvm.MethodName) prog_1_method_2_code (6 : Nat) (Option.some Jvm.ClassFile.FieldType.int)) ∈ lw_all := lw_g (lw_at lw_m3 55 rfl) rfl
theorem q644 : (Jvm.Cond.methodLink "BitingDoors" (197 : Nat) ({ cls := "BitingDoors", name := "four", desc := "(I)V" } : Jvm.MethodName)) ∈ lw_all := lw_g (lw_at lw_m3 56 rfl) rfl
theorem q645 : (Jvm.Cond.privateMethod ({ cls := "BitingDoors", name := "four", desc := "(I)V" } : Jvm.MethodName)) ∈ lw_tbl := lw_at lw_m3 57 rfl
theorem q646 : (Jvm.Cond.instanceMethod ({ cls := "BitingDoors", name := "four", desc := "(I)V" } : Jvm.MethodName)) ∈ lw_all := lw_g (lw_at lw_m3 58 rfl) rfl
theorem q647 : (Jvm.Cond.code ({ cls := "BitingDoors", name := "four", desc := "(I)V" } : Jvm.MethodName) prog_1_method_3_code (3 : Nat) (Option.none : Option Jvm.ClassFile.FieldType)) ∈ lw_all := lw_g (lw_at lw_m3 59 rfl) rfl
theorem q649 : (Jvm.Cond.instanceMethod ({ cls := "BitingDoors", name := "end", desc := "(I)Z" } : Jvm.MethodName)) ∈ lw_all := lw_g (lw_at lw_m3 61 rfl) rfl
theorem q650 : (Jvm.Cond.selects "BitingDoors" ({ cls := "BitingDoors", name := "end", desc := "(I)Z" } : Jvm.MethodName) ({ cls := "BitingDoors", name := "end", desc := "(I)Z" } : Jvm.MethodName)) ∈ lw_all := lw_g (lw_at lw_m3 62 rfl) rfl
theorem q651 : (Jvm.Cond.code ({ cls := "BitingDoors", name := "end", desc := "(I)Z" } : Jvm.MethodName) prog_1_method_4_code (2 : Nat) (Option.some Jvm.ClassFile.FieldType.boolean)) ∈ lw_all := lw_g (lw_at lw_m3 63 rfl) rfl
theorem q653 : (Jvm.Cond.instanceMethod ({ cls := "BitingDoors", name := "house", desc := "()I" } : Jvm.MethodName)) ∈ lw_all := lw_g (lw_at lw_m3 65 rfl) rfl
theorem q654 : (Jvm.Cond.selects "BitingDoors" ({ cls := "BitingDoors", name := "house", desc := "()I" } : Jvm.MethodName) ({ cls := "BitingDoors", name := "house", desc := "()I" } : Jvm.MethodName)) ∈ lw_all := lw_g (lw_at lw_m3 66 rfl) rfl
theorem q655 : (Jvm.Cond.codeWith ({ cls := "BitingDoors", name := "house", desc := "()I" } : Jvm.MethodName) prog_1_method_10_code (3 : Nat) (Option.some Jvm.ClassFile.FieldType.int) [((17 : Nat), (59 : Nat), (60 : Nat), (13 : Nat))]) ∈ lw_all := lw_g (lw_at lw_m3 67 rfl) rfl
theorem q656 : (Jvm.Cond.methodLink "BitingDoors" (207 : Nat) ({ cls := "BitingDoors", name := "taken", desc := "()V" } : Jvm.MethodName)) ∈ lw_all := lw_g (lw_at lw_m3 68 rfl) rfl
theorem q657 : (Jvm.Cond.privateMethod ({ cls := "BitingDoors", name := "taken", desc := "()V" } : Jvm.MethodName)) ∈ lw_tbl := lw_at lw_m3 69 rfl
theorem q658 : (Jvm.Cond.instanceMethod ({ cls := "BitingDoors", name := "taken", desc := "()V" } : Jvm.MethodName)) ∈ lw_all := lw_g (lw_at lw_m3 70 rfl) rfl
theorem q659 : (Jvm.Cond.code ({ cls := "BitingDoors", name := "taken", desc := "()V" } : Jvm.MethodName) prog_1_method_5_code (1 : Nat) (Option.none : Option Jvm.ClassFile.FieldType)) ∈ lw_all := lw_g (lw_at lw_m3 71 rfl) rfl
theorem q660 : (Jvm.Cond.classLink "BitingDoors" (213 : Nat) "BitingDoors$House") ∈ lw_all := lw_g (lw_at lw_m3 72 rfl) rfl
theorem q661 : (Jvm.Cond.methodLink "BitingDoors" (215 : Nat) ({ cls := "BitingDoors$House", name := "<init>", desc := "()V" } : Jvm.MethodName)) ∈ lw_all := lw_g (lw_at lw_m3 73 rfl) rfl
theorem q662 : (Jvm.Cond.methodLink "BitingDoors" (216 : Nat) ({ cls := "BitingDoors$HouseReader", name := "read", desc := "(LBitingDoors$House;)I" } : Jvm.MethodName)) ∈ lw_all := lw_g (lw_at lw_m3 74 rfl) rfl
theorem q688 : (Jvm.Cond.static ({ cls := "BitingDoors", name := "isIn", desc := "(III)Z" } : Jvm.MethodName)) ∈ lw_all := lw_g (lw_at lw_m3 100 rfl) rfl
theorem q689 : (Jvm.Cond.code ({ cls := "BitingDoors", name := "isIn", desc := "(III)Z" } : Jvm.MethodName) prog_1_method_6_code (3 : Nat) (Option.some Jvm.ClassFile.FieldType.boolean)) ∈ lw_all := lw_g (lw_at lw_m3 101 rfl) rfl
theorem q842 : (Jvm.Cond.fieldLinkNest "BitingDoors" (274 : Nat) "BitingDoors$Door" "x" "I" "BitingDoors") ∈ lw_tbl := lw_at lw_m4 14 rfl
theorem q844 : (Jvm.Cond.fieldLinkNest "BitingDoors" (279 : Nat) "BitingDoors$Door" "y" "I" "BitingDoors") ∈ lw_tbl := lw_at lw_m4 16 rfl
theorem q847 : (Jvm.Cond.fieldLinkNest "BitingDoors" (285 : Nat) "BitingDoors$Door" "length" "I" "BitingDoors") ∈ lw_tbl := lw_at lw_m4 19 rfl
theorem q849 : (Jvm.Cond.fieldLinkNest "BitingDoors" (282 : Nat) "BitingDoors$Door" "across" "Z" "BitingDoors") ∈ lw_tbl := lw_at lw_m4 21 rfl
theorem q854 : (Jvm.Cond.fieldLinkNest "BitingDoors" (317 : Nat) "BitingDoors$Door" "swept" "[LBitingDoors$Cells;" "BitingDoors") ∈ lw_tbl := lw_at lw_m4 26 rfl
theorem q856 : (Jvm.Cond.fieldLinkNest "BitingDoors" (311 : Nat) "BitingDoors$Door" "can" "[I" "BitingDoors") ∈ lw_tbl := lw_at lw_m4 28 rfl
theorem q861 : (Jvm.Cond.fieldLinkNest "BitingDoors" (291 : Nat) "BitingDoors$Door" "told" "I" "BitingDoors") ∈ lw_tbl := lw_at lw_m4 33 rfl
theorem q865 : (Jvm.Cond.fieldLinkNest "BitingDoors" (294 : Nat) "BitingDoors$Door" "costs" "I" "BitingDoors") ∈ lw_tbl := lw_at lw_m4 37 rfl
theorem q868 : (Jvm.Cond.fieldLinkNest "BitingDoors" (296 : Nat) "BitingDoors$Door" "whole" "Z" "BitingDoors") ∈ lw_tbl := lw_at lw_m4 40 rfl
theorem q895 : (Jvm.Cond.static ({ cls := "BitingDoors", name := "one", desc := "(I)I" } : Jvm.MethodName)) ∈ lw_all := lw_g (lw_at lw_m4 67 rfl) rfl
theorem q896 : (Jvm.Cond.code ({ cls := "BitingDoors", name := "one", desc := "(I)I" } : Jvm.MethodName) prog_1_method_9_code (1 : Nat) (Option.some Jvm.ClassFile.FieldType.int)) ∈ lw_all := lw_g (lw_at lw_m4 68 rfl) rfl
theorem q899 : (Jvm.Cond.static ({ cls := "BitingDoors", name := "has", desc := "(II)Z" } : Jvm.MethodName)) ∈ lw_all := lw_g (lw_at lw_m4 71 rfl) rfl
theorem q900 : (Jvm.Cond.code ({ cls := "BitingDoors", name := "has", desc := "(II)Z" } : Jvm.MethodName) prog_1_method_8_code (2 : Nat) (Option.some Jvm.ClassFile.FieldType.boolean)) ∈ lw_all := lw_g (lw_at lw_m4 72 rfl) rfl
theorem q1007 : (Jvm.Cond.methodLink "BitingDoors" (220 : Nat) ({ cls := "BitingDoors$Walker", name := "begin", desc := "(LBitingDoors$House;)V" } : Jvm.MethodName)) ∈ lw_all := lw_g (lw_at lw_m4 179 rfl) rfl
theorem q1012 : (Jvm.Cond.instanceMethod ({ cls := "BitingDoors", name := "fault", desc := "()I" } : Jvm.MethodName)) ∈ lw_all := lw_g (lw_at lw_m4 184 rfl) rfl
theorem q1013 : (Jvm.Cond.selects "BitingDoors" ({ cls := "BitingDoors", name := "fault", desc := "()I" } : Jvm.MethodName) ({ cls := "BitingDoors", name := "fault", desc := "()I" } : Jvm.MethodName)) ∈ lw_all := lw_g (lw_at lw_m4 185 rfl) rfl
theorem q1014 : (Jvm.Cond.code ({ cls := "BitingDoors", name := "fault", desc := "()I" } : Jvm.MethodName) prog_1_method_11_code (1 : Nat) (Option.some Jvm.ClassFile.FieldType.int)) ∈ lw_all := lw_g (lw_at lw_m4 186 rfl) rfl
theorem q1016 : (Jvm.Cond.instanceMethod ({ cls := "BitingDoors", name := "day", desc := "()I" } : Jvm.MethodName)) ∈ lw_all := lw_g (lw_at lw_m4 188 rfl) rfl
theorem q1017 : (Jvm.Cond.selects "BitingDoors" ({ cls := "BitingDoors", name := "day", desc := "()I" } : Jvm.MethodName) ({ cls := "BitingDoors", name := "day", desc := "()I" } : Jvm.MethodName)) ∈ lw_all := lw_g (lw_at lw_m4 189 rfl) rfl
theorem q1018 : (Jvm.Cond.codeWith ({ cls := "BitingDoors", name := "day", desc := "()I" } : Jvm.MethodName) prog_1_method_12_code (2 : Nat) (Option.some Jvm.ClassFile.FieldType.int) [((9 : Nat), (27 : Nat), (28 : Nat), (13 : Nat))]) ∈ lw_all := lw_g (lw_at lw_m4 190 rfl) rfl
theorem q1019 : (Jvm.Cond.methodLink "BitingDoors" (237 : Nat) ({ cls := "BitingDoors$DayReader", name := "read", desc := "()LBitingDoors$Day;" } : Jvm.MethodName)) ∈ lw_all := lw_g (lw_at lw_m4 191 rfl) rfl
theorem q1107 : (Jvm.Cond.instanceMethod ({ cls := "BitingDoors", name := "cell", desc := "(II)I" } : Jvm.MethodName)) ∈ lw_all := lw_g (lw_at lw_m5 39 rfl) rfl
theorem q1108 : (Jvm.Cond.selects "BitingDoors" ({ cls := "BitingDoors", name := "cell", desc := "(II)I" } : Jvm.MethodName) ({ cls := "BitingDoors", name := "cell", desc := "(II)I" } : Jvm.MethodName)) ∈ lw_all := lw_g (lw_at lw_m5 40 rfl) rfl
theorem q1109 : (Jvm.Cond.code ({ cls := "BitingDoors", name := "cell", desc := "(II)I" } : Jvm.MethodName) prog_1_method_16_code (3 : Nat) (Option.some Jvm.ClassFile.FieldType.int)) ∈ lw_all := lw_g (lw_at lw_m5 41 rfl) rfl
theorem q1110 : (Jvm.Cond.methodLink "BitingDoors" (256 : Nat) ({ cls := "BitingDoors$House", name := "isCell", desc := "(II)Z" } : Jvm.MethodName)) ∈ lw_all := lw_g (lw_at lw_m5 42 rfl) rfl
theorem q1112 : (Jvm.Cond.instanceMethod ({ cls := "BitingDoors", name := "leaf", desc := "(IIII)I" } : Jvm.MethodName)) ∈ lw_all := lw_g (lw_at lw_m5 44 rfl) rfl
theorem q1113 : (Jvm.Cond.selects "BitingDoors" ({ cls := "BitingDoors", name := "leaf", desc := "(IIII)I" } : Jvm.MethodName) ({ cls := "BitingDoors", name := "leaf", desc := "(IIII)I" } : Jvm.MethodName)) ∈ lw_all := lw_g (lw_at lw_m5 45 rfl) rfl
theorem q1114 : (Jvm.Cond.code ({ cls := "BitingDoors", name := "leaf", desc := "(IIII)I" } : Jvm.MethodName) prog_1_method_18_code (5 : Nat) (Option.some Jvm.ClassFile.FieldType.int)) ∈ lw_all := lw_g (lw_at lw_m5 46 rfl) rfl
theorem q1115 : (Jvm.Cond.methodLink "BitingDoors" (263 : Nat) ({ cls := "BitingDoors", name := "isDoor", desc := "(I)Z" } : Jvm.MethodName)) ∈ lw_all := lw_g (lw_at lw_m5 47 rfl) rfl
theorem q1116 : (Jvm.Cond.privateMethod ({ cls := "BitingDoors", name := "isDoor", desc := "(I)Z" } : Jvm.MethodName)) ∈ lw_tbl := lw_at lw_m5 48 rfl
theorem q1117 : (Jvm.Cond.instanceMethod ({ cls := "BitingDoors", name := "isDoor", desc := "(I)Z" } : Jvm.MethodName)) ∈ lw_all := lw_g (lw_at lw_m5 49 rfl) rfl
theorem q1118 : (Jvm.Cond.code ({ cls := "BitingDoors", name := "isDoor", desc := "(I)Z" } : Jvm.MethodName) prog_1_method_13_code (2 : Nat) (Option.some Jvm.ClassFile.FieldType.boolean)) ∈ lw_all := lw_g (lw_at lw_m5 50 rfl) rfl
theorem q1119 : (Jvm.Cond.methodLink "BitingDoors" (248 : Nat) ({ cls := "BitingDoors", name := "isIn", desc := "(III)Z" } : Jvm.MethodName)) ∈ lw_all := lw_g (lw_at lw_m5 51 rfl) rfl
theorem q1120 : (Jvm.Cond.methodLink "BitingDoors" (298 : Nat) ({ cls := "BitingDoors", name := "isHanging", desc := "(I)Z" } : Jvm.MethodName)) ∈ lw_all := lw_g (lw_at lw_m5 52 rfl) rfl
theorem q1121 : (Jvm.Cond.static ({ cls := "BitingDoors", name := "isHanging", desc := "(I)Z" } : Jvm.MethodName)) ∈ lw_all := lw_g (lw_at lw_m5 53 rfl) rfl
theorem q1122 : (Jvm.Cond.code ({ cls := "BitingDoors", name := "isHanging", desc := "(I)Z" } : Jvm.MethodName) prog_1_method_14_code (1 : Nat) (Option.some Jvm.ClassFile.FieldType.boolean)) ∈ lw_all := lw_g (lw_at lw_m5 54 rfl) rfl
theorem q1123 : (Jvm.Cond.methodLink "BitingDoors" (271 : Nat) ({ cls := "BitingDoors", name := "at", desc := "(I)LBitingDoors$Door;" } : Jvm.MethodName)) ∈ lw_all := lw_g (lw_at lw_m5 55 rfl) rfl
theorem q1124 : (Jvm.Cond.privateMethod ({ cls := "BitingDoors", name := "at", desc := "(I)LBitingDoors$Door;" } : Jvm.MethodName)) ∈ lw_tbl := lw_at lw_m5 56 rfl
theorem q1125 : (Jvm.Cond.instanceMethod ({ cls := "BitingDoors", name := "at", desc := "(I)LBitingDoors$Door;" } : Jvm.MethodName)) ∈ lw_all := lw_g (lw_at lw_m5 57 rfl) rfl
theorem q1126 : (Jvm.Cond.code ({ cls := "BitingDoors", name := "at", desc := "(I)LBitingDoors$Door;" } : Jvm.MethodName) prog_1_method_15_code (2 : Nat) (Option.some (Jvm.ClassFile.FieldType.object "BitingDoors$Door"))) ∈ lw_all := lw_g (lw_at lw_m5 58 rfl) rfl
theorem q1127 : (Jvm.Cond.methodLink "BitingDoors" (301 : Nat) ({ cls := "BitingDoors$Door", name := "leaf", desc := "(II)LBitingDoors$Cells;" } : Jvm.MethodName)) ∈ lw_all := lw_g (lw_at lw_m5 59 rfl) rfl
theorem q1128 : (Jvm.Cond.methodLink "BitingDoors" (305 : Nat) ({ cls := "BitingDoors$Cells", name := "get", desc := "(I)I" } : Jvm.MethodName)) ∈ lw_all := lw_g (lw_at lw_m5 60 rfl) rfl
theorem q1130 : (Jvm.Cond.instanceMethod ({ cls := "BitingDoors", name := "can", desc := "(II)I" } : Jvm.MethodName)) ∈ lw_all := lw_g (lw_at lw_m5 62 rfl) rfl
theorem q1131 : (Jvm.Cond.selects "BitingDoors" ({ cls := "BitingDoors", name := "can", desc := "(II)I" } : Jvm.MethodName) ({ cls := "BitingDoors", name := "can", desc := "(II)I" } : Jvm.MethodName)) ∈ lw_all := lw_g (lw_at lw_m5 63 rfl) rfl
theorem q1132 : (Jvm.Cond.code ({ cls := "BitingDoors", name := "can", desc := "(II)I" } : Jvm.MethodName) prog_1_method_19_code (3 : Nat) (Option.some Jvm.ClassFile.FieldType.int)) ∈ lw_all := lw_g (lw_at lw_m5 64 rfl) rfl
theorem q1134 : (Jvm.Cond.instanceMethod ({ cls := "BitingDoors", name := "fit", desc := "(II)I" } : Jvm.MethodName)) ∈ lw_all := lw_g (lw_at lw_m5 66 rfl) rfl
theorem q1135 : (Jvm.Cond.selects "BitingDoors" ({ cls := "BitingDoors", name := "fit", desc := "(II)I" } : Jvm.MethodName) ({ cls := "BitingDoors", name := "fit", desc := "(II)I" } : Jvm.MethodName)) ∈ lw_all := lw_g (lw_at lw_m5 67 rfl) rfl
theorem q1136 : (Jvm.Cond.code ({ cls := "BitingDoors", name := "fit", desc := "(II)I" } : Jvm.MethodName) prog_1_method_20_code (3 : Nat) (Option.some Jvm.ClassFile.FieldType.int)) ∈ lw_all := lw_g (lw_at lw_m5 68 rfl) rfl
theorem q1137 : (Jvm.Cond.methodLink "BitingDoors" (314 : Nat) ({ cls := "BitingDoors$Door", name := "isFit", desc := "(I)Z" } : Jvm.MethodName)) ∈ lw_all := lw_g (lw_at lw_m5 69 rfl) rfl
theorem q1147 : (Jvm.Cond.instanceMethod ({ cls := "BitingDoors", name := "bites", desc := "(IIII)I" } : Jvm.MethodName)) ∈ lw_all := lw_g (lw_at lw_m5 79 rfl) rfl
theorem q1148 : (Jvm.Cond.selects "BitingDoors" ({ cls := "BitingDoors", name := "bites", desc := "(IIII)I" } : Jvm.MethodName) ({ cls := "BitingDoors", name := "bites", desc := "(IIII)I" } : Jvm.MethodName)) ∈ lw_all := lw_g (lw_at lw_m5 80 rfl) rfl
theorem q1149 : (Jvm.Cond.code ({ cls := "BitingDoors", name := "bites", desc := "(IIII)I" } : Jvm.MethodName) prog_1_method_21_code (5 : Nat) (Option.some Jvm.ClassFile.FieldType.int)) ∈ lw_all := lw_g (lw_at lw_m5 81 rfl) rfl
theorem q1150 : (Jvm.Cond.methodLink "BitingDoors" (321 : Nat) ({ cls := "BitingDoors$Cells", name := "shared", desc := "(LBitingDoors$Cells;)I" } : Jvm.MethodName)) ∈ lw_all := lw_g (lw_at lw_m5 82 rfl) rfl
theorem q1152 : (Jvm.Cond.instanceMethod ({ cls := "BitingDoors", name := "clashes", desc := "()I" } : Jvm.MethodName)) ∈ lw_all := lw_g (lw_at lw_m5 84 rfl) rfl
theorem q1153 : (Jvm.Cond.selects "BitingDoors" ({ cls := "BitingDoors", name := "clashes", desc := "()I" } : Jvm.MethodName) ({ cls := "BitingDoors", name := "clashes", desc := "()I" } : Jvm.MethodName)) ∈ lw_all := lw_g (lw_at lw_m5 85 rfl) rfl
theorem q1154 : (Jvm.Cond.code ({ cls := "BitingDoors", name := "clashes", desc := "()I" } : Jvm.MethodName) prog_1_method_23_code (1 : Nat) (Option.some Jvm.ClassFile.FieldType.int)) ∈ lw_all := lw_g (lw_at lw_m5 86 rfl) rfl
theorem q1155 : (Jvm.Cond.methodLink "BitingDoors" (332 : Nat) ({ cls := "BitingDoors", name := "pairs", desc := "([I)I" } : Jvm.MethodName)) ∈ lw_all := lw_g (lw_at lw_m5 87 rfl) rfl
theorem q1156 : (Jvm.Cond.privateMethod ({ cls := "BitingDoors", name := "pairs", desc := "([I)I" } : Jvm.MethodName)) ∈ lw_tbl := lw_at lw_m5 88 rfl
theorem q1157 : (Jvm.Cond.instanceMethod ({ cls := "BitingDoors", name := "pairs", desc := "([I)I" } : Jvm.MethodName)) ∈ lw_all := lw_g (lw_at lw_m5 89 rfl) rfl
theorem q1158 : (Jvm.Cond.code ({ cls := "BitingDoors", name := "pairs", desc := "([I)I" } : Jvm.MethodName) prog_1_method_22_code (5 : Nat) (Option.some Jvm.ClassFile.FieldType.int)) ∈ lw_all := lw_g (lw_at lw_m5 90 rfl) rfl
theorem q1159 : (Jvm.Cond.methodLink "BitingDoors" (325 : Nat) ({ cls := "BitingDoors$House", name := "bitten", desc := "(III)I" } : Jvm.MethodName)) ∈ lw_all := lw_g (lw_at lw_m5 91 rfl) rfl
theorem q1163 : (Jvm.Cond.methodLink "BitingDoors" (329 : Nat) ({ cls := "BitingDoors", name := "has", desc := "(II)Z" } : Jvm.MethodName)) ∈ lw_all := lw_g (lw_at lw_m5 95 rfl) rfl
theorem q1165 : (Jvm.Cond.instanceMethod ({ cls := "BitingDoors", name := "cheapest", desc := "()I" } : Jvm.MethodName)) ∈ lw_all := lw_g (lw_at lw_m5 97 rfl) rfl
theorem q1166 : (Jvm.Cond.selects "BitingDoors" ({ cls := "BitingDoors", name := "cheapest", desc := "()I" } : Jvm.MethodName) ({ cls := "BitingDoors", name := "cheapest", desc := "()I" } : Jvm.MethodName)) ∈ lw_all := lw_g (lw_at lw_m5 98 rfl) rfl
theorem q1167 : (Jvm.Cond.code ({ cls := "BitingDoors", name := "cheapest", desc := "()I" } : Jvm.MethodName) prog_1_method_28_code (1 : Nat) (Option.some Jvm.ClassFile.FieldType.int)) ∈ lw_all := lw_g (lw_at lw_m5 99 rfl) rfl
theorem q1168 : (Jvm.Cond.methodLink "BitingDoors" (361 : Nat) ({ cls := "BitingDoors", name := "findCheapest", desc := "()Z" } : Jvm.MethodName)) ∈ lw_all := lw_g (lw_at lw_m5 100 rfl) rfl
theorem q1169 : (Jvm.Cond.privateMethod ({ cls := "BitingDoors", name := "findCheapest", desc := "()Z" } : Jvm.MethodName)) ∈ lw_tbl := lw_at lw_m5 101 rfl
theorem q1170 : (Jvm.Cond.instanceMethod ({ cls := "BitingDoors", name := "findCheapest", desc := "()Z" } : Jvm.MethodName)) ∈ lw_all := lw_g (lw_at lw_m5 102 rfl) rfl
theorem q1171 : (Jvm.Cond.code ({ cls := "BitingDoors", name := "findCheapest", desc := "()Z" } : Jvm.MethodName) prog_1_method_27_code (1 : Nat) (Option.some Jvm.ClassFile.FieldType.boolean)) ∈ lw_all := lw_g (lw_at lw_m5 103 rfl) rfl
theorem q1172 : (Jvm.Cond.methodLink "BitingDoors" (358 : Nat) ({ cls := "BitingDoors", name := "domains", desc := "()V" } : Jvm.MethodName)) ∈ lw_all := lw_g (lw_at lw_m5 104 rfl) rfl
theorem q1173 : (Jvm.Cond.privateMethod ({ cls := "BitingDoors", name := "domains", desc := "()V" } : Jvm.MethodName)) ∈ lw_tbl := lw_at lw_m5 105 rfl
theorem q1174 : (Jvm.Cond.instanceMethod ({ cls := "BitingDoors", name := "domains", desc := "()V" } : Jvm.MethodName)) ∈ lw_all := lw_g (lw_at lw_m5 106 rfl) rfl
theorem q1175 : (Jvm.Cond.code ({ cls := "BitingDoors", name := "domains", desc := "()V" } : Jvm.MethodName) prog_1_method_24_code (2 : Nat) (Option.none : Option Jvm.ClassFile.FieldType)) ∈ lw_all := lw_g (lw_at lw_m5 107 rfl) rfl
theorem q1176 : (Jvm.Cond.methodLink "BitingDoors" (336 : Nat) ({ cls := "BitingDoors$House", name := "domain", desc := "(I)I" } : Jvm.MethodName)) ∈ lw_all := lw_g (lw_at lw_m5 108 rfl) rfl
theorem q1182 : (Jvm.Cond.constant "BitingDoors" (360 : Nat) (1000000000 : Int32)) ∈ lw_all := lw_g (lw_at lw_m5 114 rfl) rfl
theorem q1183 : (Jvm.Cond.methodLink "BitingDoors" (354 : Nat) ({ cls := "BitingDoors", name := "cheapest", desc := "(III)V" } : Jvm.MethodName)) ∈ lw_all := lw_g (lw_at lw_m5 115 rfl) rfl
theorem q1184 : (Jvm.Cond.privateMethod ({ cls := "BitingDoors", name := "cheapest", desc := "(III)V" } : Jvm.MethodName)) ∈ lw_tbl := lw_at lw_m5 116 rfl
theorem q1185 : (Jvm.Cond.instanceMethod ({ cls := "BitingDoors", name := "cheapest", desc := "(III)V" } : Jvm.MethodName)) ∈ lw_all := lw_g (lw_at lw_m5 117 rfl) rfl
theorem q1186 : (Jvm.Cond.code ({ cls := "BitingDoors", name := "cheapest", desc := "(III)V" } : Jvm.MethodName) prog_1_method_26_code (6 : Nat) (Option.none : Option Jvm.ClassFile.FieldType)) ∈ lw_all := lw_g (lw_at lw_m5 118 rfl) rfl
theorem q1187 : (Jvm.Cond.methodLink "BitingDoors" (345 : Nat) ({ cls := "java/lang/System", name := "arraycopy", desc := "(Ljava/lang/Object;ILjava/lang/Object;II)V" } : Jvm.MethodName)) ∈ lw_all := lw_g (lw_at lw_m5 119 rfl) rfl
theorem q1190 : (Jvm.Cond.methodLink "BitingDoors" (351 : Nat) ({ cls := "BitingDoors", name := "isBitten", desc := "(III)Z" } : Jvm.MethodName)) ∈ lw_all := lw_g (lw_at lw_m5 122 rfl) rfl
theorem q1191 : (Jvm.Cond.privateMethod ({ cls := "BitingDoors", name := "isBitten", desc := "(III)Z" } : Jvm.MethodName)) ∈ lw_tbl := lw_at lw_m5 123 rfl
theorem q1192 : (Jvm.Cond.instanceMethod ({ cls := "BitingDoors", name := "isBitten", desc := "(III)Z" } : Jvm.MethodName)) ∈ lw_all := lw_g (lw_at lw_m5 124 rfl) rfl
theorem q1193 : (Jvm.Cond.code ({ cls := "BitingDoors", name := "isBitten", desc := "(III)Z" } : Jvm.MethodName) prog_1_method_25_code (5 : Nat) (Option.some Jvm.ClassFile.FieldType.boolean)) ∈ lw_all := lw_g (lw_at lw_m5 125 rfl) rfl
theorem q1195 : (Jvm.Cond.instanceMethod ({ cls := "BitingDoors", name := "hung", desc := "(I)I" } : Jvm.MethodName)) ∈ lw_all := lw_g (lw_at lw_m5 127 rfl) rfl
theorem q1196 : (Jvm.Cond.selects "BitingDoors" ({ cls := "BitingDoors", name := "hung", desc := "(I)I" } : Jvm.MethodName) ({ cls := "BitingDoors", name := "hung", desc := "(I)I" } : Jvm.MethodName)) ∈ lw_all := lw_g (lw_at lw_m5 128 rfl) rfl
theorem q1197 : (Jvm.Cond.code ({ cls := "BitingDoors", name := "hung", desc := "(I)I" } : Jvm.MethodName) prog_1_method_29_code (2 : Nat) (Option.some Jvm.ClassFile.FieldType.int)) ∈ lw_all := lw_g (lw_at lw_m5 129 rfl) rfl
theorem q1199 : (Jvm.Cond.instanceMethod ({ cls := "BitingDoors", name := "fewest", desc := "()I" } : Jvm.MethodName)) ∈ lw_all := lw_g (lw_at lw_m5 131 rfl) rfl
theorem q1200 : (Jvm.Cond.selects "BitingDoors" ({ cls := "BitingDoors", name := "fewest", desc := "()I" } : Jvm.MethodName) ({ cls := "BitingDoors", name := "fewest", desc := "()I" } : Jvm.MethodName)) ∈ lw_all := lw_g (lw_at lw_m5 132 rfl) rfl
theorem q1201 : (Jvm.Cond.code ({ cls := "BitingDoors", name := "fewest", desc := "()I" } : Jvm.MethodName) prog_1_method_33_code (1 : Nat) (Option.some Jvm.ClassFile.FieldType.int)) ∈ lw_all := lw_g (lw_at lw_m5 133 rfl) rfl
theorem q1202 : (Jvm.Cond.methodLink "BitingDoors" (374 : Nat) ({ cls := "BitingDoors", name := "findFewest", desc := "()Z" } : Jvm.MethodName)) ∈ lw_all := lw_g (lw_at lw_m5 134 rfl) rfl
theorem q1203 : (Jvm.Cond.privateMethod ({ cls := "BitingDoors", name := "findFewest", desc := "()Z" } : Jvm.MethodName)) ∈ lw_tbl := lw_at lw_m5 135 rfl
theorem q1204 : (Jvm.Cond.instanceMethod ({ cls := "BitingDoors", name := "findFewest", desc := "()Z" } : Jvm.MethodName)) ∈ lw_all := lw_g (lw_at lw_m5 136 rfl) rfl
theorem q1205 : (Jvm.Cond.code ({ cls := "BitingDoors", name := "findFewest", desc := "()Z" } : Jvm.MethodName) prog_1_method_32_code (1 : Nat) (Option.some Jvm.ClassFile.FieldType.boolean)) ∈ lw_all := lw_g (lw_at lw_m5 137 rfl) rfl
theorem q1206 : (Jvm.Cond.methodLink "BitingDoors" (371 : Nat) ({ cls := "BitingDoors", name := "fewest", desc := "(III)V" } : Jvm.MethodName)) ∈ lw_all := lw_g (lw_at lw_m5 138 rfl) rfl
theorem q1207 : (Jvm.Cond.privateMethod ({ cls := "BitingDoors", name := "fewest", desc := "(III)V" } : Jvm.MethodName)) ∈ lw_tbl := lw_at lw_m5 139 rfl
theorem q1208 : (Jvm.Cond.instanceMethod ({ cls := "BitingDoors", name := "fewest", desc := "(III)V" } : Jvm.MethodName)) ∈ lw_all := lw_g (lw_at lw_m5 140 rfl) rfl
theorem q1209 : (Jvm.Cond.code ({ cls := "BitingDoors", name := "fewest", desc := "(III)V" } : Jvm.MethodName) prog_1_method_31_code (6 : Nat) (Option.none : Option Jvm.ClassFile.FieldType)) ∈ lw_all := lw_g (lw_at lw_m5 141 rfl) rfl
theorem q1211 : (Jvm.Cond.instanceMethod ({ cls := "BitingDoors", name := "fewestBy", desc := "(I)I" } : Jvm.MethodName)) ∈ lw_all := lw_g (lw_at lw_m5 143 rfl) rfl
theorem q1212 : (Jvm.Cond.selects "BitingDoors" ({ cls := "BitingDoors", name := "fewestBy", desc := "(I)I" } : Jvm.MethodName) ({ cls := "BitingDoors", name := "fewestBy", desc := "(I)I" } : Jvm.MethodName)) ∈ lw_all := lw_g (lw_at lw_m5 144 rfl) rfl
theorem q1213 : (Jvm.Cond.code ({ cls := "BitingDoors", name := "fewestBy", desc := "(I)I" } : Jvm.MethodName) prog_1_method_34_code (2 : Nat) (Option.some Jvm.ClassFile.FieldType.int)) ∈ lw_all := lw_g (lw_at lw_m5 145 rfl) rfl
theorem q1215 : (Jvm.Cond.instanceMethod ({ cls := "BitingDoors", name := "ways", desc := "()I" } : Jvm.MethodName)) ∈ lw_all := lw_g (lw_at lw_m5 147 rfl) rfl
theorem q1216 : (Jvm.Cond.selects "BitingDoors" ({ cls := "BitingDoors", name := "ways", desc := "()I" } : Jvm.MethodName) ({ cls := "BitingDoors", name := "ways", desc := "()I" } : Jvm.MethodName)) ∈ lw_all := lw_g (lw_at lw_m5 148 rfl) rfl
theorem q1217 : (Jvm.Cond.code ({ cls := "BitingDoors", name := "ways", desc := "()I" } : Jvm.MethodName) prog_1_method_35_code (1 : Nat) (Option.some Jvm.ClassFile.FieldType.int)) ∈ lw_all := lw_g (lw_at lw_m5 149 rfl) rfl
theorem q1218 : (Jvm.Cond.methodLink "BitingDoors" (368 : Nat) ({ cls := "BitingDoors", name := "ways", desc := "(I)V" } : Jvm.MethodName)) ∈ lw_all := lw_g (lw_at lw_m5 150 rfl) rfl
theorem q1219 : (Jvm.Cond.privateMethod ({ cls := "BitingDoors", name := "ways", desc := "(I)V" } : Jvm.MethodName)) ∈ lw_tbl := lw_at lw_m5 151 rfl
theorem q1220 : (Jvm.Cond.instanceMethod ({ cls := "BitingDoors", name := "ways", desc := "(I)V" } : Jvm.MethodName)) ∈ lw_all := lw_g (lw_at lw_m5 152 rfl) rfl
theorem q1221 : (Jvm.Cond.code ({ cls := "BitingDoors", name := "ways", desc := "(I)V" } : Jvm.MethodName) prog_1_method_30_code (3 : Nat) (Option.none : Option Jvm.ClassFile.FieldType)) ∈ lw_all := lw_g (lw_at lw_m5 153 rfl) rfl
theorem q1223 : (Jvm.Cond.instanceMethod ({ cls := "BitingDoors", name := "forces", desc := "(III)I" } : Jvm.MethodName)) ∈ lw_all := lw_g (lw_at lw_m5 155 rfl) rfl
theorem q1224 : (Jvm.Cond.selects "BitingDoors" ({ cls := "BitingDoors", name := "forces", desc := "(III)I" } : Jvm.MethodName) ({ cls := "BitingDoors", name := "forces", desc := "(III)I" } : Jvm.MethodName)) ∈ lw_all := lw_g (lw_at lw_m5 156 rfl) rfl
theorem q1225 : (Jvm.Cond.code ({ cls := "BitingDoors", name := "forces", desc := "(III)I" } : Jvm.MethodName) prog_1_method_37_code (8 : Nat) (Option.some Jvm.ClassFile.FieldType.int)) ∈ lw_all := lw_g (lw_at lw_m5 157 rfl) rfl
theorem q1226 : (Jvm.Cond.methodLink "BitingDoors" (380 : Nat) ({ cls := "BitingDoors", name := "bitesAway", desc := "(III)I" } : Jvm.MethodName)) ∈ lw_all := lw_g (lw_at lw_m5 158 rfl) rfl
theorem q1227 : (Jvm.Cond.privateMethod ({ cls := "BitingDoors", name := "bitesAway", desc := "(III)I" } : Jvm.MethodName)) ∈ lw_tbl := lw_at lw_m5 159 rfl
theorem q1228 : (Jvm.Cond.instanceMethod ({ cls := "BitingDoors", name := "bitesAway", desc := "(III)I" } : Jvm.MethodName)) ∈ lw_all := lw_g (lw_at lw_m5 160 rfl) rfl
theorem q1229 : (Jvm.Cond.code ({ cls := "BitingDoors", name := "bitesAway", desc := "(III)I" } : Jvm.MethodName) prog_1_method_36_code (6 : Nat) (Option.some Jvm.ClassFile.FieldType.int)) ∈ lw_all := lw_g (lw_at lw_m5 161 rfl) rfl
theorem q1230 : (Jvm.Cond.methodLink "BitingDoors" (386 : Nat) ({ cls := "java/lang/Integer", name := "bitCount", desc := "(I)I" } : Jvm.MethodName)) ∈ lw_all := lw_g (lw_at lw_m5 162 rfl) rfl
theorem q1236 : (Jvm.Cond.methodLink "BitingDoors" (391 : Nat) ({ cls := "java/lang/Integer", name := "numberOfTrailingZeros", desc := "(I)I" } : Jvm.MethodName)) ∈ lw_all := lw_g (lw_at lw_m5 168 rfl) rfl
theorem q1240 : (Jvm.Cond.methodLink "BitingDoors" (394 : Nat) ({ cls := "BitingDoors", name := "one", desc := "(I)I" } : Jvm.MethodName)) ∈ lw_all := lw_g (lw_at lw_m5 172 rfl) rfl
theorem q1242 : (Jvm.Cond.instanceMethod ({ cls := "BitingDoors", name := "forced", desc := "(I)I" } : Jvm.MethodName)) ∈ lw_all := lw_g (lw_at lw_m5 174 rfl) rfl
theorem q1243 : (Jvm.Cond.selects "BitingDoors" ({ cls := "BitingDoors", name := "forced", desc := "(I)I" } : Jvm.MethodName) ({ cls := "BitingDoors", name := "forced", desc := "(I)I" } : Jvm.MethodName)) ∈ lw_all := lw_g (lw_at lw_m5 175 rfl) rfl
theorem q1244 : (Jvm.Cond.code ({ cls := "BitingDoors", name := "forced", desc := "(I)I" } : Jvm.MethodName) prog_1_method_38_code (2 : Nat) (Option.some Jvm.ClassFile.FieldType.int)) ∈ lw_all := lw_g (lw_at lw_m5 176 rfl) rfl
theorem q1246 : (Jvm.Cond.instanceMethod ({ cls := "BitingDoors", name := "forcedAt", desc := "(I)I" } : Jvm.MethodName)) ∈ lw_all := lw_g (lw_at lw_m5 178 rfl) rfl
theorem q1247 : (Jvm.Cond.selects "BitingDoors" ({ cls := "BitingDoors", name := "forcedAt", desc := "(I)I" } : Jvm.MethodName) ({ cls := "BitingDoors", name := "forcedAt", desc := "(I)I" } : Jvm.MethodName)) ∈ lw_all := lw_g (lw_at lw_m5 179 rfl) rfl
theorem q1248 : (Jvm.Cond.code ({ cls := "BitingDoors", name := "forcedAt", desc := "(I)I" } : Jvm.MethodName) prog_1_method_39_code (2 : Nat) (Option.some Jvm.ClassFile.FieldType.int)) ∈ lw_all := lw_g (lw_at lw_m5 180 rfl) rfl
theorem q1250 : (Jvm.Cond.instanceMethod ({ cls := "BitingDoors", name := "stuck", desc := "()I" } : Jvm.MethodName)) ∈ lw_all := lw_g (lw_at lw_m5 182 rfl) rfl
theorem q1251 : (Jvm.Cond.selects "BitingDoors" ({ cls := "BitingDoors", name := "stuck", desc := "()I" } : Jvm.MethodName) ({ cls := "BitingDoors", name := "stuck", desc := "()I" } : Jvm.MethodName)) ∈ lw_all := lw_g (lw_at lw_m5 183 rfl) rfl
theorem q1252 : (Jvm.Cond.code ({ cls := "BitingDoors", name := "stuck", desc := "()I" } : Jvm.MethodName) prog_1_method_41_code (3 : Nat) (Option.some Jvm.ClassFile.FieldType.int)) ∈ lw_all := lw_g (lw_at lw_m5 184 rfl) rfl
theorem q1253 : (Jvm.Cond.methodLink "BitingDoors" (397 : Nat) ({ cls := "BitingDoors", name := "isHungWell", desc := "(II)Z" } : Jvm.MethodName)) ∈ lw_all := lw_g (lw_at lw_m5 185 rfl) rfl
theorem q1254 : (Jvm.Cond.privateMethod ({ cls := "BitingDoors", name := "isHungWell", desc := "(II)Z" } : Jvm.MethodName)) ∈ lw_tbl := lw_at lw_m5 186 rfl
theorem q1255 : (Jvm.Cond.instanceMethod ({ cls := "BitingDoors", name := "isHungWell", desc := "(II)Z" } : Jvm.MethodName)) ∈ lw_all := lw_g (lw_at lw_m5 187 rfl) rfl
theorem q1256 : (Jvm.Cond.code ({ cls := "BitingDoors", name := "isHungWell", desc := "(II)Z" } : Jvm.MethodName) prog_1_method_40_code (4 : Nat) (Option.some Jvm.ClassFile.FieldType.boolean)) ∈ lw_all := lw_g (lw_at lw_m5 188 rfl) rfl
theorem q1258 : (Jvm.Cond.instanceMethod ({ cls := "BitingDoors", name := "joiner", desc := "()I" } : Jvm.MethodName)) ∈ lw_all := lw_g (lw_at lw_m5 190 rfl) rfl
theorem q1259 : (Jvm.Cond.selects "BitingDoors" ({ cls := "BitingDoors", name := "joiner", desc := "()I" } : Jvm.MethodName) ({ cls := "BitingDoors", name := "joiner", desc := "()I" } : Jvm.MethodName)) ∈ lw_all := lw_g (lw_at lw_m5 191 rfl) rfl
theorem q1260 : (Jvm.Cond.code ({ cls := "BitingDoors", name := "joiner", desc := "()I" } : Jvm.MethodName) prog_1_method_42_code (6 : Nat) (Option.some Jvm.ClassFile.FieldType.int)) ∈ lw_all := lw_g (lw_at lw_m5 192 rfl) rfl
theorem q1261 : (Jvm.Cond.methodLink "BitingDoors" (400 : Nat) ({ cls := "java/lang/Math", name := "min", desc := "(II)I" } : Jvm.MethodName)) ∈ lw_all := lw_g (lw_at lw_m5 193 rfl) rfl
theorem q1262 : (Jvm.Cond.methodLink "BitingDoors" (406 : Nat) ({ cls := "java/lang/Math", name := "max", desc := "(II)I" } : Jvm.MethodName)) ∈ lw_all := lw_g (lw_at lw_m5 194 rfl) rfl
theorem q1264 : (Jvm.Cond.instanceMethod ({ cls := "BitingDoors", name := "joinerAt", desc := "(I)I" } : Jvm.MethodName)) ∈ lw_all := lw_g (lw_at lw_m5 196 rfl) rfl
theorem q1265 : (Jvm.Cond.selects "BitingDoors" ({ cls := "BitingDoors", name := "joinerAt", desc := "(I)I" } : Jvm.MethodName) ({ cls := "BitingDoors", name := "joinerAt", desc := "(I)I" } : Jvm.MethodName)) ∈ lw_all := lw_g (lw_at lw_m5 197 rfl) rfl
theorem q1266 : (Jvm.Cond.code ({ cls := "BitingDoors", name := "joinerAt", desc := "(I)I" } : Jvm.MethodName) prog_1_method_43_code (2 : Nat) (Option.some Jvm.ClassFile.FieldType.int)) ∈ lw_all := lw_g (lw_at lw_m5 198 rfl) rfl
theorem q1268 : (Jvm.Cond.instanceMethod ({ cls := "BitingDoors", name := "rehang", desc := "(II)Z" } : Jvm.MethodName)) ∈ lw_all := lw_g (lw_at lw_m5 200 rfl) rfl
theorem q1269 : (Jvm.Cond.selects "BitingDoors" ({ cls := "BitingDoors", name := "rehang", desc := "(II)Z" } : Jvm.MethodName) ({ cls := "BitingDoors", name := "rehang", desc := "(II)Z" } : Jvm.MethodName)) ∈ lw_all := lw_g (lw_at lw_m5 201 rfl) rfl
theorem q1270 : (Jvm.Cond.code ({ cls := "BitingDoors", name := "rehang", desc := "(II)Z" } : Jvm.MethodName) prog_1_method_44_code (3 : Nat) (Option.some Jvm.ClassFile.FieldType.boolean)) ∈ lw_all := lw_g (lw_at lw_m5 202 rfl) rfl
theorem q1272 : (Jvm.Cond.instanceMethod ({ cls := "BitingDoors", name := "stand", desc := "(II)Z" } : Jvm.MethodName)) ∈ lw_all := lw_g (lw_at lw_m5 204 rfl) rfl
theorem q1273 : (Jvm.Cond.selects "BitingDoors" ({ cls := "BitingDoors", name := "stand", desc := "(II)Z" } : Jvm.MethodName) ({ cls := "BitingDoors", name := "stand", desc := "(II)Z" } : Jvm.MethodName)) ∈ lw_all := lw_g (lw_at lw_m5 205 rfl) rfl
theorem q1274 : (Jvm.Cond.code ({ cls := "BitingDoors", name := "stand", desc := "(II)Z" } : Jvm.MethodName) prog_1_method_45_code (3 : Nat) (Option.some Jvm.ClassFile.FieldType.boolean)) ∈ lw_all := lw_g (lw_at lw_m5 206 rfl) rfl
theorem q1275 : (Jvm.Cond.methodLink "BitingDoors" (412 : Nat) ({ cls := "BitingDoors$House", name := "isOpen", desc := "(I)Z" } : Jvm.MethodName)) ∈ lw_all := lw_g (lw_at lw_m5 207 rfl) rfl
theorem q1279 : (Jvm.Cond.methodLink "BitingDoors" (415 : Nat) ({ cls := "BitingDoors$Walker", name := "isLeaf", desc := "(II)Z" } : Jvm.MethodName)) ∈ lw_all := lw_g (lw_at lw_m5 211 rfl) rfl
theorem q1290 : (Jvm.Cond.instanceMethod ({ cls := "BitingDoors", name := "place", desc := "()I" } : Jvm.MethodName)) ∈ lw_all := lw_g (lw_at lw_m5 222 rfl) rfl
theorem q1291 : (Jvm.Cond.selects "BitingDoors" ({ cls := "BitingDoors", name := "place", desc := "()I" } : Jvm.MethodName) ({ cls := "BitingDoors", name := "place", desc := "()I" } : Jvm.MethodName)) ∈ lw_all := lw_g (lw_at lw_m5 223 rfl) rfl
theorem q1292 : (Jvm.Cond.code ({ cls := "BitingDoors", name := "place", desc := "()I" } : Jvm.MethodName) prog_1_method_46_code (1 : Nat) (Option.some Jvm.ClassFile.FieldType.int)) ∈ lw_all := lw_g (lw_at lw_m5 224 rfl) rfl
theorem q1294 : (Jvm.Cond.instanceMethod ({ cls := "BitingDoors", name := "does", desc := "(I)I" } : Jvm.MethodName)) ∈ lw_all := lw_g (lw_at lw_m5 226 rfl) rfl
theorem q1295 : (Jvm.Cond.selects "BitingDoors" ({ cls := "BitingDoors", name := "does", desc := "(I)I" } : Jvm.MethodName) ({ cls := "BitingDoors", name := "does", desc := "(I)I" } : Jvm.MethodName)) ∈ lw_all := lw_g (lw_at lw_m5 227 rfl) rfl
theorem q1296 : (Jvm.Cond.code ({ cls := "BitingDoors", name := "does", desc := "(I)I" } : Jvm.MethodName) prog_1_method_47_code (2 : Nat) (Option.some Jvm.ClassFile.FieldType.int)) ∈ lw_all := lw_g (lw_at lw_m5 228 rfl) rfl
theorem q1297 : (Jvm.Cond.methodLink "BitingDoors" (419 : Nat) ({ cls := "BitingDoors$Walker", name := "minute", desc := "(I)I" } : Jvm.MethodName)) ∈ lw_all := lw_g (lw_at lw_m5 229 rfl) rfl
theorem q1306 : (Jvm.Cond.laysStatic "BitingDoors" "STEP_X" "[I") ∈ lw_tbl := lw_at lw_m5 238 rfl
theorem q1308 : (Jvm.Cond.laysStatic "BitingDoors" "STEP_Y" "[I") ∈ lw_tbl := lw_at lw_m6 0 rfl
theorem q1328 : (Jvm.Cond.instanceMethod ({ cls := "BitingDoors", name := "minutes", desc := "()I" } : Jvm.MethodName)) ∈ lw_all := lw_g (lw_at lw_m6 20 rfl) rfl
theorem q1329 : (Jvm.Cond.selects "BitingDoors" ({ cls := "BitingDoors", name := "minutes", desc := "()I" } : Jvm.MethodName) ({ cls := "BitingDoors", name := "minutes", desc := "()I" } : Jvm.MethodName)) ∈ lw_all := lw_g (lw_at lw_m6 21 rfl) rfl
theorem q1330 : (Jvm.Cond.code ({ cls := "BitingDoors", name := "minutes", desc := "()I" } : Jvm.MethodName) prog_1_method_48_code (1 : Nat) (Option.some Jvm.ClassFile.FieldType.int)) ∈ lw_all := lw_g (lw_at lw_m6 22 rfl) rfl
theorem q1332 : (Jvm.Cond.instanceMethod ({ cls := "BitingDoors", name := "judge", desc := "()I" } : Jvm.MethodName)) ∈ lw_all := lw_g (lw_at lw_m6 24 rfl) rfl
theorem q1333 : (Jvm.Cond.selects "BitingDoors" ({ cls := "BitingDoors", name := "judge", desc := "()I" } : Jvm.MethodName) ({ cls := "BitingDoors", name := "judge", desc := "()I" } : Jvm.MethodName)) ∈ lw_all := lw_g (lw_at lw_m6 25 rfl) rfl
theorem q1334 : (Jvm.Cond.code ({ cls := "BitingDoors", name := "judge", desc := "()I" } : Jvm.MethodName) prog_1_method_50_code (1 : Nat) (Option.some Jvm.ClassFile.FieldType.int)) ∈ lw_all := lw_g (lw_at lw_m6 26 rfl) rfl
theorem q1335 : (Jvm.Cond.methodLink "BitingDoors" (438 : Nat) ({ cls := "BitingDoors$Walker", name := "be", desc := "(LBitingDoors$Walker;)V" } : Jvm.MethodName)) ∈ lw_all := lw_g (lw_at lw_m6 27 rfl) rfl
theorem q1340 : (Jvm.Cond.methodLink "BitingDoors" (442 : Nat) ({ cls := "BitingDoors", name := "run", desc := "(LBitingDoors$Walker;)I" } : Jvm.MethodName)) ∈ lw_all := lw_g (lw_at lw_m6 32 rfl) rfl
theorem q1341 : (Jvm.Cond.privateMethod ({ cls := "BitingDoors", name := "run", desc := "(LBitingDoors$Walker;)I" } : Jvm.MethodName)) ∈ lw_tbl := lw_at lw_m6 33 rfl
theorem q1342 : (Jvm.Cond.instanceMethod ({ cls := "BitingDoors", name := "run", desc := "(LBitingDoors$Walker;)I" } : Jvm.MethodName)) ∈ lw_all := lw_g (lw_at lw_m6 34 rfl) rfl
theorem q1343 : (Jvm.Cond.code ({ cls := "BitingDoors", name := "run", desc := "(LBitingDoors$Walker;)I" } : Jvm.MethodName) prog_1_method_49_code (6 : Nat) (Option.some Jvm.ClassFile.FieldType.int)) ∈ lw_all := lw_g (lw_at lw_m6 35 rfl) rfl
theorem q1344 : (Jvm.Cond.methodLink "BitingDoors" (429 : Nat) ({ cls := "BitingDoors$Act", name := "run", desc := "(LBitingDoors$Walker;)I" } : Jvm.MethodName)) ∈ lw_all := lw_g (lw_at lw_m6 36 rfl) rfl
theorem q1384 : (Jvm.Cond.instanceMethod ({ cls := "BitingDoors", name := "judged", desc := "(I)I" } : Jvm.MethodName)) ∈ lw_all := lw_g (lw_at lw_m6 76 rfl) rfl
theorem q1385 : (Jvm.Cond.selects "BitingDoors" ({ cls := "BitingDoors", name := "judged", desc := "(I)I" } : Jvm.MethodName) ({ cls := "BitingDoors", name := "judged", desc := "(I)I" } : Jvm.MethodName)) ∈ lw_all := lw_g (lw_at lw_m6 77 rfl) rfl
theorem q1386 : (Jvm.Cond.code ({ cls := "BitingDoors", name := "judged", desc := "(I)I" } : Jvm.MethodName) prog_1_method_51_code (2 : Nat) (Option.some Jvm.ClassFile.FieldType.int)) ∈ lw_all := lw_g (lw_at lw_m6 78 rfl) rfl
theorem q1388 : (Jvm.Cond.instanceMethod ({ cls := "BitingDoors", name := "live", desc := "()I" } : Jvm.MethodName)) ∈ lw_all := lw_g (lw_at lw_m6 80 rfl) rfl
theorem q1389 : (Jvm.Cond.selects "BitingDoors" ({ cls := "BitingDoors", name := "live", desc := "()I" } : Jvm.MethodName) ({ cls := "BitingDoors", name := "live", desc := "()I" } : Jvm.MethodName)) ∈ lw_all := lw_g (lw_at lw_m6 81 rfl) rfl
theorem q1390 : (Jvm.Cond.code ({ cls := "BitingDoors", name := "live", desc := "()I" } : Jvm.MethodName) prog_1_method_52_code (1 : Nat) (Option.some Jvm.ClassFile.FieldType.int)) ∈ lw_all := lw_g (lw_at lw_m6 82 rfl) rfl
theorem q1392 : (Jvm.Cond.instanceMethod ({ cls := "BitingDoors", name := "way", desc := "(II)I" } : Jvm.MethodName)) ∈ lw_all := lw_g (lw_at lw_m6 84 rfl) rfl
theorem q1393 : (Jvm.Cond.selects "BitingDoors" ({ cls := "BitingDoors", name := "way", desc := "(II)I" } : Jvm.MethodName) ({ cls := "BitingDoors", name := "way", desc := "(II)I" } : Jvm.MethodName)) ∈ lw_all := lw_g (lw_at lw_m6 85 rfl) rfl
theorem q1394 : (Jvm.Cond.code ({ cls := "BitingDoors", name := "way", desc := "(II)I" } : Jvm.MethodName) prog_1_method_56_code (6 : Nat) (Option.some Jvm.ClassFile.FieldType.int)) ∈ lw_all := lw_g (lw_at lw_m6 86 rfl) rfl
theorem q1395 : (Jvm.Cond.methodLink "BitingDoors" (452 : Nat) ({ cls := "BitingDoors", name := "rings", desc := "(I)I" } : Jvm.MethodName)) ∈ lw_all := lw_g (lw_at lw_m6 87 rfl) rfl
theorem q1396 : (Jvm.Cond.privateMethod ({ cls := "BitingDoors", name := "rings", desc := "(I)I" } : Jvm.MethodName)) ∈ lw_tbl := lw_at lw_m6 88 rfl
theorem q1397 : (Jvm.Cond.instanceMethod ({ cls := "BitingDoors", name := "rings", desc := "(I)I" } : Jvm.MethodName)) ∈ lw_all := lw_g (lw_at lw_m6 89 rfl) rfl
theorem q1398 : (Jvm.Cond.code ({ cls := "BitingDoors", name := "rings", desc := "(I)I" } : Jvm.MethodName) prog_1_method_55_code (7 : Nat) (Option.some Jvm.ClassFile.FieldType.int)) ∈ lw_all := lw_g (lw_at lw_m6 90 rfl) rfl
theorem q1399 : (Jvm.Cond.methodLink "BitingDoors" (443 : Nat) ({ cls := "BitingDoors", name := "code", desc := "(LBitingDoors$Walker;)I" } : Jvm.MethodName)) ∈ lw_all := lw_g (lw_at lw_m6 91 rfl) rfl
theorem q1400 : (Jvm.Cond.static ({ cls := "BitingDoors", name := "code", desc := "(LBitingDoors$Walker;)I" } : Jvm.MethodName)) ∈ lw_all := lw_g (lw_at lw_m6 92 rfl) rfl
theorem q1401 : (Jvm.Cond.code ({ cls := "BitingDoors", name := "code", desc := "(LBitingDoors$Walker;)I" } : Jvm.MethodName) prog_1_method_53_code (3 : Nat) (Option.some Jvm.ClassFile.FieldType.int)) ∈ lw_all := lw_g (lw_at lw_m6 93 rfl) rfl
theorem q1402 : (Jvm.Cond.methodLink "BitingDoors" (449 : Nat) ({ cls := "BitingDoors", name := "unfold", desc := "(I)V" } : Jvm.MethodName)) ∈ lw_all := lw_g (lw_at lw_m6 94 rfl) rfl
theorem q1403 : (Jvm.Cond.privateMethod ({ cls := "BitingDoors", name := "unfold", desc := "(I)V" } : Jvm.MethodName)) ∈ lw_tbl := lw_at lw_m6 95 rfl
theorem q1404 : (Jvm.Cond.instanceMethod ({ cls := "BitingDoors", name := "unfold", desc := "(I)V" } : Jvm.MethodName)) ∈ lw_all := lw_g (lw_at lw_m6 96 rfl) rfl
theorem q1405 : (Jvm.Cond.code ({ cls := "BitingDoors", name := "unfold", desc := "(I)V" } : Jvm.MethodName) prog_1_method_54_code (4 : Nat) (Option.none : Option Jvm.ClassFile.FieldType)) ∈ lw_all := lw_g (lw_at lw_m6 97 rfl) rfl
theorem q1407 : (Jvm.Cond.instanceMethod ({ cls := "BitingDoors", name := "wayAt", desc := "(I)I" } : Jvm.MethodName)) ∈ lw_all := lw_g (lw_at lw_m6 99 rfl) rfl
theorem q1408 : (Jvm.Cond.selects "BitingDoors" ({ cls := "BitingDoors", name := "wayAt", desc := "(I)I" } : Jvm.MethodName) ({ cls := "BitingDoors", name := "wayAt", desc := "(I)I" } : Jvm.MethodName)) ∈ lw_all := lw_g (lw_at lw_m6 100 rfl) rfl
theorem q1409 : (Jvm.Cond.code ({ cls := "BitingDoors", name := "wayAt", desc := "(I)I" } : Jvm.MethodName) prog_1_method_57_code (2 : Nat) (Option.some Jvm.ClassFile.FieldType.int)) ∈ lw_all := lw_g (lw_at lw_m6 101 rfl) rfl
theorem q1411 : (Jvm.Cond.instanceMethod ({ cls := "BitingDoors", name := "walk", desc := "()I" } : Jvm.MethodName)) ∈ lw_all := lw_g (lw_at lw_m6 103 rfl) rfl
theorem q1412 : (Jvm.Cond.selects "BitingDoors" ({ cls := "BitingDoors", name := "walk", desc := "()I" } : Jvm.MethodName) ({ cls := "BitingDoors", name := "walk", desc := "()I" } : Jvm.MethodName)) ∈ lw_all := lw_g (lw_at lw_m6 104 rfl) rfl
theorem q1413 : (Jvm.Cond.code ({ cls := "BitingDoors", name := "walk", desc := "()I" } : Jvm.MethodName) prog_1_method_58_code (2 : Nat) (Option.some Jvm.ClassFile.FieldType.int)) ∈ lw_all := lw_g (lw_at lw_m6 105 rfl) rfl
theorem q1415 : (Jvm.Cond.instanceMethod ({ cls := "BitingDoors", name := "reach", desc := "(I)I" } : Jvm.MethodName)) ∈ lw_all := lw_g (lw_at lw_m6 107 rfl) rfl
theorem q1416 : (Jvm.Cond.selects "BitingDoors" ({ cls := "BitingDoors", name := "reach", desc := "(I)I" } : Jvm.MethodName) ({ cls := "BitingDoors", name := "reach", desc := "(I)I" } : Jvm.MethodName)) ∈ lw_all := lw_g (lw_at lw_m6 108 rfl) rfl
theorem q1417 : (Jvm.Cond.code ({ cls := "BitingDoors", name := "reach", desc := "(I)I" } : Jvm.MethodName) prog_1_method_60_code (5 : Nat) (Option.some Jvm.ClassFile.FieldType.int)) ∈ lw_all := lw_g (lw_at lw_m6 109 rfl) rfl
theorem q1418 : (Jvm.Cond.methodLink "BitingDoors" (464 : Nat) ({ cls := "BitingDoors", name := "spread", desc := "(I)I" } : Jvm.MethodName)) ∈ lw_all := lw_g (lw_at lw_m6 110 rfl) rfl
theorem q1419 : (Jvm.Cond.privateMethod ({ cls := "BitingDoors", name := "spread", desc := "(I)I" } : Jvm.MethodName)) ∈ lw_tbl := lw_at lw_m6 111 rfl
theorem q1420 : (Jvm.Cond.instanceMethod ({ cls := "BitingDoors", name := "spread", desc := "(I)I" } : Jvm.MethodName)) ∈ lw_all := lw_g (lw_at lw_m6 112 rfl) rfl
theorem q1421 : (Jvm.Cond.code ({ cls := "BitingDoors", name := "spread", desc := "(I)I" } : Jvm.MethodName) prog_1_method_59_code (6 : Nat) (Option.some Jvm.ClassFile.FieldType.int)) ∈ lw_all := lw_g (lw_at lw_m6 113 rfl) rfl
theorem q1422 : (Jvm.Cond.fieldLink "BitingDoors" (458 : Nat) "BitingDoors" "STEP_X" "[I") ∈ lw_all := lw_g (lw_at lw_m6 114 rfl) rfl
theorem q1423 : (Jvm.Cond.fieldLink "BitingDoors" (461 : Nat) "BitingDoors" "STEP_Y" "[I") ∈ lw_all := lw_g (lw_at lw_m6 115 rfl) rfl
theorem q1425 : (Jvm.Cond.instanceMethod ({ cls := "BitingDoors", name := "quiet", desc := "()I" } : Jvm.MethodName)) ∈ lw_all := lw_g (lw_at lw_m6 117 rfl) rfl
theorem q1426 : (Jvm.Cond.selects "BitingDoors" ({ cls := "BitingDoors", name := "quiet", desc := "()I" } : Jvm.MethodName) ({ cls := "BitingDoors", name := "quiet", desc := "()I" } : Jvm.MethodName)) ∈ lw_all := lw_g (lw_at lw_m6 118 rfl) rfl
theorem q1427 : (Jvm.Cond.code ({ cls := "BitingDoors", name := "quiet", desc := "()I" } : Jvm.MethodName) prog_1_method_61_code (3 : Nat) (Option.some Jvm.ClassFile.FieldType.int)) ∈ lw_all := lw_g (lw_at lw_m6 119 rfl) rfl
theorem q1429 : (Jvm.Cond.instanceMethod ({ cls := "BitingDoors", name := "stride", desc := "()I" } : Jvm.MethodName)) ∈ lw_all := lw_g (lw_at lw_m6 121 rfl) rfl
theorem q1430 : (Jvm.Cond.selects "BitingDoors" ({ cls := "BitingDoors", name := "stride", desc := "()I" } : Jvm.MethodName) ({ cls := "BitingDoors", name := "stride", desc := "()I" } : Jvm.MethodName)) ∈ lw_all := lw_g (lw_at lw_m6 122 rfl) rfl
theorem q1431 : (Jvm.Cond.code ({ cls := "BitingDoors", name := "stride", desc := "()I" } : Jvm.MethodName) prog_1_method_62_code (5 : Nat) (Option.some Jvm.ClassFile.FieldType.int)) ∈ lw_all := lw_g (lw_at lw_m6 123 rfl) rfl
theorem q1433 : (Jvm.Cond.instanceMethod ({ cls := "BitingDoors", name := "sentence", desc := "()I" } : Jvm.MethodName)) ∈ lw_all := lw_g (lw_at lw_m6 125 rfl) rfl
theorem q1434 : (Jvm.Cond.selects "BitingDoors" ({ cls := "BitingDoors", name := "sentence", desc := "()I" } : Jvm.MethodName) ({ cls := "BitingDoors", name := "sentence", desc := "()I" } : Jvm.MethodName)) ∈ lw_all := lw_g (lw_at lw_m6 126 rfl) rfl
theorem q1435 : (Jvm.Cond.codeWith ({ cls := "BitingDoors", name := "sentence", desc := "()I" } : Jvm.MethodName) prog_1_method_63_code (2 : Nat) (Option.some Jvm.ClassFile.FieldType.int) [((9 : Nat), (27 : Nat), (28 : Nat), (13 : Nat))]) ∈ lw_all := lw_g (lw_at lw_m6 127 rfl) rfl
theorem q1436 : (Jvm.Cond.methodLink "BitingDoors" (469 : Nat) ({ cls := "BitingDoors$SentenceReader", name := "read", desc := "()LBitingDoors$Cond;" } : Jvm.MethodName)) ∈ lw_all := lw_g (lw_at lw_m6 128 rfl) rfl
theorem q1561 : (Jvm.Cond.instanceMethod ({ cls := "BitingDoors", name := "said", desc := "()I" } : Jvm.MethodName)) ∈ lw_all := lw_g (lw_at lw_m7 13 rfl) rfl
theorem q1562 : (Jvm.Cond.selects "BitingDoors" ({ cls := "BitingDoors", name := "said", desc := "()I" } : Jvm.MethodName) ({ cls := "BitingDoors", name := "said", desc := "()I" } : Jvm.MethodName)) ∈ lw_all := lw_g (lw_at lw_m7 14 rfl) rfl
theorem q1563 : (Jvm.Cond.code ({ cls := "BitingDoors", name := "said", desc := "()I" } : Jvm.MethodName) prog_1_method_64_code (3 : Nat) (Option.some Jvm.ClassFile.FieldType.int)) ∈ lw_all := lw_g (lw_at lw_m7 15 rfl) rfl
theorem q1564 : (Jvm.Cond.methodLink "BitingDoors" (475 : Nat) ({ cls := "BitingDoors$Cond", name := "is", desc := "(LBitingDoors$Walker;I)Z" } : Jvm.MethodName)) ∈ lw_all := lw_g (lw_at lw_m7 16 rfl) rfl
theorem q1599 : (Jvm.Cond.instanceMethod ({ cls := "BitingDoors", name := "image", desc := "(I)Z" } : Jvm.MethodName)) ∈ lw_all := lw_g (lw_at lw_m7 51 rfl) rfl
theorem q1600 : (Jvm.Cond.selects "BitingDoors" ({ cls := "BitingDoors", name := "image", desc := "(I)Z" } : Jvm.MethodName) ({ cls := "BitingDoors", name := "image", desc := "(I)Z" } : Jvm.MethodName)) ∈ lw_all := lw_g (lw_at lw_m7 52 rfl) rfl
theorem q1601 : (Jvm.Cond.code ({ cls := "BitingDoors", name := "image", desc := "(I)Z" } : Jvm.MethodName) prog_1_method_65_code (2 : Nat) (Option.some Jvm.ClassFile.FieldType.boolean)) ∈ lw_all := lw_g (lw_at lw_m7 53 rfl) rfl
theorem q1603 : (Jvm.Cond.instanceMethod ({ cls := "BitingDoors", name := "restore", desc := "(I)Z" } : Jvm.MethodName)) ∈ lw_all := lw_g (lw_at lw_m7 55 rfl) rfl
theorem q1604 : (Jvm.Cond.selects "BitingDoors" ({ cls := "BitingDoors", name := "restore", desc := "(I)Z" } : Jvm.MethodName) ({ cls := "BitingDoors", name := "restore", desc := "(I)Z" } : Jvm.MethodName)) ∈ lw_all := lw_g (lw_at lw_m7 56 rfl) rfl
theorem q1605 : (Jvm.Cond.code ({ cls := "BitingDoors", name := "restore", desc := "(I)Z" } : Jvm.MethodName) prog_1_method_66_code (2 : Nat) (Option.some Jvm.ClassFile.FieldType.boolean)) ∈ lw_all := lw_g (lw_at lw_m7 57 rfl) rfl
theorem q1607 : (Jvm.Cond.instanceMethod ({ cls := "BitingDoors", name := "count", desc := "(I)I" } : Jvm.MethodName)) ∈ lw_all := lw_g (lw_at lw_m7 59 rfl) rfl
theorem q1608 : (Jvm.Cond.selects "BitingDoors" ({ cls := "BitingDoors", name := "count", desc := "(I)I" } : Jvm.MethodName) ({ cls := "BitingDoors", name := "count", desc := "(I)I" } : Jvm.MethodName)) ∈ lw_all := lw_g (lw_at lw_m7 60 rfl) rfl
theorem q1609 : (Jvm.Cond.code ({ cls := "BitingDoors", name := "count", desc := "(I)I" } : Jvm.MethodName) prog_1_method_67_code (2 : Nat) (Option.some Jvm.ClassFile.FieldType.int)) ∈ lw_all := lw_g (lw_at lw_m7 61 rfl) rfl
theorem q1615 : (Jvm.Cond.instanceMethod ({ cls := "BitingDoors", name := "door", desc := "(II)I" } : Jvm.MethodName)) ∈ lw_all := lw_g (lw_at lw_m7 67 rfl) rfl
theorem q1616 : (Jvm.Cond.selects "BitingDoors" ({ cls := "BitingDoors", name := "door", desc := "(II)I" } : Jvm.MethodName) ({ cls := "BitingDoors", name := "door", desc := "(II)I" } : Jvm.MethodName)) ∈ lw_all := lw_g (lw_at lw_m7 68 rfl) rfl
theorem q1617 : (Jvm.Cond.code ({ cls := "BitingDoors", name := "door", desc := "(II)I" } : Jvm.MethodName) prog_1_method_17_code (4 : Nat) (Option.some Jvm.ClassFile.FieldType.int)) ∈ lw_all := lw_g (lw_at lw_m7 69 rfl) rfl
theorem q1618 : (Jvm.Cond.methodLink "BitingDoors" (267 : Nat) ({ cls := "BitingDoors", name := "must", desc := "(Z)V" } : Jvm.MethodName)) ∈ lw_all := lw_g (lw_at lw_m7 70 rfl) rfl
theorem q1619 : (Jvm.Cond.static ({ cls := "BitingDoors", name := "must", desc := "(Z)V" } : Jvm.MethodName)) ∈ lw_all := lw_g (lw_at lw_m7 71 rfl) rfl
theorem q1620 : (Jvm.Cond.code ({ cls := "BitingDoors", name := "must", desc := "(Z)V" } : Jvm.MethodName) prog_1_method_7_code (1 : Nat) (Option.none : Option Jvm.ClassFile.FieldType)) ∈ lw_all := lw_g (lw_at lw_m7 72 rfl) rfl
theorem q1621 : (Jvm.Cond.classLink "BitingDoors" (204 : Nat) "java/util/NoSuchElementException") ∈ lw_all := lw_g (lw_at lw_m7 73 rfl) rfl
theorem q1632 : (Jvm.Cond.methodLink "BitingDoors" (206 : Nat) ({ cls := "java/util/NoSuchElementException", name := "<init>", desc := "()V" } : Jvm.MethodName)) ∈ lw_all := lw_g (lw_at lw_m7 84 rfl) rfl
theorem q2365 : (Jvm.Cond.castable "BitingDoors" "java/lang/Object") ∈ lw_tbl := lw_at lw_m10 97 rfl
theorem in_X1 : ∀ w ∈ wsX10, w ∈ lw_all := lw_in wsX10 [547, 549, 551, 553, 555, 557, 559, 561, 563, 565, 567, 569, 571, 573, 575, 577, 579, 581, 583, 585, 587, 589, 591, 593, 595, 597, 599, 601, 603, 605, 607, 609, 611, 613, 615, 617, 619, 621, 623, 625, 627, 629, 631, 633, 635, 637] (by decide +kernel) (by decide +kernel)
theorem q112 : (Jvm.Cond.initialized "BitingDoors$Fault") ∈ lw_all := lw_g (lw_at lw_m1 4 rfl) rfl
theorem q155 : (Jvm.Cond.instantiable "BitingDoors$Fault" (8 : Nat)) ∈ lw_all := lw_g (lw_at lw_m1 47 rfl) rfl
theorem q156 : (Jvm.Cond.castable "BitingDoors$Fault" "BitingDoors$Fault") ∈ lw_tbl := lw_at lw_m1 48 rfl
theorem q161 : (Jvm.Cond.selects "BitingDoors$Fault" ({ cls := "java/lang/Throwable", name := "fillInStackTrace", desc := "(I)Ljava/lang/Throwable;" } : Jvm.MethodName) ({ cls := "java/lang/Throwable", name := "fillInStackTrace", desc := "(I)Ljava/lang/Throwable;" } : Jvm.MethodName)) ∈ lw_all := lw_g (lw_at lw_m1 53 rfl) rfl
theorem q162 : (Jvm.Cond.selects "BitingDoors$Fault" ({ cls := "java/lang/Throwable", name := "fillInStackTrace", desc := "()Ljava/lang/Throwable;" } : Jvm.MethodName) ({ cls := "java/lang/Throwable", name := "fillInStackTrace", desc := "()Ljava/lang/Throwable;" } : Jvm.MethodName)) ∈ lw_all := lw_g (lw_at lw_m1 54 rfl) rfl
theorem q163 : (Jvm.Cond.lays "BitingDoors$Fault" "java/lang/Throwable" "cause" "Ljava/lang/Throwable;") ∈ lw_all := lw_g (lw_at lw_m1 55 rfl) rfl
theorem q165 : (Jvm.Cond.lays "BitingDoors$Fault" "java/lang/Throwable" "stackTrace" "[Ljava/lang/StackTraceElement;") ∈ lw_all := lw_g (lw_at lw_m1 57 rfl) rfl
theorem q167 : (Jvm.Cond.lays "BitingDoors$Fault" "java/lang/Throwable" "suppressedExceptions" "Ljava/util/List;") ∈ lw_all := lw_g (lw_at lw_m1 59 rfl) rfl
theorem q169 : (Jvm.Cond.lays "BitingDoors$Fault" "java/lang/Throwable" "detailMessage" "Ljava/lang/String;") ∈ lw_all := lw_g (lw_at lw_m1 61 rfl) rfl
theorem q171 : (Jvm.Cond.lays "BitingDoors$Fault" "java/lang/Throwable" "backtrace" "Ljava/lang/Object;") ∈ lw_all := lw_g (lw_at lw_m1 63 rfl) rfl
theorem q193 : (Jvm.Cond.instanceMethod ({ cls := "BitingDoors$Fault", name := "<init>", desc := "()V" } : Jvm.MethodName)) ∈ lw_all := lw_g (lw_at lw_m1 85 rfl) rfl
theorem q194 : (Jvm.Cond.code ({ cls := "BitingDoors$Fault", name := "<init>", desc := "()V" } : Jvm.MethodName) prog_12_method_1_code (1 : Nat) (Option.none : Option Jvm.ClassFile.FieldType)) ∈ lw_all := lw_g (lw_at lw_m1 86 rfl) rfl
theorem q195 : (Jvm.Cond.methodLink "BitingDoors$Fault" (1 : Nat) ({ cls := "java/lang/Exception", name := "<init>", desc := "(Ljava/lang/String;Ljava/lang/Throwable;ZZ)V" } : Jvm.MethodName)) ∈ lw_all := lw_g (lw_at lw_m1 87 rfl) rfl
theorem q210 : (Jvm.Cond.lays "BitingDoors$Fault" "BitingDoors$Fault" "kind" "I") ∈ lw_all := lw_g (lw_at lw_m1 102 rfl) rfl
theorem q211 : (Jvm.Cond.soleField "BitingDoors$Fault" "kind") ∈ lw_all := lw_g (lw_at lw_m1 103 rfl) rfl
theorem q212 : (Jvm.Cond.lays "BitingDoors$Fault" "BitingDoors$Fault" "place" "I") ∈ lw_all := lw_g (lw_at lw_m1 104 rfl) rfl
theorem q213 : (Jvm.Cond.soleField "BitingDoors$Fault" "place") ∈ lw_all := lw_g (lw_at lw_m1 105 rfl) rfl
theorem q218 : (Jvm.Cond.lays "BitingDoors$Fault" "java/lang/Throwable" "depth" "I") ∈ lw_all := lw_g (lw_at lw_m1 110 rfl) rfl
theorem q221 : (Jvm.Cond.superclass "BitingDoors$Fault" "java/lang/Exception") ∈ lw_all := lw_g (lw_at lw_m1 113 rfl) rfl
theorem q2366 : (Jvm.Cond.castable "BitingDoors$Fault" "java/lang/Object") ∈ lw_tbl := lw_at lw_m10 98 rfl
theorem in_X2 : ∀ w ∈ wsX20, w ∈ lw_all := lw_in wsX20 [163, 165, 167, 169, 171, 218, 210, 212] (by decide +kernel) (by decide +kernel)
theorem q113 : (Jvm.Cond.initialized "BitingDoors$Walker") ∈ lw_all := lw_g (lw_at lw_m1 5 rfl) rfl
theorem q252 : (Jvm.Cond.instantiable "BitingDoors$Walker" (6 : Nat)) ∈ lw_all := lw_g (lw_at lw_m1 144 rfl) rfl
theorem q254 : (Jvm.Cond.instanceMethod ({ cls := "BitingDoors$Walker", name := "<init>", desc := "()V" } : Jvm.MethodName)) ∈ lw_all := lw_g (lw_at lw_m1 146 rfl) rfl
theorem q255 : (Jvm.Cond.code ({ cls := "BitingDoors$Walker", name := "<init>", desc := "()V" } : Jvm.MethodName) prog_24_method_1_code (1 : Nat) (Option.none : Option Jvm.ClassFile.FieldType)) ∈ lw_all := lw_g (lw_at lw_m1 147 rfl) rfl
theorem q256 : (Jvm.Cond.methodLink "BitingDoors$Walker" (3 : Nat) ({ cls := "java/lang/Object", name := "<init>", desc := "()V" } : Jvm.MethodName)) ∈ lw_all := lw_g (lw_at lw_m1 148 rfl) rfl
theorem q257 : (Jvm.Cond.classLink "BitingDoors$Walker" (9 : Nat) "BitingDoors$House") ∈ lw_all := lw_g (lw_at lw_m1 149 rfl) rfl
theorem q259 : (Jvm.Cond.methodLink "BitingDoors$Walker" (11 : Nat) ({ cls := "BitingDoors$House", name := "<init>", desc := "()V" } : Jvm.MethodName)) ∈ lw_all := lw_g (lw_at lw_m1 151 rfl) rfl
theorem q270 : (Jvm.Cond.fieldLinkNest "BitingDoors$Walker" (102 : Nat) "BitingDoors$House" "draughts" "[I" "BitingDoors") ∈ lw_tbl := lw_at lw_m1 162 rfl
theorem q274 : (Jvm.Cond.fieldLinkNest "BitingDoors$Walker" (32 : Nat) "BitingDoors$House" "doors" "[LBitingDoors$Door;" "BitingDoors") ∈ lw_tbl := lw_at lw_m1 166 rfl
theorem q286 : (Jvm.Cond.fieldLinkNest "BitingDoors$Walker" (29 : Nat) "BitingDoors$House" "many" "I" "BitingDoors") ∈ lw_tbl := lw_at lw_m1 178 rfl
theorem q292 : (Jvm.Cond.fieldLinkNest "BitingDoors$Walker" (99 : Nat) "BitingDoors$House" "draughtMany" "I" "BitingDoors") ∈ lw_tbl := lw_at lw_m1 184 rfl
theorem q296 : (Jvm.Cond.fieldLinkNest "BitingDoors$Walker" (40 : Nat) "BitingDoors$House" "bed" "I" "BitingDoors") ∈ lw_tbl := lw_at lw_m1 188 rfl
theorem q318 : (Jvm.Cond.fieldLink "BitingDoors$Walker" (12 : Nat) "BitingDoors$Walker" "house" "LBitingDoors$House;") ∈ lw_all := lw_g (lw_at lw_m1 210 rfl) rfl
theorem q326 : (Jvm.Cond.fieldLink "BitingDoors$Walker" (18 : Nat) "BitingDoors$Walker" "hanging" "[I") ∈ lw_all := lw_g (lw_at lw_m1 218 rfl) rfl
theorem q332 : (Jvm.Cond.fieldLink "BitingDoors$Walker" (22 : Nat) "BitingDoors$Walker" "angle" "[I") ∈ lw_all := lw_g (lw_at lw_m1 224 rfl) rfl
theorem q337 : (Jvm.Cond.fieldLink "BitingDoors$Walker" (25 : Nat) "BitingDoors$Walker" "place" "I") ∈ lw_all := lw_g (lw_at lw_m1 229 rfl) rfl
theorem q341 : (Jvm.Cond.fieldLink "BitingDoors$Walker" (109 : Nat) "BitingDoors$Walker" "minutes" "I") ∈ lw_all := lw_g (lw_at lw_m1 233 rfl) rfl
theorem q343 : (Jvm.Cond.fieldLink "BitingDoors$Walker" (112 : Nat) "BitingDoors$Walker" "shuts" "I") ∈ lw_all := lw_g (lw_at lw_m1 235 rfl) rfl
theorem q345 : (Jvm.Cond.lays "BitingDoors$Walker" "BitingDoors$Walker" "house" "LBitingDoors$House;") ∈ lw_all := lw_g (lw_at lw_m1 237 rfl) rfl
theorem q346 : (Jvm.Cond.soleField "BitingDoors$Walker" "house") ∈ lw_all := lw_g (lw_at lw_m1 238 rfl) rfl
theorem q347 : (Jvm.Cond.laysFinal "BitingDoors$Walker" "BitingDoors$Walker" "hanging" "[I") ∈ lw_all := lw_g (lw_at lw_m1 239 rfl) rfl
theorem q348 : (Jvm.Cond.soleField "BitingDoors$Walker" "hanging") ∈ lw_all := lw_g (lw_at lw_m2 0 rfl) rfl
theorem q349 : (Jvm.Cond.laysFinal "BitingDoors$Walker" "BitingDoors$Walker" "angle" "[I") ∈ lw_all := lw_g (lw_at lw_m2 1 rfl) rfl
theorem q350 : (Jvm.Cond.soleField "BitingDoors$Walker" "angle") ∈ lw_all := lw_g (lw_at lw_m2 2 rfl) rfl
theorem q351 : (Jvm.Cond.lays "BitingDoors$Walker" "BitingDoors$Walker" "place" "I") ∈ lw_all := lw_g (lw_at lw_m2 3 rfl) rfl
theorem q352 : (Jvm.Cond.soleField "BitingDoors$Walker" "place") ∈ lw_all := lw_g (lw_at lw_m2 4 rfl) rfl
theorem q353 : (Jvm.Cond.lays "BitingDoors$Walker" "BitingDoors$Walker" "minutes" "I") ∈ lw_all := lw_g (lw_at lw_m2 5 rfl) rfl
theorem q354 : (Jvm.Cond.soleField "BitingDoors$Walker" "minutes") ∈ lw_all := lw_g (lw_at lw_m2 6 rfl) rfl
theorem q355 : (Jvm.Cond.lays "BitingDoors$Walker" "BitingDoors$Walker" "shuts" "I") ∈ lw_all := lw_g (lw_at lw_m2 7 rfl) rfl
theorem q356 : (Jvm.Cond.soleField "BitingDoors$Walker" "shuts") ∈ lw_all := lw_g (lw_at lw_m2 8 rfl) rfl
theorem q357 : (Jvm.Cond.superclass "BitingDoors$Walker" "java/lang/Object") ∈ lw_all := lw_g (lw_at lw_m2 9 rfl) rfl
theorem q857 : (Jvm.Cond.fieldLinkNest "BitingDoors$Walker" (36 : Nat) "BitingDoors$Door" "hanging" "I" "BitingDoors") ∈ lw_tbl := lw_at lw_m4 29 rfl
theorem q1008 : (Jvm.Cond.instanceMethod ({ cls := "BitingDoors$Walker", name := "begin", desc := "(LBitingDoors$House;)V" } : Jvm.MethodName)) ∈ lw_all := lw_g (lw_at lw_m4 180 rfl) rfl
theorem q1009 : (Jvm.Cond.selects "BitingDoors$Walker" ({ cls := "BitingDoors$Walker", name := "begin", desc := "(LBitingDoors$House;)V" } : Jvm.MethodName) ({ cls := "BitingDoors$Walker", name := "begin", desc := "(LBitingDoors$House;)V" } : Jvm.MethodName)) ∈ lw_all := lw_g (lw_at lw_m4 181 rfl) rfl
theorem q1010 : (Jvm.Cond.code ({ cls := "BitingDoors$Walker", name := "begin", desc := "(LBitingDoors$House;)V" } : Jvm.MethodName) prog_24_method_2_code (3 : Nat) (Option.none : Option Jvm.ClassFile.FieldType)) ∈ lw_all := lw_g (lw_at lw_m4 182 rfl) rfl
theorem q1280 : (Jvm.Cond.instanceMethod ({ cls := "BitingDoors$Walker", name := "isLeaf", desc := "(II)Z" } : Jvm.MethodName)) ∈ lw_all := lw_g (lw_at lw_m5 212 rfl) rfl
theorem q1281 : (Jvm.Cond.selects "BitingDoors$Walker" ({ cls := "BitingDoors$Walker", name := "isLeaf", desc := "(II)Z" } : Jvm.MethodName) ({ cls := "BitingDoors$Walker", name := "isLeaf", desc := "(II)Z" } : Jvm.MethodName)) ∈ lw_all := lw_g (lw_at lw_m5 213 rfl) rfl
theorem q1282 : (Jvm.Cond.code ({ cls := "BitingDoors$Walker", name := "isLeaf", desc := "(II)Z" } : Jvm.MethodName) prog_24_method_5_code (4 : Nat) (Option.some Jvm.ClassFile.FieldType.boolean)) ∈ lw_all := lw_g (lw_at lw_m5 214 rfl) rfl
theorem q1283 : (Jvm.Cond.methodLink "BitingDoors$Walker" (53 : Nat) ({ cls := "BitingDoors$Walker", name := "leaf", desc := "(I)LBitingDoors$Cells;" } : Jvm.MethodName)) ∈ lw_all := lw_g (lw_at lw_m5 215 rfl) rfl
theorem q1284 : (Jvm.Cond.instanceMethod ({ cls := "BitingDoors$Walker", name := "leaf", desc := "(I)LBitingDoors$Cells;" } : Jvm.MethodName)) ∈ lw_all := lw_g (lw_at lw_m5 216 rfl) rfl
theorem q1285 : (Jvm.Cond.selects "BitingDoors$Walker" ({ cls := "BitingDoors$Walker", name := "leaf", desc := "(I)LBitingDoors$Cells;" } : Jvm.MethodName) ({ cls := "BitingDoors$Walker", name := "leaf", desc := "(I)LBitingDoors$Cells;" } : Jvm.MethodName)) ∈ lw_all := lw_g (lw_at lw_m5 217 rfl) rfl
theorem q1286 : (Jvm.Cond.code ({ cls := "BitingDoors$Walker", name := "leaf", desc := "(I)LBitingDoors$Cells;" } : Jvm.MethodName) prog_24_method_4_code (2 : Nat) (Option.some (Jvm.ClassFile.FieldType.object "BitingDoors$Cells"))) ∈ lw_all := lw_g (lw_at lw_m5 218 rfl) rfl
theorem q1287 : (Jvm.Cond.methodLink "BitingDoors$Walker" (49 : Nat) ({ cls := "BitingDoors$Door", name := "leaf", desc := "(II)LBitingDoors$Cells;" } : Jvm.MethodName)) ∈ lw_all := lw_g (lw_at lw_m5 219 rfl) rfl
theorem q1288 : (Jvm.Cond.methodLink "BitingDoors$Walker" (56 : Nat) ({ cls := "BitingDoors$Cells", name := "has", desc := "(I)Z" } : Jvm.MethodName)) ∈ lw_all := lw_g (lw_at lw_m5 220 rfl) rfl
theorem q1298 : (Jvm.Cond.instanceMethod ({ cls := "BitingDoors$Walker", name := "minute", desc := "(I)I" } : Jvm.MethodName)) ∈ lw_all := lw_g (lw_at lw_m5 230 rfl) rfl
theorem q1299 : (Jvm.Cond.selects "BitingDoors$Walker" ({ cls := "BitingDoors$Walker", name := "minute", desc := "(I)I" } : Jvm.MethodName) ({ cls := "BitingDoors$Walker", name := "minute", desc := "(I)I" } : Jvm.MethodName)) ∈ lw_all := lw_g (lw_at lw_m5 231 rfl) rfl
theorem q1300 : (Jvm.Cond.code ({ cls := "BitingDoors$Walker", name := "minute", desc := "(I)I" } : Jvm.MethodName) prog_24_method_9_code (4 : Nat) (Option.some Jvm.ClassFile.FieldType.int)) ∈ lw_all := lw_g (lw_at lw_m5 232 rfl) rfl
theorem q1301 : (Jvm.Cond.methodLink "BitingDoors$Walker" (92 : Nat) ({ cls := "BitingDoors$Walker", name := "why", desc := "(I)I" } : Jvm.MethodName)) ∈ lw_all := lw_g (lw_at lw_m5 233 rfl) rfl
theorem q1302 : (Jvm.Cond.instanceMethod ({ cls := "BitingDoors$Walker", name := "why", desc := "(I)I" } : Jvm.MethodName)) ∈ lw_all := lw_g (lw_at lw_m5 234 rfl) rfl
theorem q1303 : (Jvm.Cond.selects "BitingDoors$Walker" ({ cls := "BitingDoors$Walker", name := "why", desc := "(I)I" } : Jvm.MethodName) ({ cls := "BitingDoors$Walker", name := "why", desc := "(I)I" } : Jvm.MethodName)) ∈ lw_all := lw_g (lw_at lw_m5 235 rfl) rfl
theorem q1304 : (Jvm.Cond.code ({ cls := "BitingDoors$Walker", name := "why", desc := "(I)I" } : Jvm.MethodName) prog_24_method_8_code (4 : Nat) (Option.some Jvm.ClassFile.FieldType.int)) ∈ lw_all := lw_g (lw_at lw_m5 236 rfl) rfl
theorem q1305 : (Jvm.Cond.fieldLinkNest "BitingDoors$Walker" (76 : Nat) "BitingDoors" "STEP_X" "[I" "BitingDoors") ∈ lw_tbl := lw_at lw_m5 237 rfl
theorem q1307 : (Jvm.Cond.fieldLinkNest "BitingDoors$Walker" (79 : Nat) "BitingDoors" "STEP_Y" "[I" "BitingDoors") ∈ lw_tbl := lw_at lw_m5 239 rfl
theorem q1309 : (Jvm.Cond.methodLink "BitingDoors$Walker" (62 : Nat) ({ cls := "BitingDoors$House", name := "isCell", desc := "(II)Z" } : Jvm.MethodName)) ∈ lw_all := lw_g (lw_at lw_m6 1 rfl) rfl
theorem q1310 : (Jvm.Cond.methodLink "BitingDoors$Walker" (82 : Nat) ({ cls := "BitingDoors$House", name := "isOpen", desc := "(I)Z" } : Jvm.MethodName)) ∈ lw_all := lw_g (lw_at lw_m6 2 rfl) rfl
theorem q1311 : (Jvm.Cond.methodLink "BitingDoors$Walker" (73 : Nat) ({ cls := "BitingDoors$Walker", name := "isLeaf", desc := "(II)Z" } : Jvm.MethodName)) ∈ lw_all := lw_g (lw_at lw_m6 3 rfl) rfl
theorem q1312 : (Jvm.Cond.methodLink "BitingDoors$Walker" (85 : Nat) ({ cls := "BitingDoors$Walker", name := "isAt", desc := "(I)Z" } : Jvm.MethodName)) ∈ lw_all := lw_g (lw_at lw_m6 4 rfl) rfl
theorem q1313 : (Jvm.Cond.instanceMethod ({ cls := "BitingDoors$Walker", name := "isAt", desc := "(I)Z" } : Jvm.MethodName)) ∈ lw_all := lw_g (lw_at lw_m6 5 rfl) rfl
theorem q1314 : (Jvm.Cond.selects "BitingDoors$Walker" ({ cls := "BitingDoors$Walker", name := "isAt", desc := "(I)Z" } : Jvm.MethodName) ({ cls := "BitingDoors$Walker", name := "isAt", desc := "(I)Z" } : Jvm.MethodName)) ∈ lw_all := lw_g (lw_at lw_m6 6 rfl) rfl
theorem q1315 : (Jvm.Cond.code ({ cls := "BitingDoors$Walker", name := "isAt", desc := "(I)Z" } : Jvm.MethodName) prog_24_method_6_code (5 : Nat) (Option.some Jvm.ClassFile.FieldType.boolean)) ∈ lw_all := lw_g (lw_at lw_m6 7 rfl) rfl
theorem q1316 : (Jvm.Cond.methodLink "BitingDoors$Walker" (88 : Nat) ({ cls := "BitingDoors$Walker", name := "bar", desc := "(II)I" } : Jvm.MethodName)) ∈ lw_all := lw_g (lw_at lw_m6 8 rfl) rfl
theorem q1317 : (Jvm.Cond.privateMethod ({ cls := "BitingDoors$Walker", name := "bar", desc := "(II)I" } : Jvm.MethodName)) ∈ lw_tbl := lw_at lw_m6 9 rfl
theorem q1318 : (Jvm.Cond.instanceMethod ({ cls := "BitingDoors$Walker", name := "bar", desc := "(II)I" } : Jvm.MethodName)) ∈ lw_all := lw_g (lw_at lw_m6 10 rfl) rfl
theorem q1319 : (Jvm.Cond.code ({ cls := "BitingDoors$Walker", name := "bar", desc := "(II)I" } : Jvm.MethodName) prog_24_method_7_code (6 : Nat) (Option.some Jvm.ClassFile.FieldType.int)) ∈ lw_all := lw_g (lw_at lw_m6 11 rfl) rfl
theorem q1320 : (Jvm.Cond.methodLink "BitingDoors$Walker" (66 : Nat) ({ cls := "BitingDoors$Door", name := "can", desc := "(II)Z" } : Jvm.MethodName)) ∈ lw_all := lw_g (lw_at lw_m6 12 rfl) rfl
theorem q1321 : (Jvm.Cond.methodLink "BitingDoors$Walker" (69 : Nat) ({ cls := "BitingDoors$Cells", name := "get", desc := "(I)I" } : Jvm.MethodName)) ∈ lw_all := lw_g (lw_at lw_m6 13 rfl) rfl
theorem q1322 : (Jvm.Cond.methodLinkNest "BitingDoors$Walker" (95 : Nat) ({ cls := "BitingDoors", name := "isIn", desc := "(III)Z" } : Jvm.MethodName) "BitingDoors") ∈ lw_tbl := lw_at lw_m6 14 rfl
theorem q1323 : (Jvm.Cond.methodLink "BitingDoors$Walker" (105 : Nat) ({ cls := "BitingDoors$Walker", name := "blows", desc := "(III)V" } : Jvm.MethodName)) ∈ lw_all := lw_g (lw_at lw_m6 15 rfl) rfl
theorem q1324 : (Jvm.Cond.privateMethod ({ cls := "BitingDoors$Walker", name := "blows", desc := "(III)V" } : Jvm.MethodName)) ∈ lw_tbl := lw_at lw_m6 16 rfl
theorem q1325 : (Jvm.Cond.instanceMethod ({ cls := "BitingDoors$Walker", name := "blows", desc := "(III)V" } : Jvm.MethodName)) ∈ lw_all := lw_g (lw_at lw_m6 17 rfl) rfl
theorem q1326 : (Jvm.Cond.code ({ cls := "BitingDoors$Walker", name := "blows", desc := "(III)V" } : Jvm.MethodName) prog_24_method_10_code (4 : Nat) (Option.none : Option Jvm.ClassFile.FieldType)) ∈ lw_all := lw_g (lw_at lw_m6 18 rfl) rfl
theorem q1336 : (Jvm.Cond.instanceMethod ({ cls := "BitingDoors$Walker", name := "be", desc := "(LBitingDoors$Walker;)V" } : Jvm.MethodName)) ∈ lw_all := lw_g (lw_at lw_m6 28 rfl) rfl
theorem q1337 : (Jvm.Cond.selects "BitingDoors$Walker" ({ cls := "BitingDoors$Walker", name := "be", desc := "(LBitingDoors$Walker;)V" } : Jvm.MethodName) ({ cls := "BitingDoors$Walker", name := "be", desc := "(LBitingDoors$Walker;)V" } : Jvm.MethodName)) ∈ lw_all := lw_g (lw_at lw_m6 29 rfl) rfl
theorem q1338 : (Jvm.Cond.code ({ cls := "BitingDoors$Walker", name := "be", desc := "(LBitingDoors$Walker;)V" } : Jvm.MethodName) prog_24_method_3_code (2 : Nat) (Option.none : Option Jvm.ClassFile.FieldType)) ∈ lw_all := lw_g (lw_at lw_m6 30 rfl) rfl
theorem q1339 : (Jvm.Cond.methodLink "BitingDoors$Walker" (43 : Nat) ({ cls := "java/lang/System", name := "arraycopy", desc := "(Ljava/lang/Object;ILjava/lang/Object;II)V" } : Jvm.MethodName)) ∈ lw_all := lw_g (lw_at lw_m6 31 rfl) rfl
theorem q2367 : (Jvm.Cond.castable "BitingDoors$Walker" "java/lang/Object") ∈ lw_tbl := lw_at lw_m10 99 rfl
theorem in_X3 : ∀ w ∈ wsX30, w ∈ lw_all := lw_in wsX30 [345, 347, 349, 351, 353, 355] (by decide +kernel) (by decide +kernel)
theorem q114 : (Jvm.Cond.initialized "BitingDoors$House") ∈ lw_all := lw_g (lw_at lw_m1 6 rfl) rfl
theorem q258 : (Jvm.Cond.instantiable "BitingDoors$House" (9 : Nat)) ∈ lw_all := lw_g (lw_at lw_m1 150 rfl) rfl
theorem q260 : (Jvm.Cond.instanceMethod ({ cls := "BitingDoors$House", name := "<init>", desc := "()V" } : Jvm.MethodName)) ∈ lw_all := lw_g (lw_at lw_m1 152 rfl) rfl
theorem q261 : (Jvm.Cond.code ({ cls := "BitingDoors$House", name := "<init>", desc := "()V" } : Jvm.MethodName) prog_14_method_1_code (2 : Nat) (Option.none : Option Jvm.ClassFile.FieldType)) ∈ lw_all := lw_g (lw_at lw_m1 153 rfl) rfl
theorem q262 : (Jvm.Cond.methodLink "BitingDoors$House" (3 : Nat) ({ cls := "java/lang/Object", name := "<init>", desc := "()V" } : Jvm.MethodName)) ∈ lw_all := lw_g (lw_at lw_m1 154 rfl) rfl
theorem q263 : (Jvm.Cond.classLink "BitingDoors$House" (18 : Nat) "BitingDoors$Door") ∈ lw_all := lw_g (lw_at lw_m1 155 rfl) rfl
theorem q265 : (Jvm.Cond.fieldLink "BitingDoors$House" (9 : Nat) "BitingDoors$House" "cells" "[I") ∈ lw_all := lw_g (lw_at lw_m1 157 rfl) rfl
theorem q268 : (Jvm.Cond.fieldLink "BitingDoors$House" (15 : Nat) "BitingDoors$House" "draughts" "[I") ∈ lw_all := lw_g (lw_at lw_m1 160 rfl) rfl
theorem q271 : (Jvm.Cond.fieldLink "BitingDoors$House" (20 : Nat) "BitingDoors$House" "doors" "[LBitingDoors$Door;") ∈ lw_all := lw_g (lw_at lw_m1 163 rfl) rfl
theorem q279 : (Jvm.Cond.fieldLink "BitingDoors$House" (24 : Nat) "BitingDoors$House" "bites" "[I") ∈ lw_all := lw_g (lw_at lw_m1 171 rfl) rfl
theorem q280 : (Jvm.Cond.fieldLink "BitingDoors$House" (31 : Nat) "BitingDoors$House" "columns" "I") ∈ lw_all := lw_g (lw_at lw_m1 172 rfl) rfl
theorem q283 : (Jvm.Cond.fieldLink "BitingDoors$House" (38 : Nat) "BitingDoors$House" "rows" "I") ∈ lw_all := lw_g (lw_at lw_m1 175 rfl) rfl
theorem q288 : (Jvm.Cond.fieldLink "BitingDoors$House" (55 : Nat) "BitingDoors$House" "many" "I") ∈ lw_all := lw_g (lw_at lw_m1 180 rfl) rfl
theorem q294 : (Jvm.Cond.fieldLink "BitingDoors$House" (27 : Nat) "BitingDoors$House" "bed" "I") ∈ lw_all := lw_g (lw_at lw_m1 186 rfl) rfl
theorem q298 : (Jvm.Cond.laysFinal "BitingDoors$House" "BitingDoors$House" "cells" "[I") ∈ lw_all := lw_g (lw_at lw_m1 190 rfl) rfl
theorem q299 : (Jvm.Cond.soleField "BitingDoors$House" "cells") ∈ lw_all := lw_g (lw_at lw_m1 191 rfl) rfl
theorem q300 : (Jvm.Cond.laysFinal "BitingDoors$House" "BitingDoors$House" "draughts" "[I") ∈ lw_all := lw_g (lw_at lw_m1 192 rfl) rfl
theorem q301 : (Jvm.Cond.soleField "BitingDoors$House" "draughts") ∈ lw_all := lw_g (lw_at lw_m1 193 rfl) rfl
theorem q302 : (Jvm.Cond.laysFinal "BitingDoors$House" "BitingDoors$House" "doors" "[LBitingDoors$Door;") ∈ lw_all := lw_g (lw_at lw_m1 194 rfl) rfl
theorem q303 : (Jvm.Cond.soleField "BitingDoors$House" "doors") ∈ lw_all := lw_g (lw_at lw_m1 195 rfl) rfl
theorem q304 : (Jvm.Cond.laysFinal "BitingDoors$House" "BitingDoors$House" "bites" "[I") ∈ lw_all := lw_g (lw_at lw_m1 196 rfl) rfl
theorem q305 : (Jvm.Cond.soleField "BitingDoors$House" "bites") ∈ lw_all := lw_g (lw_at lw_m1 197 rfl) rfl
theorem q306 : (Jvm.Cond.lays "BitingDoors$House" "BitingDoors$House" "columns" "I") ∈ lw_all := lw_g (lw_at lw_m1 198 rfl) rfl
theorem q307 : (Jvm.Cond.soleField "BitingDoors$House" "columns") ∈ lw_all := lw_g (lw_at lw_m1 199 rfl) rfl
theorem q308 : (Jvm.Cond.lays "BitingDoors$House" "BitingDoors$House" "rows" "I") ∈ lw_all := lw_g (lw_at lw_m1 200 rfl) rfl
theorem q309 : (Jvm.Cond.soleField "BitingDoors$House" "rows") ∈ lw_all := lw_g (lw_at lw_m1 201 rfl) rfl
theorem q310 : (Jvm.Cond.lays "BitingDoors$House" "BitingDoors$House" "many" "I") ∈ lw_all := lw_g (lw_at lw_m1 202 rfl) rfl
theorem q311 : (Jvm.Cond.soleField "BitingDoors$House" "many") ∈ lw_all := lw_g (lw_at lw_m1 203 rfl) rfl
theorem q312 : (Jvm.Cond.lays "BitingDoors$House" "BitingDoors$House" "draughtMany" "I") ∈ lw_all := lw_g (lw_at lw_m1 204 rfl) rfl
theorem q313 : (Jvm.Cond.soleField "BitingDoors$House" "draughtMany") ∈ lw_all := lw_g (lw_at lw_m1 205 rfl) rfl
theorem q314 : (Jvm.Cond.lays "BitingDoors$House" "BitingDoors$House" "bed" "I") ∈ lw_all := lw_g (lw_at lw_m1 206 rfl) rfl
theorem q315 : (Jvm.Cond.soleField "BitingDoors$House" "bed") ∈ lw_all := lw_g (lw_at lw_m1 207 rfl) rfl
theorem q316 : (Jvm.Cond.superclass "BitingDoors$House" "java/lang/Object") ∈ lw_all := lw_g (lw_at lw_m1 208 rfl) rfl
theorem q827 : (Jvm.Cond.instanceMethod ({ cls := "BitingDoors$House", name := "isCell", desc := "(II)Z" } : Jvm.MethodName)) ∈ lw_all := lw_g (lw_at lw_m3 239 rfl) rfl
theorem q828 : (Jvm.Cond.selects "BitingDoors$House" ({ cls := "BitingDoors$House", name := "isCell", desc := "(II)Z" } : Jvm.MethodName) ({ cls := "BitingDoors$House", name := "isCell", desc := "(II)Z" } : Jvm.MethodName)) ∈ lw_all := lw_g (lw_at lw_m4 0 rfl) rfl
theorem q829 : (Jvm.Cond.code ({ cls := "BitingDoors$House", name := "isCell", desc := "(II)Z" } : Jvm.MethodName) prog_14_method_2_code (3 : Nat) (Option.some Jvm.ClassFile.FieldType.boolean)) ∈ lw_all := lw_g (lw_at lw_m4 1 rfl) rfl
theorem q830 : (Jvm.Cond.methodLinkNest "BitingDoors$House" (34 : Nat) ({ cls := "BitingDoors", name := "isIn", desc := "(III)Z" } : Jvm.MethodName) "BitingDoors") ∈ lw_tbl := lw_at lw_m4 2 rfl
theorem q853 : (Jvm.Cond.fieldLinkNest "BitingDoors$House" (62 : Nat) "BitingDoors$Door" "swept" "[LBitingDoors$Cells;" "BitingDoors") ∈ lw_tbl := lw_at lw_m4 25 rfl
theorem q860 : (Jvm.Cond.fieldLinkNest "BitingDoors$House" (73 : Nat) "BitingDoors$Door" "told" "I" "BitingDoors") ∈ lw_tbl := lw_at lw_m4 32 rfl
theorem q921 : (Jvm.Cond.instanceMethod ({ cls := "BitingDoors$House", name := "settle", desc := "()V" } : Jvm.MethodName)) ∈ lw_all := lw_g (lw_at lw_m4 93 rfl) rfl
theorem q922 : (Jvm.Cond.selects "BitingDoors$House" ({ cls := "BitingDoors$House", name := "settle", desc := "()V" } : Jvm.MethodName) ({ cls := "BitingDoors$House", name := "settle", desc := "()V" } : Jvm.MethodName)) ∈ lw_all := lw_g (lw_at lw_m4 94 rfl) rfl
theorem q923 : (Jvm.Cond.code ({ cls := "BitingDoors$House", name := "settle", desc := "()V" } : Jvm.MethodName) prog_14_method_6_code (6 : Nat) (Option.none : Option Jvm.ClassFile.FieldType)) ∈ lw_all := lw_g (lw_at lw_m4 95 rfl) rfl
theorem q924 : (Jvm.Cond.methodLink "BitingDoors$House" (58 : Nat) ({ cls := "BitingDoors$Door", name := "hang", desc := "(LBitingDoors$House;)V" } : Jvm.MethodName)) ∈ lw_all := lw_g (lw_at lw_m4 96 rfl) rfl
theorem q943 : (Jvm.Cond.fieldLinkNest "BitingDoors$House" (41 : Nat) "BitingDoors$Cells" "beyond" "Z" "BitingDoors") ∈ lw_tbl := lw_at lw_m4 115 rfl
theorem q983 : (Jvm.Cond.instanceMethod ({ cls := "BitingDoors$House", name := "isFree", desc := "(LBitingDoors$Cells;)Z" } : Jvm.MethodName)) ∈ lw_all := lw_g (lw_at lw_m4 155 rfl) rfl
theorem q984 : (Jvm.Cond.selects "BitingDoors$House" ({ cls := "BitingDoors$House", name := "isFree", desc := "(LBitingDoors$Cells;)Z" } : Jvm.MethodName) ({ cls := "BitingDoors$House", name := "isFree", desc := "(LBitingDoors$Cells;)Z" } : Jvm.MethodName)) ∈ lw_all := lw_g (lw_at lw_m4 156 rfl) rfl
theorem q985 : (Jvm.Cond.code ({ cls := "BitingDoors$House", name := "isFree", desc := "(LBitingDoors$Cells;)Z" } : Jvm.MethodName) prog_14_method_4_code (4 : Nat) (Option.some Jvm.ClassFile.FieldType.boolean)) ∈ lw_all := lw_g (lw_at lw_m4 157 rfl) rfl
theorem q986 : (Jvm.Cond.methodLink "BitingDoors$House" (47 : Nat) ({ cls := "BitingDoors$Cells", name := "get", desc := "(I)I" } : Jvm.MethodName)) ∈ lw_all := lw_g (lw_at lw_m4 158 rfl) rfl
theorem q990 : (Jvm.Cond.methodLink "BitingDoors$House" (51 : Nat) ({ cls := "BitingDoors$House", name := "isCell", desc := "(II)Z" } : Jvm.MethodName)) ∈ lw_all := lw_g (lw_at lw_m4 162 rfl) rfl
theorem q996 : (Jvm.Cond.methodLink "BitingDoors$House" (66 : Nat) ({ cls := "BitingDoors$Cells", name := "shared", desc := "(LBitingDoors$Cells;)I" } : Jvm.MethodName)) ∈ lw_all := lw_g (lw_at lw_m4 168 rfl) rfl
theorem q1006 : (Jvm.Cond.methodLinkNest "BitingDoors$House" (70 : Nat) ({ cls := "BitingDoors", name := "one", desc := "(I)I" } : Jvm.MethodName) "BitingDoors") ∈ lw_tbl := lw_at lw_m4 178 rfl
theorem q1160 : (Jvm.Cond.instanceMethod ({ cls := "BitingDoors$House", name := "bitten", desc := "(III)I" } : Jvm.MethodName)) ∈ lw_all := lw_g (lw_at lw_m5 92 rfl) rfl
theorem q1161 : (Jvm.Cond.selects "BitingDoors$House" ({ cls := "BitingDoors$House", name := "bitten", desc := "(III)I" } : Jvm.MethodName) ({ cls := "BitingDoors$House", name := "bitten", desc := "(III)I" } : Jvm.MethodName)) ∈ lw_all := lw_g (lw_at lw_m5 93 rfl) rfl
theorem q1162 : (Jvm.Cond.code ({ cls := "BitingDoors$House", name := "bitten", desc := "(III)I" } : Jvm.MethodName) prog_14_method_5_code (4 : Nat) (Option.some Jvm.ClassFile.FieldType.int)) ∈ lw_all := lw_g (lw_at lw_m5 94 rfl) rfl
theorem q1177 : (Jvm.Cond.instanceMethod ({ cls := "BitingDoors$House", name := "domain", desc := "(I)I" } : Jvm.MethodName)) ∈ lw_all := lw_g (lw_at lw_m5 109 rfl) rfl
theorem q1178 : (Jvm.Cond.selects "BitingDoors$House" ({ cls := "BitingDoors$House", name := "domain", desc := "(I)I" } : Jvm.MethodName) ({ cls := "BitingDoors$House", name := "domain", desc := "(I)I" } : Jvm.MethodName)) ∈ lw_all := lw_g (lw_at lw_m5 110 rfl) rfl
theorem q1179 : (Jvm.Cond.code ({ cls := "BitingDoors$House", name := "domain", desc := "(I)I" } : Jvm.MethodName) prog_14_method_7_code (4 : Nat) (Option.some Jvm.ClassFile.FieldType.int)) ∈ lw_all := lw_g (lw_at lw_m5 111 rfl) rfl
theorem q1180 : (Jvm.Cond.methodLinkNest "BitingDoors$House" (76 : Nat) ({ cls := "BitingDoors", name := "has", desc := "(II)Z" } : Jvm.MethodName) "BitingDoors") ∈ lw_tbl := lw_at lw_m5 112 rfl
theorem q1181 : (Jvm.Cond.methodLink "BitingDoors$House" (79 : Nat) ({ cls := "BitingDoors$Door", name := "isFit", desc := "(I)Z" } : Jvm.MethodName)) ∈ lw_all := lw_g (lw_at lw_m5 113 rfl) rfl
theorem q1276 : (Jvm.Cond.instanceMethod ({ cls := "BitingDoors$House", name := "isOpen", desc := "(I)Z" } : Jvm.MethodName)) ∈ lw_all := lw_g (lw_at lw_m5 208 rfl) rfl
theorem q1277 : (Jvm.Cond.selects "BitingDoors$House" ({ cls := "BitingDoors$House", name := "isOpen", desc := "(I)Z" } : Jvm.MethodName) ({ cls := "BitingDoors$House", name := "isOpen", desc := "(I)Z" } : Jvm.MethodName)) ∈ lw_all := lw_g (lw_at lw_m5 209 rfl) rfl
theorem q1278 : (Jvm.Cond.code ({ cls := "BitingDoors$House", name := "isOpen", desc := "(I)Z" } : Jvm.MethodName) prog_14_method_3_code (2 : Nat) (Option.some Jvm.ClassFile.FieldType.boolean)) ∈ lw_all := lw_g (lw_at lw_m5 210 rfl) rfl
theorem q2368 : (Jvm.Cond.castable "BitingDoors$House" "java/lang/Object") ∈ lw_tbl := lw_at lw_m10 100 rfl
theorem in_X4 : ∀ w ∈ wsX40, w ∈ lw_all := lw_in wsX40 [298, 300, 302, 304, 306, 308, 310, 312, 314] (by decide +kernel) (by decide +kernel)
theorem q115 : (Jvm.Cond.initialized "BitingDoors$Day") ∈ lw_all := lw_g (lw_at lw_m1 7 rfl) rfl
theorem q359 : (Jvm.Cond.instantiable "BitingDoors$Day" (2 : Nat)) ∈ lw_all := lw_g (lw_at lw_m2 11 rfl) rfl
theorem q361 : (Jvm.Cond.instanceMethod ({ cls := "BitingDoors$Day", name := "<init>", desc := "()V" } : Jvm.MethodName)) ∈ lw_all := lw_g (lw_at lw_m2 13 rfl) rfl
theorem q362 : (Jvm.Cond.code ({ cls := "BitingDoors$Day", name := "<init>", desc := "()V" } : Jvm.MethodName) prog_9_method_1_code (1 : Nat) (Option.none : Option Jvm.ClassFile.FieldType)) ∈ lw_all := lw_g (lw_at lw_m2 14 rfl) rfl
theorem q363 : (Jvm.Cond.methodLink "BitingDoors$Day" (3 : Nat) ({ cls := "java/lang/Object", name := "<init>", desc := "()V" } : Jvm.MethodName)) ∈ lw_all := lw_g (lw_at lw_m2 15 rfl) rfl
theorem q364 : (Jvm.Cond.classLink "BitingDoors$Day" (9 : Nat) "BitingDoors$Act") ∈ lw_all := lw_g (lw_at lw_m2 16 rfl) rfl
theorem q366 : (Jvm.Cond.fieldLink "BitingDoors$Day" (11 : Nat) "BitingDoors$Day" "acts" "[LBitingDoors$Act;") ∈ lw_all := lw_g (lw_at lw_m2 18 rfl) rfl
theorem q371 : (Jvm.Cond.laysFinal "BitingDoors$Day" "BitingDoors$Day" "acts" "[LBitingDoors$Act;") ∈ lw_all := lw_g (lw_at lw_m2 23 rfl) rfl
theorem q372 : (Jvm.Cond.soleField "BitingDoors$Day" "acts") ∈ lw_all := lw_g (lw_at lw_m2 24 rfl) rfl
theorem q373 : (Jvm.Cond.lays "BitingDoors$Day" "BitingDoors$Day" "many" "I") ∈ lw_all := lw_g (lw_at lw_m2 25 rfl) rfl
theorem q374 : (Jvm.Cond.soleField "BitingDoors$Day" "many") ∈ lw_all := lw_g (lw_at lw_m2 26 rfl) rfl
theorem q375 : (Jvm.Cond.superclass "BitingDoors$Day" "java/lang/Object") ∈ lw_all := lw_g (lw_at lw_m2 27 rfl) rfl
theorem q2369 : (Jvm.Cond.castable "BitingDoors$Day" "java/lang/Object") ∈ lw_tbl := lw_at lw_m10 101 rfl
theorem in_X5 : ∀ w ∈ wsX50, w ∈ lw_all := lw_in wsX50 [371, 373] (by decide +kernel) (by decide +kernel)
theorem q116 : (Jvm.Cond.initialized "BitingDoors$Reader") ∈ lw_all := lw_g (lw_at lw_m1 8 rfl) rfl
theorem q202 : (Jvm.Cond.fieldLink "BitingDoors$Reader" (96 : Nat) "BitingDoors$Fault" "kind" "I") ∈ lw_all := lw_g (lw_at lw_m1 94 rfl) rfl
theorem q204 : (Jvm.Cond.fieldLink "BitingDoors$Reader" (101 : Nat) "BitingDoors$Fault" "place" "I") ∈ lw_all := lw_g (lw_at lw_m1 96 rfl) rfl
theorem q278 : (Jvm.Cond.fieldLinkNest "BitingDoors$Reader" (117 : Nat) "BitingDoors$House" "doors" "[LBitingDoors$Door;" "BitingDoors") ∈ lw_tbl := lw_at lw_m1 170 rfl
theorem q290 : (Jvm.Cond.fieldLinkNest "BitingDoors$Reader" (114 : Nat) "BitingDoors$House" "many" "I" "BitingDoors") ∈ lw_tbl := lw_at lw_m1 182 rfl
theorem q382 : (Jvm.Cond.instanceMethod ({ cls := "BitingDoors$Reader", name := "<init>", desc := "(LBitingDoors;I)V" } : Jvm.MethodName)) ∈ lw_all := lw_g (lw_at lw_m2 34 rfl) rfl
theorem q383 : (Jvm.Cond.code ({ cls := "BitingDoors$Reader", name := "<init>", desc := "(LBitingDoors;I)V" } : Jvm.MethodName) prog_18_method_1_code (3 : Nat) (Option.none : Option Jvm.ClassFile.FieldType)) ∈ lw_all := lw_g (lw_at lw_m2 35 rfl) rfl
theorem q384 : (Jvm.Cond.methodLink "BitingDoors$Reader" (9 : Nat) ({ cls := "java/lang/Object", name := "<init>", desc := "()V" } : Jvm.MethodName)) ∈ lw_all := lw_g (lw_at lw_m2 36 rfl) rfl
theorem q387 : (Jvm.Cond.fieldLink "BitingDoors$Reader" (15 : Nat) "BitingDoors$Reader" "most" "I") ∈ lw_all := lw_g (lw_at lw_m2 39 rfl) rfl
theorem q388 : (Jvm.Cond.fieldLink "BitingDoors$Reader" (19 : Nat) "BitingDoors$Reader" "p" "I") ∈ lw_all := lw_g (lw_at lw_m2 40 rfl) rfl
theorem q391 : (Jvm.Cond.fieldLink "BitingDoors$Reader" (40 : Nat) "BitingDoors$Reader" "at" "I") ∈ lw_all := lw_g (lw_at lw_m2 43 rfl) rfl
theorem q398 : (Jvm.Cond.fieldLink "BitingDoors$Reader" (43 : Nat) "BitingDoors$Reader" "token" "I") ∈ lw_all := lw_g (lw_at lw_m2 50 rfl) rfl
theorem q403 : (Jvm.Cond.fieldLink "BitingDoors$Reader" (57 : Nat) "BitingDoors$Reader" "value" "I") ∈ lw_all := lw_g (lw_at lw_m2 55 rfl) rfl
theorem q406 : (Jvm.Cond.fieldLink "BitingDoors$Reader" (64 : Nat) "BitingDoors$Reader" "many" "I") ∈ lw_all := lw_g (lw_at lw_m2 58 rfl) rfl
theorem q409 : (Jvm.Cond.fieldLink "BitingDoors$Reader" (60 : Nat) "BitingDoors$Reader" "name" "J") ∈ lw_all := lw_g (lw_at lw_m2 61 rfl) rfl
theorem q410 : (Jvm.Cond.fieldLink "BitingDoors$Reader" (3 : Nat) "BitingDoors$Reader" "this$0" "LBitingDoors;") ∈ lw_all := lw_g (lw_at lw_m2 62 rfl) rfl
theorem q416 : (Jvm.Cond.soleField "BitingDoors$Reader" "most") ∈ lw_all := lw_g (lw_at lw_m2 68 rfl) rfl
theorem q418 : (Jvm.Cond.soleField "BitingDoors$Reader" "p") ∈ lw_all := lw_g (lw_at lw_m2 70 rfl) rfl
theorem q420 : (Jvm.Cond.soleField "BitingDoors$Reader" "at") ∈ lw_all := lw_g (lw_at lw_m2 72 rfl) rfl
theorem q422 : (Jvm.Cond.soleField "BitingDoors$Reader" "token") ∈ lw_all := lw_g (lw_at lw_m2 74 rfl) rfl
theorem q424 : (Jvm.Cond.soleField "BitingDoors$Reader" "value") ∈ lw_all := lw_g (lw_at lw_m2 76 rfl) rfl
theorem q426 : (Jvm.Cond.soleField "BitingDoors$Reader" "many") ∈ lw_all := lw_g (lw_at lw_m2 78 rfl) rfl
theorem q428 : (Jvm.Cond.soleField "BitingDoors$Reader" "name") ∈ lw_all := lw_g (lw_at lw_m2 80 rfl) rfl
theorem q430 : (Jvm.Cond.soleField "BitingDoors$Reader" "this$0") ∈ lw_all := lw_g (lw_at lw_m2 82 rfl) rfl
theorem q493 : (Jvm.Cond.fieldLinkNest "BitingDoors$Reader" (28 : Nat) "BitingDoors" "tape" "[B" "BitingDoors") ∈ lw_tbl := lw_at lw_m2 145 rfl
theorem q496 : (Jvm.Cond.fieldLinkNest "BitingDoors$Reader" (25 : Nat) "BitingDoors" "size" "I" "BitingDoors") ∈ lw_tbl := lw_at lw_m2 148 rfl
theorem q499 : (Jvm.Cond.fieldLinkNest "BitingDoors$Reader" (92 : Nat) "BitingDoors" "broken" "LBitingDoors$Fault;" "BitingDoors") ∈ lw_tbl := lw_at lw_m2 151 rfl
theorem q501 : (Jvm.Cond.fieldLinkNest "BitingDoors$Reader" (80 : Nat) "BitingDoors" "words" "[Ljava/lang/String;" "BitingDoors") ∈ lw_tbl := lw_at lw_m2 153 rfl
theorem q668 : (Jvm.Cond.declares ({ cls := "BitingDoors$Reader", name := "begin", desc := "()V" } : Jvm.MethodName)) ∈ lw_tbl := lw_at lw_m3 80 rfl
theorem q670 : (Jvm.Cond.instanceMethod ({ cls := "BitingDoors$Reader", name := "begin", desc := "()V" } : Jvm.MethodName)) ∈ lw_all := lw_g (lw_at lw_m3 82 rfl) rfl
theorem q671 : (Jvm.Cond.code ({ cls := "BitingDoors$Reader", name := "begin", desc := "()V" } : Jvm.MethodName) prog_18_method_2_code (1 : Nat) (Option.none : Option Jvm.ClassFile.FieldType)) ∈ lw_all := lw_g (lw_at lw_m3 83 rfl) rfl
theorem q672 : (Jvm.Cond.methodLink "BitingDoors$Reader" (22 : Nat) ({ cls := "BitingDoors$Reader", name := "next", desc := "()V" } : Jvm.MethodName)) ∈ lw_all := lw_g (lw_at lw_m3 84 rfl) rfl
theorem q673 : (Jvm.Cond.instanceMethod ({ cls := "BitingDoors$Reader", name := "next", desc := "()V" } : Jvm.MethodName)) ∈ lw_all := lw_g (lw_at lw_m3 85 rfl) rfl
theorem q674 : (Jvm.Cond.sameMethod "BitingDoors$Reader" "BitingDoors$Reader" "next" "()V") ∈ lw_all := lw_g (lw_at lw_m3 86 rfl) rfl
theorem q678 : (Jvm.Cond.code ({ cls := "BitingDoors$Reader", name := "next", desc := "()V" } : Jvm.MethodName) prog_18_method_6_code (2 : Nat) (Option.none : Option Jvm.ClassFile.FieldType)) ∈ lw_all := lw_g (lw_at lw_m3 90 rfl) rfl
theorem q679 : (Jvm.Cond.methodLink "BitingDoors$Reader" (36 : Nat) ({ cls := "BitingDoors$Reader", name := "peek", desc := "()I" } : Jvm.MethodName)) ∈ lw_all := lw_g (lw_at lw_m3 91 rfl) rfl
theorem q680 : (Jvm.Cond.privateMethod ({ cls := "BitingDoors$Reader", name := "peek", desc := "()I" } : Jvm.MethodName)) ∈ lw_tbl := lw_at lw_m3 92 rfl
theorem q681 : (Jvm.Cond.instanceMethod ({ cls := "BitingDoors$Reader", name := "peek", desc := "()I" } : Jvm.MethodName)) ∈ lw_all := lw_g (lw_at lw_m3 93 rfl) rfl
theorem q682 : (Jvm.Cond.code ({ cls := "BitingDoors$Reader", name := "peek", desc := "()I" } : Jvm.MethodName) prog_18_method_3_code (1 : Nat) (Option.some Jvm.ClassFile.FieldType.int)) ∈ lw_all := lw_g (lw_at lw_m3 94 rfl) rfl
theorem q683 : (Jvm.Cond.methodLink "BitingDoors$Reader" (46 : Nat) ({ cls := "BitingDoors$Reader", name := "isLetter", desc := "(I)Z" } : Jvm.MethodName)) ∈ lw_all := lw_g (lw_at lw_m3 95 rfl) rfl
theorem q684 : (Jvm.Cond.privateMethod ({ cls := "BitingDoors$Reader", name := "isLetter", desc := "(I)Z" } : Jvm.MethodName)) ∈ lw_tbl := lw_at lw_m3 96 rfl
theorem q685 : (Jvm.Cond.instanceMethod ({ cls := "BitingDoors$Reader", name := "isLetter", desc := "(I)Z" } : Jvm.MethodName)) ∈ lw_all := lw_g (lw_at lw_m3 97 rfl) rfl
theorem q686 : (Jvm.Cond.code ({ cls := "BitingDoors$Reader", name := "isLetter", desc := "(I)Z" } : Jvm.MethodName) prog_18_method_4_code (2 : Nat) (Option.some Jvm.ClassFile.FieldType.boolean)) ∈ lw_all := lw_g (lw_at lw_m3 98 rfl) rfl
theorem q687 : (Jvm.Cond.methodLinkNest "BitingDoors$Reader" (32 : Nat) ({ cls := "BitingDoors", name := "isIn", desc := "(III)Z" } : Jvm.MethodName) "BitingDoors") ∈ lw_tbl := lw_at lw_m3 99 rfl
theorem q690 : (Jvm.Cond.methodLink "BitingDoors$Reader" (50 : Nat) ({ cls := "BitingDoors$Reader", name := "isDigit", desc := "(I)Z" } : Jvm.MethodName)) ∈ lw_all := lw_g (lw_at lw_m3 102 rfl) rfl
theorem q691 : (Jvm.Cond.privateMethod ({ cls := "BitingDoors$Reader", name := "isDigit", desc := "(I)Z" } : Jvm.MethodName)) ∈ lw_tbl := lw_at lw_m3 103 rfl
theorem q692 : (Jvm.Cond.instanceMethod ({ cls := "BitingDoors$Reader", name := "isDigit", desc := "(I)Z" } : Jvm.MethodName)) ∈ lw_all := lw_g (lw_at lw_m3 104 rfl) rfl
theorem q693 : (Jvm.Cond.code ({ cls := "BitingDoors$Reader", name := "isDigit", desc := "(I)Z" } : Jvm.MethodName) prog_18_method_5_code (2 : Nat) (Option.some Jvm.ClassFile.FieldType.boolean)) ∈ lw_all := lw_g (lw_at lw_m3 105 rfl) rfl
theorem q694 : (Jvm.Cond.methodLink "BitingDoors$Reader" (53 : Nat) ({ cls := "BitingDoors$Reader", name := "run", desc := "(Z)V" } : Jvm.MethodName)) ∈ lw_all := lw_g (lw_at lw_m3 106 rfl) rfl
theorem q695 : (Jvm.Cond.privateMethod ({ cls := "BitingDoors$Reader", name := "run", desc := "(Z)V" } : Jvm.MethodName)) ∈ lw_tbl := lw_at lw_m3 107 rfl
theorem q696 : (Jvm.Cond.instanceMethod ({ cls := "BitingDoors$Reader", name := "run", desc := "(Z)V" } : Jvm.MethodName)) ∈ lw_all := lw_g (lw_at lw_m3 108 rfl) rfl
theorem q697 : (Jvm.Cond.code ({ cls := "BitingDoors$Reader", name := "run", desc := "(Z)V" } : Jvm.MethodName) prog_18_method_7_code (3 : Nat) (Option.none : Option Jvm.ClassFile.FieldType)) ∈ lw_all := lw_g (lw_at lw_m3 109 rfl) rfl
theorem q700 : (Jvm.Cond.declares ({ cls := "BitingDoors$Reader", name := "find", desc := "([Ljava/lang/String;)I" } : Jvm.MethodName)) ∈ lw_tbl := lw_at lw_m3 112 rfl
theorem q702 : (Jvm.Cond.instanceMethod ({ cls := "BitingDoors$Reader", name := "find", desc := "([Ljava/lang/String;)I" } : Jvm.MethodName)) ∈ lw_all := lw_g (lw_at lw_m3 114 rfl) rfl
theorem q703 : (Jvm.Cond.code ({ cls := "BitingDoors$Reader", name := "find", desc := "([Ljava/lang/String;)I" } : Jvm.MethodName) prog_18_method_9_code (3 : Nat) (Option.some Jvm.ClassFile.FieldType.int)) ∈ lw_all := lw_g (lw_at lw_m3 115 rfl) rfl
theorem q704 : (Jvm.Cond.methodLink "BitingDoors$Reader" (76 : Nat) ({ cls := "BitingDoors$Reader", name := "is", desc := "(Ljava/lang/String;)Z" } : Jvm.MethodName)) ∈ lw_all := lw_g (lw_at lw_m3 116 rfl) rfl
theorem q705 : (Jvm.Cond.instanceMethod ({ cls := "BitingDoors$Reader", name := "is", desc := "(Ljava/lang/String;)Z" } : Jvm.MethodName)) ∈ lw_all := lw_g (lw_at lw_m3 117 rfl) rfl
theorem q706 : (Jvm.Cond.sameMethod "BitingDoors$Reader" "BitingDoors$Reader" "is" "(Ljava/lang/String;)Z") ∈ lw_all := lw_g (lw_at lw_m3 118 rfl) rfl
theorem q710 : (Jvm.Cond.code ({ cls := "BitingDoors$Reader", name := "is", desc := "(Ljava/lang/String;)Z" } : Jvm.MethodName) prog_18_method_8_code (3 : Nat) (Option.some Jvm.ClassFile.FieldType.boolean)) ∈ lw_all := lw_g (lw_at lw_m3 122 rfl) rfl
theorem q711 : (Jvm.Cond.methodLink "BitingDoors$Reader" (67 : Nat) ({ cls := "java/lang/String", name := "length", desc := "()I" } : Jvm.MethodName)) ∈ lw_all := lw_g (lw_at lw_m3 123 rfl) rfl
theorem q721 : (Jvm.Cond.methodLink "BitingDoors$Reader" (72 : Nat) ({ cls := "java/lang/String", name := "charAt", desc := "(I)C" } : Jvm.MethodName)) ∈ lw_all := lw_g (lw_at lw_m3 133 rfl) rfl
theorem q761 : (Jvm.Cond.declares ({ cls := "BitingDoors$Reader", name := "must", desc := "(ZI)V" } : Jvm.MethodName)) ∈ lw_tbl := lw_at lw_m3 173 rfl
theorem q763 : (Jvm.Cond.instanceMethod ({ cls := "BitingDoors$Reader", name := "must", desc := "(ZI)V" } : Jvm.MethodName)) ∈ lw_all := lw_g (lw_at lw_m3 175 rfl) rfl
theorem q764 : (Jvm.Cond.code ({ cls := "BitingDoors$Reader", name := "must", desc := "(ZI)V" } : Jvm.MethodName) prog_18_method_13_code (3 : Nat) (Option.none : Option Jvm.ClassFile.FieldType)) ∈ lw_all := lw_g (lw_at lw_m3 176 rfl) rfl
theorem q765 : (Jvm.Cond.methodLink "BitingDoors$Reader" (104 : Nat) ({ cls := "BitingDoors$Reader", name := "wrong", desc := "(I)LBitingDoors$Fault;" } : Jvm.MethodName)) ∈ lw_all := lw_g (lw_at lw_m3 177 rfl) rfl
theorem q766 : (Jvm.Cond.instanceMethod ({ cls := "BitingDoors$Reader", name := "wrong", desc := "(I)LBitingDoors$Fault;" } : Jvm.MethodName)) ∈ lw_all := lw_g (lw_at lw_m3 178 rfl) rfl
theorem q767 : (Jvm.Cond.sameMethod "BitingDoors$Reader" "BitingDoors$Reader" "wrong" "(I)LBitingDoors$Fault;") ∈ lw_all := lw_g (lw_at lw_m3 179 rfl) rfl
theorem q771 : (Jvm.Cond.code ({ cls := "BitingDoors$Reader", name := "wrong", desc := "(I)LBitingDoors$Fault;" } : Jvm.MethodName) prog_18_method_12_code (2 : Nat) (Option.some (Jvm.ClassFile.FieldType.object "BitingDoors$Fault"))) ∈ lw_all := lw_g (lw_at lw_m3 183 rfl) rfl
theorem q774 : (Jvm.Cond.declares ({ cls := "BitingDoors$Reader", name := "next", desc := "()V" } : Jvm.MethodName)) ∈ lw_tbl := lw_at lw_m3 186 rfl
theorem q786 : (Jvm.Cond.declares ({ cls := "BitingDoors$Reader", name := "areCells", desc := "()Z" } : Jvm.MethodName)) ∈ lw_tbl := lw_at lw_m3 198 rfl
theorem q788 : (Jvm.Cond.instanceMethod ({ cls := "BitingDoors$Reader", name := "areCells", desc := "()Z" } : Jvm.MethodName)) ∈ lw_all := lw_g (lw_at lw_m3 200 rfl) rfl
theorem q789 : (Jvm.Cond.code ({ cls := "BitingDoors$Reader", name := "areCells", desc := "()Z" } : Jvm.MethodName) prog_18_method_10_code (2 : Nat) (Option.some Jvm.ClassFile.FieldType.boolean)) ∈ lw_all := lw_g (lw_at lw_m3 201 rfl) rfl
theorem q796 : (Jvm.Cond.declares ({ cls := "BitingDoors$Reader", name := "isName", desc := "()Z" } : Jvm.MethodName)) ∈ lw_tbl := lw_at lw_m3 208 rfl
theorem q798 : (Jvm.Cond.instanceMethod ({ cls := "BitingDoors$Reader", name := "isName", desc := "()Z" } : Jvm.MethodName)) ∈ lw_all := lw_g (lw_at lw_m3 210 rfl) rfl
theorem q799 : (Jvm.Cond.code ({ cls := "BitingDoors$Reader", name := "isName", desc := "()Z" } : Jvm.MethodName) prog_18_method_11_code (1 : Nat) (Option.some Jvm.ClassFile.FieldType.boolean)) ∈ lw_all := lw_g (lw_at lw_m3 211 rfl) rfl
theorem q800 : (Jvm.Cond.methodLink "BitingDoors$Reader" (84 : Nat) ({ cls := "BitingDoors$Reader", name := "find", desc := "([Ljava/lang/String;)I" } : Jvm.MethodName)) ∈ lw_all := lw_g (lw_at lw_m3 212 rfl) rfl
theorem q801 : (Jvm.Cond.methodLink "BitingDoors$Reader" (88 : Nat) ({ cls := "BitingDoors$Reader", name := "areCells", desc := "()Z" } : Jvm.MethodName)) ∈ lw_all := lw_g (lw_at lw_m3 213 rfl) rfl
theorem q804 : (Jvm.Cond.declares ({ cls := "BitingDoors$Reader", name := "of", desc := "(LBitingDoors$House;)I" } : Jvm.MethodName)) ∈ lw_tbl := lw_at lw_m3 216 rfl
theorem q806 : (Jvm.Cond.instanceMethod ({ cls := "BitingDoors$Reader", name := "of", desc := "(LBitingDoors$House;)I" } : Jvm.MethodName)) ∈ lw_all := lw_g (lw_at lw_m3 218 rfl) rfl
theorem q807 : (Jvm.Cond.code ({ cls := "BitingDoors$Reader", name := "of", desc := "(LBitingDoors$House;)I" } : Jvm.MethodName) prog_18_method_17_code (3 : Nat) (Option.some Jvm.ClassFile.FieldType.int)) ∈ lw_all := lw_g (lw_at lw_m3 219 rfl) rfl
theorem q810 : (Jvm.Cond.declares ({ cls := "BitingDoors$Reader", name := "number", desc := "(II)I" } : Jvm.MethodName)) ∈ lw_tbl := lw_at lw_m3 222 rfl
theorem q812 : (Jvm.Cond.instanceMethod ({ cls := "BitingDoors$Reader", name := "number", desc := "(II)I" } : Jvm.MethodName)) ∈ lw_all := lw_g (lw_at lw_m3 224 rfl) rfl
theorem q813 : (Jvm.Cond.code ({ cls := "BitingDoors$Reader", name := "number", desc := "(II)I" } : Jvm.MethodName) prog_18_method_16_code (4 : Nat) (Option.some Jvm.ClassFile.FieldType.int)) ∈ lw_all := lw_g (lw_at lw_m3 225 rfl) rfl
theorem q814 : (Jvm.Cond.methodLink "BitingDoors$Reader" (110 : Nat) ({ cls := "BitingDoors$Reader", name := "must", desc := "(ZI)V" } : Jvm.MethodName)) ∈ lw_all := lw_g (lw_at lw_m3 226 rfl) rfl
theorem q818 : (Jvm.Cond.declares ({ cls := "BitingDoors$Reader", name := "is", desc := "(Ljava/lang/String;)Z" } : Jvm.MethodName)) ∈ lw_tbl := lw_at lw_m3 230 rfl
theorem q840 : (Jvm.Cond.fieldLinkNest "BitingDoors$Reader" (121 : Nat) "BitingDoors$Door" "name" "J" "BitingDoors") ∈ lw_tbl := lw_at lw_m4 12 rfl
theorem q909 : (Jvm.Cond.declares ({ cls := "BitingDoors$Reader", name := "sign", desc := "(I)V" } : Jvm.MethodName)) ∈ lw_tbl := lw_at lw_m4 81 rfl
theorem q911 : (Jvm.Cond.instanceMethod ({ cls := "BitingDoors$Reader", name := "sign", desc := "(I)V" } : Jvm.MethodName)) ∈ lw_all := lw_g (lw_at lw_m4 83 rfl) rfl
theorem q912 : (Jvm.Cond.code ({ cls := "BitingDoors$Reader", name := "sign", desc := "(I)V" } : Jvm.MethodName) prog_18_method_15_code (2 : Nat) (Option.none : Option Jvm.ClassFile.FieldType)) ∈ lw_all := lw_g (lw_at lw_m4 84 rfl) rfl
theorem q913 : (Jvm.Cond.methodLink "BitingDoors$Reader" (108 : Nat) ({ cls := "BitingDoors$Reader", name := "is", desc := "(I)Z" } : Jvm.MethodName)) ∈ lw_all := lw_g (lw_at lw_m4 85 rfl) rfl
theorem q914 : (Jvm.Cond.instanceMethod ({ cls := "BitingDoors$Reader", name := "is", desc := "(I)Z" } : Jvm.MethodName)) ∈ lw_all := lw_g (lw_at lw_m4 86 rfl) rfl
theorem q915 : (Jvm.Cond.sameMethod "BitingDoors$Reader" "BitingDoors$Reader" "is" "(I)Z") ∈ lw_all := lw_g (lw_at lw_m4 87 rfl) rfl
theorem q919 : (Jvm.Cond.code ({ cls := "BitingDoors$Reader", name := "is", desc := "(I)Z" } : Jvm.MethodName) prog_18_method_14_code (2 : Nat) (Option.some Jvm.ClassFile.FieldType.boolean)) ∈ lw_all := lw_g (lw_at lw_m4 91 rfl) rfl
theorem q1064 : (Jvm.Cond.declares ({ cls := "BitingDoors$Reader", name := "known", desc := "(LBitingDoors$House;)I" } : Jvm.MethodName)) ∈ lw_tbl := lw_at lw_m4 236 rfl
theorem q1066 : (Jvm.Cond.instanceMethod ({ cls := "BitingDoors$Reader", name := "known", desc := "(LBitingDoors$House;)I" } : Jvm.MethodName)) ∈ lw_all := lw_g (lw_at lw_m4 238 rfl) rfl
theorem q1067 : (Jvm.Cond.code ({ cls := "BitingDoors$Reader", name := "known", desc := "(LBitingDoors$House;)I" } : Jvm.MethodName) prog_18_method_18_code (3 : Nat) (Option.some Jvm.ClassFile.FieldType.int)) ∈ lw_all := lw_g (lw_at lw_m4 239 rfl) rfl
theorem q1068 : (Jvm.Cond.methodLink "BitingDoors$Reader" (124 : Nat) ({ cls := "BitingDoors$Reader", name := "isName", desc := "()Z" } : Jvm.MethodName)) ∈ lw_all := lw_g (lw_at lw_m5 0 rfl) rfl
theorem q1069 : (Jvm.Cond.methodLink "BitingDoors$Reader" (127 : Nat) ({ cls := "BitingDoors$Reader", name := "of", desc := "(LBitingDoors$House;)I" } : Jvm.MethodName)) ∈ lw_all := lw_g (lw_at lw_m5 1 rfl) rfl
theorem q1461 : (Jvm.Cond.declares ({ cls := "BitingDoors$Reader", name := "is", desc := "(I)Z" } : Jvm.MethodName)) ∈ lw_tbl := lw_at lw_m6 153 rfl
theorem q2341 : (Jvm.Cond.sameMethod "BitingDoors$Reader" "BitingDoors$Reader" "peek" "()I") ∈ lw_all := lw_g (lw_at lw_m10 73 rfl) rfl
theorem q2342 : (Jvm.Cond.sameMethod "BitingDoors$Reader" "BitingDoors$Reader" "isLetter" "(I)Z") ∈ lw_all := lw_g (lw_at lw_m10 74 rfl) rfl
theorem q2343 : (Jvm.Cond.sameMethod "BitingDoors$Reader" "BitingDoors$Reader" "isDigit" "(I)Z") ∈ lw_all := lw_g (lw_at lw_m10 75 rfl) rfl
theorem q2344 : (Jvm.Cond.sameMethod "BitingDoors$Reader" "BitingDoors$Reader" "run" "(Z)V") ∈ lw_all := lw_g (lw_at lw_m10 76 rfl) rfl
theorem q2345 : (Jvm.Cond.sameMethod "BitingDoors$Reader" "BitingDoors$Reader" "find" "([Ljava/lang/String;)I") ∈ lw_all := lw_g (lw_at lw_m10 77 rfl) rfl
theorem q2349 : (Jvm.Cond.sameMethod "BitingDoors$Reader" "BitingDoors$Reader" "areCells" "()Z") ∈ lw_all := lw_g (lw_at lw_m10 81 rfl) rfl
theorem q2353 : (Jvm.Cond.sameMethod "BitingDoors$Reader" "BitingDoors$Reader" "must" "(ZI)V") ∈ lw_all := lw_g (lw_at lw_m10 85 rfl) rfl
theorem q2357 : (Jvm.Cond.sameMethod "BitingDoors$Reader" "BitingDoors$Reader" "isName" "()Z") ∈ lw_all := lw_g (lw_at lw_m10 89 rfl) rfl
theorem q2361 : (Jvm.Cond.sameMethod "BitingDoors$Reader" "BitingDoors$Reader" "of" "(LBitingDoors$House;)I") ∈ lw_all := lw_g (lw_at lw_m10 93 rfl) rfl
theorem q117 : (Jvm.Cond.initialized "BitingDoors$HouseReader") ∈ lw_all := lw_g (lw_at lw_m1 9 rfl) rfl
theorem q266 : (Jvm.Cond.fieldLinkNest "BitingDoors$HouseReader" (85 : Nat) "BitingDoors$House" "cells" "[I" "BitingDoors") ∈ lw_tbl := lw_at lw_m1 158 rfl
theorem q269 : (Jvm.Cond.fieldLinkNest "BitingDoors$HouseReader" (165 : Nat) "BitingDoors$House" "draughts" "[I" "BitingDoors") ∈ lw_tbl := lw_at lw_m1 161 rfl
theorem q276 : (Jvm.Cond.fieldLinkNest "BitingDoors$HouseReader" (158 : Nat) "BitingDoors$House" "doors" "[LBitingDoors$Door;" "BitingDoors") ∈ lw_tbl := lw_at lw_m1 168 rfl
theorem q281 : (Jvm.Cond.fieldLinkNest "BitingDoors$HouseReader" (75 : Nat) "BitingDoors$House" "columns" "I" "BitingDoors") ∈ lw_tbl := lw_at lw_m1 173 rfl
theorem q284 : (Jvm.Cond.fieldLinkNest "BitingDoors$HouseReader" (44 : Nat) "BitingDoors$House" "rows" "I" "BitingDoors") ∈ lw_tbl := lw_at lw_m1 176 rfl
theorem q287 : (Jvm.Cond.fieldLinkNest "BitingDoors$HouseReader" (47 : Nat) "BitingDoors$House" "many" "I" "BitingDoors") ∈ lw_tbl := lw_at lw_m1 179 rfl
theorem q291 : (Jvm.Cond.fieldLinkNest "BitingDoors$HouseReader" (50 : Nat) "BitingDoors$House" "draughtMany" "I" "BitingDoors") ∈ lw_tbl := lw_at lw_m1 183 rfl
theorem q295 : (Jvm.Cond.fieldLinkNest "BitingDoors$HouseReader" (39 : Nat) "BitingDoors$House" "bed" "I" "BitingDoors") ∈ lw_tbl := lw_at lw_m1 187 rfl
theorem q377 : (Jvm.Cond.instantiable "BitingDoors$HouseReader" (10 : Nat)) ∈ lw_all := lw_g (lw_at lw_m2 29 rfl) rfl
theorem q379 : (Jvm.Cond.instanceMethod ({ cls := "BitingDoors$HouseReader", name := "<init>", desc := "(LBitingDoors;)V" } : Jvm.MethodName)) ∈ lw_all := lw_g (lw_at lw_m2 31 rfl) rfl
theorem q380 : (Jvm.Cond.code ({ cls := "BitingDoors$HouseReader", name := "<init>", desc := "(LBitingDoors;)V" } : Jvm.MethodName) prog_15_method_1_code (2 : Nat) (Option.none : Option Jvm.ClassFile.FieldType)) ∈ lw_all := lw_g (lw_at lw_m2 32 rfl) rfl
theorem q381 : (Jvm.Cond.methodLink "BitingDoors$HouseReader" (9 : Nat) ({ cls := "BitingDoors$Reader", name := "<init>", desc := "(LBitingDoors;I)V" } : Jvm.MethodName)) ∈ lw_all := lw_g (lw_at lw_m2 33 rfl) rfl
theorem q385 : (Jvm.Cond.fieldLink "BitingDoors$HouseReader" (15 : Nat) "BitingDoors$HouseReader" "x" "LBitingDoors$House;") ∈ lw_all := lw_g (lw_at lw_m2 37 rfl) rfl
theorem q386 : (Jvm.Cond.fieldLink "BitingDoors$HouseReader" (3 : Nat) "BitingDoors$HouseReader" "this$0" "LBitingDoors;") ∈ lw_all := lw_g (lw_at lw_m2 38 rfl) rfl
theorem q389 : (Jvm.Cond.fieldLink "BitingDoors$HouseReader" (98 : Nat) "BitingDoors$HouseReader" "at" "I") ∈ lw_all := lw_g (lw_at lw_m2 41 rfl) rfl
theorem q390 : (Jvm.Cond.sameField "BitingDoors$HouseReader" "BitingDoors$Reader" "at" "I") ∈ lw_all := lw_g (lw_at lw_m2 42 rfl) rfl
theorem q392 : (Jvm.Cond.fieldLink "BitingDoors$HouseReader" (23 : Nat) "BitingDoors$HouseReader" "token" "I") ∈ lw_all := lw_g (lw_at lw_m2 44 rfl) rfl
theorem q393 : (Jvm.Cond.sameField "BitingDoors$HouseReader" "BitingDoors$Reader" "token" "I") ∈ lw_all := lw_g (lw_at lw_m2 45 rfl) rfl
theorem q399 : (Jvm.Cond.fieldLink "BitingDoors$HouseReader" (82 : Nat) "BitingDoors$HouseReader" "value" "I") ∈ lw_all := lw_g (lw_at lw_m2 51 rfl) rfl
theorem q400 : (Jvm.Cond.sameField "BitingDoors$HouseReader" "BitingDoors$Reader" "value" "I") ∈ lw_all := lw_g (lw_at lw_m2 52 rfl) rfl
theorem q404 : (Jvm.Cond.fieldLink "BitingDoors$HouseReader" (93 : Nat) "BitingDoors$HouseReader" "many" "I") ∈ lw_all := lw_g (lw_at lw_m2 56 rfl) rfl
theorem q405 : (Jvm.Cond.sameField "BitingDoors$HouseReader" "BitingDoors$Reader" "many" "I") ∈ lw_all := lw_g (lw_at lw_m2 57 rfl) rfl
theorem q407 : (Jvm.Cond.fieldLink "BitingDoors$HouseReader" (108 : Nat) "BitingDoors$HouseReader" "name" "J") ∈ lw_all := lw_g (lw_at lw_m2 59 rfl) rfl
theorem q408 : (Jvm.Cond.sameField "BitingDoors$HouseReader" "BitingDoors$Reader" "name" "J") ∈ lw_all := lw_g (lw_at lw_m2 60 rfl) rfl
theorem q411 : (Jvm.Cond.lays "BitingDoors$HouseReader" "BitingDoors$HouseReader" "x" "LBitingDoors$House;") ∈ lw_all := lw_g (lw_at lw_m2 63 rfl) rfl
theorem q412 : (Jvm.Cond.soleField "BitingDoors$HouseReader" "x") ∈ lw_all := lw_g (lw_at lw_m2 64 rfl) rfl
theorem q413 : (Jvm.Cond.laysFinal "BitingDoors$HouseReader" "BitingDoors$HouseReader" "this$0" "LBitingDoors;") ∈ lw_all := lw_g (lw_at lw_m2 65 rfl) rfl
theorem q414 : (Jvm.Cond.soleField "BitingDoors$HouseReader" "this$0") ∈ lw_all := lw_g (lw_at lw_m2 66 rfl) rfl
theorem q415 : (Jvm.Cond.laysFinal "BitingDoors$HouseReader" "BitingDoors$Reader" "most" "I") ∈ lw_all := lw_g (lw_at lw_m2 67 rfl) rfl
theorem q417 : (Jvm.Cond.lays "BitingDoors$HouseReader" "BitingDoors$Reader" "p" "I") ∈ lw_all := lw_g (lw_at lw_m2 69 rfl) rfl
theorem q419 : (Jvm.Cond.lays "BitingDoors$HouseReader" "BitingDoors$Reader" "at" "I") ∈ lw_all := lw_g (lw_at lw_m2 71 rfl) rfl
theorem q421 : (Jvm.Cond.lays "BitingDoors$HouseReader" "BitingDoors$Reader" "token" "I") ∈ lw_all := lw_g (lw_at lw_m2 73 rfl) rfl
theorem q423 : (Jvm.Cond.lays "BitingDoors$HouseReader" "BitingDoors$Reader" "value" "I") ∈ lw_all := lw_g (lw_at lw_m2 75 rfl) rfl
theorem q425 : (Jvm.Cond.lays "BitingDoors$HouseReader" "BitingDoors$Reader" "many" "I") ∈ lw_all := lw_g (lw_at lw_m2 77 rfl) rfl
theorem q427 : (Jvm.Cond.lays "BitingDoors$HouseReader" "BitingDoors$Reader" "name" "J") ∈ lw_all := lw_g (lw_at lw_m2 79 rfl) rfl
theorem q429 : (Jvm.Cond.laysFinal "BitingDoors$HouseReader" "BitingDoors$Reader" "this$0" "LBitingDoors;") ∈ lw_all := lw_g (lw_at lw_m2 81 rfl) rfl
theorem q431 : (Jvm.Cond.superclass "BitingDoors$HouseReader" "BitingDoors$Reader") ∈ lw_all := lw_g (lw_at lw_m2 83 rfl) rfl
theorem q494 : (Jvm.Cond.fieldLinkNest "BitingDoors$HouseReader" (94 : Nat) "BitingDoors" "tape" "[B" "BitingDoors") ∈ lw_tbl := lw_at lw_m2 146 rfl
theorem q503 : (Jvm.Cond.fieldLinkNest "BitingDoors$HouseReader" (27 : Nat) "BitingDoors" "lines" "[Ljava/lang/String;" "BitingDoors") ∈ lw_tbl := lw_at lw_m2 155 rfl
theorem q663 : (Jvm.Cond.instanceMethod ({ cls := "BitingDoors$HouseReader", name := "read", desc := "(LBitingDoors$House;)I" } : Jvm.MethodName)) ∈ lw_all := lw_g (lw_at lw_m3 75 rfl) rfl
theorem q664 : (Jvm.Cond.selects "BitingDoors$HouseReader" ({ cls := "BitingDoors$HouseReader", name := "read", desc := "(LBitingDoors$House;)I" } : Jvm.MethodName) ({ cls := "BitingDoors$HouseReader", name := "read", desc := "(LBitingDoors$House;)I" } : Jvm.MethodName)) ∈ lw_all := lw_g (lw_at lw_m3 76 rfl) rfl
theorem q665 : (Jvm.Cond.code ({ cls := "BitingDoors$HouseReader", name := "read", desc := "(LBitingDoors$House;)I" } : Jvm.MethodName) prog_15_method_2_code (4 : Nat) (Option.some Jvm.ClassFile.FieldType.int)) ∈ lw_all := lw_g (lw_at lw_m3 77 rfl) rfl
theorem q666 : (Jvm.Cond.methodLink "BitingDoors$HouseReader" (19 : Nat) ({ cls := "BitingDoors$HouseReader", name := "begin", desc := "()V" } : Jvm.MethodName)) ∈ lw_all := lw_g (lw_at lw_m3 78 rfl) rfl
theorem q667 : (Jvm.Cond.sameMethod "BitingDoors$HouseReader" "BitingDoors$Reader" "begin" "()V") ∈ lw_all := lw_g (lw_at lw_m3 79 rfl) rfl
theorem q669 : (Jvm.Cond.selects "BitingDoors$HouseReader" ({ cls := "BitingDoors$HouseReader", name := "begin", desc := "()V" } : Jvm.MethodName) ({ cls := "BitingDoors$Reader", name := "begin", desc := "()V" } : Jvm.MethodName)) ∈ lw_all := lw_g (lw_at lw_m3 81 rfl) rfl
theorem q676 : (Jvm.Cond.selects "BitingDoors$HouseReader" ({ cls := "BitingDoors$Reader", name := "next", desc := "()V" } : Jvm.MethodName) ({ cls := "BitingDoors$Reader", name := "next", desc := "()V" } : Jvm.MethodName)) ∈ lw_all := lw_g (lw_at lw_m3 88 rfl) rfl
theorem q698 : (Jvm.Cond.methodLink "BitingDoors$HouseReader" (31 : Nat) ({ cls := "BitingDoors$HouseReader", name := "find", desc := "([Ljava/lang/String;)I" } : Jvm.MethodName)) ∈ lw_all := lw_g (lw_at lw_m3 110 rfl) rfl
theorem q699 : (Jvm.Cond.sameMethod "BitingDoors$HouseReader" "BitingDoors$Reader" "find" "([Ljava/lang/String;)I") ∈ lw_all := lw_g (lw_at lw_m3 111 rfl) rfl
theorem q701 : (Jvm.Cond.selects "BitingDoors$HouseReader" ({ cls := "BitingDoors$HouseReader", name := "find", desc := "([Ljava/lang/String;)I" } : Jvm.MethodName) ({ cls := "BitingDoors$Reader", name := "find", desc := "([Ljava/lang/String;)I" } : Jvm.MethodName)) ∈ lw_all := lw_g (lw_at lw_m3 113 rfl) rfl
theorem q708 : (Jvm.Cond.selects "BitingDoors$HouseReader" ({ cls := "BitingDoors$Reader", name := "is", desc := "(Ljava/lang/String;)Z" } : Jvm.MethodName) ({ cls := "BitingDoors$Reader", name := "is", desc := "(Ljava/lang/String;)Z" } : Jvm.MethodName)) ∈ lw_all := lw_g (lw_at lw_m3 120 rfl) rfl
theorem q759 : (Jvm.Cond.methodLink "BitingDoors$HouseReader" (35 : Nat) ({ cls := "BitingDoors$HouseReader", name := "must", desc := "(ZI)V" } : Jvm.MethodName)) ∈ lw_all := lw_g (lw_at lw_m3 171 rfl) rfl
theorem q760 : (Jvm.Cond.sameMethod "BitingDoors$HouseReader" "BitingDoors$Reader" "must" "(ZI)V") ∈ lw_all := lw_g (lw_at lw_m3 172 rfl) rfl
theorem q762 : (Jvm.Cond.selects "BitingDoors$HouseReader" ({ cls := "BitingDoors$HouseReader", name := "must", desc := "(ZI)V" } : Jvm.MethodName) ({ cls := "BitingDoors$Reader", name := "must", desc := "(ZI)V" } : Jvm.MethodName)) ∈ lw_all := lw_g (lw_at lw_m3 174 rfl) rfl
theorem q769 : (Jvm.Cond.selects "BitingDoors$HouseReader" ({ cls := "BitingDoors$Reader", name := "wrong", desc := "(I)LBitingDoors$Fault;" } : Jvm.MethodName) ({ cls := "BitingDoors$Reader", name := "wrong", desc := "(I)LBitingDoors$Fault;" } : Jvm.MethodName)) ∈ lw_all := lw_g (lw_at lw_m3 181 rfl) rfl
theorem q772 : (Jvm.Cond.methodLink "BitingDoors$HouseReader" (53 : Nat) ({ cls := "BitingDoors$HouseReader", name := "next", desc := "()V" } : Jvm.MethodName)) ∈ lw_all := lw_g (lw_at lw_m3 184 rfl) rfl
theorem q773 : (Jvm.Cond.sameMethod "BitingDoors$HouseReader" "BitingDoors$Reader" "next" "()V") ∈ lw_all := lw_g (lw_at lw_m3 185 rfl) rfl
theorem q775 : (Jvm.Cond.selects "BitingDoors$HouseReader" ({ cls := "BitingDoors$HouseReader", name := "next", desc := "()V" } : Jvm.MethodName) ({ cls := "BitingDoors$Reader", name := "next", desc := "()V" } : Jvm.MethodName)) ∈ lw_all := lw_g (lw_at lw_m3 187 rfl) rfl
theorem q776 : (Jvm.Cond.methodLink "BitingDoors$HouseReader" (56 : Nat) ({ cls := "BitingDoors$HouseReader", name := "line", desc := "(I)V" } : Jvm.MethodName)) ∈ lw_all := lw_g (lw_at lw_m3 188 rfl) rfl
theorem q777 : (Jvm.Cond.privateMethod ({ cls := "BitingDoors$HouseReader", name := "line", desc := "(I)V" } : Jvm.MethodName)) ∈ lw_tbl := lw_at lw_m3 189 rfl
theorem q778 : (Jvm.Cond.instanceMethod ({ cls := "BitingDoors$HouseReader", name := "line", desc := "(I)V" } : Jvm.MethodName)) ∈ lw_all := lw_g (lw_at lw_m3 190 rfl) rfl
theorem q779 : (Jvm.Cond.code ({ cls := "BitingDoors$HouseReader", name := "line", desc := "(I)V" } : Jvm.MethodName) prog_15_method_3_code (3 : Nat) (Option.none : Option Jvm.ClassFile.FieldType)) ∈ lw_all := lw_g (lw_at lw_m3 191 rfl) rfl
theorem q780 : (Jvm.Cond.methodLink "BitingDoors$HouseReader" (66 : Nat) ({ cls := "BitingDoors$HouseReader", name := "row", desc := "()V" } : Jvm.MethodName)) ∈ lw_all := lw_g (lw_at lw_m3 192 rfl) rfl
theorem q781 : (Jvm.Cond.privateMethod ({ cls := "BitingDoors$HouseReader", name := "row", desc := "()V" } : Jvm.MethodName)) ∈ lw_tbl := lw_at lw_m3 193 rfl
theorem q782 : (Jvm.Cond.instanceMethod ({ cls := "BitingDoors$HouseReader", name := "row", desc := "()V" } : Jvm.MethodName)) ∈ lw_all := lw_g (lw_at lw_m3 194 rfl) rfl
theorem q783 : (Jvm.Cond.code ({ cls := "BitingDoors$HouseReader", name := "row", desc := "()V" } : Jvm.MethodName) prog_15_method_4_code (2 : Nat) (Option.none : Option Jvm.ClassFile.FieldType)) ∈ lw_all := lw_g (lw_at lw_m3 195 rfl) rfl
theorem q784 : (Jvm.Cond.methodLink "BitingDoors$HouseReader" (89 : Nat) ({ cls := "BitingDoors$HouseReader", name := "areCells", desc := "()Z" } : Jvm.MethodName)) ∈ lw_all := lw_g (lw_at lw_m3 196 rfl) rfl
theorem q785 : (Jvm.Cond.sameMethod "BitingDoors$HouseReader" "BitingDoors$Reader" "areCells" "()Z") ∈ lw_all := lw_g (lw_at lw_m3 197 rfl) rfl
theorem q787 : (Jvm.Cond.selects "BitingDoors$HouseReader" ({ cls := "BitingDoors$HouseReader", name := "areCells", desc := "()Z" } : Jvm.MethodName) ({ cls := "BitingDoors$Reader", name := "areCells", desc := "()Z" } : Jvm.MethodName)) ∈ lw_all := lw_g (lw_at lw_m3 199 rfl) rfl
theorem q790 : (Jvm.Cond.methodLink "BitingDoors$HouseReader" (69 : Nat) ({ cls := "BitingDoors$HouseReader", name := "door", desc := "()V" } : Jvm.MethodName)) ∈ lw_all := lw_g (lw_at lw_m3 202 rfl) rfl
theorem q791 : (Jvm.Cond.privateMethod ({ cls := "BitingDoors$HouseReader", name := "door", desc := "()V" } : Jvm.MethodName)) ∈ lw_tbl := lw_at lw_m3 203 rfl
theorem q792 : (Jvm.Cond.instanceMethod ({ cls := "BitingDoors$HouseReader", name := "door", desc := "()V" } : Jvm.MethodName)) ∈ lw_all := lw_g (lw_at lw_m3 204 rfl) rfl
theorem q793 : (Jvm.Cond.code ({ cls := "BitingDoors$HouseReader", name := "door", desc := "()V" } : Jvm.MethodName) prog_15_method_5_code (9 : Nat) (Option.none : Option Jvm.ClassFile.FieldType)) ∈ lw_all := lw_g (lw_at lw_m3 205 rfl) rfl
theorem q794 : (Jvm.Cond.methodLink "BitingDoors$HouseReader" (101 : Nat) ({ cls := "BitingDoors$HouseReader", name := "isName", desc := "()Z" } : Jvm.MethodName)) ∈ lw_all := lw_g (lw_at lw_m3 206 rfl) rfl
theorem q795 : (Jvm.Cond.sameMethod "BitingDoors$HouseReader" "BitingDoors$Reader" "isName" "()Z") ∈ lw_all := lw_g (lw_at lw_m3 207 rfl) rfl
theorem q797 : (Jvm.Cond.selects "BitingDoors$HouseReader" ({ cls := "BitingDoors$HouseReader", name := "isName", desc := "()Z" } : Jvm.MethodName) ({ cls := "BitingDoors$Reader", name := "isName", desc := "()Z" } : Jvm.MethodName)) ∈ lw_all := lw_g (lw_at lw_m3 209 rfl) rfl
theorem q802 : (Jvm.Cond.methodLink "BitingDoors$HouseReader" (104 : Nat) ({ cls := "BitingDoors$HouseReader", name := "of", desc := "(LBitingDoors$House;)I" } : Jvm.MethodName)) ∈ lw_all := lw_g (lw_at lw_m3 214 rfl) rfl
theorem q803 : (Jvm.Cond.sameMethod "BitingDoors$HouseReader" "BitingDoors$Reader" "of" "(LBitingDoors$House;)I") ∈ lw_all := lw_g (lw_at lw_m3 215 rfl) rfl
theorem q805 : (Jvm.Cond.selects "BitingDoors$HouseReader" ({ cls := "BitingDoors$HouseReader", name := "of", desc := "(LBitingDoors$House;)I" } : Jvm.MethodName) ({ cls := "BitingDoors$Reader", name := "of", desc := "(LBitingDoors$House;)I" } : Jvm.MethodName)) ∈ lw_all := lw_g (lw_at lw_m3 217 rfl) rfl
theorem q808 : (Jvm.Cond.methodLink "BitingDoors$HouseReader" (78 : Nat) ({ cls := "BitingDoors$HouseReader", name := "number", desc := "(II)I" } : Jvm.MethodName)) ∈ lw_all := lw_g (lw_at lw_m3 220 rfl) rfl
theorem q809 : (Jvm.Cond.sameMethod "BitingDoors$HouseReader" "BitingDoors$Reader" "number" "(II)I") ∈ lw_all := lw_g (lw_at lw_m3 221 rfl) rfl
theorem q811 : (Jvm.Cond.selects "BitingDoors$HouseReader" ({ cls := "BitingDoors$HouseReader", name := "number", desc := "(II)I" } : Jvm.MethodName) ({ cls := "BitingDoors$Reader", name := "number", desc := "(II)I" } : Jvm.MethodName)) ∈ lw_all := lw_g (lw_at lw_m3 223 rfl) rfl
theorem q815 : (Jvm.Cond.stringRef "BitingDoors$HouseReader" (112 : Nat) "across") ∈ lw_tbl := lw_at lw_m3 227 rfl
theorem q816 : (Jvm.Cond.methodLink "BitingDoors$HouseReader" (114 : Nat) ({ cls := "BitingDoors$HouseReader", name := "is", desc := "(Ljava/lang/String;)Z" } : Jvm.MethodName)) ∈ lw_all := lw_g (lw_at lw_m3 228 rfl) rfl
theorem q817 : (Jvm.Cond.sameMethod "BitingDoors$HouseReader" "BitingDoors$Reader" "is" "(Ljava/lang/String;)Z") ∈ lw_all := lw_g (lw_at lw_m3 229 rfl) rfl
theorem q819 : (Jvm.Cond.selects "BitingDoors$HouseReader" ({ cls := "BitingDoors$HouseReader", name := "is", desc := "(Ljava/lang/String;)Z" } : Jvm.MethodName) ({ cls := "BitingDoors$Reader", name := "is", desc := "(Ljava/lang/String;)Z" } : Jvm.MethodName)) ∈ lw_all := lw_g (lw_at lw_m3 231 rfl) rfl
theorem q820 : (Jvm.Cond.stringRef "BitingDoors$HouseReader" (118 : Nat) "along") ∈ lw_tbl := lw_at lw_m3 232 rfl
theorem q821 : (Jvm.Cond.methodLinkNest "BitingDoors$HouseReader" (120 : Nat) ({ cls := "BitingDoors", name := "isIn", desc := "(III)Z" } : Jvm.MethodName) "BitingDoors") ∈ lw_tbl := lw_at lw_m3 233 rfl
theorem q822 : (Jvm.Cond.methodLink "BitingDoors$HouseReader" (124 : Nat) ({ cls := "BitingDoors$HouseReader", name := "isWay", desc := "(IIZIZ)Z" } : Jvm.MethodName)) ∈ lw_all := lw_g (lw_at lw_m3 234 rfl) rfl
theorem q823 : (Jvm.Cond.privateMethod ({ cls := "BitingDoors$HouseReader", name := "isWay", desc := "(IIZIZ)Z" } : Jvm.MethodName)) ∈ lw_tbl := lw_at lw_m3 235 rfl
theorem q824 : (Jvm.Cond.instanceMethod ({ cls := "BitingDoors$HouseReader", name := "isWay", desc := "(IIZIZ)Z" } : Jvm.MethodName)) ∈ lw_all := lw_g (lw_at lw_m3 236 rfl) rfl
theorem q825 : (Jvm.Cond.code ({ cls := "BitingDoors$HouseReader", name := "isWay", desc := "(IIZIZ)Z" } : Jvm.MethodName) prog_15_method_6_code (10 : Nat) (Option.some Jvm.ClassFile.FieldType.boolean)) ∈ lw_all := lw_g (lw_at lw_m3 237 rfl) rfl
theorem q826 : (Jvm.Cond.methodLink "BitingDoors$HouseReader" (162 : Nat) ({ cls := "BitingDoors$House", name := "isCell", desc := "(II)Z" } : Jvm.MethodName)) ∈ lw_all := lw_g (lw_at lw_m3 238 rfl) rfl
theorem q831 : (Jvm.Cond.classLink "BitingDoors$HouseReader" (128 : Nat) "BitingDoors$Door") ∈ lw_all := lw_g (lw_at lw_m4 3 rfl) rfl
theorem q833 : (Jvm.Cond.methodLink "BitingDoors$HouseReader" (130 : Nat) ({ cls := "BitingDoors$Door", name := "<init>", desc := "(JIIZI)V" } : Jvm.MethodName)) ∈ lw_all := lw_g (lw_at lw_m4 5 rfl) rfl
theorem q858 : (Jvm.Cond.fieldLinkNest "BitingDoors$HouseReader" (133 : Nat) "BitingDoors$Door" "hanging" "I" "BitingDoors") ∈ lw_tbl := lw_at lw_m4 30 rfl
theorem q859 : (Jvm.Cond.fieldLinkNest "BitingDoors$HouseReader" (140 : Nat) "BitingDoors$Door" "told" "I" "BitingDoors") ∈ lw_tbl := lw_at lw_m4 31 rfl
theorem q864 : (Jvm.Cond.fieldLinkNest "BitingDoors$HouseReader" (151 : Nat) "BitingDoors$Door" "costs" "I" "BitingDoors") ∈ lw_tbl := lw_at lw_m4 36 rfl
theorem q867 : (Jvm.Cond.fieldLinkNest "BitingDoors$HouseReader" (155 : Nat) "BitingDoors$Door" "whole" "Z" "BitingDoors") ∈ lw_tbl := lw_at lw_m4 39 rfl
theorem q894 : (Jvm.Cond.methodLinkNest "BitingDoors$HouseReader" (136 : Nat) ({ cls := "BitingDoors", name := "one", desc := "(I)I" } : Jvm.MethodName) "BitingDoors") ∈ lw_tbl := lw_at lw_m4 66 rfl
theorem q897 : (Jvm.Cond.stringRef "BitingDoors$HouseReader" (143 : Nat) "may") ∈ lw_tbl := lw_at lw_m4 69 rfl
theorem q898 : (Jvm.Cond.methodLinkNest "BitingDoors$HouseReader" (145 : Nat) ({ cls := "BitingDoors", name := "has", desc := "(II)Z" } : Jvm.MethodName) "BitingDoors") ∈ lw_tbl := lw_at lw_m4 70 rfl
theorem q901 : (Jvm.Cond.stringRef "BitingDoors$HouseReader" (149 : Nat) "costs") ∈ lw_tbl := lw_at lw_m4 73 rfl
theorem q902 : (Jvm.Cond.stringRef "BitingDoors$HouseReader" (153 : Nat) "whole") ∈ lw_tbl := lw_at lw_m4 74 rfl
theorem q903 : (Jvm.Cond.methodLink "BitingDoors$HouseReader" (72 : Nat) ({ cls := "BitingDoors$HouseReader", name := "draught", desc := "()V" } : Jvm.MethodName)) ∈ lw_all := lw_g (lw_at lw_m4 75 rfl) rfl
theorem q904 : (Jvm.Cond.privateMethod ({ cls := "BitingDoors$HouseReader", name := "draught", desc := "()V" } : Jvm.MethodName)) ∈ lw_tbl := lw_at lw_m4 76 rfl
theorem q905 : (Jvm.Cond.instanceMethod ({ cls := "BitingDoors$HouseReader", name := "draught", desc := "()V" } : Jvm.MethodName)) ∈ lw_all := lw_g (lw_at lw_m4 77 rfl) rfl
theorem q906 : (Jvm.Cond.code ({ cls := "BitingDoors$HouseReader", name := "draught", desc := "()V" } : Jvm.MethodName) prog_15_method_7_code (4 : Nat) (Option.none : Option Jvm.ClassFile.FieldType)) ∈ lw_all := lw_g (lw_at lw_m4 78 rfl) rfl
theorem q907 : (Jvm.Cond.methodLink "BitingDoors$HouseReader" (60 : Nat) ({ cls := "BitingDoors$HouseReader", name := "sign", desc := "(I)V" } : Jvm.MethodName)) ∈ lw_all := lw_g (lw_at lw_m4 79 rfl) rfl
theorem q908 : (Jvm.Cond.sameMethod "BitingDoors$HouseReader" "BitingDoors$Reader" "sign" "(I)V") ∈ lw_all := lw_g (lw_at lw_m4 80 rfl) rfl
theorem q910 : (Jvm.Cond.selects "BitingDoors$HouseReader" ({ cls := "BitingDoors$HouseReader", name := "sign", desc := "(I)V" } : Jvm.MethodName) ({ cls := "BitingDoors$Reader", name := "sign", desc := "(I)V" } : Jvm.MethodName)) ∈ lw_all := lw_g (lw_at lw_m4 82 rfl) rfl
theorem q917 : (Jvm.Cond.selects "BitingDoors$HouseReader" ({ cls := "BitingDoors$Reader", name := "is", desc := "(I)Z" } : Jvm.MethodName) ({ cls := "BitingDoors$Reader", name := "is", desc := "(I)Z" } : Jvm.MethodName)) ∈ lw_all := lw_g (lw_at lw_m4 89 rfl) rfl
theorem q920 : (Jvm.Cond.methodLink "BitingDoors$HouseReader" (63 : Nat) ({ cls := "BitingDoors$House", name := "settle", desc := "()V" } : Jvm.MethodName)) ∈ lw_all := lw_g (lw_at lw_m4 92 rfl) rfl
theorem q2347 : (Jvm.Cond.selects "BitingDoors$HouseReader" ({ cls := "BitingDoors$Reader", name := "find", desc := "([Ljava/lang/String;)I" } : Jvm.MethodName) ({ cls := "BitingDoors$Reader", name := "find", desc := "([Ljava/lang/String;)I" } : Jvm.MethodName)) ∈ lw_all := lw_g (lw_at lw_m10 79 rfl) rfl
theorem q2351 : (Jvm.Cond.selects "BitingDoors$HouseReader" ({ cls := "BitingDoors$Reader", name := "areCells", desc := "()Z" } : Jvm.MethodName) ({ cls := "BitingDoors$Reader", name := "areCells", desc := "()Z" } : Jvm.MethodName)) ∈ lw_all := lw_g (lw_at lw_m10 83 rfl) rfl
theorem q2355 : (Jvm.Cond.selects "BitingDoors$HouseReader" ({ cls := "BitingDoors$Reader", name := "must", desc := "(ZI)V" } : Jvm.MethodName) ({ cls := "BitingDoors$Reader", name := "must", desc := "(ZI)V" } : Jvm.MethodName)) ∈ lw_all := lw_g (lw_at lw_m10 87 rfl) rfl
theorem q2359 : (Jvm.Cond.selects "BitingDoors$HouseReader" ({ cls := "BitingDoors$Reader", name := "isName", desc := "()Z" } : Jvm.MethodName) ({ cls := "BitingDoors$Reader", name := "isName", desc := "()Z" } : Jvm.MethodName)) ∈ lw_all := lw_g (lw_at lw_m10 91 rfl) rfl
theorem q2363 : (Jvm.Cond.selects "BitingDoors$HouseReader" ({ cls := "BitingDoors$Reader", name := "of", desc := "(LBitingDoors$House;)I" } : Jvm.MethodName) ({ cls := "BitingDoors$Reader", name := "of", desc := "(LBitingDoors$House;)I" } : Jvm.MethodName)) ∈ lw_all := lw_g (lw_at lw_m10 95 rfl) rfl
theorem q2370 : (Jvm.Cond.castable "BitingDoors$HouseReader" "java/lang/Object") ∈ lw_tbl := lw_at lw_m10 102 rfl
theorem in_X7 : ∀ w ∈ wsX70, w ∈ lw_all := lw_in wsX70 [415, 417, 419, 421, 423, 425, 427, 429, 411, 413] (by decide +kernel) (by decide +kernel)
theorem q118 : (Jvm.Cond.initialized "BitingDoors$DayReader") ∈ lw_all := lw_g (lw_at lw_m1 10 rfl) rfl
theorem q323 : (Jvm.Cond.fieldLinkNest "BitingDoors$DayReader" (75 : Nat) "BitingDoors$Walker" "house" "LBitingDoors$House;" "BitingDoors") ∈ lw_tbl := lw_at lw_m1 215 rfl
theorem q367 : (Jvm.Cond.fieldLinkNest "BitingDoors$DayReader" (45 : Nat) "BitingDoors$Day" "acts" "[LBitingDoors$Act;" "BitingDoors") ∈ lw_tbl := lw_at lw_m2 19 rfl
theorem q369 : (Jvm.Cond.fieldLinkNest "BitingDoors$DayReader" (39 : Nat) "BitingDoors$Day" "many" "I" "BitingDoors") ∈ lw_tbl := lw_at lw_m2 21 rfl
theorem q394 : (Jvm.Cond.fieldLink "BitingDoors$DayReader" (23 : Nat) "BitingDoors$DayReader" "token" "I") ∈ lw_all := lw_g (lw_at lw_m2 46 rfl) rfl
theorem q395 : (Jvm.Cond.sameField "BitingDoors$DayReader" "BitingDoors$Reader" "token" "I") ∈ lw_all := lw_g (lw_at lw_m2 47 rfl) rfl
theorem q433 : (Jvm.Cond.instantiable "BitingDoors$DayReader" (9 : Nat)) ∈ lw_all := lw_g (lw_at lw_m2 85 rfl) rfl
theorem q435 : (Jvm.Cond.instanceMethod ({ cls := "BitingDoors$DayReader", name := "<init>", desc := "(LBitingDoors;)V" } : Jvm.MethodName)) ∈ lw_all := lw_g (lw_at lw_m2 87 rfl) rfl
theorem q436 : (Jvm.Cond.code ({ cls := "BitingDoors$DayReader", name := "<init>", desc := "(LBitingDoors;)V" } : Jvm.MethodName) prog_10_method_1_code (2 : Nat) (Option.none : Option Jvm.ClassFile.FieldType)) ∈ lw_all := lw_g (lw_at lw_m2 88 rfl) rfl
theorem q437 : (Jvm.Cond.methodLink "BitingDoors$DayReader" (9 : Nat) ({ cls := "BitingDoors$Reader", name := "<init>", desc := "(LBitingDoors;I)V" } : Jvm.MethodName)) ∈ lw_all := lw_g (lw_at lw_m2 89 rfl) rfl
theorem q438 : (Jvm.Cond.fieldLink "BitingDoors$DayReader" (3 : Nat) "BitingDoors$DayReader" "this$0" "LBitingDoors;") ∈ lw_all := lw_g (lw_at lw_m2 90 rfl) rfl
theorem q439 : (Jvm.Cond.laysFinal "BitingDoors$DayReader" "BitingDoors$DayReader" "this$0" "LBitingDoors;") ∈ lw_all := lw_g (lw_at lw_m2 91 rfl) rfl
theorem q440 : (Jvm.Cond.soleField "BitingDoors$DayReader" "this$0") ∈ lw_all := lw_g (lw_at lw_m2 92 rfl) rfl
theorem q441 : (Jvm.Cond.laysFinal "BitingDoors$DayReader" "BitingDoors$Reader" "most" "I") ∈ lw_all := lw_g (lw_at lw_m2 93 rfl) rfl
theorem q442 : (Jvm.Cond.lays "BitingDoors$DayReader" "BitingDoors$Reader" "p" "I") ∈ lw_all := lw_g (lw_at lw_m2 94 rfl) rfl
theorem q443 : (Jvm.Cond.lays "BitingDoors$DayReader" "BitingDoors$Reader" "at" "I") ∈ lw_all := lw_g (lw_at lw_m2 95 rfl) rfl
theorem q444 : (Jvm.Cond.lays "BitingDoors$DayReader" "BitingDoors$Reader" "token" "I") ∈ lw_all := lw_g (lw_at lw_m2 96 rfl) rfl
theorem q445 : (Jvm.Cond.lays "BitingDoors$DayReader" "BitingDoors$Reader" "value" "I") ∈ lw_all := lw_g (lw_at lw_m2 97 rfl) rfl
theorem q446 : (Jvm.Cond.lays "BitingDoors$DayReader" "BitingDoors$Reader" "many" "I") ∈ lw_all := lw_g (lw_at lw_m2 98 rfl) rfl
theorem q447 : (Jvm.Cond.lays "BitingDoors$DayReader" "BitingDoors$Reader" "name" "J") ∈ lw_all := lw_g (lw_at lw_m2 99 rfl) rfl
theorem q448 : (Jvm.Cond.laysFinal "BitingDoors$DayReader" "BitingDoors$Reader" "this$0" "LBitingDoors;") ∈ lw_all := lw_g (lw_at lw_m2 100 rfl) rfl
theorem q449 : (Jvm.Cond.superclass "BitingDoors$DayReader" "BitingDoors$Reader") ∈ lw_all := lw_g (lw_at lw_m2 101 rfl) rfl
theorem q505 : (Jvm.Cond.fieldLinkNest "BitingDoors$DayReader" (57 : Nat) "BitingDoors" "sides" "[Ljava/lang/String;" "BitingDoors") ∈ lw_tbl := lw_at lw_m2 157 rfl
theorem q507 : (Jvm.Cond.fieldLinkNest "BitingDoors$DayReader" (27 : Nat) "BitingDoors" "does" "[Ljava/lang/String;" "BitingDoors") ∈ lw_tbl := lw_at lw_m2 159 rfl
theorem q509 : (Jvm.Cond.fieldLinkNest "BitingDoors$DayReader" (71 : Nat) "BitingDoors" "now" "LBitingDoors$Walker;" "BitingDoors") ∈ lw_tbl := lw_at lw_m2 161 rfl
theorem q675 : (Jvm.Cond.selects "BitingDoors$DayReader" ({ cls := "BitingDoors$Reader", name := "next", desc := "()V" } : Jvm.MethodName) ({ cls := "BitingDoors$Reader", name := "next", desc := "()V" } : Jvm.MethodName)) ∈ lw_all := lw_g (lw_at lw_m3 87 rfl) rfl
theorem q707 : (Jvm.Cond.selects "BitingDoors$DayReader" ({ cls := "BitingDoors$Reader", name := "is", desc := "(Ljava/lang/String;)Z" } : Jvm.MethodName) ({ cls := "BitingDoors$Reader", name := "is", desc := "(Ljava/lang/String;)Z" } : Jvm.MethodName)) ∈ lw_all := lw_g (lw_at lw_m3 119 rfl) rfl
theorem q768 : (Jvm.Cond.selects "BitingDoors$DayReader" ({ cls := "BitingDoors$Reader", name := "wrong", desc := "(I)LBitingDoors$Fault;" } : Jvm.MethodName) ({ cls := "BitingDoors$Reader", name := "wrong", desc := "(I)LBitingDoors$Fault;" } : Jvm.MethodName)) ∈ lw_all := lw_g (lw_at lw_m3 180 rfl) rfl
theorem q916 : (Jvm.Cond.selects "BitingDoors$DayReader" ({ cls := "BitingDoors$Reader", name := "is", desc := "(I)Z" } : Jvm.MethodName) ({ cls := "BitingDoors$Reader", name := "is", desc := "(I)Z" } : Jvm.MethodName)) ∈ lw_all := lw_g (lw_at lw_m4 88 rfl) rfl
theorem q1020 : (Jvm.Cond.instanceMethod ({ cls := "BitingDoors$DayReader", name := "read", desc := "()LBitingDoors$Day;" } : Jvm.MethodName)) ∈ lw_all := lw_g (lw_at lw_m4 192 rfl) rfl
theorem q1021 : (Jvm.Cond.selects "BitingDoors$DayReader" ({ cls := "BitingDoors$DayReader", name := "read", desc := "()LBitingDoors$Day;" } : Jvm.MethodName) ({ cls := "BitingDoors$DayReader", name := "read", desc := "()LBitingDoors$Day;" } : Jvm.MethodName)) ∈ lw_all := lw_g (lw_at lw_m4 193 rfl) rfl
theorem q1022 : (Jvm.Cond.code ({ cls := "BitingDoors$DayReader", name := "read", desc := "()LBitingDoors$Day;" } : Jvm.MethodName) prog_10_method_2_code (3 : Nat) (Option.some (Jvm.ClassFile.FieldType.object "BitingDoors$Day"))) ∈ lw_all := lw_g (lw_at lw_m4 194 rfl) rfl
theorem q1023 : (Jvm.Cond.classLink "BitingDoors$DayReader" (15 : Nat) "BitingDoors$Day") ∈ lw_all := lw_g (lw_at lw_m4 195 rfl) rfl
theorem q1024 : (Jvm.Cond.methodLinkNest "BitingDoors$DayReader" (17 : Nat) ({ cls := "BitingDoors$Day", name := "<init>", desc := "()V" } : Jvm.MethodName) "BitingDoors") ∈ lw_tbl := lw_at lw_m4 196 rfl
theorem q1025 : (Jvm.Cond.methodLink "BitingDoors$DayReader" (20 : Nat) ({ cls := "BitingDoors$DayReader", name := "begin", desc := "()V" } : Jvm.MethodName)) ∈ lw_all := lw_g (lw_at lw_m4 197 rfl) rfl
theorem q1026 : (Jvm.Cond.sameMethod "BitingDoors$DayReader" "BitingDoors$Reader" "begin" "()V") ∈ lw_all := lw_g (lw_at lw_m4 198 rfl) rfl
theorem q1027 : (Jvm.Cond.selects "BitingDoors$DayReader" ({ cls := "BitingDoors$DayReader", name := "begin", desc := "()V" } : Jvm.MethodName) ({ cls := "BitingDoors$Reader", name := "begin", desc := "()V" } : Jvm.MethodName)) ∈ lw_all := lw_g (lw_at lw_m4 199 rfl) rfl
theorem q1028 : (Jvm.Cond.methodLink "BitingDoors$DayReader" (31 : Nat) ({ cls := "BitingDoors$DayReader", name := "find", desc := "([Ljava/lang/String;)I" } : Jvm.MethodName)) ∈ lw_all := lw_g (lw_at lw_m4 200 rfl) rfl
theorem q1029 : (Jvm.Cond.sameMethod "BitingDoors$DayReader" "BitingDoors$Reader" "find" "([Ljava/lang/String;)I") ∈ lw_all := lw_g (lw_at lw_m4 201 rfl) rfl
theorem q1030 : (Jvm.Cond.selects "BitingDoors$DayReader" ({ cls := "BitingDoors$DayReader", name := "find", desc := "([Ljava/lang/String;)I" } : Jvm.MethodName) ({ cls := "BitingDoors$Reader", name := "find", desc := "([Ljava/lang/String;)I" } : Jvm.MethodName)) ∈ lw_all := lw_g (lw_at lw_m4 202 rfl) rfl
theorem q1031 : (Jvm.Cond.methodLink "BitingDoors$DayReader" (35 : Nat) ({ cls := "BitingDoors$DayReader", name := "must", desc := "(ZI)V" } : Jvm.MethodName)) ∈ lw_all := lw_g (lw_at lw_m4 203 rfl) rfl
theorem q1032 : (Jvm.Cond.sameMethod "BitingDoors$DayReader" "BitingDoors$Reader" "must" "(ZI)V") ∈ lw_all := lw_g (lw_at lw_m4 204 rfl) rfl
theorem q1033 : (Jvm.Cond.selects "BitingDoors$DayReader" ({ cls := "BitingDoors$DayReader", name := "must", desc := "(ZI)V" } : Jvm.MethodName) ({ cls := "BitingDoors$Reader", name := "must", desc := "(ZI)V" } : Jvm.MethodName)) ∈ lw_all := lw_g (lw_at lw_m4 205 rfl) rfl
theorem q1034 : (Jvm.Cond.methodLink "BitingDoors$DayReader" (42 : Nat) ({ cls := "BitingDoors$DayReader", name := "next", desc := "()V" } : Jvm.MethodName)) ∈ lw_all := lw_g (lw_at lw_m4 206 rfl) rfl
theorem q1035 : (Jvm.Cond.sameMethod "BitingDoors$DayReader" "BitingDoors$Reader" "next" "()V") ∈ lw_all := lw_g (lw_at lw_m4 207 rfl) rfl
theorem q1036 : (Jvm.Cond.selects "BitingDoors$DayReader" ({ cls := "BitingDoors$DayReader", name := "next", desc := "()V" } : Jvm.MethodName) ({ cls := "BitingDoors$Reader", name := "next", desc := "()V" } : Jvm.MethodName)) ∈ lw_all := lw_g (lw_at lw_m4 208 rfl) rfl
theorem q1037 : (Jvm.Cond.methodLink "BitingDoors$DayReader" (49 : Nat) ({ cls := "BitingDoors$DayReader", name := "act", desc := "(I)LBitingDoors$Act;" } : Jvm.MethodName)) ∈ lw_all := lw_g (lw_at lw_m4 209 rfl) rfl
theorem q1038 : (Jvm.Cond.privateMethod ({ cls := "BitingDoors$DayReader", name := "act", desc := "(I)LBitingDoors$Act;" } : Jvm.MethodName)) ∈ lw_tbl := lw_at lw_m4 210 rfl
theorem q1039 : (Jvm.Cond.instanceMethod ({ cls := "BitingDoors$DayReader", name := "act", desc := "(I)LBitingDoors$Act;" } : Jvm.MethodName)) ∈ lw_all := lw_g (lw_at lw_m4 211 rfl) rfl
theorem q1040 : (Jvm.Cond.code ({ cls := "BitingDoors$DayReader", name := "act", desc := "(I)LBitingDoors$Act;" } : Jvm.MethodName) prog_10_method_3_code (3 : Nat) (Option.some (Jvm.ClassFile.FieldType.object "BitingDoors$Act"))) ∈ lw_all := lw_g (lw_at lw_m4 212 rfl) rfl
theorem q1041 : (Jvm.Cond.classLink "BitingDoors$DayReader" (60 : Nat) "BitingDoors$Go") ∈ lw_all := lw_g (lw_at lw_m4 213 rfl) rfl
theorem q1043 : (Jvm.Cond.methodLink "BitingDoors$DayReader" (62 : Nat) ({ cls := "BitingDoors$DayReader", name := "number", desc := "(II)I" } : Jvm.MethodName)) ∈ lw_all := lw_g (lw_at lw_m4 215 rfl) rfl
theorem q1044 : (Jvm.Cond.sameMethod "BitingDoors$DayReader" "BitingDoors$Reader" "number" "(II)I") ∈ lw_all := lw_g (lw_at lw_m4 216 rfl) rfl
theorem q1045 : (Jvm.Cond.selects "BitingDoors$DayReader" ({ cls := "BitingDoors$DayReader", name := "number", desc := "(II)I" } : Jvm.MethodName) ({ cls := "BitingDoors$Reader", name := "number", desc := "(II)I" } : Jvm.MethodName)) ∈ lw_all := lw_g (lw_at lw_m4 217 rfl) rfl
theorem q1046 : (Jvm.Cond.methodLink "BitingDoors$DayReader" (66 : Nat) ({ cls := "BitingDoors$Go", name := "<init>", desc := "(II)V" } : Jvm.MethodName)) ∈ lw_all := lw_g (lw_at lw_m4 218 rfl) rfl
theorem q1060 : (Jvm.Cond.classLink "BitingDoors$DayReader" (69 : Nat) "BitingDoors$Open") ∈ lw_all := lw_g (lw_at lw_m4 232 rfl) rfl
theorem q1062 : (Jvm.Cond.methodLink "BitingDoors$DayReader" (81 : Nat) ({ cls := "BitingDoors$DayReader", name := "known", desc := "(LBitingDoors$House;)I" } : Jvm.MethodName)) ∈ lw_all := lw_g (lw_at lw_m4 234 rfl) rfl
theorem q1063 : (Jvm.Cond.sameMethod "BitingDoors$DayReader" "BitingDoors$Reader" "known" "(LBitingDoors$House;)I") ∈ lw_all := lw_g (lw_at lw_m4 235 rfl) rfl
theorem q1065 : (Jvm.Cond.selects "BitingDoors$DayReader" ({ cls := "BitingDoors$DayReader", name := "known", desc := "(LBitingDoors$House;)I" } : Jvm.MethodName) ({ cls := "BitingDoors$Reader", name := "known", desc := "(LBitingDoors$House;)I" } : Jvm.MethodName)) ∈ lw_all := lw_g (lw_at lw_m4 237 rfl) rfl
theorem q1070 : (Jvm.Cond.methodLink "BitingDoors$DayReader" (85 : Nat) ({ cls := "BitingDoors$Open", name := "<init>", desc := "(I)V" } : Jvm.MethodName)) ∈ lw_all := lw_g (lw_at lw_m5 2 rfl) rfl
theorem q1085 : (Jvm.Cond.classLink "BitingDoors$DayReader" (87 : Nat) "BitingDoors$Shut") ∈ lw_all := lw_g (lw_at lw_m5 17 rfl) rfl
theorem q1087 : (Jvm.Cond.methodLink "BitingDoors$DayReader" (89 : Nat) ({ cls := "BitingDoors$Shut", name := "<init>", desc := "(I)V" } : Jvm.MethodName)) ∈ lw_all := lw_g (lw_at lw_m5 19 rfl) rfl
theorem q1093 : (Jvm.Cond.classLink "BitingDoors$DayReader" (90 : Nat) "BitingDoors$Rest") ∈ lw_all := lw_g (lw_at lw_m5 25 rfl) rfl
theorem q1095 : (Jvm.Cond.methodLink "BitingDoors$DayReader" (92 : Nat) ({ cls := "BitingDoors$Rest", name := "<init>", desc := "(I)V" } : Jvm.MethodName)) ∈ lw_all := lw_g (lw_at lw_m5 27 rfl) rfl
theorem q1103 : (Jvm.Cond.methodLink "BitingDoors$DayReader" (53 : Nat) ({ cls := "BitingDoors$DayReader", name := "sign", desc := "(I)V" } : Jvm.MethodName)) ∈ lw_all := lw_g (lw_at lw_m5 35 rfl) rfl
theorem q1104 : (Jvm.Cond.sameMethod "BitingDoors$DayReader" "BitingDoors$Reader" "sign" "(I)V") ∈ lw_all := lw_g (lw_at lw_m5 36 rfl) rfl
theorem q1105 : (Jvm.Cond.selects "BitingDoors$DayReader" ({ cls := "BitingDoors$DayReader", name := "sign", desc := "(I)V" } : Jvm.MethodName) ({ cls := "BitingDoors$Reader", name := "sign", desc := "(I)V" } : Jvm.MethodName)) ∈ lw_all := lw_g (lw_at lw_m5 37 rfl) rfl
theorem q2346 : (Jvm.Cond.selects "BitingDoors$DayReader" ({ cls := "BitingDoors$Reader", name := "find", desc := "([Ljava/lang/String;)I" } : Jvm.MethodName) ({ cls := "BitingDoors$Reader", name := "find", desc := "([Ljava/lang/String;)I" } : Jvm.MethodName)) ∈ lw_all := lw_g (lw_at lw_m10 78 rfl) rfl
theorem q2350 : (Jvm.Cond.selects "BitingDoors$DayReader" ({ cls := "BitingDoors$Reader", name := "areCells", desc := "()Z" } : Jvm.MethodName) ({ cls := "BitingDoors$Reader", name := "areCells", desc := "()Z" } : Jvm.MethodName)) ∈ lw_all := lw_g (lw_at lw_m10 82 rfl) rfl
theorem q2354 : (Jvm.Cond.selects "BitingDoors$DayReader" ({ cls := "BitingDoors$Reader", name := "must", desc := "(ZI)V" } : Jvm.MethodName) ({ cls := "BitingDoors$Reader", name := "must", desc := "(ZI)V" } : Jvm.MethodName)) ∈ lw_all := lw_g (lw_at lw_m10 86 rfl) rfl
theorem q2358 : (Jvm.Cond.selects "BitingDoors$DayReader" ({ cls := "BitingDoors$Reader", name := "isName", desc := "()Z" } : Jvm.MethodName) ({ cls := "BitingDoors$Reader", name := "isName", desc := "()Z" } : Jvm.MethodName)) ∈ lw_all := lw_g (lw_at lw_m10 90 rfl) rfl
theorem q2362 : (Jvm.Cond.selects "BitingDoors$DayReader" ({ cls := "BitingDoors$Reader", name := "of", desc := "(LBitingDoors$House;)I" } : Jvm.MethodName) ({ cls := "BitingDoors$Reader", name := "of", desc := "(LBitingDoors$House;)I" } : Jvm.MethodName)) ∈ lw_all := lw_g (lw_at lw_m10 94 rfl) rfl
theorem q2371 : (Jvm.Cond.castable "BitingDoors$DayReader" "java/lang/Object") ∈ lw_tbl := lw_at lw_m10 103 rfl
theorem in_X8 : ∀ w ∈ wsX80, w ∈ lw_all := lw_in wsX80 [441, 442, 443, 444, 445, 446, 447, 448, 439] (by decide +kernel) (by decide +kernel)
theorem q119 : (Jvm.Cond.initialized "BitingDoors$SentenceReader") ∈ lw_all := lw_g (lw_at lw_m1 11 rfl) rfl
theorem q324 : (Jvm.Cond.fieldLinkNest "BitingDoors$SentenceReader" (110 : Nat) "BitingDoors$Walker" "house" "LBitingDoors$House;" "BitingDoors") ∈ lw_tbl := lw_at lw_m1 216 rfl
theorem q396 : (Jvm.Cond.fieldLink "BitingDoors$SentenceReader" (52 : Nat) "BitingDoors$SentenceReader" "token" "I") ∈ lw_all := lw_g (lw_at lw_m2 48 rfl) rfl
theorem q397 : (Jvm.Cond.sameField "BitingDoors$SentenceReader" "BitingDoors$Reader" "token" "I") ∈ lw_all := lw_g (lw_at lw_m2 49 rfl) rfl
theorem q401 : (Jvm.Cond.fieldLink "BitingDoors$SentenceReader" (127 : Nat) "BitingDoors$SentenceReader" "value" "I") ∈ lw_all := lw_g (lw_at lw_m2 53 rfl) rfl
theorem q402 : (Jvm.Cond.sameField "BitingDoors$SentenceReader" "BitingDoors$Reader" "value" "I") ∈ lw_all := lw_g (lw_at lw_m2 54 rfl) rfl
theorem q451 : (Jvm.Cond.instantiable "BitingDoors$SentenceReader" (12 : Nat)) ∈ lw_all := lw_g (lw_at lw_m2 103 rfl) rfl
theorem q453 : (Jvm.Cond.instanceMethod ({ cls := "BitingDoors$SentenceReader", name := "<init>", desc := "(LBitingDoors;)V" } : Jvm.MethodName)) ∈ lw_all := lw_g (lw_at lw_m2 105 rfl) rfl
theorem q454 : (Jvm.Cond.code ({ cls := "BitingDoors$SentenceReader", name := "<init>", desc := "(LBitingDoors;)V" } : Jvm.MethodName) prog_20_method_1_code (2 : Nat) (Option.none : Option Jvm.ClassFile.FieldType)) ∈ lw_all := lw_g (lw_at lw_m2 106 rfl) rfl
theorem q455 : (Jvm.Cond.methodLink "BitingDoors$SentenceReader" (9 : Nat) ({ cls := "BitingDoors$Reader", name := "<init>", desc := "(LBitingDoors;I)V" } : Jvm.MethodName)) ∈ lw_all := lw_g (lw_at lw_m2 107 rfl) rfl
theorem q456 : (Jvm.Cond.classLink "BitingDoors$SentenceReader" (15 : Nat) "java/lang/String") ∈ lw_all := lw_g (lw_at lw_m2 108 rfl) rfl
theorem q457 : (Jvm.Cond.stringRef "BitingDoors$SentenceReader" (17 : Nat) "open") ∈ lw_tbl := lw_at lw_m2 109 rfl
theorem q458 : (Jvm.Cond.stringRef "BitingDoors$SentenceReader" (19 : Nat) "fit") ∈ lw_tbl := lw_at lw_m2 110 rfl
theorem q459 : (Jvm.Cond.stringRef "BitingDoors$SentenceReader" (21 : Nat) "at") ∈ lw_tbl := lw_at lw_m2 111 rfl
theorem q460 : (Jvm.Cond.stringRef "BitingDoors$SentenceReader" (27 : Nat) "angle") ∈ lw_tbl := lw_at lw_m2 112 rfl
theorem q461 : (Jvm.Cond.stringRef "BitingDoors$SentenceReader" (29 : Nat) "length") ∈ lw_tbl := lw_at lw_m2 113 rfl
theorem q462 : (Jvm.Cond.stringRef "BitingDoors$SentenceReader" (31 : Nat) "sweeps") ∈ lw_tbl := lw_at lw_m2 114 rfl
theorem q463 : (Jvm.Cond.stringRef "BitingDoors$SentenceReader" (33 : Nat) "may") ∈ lw_tbl := lw_at lw_m2 115 rfl
theorem q464 : (Jvm.Cond.stringRef "BitingDoors$SentenceReader" (35 : Nat) "costs") ∈ lw_tbl := lw_at lw_m2 116 rfl
theorem q465 : (Jvm.Cond.fieldLink "BitingDoors$SentenceReader" (23 : Nat) "BitingDoors$SentenceReader" "stands" "[Ljava/lang/String;") ∈ lw_all := lw_g (lw_at lw_m2 117 rfl) rfl
theorem q466 : (Jvm.Cond.fieldLink "BitingDoors$SentenceReader" (37 : Nat) "BitingDoors$SentenceReader" "counts" "[Ljava/lang/String;") ∈ lw_all := lw_g (lw_at lw_m2 118 rfl) rfl
theorem q467 : (Jvm.Cond.fieldLink "BitingDoors$SentenceReader" (40 : Nat) "BitingDoors$SentenceReader" "ones" "I") ∈ lw_all := lw_g (lw_at lw_m2 119 rfl) rfl
theorem q469 : (Jvm.Cond.fieldLink "BitingDoors$SentenceReader" (3 : Nat) "BitingDoors$SentenceReader" "this$0" "LBitingDoors;") ∈ lw_all := lw_g (lw_at lw_m2 121 rfl) rfl
theorem q470 : (Jvm.Cond.laysFinal "BitingDoors$SentenceReader" "BitingDoors$SentenceReader" "stands" "[Ljava/lang/String;") ∈ lw_all := lw_g (lw_at lw_m2 122 rfl) rfl
theorem q471 : (Jvm.Cond.soleField "BitingDoors$SentenceReader" "stands") ∈ lw_all := lw_g (lw_at lw_m2 123 rfl) rfl
theorem q472 : (Jvm.Cond.laysFinal "BitingDoors$SentenceReader" "BitingDoors$SentenceReader" "counts" "[Ljava/lang/String;") ∈ lw_all := lw_g (lw_at lw_m2 124 rfl) rfl
theorem q473 : (Jvm.Cond.soleField "BitingDoors$SentenceReader" "counts") ∈ lw_all := lw_g (lw_at lw_m2 125 rfl) rfl
theorem q474 : (Jvm.Cond.lays "BitingDoors$SentenceReader" "BitingDoors$SentenceReader" "ones" "I") ∈ lw_all := lw_g (lw_at lw_m2 126 rfl) rfl
theorem q475 : (Jvm.Cond.soleField "BitingDoors$SentenceReader" "ones") ∈ lw_all := lw_g (lw_at lw_m2 127 rfl) rfl
theorem q476 : (Jvm.Cond.laysFinal "BitingDoors$SentenceReader" "BitingDoors$SentenceReader" "this$0" "LBitingDoors;") ∈ lw_all := lw_g (lw_at lw_m2 128 rfl) rfl
theorem q477 : (Jvm.Cond.soleField "BitingDoors$SentenceReader" "this$0") ∈ lw_all := lw_g (lw_at lw_m2 129 rfl) rfl
theorem q478 : (Jvm.Cond.laysFinal "BitingDoors$SentenceReader" "BitingDoors$Reader" "most" "I") ∈ lw_all := lw_g (lw_at lw_m2 130 rfl) rfl
theorem q479 : (Jvm.Cond.lays "BitingDoors$SentenceReader" "BitingDoors$Reader" "p" "I") ∈ lw_all := lw_g (lw_at lw_m2 131 rfl) rfl
theorem q480 : (Jvm.Cond.lays "BitingDoors$SentenceReader" "BitingDoors$Reader" "at" "I") ∈ lw_all := lw_g (lw_at lw_m2 132 rfl) rfl
theorem q481 : (Jvm.Cond.lays "BitingDoors$SentenceReader" "BitingDoors$Reader" "token" "I") ∈ lw_all := lw_g (lw_at lw_m2 133 rfl) rfl
theorem q482 : (Jvm.Cond.lays "BitingDoors$SentenceReader" "BitingDoors$Reader" "value" "I") ∈ lw_all := lw_g (lw_at lw_m2 134 rfl) rfl
theorem q483 : (Jvm.Cond.lays "BitingDoors$SentenceReader" "BitingDoors$Reader" "many" "I") ∈ lw_all := lw_g (lw_at lw_m2 135 rfl) rfl
theorem q484 : (Jvm.Cond.lays "BitingDoors$SentenceReader" "BitingDoors$Reader" "name" "J") ∈ lw_all := lw_g (lw_at lw_m2 136 rfl) rfl
theorem q485 : (Jvm.Cond.laysFinal "BitingDoors$SentenceReader" "BitingDoors$Reader" "this$0" "LBitingDoors;") ∈ lw_all := lw_g (lw_at lw_m2 137 rfl) rfl
theorem q486 : (Jvm.Cond.superclass "BitingDoors$SentenceReader" "BitingDoors$Reader") ∈ lw_all := lw_g (lw_at lw_m2 138 rfl) rfl
theorem q510 : (Jvm.Cond.fieldLinkNest "BitingDoors$SentenceReader" (106 : Nat) "BitingDoors" "now" "LBitingDoors$Walker;" "BitingDoors") ∈ lw_tbl := lw_at lw_m2 162 rfl
theorem q677 : (Jvm.Cond.selects "BitingDoors$SentenceReader" ({ cls := "BitingDoors$Reader", name := "next", desc := "()V" } : Jvm.MethodName) ({ cls := "BitingDoors$Reader", name := "next", desc := "()V" } : Jvm.MethodName)) ∈ lw_all := lw_g (lw_at lw_m3 89 rfl) rfl
theorem q709 : (Jvm.Cond.selects "BitingDoors$SentenceReader" ({ cls := "BitingDoors$Reader", name := "is", desc := "(Ljava/lang/String;)Z" } : Jvm.MethodName) ({ cls := "BitingDoors$Reader", name := "is", desc := "(Ljava/lang/String;)Z" } : Jvm.MethodName)) ∈ lw_all := lw_g (lw_at lw_m3 121 rfl) rfl
theorem q770 : (Jvm.Cond.selects "BitingDoors$SentenceReader" ({ cls := "BitingDoors$Reader", name := "wrong", desc := "(I)LBitingDoors$Fault;" } : Jvm.MethodName) ({ cls := "BitingDoors$Reader", name := "wrong", desc := "(I)LBitingDoors$Fault;" } : Jvm.MethodName)) ∈ lw_all := lw_g (lw_at lw_m3 182 rfl) rfl
theorem q918 : (Jvm.Cond.selects "BitingDoors$SentenceReader" ({ cls := "BitingDoors$Reader", name := "is", desc := "(I)Z" } : Jvm.MethodName) ({ cls := "BitingDoors$Reader", name := "is", desc := "(I)Z" } : Jvm.MethodName)) ∈ lw_all := lw_g (lw_at lw_m4 90 rfl) rfl
theorem q1437 : (Jvm.Cond.instanceMethod ({ cls := "BitingDoors$SentenceReader", name := "read", desc := "()LBitingDoors$Cond;" } : Jvm.MethodName)) ∈ lw_all := lw_g (lw_at lw_m6 129 rfl) rfl
theorem q1438 : (Jvm.Cond.selects "BitingDoors$SentenceReader" ({ cls := "BitingDoors$SentenceReader", name := "read", desc := "()LBitingDoors$Cond;" } : Jvm.MethodName) ({ cls := "BitingDoors$SentenceReader", name := "read", desc := "()LBitingDoors$Cond;" } : Jvm.MethodName)) ∈ lw_all := lw_g (lw_at lw_m6 130 rfl) rfl
theorem q1439 : (Jvm.Cond.code ({ cls := "BitingDoors$SentenceReader", name := "read", desc := "()LBitingDoors$Cond;" } : Jvm.MethodName) prog_20_method_2_code (2 : Nat) (Option.some (Jvm.ClassFile.FieldType.object "BitingDoors$Cond"))) ∈ lw_all := lw_g (lw_at lw_m6 131 rfl) rfl
theorem q1440 : (Jvm.Cond.methodLink "BitingDoors$SentenceReader" (44 : Nat) ({ cls := "BitingDoors$SentenceReader", name := "begin", desc := "()V" } : Jvm.MethodName)) ∈ lw_all := lw_g (lw_at lw_m6 132 rfl) rfl
theorem q1441 : (Jvm.Cond.sameMethod "BitingDoors$SentenceReader" "BitingDoors$Reader" "begin" "()V") ∈ lw_all := lw_g (lw_at lw_m6 133 rfl) rfl
theorem q1442 : (Jvm.Cond.selects "BitingDoors$SentenceReader" ({ cls := "BitingDoors$SentenceReader", name := "begin", desc := "()V" } : Jvm.MethodName) ({ cls := "BitingDoors$Reader", name := "begin", desc := "()V" } : Jvm.MethodName)) ∈ lw_all := lw_g (lw_at lw_m6 134 rfl) rfl
theorem q1443 : (Jvm.Cond.methodLink "BitingDoors$SentenceReader" (48 : Nat) ({ cls := "BitingDoors$SentenceReader", name := "any", desc := "(I)LBitingDoors$Cond;" } : Jvm.MethodName)) ∈ lw_all := lw_g (lw_at lw_m6 135 rfl) rfl
theorem q1444 : (Jvm.Cond.privateMethod ({ cls := "BitingDoors$SentenceReader", name := "any", desc := "(I)LBitingDoors$Cond;" } : Jvm.MethodName)) ∈ lw_tbl := lw_at lw_m6 136 rfl
theorem q1445 : (Jvm.Cond.instanceMethod ({ cls := "BitingDoors$SentenceReader", name := "any", desc := "(I)LBitingDoors$Cond;" } : Jvm.MethodName)) ∈ lw_all := lw_g (lw_at lw_m6 137 rfl) rfl
theorem q1446 : (Jvm.Cond.code ({ cls := "BitingDoors$SentenceReader", name := "any", desc := "(I)LBitingDoors$Cond;" } : Jvm.MethodName) prog_20_method_3_code (3 : Nat) (Option.some (Jvm.ClassFile.FieldType.object "BitingDoors$Cond"))) ∈ lw_all := lw_g (lw_at lw_m6 138 rfl) rfl
theorem q1447 : (Jvm.Cond.methodLink "BitingDoors$SentenceReader" (59 : Nat) ({ cls := "BitingDoors$SentenceReader", name := "both", desc := "(I)LBitingDoors$Cond;" } : Jvm.MethodName)) ∈ lw_all := lw_g (lw_at lw_m6 139 rfl) rfl
theorem q1448 : (Jvm.Cond.privateMethod ({ cls := "BitingDoors$SentenceReader", name := "both", desc := "(I)LBitingDoors$Cond;" } : Jvm.MethodName)) ∈ lw_tbl := lw_at lw_m6 140 rfl
theorem q1449 : (Jvm.Cond.instanceMethod ({ cls := "BitingDoors$SentenceReader", name := "both", desc := "(I)LBitingDoors$Cond;" } : Jvm.MethodName)) ∈ lw_all := lw_g (lw_at lw_m6 141 rfl) rfl
theorem q1450 : (Jvm.Cond.code ({ cls := "BitingDoors$SentenceReader", name := "both", desc := "(I)LBitingDoors$Cond;" } : Jvm.MethodName) prog_20_method_4_code (3 : Nat) (Option.some (Jvm.ClassFile.FieldType.object "BitingDoors$Cond"))) ∈ lw_all := lw_g (lw_at lw_m6 142 rfl) rfl
theorem q1451 : (Jvm.Cond.methodLink "BitingDoors$SentenceReader" (76 : Nat) ({ cls := "BitingDoors$SentenceReader", name := "single", desc := "(I)LBitingDoors$Cond;" } : Jvm.MethodName)) ∈ lw_all := lw_g (lw_at lw_m6 143 rfl) rfl
theorem q1452 : (Jvm.Cond.privateMethod ({ cls := "BitingDoors$SentenceReader", name := "single", desc := "(I)LBitingDoors$Cond;" } : Jvm.MethodName)) ∈ lw_tbl := lw_at lw_m6 144 rfl
theorem q1453 : (Jvm.Cond.instanceMethod ({ cls := "BitingDoors$SentenceReader", name := "single", desc := "(I)LBitingDoors$Cond;" } : Jvm.MethodName)) ∈ lw_all := lw_g (lw_at lw_m6 145 rfl) rfl
theorem q1454 : (Jvm.Cond.code ({ cls := "BitingDoors$SentenceReader", name := "single", desc := "(I)LBitingDoors$Cond;" } : Jvm.MethodName) prog_20_method_5_code (8 : Nat) (Option.some (Jvm.ClassFile.FieldType.object "BitingDoors$Cond"))) ∈ lw_all := lw_g (lw_at lw_m6 146 rfl) rfl
theorem q1455 : (Jvm.Cond.stringRef "BitingDoors$SentenceReader" (84 : Nat) "not") ∈ lw_tbl := lw_at lw_m6 147 rfl
theorem q1456 : (Jvm.Cond.methodLink "BitingDoors$SentenceReader" (64 : Nat) ({ cls := "BitingDoors$SentenceReader", name := "is", desc := "(Ljava/lang/String;)Z" } : Jvm.MethodName)) ∈ lw_all := lw_g (lw_at lw_m6 148 rfl) rfl
theorem q1457 : (Jvm.Cond.sameMethod "BitingDoors$SentenceReader" "BitingDoors$Reader" "is" "(Ljava/lang/String;)Z") ∈ lw_all := lw_g (lw_at lw_m6 149 rfl) rfl
theorem q1458 : (Jvm.Cond.selects "BitingDoors$SentenceReader" ({ cls := "BitingDoors$SentenceReader", name := "is", desc := "(Ljava/lang/String;)Z" } : Jvm.MethodName) ({ cls := "BitingDoors$Reader", name := "is", desc := "(Ljava/lang/String;)Z" } : Jvm.MethodName)) ∈ lw_all := lw_g (lw_at lw_m6 150 rfl) rfl
theorem q1459 : (Jvm.Cond.methodLink "BitingDoors$SentenceReader" (86 : Nat) ({ cls := "BitingDoors$SentenceReader", name := "is", desc := "(I)Z" } : Jvm.MethodName)) ∈ lw_all := lw_g (lw_at lw_m6 151 rfl) rfl
theorem q1460 : (Jvm.Cond.sameMethod "BitingDoors$SentenceReader" "BitingDoors$Reader" "is" "(I)Z") ∈ lw_all := lw_g (lw_at lw_m6 152 rfl) rfl
theorem q1462 : (Jvm.Cond.selects "BitingDoors$SentenceReader" ({ cls := "BitingDoors$SentenceReader", name := "is", desc := "(I)Z" } : Jvm.MethodName) ({ cls := "BitingDoors$Reader", name := "is", desc := "(I)Z" } : Jvm.MethodName)) ∈ lw_all := lw_g (lw_at lw_m6 154 rfl) rfl
theorem q1463 : (Jvm.Cond.stringRef "BitingDoors$SentenceReader" (89 : Nat) "bites") ∈ lw_tbl := lw_at lw_m6 155 rfl
theorem q1464 : (Jvm.Cond.methodLink "BitingDoors$SentenceReader" (91 : Nat) ({ cls := "BitingDoors$SentenceReader", name := "find", desc := "([Ljava/lang/String;)I" } : Jvm.MethodName)) ∈ lw_all := lw_g (lw_at lw_m6 156 rfl) rfl
theorem q1465 : (Jvm.Cond.sameMethod "BitingDoors$SentenceReader" "BitingDoors$Reader" "find" "([Ljava/lang/String;)I") ∈ lw_all := lw_g (lw_at lw_m6 157 rfl) rfl
theorem q1466 : (Jvm.Cond.selects "BitingDoors$SentenceReader" ({ cls := "BitingDoors$SentenceReader", name := "find", desc := "([Ljava/lang/String;)I" } : Jvm.MethodName) ({ cls := "BitingDoors$Reader", name := "find", desc := "([Ljava/lang/String;)I" } : Jvm.MethodName)) ∈ lw_all := lw_g (lw_at lw_m6 158 rfl) rfl
theorem q1467 : (Jvm.Cond.methodLink "BitingDoors$SentenceReader" (55 : Nat) ({ cls := "BitingDoors$SentenceReader", name := "must", desc := "(ZI)V" } : Jvm.MethodName)) ∈ lw_all := lw_g (lw_at lw_m6 159 rfl) rfl
theorem q1468 : (Jvm.Cond.sameMethod "BitingDoors$SentenceReader" "BitingDoors$Reader" "must" "(ZI)V") ∈ lw_all := lw_g (lw_at lw_m6 160 rfl) rfl
theorem q1469 : (Jvm.Cond.selects "BitingDoors$SentenceReader" ({ cls := "BitingDoors$SentenceReader", name := "must", desc := "(ZI)V" } : Jvm.MethodName) ({ cls := "BitingDoors$Reader", name := "must", desc := "(ZI)V" } : Jvm.MethodName)) ∈ lw_all := lw_g (lw_at lw_m6 161 rfl) rfl
theorem q1470 : (Jvm.Cond.methodLink "BitingDoors$SentenceReader" (68 : Nat) ({ cls := "BitingDoors$SentenceReader", name := "next", desc := "()V" } : Jvm.MethodName)) ∈ lw_all := lw_g (lw_at lw_m6 162 rfl) rfl
theorem q1471 : (Jvm.Cond.sameMethod "BitingDoors$SentenceReader" "BitingDoors$Reader" "next" "()V") ∈ lw_all := lw_g (lw_at lw_m6 163 rfl) rfl
theorem q1472 : (Jvm.Cond.selects "BitingDoors$SentenceReader" ({ cls := "BitingDoors$SentenceReader", name := "next", desc := "()V" } : Jvm.MethodName) ({ cls := "BitingDoors$Reader", name := "next", desc := "()V" } : Jvm.MethodName)) ∈ lw_all := lw_g (lw_at lw_m6 164 rfl) rfl
theorem q1473 : (Jvm.Cond.classLink "BitingDoors$SentenceReader" (95 : Nat) "BitingDoors$Not") ∈ lw_all := lw_g (lw_at lw_m6 165 rfl) rfl
theorem q1475 : (Jvm.Cond.methodLink "BitingDoors$SentenceReader" (97 : Nat) ({ cls := "BitingDoors$Not", name := "<init>", desc := "(LBitingDoors$Cond;)V" } : Jvm.MethodName)) ∈ lw_all := lw_g (lw_at lw_m6 167 rfl) rfl
theorem q1486 : (Jvm.Cond.methodLink "BitingDoors$SentenceReader" (100 : Nat) ({ cls := "BitingDoors$SentenceReader", name := "sign", desc := "(I)V" } : Jvm.MethodName)) ∈ lw_all := lw_g (lw_at lw_m6 178 rfl) rfl
theorem q1487 : (Jvm.Cond.sameMethod "BitingDoors$SentenceReader" "BitingDoors$Reader" "sign" "(I)V") ∈ lw_all := lw_g (lw_at lw_m6 179 rfl) rfl
theorem q1488 : (Jvm.Cond.selects "BitingDoors$SentenceReader" ({ cls := "BitingDoors$SentenceReader", name := "sign", desc := "(I)V" } : Jvm.MethodName) ({ cls := "BitingDoors$Reader", name := "sign", desc := "(I)V" } : Jvm.MethodName)) ∈ lw_all := lw_g (lw_at lw_m6 180 rfl) rfl
theorem q1489 : (Jvm.Cond.classLink "BitingDoors$SentenceReader" (104 : Nat) "BitingDoors$Bites") ∈ lw_all := lw_g (lw_at lw_m6 181 rfl) rfl
theorem q1491 : (Jvm.Cond.methodLink "BitingDoors$SentenceReader" (116 : Nat) ({ cls := "BitingDoors$SentenceReader", name := "known", desc := "(LBitingDoors$House;)I" } : Jvm.MethodName)) ∈ lw_all := lw_g (lw_at lw_m6 183 rfl) rfl
theorem q1492 : (Jvm.Cond.sameMethod "BitingDoors$SentenceReader" "BitingDoors$Reader" "known" "(LBitingDoors$House;)I") ∈ lw_all := lw_g (lw_at lw_m6 184 rfl) rfl
theorem q1493 : (Jvm.Cond.selects "BitingDoors$SentenceReader" ({ cls := "BitingDoors$SentenceReader", name := "known", desc := "(LBitingDoors$House;)I" } : Jvm.MethodName) ({ cls := "BitingDoors$Reader", name := "known", desc := "(LBitingDoors$House;)I" } : Jvm.MethodName)) ∈ lw_all := lw_g (lw_at lw_m6 185 rfl) rfl
theorem q1494 : (Jvm.Cond.methodLink "BitingDoors$SentenceReader" (120 : Nat) ({ cls := "BitingDoors$Bites", name := "<init>", desc := "(I)V" } : Jvm.MethodName)) ∈ lw_all := lw_g (lw_at lw_m6 186 rfl) rfl
theorem q1502 : (Jvm.Cond.classLink "BitingDoors$SentenceReader" (122 : Nat) "BitingDoors$Stands") ∈ lw_all := lw_g (lw_at lw_m6 194 rfl) rfl
theorem q1504 : (Jvm.Cond.methodLink "BitingDoors$SentenceReader" (124 : Nat) ({ cls := "BitingDoors$Stands", name := "<init>", desc := "(I)V" } : Jvm.MethodName)) ∈ lw_all := lw_g (lw_at lw_m6 196 rfl) rfl
theorem q1512 : (Jvm.Cond.methodLink "BitingDoors$SentenceReader" (125 : Nat) ({ cls := "BitingDoors$SentenceReader", name := "counts", desc := "(I)LBitingDoors$Cond;" } : Jvm.MethodName)) ∈ lw_all := lw_g (lw_at lw_m6 204 rfl) rfl
theorem q1513 : (Jvm.Cond.privateMethod ({ cls := "BitingDoors$SentenceReader", name := "counts", desc := "(I)LBitingDoors$Cond;" } : Jvm.MethodName)) ∈ lw_tbl := lw_at lw_m6 205 rfl
theorem q1514 : (Jvm.Cond.instanceMethod ({ cls := "BitingDoors$SentenceReader", name := "counts", desc := "(I)LBitingDoors$Cond;" } : Jvm.MethodName)) ∈ lw_all := lw_g (lw_at lw_m6 206 rfl) rfl
theorem q1515 : (Jvm.Cond.code ({ cls := "BitingDoors$SentenceReader", name := "counts", desc := "(I)LBitingDoors$Cond;" } : Jvm.MethodName) prog_20_method_6_code (4 : Nat) (Option.some (Jvm.ClassFile.FieldType.object "BitingDoors$Cond"))) ∈ lw_all := lw_g (lw_at lw_m6 207 rfl) rfl
theorem q1516 : (Jvm.Cond.classLink "BitingDoors$SentenceReader" (130 : Nat) "BitingDoors$Counts") ∈ lw_all := lw_g (lw_at lw_m6 208 rfl) rfl
theorem q1518 : (Jvm.Cond.methodLink "BitingDoors$SentenceReader" (132 : Nat) ({ cls := "BitingDoors$Counts", name := "<init>", desc := "(III)V" } : Jvm.MethodName)) ∈ lw_all := lw_g (lw_at lw_m6 210 rfl) rfl
theorem q1532 : (Jvm.Cond.stringRef "BitingDoors$SentenceReader" (79 : Nat) "and") ∈ lw_tbl := lw_at lw_m6 224 rfl
theorem q1533 : (Jvm.Cond.classLink "BitingDoors$SentenceReader" (81 : Nat) "BitingDoors$Both") ∈ lw_all := lw_g (lw_at lw_m6 225 rfl) rfl
theorem q1535 : (Jvm.Cond.methodLink "BitingDoors$SentenceReader" (83 : Nat) ({ cls := "BitingDoors$Both", name := "<init>", desc := "(LBitingDoors$Cond;LBitingDoors$Cond;)V" } : Jvm.MethodName)) ∈ lw_all := lw_g (lw_at lw_m6 227 rfl) rfl
theorem q1546 : (Jvm.Cond.stringRef "BitingDoors$SentenceReader" (62 : Nat) "or") ∈ lw_tbl := lw_at lw_m6 238 rfl
theorem q1547 : (Jvm.Cond.classLink "BitingDoors$SentenceReader" (71 : Nat) "BitingDoors$Any") ∈ lw_all := lw_g (lw_at lw_m6 239 rfl) rfl
theorem q1549 : (Jvm.Cond.methodLink "BitingDoors$SentenceReader" (73 : Nat) ({ cls := "BitingDoors$Any", name := "<init>", desc := "(LBitingDoors$Cond;LBitingDoors$Cond;)V" } : Jvm.MethodName)) ∈ lw_all := lw_g (lw_at lw_m7 1 rfl) rfl
theorem q2348 : (Jvm.Cond.selects "BitingDoors$SentenceReader" ({ cls := "BitingDoors$Reader", name := "find", desc := "([Ljava/lang/String;)I" } : Jvm.MethodName) ({ cls := "BitingDoors$Reader", name := "find", desc := "([Ljava/lang/String;)I" } : Jvm.MethodName)) ∈ lw_all := lw_g (lw_at lw_m10 80 rfl) rfl
theorem q2352 : (Jvm.Cond.selects "BitingDoors$SentenceReader" ({ cls := "BitingDoors$Reader", name := "areCells", desc := "()Z" } : Jvm.MethodName) ({ cls := "BitingDoors$Reader", name := "areCells", desc := "()Z" } : Jvm.MethodName)) ∈ lw_all := lw_g (lw_at lw_m10 84 rfl) rfl
theorem q2356 : (Jvm.Cond.selects "BitingDoors$SentenceReader" ({ cls := "BitingDoors$Reader", name := "must", desc := "(ZI)V" } : Jvm.MethodName) ({ cls := "BitingDoors$Reader", name := "must", desc := "(ZI)V" } : Jvm.MethodName)) ∈ lw_all := lw_g (lw_at lw_m10 88 rfl) rfl
theorem q2360 : (Jvm.Cond.selects "BitingDoors$SentenceReader" ({ cls := "BitingDoors$Reader", name := "isName", desc := "()Z" } : Jvm.MethodName) ({ cls := "BitingDoors$Reader", name := "isName", desc := "()Z" } : Jvm.MethodName)) ∈ lw_all := lw_g (lw_at lw_m10 92 rfl) rfl
theorem q2364 : (Jvm.Cond.selects "BitingDoors$SentenceReader" ({ cls := "BitingDoors$Reader", name := "of", desc := "(LBitingDoors$House;)I" } : Jvm.MethodName) ({ cls := "BitingDoors$Reader", name := "of", desc := "(LBitingDoors$House;)I" } : Jvm.MethodName)) ∈ lw_all := lw_g (lw_at lw_m10 96 rfl) rfl
theorem q2372 : (Jvm.Cond.castable "BitingDoors$SentenceReader" "java/lang/Object") ∈ lw_tbl := lw_at lw_m10 104 rfl
theorem in_X9 : ∀ w ∈ wsX90, w ∈ lw_all := lw_in wsX90 [478, 479, 480, 481, 482, 483, 484, 485, 470, 472, 474, 476] (by decide +kernel) (by decide +kernel)
theorem q120 : (Jvm.Cond.initialized "BitingDoorsModel") ∈ lw_all := lw_g (lw_at lw_m1 12 rfl) rfl
theorem q1645 : (Jvm.Cond.instantiable "BitingDoorsModel" (64 : Nat)) ∈ lw_all := lw_g (lw_at lw_m7 97 rfl) rfl
theorem q1647 : (Jvm.Cond.instanceMethod ({ cls := "BitingDoorsModel", name := "<init>", desc := "()V" } : Jvm.MethodName)) ∈ lw_all := lw_g (lw_at lw_m7 99 rfl) rfl
theorem q1648 : (Jvm.Cond.code ({ cls := "BitingDoorsModel", name := "<init>", desc := "()V" } : Jvm.MethodName) prog_26_method_1_code (1 : Nat) (Option.none : Option Jvm.ClassFile.FieldType)) ∈ lw_all := lw_g (lw_at lw_m7 100 rfl) rfl
theorem q1649 : (Jvm.Cond.methodLink "BitingDoorsModel" (1 : Nat) ({ cls := "java/lang/Object", name := "<init>", desc := "()V" } : Jvm.MethodName)) ∈ lw_all := lw_g (lw_at lw_m7 101 rfl) rfl
theorem q1650 : (Jvm.Cond.fieldLink "BitingDoorsModel" (108 : Nat) "BitingDoorsModel" "thrown" "I") ∈ lw_all := lw_g (lw_at lw_m7 102 rfl) rfl
theorem q1651 : (Jvm.Cond.fieldLink "BitingDoorsModel" (7 : Nat) "BitingDoorsModel" "tape" "[I") ∈ lw_all := lw_g (lw_at lw_m7 103 rfl) rfl
theorem q1652 : (Jvm.Cond.fieldLink "BitingDoorsModel" (112 : Nat) "BitingDoorsModel" "taped" "I") ∈ lw_all := lw_g (lw_at lw_m7 104 rfl) rfl
theorem q1653 : (Jvm.Cond.fieldLink "BitingDoorsModel" (119 : Nat) "BitingDoorsModel" "size" "I") ∈ lw_all := lw_g (lw_at lw_m7 105 rfl) rfl
theorem q1654 : (Jvm.Cond.fieldLink "BitingDoorsModel" (128 : Nat) "BitingDoorsModel" "limit" "I") ∈ lw_all := lw_g (lw_at lw_m7 106 rfl) rfl
theorem q1655 : (Jvm.Cond.fieldLink "BitingDoorsModel" (122 : Nat) "BitingDoorsModel" "to" "I") ∈ lw_all := lw_g (lw_at lw_m7 107 rfl) rfl
theorem q1656 : (Jvm.Cond.fieldLink "BitingDoorsModel" (125 : Nat) "BitingDoorsModel" "from" "I") ∈ lw_all := lw_g (lw_at lw_m7 108 rfl) rfl
theorem q1657 : (Jvm.Cond.fieldLink "BitingDoorsModel" (131 : Nat) "BitingDoorsModel" "kind" "I") ∈ lw_all := lw_g (lw_at lw_m7 109 rfl) rfl
theorem q1658 : (Jvm.Cond.fieldLink "BitingDoorsModel" (148 : Nat) "BitingDoorsModel" "number" "I") ∈ lw_all := lw_g (lw_at lw_m7 110 rfl) rfl
theorem q1659 : (Jvm.Cond.fieldLink "BitingDoorsModel" (141 : Nat) "BitingDoorsModel" "sign" "I") ∈ lw_all := lw_g (lw_at lw_m7 111 rfl) rfl
theorem q1660 : (Jvm.Cond.fieldLink "BitingDoorsModel" (178 : Nat) "BitingDoorsModel" "fault" "I") ∈ lw_all := lw_g (lw_at lw_m7 112 rfl) rfl
theorem q1661 : (Jvm.Cond.fieldLink "BitingDoorsModel" (181 : Nat) "BitingDoorsModel" "place" "I") ∈ lw_all := lw_g (lw_at lw_m7 113 rfl) rfl
theorem q1662 : (Jvm.Cond.fieldLink "BitingDoorsModel" (144 : Nat) "BitingDoorsModel" "word" "J") ∈ lw_all := lw_g (lw_at lw_m7 114 rfl) rfl
theorem q1663 : (Jvm.Cond.fieldLink "BitingDoorsModel" (191 : Nat) "BitingDoorsModel" "told" "I") ∈ lw_all := lw_g (lw_at lw_m7 115 rfl) rfl
theorem q1664 : (Jvm.Cond.fieldLink "BitingDoorsModel" (13 : Nat) "BitingDoorsModel" "now" "[I") ∈ lw_all := lw_g (lw_at lw_m7 116 rfl) rfl
theorem q1665 : (Jvm.Cond.fieldLink "BitingDoorsModel" (16 : Nat) "BitingDoorsModel" "read" "[I") ∈ lw_all := lw_g (lw_at lw_m7 117 rfl) rfl
theorem q1666 : (Jvm.Cond.fieldLink "BitingDoorsModel" (19 : Nat) "BitingDoorsModel" "line" "[I") ∈ lw_all := lw_g (lw_at lw_m7 118 rfl) rfl
theorem q1667 : (Jvm.Cond.fieldLink "BitingDoorsModel" (22 : Nat) "BitingDoorsModel" "kept" "[I") ∈ lw_all := lw_g (lw_at lw_m7 119 rfl) rfl
theorem q1668 : (Jvm.Cond.fieldLink "BitingDoorsModel" (25 : Nat) "BitingDoorsModel" "name" "[J") ∈ lw_all := lw_g (lw_at lw_m7 120 rfl) rfl
theorem q1669 : (Jvm.Cond.fieldLink "BitingDoorsModel" (29 : Nat) "BitingDoorsModel" "readName" "[J") ∈ lw_all := lw_g (lw_at lw_m7 121 rfl) rfl
theorem q1670 : (Jvm.Cond.fieldLink "BitingDoorsModel" (32 : Nat) "BitingDoorsModel" "keptName" "[J") ∈ lw_all := lw_g (lw_at lw_m7 122 rfl) rfl
theorem q1671 : (Jvm.Cond.fieldLink "BitingDoorsModel" (35 : Nat) "BitingDoorsModel" "isKept" "[Z") ∈ lw_all := lw_g (lw_at lw_m7 123 rfl) rfl
theorem q1672 : (Jvm.Cond.fieldLink "BitingDoorsModel" (207 : Nat) "BitingDoorsModel" "isBegun" "Z") ∈ lw_all := lw_g (lw_at lw_m7 124 rfl) rfl
theorem q1673 : (Jvm.Cond.fieldLink "BitingDoorsModel" (255 : Nat) "BitingDoorsModel" "minutes" "I") ∈ lw_all := lw_g (lw_at lw_m7 125 rfl) rfl
theorem q1674 : (Jvm.Cond.fieldLink "BitingDoorsModel" (39 : Nat) "BitingDoorsModel" "leafX" "[I") ∈ lw_all := lw_g (lw_at lw_m7 126 rfl) rfl
theorem q1675 : (Jvm.Cond.fieldLink "BitingDoorsModel" (42 : Nat) "BitingDoorsModel" "leafY" "[I") ∈ lw_all := lw_g (lw_at lw_m7 127 rfl) rfl
theorem q1676 : (Jvm.Cond.fieldLink "BitingDoorsModel" (271 : Nat) "BitingDoorsModel" "leafMany" "I") ∈ lw_all := lw_g (lw_at lw_m7 128 rfl) rfl
theorem q1677 : (Jvm.Cond.fieldLink "BitingDoorsModel" (45 : Nat) "BitingDoorsModel" "upper" "[J") ∈ lw_all := lw_g (lw_at lw_m7 129 rfl) rfl
theorem q1678 : (Jvm.Cond.fieldLink "BitingDoorsModel" (48 : Nat) "BitingDoorsModel" "lower" "[J") ∈ lw_all := lw_g (lw_at lw_m7 130 rfl) rfl
theorem q1679 : (Jvm.Cond.fieldLink "BitingDoorsModel" (51 : Nat) "BitingDoorsModel" "fits" "[I") ∈ lw_all := lw_g (lw_at lw_m7 131 rfl) rfl
theorem q1680 : (Jvm.Cond.fieldLink "BitingDoorsModel" (54 : Nat) "BitingDoorsModel" "trial" "[I") ∈ lw_all := lw_g (lw_at lw_m7 132 rfl) rfl
theorem q1681 : (Jvm.Cond.fieldLink "BitingDoorsModel" (57 : Nat) "BitingDoorsModel" "best" "[I") ∈ lw_all := lw_g (lw_at lw_m7 133 rfl) rfl
theorem q1682 : (Jvm.Cond.fieldLink "BitingDoorsModel" (306 : Nat) "BitingDoorsModel" "least" "I") ∈ lw_all := lw_g (lw_at lw_m7 134 rfl) rfl
theorem q1683 : (Jvm.Cond.fieldLink "BitingDoorsModel" (324 : Nat) "BitingDoorsModel" "waysMany" "I") ∈ lw_all := lw_g (lw_at lw_m7 135 rfl) rfl
theorem q1684 : (Jvm.Cond.fieldLink "BitingDoorsModel" (60 : Nat) "BitingDoorsModel" "left" "[I") ∈ lw_all := lw_g (lw_at lw_m7 136 rfl) rfl
theorem q1685 : (Jvm.Cond.fieldLink "BitingDoorsModel" (63 : Nat) "BitingDoorsModel" "forcedTo" "[I") ∈ lw_all := lw_g (lw_at lw_m7 137 rfl) rfl
theorem q1686 : (Jvm.Cond.fieldLink "BitingDoorsModel" (66 : Nat) "BitingDoorsModel" "forcedRow" "[I") ∈ lw_all := lw_g (lw_at lw_m7 138 rfl) rfl
theorem q1687 : (Jvm.Cond.fieldLink "BitingDoorsModel" (333 : Nat) "BitingDoorsModel" "forcedMany" "I") ∈ lw_all := lw_g (lw_at lw_m7 139 rfl) rfl
theorem q1688 : (Jvm.Cond.fieldLink "BitingDoorsModel" (336 : Nat) "BitingDoorsModel" "forcedDoors" "I") ∈ lw_all := lw_g (lw_at lw_m7 140 rfl) rfl
theorem q1689 : (Jvm.Cond.fieldLink "BitingDoorsModel" (69 : Nat) "BitingDoorsModel" "clash" "[I") ∈ lw_all := lw_g (lw_at lw_m7 141 rfl) rfl
theorem q1690 : (Jvm.Cond.fieldLink "BitingDoorsModel" (72 : Nat) "BitingDoorsModel" "worst" "[I") ∈ lw_all := lw_g (lw_at lw_m7 142 rfl) rfl
theorem q1691 : (Jvm.Cond.fieldLink "BitingDoorsModel" (75 : Nat) "BitingDoorsModel" "joined" "[I") ∈ lw_all := lw_g (lw_at lw_m7 143 rfl) rfl
theorem q1692 : (Jvm.Cond.fieldLink "BitingDoorsModel" (351 : Nat) "BitingDoorsModel" "joinedMany" "I") ∈ lw_all := lw_g (lw_at lw_m7 144 rfl) rfl
theorem q1693 : (Jvm.Cond.fieldLink "BitingDoorsModel" (78 : Nat) "BitingDoorsModel" "angle" "[I") ∈ lw_all := lw_g (lw_at lw_m7 145 rfl) rfl
theorem q1694 : (Jvm.Cond.fieldLink "BitingDoorsModel" (81 : Nat) "BitingDoorsModel" "leafOn" "[I") ∈ lw_all := lw_g (lw_at lw_m7 146 rfl) rfl
theorem q1695 : (Jvm.Cond.fieldLink "BitingDoorsModel" (354 : Nat) "BitingDoorsModel" "stands" "I") ∈ lw_all := lw_g (lw_at lw_m7 147 rfl) rfl
theorem q1696 : (Jvm.Cond.fieldLink "BitingDoorsModel" (357 : Nat) "BitingDoorsModel" "draughtShut" "I") ∈ lw_all := lw_g (lw_at lw_m7 148 rfl) rfl
theorem q1697 : (Jvm.Cond.fieldLink "BitingDoorsModel" (393 : Nat) "BitingDoorsModel" "lineMany" "I") ∈ lw_all := lw_g (lw_at lw_m7 149 rfl) rfl
theorem q1698 : (Jvm.Cond.fieldLink "BitingDoorsModel" (84 : Nat) "BitingDoorsModel" "judged" "[I") ∈ lw_all := lw_g (lw_at lw_m7 150 rfl) rfl
theorem q1699 : (Jvm.Cond.fieldLink "BitingDoorsModel" (399 : Nat) "BitingDoorsModel" "spent" "I") ∈ lw_all := lw_g (lw_at lw_m7 151 rfl) rfl
theorem q1700 : (Jvm.Cond.fieldLink "BitingDoorsModel" (87 : Nat) "BitingDoorsModel" "queue" "[I") ∈ lw_all := lw_g (lw_at lw_m7 152 rfl) rfl
theorem q1701 : (Jvm.Cond.fieldLink "BitingDoorsModel" (90 : Nat) "BitingDoorsModel" "cameFrom" "[I") ∈ lw_all := lw_g (lw_at lw_m7 153 rfl) rfl
theorem q1702 : (Jvm.Cond.fieldLink "BitingDoorsModel" (93 : Nat) "BitingDoorsModel" "cameBy" "[I") ∈ lw_all := lw_g (lw_at lw_m7 154 rfl) rfl
theorem q1703 : (Jvm.Cond.fieldLink "BitingDoorsModel" (96 : Nat) "BitingDoorsModel" "wayRow" "[I") ∈ lw_all := lw_g (lw_at lw_m7 155 rfl) rfl
theorem q1704 : (Jvm.Cond.fieldLink "BitingDoorsModel" (99 : Nat) "BitingDoorsModel" "wayTold" "[I") ∈ lw_all := lw_g (lw_at lw_m7 156 rfl) rfl
theorem q1705 : (Jvm.Cond.fieldLink "BitingDoorsModel" (414 : Nat) "BitingDoorsModel" "queued" "I") ∈ lw_all := lw_g (lw_at lw_m7 157 rfl) rfl
theorem q1706 : (Jvm.Cond.fieldLink "BitingDoorsModel" (423 : Nat) "BitingDoorsModel" "wayMany" "I") ∈ lw_all := lw_g (lw_at lw_m7 158 rfl) rfl
theorem q1707 : (Jvm.Cond.fieldLink "BitingDoorsModel" (429 : Nat) "BitingDoorsModel" "wayToldMany" "I") ∈ lw_all := lw_g (lw_at lw_m7 159 rfl) rfl
theorem q1708 : (Jvm.Cond.fieldLink "BitingDoorsModel" (102 : Nat) "BitingDoorsModel" "met" "[Z") ∈ lw_all := lw_g (lw_at lw_m7 160 rfl) rfl
theorem q1709 : (Jvm.Cond.fieldLink "BitingDoorsModel" (105 : Nat) "BitingDoorsModel" "node" "[I") ∈ lw_all := lw_g (lw_at lw_m7 161 rfl) rfl
theorem q1710 : (Jvm.Cond.fieldLink "BitingDoorsModel" (435 : Nat) "BitingDoorsModel" "nodes" "I") ∈ lw_all := lw_g (lw_at lw_m7 162 rfl) rfl
theorem q1711 : (Jvm.Cond.fieldLink "BitingDoorsModel" (453 : Nat) "BitingDoorsModel" "onesMany" "I") ∈ lw_all := lw_g (lw_at lw_m7 163 rfl) rfl
theorem q1712 : (Jvm.Cond.fieldLink "BitingDoorsModel" (456 : Nat) "BitingDoorsModel" "within" "I") ∈ lw_all := lw_g (lw_at lw_m7 164 rfl) rfl
theorem q1713 : (Jvm.Cond.fieldLink "BitingDoorsModel" (441 : Nat) "BitingDoorsModel" "top" "I") ∈ lw_all := lw_g (lw_at lw_m7 165 rfl) rfl
theorem q1714 : (Jvm.Cond.lays "BitingDoorsModel" "BitingDoorsModel" "thrown" "I") ∈ lw_all := lw_g (lw_at lw_m7 166 rfl) rfl
theorem q1715 : (Jvm.Cond.soleField "BitingDoorsModel" "thrown") ∈ lw_all := lw_g (lw_at lw_m7 167 rfl) rfl
theorem q1716 : (Jvm.Cond.laysFinal "BitingDoorsModel" "BitingDoorsModel" "tape" "[I") ∈ lw_all := lw_g (lw_at lw_m7 168 rfl) rfl
theorem q1717 : (Jvm.Cond.soleField "BitingDoorsModel" "tape") ∈ lw_all := lw_g (lw_at lw_m7 169 rfl) rfl
theorem q1718 : (Jvm.Cond.lays "BitingDoorsModel" "BitingDoorsModel" "taped" "I") ∈ lw_all := lw_g (lw_at lw_m7 170 rfl) rfl
theorem q1719 : (Jvm.Cond.soleField "BitingDoorsModel" "taped") ∈ lw_all := lw_g (lw_at lw_m7 171 rfl) rfl
theorem q1720 : (Jvm.Cond.lays "BitingDoorsModel" "BitingDoorsModel" "size" "I") ∈ lw_all := lw_g (lw_at lw_m7 172 rfl) rfl
theorem q1721 : (Jvm.Cond.soleField "BitingDoorsModel" "size") ∈ lw_all := lw_g (lw_at lw_m7 173 rfl) rfl
theorem q1722 : (Jvm.Cond.lays "BitingDoorsModel" "BitingDoorsModel" "limit" "I") ∈ lw_all := lw_g (lw_at lw_m7 174 rfl) rfl
theorem q1723 : (Jvm.Cond.soleField "BitingDoorsModel" "limit") ∈ lw_all := lw_g (lw_at lw_m7 175 rfl) rfl
theorem q1724 : (Jvm.Cond.lays "BitingDoorsModel" "BitingDoorsModel" "to" "I") ∈ lw_all := lw_g (lw_at lw_m7 176 rfl) rfl
theorem q1725 : (Jvm.Cond.soleField "BitingDoorsModel" "to") ∈ lw_all := lw_g (lw_at lw_m7 177 rfl) rfl
theorem q1726 : (Jvm.Cond.lays "BitingDoorsModel" "BitingDoorsModel" "from" "I") ∈ lw_all := lw_g (lw_at lw_m7 178 rfl) rfl
theorem q1727 : (Jvm.Cond.soleField "BitingDoorsModel" "from") ∈ lw_all := lw_g (lw_at lw_m7 179 rfl) rfl
theorem q1728 : (Jvm.Cond.lays "BitingDoorsModel" "BitingDoorsModel" "kind" "I") ∈ lw_all := lw_g (lw_at lw_m7 180 rfl) rfl
theorem q1729 : (Jvm.Cond.soleField "BitingDoorsModel" "kind") ∈ lw_all := lw_g (lw_at lw_m7 181 rfl) rfl
theorem q1730 : (Jvm.Cond.lays "BitingDoorsModel" "BitingDoorsModel" "number" "I") ∈ lw_all := lw_g (lw_at lw_m7 182 rfl) rfl
theorem q1731 : (Jvm.Cond.soleField "BitingDoorsModel" "number") ∈ lw_all := lw_g (lw_at lw_m7 183 rfl) rfl
theorem q1732 : (Jvm.Cond.lays "BitingDoorsModel" "BitingDoorsModel" "sign" "I") ∈ lw_all := lw_g (lw_at lw_m7 184 rfl) rfl
theorem q1733 : (Jvm.Cond.soleField "BitingDoorsModel" "sign") ∈ lw_all := lw_g (lw_at lw_m7 185 rfl) rfl
theorem q1734 : (Jvm.Cond.lays "BitingDoorsModel" "BitingDoorsModel" "fault" "I") ∈ lw_all := lw_g (lw_at lw_m7 186 rfl) rfl
theorem q1735 : (Jvm.Cond.soleField "BitingDoorsModel" "fault") ∈ lw_all := lw_g (lw_at lw_m7 187 rfl) rfl
theorem q1736 : (Jvm.Cond.lays "BitingDoorsModel" "BitingDoorsModel" "place" "I") ∈ lw_all := lw_g (lw_at lw_m7 188 rfl) rfl
theorem q1737 : (Jvm.Cond.soleField "BitingDoorsModel" "place") ∈ lw_all := lw_g (lw_at lw_m7 189 rfl) rfl
theorem q1738 : (Jvm.Cond.lays "BitingDoorsModel" "BitingDoorsModel" "word" "J") ∈ lw_all := lw_g (lw_at lw_m7 190 rfl) rfl
theorem q1739 : (Jvm.Cond.soleField "BitingDoorsModel" "word") ∈ lw_all := lw_g (lw_at lw_m7 191 rfl) rfl
theorem q1740 : (Jvm.Cond.lays "BitingDoorsModel" "BitingDoorsModel" "told" "I") ∈ lw_all := lw_g (lw_at lw_m7 192 rfl) rfl
theorem q1741 : (Jvm.Cond.soleField "BitingDoorsModel" "told") ∈ lw_all := lw_g (lw_at lw_m7 193 rfl) rfl
theorem q1742 : (Jvm.Cond.laysFinal "BitingDoorsModel" "BitingDoorsModel" "now" "[I") ∈ lw_all := lw_g (lw_at lw_m7 194 rfl) rfl
theorem q1743 : (Jvm.Cond.soleField "BitingDoorsModel" "now") ∈ lw_all := lw_g (lw_at lw_m7 195 rfl) rfl
theorem q1744 : (Jvm.Cond.laysFinal "BitingDoorsModel" "BitingDoorsModel" "read" "[I") ∈ lw_all := lw_g (lw_at lw_m7 196 rfl) rfl
theorem q1745 : (Jvm.Cond.soleField "BitingDoorsModel" "read") ∈ lw_all := lw_g (lw_at lw_m7 197 rfl) rfl
theorem q1746 : (Jvm.Cond.laysFinal "BitingDoorsModel" "BitingDoorsModel" "line" "[I") ∈ lw_all := lw_g (lw_at lw_m7 198 rfl) rfl
theorem q1747 : (Jvm.Cond.soleField "BitingDoorsModel" "line") ∈ lw_all := lw_g (lw_at lw_m7 199 rfl) rfl
theorem q1748 : (Jvm.Cond.laysFinal "BitingDoorsModel" "BitingDoorsModel" "kept" "[I") ∈ lw_all := lw_g (lw_at lw_m7 200 rfl) rfl
theorem q1749 : (Jvm.Cond.soleField "BitingDoorsModel" "kept") ∈ lw_all := lw_g (lw_at lw_m7 201 rfl) rfl
theorem q1750 : (Jvm.Cond.laysFinal "BitingDoorsModel" "BitingDoorsModel" "name" "[J") ∈ lw_all := lw_g (lw_at lw_m7 202 rfl) rfl
theorem q1751 : (Jvm.Cond.soleField "BitingDoorsModel" "name") ∈ lw_all := lw_g (lw_at lw_m7 203 rfl) rfl
theorem q1752 : (Jvm.Cond.laysFinal "BitingDoorsModel" "BitingDoorsModel" "readName" "[J") ∈ lw_all := lw_g (lw_at lw_m7 204 rfl) rfl
theorem q1753 : (Jvm.Cond.soleField "BitingDoorsModel" "readName") ∈ lw_all := lw_g (lw_at lw_m7 205 rfl) rfl
theorem q1754 : (Jvm.Cond.laysFinal "BitingDoorsModel" "BitingDoorsModel" "keptName" "[J") ∈ lw_all := lw_g (lw_at lw_m7 206 rfl) rfl
theorem q1755 : (Jvm.Cond.soleField "BitingDoorsModel" "keptName") ∈ lw_all := lw_g (lw_at lw_m7 207 rfl) rfl
theorem q1756 : (Jvm.Cond.laysFinal "BitingDoorsModel" "BitingDoorsModel" "isKept" "[Z") ∈ lw_all := lw_g (lw_at lw_m7 208 rfl) rfl
theorem q1757 : (Jvm.Cond.soleField "BitingDoorsModel" "isKept") ∈ lw_all := lw_g (lw_at lw_m7 209 rfl) rfl
theorem q1758 : (Jvm.Cond.lays "BitingDoorsModel" "BitingDoorsModel" "isBegun" "Z") ∈ lw_all := lw_g (lw_at lw_m7 210 rfl) rfl
theorem q1759 : (Jvm.Cond.soleField "BitingDoorsModel" "isBegun") ∈ lw_all := lw_g (lw_at lw_m7 211 rfl) rfl
theorem q1760 : (Jvm.Cond.lays "BitingDoorsModel" "BitingDoorsModel" "minutes" "I") ∈ lw_all := lw_g (lw_at lw_m7 212 rfl) rfl
theorem q1761 : (Jvm.Cond.soleField "BitingDoorsModel" "minutes") ∈ lw_all := lw_g (lw_at lw_m7 213 rfl) rfl
theorem q1762 : (Jvm.Cond.laysFinal "BitingDoorsModel" "BitingDoorsModel" "leafX" "[I") ∈ lw_all := lw_g (lw_at lw_m7 214 rfl) rfl
theorem q1763 : (Jvm.Cond.soleField "BitingDoorsModel" "leafX") ∈ lw_all := lw_g (lw_at lw_m7 215 rfl) rfl
theorem q1764 : (Jvm.Cond.laysFinal "BitingDoorsModel" "BitingDoorsModel" "leafY" "[I") ∈ lw_all := lw_g (lw_at lw_m7 216 rfl) rfl
theorem q1765 : (Jvm.Cond.soleField "BitingDoorsModel" "leafY") ∈ lw_all := lw_g (lw_at lw_m7 217 rfl) rfl
theorem q1766 : (Jvm.Cond.lays "BitingDoorsModel" "BitingDoorsModel" "leafMany" "I") ∈ lw_all := lw_g (lw_at lw_m7 218 rfl) rfl
theorem q1767 : (Jvm.Cond.soleField "BitingDoorsModel" "leafMany") ∈ lw_all := lw_g (lw_at lw_m7 219 rfl) rfl
theorem q1768 : (Jvm.Cond.laysFinal "BitingDoorsModel" "BitingDoorsModel" "upper" "[J") ∈ lw_all := lw_g (lw_at lw_m7 220 rfl) rfl
theorem q1769 : (Jvm.Cond.soleField "BitingDoorsModel" "upper") ∈ lw_all := lw_g (lw_at lw_m7 221 rfl) rfl
theorem q1770 : (Jvm.Cond.laysFinal "BitingDoorsModel" "BitingDoorsModel" "lower" "[J") ∈ lw_all := lw_g (lw_at lw_m7 222 rfl) rfl
theorem q1771 : (Jvm.Cond.soleField "BitingDoorsModel" "lower") ∈ lw_all := lw_g (lw_at lw_m7 223 rfl) rfl
theorem q1772 : (Jvm.Cond.laysFinal "BitingDoorsModel" "BitingDoorsModel" "fits" "[I") ∈ lw_all := lw_g (lw_at lw_m7 224 rfl) rfl
theorem q1773 : (Jvm.Cond.soleField "BitingDoorsModel" "fits") ∈ lw_all := lw_g (lw_at lw_m7 225 rfl) rfl
theorem q1774 : (Jvm.Cond.laysFinal "BitingDoorsModel" "BitingDoorsModel" "trial" "[I") ∈ lw_all := lw_g (lw_at lw_m7 226 rfl) rfl
theorem q1775 : (Jvm.Cond.soleField "BitingDoorsModel" "trial") ∈ lw_all := lw_g (lw_at lw_m7 227 rfl) rfl
theorem q1776 : (Jvm.Cond.laysFinal "BitingDoorsModel" "BitingDoorsModel" "best" "[I") ∈ lw_all := lw_g (lw_at lw_m7 228 rfl) rfl
theorem q1777 : (Jvm.Cond.soleField "BitingDoorsModel" "best") ∈ lw_all := lw_g (lw_at lw_m7 229 rfl) rfl
theorem q1778 : (Jvm.Cond.lays "BitingDoorsModel" "BitingDoorsModel" "least" "I") ∈ lw_all := lw_g (lw_at lw_m7 230 rfl) rfl
theorem q1779 : (Jvm.Cond.soleField "BitingDoorsModel" "least") ∈ lw_all := lw_g (lw_at lw_m7 231 rfl) rfl
theorem q1780 : (Jvm.Cond.lays "BitingDoorsModel" "BitingDoorsModel" "waysMany" "I") ∈ lw_all := lw_g (lw_at lw_m7 232 rfl) rfl
theorem q1781 : (Jvm.Cond.soleField "BitingDoorsModel" "waysMany") ∈ lw_all := lw_g (lw_at lw_m7 233 rfl) rfl
theorem q1782 : (Jvm.Cond.laysFinal "BitingDoorsModel" "BitingDoorsModel" "left" "[I") ∈ lw_all := lw_g (lw_at lw_m7 234 rfl) rfl
theorem q1783 : (Jvm.Cond.soleField "BitingDoorsModel" "left") ∈ lw_all := lw_g (lw_at lw_m7 235 rfl) rfl
theorem q1784 : (Jvm.Cond.laysFinal "BitingDoorsModel" "BitingDoorsModel" "forcedTo" "[I") ∈ lw_all := lw_g (lw_at lw_m7 236 rfl) rfl
theorem q1785 : (Jvm.Cond.soleField "BitingDoorsModel" "forcedTo") ∈ lw_all := lw_g (lw_at lw_m7 237 rfl) rfl
theorem q1786 : (Jvm.Cond.laysFinal "BitingDoorsModel" "BitingDoorsModel" "forcedRow" "[I") ∈ lw_all := lw_g (lw_at lw_m7 238 rfl) rfl
theorem q1787 : (Jvm.Cond.soleField "BitingDoorsModel" "forcedRow") ∈ lw_all := lw_g (lw_at lw_m7 239 rfl) rfl
theorem q1788 : (Jvm.Cond.lays "BitingDoorsModel" "BitingDoorsModel" "forcedMany" "I") ∈ lw_all := lw_g (lw_at lw_m8 0 rfl) rfl
theorem q1789 : (Jvm.Cond.soleField "BitingDoorsModel" "forcedMany") ∈ lw_all := lw_g (lw_at lw_m8 1 rfl) rfl
theorem q1790 : (Jvm.Cond.lays "BitingDoorsModel" "BitingDoorsModel" "forcedDoors" "I") ∈ lw_all := lw_g (lw_at lw_m8 2 rfl) rfl
theorem q1791 : (Jvm.Cond.soleField "BitingDoorsModel" "forcedDoors") ∈ lw_all := lw_g (lw_at lw_m8 3 rfl) rfl
theorem q1792 : (Jvm.Cond.laysFinal "BitingDoorsModel" "BitingDoorsModel" "clash" "[I") ∈ lw_all := lw_g (lw_at lw_m8 4 rfl) rfl
theorem q1793 : (Jvm.Cond.soleField "BitingDoorsModel" "clash") ∈ lw_all := lw_g (lw_at lw_m8 5 rfl) rfl
theorem q1794 : (Jvm.Cond.laysFinal "BitingDoorsModel" "BitingDoorsModel" "worst" "[I") ∈ lw_all := lw_g (lw_at lw_m8 6 rfl) rfl
theorem q1795 : (Jvm.Cond.soleField "BitingDoorsModel" "worst") ∈ lw_all := lw_g (lw_at lw_m8 7 rfl) rfl
theorem q1796 : (Jvm.Cond.laysFinal "BitingDoorsModel" "BitingDoorsModel" "joined" "[I") ∈ lw_all := lw_g (lw_at lw_m8 8 rfl) rfl
theorem q1797 : (Jvm.Cond.soleField "BitingDoorsModel" "joined") ∈ lw_all := lw_g (lw_at lw_m8 9 rfl) rfl
theorem q1798 : (Jvm.Cond.lays "BitingDoorsModel" "BitingDoorsModel" "joinedMany" "I") ∈ lw_all := lw_g (lw_at lw_m8 10 rfl) rfl
theorem q1799 : (Jvm.Cond.soleField "BitingDoorsModel" "joinedMany") ∈ lw_all := lw_g (lw_at lw_m8 11 rfl) rfl
theorem q1800 : (Jvm.Cond.laysFinal "BitingDoorsModel" "BitingDoorsModel" "angle" "[I") ∈ lw_all := lw_g (lw_at lw_m8 12 rfl) rfl
theorem q1801 : (Jvm.Cond.soleField "BitingDoorsModel" "angle") ∈ lw_all := lw_g (lw_at lw_m8 13 rfl) rfl
theorem q1802 : (Jvm.Cond.laysFinal "BitingDoorsModel" "BitingDoorsModel" "leafOn" "[I") ∈ lw_all := lw_g (lw_at lw_m8 14 rfl) rfl
theorem q1803 : (Jvm.Cond.soleField "BitingDoorsModel" "leafOn") ∈ lw_all := lw_g (lw_at lw_m8 15 rfl) rfl
theorem q1804 : (Jvm.Cond.lays "BitingDoorsModel" "BitingDoorsModel" "stands" "I") ∈ lw_all := lw_g (lw_at lw_m8 16 rfl) rfl
theorem q1805 : (Jvm.Cond.soleField "BitingDoorsModel" "stands") ∈ lw_all := lw_g (lw_at lw_m8 17 rfl) rfl
theorem q1806 : (Jvm.Cond.lays "BitingDoorsModel" "BitingDoorsModel" "draughtShut" "I") ∈ lw_all := lw_g (lw_at lw_m8 18 rfl) rfl
theorem q1807 : (Jvm.Cond.soleField "BitingDoorsModel" "draughtShut") ∈ lw_all := lw_g (lw_at lw_m8 19 rfl) rfl
theorem q1808 : (Jvm.Cond.lays "BitingDoorsModel" "BitingDoorsModel" "lineMany" "I") ∈ lw_all := lw_g (lw_at lw_m8 20 rfl) rfl
theorem q1809 : (Jvm.Cond.soleField "BitingDoorsModel" "lineMany") ∈ lw_all := lw_g (lw_at lw_m8 21 rfl) rfl
theorem q1810 : (Jvm.Cond.laysFinal "BitingDoorsModel" "BitingDoorsModel" "judged" "[I") ∈ lw_all := lw_g (lw_at lw_m8 22 rfl) rfl
theorem q1811 : (Jvm.Cond.soleField "BitingDoorsModel" "judged") ∈ lw_all := lw_g (lw_at lw_m8 23 rfl) rfl
theorem q1812 : (Jvm.Cond.lays "BitingDoorsModel" "BitingDoorsModel" "spent" "I") ∈ lw_all := lw_g (lw_at lw_m8 24 rfl) rfl
theorem q1813 : (Jvm.Cond.soleField "BitingDoorsModel" "spent") ∈ lw_all := lw_g (lw_at lw_m8 25 rfl) rfl
theorem q1814 : (Jvm.Cond.laysFinal "BitingDoorsModel" "BitingDoorsModel" "queue" "[I") ∈ lw_all := lw_g (lw_at lw_m8 26 rfl) rfl
theorem q1815 : (Jvm.Cond.soleField "BitingDoorsModel" "queue") ∈ lw_all := lw_g (lw_at lw_m8 27 rfl) rfl
theorem q1816 : (Jvm.Cond.laysFinal "BitingDoorsModel" "BitingDoorsModel" "cameFrom" "[I") ∈ lw_all := lw_g (lw_at lw_m8 28 rfl) rfl
theorem q1817 : (Jvm.Cond.soleField "BitingDoorsModel" "cameFrom") ∈ lw_all := lw_g (lw_at lw_m8 29 rfl) rfl
theorem q1818 : (Jvm.Cond.laysFinal "BitingDoorsModel" "BitingDoorsModel" "cameBy" "[I") ∈ lw_all := lw_g (lw_at lw_m8 30 rfl) rfl
theorem q1819 : (Jvm.Cond.soleField "BitingDoorsModel" "cameBy") ∈ lw_all := lw_g (lw_at lw_m8 31 rfl) rfl
theorem q1820 : (Jvm.Cond.laysFinal "BitingDoorsModel" "BitingDoorsModel" "wayRow" "[I") ∈ lw_all := lw_g (lw_at lw_m8 32 rfl) rfl
theorem q1821 : (Jvm.Cond.soleField "BitingDoorsModel" "wayRow") ∈ lw_all := lw_g (lw_at lw_m8 33 rfl) rfl
theorem q1822 : (Jvm.Cond.laysFinal "BitingDoorsModel" "BitingDoorsModel" "wayTold" "[I") ∈ lw_all := lw_g (lw_at lw_m8 34 rfl) rfl
theorem q1823 : (Jvm.Cond.soleField "BitingDoorsModel" "wayTold") ∈ lw_all := lw_g (lw_at lw_m8 35 rfl) rfl
theorem q1824 : (Jvm.Cond.lays "BitingDoorsModel" "BitingDoorsModel" "queued" "I") ∈ lw_all := lw_g (lw_at lw_m8 36 rfl) rfl
theorem q1825 : (Jvm.Cond.soleField "BitingDoorsModel" "queued") ∈ lw_all := lw_g (lw_at lw_m8 37 rfl) rfl
theorem q1826 : (Jvm.Cond.lays "BitingDoorsModel" "BitingDoorsModel" "wayMany" "I") ∈ lw_all := lw_g (lw_at lw_m8 38 rfl) rfl
theorem q1827 : (Jvm.Cond.soleField "BitingDoorsModel" "wayMany") ∈ lw_all := lw_g (lw_at lw_m8 39 rfl) rfl
theorem q1828 : (Jvm.Cond.lays "BitingDoorsModel" "BitingDoorsModel" "wayToldMany" "I") ∈ lw_all := lw_g (lw_at lw_m8 40 rfl) rfl
theorem q1829 : (Jvm.Cond.soleField "BitingDoorsModel" "wayToldMany") ∈ lw_all := lw_g (lw_at lw_m8 41 rfl) rfl
theorem q1830 : (Jvm.Cond.laysFinal "BitingDoorsModel" "BitingDoorsModel" "met" "[Z") ∈ lw_all := lw_g (lw_at lw_m8 42 rfl) rfl
theorem q1831 : (Jvm.Cond.soleField "BitingDoorsModel" "met") ∈ lw_all := lw_g (lw_at lw_m8 43 rfl) rfl
theorem q1832 : (Jvm.Cond.laysFinal "BitingDoorsModel" "BitingDoorsModel" "node" "[I") ∈ lw_all := lw_g (lw_at lw_m8 44 rfl) rfl
theorem q1833 : (Jvm.Cond.soleField "BitingDoorsModel" "node") ∈ lw_all := lw_g (lw_at lw_m8 45 rfl) rfl
theorem q1834 : (Jvm.Cond.lays "BitingDoorsModel" "BitingDoorsModel" "nodes" "I") ∈ lw_all := lw_g (lw_at lw_m8 46 rfl) rfl
theorem q1835 : (Jvm.Cond.soleField "BitingDoorsModel" "nodes") ∈ lw_all := lw_g (lw_at lw_m8 47 rfl) rfl
theorem q1836 : (Jvm.Cond.lays "BitingDoorsModel" "BitingDoorsModel" "onesMany" "I") ∈ lw_all := lw_g (lw_at lw_m8 48 rfl) rfl
theorem q1837 : (Jvm.Cond.soleField "BitingDoorsModel" "onesMany") ∈ lw_all := lw_g (lw_at lw_m8 49 rfl) rfl
theorem q1838 : (Jvm.Cond.lays "BitingDoorsModel" "BitingDoorsModel" "within" "I") ∈ lw_all := lw_g (lw_at lw_m8 50 rfl) rfl
theorem q1839 : (Jvm.Cond.soleField "BitingDoorsModel" "within") ∈ lw_all := lw_g (lw_at lw_m8 51 rfl) rfl
theorem q1840 : (Jvm.Cond.lays "BitingDoorsModel" "BitingDoorsModel" "top" "I") ∈ lw_all := lw_g (lw_at lw_m8 52 rfl) rfl
theorem q1841 : (Jvm.Cond.soleField "BitingDoorsModel" "top") ∈ lw_all := lw_g (lw_at lw_m8 53 rfl) rfl
theorem q1842 : (Jvm.Cond.superclass "BitingDoorsModel" "java/lang/Object") ∈ lw_all := lw_g (lw_at lw_m8 54 rfl) rfl
theorem q1845 : (Jvm.Cond.instanceMethod ({ cls := "BitingDoorsModel", name := "thrown", desc := "()I" } : Jvm.MethodName)) ∈ lw_all := lw_g (lw_at lw_m8 57 rfl) rfl
theorem q1846 : (Jvm.Cond.selects "BitingDoorsModel" ({ cls := "BitingDoorsModel", name := "thrown", desc := "()I" } : Jvm.MethodName) ({ cls := "BitingDoorsModel", name := "thrown", desc := "()I" } : Jvm.MethodName)) ∈ lw_all := lw_g (lw_at lw_m8 58 rfl) rfl
theorem q1847 : (Jvm.Cond.code ({ cls := "BitingDoorsModel", name := "thrown", desc := "()I" } : Jvm.MethodName) prog_26_method_2_code (1 : Nat) (Option.some Jvm.ClassFile.FieldType.int)) ∈ lw_all := lw_g (lw_at lw_m8 59 rfl) rfl
theorem q1849 : (Jvm.Cond.instanceMethod ({ cls := "BitingDoorsModel", name := "feed", desc := "(IIIII)I" } : Jvm.MethodName)) ∈ lw_all := lw_g (lw_at lw_m8 61 rfl) rfl
theorem q1850 : (Jvm.Cond.selects "BitingDoorsModel" ({ cls := "BitingDoorsModel", name := "feed", desc := "(IIIII)I" } : Jvm.MethodName) ({ cls := "BitingDoorsModel", name := "feed", desc := "(IIIII)I" } : Jvm.MethodName)) ∈ lw_all := lw_g (lw_at lw_m8 62 rfl) rfl
theorem q1851 : (Jvm.Cond.code ({ cls := "BitingDoorsModel", name := "feed", desc := "(IIIII)I" } : Jvm.MethodName) prog_26_method_5_code (6 : Nat) (Option.some Jvm.ClassFile.FieldType.int)) ∈ lw_all := lw_g (lw_at lw_m8 63 rfl) rfl
theorem q1852 : (Jvm.Cond.methodLink "BitingDoorsModel" (115 : Nat) ({ cls := "BitingDoorsModel", name := "come", desc := "(I)V" } : Jvm.MethodName)) ∈ lw_all := lw_g (lw_at lw_m8 64 rfl) rfl
theorem q1853 : (Jvm.Cond.privateMethod ({ cls := "BitingDoorsModel", name := "come", desc := "(I)V" } : Jvm.MethodName)) ∈ lw_tbl := lw_at lw_m8 65 rfl
theorem q1854 : (Jvm.Cond.instanceMethod ({ cls := "BitingDoorsModel", name := "come", desc := "(I)V" } : Jvm.MethodName)) ∈ lw_all := lw_g (lw_at lw_m8 66 rfl) rfl
theorem q1855 : (Jvm.Cond.code ({ cls := "BitingDoorsModel", name := "come", desc := "(I)V" } : Jvm.MethodName) prog_26_method_4_code (3 : Nat) (Option.none : Option Jvm.ClassFile.FieldType)) ∈ lw_all := lw_g (lw_at lw_m8 67 rfl) rfl
theorem q1857 : (Jvm.Cond.instanceMethod ({ cls := "BitingDoorsModel", name := "end", desc := "(I)Z" } : Jvm.MethodName)) ∈ lw_all := lw_g (lw_at lw_m8 69 rfl) rfl
theorem q1858 : (Jvm.Cond.selects "BitingDoorsModel" ({ cls := "BitingDoorsModel", name := "end", desc := "(I)Z" } : Jvm.MethodName) ({ cls := "BitingDoorsModel", name := "end", desc := "(I)Z" } : Jvm.MethodName)) ∈ lw_all := lw_g (lw_at lw_m8 70 rfl) rfl
theorem q1859 : (Jvm.Cond.code ({ cls := "BitingDoorsModel", name := "end", desc := "(I)Z" } : Jvm.MethodName) prog_26_method_6_code (2 : Nat) (Option.some Jvm.ClassFile.FieldType.boolean)) ∈ lw_all := lw_g (lw_at lw_m8 71 rfl) rfl
theorem q1861 : (Jvm.Cond.instanceMethod ({ cls := "BitingDoorsModel", name := "house", desc := "()I" } : Jvm.MethodName)) ∈ lw_all := lw_g (lw_at lw_m8 73 rfl) rfl
theorem q1862 : (Jvm.Cond.selects "BitingDoorsModel" ({ cls := "BitingDoorsModel", name := "house", desc := "()I" } : Jvm.MethodName) ({ cls := "BitingDoorsModel", name := "house", desc := "()I" } : Jvm.MethodName)) ∈ lw_all := lw_g (lw_at lw_m8 74 rfl) rfl
theorem q1863 : (Jvm.Cond.code ({ cls := "BitingDoorsModel", name := "house", desc := "()I" } : Jvm.MethodName) prog_26_method_40_code (3 : Nat) (Option.some Jvm.ClassFile.FieldType.int)) ∈ lw_all := lw_g (lw_at lw_m8 75 rfl) rfl
theorem q1864 : (Jvm.Cond.methodLink "BitingDoorsModel" (249 : Nat) ({ cls := "BitingDoorsModel", name := "begin", desc := "(I)V" } : Jvm.MethodName)) ∈ lw_all := lw_g (lw_at lw_m8 76 rfl) rfl
theorem q1865 : (Jvm.Cond.privateMethod ({ cls := "BitingDoorsModel", name := "begin", desc := "(I)V" } : Jvm.MethodName)) ∈ lw_tbl := lw_at lw_m8 77 rfl
theorem q1866 : (Jvm.Cond.instanceMethod ({ cls := "BitingDoorsModel", name := "begin", desc := "(I)V" } : Jvm.MethodName)) ∈ lw_all := lw_g (lw_at lw_m8 78 rfl) rfl
theorem q1867 : (Jvm.Cond.code ({ cls := "BitingDoorsModel", name := "begin", desc := "(I)V" } : Jvm.MethodName) prog_26_method_27_code (2 : Nat) (Option.none : Option Jvm.ClassFile.FieldType)) ∈ lw_all := lw_g (lw_at lw_m8 79 rfl) rfl
theorem q1868 : (Jvm.Cond.methodLink "BitingDoorsModel" (200 : Nat) ({ cls := "BitingDoorsModel", name := "lay", desc := "()V" } : Jvm.MethodName)) ∈ lw_all := lw_g (lw_at lw_m8 80 rfl) rfl
theorem q1869 : (Jvm.Cond.privateMethod ({ cls := "BitingDoorsModel", name := "lay", desc := "()V" } : Jvm.MethodName)) ∈ lw_tbl := lw_at lw_m8 81 rfl
theorem q1870 : (Jvm.Cond.instanceMethod ({ cls := "BitingDoorsModel", name := "lay", desc := "()V" } : Jvm.MethodName)) ∈ lw_all := lw_g (lw_at lw_m8 82 rfl) rfl
theorem q1871 : (Jvm.Cond.code ({ cls := "BitingDoorsModel", name := "lay", desc := "()V" } : Jvm.MethodName) prog_26_method_28_code (1 : Nat) (Option.none : Option Jvm.ClassFile.FieldType)) ∈ lw_all := lw_g (lw_at lw_m8 83 rfl) rfl
theorem q1872 : (Jvm.Cond.methodLink "BitingDoorsModel" (203 : Nat) ({ cls := "BitingDoorsModel", name := "take", desc := "()I" } : Jvm.MethodName)) ∈ lw_all := lw_g (lw_at lw_m8 84 rfl) rfl
theorem q1873 : (Jvm.Cond.privateMethod ({ cls := "BitingDoorsModel", name := "take", desc := "()I" } : Jvm.MethodName)) ∈ lw_tbl := lw_at lw_m8 85 rfl
theorem q1874 : (Jvm.Cond.instanceMethod ({ cls := "BitingDoorsModel", name := "take", desc := "()I" } : Jvm.MethodName)) ∈ lw_all := lw_g (lw_at lw_m8 86 rfl) rfl
theorem q1875 : (Jvm.Cond.code ({ cls := "BitingDoorsModel", name := "take", desc := "()I" } : Jvm.MethodName) prog_26_method_7_code (2 : Nat) (Option.some Jvm.ClassFile.FieldType.int)) ∈ lw_all := lw_g (lw_at lw_m8 87 rfl) rfl
theorem q1876 : (Jvm.Cond.methodLink "BitingDoorsModel" (194 : Nat) ({ cls := "BitingDoorsModel", name := "go", desc := "()V" } : Jvm.MethodName)) ∈ lw_all := lw_g (lw_at lw_m8 88 rfl) rfl
theorem q1877 : (Jvm.Cond.privateMethod ({ cls := "BitingDoorsModel", name := "go", desc := "()V" } : Jvm.MethodName)) ∈ lw_tbl := lw_at lw_m8 89 rfl
theorem q1878 : (Jvm.Cond.instanceMethod ({ cls := "BitingDoorsModel", name := "go", desc := "()V" } : Jvm.MethodName)) ∈ lw_all := lw_g (lw_at lw_m8 90 rfl) rfl
theorem q1879 : (Jvm.Cond.code ({ cls := "BitingDoorsModel", name := "go", desc := "()V" } : Jvm.MethodName) prog_26_method_15_code (5 : Nat) (Option.none : Option Jvm.ClassFile.FieldType)) ∈ lw_all := lw_g (lw_at lw_m8 91 rfl) rfl
theorem q1880 : (Jvm.Cond.methodLink "BitingDoorsModel" (134 : Nat) ({ cls := "BitingDoorsModel", name := "isLetter", desc := "(I)Z" } : Jvm.MethodName)) ∈ lw_all := lw_g (lw_at lw_m8 92 rfl) rfl
theorem q1881 : (Jvm.Cond.static ({ cls := "BitingDoorsModel", name := "isLetter", desc := "(I)Z" } : Jvm.MethodName)) ∈ lw_all := lw_g (lw_at lw_m8 93 rfl) rfl
theorem q1882 : (Jvm.Cond.code ({ cls := "BitingDoorsModel", name := "isLetter", desc := "(I)Z" } : Jvm.MethodName) prog_26_method_14_code (1 : Nat) (Option.some Jvm.ClassFile.FieldType.boolean)) ∈ lw_all := lw_g (lw_at lw_m8 94 rfl) rfl
theorem q1883 : (Jvm.Cond.methodLink "BitingDoorsModel" (138 : Nat) ({ cls := "BitingDoorsModel", name := "isDigit", desc := "(I)Z" } : Jvm.MethodName)) ∈ lw_all := lw_g (lw_at lw_m8 95 rfl) rfl
theorem q1884 : (Jvm.Cond.static ({ cls := "BitingDoorsModel", name := "isDigit", desc := "(I)Z" } : Jvm.MethodName)) ∈ lw_all := lw_g (lw_at lw_m8 96 rfl) rfl
theorem q1885 : (Jvm.Cond.code ({ cls := "BitingDoorsModel", name := "isDigit", desc := "(I)Z" } : Jvm.MethodName) prog_26_method_13_code (1 : Nat) (Option.some Jvm.ClassFile.FieldType.boolean)) ∈ lw_all := lw_g (lw_at lw_m8 97 rfl) rfl
theorem q1886 : (Jvm.Cond.methodLink "BitingDoorsModel" (151 : Nat) ({ cls := "BitingDoorsModel", name := "byteAt", desc := "(I)I" } : Jvm.MethodName)) ∈ lw_all := lw_g (lw_at lw_m8 98 rfl) rfl
theorem q1887 : (Jvm.Cond.privateMethod ({ cls := "BitingDoorsModel", name := "byteAt", desc := "(I)I" } : Jvm.MethodName)) ∈ lw_tbl := lw_at lw_m8 99 rfl
theorem q1888 : (Jvm.Cond.instanceMethod ({ cls := "BitingDoorsModel", name := "byteAt", desc := "(I)I" } : Jvm.MethodName)) ∈ lw_all := lw_g (lw_at lw_m8 100 rfl) rfl
theorem q1889 : (Jvm.Cond.code ({ cls := "BitingDoorsModel", name := "byteAt", desc := "(I)I" } : Jvm.MethodName) prog_26_method_12_code (2 : Nat) (Option.some Jvm.ClassFile.FieldType.int)) ∈ lw_all := lw_g (lw_at lw_m8 101 rfl) rfl
theorem q1890 : (Jvm.Cond.constantLong "BitingDoorsModel" (155 : Nat) (27 : Int64)) ∈ lw_all := lw_g (lw_at lw_m8 102 rfl) rfl
theorem q1891 : (Jvm.Cond.constantLong "BitingDoorsModel" (157 : Nat) (96 : Int64)) ∈ lw_all := lw_g (lw_at lw_m8 103 rfl) rfl
theorem q1892 : (Jvm.Cond.methodLink "BitingDoorsModel" (252 : Nat) ({ cls := "BitingDoorsModel", name := "readLine", desc := "()Z" } : Jvm.MethodName)) ∈ lw_all := lw_g (lw_at lw_m8 104 rfl) rfl
theorem q1893 : (Jvm.Cond.privateMethod ({ cls := "BitingDoorsModel", name := "readLine", desc := "()Z" } : Jvm.MethodName)) ∈ lw_tbl := lw_at lw_m8 105 rfl
theorem q1894 : (Jvm.Cond.instanceMethod ({ cls := "BitingDoorsModel", name := "readLine", desc := "()Z" } : Jvm.MethodName)) ∈ lw_all := lw_g (lw_at lw_m8 106 rfl) rfl
theorem q1895 : (Jvm.Cond.code ({ cls := "BitingDoorsModel", name := "readLine", desc := "()Z" } : Jvm.MethodName) prog_26_method_39_code (2 : Nat) (Option.some Jvm.ClassFile.FieldType.boolean)) ∈ lw_all := lw_g (lw_at lw_m8 107 rfl) rfl
theorem q1896 : (Jvm.Cond.methodLink "BitingDoorsModel" (224 : Nat) ({ cls := "BitingDoorsModel", name := "isWord", desc := "(I)Z" } : Jvm.MethodName)) ∈ lw_all := lw_g (lw_at lw_m8 108 rfl) rfl
theorem q1897 : (Jvm.Cond.privateMethod ({ cls := "BitingDoorsModel", name := "isWord", desc := "(I)Z" } : Jvm.MethodName)) ∈ lw_tbl := lw_at lw_m8 109 rfl
theorem q1898 : (Jvm.Cond.instanceMethod ({ cls := "BitingDoorsModel", name := "isWord", desc := "(I)Z" } : Jvm.MethodName)) ∈ lw_all := lw_g (lw_at lw_m8 110 rfl) rfl
theorem q1899 : (Jvm.Cond.code ({ cls := "BitingDoorsModel", name := "isWord", desc := "(I)Z" } : Jvm.MethodName) prog_26_method_19_code (2 : Nat) (Option.some Jvm.ClassFile.FieldType.boolean)) ∈ lw_all := lw_g (lw_at lw_m8 111 rfl) rfl
theorem q1900 : (Jvm.Cond.methodLink "BitingDoorsModel" (167 : Nat) ({ cls := "BitingDoorsModel", name := "wordOf", desc := "(I)J" } : Jvm.MethodName)) ∈ lw_all := lw_g (lw_at lw_m8 112 rfl) rfl
theorem q1901 : (Jvm.Cond.static ({ cls := "BitingDoorsModel", name := "wordOf", desc := "(I)J" } : Jvm.MethodName)) ∈ lw_all := lw_g (lw_at lw_m8 113 rfl) rfl
theorem q1902 : (Jvm.Cond.code ({ cls := "BitingDoorsModel", name := "wordOf", desc := "(I)J" } : Jvm.MethodName) prog_26_method_18_code (1 : Nat) (Option.some Jvm.ClassFile.FieldType.long)) ∈ lw_all := lw_g (lw_at lw_m8 114 rfl) rfl
theorem q1903 : (Jvm.Cond.methodLink "BitingDoorsModel" (159 : Nat) ({ cls := "BitingDoorsModel", name := "spelt", desc := "(IIII)J" } : Jvm.MethodName)) ∈ lw_all := lw_g (lw_at lw_m8 115 rfl) rfl
theorem q1904 : (Jvm.Cond.static ({ cls := "BitingDoorsModel", name := "spelt", desc := "(IIII)J" } : Jvm.MethodName)) ∈ lw_all := lw_g (lw_at lw_m8 116 rfl) rfl
theorem q1905 : (Jvm.Cond.code ({ cls := "BitingDoorsModel", name := "spelt", desc := "(IIII)J" } : Jvm.MethodName) prog_26_method_16_code (6 : Nat) (Option.some Jvm.ClassFile.FieldType.long)) ∈ lw_all := lw_g (lw_at lw_m8 117 rfl) rfl
theorem q1906 : (Jvm.Cond.methodLink "BitingDoorsModel" (163 : Nat) ({ cls := "BitingDoorsModel", name := "on", desc := "(JIII)J" } : Jvm.MethodName)) ∈ lw_all := lw_g (lw_at lw_m8 118 rfl) rfl
theorem q1907 : (Jvm.Cond.static ({ cls := "BitingDoorsModel", name := "on", desc := "(JIII)J" } : Jvm.MethodName)) ∈ lw_all := lw_g (lw_at lw_m8 119 rfl) rfl
theorem q1908 : (Jvm.Cond.code ({ cls := "BitingDoorsModel", name := "on", desc := "(JIII)J" } : Jvm.MethodName) prog_26_method_17_code (7 : Nat) (Option.some Jvm.ClassFile.FieldType.long)) ∈ lw_all := lw_g (lw_at lw_m8 120 rfl) rfl
theorem q1909 : (Jvm.Cond.methodLink "BitingDoorsModel" (234 : Nat) ({ cls := "BitingDoorsModel", name := "readRow", desc := "()Z" } : Jvm.MethodName)) ∈ lw_all := lw_g (lw_at lw_m8 121 rfl) rfl
theorem q1910 : (Jvm.Cond.privateMethod ({ cls := "BitingDoorsModel", name := "readRow", desc := "()Z" } : Jvm.MethodName)) ∈ lw_tbl := lw_at lw_m8 122 rfl
theorem q1911 : (Jvm.Cond.instanceMethod ({ cls := "BitingDoorsModel", name := "readRow", desc := "()Z" } : Jvm.MethodName)) ∈ lw_all := lw_g (lw_at lw_m8 123 rfl) rfl
theorem q1912 : (Jvm.Cond.code ({ cls := "BitingDoorsModel", name := "readRow", desc := "()Z" } : Jvm.MethodName) prog_26_method_33_code (3 : Nat) (Option.some Jvm.ClassFile.FieldType.boolean)) ∈ lw_all := lw_g (lw_at lw_m8 124 rfl) rfl
theorem q1913 : (Jvm.Cond.methodLink "BitingDoorsModel" (184 : Nat) ({ cls := "BitingDoorsModel", name := "bad", desc := "(I)Z" } : Jvm.MethodName)) ∈ lw_all := lw_g (lw_at lw_m8 125 rfl) rfl
theorem q1914 : (Jvm.Cond.privateMethod ({ cls := "BitingDoorsModel", name := "bad", desc := "(I)Z" } : Jvm.MethodName)) ∈ lw_tbl := lw_at lw_m8 126 rfl
theorem q1915 : (Jvm.Cond.instanceMethod ({ cls := "BitingDoorsModel", name := "bad", desc := "(I)Z" } : Jvm.MethodName)) ∈ lw_all := lw_g (lw_at lw_m8 127 rfl) rfl
theorem q1916 : (Jvm.Cond.code ({ cls := "BitingDoorsModel", name := "bad", desc := "(I)Z" } : Jvm.MethodName) prog_26_method_24_code (2 : Nat) (Option.some Jvm.ClassFile.FieldType.boolean)) ∈ lw_all := lw_g (lw_at lw_m8 128 rfl) rfl
theorem q1917 : (Jvm.Cond.methodLink "BitingDoorsModel" (174 : Nat) ({ cls := "BitingDoorsModel", name := "isCells", desc := "()Z" } : Jvm.MethodName)) ∈ lw_all := lw_g (lw_at lw_m8 129 rfl) rfl
theorem q1918 : (Jvm.Cond.privateMethod ({ cls := "BitingDoorsModel", name := "isCells", desc := "()Z" } : Jvm.MethodName)) ∈ lw_tbl := lw_at lw_m8 130 rfl
theorem q1919 : (Jvm.Cond.instanceMethod ({ cls := "BitingDoorsModel", name := "isCells", desc := "()Z" } : Jvm.MethodName)) ∈ lw_all := lw_g (lw_at lw_m8 131 rfl) rfl
theorem q1920 : (Jvm.Cond.code ({ cls := "BitingDoorsModel", name := "isCells", desc := "()Z" } : Jvm.MethodName) prog_26_method_22_code (2 : Nat) (Option.some Jvm.ClassFile.FieldType.boolean)) ∈ lw_all := lw_g (lw_at lw_m8 132 rfl) rfl
theorem q1921 : (Jvm.Cond.methodLink "BitingDoorsModel" (171 : Nat) ({ cls := "BitingDoorsModel", name := "isCellLetter", desc := "(I)Z" } : Jvm.MethodName)) ∈ lw_all := lw_g (lw_at lw_m8 133 rfl) rfl
theorem q1922 : (Jvm.Cond.static ({ cls := "BitingDoorsModel", name := "isCellLetter", desc := "(I)Z" } : Jvm.MethodName)) ∈ lw_all := lw_g (lw_at lw_m8 134 rfl) rfl
theorem q1923 : (Jvm.Cond.code ({ cls := "BitingDoorsModel", name := "isCellLetter", desc := "(I)Z" } : Jvm.MethodName) prog_26_method_21_code (1 : Nat) (Option.some Jvm.ClassFile.FieldType.boolean)) ∈ lw_all := lw_g (lw_at lw_m8 135 rfl) rfl
theorem q1924 : (Jvm.Cond.methodLink "BitingDoorsModel" (237 : Nat) ({ cls := "BitingDoorsModel", name := "readDoor", desc := "()Z" } : Jvm.MethodName)) ∈ lw_all := lw_g (lw_at lw_m8 136 rfl) rfl
theorem q1925 : (Jvm.Cond.privateMethod ({ cls := "BitingDoorsModel", name := "readDoor", desc := "()Z" } : Jvm.MethodName)) ∈ lw_tbl := lw_at lw_m8 137 rfl
theorem q1926 : (Jvm.Cond.instanceMethod ({ cls := "BitingDoorsModel", name := "readDoor", desc := "()Z" } : Jvm.MethodName)) ∈ lw_all := lw_g (lw_at lw_m8 138 rfl) rfl
theorem q1927 : (Jvm.Cond.code ({ cls := "BitingDoorsModel", name := "readDoor", desc := "()Z" } : Jvm.MethodName) prog_26_method_36_code (7 : Nat) (Option.some Jvm.ClassFile.FieldType.boolean)) ∈ lw_all := lw_g (lw_at lw_m8 139 rfl) rfl
theorem q1928 : (Jvm.Cond.methodLink "BitingDoorsModel" (214 : Nat) ({ cls := "BitingDoorsModel", name := "isName", desc := "()Z" } : Jvm.MethodName)) ∈ lw_all := lw_g (lw_at lw_m8 140 rfl) rfl
theorem q1929 : (Jvm.Cond.privateMethod ({ cls := "BitingDoorsModel", name := "isName", desc := "()Z" } : Jvm.MethodName)) ∈ lw_tbl := lw_at lw_m8 141 rfl
theorem q1930 : (Jvm.Cond.instanceMethod ({ cls := "BitingDoorsModel", name := "isName", desc := "()Z" } : Jvm.MethodName)) ∈ lw_all := lw_g (lw_at lw_m8 142 rfl) rfl
theorem q1931 : (Jvm.Cond.code ({ cls := "BitingDoorsModel", name := "isName", desc := "()Z" } : Jvm.MethodName) prog_26_method_23_code (2 : Nat) (Option.some Jvm.ClassFile.FieldType.boolean)) ∈ lw_all := lw_g (lw_at lw_m8 143 rfl) rfl
theorem q1932 : (Jvm.Cond.methodLink "BitingDoorsModel" (217 : Nat) ({ cls := "BitingDoorsModel", name := "findRead", desc := "()I" } : Jvm.MethodName)) ∈ lw_all := lw_g (lw_at lw_m8 144 rfl) rfl
theorem q1933 : (Jvm.Cond.privateMethod ({ cls := "BitingDoorsModel", name := "findRead", desc := "()I" } : Jvm.MethodName)) ∈ lw_tbl := lw_at lw_m8 145 rfl
theorem q1934 : (Jvm.Cond.instanceMethod ({ cls := "BitingDoorsModel", name := "findRead", desc := "()I" } : Jvm.MethodName)) ∈ lw_all := lw_g (lw_at lw_m8 146 rfl) rfl
theorem q1935 : (Jvm.Cond.code ({ cls := "BitingDoorsModel", name := "findRead", desc := "()I" } : Jvm.MethodName) prog_26_method_34_code (2 : Nat) (Option.some Jvm.ClassFile.FieldType.int)) ∈ lw_all := lw_g (lw_at lw_m8 147 rfl) rfl
theorem q1936 : (Jvm.Cond.methodLink "BitingDoorsModel" (220 : Nat) ({ cls := "BitingDoorsModel", name := "readNumber", desc := "(II)Z" } : Jvm.MethodName)) ∈ lw_all := lw_g (lw_at lw_m8 148 rfl) rfl
theorem q1937 : (Jvm.Cond.privateMethod ({ cls := "BitingDoorsModel", name := "readNumber", desc := "(II)Z" } : Jvm.MethodName)) ∈ lw_tbl := lw_at lw_m8 149 rfl
theorem q1938 : (Jvm.Cond.instanceMethod ({ cls := "BitingDoorsModel", name := "readNumber", desc := "(II)Z" } : Jvm.MethodName)) ∈ lw_all := lw_g (lw_at lw_m8 150 rfl) rfl
theorem q1939 : (Jvm.Cond.code ({ cls := "BitingDoorsModel", name := "readNumber", desc := "(II)Z" } : Jvm.MethodName) prog_26_method_25_code (3 : Nat) (Option.some Jvm.ClassFile.FieldType.boolean)) ∈ lw_all := lw_g (lw_at lw_m8 151 rfl) rfl
theorem q1940 : (Jvm.Cond.methodLink "BitingDoorsModel" (187 : Nat) ({ cls := "BitingDoorsModel", name := "isIn", desc := "(III)Z" } : Jvm.MethodName)) ∈ lw_all := lw_g (lw_at lw_m8 152 rfl) rfl
theorem q1941 : (Jvm.Cond.static ({ cls := "BitingDoorsModel", name := "isIn", desc := "(III)Z" } : Jvm.MethodName)) ∈ lw_all := lw_g (lw_at lw_m8 153 rfl) rfl
theorem q1942 : (Jvm.Cond.code ({ cls := "BitingDoorsModel", name := "isIn", desc := "(III)Z" } : Jvm.MethodName) prog_26_method_8_code (3 : Nat) (Option.some Jvm.ClassFile.FieldType.boolean)) ∈ lw_all := lw_g (lw_at lw_m8 154 rfl) rfl
theorem q1943 : (Jvm.Cond.methodLink "BitingDoorsModel" (227 : Nat) ({ cls := "BitingDoorsModel", name := "looksAt", desc := "(IIII)I" } : Jvm.MethodName)) ∈ lw_all := lw_g (lw_at lw_m8 155 rfl) rfl
theorem q1944 : (Jvm.Cond.privateMethod ({ cls := "BitingDoorsModel", name := "looksAt", desc := "(IIII)I" } : Jvm.MethodName)) ∈ lw_tbl := lw_at lw_m8 156 rfl
theorem q1945 : (Jvm.Cond.instanceMethod ({ cls := "BitingDoorsModel", name := "looksAt", desc := "(IIII)I" } : Jvm.MethodName)) ∈ lw_all := lw_g (lw_at lw_m8 157 rfl) rfl
theorem q1946 : (Jvm.Cond.code ({ cls := "BitingDoorsModel", name := "looksAt", desc := "(IIII)I" } : Jvm.MethodName) prog_26_method_35_code (9 : Nat) (Option.some Jvm.ClassFile.FieldType.int)) ∈ lw_all := lw_g (lw_at lw_m8 158 rfl) rfl
theorem q1947 : (Jvm.Cond.methodLink "BitingDoorsModel" (231 : Nat) ({ cls := "BitingDoorsModel", name := "has", desc := "(II)Z" } : Jvm.MethodName)) ∈ lw_all := lw_g (lw_at lw_m8 159 rfl) rfl
theorem q1948 : (Jvm.Cond.static ({ cls := "BitingDoorsModel", name := "has", desc := "(II)Z" } : Jvm.MethodName)) ∈ lw_all := lw_g (lw_at lw_m8 160 rfl) rfl
theorem q1949 : (Jvm.Cond.code ({ cls := "BitingDoorsModel", name := "has", desc := "(II)Z" } : Jvm.MethodName) prog_26_method_9_code (2 : Nat) (Option.some Jvm.ClassFile.FieldType.boolean)) ∈ lw_all := lw_g (lw_at lw_m8 161 rfl) rfl
theorem q1950 : (Jvm.Cond.methodLink "BitingDoorsModel" (240 : Nat) ({ cls := "BitingDoorsModel", name := "readDraught", desc := "()Z" } : Jvm.MethodName)) ∈ lw_all := lw_g (lw_at lw_m8 162 rfl) rfl
theorem q1951 : (Jvm.Cond.privateMethod ({ cls := "BitingDoorsModel", name := "readDraught", desc := "()Z" } : Jvm.MethodName)) ∈ lw_tbl := lw_at lw_m8 163 rfl
theorem q1952 : (Jvm.Cond.instanceMethod ({ cls := "BitingDoorsModel", name := "readDraught", desc := "()Z" } : Jvm.MethodName)) ∈ lw_all := lw_g (lw_at lw_m8 164 rfl) rfl
theorem q1953 : (Jvm.Cond.code ({ cls := "BitingDoorsModel", name := "readDraught", desc := "()Z" } : Jvm.MethodName) prog_26_method_37_code (5 : Nat) (Option.some Jvm.ClassFile.FieldType.boolean)) ∈ lw_all := lw_g (lw_at lw_m8 165 rfl) rfl
theorem q1954 : (Jvm.Cond.methodLink "BitingDoorsModel" (243 : Nat) ({ cls := "BitingDoorsModel", name := "readBed", desc := "()Z" } : Jvm.MethodName)) ∈ lw_all := lw_g (lw_at lw_m8 166 rfl) rfl
theorem q1955 : (Jvm.Cond.privateMethod ({ cls := "BitingDoorsModel", name := "readBed", desc := "()Z" } : Jvm.MethodName)) ∈ lw_tbl := lw_at lw_m8 167 rfl
theorem q1956 : (Jvm.Cond.instanceMethod ({ cls := "BitingDoorsModel", name := "readBed", desc := "()Z" } : Jvm.MethodName)) ∈ lw_all := lw_g (lw_at lw_m8 168 rfl) rfl
theorem q1957 : (Jvm.Cond.code ({ cls := "BitingDoorsModel", name := "readBed", desc := "()Z" } : Jvm.MethodName) prog_26_method_38_code (2 : Nat) (Option.some Jvm.ClassFile.FieldType.boolean)) ∈ lw_all := lw_g (lw_at lw_m8 169 rfl) rfl
theorem q1958 : (Jvm.Cond.methodLink "BitingDoorsModel" (246 : Nat) ({ cls := "BitingDoorsModel", name := "readEnd", desc := "()Z" } : Jvm.MethodName)) ∈ lw_all := lw_g (lw_at lw_m8 170 rfl) rfl
theorem q1959 : (Jvm.Cond.privateMethod ({ cls := "BitingDoorsModel", name := "readEnd", desc := "()Z" } : Jvm.MethodName)) ∈ lw_tbl := lw_at lw_m8 171 rfl
theorem q1960 : (Jvm.Cond.instanceMethod ({ cls := "BitingDoorsModel", name := "readEnd", desc := "()Z" } : Jvm.MethodName)) ∈ lw_all := lw_g (lw_at lw_m8 172 rfl) rfl
theorem q1961 : (Jvm.Cond.code ({ cls := "BitingDoorsModel", name := "readEnd", desc := "()Z" } : Jvm.MethodName) prog_26_method_26_code (1 : Nat) (Option.some Jvm.ClassFile.FieldType.boolean)) ∈ lw_all := lw_g (lw_at lw_m8 173 rfl) rfl
theorem q1962 : (Jvm.Cond.methodLink "BitingDoorsModel" (197 : Nat) ({ cls := "BitingDoorsModel", name := "isSign", desc := "(I)Z" } : Jvm.MethodName)) ∈ lw_all := lw_g (lw_at lw_m8 174 rfl) rfl
theorem q1963 : (Jvm.Cond.privateMethod ({ cls := "BitingDoorsModel", name := "isSign", desc := "(I)Z" } : Jvm.MethodName)) ∈ lw_tbl := lw_at lw_m8 175 rfl
theorem q1964 : (Jvm.Cond.instanceMethod ({ cls := "BitingDoorsModel", name := "isSign", desc := "(I)Z" } : Jvm.MethodName)) ∈ lw_all := lw_g (lw_at lw_m8 176 rfl) rfl
theorem q1965 : (Jvm.Cond.code ({ cls := "BitingDoorsModel", name := "isSign", desc := "(I)Z" } : Jvm.MethodName) prog_26_method_20_code (2 : Nat) (Option.some Jvm.ClassFile.FieldType.boolean)) ∈ lw_all := lw_g (lw_at lw_m8 177 rfl) rfl
theorem q1967 : (Jvm.Cond.instanceMethod ({ cls := "BitingDoorsModel", name := "fault", desc := "()I" } : Jvm.MethodName)) ∈ lw_all := lw_g (lw_at lw_m8 179 rfl) rfl
theorem q1968 : (Jvm.Cond.selects "BitingDoorsModel" ({ cls := "BitingDoorsModel", name := "fault", desc := "()I" } : Jvm.MethodName) ({ cls := "BitingDoorsModel", name := "fault", desc := "()I" } : Jvm.MethodName)) ∈ lw_all := lw_g (lw_at lw_m8 180 rfl) rfl
theorem q1969 : (Jvm.Cond.code ({ cls := "BitingDoorsModel", name := "fault", desc := "()I" } : Jvm.MethodName) prog_26_method_41_code (1 : Nat) (Option.some Jvm.ClassFile.FieldType.int)) ∈ lw_all := lw_g (lw_at lw_m8 181 rfl) rfl
theorem q1971 : (Jvm.Cond.instanceMethod ({ cls := "BitingDoorsModel", name := "cell", desc := "(II)I" } : Jvm.MethodName)) ∈ lw_all := lw_g (lw_at lw_m8 183 rfl) rfl
theorem q1972 : (Jvm.Cond.selects "BitingDoorsModel" ({ cls := "BitingDoorsModel", name := "cell", desc := "(II)I" } : Jvm.MethodName) ({ cls := "BitingDoorsModel", name := "cell", desc := "(II)I" } : Jvm.MethodName)) ∈ lw_all := lw_g (lw_at lw_m8 184 rfl) rfl
theorem q1973 : (Jvm.Cond.code ({ cls := "BitingDoorsModel", name := "cell", desc := "(II)I" } : Jvm.MethodName) prog_26_method_42_code (4 : Nat) (Option.some Jvm.ClassFile.FieldType.int)) ∈ lw_all := lw_g (lw_at lw_m8 185 rfl) rfl
theorem q1974 : (Jvm.Cond.methodLink "BitingDoorsModel" (258 : Nat) ({ cls := "BitingDoorsModel", name := "isCell", desc := "(II)Z" } : Jvm.MethodName)) ∈ lw_all := lw_g (lw_at lw_m8 186 rfl) rfl
theorem q1975 : (Jvm.Cond.privateMethod ({ cls := "BitingDoorsModel", name := "isCell", desc := "(II)Z" } : Jvm.MethodName)) ∈ lw_tbl := lw_at lw_m8 187 rfl
theorem q1976 : (Jvm.Cond.instanceMethod ({ cls := "BitingDoorsModel", name := "isCell", desc := "(II)Z" } : Jvm.MethodName)) ∈ lw_all := lw_g (lw_at lw_m8 188 rfl) rfl
theorem q1977 : (Jvm.Cond.code ({ cls := "BitingDoorsModel", name := "isCell", desc := "(II)Z" } : Jvm.MethodName) prog_26_method_32_code (3 : Nat) (Option.some Jvm.ClassFile.FieldType.boolean)) ∈ lw_all := lw_g (lw_at lw_m8 189 rfl) rfl
theorem q1979 : (Jvm.Cond.instanceMethod ({ cls := "BitingDoorsModel", name := "door", desc := "(II)I" } : Jvm.MethodName)) ∈ lw_all := lw_g (lw_at lw_m8 191 rfl) rfl
theorem q1980 : (Jvm.Cond.selects "BitingDoorsModel" ({ cls := "BitingDoorsModel", name := "door", desc := "(II)I" } : Jvm.MethodName) ({ cls := "BitingDoorsModel", name := "door", desc := "(II)I" } : Jvm.MethodName)) ∈ lw_all := lw_g (lw_at lw_m8 192 rfl) rfl
theorem q1981 : (Jvm.Cond.code ({ cls := "BitingDoorsModel", name := "door", desc := "(II)I" } : Jvm.MethodName) prog_26_method_43_code (3 : Nat) (Option.some Jvm.ClassFile.FieldType.int)) ∈ lw_all := lw_g (lw_at lw_m8 193 rfl) rfl
theorem q1982 : (Jvm.Cond.methodLink "BitingDoorsModel" (261 : Nat) ({ cls := "BitingDoorsModel", name := "isDoor", desc := "(I)Z" } : Jvm.MethodName)) ∈ lw_all := lw_g (lw_at lw_m8 194 rfl) rfl
theorem q1983 : (Jvm.Cond.privateMethod ({ cls := "BitingDoorsModel", name := "isDoor", desc := "(I)Z" } : Jvm.MethodName)) ∈ lw_tbl := lw_at lw_m8 195 rfl
theorem q1984 : (Jvm.Cond.instanceMethod ({ cls := "BitingDoorsModel", name := "isDoor", desc := "(I)Z" } : Jvm.MethodName)) ∈ lw_all := lw_g (lw_at lw_m8 196 rfl) rfl
theorem q1985 : (Jvm.Cond.code ({ cls := "BitingDoorsModel", name := "isDoor", desc := "(I)Z" } : Jvm.MethodName) prog_26_method_30_code (2 : Nat) (Option.some Jvm.ClassFile.FieldType.boolean)) ∈ lw_all := lw_g (lw_at lw_m8 197 rfl) rfl
theorem q1986 : (Jvm.Cond.methodLink "BitingDoorsModel" (211 : Nat) ({ cls := "BitingDoorsModel", name := "doors", desc := "()I" } : Jvm.MethodName)) ∈ lw_all := lw_g (lw_at lw_m8 198 rfl) rfl
theorem q1987 : (Jvm.Cond.privateMethod ({ cls := "BitingDoorsModel", name := "doors", desc := "()I" } : Jvm.MethodName)) ∈ lw_tbl := lw_at lw_m8 199 rfl
theorem q1988 : (Jvm.Cond.instanceMethod ({ cls := "BitingDoorsModel", name := "doors", desc := "()I" } : Jvm.MethodName)) ∈ lw_all := lw_g (lw_at lw_m8 200 rfl) rfl
theorem q1989 : (Jvm.Cond.code ({ cls := "BitingDoorsModel", name := "doors", desc := "()I" } : Jvm.MethodName) prog_26_method_29_code (1 : Nat) (Option.some Jvm.ClassFile.FieldType.int)) ∈ lw_all := lw_g (lw_at lw_m8 201 rfl) rfl
theorem q1990 : (Jvm.Cond.methodLink "BitingDoorsModel" (264 : Nat) ({ cls := "BitingDoorsModel", name := "refuse", desc := "()I" } : Jvm.MethodName)) ∈ lw_all := lw_g (lw_at lw_m8 202 rfl) rfl
theorem q1991 : (Jvm.Cond.privateMethod ({ cls := "BitingDoorsModel", name := "refuse", desc := "()I" } : Jvm.MethodName)) ∈ lw_tbl := lw_at lw_m8 203 rfl
theorem q1992 : (Jvm.Cond.instanceMethod ({ cls := "BitingDoorsModel", name := "refuse", desc := "()I" } : Jvm.MethodName)) ∈ lw_all := lw_g (lw_at lw_m8 204 rfl) rfl
theorem q1993 : (Jvm.Cond.code ({ cls := "BitingDoorsModel", name := "refuse", desc := "()I" } : Jvm.MethodName) prog_26_method_3_code (1 : Nat) (Option.some Jvm.ClassFile.FieldType.int)) ∈ lw_all := lw_g (lw_at lw_m8 205 rfl) rfl
theorem q1994 : (Jvm.Cond.methodLink "BitingDoorsModel" (267 : Nat) ({ cls := "BitingDoorsModel", name := "of", desc := "(II)I" } : Jvm.MethodName)) ∈ lw_all := lw_g (lw_at lw_m8 206 rfl) rfl
theorem q1995 : (Jvm.Cond.privateMethod ({ cls := "BitingDoorsModel", name := "of", desc := "(II)I" } : Jvm.MethodName)) ∈ lw_tbl := lw_at lw_m8 207 rfl
theorem q1996 : (Jvm.Cond.instanceMethod ({ cls := "BitingDoorsModel", name := "of", desc := "(II)I" } : Jvm.MethodName)) ∈ lw_all := lw_g (lw_at lw_m8 208 rfl) rfl
theorem q1997 : (Jvm.Cond.code ({ cls := "BitingDoorsModel", name := "of", desc := "(II)I" } : Jvm.MethodName) prog_26_method_31_code (3 : Nat) (Option.some Jvm.ClassFile.FieldType.int)) ∈ lw_all := lw_g (lw_at lw_m8 209 rfl) rfl
theorem q1999 : (Jvm.Cond.instanceMethod ({ cls := "BitingDoorsModel", name := "leaf", desc := "(IIII)I" } : Jvm.MethodName)) ∈ lw_all := lw_g (lw_at lw_m8 211 rfl) rfl
theorem q2000 : (Jvm.Cond.selects "BitingDoorsModel" ({ cls := "BitingDoorsModel", name := "leaf", desc := "(IIII)I" } : Jvm.MethodName) ({ cls := "BitingDoorsModel", name := "leaf", desc := "(IIII)I" } : Jvm.MethodName)) ∈ lw_all := lw_g (lw_at lw_m8 212 rfl) rfl
theorem q2001 : (Jvm.Cond.code ({ cls := "BitingDoorsModel", name := "leaf", desc := "(IIII)I" } : Jvm.MethodName) prog_26_method_46_code (8 : Nat) (Option.some Jvm.ClassFile.FieldType.int)) ∈ lw_all := lw_g (lw_at lw_m8 213 rfl) rfl
theorem q2002 : (Jvm.Cond.methodLink "BitingDoorsModel" (278 : Nat) ({ cls := "BitingDoorsModel", name := "layLeaf", desc := "(III)V" } : Jvm.MethodName)) ∈ lw_all := lw_g (lw_at lw_m8 214 rfl) rfl
theorem q2003 : (Jvm.Cond.privateMethod ({ cls := "BitingDoorsModel", name := "layLeaf", desc := "(III)V" } : Jvm.MethodName)) ∈ lw_tbl := lw_at lw_m8 215 rfl
theorem q2004 : (Jvm.Cond.instanceMethod ({ cls := "BitingDoorsModel", name := "layLeaf", desc := "(III)V" } : Jvm.MethodName)) ∈ lw_all := lw_g (lw_at lw_m8 216 rfl) rfl
theorem q2005 : (Jvm.Cond.code ({ cls := "BitingDoorsModel", name := "layLeaf", desc := "(III)V" } : Jvm.MethodName) prog_26_method_45_code (14 : Nat) (Option.none : Option Jvm.ClassFile.FieldType)) ∈ lw_all := lw_g (lw_at lw_m8 217 rfl) rfl
theorem q2006 : (Jvm.Cond.methodLink "BitingDoorsModel" (274 : Nat) ({ cls := "BitingDoorsModel", name := "put", desc := "(II)V" } : Jvm.MethodName)) ∈ lw_all := lw_g (lw_at lw_m8 218 rfl) rfl
theorem q2007 : (Jvm.Cond.privateMethod ({ cls := "BitingDoorsModel", name := "put", desc := "(II)V" } : Jvm.MethodName)) ∈ lw_tbl := lw_at lw_m8 219 rfl
theorem q2008 : (Jvm.Cond.instanceMethod ({ cls := "BitingDoorsModel", name := "put", desc := "(II)V" } : Jvm.MethodName)) ∈ lw_all := lw_g (lw_at lw_m8 220 rfl) rfl
theorem q2009 : (Jvm.Cond.code ({ cls := "BitingDoorsModel", name := "put", desc := "(II)V" } : Jvm.MethodName) prog_26_method_44_code (3 : Nat) (Option.none : Option Jvm.ClassFile.FieldType)) ∈ lw_all := lw_g (lw_at lw_m8 221 rfl) rfl
theorem q2011 : (Jvm.Cond.instanceMethod ({ cls := "BitingDoorsModel", name := "can", desc := "(II)I" } : Jvm.MethodName)) ∈ lw_all := lw_g (lw_at lw_m8 223 rfl) rfl
theorem q2012 : (Jvm.Cond.selects "BitingDoorsModel" ({ cls := "BitingDoorsModel", name := "can", desc := "(II)I" } : Jvm.MethodName) ({ cls := "BitingDoorsModel", name := "can", desc := "(II)I" } : Jvm.MethodName)) ∈ lw_all := lw_g (lw_at lw_m8 224 rfl) rfl
theorem q2013 : (Jvm.Cond.code ({ cls := "BitingDoorsModel", name := "can", desc := "(II)I" } : Jvm.MethodName) prog_26_method_48_code (3 : Nat) (Option.some Jvm.ClassFile.FieldType.int)) ∈ lw_all := lw_g (lw_at lw_m8 225 rfl) rfl
theorem q2014 : (Jvm.Cond.methodLink "BitingDoorsModel" (282 : Nat) ({ cls := "BitingDoorsModel", name := "canBe", desc := "(III)Z" } : Jvm.MethodName)) ∈ lw_all := lw_g (lw_at lw_m8 226 rfl) rfl
theorem q2015 : (Jvm.Cond.privateMethod ({ cls := "BitingDoorsModel", name := "canBe", desc := "(III)Z" } : Jvm.MethodName)) ∈ lw_tbl := lw_at lw_m8 227 rfl
theorem q2016 : (Jvm.Cond.instanceMethod ({ cls := "BitingDoorsModel", name := "canBe", desc := "(III)Z" } : Jvm.MethodName)) ∈ lw_all := lw_g (lw_at lw_m8 228 rfl) rfl
theorem q2017 : (Jvm.Cond.code ({ cls := "BitingDoorsModel", name := "canBe", desc := "(III)Z" } : Jvm.MethodName) prog_26_method_47_code (5 : Nat) (Option.some Jvm.ClassFile.FieldType.boolean)) ∈ lw_all := lw_g (lw_at lw_m8 229 rfl) rfl
theorem q2019 : (Jvm.Cond.instanceMethod ({ cls := "BitingDoorsModel", name := "fit", desc := "(II)I" } : Jvm.MethodName)) ∈ lw_all := lw_g (lw_at lw_m8 231 rfl) rfl
theorem q2020 : (Jvm.Cond.selects "BitingDoorsModel" ({ cls := "BitingDoorsModel", name := "fit", desc := "(II)I" } : Jvm.MethodName) ({ cls := "BitingDoorsModel", name := "fit", desc := "(II)I" } : Jvm.MethodName)) ∈ lw_all := lw_g (lw_at lw_m8 232 rfl) rfl
theorem q2021 : (Jvm.Cond.code ({ cls := "BitingDoorsModel", name := "fit", desc := "(II)I" } : Jvm.MethodName) prog_26_method_50_code (3 : Nat) (Option.some Jvm.ClassFile.FieldType.int)) ∈ lw_all := lw_g (lw_at lw_m8 233 rfl) rfl
theorem q2022 : (Jvm.Cond.methodLink "BitingDoorsModel" (285 : Nat) ({ cls := "BitingDoorsModel", name := "isFit", desc := "(II)Z" } : Jvm.MethodName)) ∈ lw_all := lw_g (lw_at lw_m8 234 rfl) rfl
theorem q2023 : (Jvm.Cond.privateMethod ({ cls := "BitingDoorsModel", name := "isFit", desc := "(II)Z" } : Jvm.MethodName)) ∈ lw_tbl := lw_at lw_m8 235 rfl
theorem q2024 : (Jvm.Cond.instanceMethod ({ cls := "BitingDoorsModel", name := "isFit", desc := "(II)Z" } : Jvm.MethodName)) ∈ lw_all := lw_g (lw_at lw_m8 236 rfl) rfl
theorem q2025 : (Jvm.Cond.code ({ cls := "BitingDoorsModel", name := "isFit", desc := "(II)Z" } : Jvm.MethodName) prog_26_method_49_code (3 : Nat) (Option.some Jvm.ClassFile.FieldType.boolean)) ∈ lw_all := lw_g (lw_at lw_m8 237 rfl) rfl
theorem q2027 : (Jvm.Cond.instanceMethod ({ cls := "BitingDoorsModel", name := "bites", desc := "(IIII)I" } : Jvm.MethodName)) ∈ lw_all := lw_g (lw_at lw_m8 239 rfl) rfl
theorem q2028 : (Jvm.Cond.selects "BitingDoorsModel" ({ cls := "BitingDoorsModel", name := "bites", desc := "(IIII)I" } : Jvm.MethodName) ({ cls := "BitingDoorsModel", name := "bites", desc := "(IIII)I" } : Jvm.MethodName)) ∈ lw_all := lw_g (lw_at lw_m9 0 rfl) rfl
theorem q2029 : (Jvm.Cond.code ({ cls := "BitingDoorsModel", name := "bites", desc := "(IIII)I" } : Jvm.MethodName) prog_26_method_54_code (5 : Nat) (Option.some Jvm.ClassFile.FieldType.int)) ∈ lw_all := lw_g (lw_at lw_m9 1 rfl) rfl
theorem q2030 : (Jvm.Cond.methodLink "BitingDoorsModel" (292 : Nat) ({ cls := "BitingDoorsModel", name := "laySwept", desc := "()V" } : Jvm.MethodName)) ∈ lw_all := lw_g (lw_at lw_m9 2 rfl) rfl
theorem q2031 : (Jvm.Cond.privateMethod ({ cls := "BitingDoorsModel", name := "laySwept", desc := "()V" } : Jvm.MethodName)) ∈ lw_tbl := lw_at lw_m9 3 rfl
theorem q2032 : (Jvm.Cond.instanceMethod ({ cls := "BitingDoorsModel", name := "laySwept", desc := "()V" } : Jvm.MethodName)) ∈ lw_all := lw_g (lw_at lw_m9 4 rfl) rfl
theorem q2033 : (Jvm.Cond.code ({ cls := "BitingDoorsModel", name := "laySwept", desc := "()V" } : Jvm.MethodName) prog_26_method_51_code (7 : Nat) (Option.none : Option Jvm.ClassFile.FieldType)) ∈ lw_all := lw_g (lw_at lw_m9 5 rfl) rfl
theorem q2034 : (Jvm.Cond.methodLink "BitingDoorsModel" (295 : Nat) ({ cls := "BitingDoorsModel", name := "shared", desc := "(IIII)I" } : Jvm.MethodName)) ∈ lw_all := lw_g (lw_at lw_m9 6 rfl) rfl
theorem q2035 : (Jvm.Cond.privateMethod ({ cls := "BitingDoorsModel", name := "shared", desc := "(IIII)I" } : Jvm.MethodName)) ∈ lw_tbl := lw_at lw_m9 7 rfl
theorem q2036 : (Jvm.Cond.instanceMethod ({ cls := "BitingDoorsModel", name := "shared", desc := "(IIII)I" } : Jvm.MethodName)) ∈ lw_all := lw_g (lw_at lw_m9 8 rfl) rfl
theorem q2037 : (Jvm.Cond.code ({ cls := "BitingDoorsModel", name := "shared", desc := "(IIII)I" } : Jvm.MethodName) prog_26_method_52_code (5 : Nat) (Option.some Jvm.ClassFile.FieldType.int)) ∈ lw_all := lw_g (lw_at lw_m9 9 rfl) rfl
theorem q2038 : (Jvm.Cond.methodLink "BitingDoorsModel" (288 : Nat) ({ cls := "BitingDoorsModel", name := "ones", desc := "(J)I" } : Jvm.MethodName)) ∈ lw_all := lw_g (lw_at lw_m9 10 rfl) rfl
theorem q2039 : (Jvm.Cond.static ({ cls := "BitingDoorsModel", name := "ones", desc := "(J)I" } : Jvm.MethodName)) ∈ lw_all := lw_g (lw_at lw_m9 11 rfl) rfl
theorem q2040 : (Jvm.Cond.code ({ cls := "BitingDoorsModel", name := "ones", desc := "(J)I" } : Jvm.MethodName) prog_26_method_11_code (5 : Nat) (Option.some Jvm.ClassFile.FieldType.int)) ∈ lw_all := lw_g (lw_at lw_m9 12 rfl) rfl
theorem q2042 : (Jvm.Cond.instanceMethod ({ cls := "BitingDoorsModel", name := "clashes", desc := "()I" } : Jvm.MethodName)) ∈ lw_all := lw_g (lw_at lw_m9 14 rfl) rfl
theorem q2043 : (Jvm.Cond.selects "BitingDoorsModel" ({ cls := "BitingDoorsModel", name := "clashes", desc := "()I" } : Jvm.MethodName) ({ cls := "BitingDoorsModel", name := "clashes", desc := "()I" } : Jvm.MethodName)) ∈ lw_all := lw_g (lw_at lw_m9 15 rfl) rfl
theorem q2044 : (Jvm.Cond.code ({ cls := "BitingDoorsModel", name := "clashes", desc := "()I" } : Jvm.MethodName) prog_26_method_56_code (2 : Nat) (Option.some Jvm.ClassFile.FieldType.int)) ∈ lw_all := lw_g (lw_at lw_m9 16 rfl) rfl
theorem q2045 : (Jvm.Cond.methodLink "BitingDoorsModel" (302 : Nat) ({ cls := "BitingDoorsModel", name := "clashesOf", desc := "([I)I" } : Jvm.MethodName)) ∈ lw_all := lw_g (lw_at lw_m9 17 rfl) rfl
theorem q2046 : (Jvm.Cond.privateMethod ({ cls := "BitingDoorsModel", name := "clashesOf", desc := "([I)I" } : Jvm.MethodName)) ∈ lw_tbl := lw_at lw_m9 18 rfl
theorem q2047 : (Jvm.Cond.instanceMethod ({ cls := "BitingDoorsModel", name := "clashesOf", desc := "([I)I" } : Jvm.MethodName)) ∈ lw_all := lw_g (lw_at lw_m9 19 rfl) rfl
theorem q2048 : (Jvm.Cond.code ({ cls := "BitingDoorsModel", name := "clashesOf", desc := "([I)I" } : Jvm.MethodName) prog_26_method_55_code (5 : Nat) (Option.some Jvm.ClassFile.FieldType.int)) ∈ lw_all := lw_g (lw_at lw_m9 20 rfl) rfl
theorem q2049 : (Jvm.Cond.methodLink "BitingDoorsModel" (298 : Nat) ({ cls := "BitingDoorsModel", name := "bite", desc := "(IIII)Z" } : Jvm.MethodName)) ∈ lw_all := lw_g (lw_at lw_m9 21 rfl) rfl
theorem q2050 : (Jvm.Cond.privateMethod ({ cls := "BitingDoorsModel", name := "bite", desc := "(IIII)Z" } : Jvm.MethodName)) ∈ lw_tbl := lw_at lw_m9 22 rfl
theorem q2051 : (Jvm.Cond.instanceMethod ({ cls := "BitingDoorsModel", name := "bite", desc := "(IIII)Z" } : Jvm.MethodName)) ∈ lw_all := lw_g (lw_at lw_m9 23 rfl) rfl
theorem q2052 : (Jvm.Cond.code ({ cls := "BitingDoorsModel", name := "bite", desc := "(IIII)Z" } : Jvm.MethodName) prog_26_method_53_code (5 : Nat) (Option.some Jvm.ClassFile.FieldType.boolean)) ∈ lw_all := lw_g (lw_at lw_m9 24 rfl) rfl
theorem q2054 : (Jvm.Cond.instanceMethod ({ cls := "BitingDoorsModel", name := "cheapest", desc := "()I" } : Jvm.MethodName)) ∈ lw_all := lw_g (lw_at lw_m9 26 rfl) rfl
theorem q2055 : (Jvm.Cond.selects "BitingDoorsModel" ({ cls := "BitingDoorsModel", name := "cheapest", desc := "()I" } : Jvm.MethodName) ({ cls := "BitingDoorsModel", name := "cheapest", desc := "()I" } : Jvm.MethodName)) ∈ lw_all := lw_g (lw_at lw_m9 27 rfl) rfl
theorem q2056 : (Jvm.Cond.code ({ cls := "BitingDoorsModel", name := "cheapest", desc := "()I" } : Jvm.MethodName) prog_26_method_61_code (2 : Nat) (Option.some Jvm.ClassFile.FieldType.int)) ∈ lw_all := lw_g (lw_at lw_m9 28 rfl) rfl
theorem q2057 : (Jvm.Cond.methodLink "BitingDoorsModel" (320 : Nat) ({ cls := "BitingDoorsModel", name := "hangAll", desc := "(Z)I" } : Jvm.MethodName)) ∈ lw_all := lw_g (lw_at lw_m9 29 rfl) rfl
theorem q2058 : (Jvm.Cond.privateMethod ({ cls := "BitingDoorsModel", name := "hangAll", desc := "(Z)I" } : Jvm.MethodName)) ∈ lw_tbl := lw_at lw_m9 30 rfl
theorem q2059 : (Jvm.Cond.instanceMethod ({ cls := "BitingDoorsModel", name := "hangAll", desc := "(Z)I" } : Jvm.MethodName)) ∈ lw_all := lw_g (lw_at lw_m9 31 rfl) rfl
theorem q2060 : (Jvm.Cond.code ({ cls := "BitingDoorsModel", name := "hangAll", desc := "(Z)I" } : Jvm.MethodName) prog_26_method_60_code (2 : Nat) (Option.some Jvm.ClassFile.FieldType.int)) ∈ lw_all := lw_g (lw_at lw_m9 32 rfl) rfl
theorem q2061 : (Jvm.Cond.methodLink "BitingDoorsModel" (316 : Nat) ({ cls := "BitingDoorsModel", name := "hang", desc := "(IIZ)V" } : Jvm.MethodName)) ∈ lw_all := lw_g (lw_at lw_m9 33 rfl) rfl
theorem q2062 : (Jvm.Cond.privateMethod ({ cls := "BitingDoorsModel", name := "hang", desc := "(IIZ)V" } : Jvm.MethodName)) ∈ lw_tbl := lw_at lw_m9 34 rfl
theorem q2063 : (Jvm.Cond.instanceMethod ({ cls := "BitingDoorsModel", name := "hang", desc := "(IIZ)V" } : Jvm.MethodName)) ∈ lw_all := lw_g (lw_at lw_m9 35 rfl) rfl
theorem q2064 : (Jvm.Cond.code ({ cls := "BitingDoorsModel", name := "hang", desc := "(IIZ)V" } : Jvm.MethodName) prog_26_method_59_code (5 : Nat) (Option.none : Option Jvm.ClassFile.FieldType)) ∈ lw_all := lw_g (lw_at lw_m9 36 rfl) rfl
theorem q2065 : (Jvm.Cond.methodLink "BitingDoorsModel" (309 : Nat) ({ cls := "BitingDoorsModel", name := "mayHang", desc := "(III)Z" } : Jvm.MethodName)) ∈ lw_all := lw_g (lw_at lw_m9 37 rfl) rfl
theorem q2066 : (Jvm.Cond.privateMethod ({ cls := "BitingDoorsModel", name := "mayHang", desc := "(III)Z" } : Jvm.MethodName)) ∈ lw_tbl := lw_at lw_m9 38 rfl
theorem q2067 : (Jvm.Cond.instanceMethod ({ cls := "BitingDoorsModel", name := "mayHang", desc := "(III)Z" } : Jvm.MethodName)) ∈ lw_all := lw_g (lw_at lw_m9 39 rfl) rfl
theorem q2068 : (Jvm.Cond.code ({ cls := "BitingDoorsModel", name := "mayHang", desc := "(III)Z" } : Jvm.MethodName) prog_26_method_58_code (5 : Nat) (Option.some Jvm.ClassFile.FieldType.boolean)) ∈ lw_all := lw_g (lw_at lw_m9 40 rfl) rfl
theorem q2069 : (Jvm.Cond.methodLink "BitingDoorsModel" (312 : Nat) ({ cls := "BitingDoorsModel", name := "weightOf", desc := "(IZ)I" } : Jvm.MethodName)) ∈ lw_all := lw_g (lw_at lw_m9 41 rfl) rfl
theorem q2070 : (Jvm.Cond.privateMethod ({ cls := "BitingDoorsModel", name := "weightOf", desc := "(IZ)I" } : Jvm.MethodName)) ∈ lw_tbl := lw_at lw_m9 42 rfl
theorem q2071 : (Jvm.Cond.instanceMethod ({ cls := "BitingDoorsModel", name := "weightOf", desc := "(IZ)I" } : Jvm.MethodName)) ∈ lw_all := lw_g (lw_at lw_m9 43 rfl) rfl
theorem q2072 : (Jvm.Cond.code ({ cls := "BitingDoorsModel", name := "weightOf", desc := "(IZ)I" } : Jvm.MethodName) prog_26_method_57_code (3 : Nat) (Option.some Jvm.ClassFile.FieldType.int)) ∈ lw_all := lw_g (lw_at lw_m9 44 rfl) rfl
theorem q2074 : (Jvm.Cond.instanceMethod ({ cls := "BitingDoorsModel", name := "hung", desc := "(I)I" } : Jvm.MethodName)) ∈ lw_all := lw_g (lw_at lw_m9 46 rfl) rfl
theorem q2075 : (Jvm.Cond.selects "BitingDoorsModel" ({ cls := "BitingDoorsModel", name := "hung", desc := "(I)I" } : Jvm.MethodName) ({ cls := "BitingDoorsModel", name := "hung", desc := "(I)I" } : Jvm.MethodName)) ∈ lw_all := lw_g (lw_at lw_m9 47 rfl) rfl
theorem q2076 : (Jvm.Cond.code ({ cls := "BitingDoorsModel", name := "hung", desc := "(I)I" } : Jvm.MethodName) prog_26_method_62_code (2 : Nat) (Option.some Jvm.ClassFile.FieldType.int)) ∈ lw_all := lw_g (lw_at lw_m9 48 rfl) rfl
theorem q2078 : (Jvm.Cond.instanceMethod ({ cls := "BitingDoorsModel", name := "fewest", desc := "()I" } : Jvm.MethodName)) ∈ lw_all := lw_g (lw_at lw_m9 50 rfl) rfl
theorem q2079 : (Jvm.Cond.selects "BitingDoorsModel" ({ cls := "BitingDoorsModel", name := "fewest", desc := "()I" } : Jvm.MethodName) ({ cls := "BitingDoorsModel", name := "fewest", desc := "()I" } : Jvm.MethodName)) ∈ lw_all := lw_g (lw_at lw_m9 51 rfl) rfl
theorem q2080 : (Jvm.Cond.code ({ cls := "BitingDoorsModel", name := "fewest", desc := "()I" } : Jvm.MethodName) prog_26_method_63_code (2 : Nat) (Option.some Jvm.ClassFile.FieldType.int)) ∈ lw_all := lw_g (lw_at lw_m9 52 rfl) rfl
theorem q2082 : (Jvm.Cond.instanceMethod ({ cls := "BitingDoorsModel", name := "fewestBy", desc := "(I)I" } : Jvm.MethodName)) ∈ lw_all := lw_g (lw_at lw_m9 54 rfl) rfl
theorem q2083 : (Jvm.Cond.selects "BitingDoorsModel" ({ cls := "BitingDoorsModel", name := "fewestBy", desc := "(I)I" } : Jvm.MethodName) ({ cls := "BitingDoorsModel", name := "fewestBy", desc := "(I)I" } : Jvm.MethodName)) ∈ lw_all := lw_g (lw_at lw_m9 55 rfl) rfl
theorem q2084 : (Jvm.Cond.code ({ cls := "BitingDoorsModel", name := "fewestBy", desc := "(I)I" } : Jvm.MethodName) prog_26_method_64_code (2 : Nat) (Option.some Jvm.ClassFile.FieldType.int)) ∈ lw_all := lw_g (lw_at lw_m9 56 rfl) rfl
theorem q2086 : (Jvm.Cond.instanceMethod ({ cls := "BitingDoorsModel", name := "ways", desc := "()I" } : Jvm.MethodName)) ∈ lw_all := lw_g (lw_at lw_m9 58 rfl) rfl
theorem q2087 : (Jvm.Cond.selects "BitingDoorsModel" ({ cls := "BitingDoorsModel", name := "ways", desc := "()I" } : Jvm.MethodName) ({ cls := "BitingDoorsModel", name := "ways", desc := "()I" } : Jvm.MethodName)) ∈ lw_all := lw_g (lw_at lw_m9 59 rfl) rfl
theorem q2088 : (Jvm.Cond.code ({ cls := "BitingDoorsModel", name := "ways", desc := "()I" } : Jvm.MethodName) prog_26_method_66_code (1 : Nat) (Option.some Jvm.ClassFile.FieldType.int)) ∈ lw_all := lw_g (lw_at lw_m9 60 rfl) rfl
theorem q2089 : (Jvm.Cond.methodLink "BitingDoorsModel" (327 : Nat) ({ cls := "BitingDoorsModel", name := "countWays", desc := "(I)V" } : Jvm.MethodName)) ∈ lw_all := lw_g (lw_at lw_m9 61 rfl) rfl
theorem q2090 : (Jvm.Cond.privateMethod ({ cls := "BitingDoorsModel", name := "countWays", desc := "(I)V" } : Jvm.MethodName)) ∈ lw_tbl := lw_at lw_m9 62 rfl
theorem q2091 : (Jvm.Cond.instanceMethod ({ cls := "BitingDoorsModel", name := "countWays", desc := "(I)V" } : Jvm.MethodName)) ∈ lw_all := lw_g (lw_at lw_m9 63 rfl) rfl
theorem q2092 : (Jvm.Cond.code ({ cls := "BitingDoorsModel", name := "countWays", desc := "(I)V" } : Jvm.MethodName) prog_26_method_65_code (3 : Nat) (Option.none : Option Jvm.ClassFile.FieldType)) ∈ lw_all := lw_g (lw_at lw_m9 64 rfl) rfl
theorem q2094 : (Jvm.Cond.instanceMethod ({ cls := "BitingDoorsModel", name := "forces", desc := "(III)I" } : Jvm.MethodName)) ∈ lw_all := lw_g (lw_at lw_m9 66 rfl) rfl
theorem q2095 : (Jvm.Cond.selects "BitingDoorsModel" ({ cls := "BitingDoorsModel", name := "forces", desc := "(III)I" } : Jvm.MethodName) ({ cls := "BitingDoorsModel", name := "forces", desc := "(III)I" } : Jvm.MethodName)) ∈ lw_all := lw_g (lw_at lw_m9 67 rfl) rfl
theorem q2096 : (Jvm.Cond.code ({ cls := "BitingDoorsModel", name := "forces", desc := "(III)I" } : Jvm.MethodName) prog_26_method_70_code (7 : Nat) (Option.some Jvm.ClassFile.FieldType.int)) ∈ lw_all := lw_g (lw_at lw_m9 68 rfl) rfl
theorem q2097 : (Jvm.Cond.methodLink "BitingDoorsModel" (339 : Nat) ({ cls := "BitingDoorsModel", name := "drop", desc := "(III)V" } : Jvm.MethodName)) ∈ lw_all := lw_g (lw_at lw_m9 69 rfl) rfl
theorem q2098 : (Jvm.Cond.privateMethod ({ cls := "BitingDoorsModel", name := "drop", desc := "(III)V" } : Jvm.MethodName)) ∈ lw_tbl := lw_at lw_m9 70 rfl
theorem q2099 : (Jvm.Cond.instanceMethod ({ cls := "BitingDoorsModel", name := "drop", desc := "(III)V" } : Jvm.MethodName)) ∈ lw_all := lw_g (lw_at lw_m9 71 rfl) rfl
theorem q2100 : (Jvm.Cond.code ({ cls := "BitingDoorsModel", name := "drop", desc := "(III)V" } : Jvm.MethodName) prog_26_method_67_code (6 : Nat) (Option.none : Option Jvm.ClassFile.FieldType)) ∈ lw_all := lw_g (lw_at lw_m9 72 rfl) rfl
theorem q2101 : (Jvm.Cond.methodLink "BitingDoorsModel" (342 : Nat) ({ cls := "BitingDoorsModel", name := "deadOne", desc := "(I)I" } : Jvm.MethodName)) ∈ lw_all := lw_g (lw_at lw_m9 73 rfl) rfl
theorem q2102 : (Jvm.Cond.privateMethod ({ cls := "BitingDoorsModel", name := "deadOne", desc := "(I)I" } : Jvm.MethodName)) ∈ lw_tbl := lw_at lw_m9 74 rfl
theorem q2103 : (Jvm.Cond.instanceMethod ({ cls := "BitingDoorsModel", name := "deadOne", desc := "(I)I" } : Jvm.MethodName)) ∈ lw_all := lw_g (lw_at lw_m9 75 rfl) rfl
theorem q2104 : (Jvm.Cond.code ({ cls := "BitingDoorsModel", name := "deadOne", desc := "(I)I" } : Jvm.MethodName) prog_26_method_68_code (3 : Nat) (Option.some Jvm.ClassFile.FieldType.int)) ∈ lw_all := lw_g (lw_at lw_m9 76 rfl) rfl
theorem q2105 : (Jvm.Cond.methodLink "BitingDoorsModel" (345 : Nat) ({ cls := "BitingDoorsModel", name := "nextForced", desc := "(II)I" } : Jvm.MethodName)) ∈ lw_all := lw_g (lw_at lw_m9 77 rfl) rfl
theorem q2106 : (Jvm.Cond.privateMethod ({ cls := "BitingDoorsModel", name := "nextForced", desc := "(II)I" } : Jvm.MethodName)) ∈ lw_tbl := lw_at lw_m9 78 rfl
theorem q2107 : (Jvm.Cond.instanceMethod ({ cls := "BitingDoorsModel", name := "nextForced", desc := "(II)I" } : Jvm.MethodName)) ∈ lw_all := lw_g (lw_at lw_m9 79 rfl) rfl
theorem q2108 : (Jvm.Cond.code ({ cls := "BitingDoorsModel", name := "nextForced", desc := "(II)I" } : Jvm.MethodName) prog_26_method_69_code (4 : Nat) (Option.some Jvm.ClassFile.FieldType.int)) ∈ lw_all := lw_g (lw_at lw_m9 80 rfl) rfl
theorem q2109 : (Jvm.Cond.methodLink "BitingDoorsModel" (330 : Nat) ({ cls := "BitingDoorsModel", name := "bits", desc := "(I)I" } : Jvm.MethodName)) ∈ lw_all := lw_g (lw_at lw_m9 81 rfl) rfl
theorem q2110 : (Jvm.Cond.static ({ cls := "BitingDoorsModel", name := "bits", desc := "(I)I" } : Jvm.MethodName)) ∈ lw_all := lw_g (lw_at lw_m9 82 rfl) rfl
theorem q2111 : (Jvm.Cond.code ({ cls := "BitingDoorsModel", name := "bits", desc := "(I)I" } : Jvm.MethodName) prog_26_method_10_code (3 : Nat) (Option.some Jvm.ClassFile.FieldType.int)) ∈ lw_all := lw_g (lw_at lw_m9 83 rfl) rfl
theorem q2113 : (Jvm.Cond.instanceMethod ({ cls := "BitingDoorsModel", name := "forced", desc := "(I)I" } : Jvm.MethodName)) ∈ lw_all := lw_g (lw_at lw_m9 85 rfl) rfl
theorem q2114 : (Jvm.Cond.selects "BitingDoorsModel" ({ cls := "BitingDoorsModel", name := "forced", desc := "(I)I" } : Jvm.MethodName) ({ cls := "BitingDoorsModel", name := "forced", desc := "(I)I" } : Jvm.MethodName)) ∈ lw_all := lw_g (lw_at lw_m9 86 rfl) rfl
theorem q2115 : (Jvm.Cond.code ({ cls := "BitingDoorsModel", name := "forced", desc := "(I)I" } : Jvm.MethodName) prog_26_method_71_code (2 : Nat) (Option.some Jvm.ClassFile.FieldType.int)) ∈ lw_all := lw_g (lw_at lw_m9 87 rfl) rfl
theorem q2117 : (Jvm.Cond.instanceMethod ({ cls := "BitingDoorsModel", name := "forcedAt", desc := "(I)I" } : Jvm.MethodName)) ∈ lw_all := lw_g (lw_at lw_m9 89 rfl) rfl
theorem q2118 : (Jvm.Cond.selects "BitingDoorsModel" ({ cls := "BitingDoorsModel", name := "forcedAt", desc := "(I)I" } : Jvm.MethodName) ({ cls := "BitingDoorsModel", name := "forcedAt", desc := "(I)I" } : Jvm.MethodName)) ∈ lw_all := lw_g (lw_at lw_m9 90 rfl) rfl
theorem q2119 : (Jvm.Cond.code ({ cls := "BitingDoorsModel", name := "forcedAt", desc := "(I)I" } : Jvm.MethodName) prog_26_method_72_code (2 : Nat) (Option.some Jvm.ClassFile.FieldType.int)) ∈ lw_all := lw_g (lw_at lw_m9 91 rfl) rfl
theorem q2121 : (Jvm.Cond.instanceMethod ({ cls := "BitingDoorsModel", name := "stuck", desc := "()I" } : Jvm.MethodName)) ∈ lw_all := lw_g (lw_at lw_m9 93 rfl) rfl
theorem q2122 : (Jvm.Cond.selects "BitingDoorsModel" ({ cls := "BitingDoorsModel", name := "stuck", desc := "()I" } : Jvm.MethodName) ({ cls := "BitingDoorsModel", name := "stuck", desc := "()I" } : Jvm.MethodName)) ∈ lw_all := lw_g (lw_at lw_m9 94 rfl) rfl
theorem q2123 : (Jvm.Cond.code ({ cls := "BitingDoorsModel", name := "stuck", desc := "()I" } : Jvm.MethodName) prog_26_method_74_code (3 : Nat) (Option.some Jvm.ClassFile.FieldType.int)) ∈ lw_all := lw_g (lw_at lw_m9 95 rfl) rfl
theorem q2124 : (Jvm.Cond.methodLink "BitingDoorsModel" (348 : Nat) ({ cls := "BitingDoorsModel", name := "canHang", desc := "(II)Z" } : Jvm.MethodName)) ∈ lw_all := lw_g (lw_at lw_m9 96 rfl) rfl
theorem q2125 : (Jvm.Cond.privateMethod ({ cls := "BitingDoorsModel", name := "canHang", desc := "(II)Z" } : Jvm.MethodName)) ∈ lw_tbl := lw_at lw_m9 97 rfl
theorem q2126 : (Jvm.Cond.instanceMethod ({ cls := "BitingDoorsModel", name := "canHang", desc := "(II)Z" } : Jvm.MethodName)) ∈ lw_all := lw_g (lw_at lw_m9 98 rfl) rfl
theorem q2127 : (Jvm.Cond.code ({ cls := "BitingDoorsModel", name := "canHang", desc := "(II)Z" } : Jvm.MethodName) prog_26_method_73_code (4 : Nat) (Option.some Jvm.ClassFile.FieldType.boolean)) ∈ lw_all := lw_g (lw_at lw_m9 99 rfl) rfl
theorem q2129 : (Jvm.Cond.instanceMethod ({ cls := "BitingDoorsModel", name := "joiner", desc := "()I" } : Jvm.MethodName)) ∈ lw_all := lw_g (lw_at lw_m9 101 rfl) rfl
theorem q2130 : (Jvm.Cond.selects "BitingDoorsModel" ({ cls := "BitingDoorsModel", name := "joiner", desc := "()I" } : Jvm.MethodName) ({ cls := "BitingDoorsModel", name := "joiner", desc := "()I" } : Jvm.MethodName)) ∈ lw_all := lw_g (lw_at lw_m9 102 rfl) rfl
theorem q2131 : (Jvm.Cond.code ({ cls := "BitingDoorsModel", name := "joiner", desc := "()I" } : Jvm.MethodName) prog_26_method_75_code (5 : Nat) (Option.some Jvm.ClassFile.FieldType.int)) ∈ lw_all := lw_g (lw_at lw_m9 103 rfl) rfl
theorem q2133 : (Jvm.Cond.instanceMethod ({ cls := "BitingDoorsModel", name := "joinerAt", desc := "(I)I" } : Jvm.MethodName)) ∈ lw_all := lw_g (lw_at lw_m9 105 rfl) rfl
theorem q2134 : (Jvm.Cond.selects "BitingDoorsModel" ({ cls := "BitingDoorsModel", name := "joinerAt", desc := "(I)I" } : Jvm.MethodName) ({ cls := "BitingDoorsModel", name := "joinerAt", desc := "(I)I" } : Jvm.MethodName)) ∈ lw_all := lw_g (lw_at lw_m9 106 rfl) rfl
theorem q2135 : (Jvm.Cond.code ({ cls := "BitingDoorsModel", name := "joinerAt", desc := "(I)I" } : Jvm.MethodName) prog_26_method_76_code (2 : Nat) (Option.some Jvm.ClassFile.FieldType.int)) ∈ lw_all := lw_g (lw_at lw_m9 107 rfl) rfl
theorem q2137 : (Jvm.Cond.instanceMethod ({ cls := "BitingDoorsModel", name := "rehang", desc := "(II)Z" } : Jvm.MethodName)) ∈ lw_all := lw_g (lw_at lw_m9 109 rfl) rfl
theorem q2138 : (Jvm.Cond.selects "BitingDoorsModel" ({ cls := "BitingDoorsModel", name := "rehang", desc := "(II)Z" } : Jvm.MethodName) ({ cls := "BitingDoorsModel", name := "rehang", desc := "(II)Z" } : Jvm.MethodName)) ∈ lw_all := lw_g (lw_at lw_m9 110 rfl) rfl
theorem q2139 : (Jvm.Cond.code ({ cls := "BitingDoorsModel", name := "rehang", desc := "(II)Z" } : Jvm.MethodName) prog_26_method_77_code (3 : Nat) (Option.some Jvm.ClassFile.FieldType.boolean)) ∈ lw_all := lw_g (lw_at lw_m9 111 rfl) rfl
theorem q2141 : (Jvm.Cond.instanceMethod ({ cls := "BitingDoorsModel", name := "stand", desc := "(II)Z" } : Jvm.MethodName)) ∈ lw_all := lw_g (lw_at lw_m9 113 rfl) rfl
theorem q2142 : (Jvm.Cond.selects "BitingDoorsModel" ({ cls := "BitingDoorsModel", name := "stand", desc := "(II)Z" } : Jvm.MethodName) ({ cls := "BitingDoorsModel", name := "stand", desc := "(II)Z" } : Jvm.MethodName)) ∈ lw_all := lw_g (lw_at lw_m9 114 rfl) rfl
theorem q2143 : (Jvm.Cond.code ({ cls := "BitingDoorsModel", name := "stand", desc := "(II)Z" } : Jvm.MethodName) prog_26_method_88_code (3 : Nat) (Option.some Jvm.ClassFile.FieldType.boolean)) ∈ lw_all := lw_g (lw_at lw_m9 115 rfl) rfl
theorem q2144 : (Jvm.Cond.methodLink "BitingDoorsModel" (381 : Nat) ({ cls := "BitingDoorsModel", name := "takeNow", desc := "()V" } : Jvm.MethodName)) ∈ lw_all := lw_g (lw_at lw_m9 116 rfl) rfl
theorem q2145 : (Jvm.Cond.privateMethod ({ cls := "BitingDoorsModel", name := "takeNow", desc := "()V" } : Jvm.MethodName)) ∈ lw_tbl := lw_at lw_m9 117 rfl
theorem q2146 : (Jvm.Cond.instanceMethod ({ cls := "BitingDoorsModel", name := "takeNow", desc := "()V" } : Jvm.MethodName)) ∈ lw_all := lw_g (lw_at lw_m9 118 rfl) rfl
theorem q2147 : (Jvm.Cond.code ({ cls := "BitingDoorsModel", name := "takeNow", desc := "()V" } : Jvm.MethodName) prog_26_method_79_code (2 : Nat) (Option.none : Option Jvm.ClassFile.FieldType)) ∈ lw_all := lw_g (lw_at lw_m9 119 rfl) rfl
theorem q2148 : (Jvm.Cond.methodLink "BitingDoorsModel" (360 : Nat) ({ cls := "BitingDoorsModel", name := "layLeaves", desc := "()V" } : Jvm.MethodName)) ∈ lw_all := lw_g (lw_at lw_m9 120 rfl) rfl
theorem q2149 : (Jvm.Cond.privateMethod ({ cls := "BitingDoorsModel", name := "layLeaves", desc := "()V" } : Jvm.MethodName)) ∈ lw_tbl := lw_at lw_m9 121 rfl
theorem q2150 : (Jvm.Cond.instanceMethod ({ cls := "BitingDoorsModel", name := "layLeaves", desc := "()V" } : Jvm.MethodName)) ∈ lw_all := lw_g (lw_at lw_m9 122 rfl) rfl
theorem q2151 : (Jvm.Cond.code ({ cls := "BitingDoorsModel", name := "layLeaves", desc := "()V" } : Jvm.MethodName) prog_26_method_78_code (3 : Nat) (Option.none : Option Jvm.ClassFile.FieldType)) ∈ lw_all := lw_g (lw_at lw_m9 123 rfl) rfl
theorem q2152 : (Jvm.Cond.methodLink "BitingDoorsModel" (363 : Nat) ({ cls := "BitingDoorsModel", name := "isWalked", desc := "(II)Z" } : Jvm.MethodName)) ∈ lw_all := lw_g (lw_at lw_m9 124 rfl) rfl
theorem q2153 : (Jvm.Cond.privateMethod ({ cls := "BitingDoorsModel", name := "isWalked", desc := "(II)Z" } : Jvm.MethodName)) ∈ lw_tbl := lw_at lw_m9 125 rfl
theorem q2154 : (Jvm.Cond.instanceMethod ({ cls := "BitingDoorsModel", name := "isWalked", desc := "(II)Z" } : Jvm.MethodName)) ∈ lw_all := lw_g (lw_at lw_m9 126 rfl) rfl
theorem q2155 : (Jvm.Cond.code ({ cls := "BitingDoorsModel", name := "isWalked", desc := "(II)Z" } : Jvm.MethodName) prog_26_method_81_code (3 : Nat) (Option.some Jvm.ClassFile.FieldType.boolean)) ∈ lw_all := lw_g (lw_at lw_m9 127 rfl) rfl
theorem q2157 : (Jvm.Cond.instanceMethod ({ cls := "BitingDoorsModel", name := "place", desc := "()I" } : Jvm.MethodName)) ∈ lw_all := lw_g (lw_at lw_m9 129 rfl) rfl
theorem q2158 : (Jvm.Cond.selects "BitingDoorsModel" ({ cls := "BitingDoorsModel", name := "place", desc := "()I" } : Jvm.MethodName) ({ cls := "BitingDoorsModel", name := "place", desc := "()I" } : Jvm.MethodName)) ∈ lw_all := lw_g (lw_at lw_m9 130 rfl) rfl
theorem q2159 : (Jvm.Cond.code ({ cls := "BitingDoorsModel", name := "place", desc := "()I" } : Jvm.MethodName) prog_26_method_89_code (1 : Nat) (Option.some Jvm.ClassFile.FieldType.int)) ∈ lw_all := lw_g (lw_at lw_m9 131 rfl) rfl
theorem q2161 : (Jvm.Cond.instanceMethod ({ cls := "BitingDoorsModel", name := "does", desc := "(I)I" } : Jvm.MethodName)) ∈ lw_all := lw_g (lw_at lw_m9 133 rfl) rfl
theorem q2162 : (Jvm.Cond.selects "BitingDoorsModel" ({ cls := "BitingDoorsModel", name := "does", desc := "(I)I" } : Jvm.MethodName) ({ cls := "BitingDoorsModel", name := "does", desc := "(I)I" } : Jvm.MethodName)) ∈ lw_all := lw_g (lw_at lw_m9 134 rfl) rfl
theorem q2163 : (Jvm.Cond.code ({ cls := "BitingDoorsModel", name := "does", desc := "(I)I" } : Jvm.MethodName) prog_26_method_91_code (3 : Nat) (Option.some Jvm.ClassFile.FieldType.int)) ∈ lw_all := lw_g (lw_at lw_m9 135 rfl) rfl
theorem q2164 : (Jvm.Cond.methodLink "BitingDoorsModel" (384 : Nat) ({ cls := "BitingDoorsModel", name := "isAct", desc := "(I)Z" } : Jvm.MethodName)) ∈ lw_all := lw_g (lw_at lw_m9 136 rfl) rfl
theorem q2165 : (Jvm.Cond.privateMethod ({ cls := "BitingDoorsModel", name := "isAct", desc := "(I)Z" } : Jvm.MethodName)) ∈ lw_tbl := lw_at lw_m9 137 rfl
theorem q2166 : (Jvm.Cond.instanceMethod ({ cls := "BitingDoorsModel", name := "isAct", desc := "(I)Z" } : Jvm.MethodName)) ∈ lw_all := lw_g (lw_at lw_m9 138 rfl) rfl
theorem q2167 : (Jvm.Cond.code ({ cls := "BitingDoorsModel", name := "isAct", desc := "(I)Z" } : Jvm.MethodName) prog_26_method_90_code (2 : Nat) (Option.some Jvm.ClassFile.FieldType.boolean)) ∈ lw_all := lw_g (lw_at lw_m9 139 rfl) rfl
theorem q2168 : (Jvm.Cond.methodLink "BitingDoorsModel" (387 : Nat) ({ cls := "BitingDoorsModel", name := "minute", desc := "(I)I" } : Jvm.MethodName)) ∈ lw_all := lw_g (lw_at lw_m9 140 rfl) rfl
theorem q2169 : (Jvm.Cond.privateMethod ({ cls := "BitingDoorsModel", name := "minute", desc := "(I)I" } : Jvm.MethodName)) ∈ lw_tbl := lw_at lw_m9 141 rfl
theorem q2170 : (Jvm.Cond.instanceMethod ({ cls := "BitingDoorsModel", name := "minute", desc := "(I)I" } : Jvm.MethodName)) ∈ lw_all := lw_g (lw_at lw_m9 142 rfl) rfl
theorem q2171 : (Jvm.Cond.code ({ cls := "BitingDoorsModel", name := "minute", desc := "(I)I" } : Jvm.MethodName) prog_26_method_87_code (3 : Nat) (Option.some Jvm.ClassFile.FieldType.int)) ∈ lw_all := lw_g (lw_at lw_m9 143 rfl) rfl
theorem q2172 : (Jvm.Cond.methodLink "BitingDoorsModel" (375 : Nat) ({ cls := "BitingDoorsModel", name := "tries", desc := "(I)I" } : Jvm.MethodName)) ∈ lw_all := lw_g (lw_at lw_m9 144 rfl) rfl
theorem q2173 : (Jvm.Cond.privateMethod ({ cls := "BitingDoorsModel", name := "tries", desc := "(I)I" } : Jvm.MethodName)) ∈ lw_tbl := lw_at lw_m9 145 rfl
theorem q2174 : (Jvm.Cond.instanceMethod ({ cls := "BitingDoorsModel", name := "tries", desc := "(I)I" } : Jvm.MethodName)) ∈ lw_all := lw_g (lw_at lw_m9 146 rfl) rfl
theorem q2175 : (Jvm.Cond.code ({ cls := "BitingDoorsModel", name := "tries", desc := "(I)I" } : Jvm.MethodName) prog_26_method_85_code (5 : Nat) (Option.some Jvm.ClassFile.FieldType.int)) ∈ lw_all := lw_g (lw_at lw_m9 147 rfl) rfl
theorem q2176 : (Jvm.Cond.methodLink "BitingDoorsModel" (366 : Nat) ({ cls := "BitingDoorsModel", name := "isAt", desc := "(I)Z" } : Jvm.MethodName)) ∈ lw_all := lw_g (lw_at lw_m9 148 rfl) rfl
theorem q2177 : (Jvm.Cond.privateMethod ({ cls := "BitingDoorsModel", name := "isAt", desc := "(I)Z" } : Jvm.MethodName)) ∈ lw_tbl := lw_at lw_m9 149 rfl
theorem q2178 : (Jvm.Cond.instanceMethod ({ cls := "BitingDoorsModel", name := "isAt", desc := "(I)Z" } : Jvm.MethodName)) ∈ lw_all := lw_g (lw_at lw_m9 150 rfl) rfl
theorem q2179 : (Jvm.Cond.code ({ cls := "BitingDoorsModel", name := "isAt", desc := "(I)Z" } : Jvm.MethodName) prog_26_method_82_code (6 : Nat) (Option.some Jvm.ClassFile.FieldType.boolean)) ∈ lw_all := lw_g (lw_at lw_m9 151 rfl) rfl
theorem q2180 : (Jvm.Cond.methodLink "BitingDoorsModel" (369 : Nat) ({ cls := "BitingDoorsModel", name := "hinders", desc := "(II)I" } : Jvm.MethodName)) ∈ lw_all := lw_g (lw_at lw_m9 152 rfl) rfl
theorem q2181 : (Jvm.Cond.privateMethod ({ cls := "BitingDoorsModel", name := "hinders", desc := "(II)I" } : Jvm.MethodName)) ∈ lw_tbl := lw_at lw_m9 153 rfl
theorem q2182 : (Jvm.Cond.instanceMethod ({ cls := "BitingDoorsModel", name := "hinders", desc := "(II)I" } : Jvm.MethodName)) ∈ lw_all := lw_g (lw_at lw_m9 154 rfl) rfl
theorem q2183 : (Jvm.Cond.code ({ cls := "BitingDoorsModel", name := "hinders", desc := "(II)I" } : Jvm.MethodName) prog_26_method_83_code (5 : Nat) (Option.some Jvm.ClassFile.FieldType.int)) ∈ lw_all := lw_g (lw_at lw_m9 155 rfl) rfl
theorem q2184 : (Jvm.Cond.methodLink "BitingDoorsModel" (372 : Nat) ({ cls := "BitingDoorsModel", name := "swing", desc := "(II)V" } : Jvm.MethodName)) ∈ lw_all := lw_g (lw_at lw_m9 156 rfl) rfl
theorem q2185 : (Jvm.Cond.privateMethod ({ cls := "BitingDoorsModel", name := "swing", desc := "(II)V" } : Jvm.MethodName)) ∈ lw_tbl := lw_at lw_m9 157 rfl
theorem q2186 : (Jvm.Cond.instanceMethod ({ cls := "BitingDoorsModel", name := "swing", desc := "(II)V" } : Jvm.MethodName)) ∈ lw_all := lw_g (lw_at lw_m9 158 rfl) rfl
theorem q2187 : (Jvm.Cond.code ({ cls := "BitingDoorsModel", name := "swing", desc := "(II)V" } : Jvm.MethodName) prog_26_method_84_code (3 : Nat) (Option.none : Option Jvm.ClassFile.FieldType)) ∈ lw_all := lw_g (lw_at lw_m9 159 rfl) rfl
theorem q2188 : (Jvm.Cond.methodLink "BitingDoorsModel" (378 : Nat) ({ cls := "BitingDoorsModel", name := "blows", desc := "()I" } : Jvm.MethodName)) ∈ lw_all := lw_g (lw_at lw_m9 160 rfl) rfl
theorem q2189 : (Jvm.Cond.privateMethod ({ cls := "BitingDoorsModel", name := "blows", desc := "()I" } : Jvm.MethodName)) ∈ lw_tbl := lw_at lw_m9 161 rfl
theorem q2190 : (Jvm.Cond.instanceMethod ({ cls := "BitingDoorsModel", name := "blows", desc := "()I" } : Jvm.MethodName)) ∈ lw_all := lw_g (lw_at lw_m9 162 rfl) rfl
theorem q2191 : (Jvm.Cond.code ({ cls := "BitingDoorsModel", name := "blows", desc := "()I" } : Jvm.MethodName) prog_26_method_86_code (6 : Nat) (Option.some Jvm.ClassFile.FieldType.int)) ∈ lw_all := lw_g (lw_at lw_m9 163 rfl) rfl
theorem q2192 : (Jvm.Cond.methodLink "BitingDoorsModel" (390 : Nat) ({ cls := "BitingDoorsModel", name := "keepNow", desc := "()V" } : Jvm.MethodName)) ∈ lw_all := lw_g (lw_at lw_m9 164 rfl) rfl
theorem q2193 : (Jvm.Cond.privateMethod ({ cls := "BitingDoorsModel", name := "keepNow", desc := "()V" } : Jvm.MethodName)) ∈ lw_tbl := lw_at lw_m9 165 rfl
theorem q2194 : (Jvm.Cond.instanceMethod ({ cls := "BitingDoorsModel", name := "keepNow", desc := "()V" } : Jvm.MethodName)) ∈ lw_all := lw_g (lw_at lw_m9 166 rfl) rfl
theorem q2195 : (Jvm.Cond.code ({ cls := "BitingDoorsModel", name := "keepNow", desc := "()V" } : Jvm.MethodName) prog_26_method_80_code (2 : Nat) (Option.none : Option Jvm.ClassFile.FieldType)) ∈ lw_all := lw_g (lw_at lw_m9 167 rfl) rfl
theorem q2197 : (Jvm.Cond.instanceMethod ({ cls := "BitingDoorsModel", name := "minutes", desc := "()I" } : Jvm.MethodName)) ∈ lw_all := lw_g (lw_at lw_m9 169 rfl) rfl
theorem q2198 : (Jvm.Cond.selects "BitingDoorsModel" ({ cls := "BitingDoorsModel", name := "minutes", desc := "()I" } : Jvm.MethodName) ({ cls := "BitingDoorsModel", name := "minutes", desc := "()I" } : Jvm.MethodName)) ∈ lw_all := lw_g (lw_at lw_m9 170 rfl) rfl
theorem q2199 : (Jvm.Cond.code ({ cls := "BitingDoorsModel", name := "minutes", desc := "()I" } : Jvm.MethodName) prog_26_method_92_code (1 : Nat) (Option.some Jvm.ClassFile.FieldType.int)) ∈ lw_all := lw_g (lw_at lw_m9 171 rfl) rfl
theorem q2201 : (Jvm.Cond.instanceMethod ({ cls := "BitingDoorsModel", name := "day", desc := "()I" } : Jvm.MethodName)) ∈ lw_all := lw_g (lw_at lw_m9 173 rfl) rfl
theorem q2202 : (Jvm.Cond.selects "BitingDoorsModel" ({ cls := "BitingDoorsModel", name := "day", desc := "()I" } : Jvm.MethodName) ({ cls := "BitingDoorsModel", name := "day", desc := "()I" } : Jvm.MethodName)) ∈ lw_all := lw_g (lw_at lw_m9 174 rfl) rfl
theorem q2203 : (Jvm.Cond.code ({ cls := "BitingDoorsModel", name := "day", desc := "()I" } : Jvm.MethodName) prog_26_method_94_code (2 : Nat) (Option.some Jvm.ClassFile.FieldType.int)) ∈ lw_all := lw_g (lw_at lw_m9 175 rfl) rfl
theorem q2204 : (Jvm.Cond.methodLink "BitingDoorsModel" (396 : Nat) ({ cls := "BitingDoorsModel", name := "readDayLine", desc := "()Z" } : Jvm.MethodName)) ∈ lw_all := lw_g (lw_at lw_m9 176 rfl) rfl
theorem q2205 : (Jvm.Cond.privateMethod ({ cls := "BitingDoorsModel", name := "readDayLine", desc := "()Z" } : Jvm.MethodName)) ∈ lw_tbl := lw_at lw_m9 177 rfl
theorem q2206 : (Jvm.Cond.instanceMethod ({ cls := "BitingDoorsModel", name := "readDayLine", desc := "()Z" } : Jvm.MethodName)) ∈ lw_all := lw_g (lw_at lw_m9 178 rfl) rfl
theorem q2207 : (Jvm.Cond.code ({ cls := "BitingDoorsModel", name := "readDayLine", desc := "()Z" } : Jvm.MethodName) prog_26_method_93_code (6 : Nat) (Option.some Jvm.ClassFile.FieldType.boolean)) ∈ lw_all := lw_g (lw_at lw_m9 179 rfl) rfl
theorem q2209 : (Jvm.Cond.instanceMethod ({ cls := "BitingDoorsModel", name := "judge", desc := "()I" } : Jvm.MethodName)) ∈ lw_all := lw_g (lw_at lw_m9 181 rfl) rfl
theorem q2210 : (Jvm.Cond.selects "BitingDoorsModel" ({ cls := "BitingDoorsModel", name := "judge", desc := "()I" } : Jvm.MethodName) ({ cls := "BitingDoorsModel", name := "judge", desc := "()I" } : Jvm.MethodName)) ∈ lw_all := lw_g (lw_at lw_m9 182 rfl) rfl
theorem q2211 : (Jvm.Cond.code ({ cls := "BitingDoorsModel", name := "judge", desc := "()I" } : Jvm.MethodName) prog_26_method_98_code (1 : Nat) (Option.some Jvm.ClassFile.FieldType.int)) ∈ lw_all := lw_g (lw_at lw_m9 183 rfl) rfl
theorem q2212 : (Jvm.Cond.methodLink "BitingDoorsModel" (408 : Nat) ({ cls := "BitingDoorsModel", name := "doDay", desc := "()I" } : Jvm.MethodName)) ∈ lw_all := lw_g (lw_at lw_m9 184 rfl) rfl
theorem q2213 : (Jvm.Cond.privateMethod ({ cls := "BitingDoorsModel", name := "doDay", desc := "()I" } : Jvm.MethodName)) ∈ lw_tbl := lw_at lw_m9 185 rfl
theorem q2214 : (Jvm.Cond.instanceMethod ({ cls := "BitingDoorsModel", name := "doDay", desc := "()I" } : Jvm.MethodName)) ∈ lw_all := lw_g (lw_at lw_m9 186 rfl) rfl
theorem q2215 : (Jvm.Cond.code ({ cls := "BitingDoorsModel", name := "doDay", desc := "()I" } : Jvm.MethodName) prog_26_method_97_code (5 : Nat) (Option.some Jvm.ClassFile.FieldType.int)) ∈ lw_all := lw_g (lw_at lw_m9 187 rfl) rfl
theorem q2216 : (Jvm.Cond.methodLink "BitingDoorsModel" (405 : Nat) ({ cls := "BitingDoorsModel", name := "doAct", desc := "(II)I" } : Jvm.MethodName)) ∈ lw_all := lw_g (lw_at lw_m9 188 rfl) rfl
theorem q2217 : (Jvm.Cond.privateMethod ({ cls := "BitingDoorsModel", name := "doAct", desc := "(II)I" } : Jvm.MethodName)) ∈ lw_tbl := lw_at lw_m9 189 rfl
theorem q2218 : (Jvm.Cond.instanceMethod ({ cls := "BitingDoorsModel", name := "doAct", desc := "(II)I" } : Jvm.MethodName)) ∈ lw_all := lw_g (lw_at lw_m9 190 rfl) rfl
theorem q2219 : (Jvm.Cond.code ({ cls := "BitingDoorsModel", name := "doAct", desc := "(II)I" } : Jvm.MethodName) prog_26_method_96_code (8 : Nat) (Option.some Jvm.ClassFile.FieldType.int)) ∈ lw_all := lw_g (lw_at lw_m9 191 rfl) rfl
theorem q2220 : (Jvm.Cond.methodLink "BitingDoorsModel" (402 : Nat) ({ cls := "BitingDoorsModel", name := "goalOf", desc := "(II)I" } : Jvm.MethodName)) ∈ lw_all := lw_g (lw_at lw_m9 192 rfl) rfl
theorem q2221 : (Jvm.Cond.privateMethod ({ cls := "BitingDoorsModel", name := "goalOf", desc := "(II)I" } : Jvm.MethodName)) ∈ lw_tbl := lw_at lw_m9 193 rfl
theorem q2222 : (Jvm.Cond.instanceMethod ({ cls := "BitingDoorsModel", name := "goalOf", desc := "(II)I" } : Jvm.MethodName)) ∈ lw_all := lw_g (lw_at lw_m9 194 rfl) rfl
theorem q2223 : (Jvm.Cond.code ({ cls := "BitingDoorsModel", name := "goalOf", desc := "(II)I" } : Jvm.MethodName) prog_26_method_95_code (3 : Nat) (Option.some Jvm.ClassFile.FieldType.int)) ∈ lw_all := lw_g (lw_at lw_m9 195 rfl) rfl
theorem q2225 : (Jvm.Cond.instanceMethod ({ cls := "BitingDoorsModel", name := "judged", desc := "(I)I" } : Jvm.MethodName)) ∈ lw_all := lw_g (lw_at lw_m9 197 rfl) rfl
theorem q2226 : (Jvm.Cond.selects "BitingDoorsModel" ({ cls := "BitingDoorsModel", name := "judged", desc := "(I)I" } : Jvm.MethodName) ({ cls := "BitingDoorsModel", name := "judged", desc := "(I)I" } : Jvm.MethodName)) ∈ lw_all := lw_g (lw_at lw_m9 198 rfl) rfl
theorem q2227 : (Jvm.Cond.code ({ cls := "BitingDoorsModel", name := "judged", desc := "(I)I" } : Jvm.MethodName) prog_26_method_99_code (2 : Nat) (Option.some Jvm.ClassFile.FieldType.int)) ∈ lw_all := lw_g (lw_at lw_m9 199 rfl) rfl
theorem q2229 : (Jvm.Cond.instanceMethod ({ cls := "BitingDoorsModel", name := "live", desc := "()I" } : Jvm.MethodName)) ∈ lw_all := lw_g (lw_at lw_m9 201 rfl) rfl
theorem q2230 : (Jvm.Cond.selects "BitingDoorsModel" ({ cls := "BitingDoorsModel", name := "live", desc := "()I" } : Jvm.MethodName) ({ cls := "BitingDoorsModel", name := "live", desc := "()I" } : Jvm.MethodName)) ∈ lw_all := lw_g (lw_at lw_m9 202 rfl) rfl
theorem q2231 : (Jvm.Cond.code ({ cls := "BitingDoorsModel", name := "live", desc := "()I" } : Jvm.MethodName) prog_26_method_100_code (2 : Nat) (Option.some Jvm.ClassFile.FieldType.int)) ∈ lw_all := lw_g (lw_at lw_m9 203 rfl) rfl
theorem q2233 : (Jvm.Cond.instanceMethod ({ cls := "BitingDoorsModel", name := "way", desc := "(II)I" } : Jvm.MethodName)) ∈ lw_all := lw_g (lw_at lw_m9 205 rfl) rfl
theorem q2234 : (Jvm.Cond.selects "BitingDoorsModel" ({ cls := "BitingDoorsModel", name := "way", desc := "(II)I" } : Jvm.MethodName) ({ cls := "BitingDoorsModel", name := "way", desc := "(II)I" } : Jvm.MethodName)) ∈ lw_all := lw_g (lw_at lw_m9 206 rfl) rfl
theorem q2235 : (Jvm.Cond.code ({ cls := "BitingDoorsModel", name := "way", desc := "(II)I" } : Jvm.MethodName) prog_26_method_105_code (5 : Nat) (Option.some Jvm.ClassFile.FieldType.int)) ∈ lw_all := lw_g (lw_at lw_m9 207 rfl) rfl
theorem q2236 : (Jvm.Cond.methodLink "BitingDoorsModel" (426 : Nat) ({ cls := "BitingDoorsModel", name := "findWay", desc := "(I)I" } : Jvm.MethodName)) ∈ lw_all := lw_g (lw_at lw_m9 208 rfl) rfl
theorem q2237 : (Jvm.Cond.privateMethod ({ cls := "BitingDoorsModel", name := "findWay", desc := "(I)I" } : Jvm.MethodName)) ∈ lw_tbl := lw_at lw_m9 209 rfl
theorem q2238 : (Jvm.Cond.instanceMethod ({ cls := "BitingDoorsModel", name := "findWay", desc := "(I)I" } : Jvm.MethodName)) ∈ lw_all := lw_g (lw_at lw_m9 210 rfl) rfl
theorem q2239 : (Jvm.Cond.code ({ cls := "BitingDoorsModel", name := "findWay", desc := "(I)I" } : Jvm.MethodName) prog_26_method_104_code (6 : Nat) (Option.some Jvm.ClassFile.FieldType.int)) ∈ lw_all := lw_g (lw_at lw_m9 211 rfl) rfl
theorem q2240 : (Jvm.Cond.methodLink "BitingDoorsModel" (420 : Nat) ({ cls := "BitingDoorsModel", name := "search", desc := "(I)I" } : Jvm.MethodName)) ∈ lw_all := lw_g (lw_at lw_m9 212 rfl) rfl
theorem q2241 : (Jvm.Cond.privateMethod ({ cls := "BitingDoorsModel", name := "search", desc := "(I)I" } : Jvm.MethodName)) ∈ lw_tbl := lw_at lw_m9 213 rfl
theorem q2242 : (Jvm.Cond.instanceMethod ({ cls := "BitingDoorsModel", name := "search", desc := "(I)I" } : Jvm.MethodName)) ∈ lw_all := lw_g (lw_at lw_m9 214 rfl) rfl
theorem q2243 : (Jvm.Cond.code ({ cls := "BitingDoorsModel", name := "search", desc := "(I)I" } : Jvm.MethodName) prog_26_method_103_code (7 : Nat) (Option.some Jvm.ClassFile.FieldType.int)) ∈ lw_all := lw_g (lw_at lw_m9 215 rfl) rfl
theorem q2244 : (Jvm.Cond.methodLink "BitingDoorsModel" (411 : Nat) ({ cls := "BitingDoorsModel", name := "stateAtHand", desc := "()I" } : Jvm.MethodName)) ∈ lw_all := lw_g (lw_at lw_m9 216 rfl) rfl
theorem q2245 : (Jvm.Cond.privateMethod ({ cls := "BitingDoorsModel", name := "stateAtHand", desc := "()I" } : Jvm.MethodName)) ∈ lw_tbl := lw_at lw_m9 217 rfl
theorem q2246 : (Jvm.Cond.instanceMethod ({ cls := "BitingDoorsModel", name := "stateAtHand", desc := "()I" } : Jvm.MethodName)) ∈ lw_all := lw_g (lw_at lw_m9 218 rfl) rfl
theorem q2247 : (Jvm.Cond.code ({ cls := "BitingDoorsModel", name := "stateAtHand", desc := "()I" } : Jvm.MethodName) prog_26_method_101_code (3 : Nat) (Option.some Jvm.ClassFile.FieldType.int)) ∈ lw_all := lw_g (lw_at lw_m9 219 rfl) rfl
theorem q2248 : (Jvm.Cond.methodLink "BitingDoorsModel" (417 : Nat) ({ cls := "BitingDoorsModel", name := "layState", desc := "(I)V" } : Jvm.MethodName)) ∈ lw_all := lw_g (lw_at lw_m9 220 rfl) rfl
theorem q2249 : (Jvm.Cond.privateMethod ({ cls := "BitingDoorsModel", name := "layState", desc := "(I)V" } : Jvm.MethodName)) ∈ lw_tbl := lw_at lw_m9 221 rfl
theorem q2250 : (Jvm.Cond.instanceMethod ({ cls := "BitingDoorsModel", name := "layState", desc := "(I)V" } : Jvm.MethodName)) ∈ lw_all := lw_g (lw_at lw_m9 222 rfl) rfl
theorem q2251 : (Jvm.Cond.code ({ cls := "BitingDoorsModel", name := "layState", desc := "(I)V" } : Jvm.MethodName) prog_26_method_102_code (4 : Nat) (Option.none : Option Jvm.ClassFile.FieldType)) ∈ lw_all := lw_g (lw_at lw_m9 223 rfl) rfl
theorem q2253 : (Jvm.Cond.instanceMethod ({ cls := "BitingDoorsModel", name := "wayAt", desc := "(I)I" } : Jvm.MethodName)) ∈ lw_all := lw_g (lw_at lw_m9 225 rfl) rfl
theorem q2254 : (Jvm.Cond.selects "BitingDoorsModel" ({ cls := "BitingDoorsModel", name := "wayAt", desc := "(I)I" } : Jvm.MethodName) ({ cls := "BitingDoorsModel", name := "wayAt", desc := "(I)I" } : Jvm.MethodName)) ∈ lw_all := lw_g (lw_at lw_m9 226 rfl) rfl
theorem q2255 : (Jvm.Cond.code ({ cls := "BitingDoorsModel", name := "wayAt", desc := "(I)I" } : Jvm.MethodName) prog_26_method_106_code (2 : Nat) (Option.some Jvm.ClassFile.FieldType.int)) ∈ lw_all := lw_g (lw_at lw_m9 227 rfl) rfl
theorem q2257 : (Jvm.Cond.instanceMethod ({ cls := "BitingDoorsModel", name := "walk", desc := "()I" } : Jvm.MethodName)) ∈ lw_all := lw_g (lw_at lw_m9 229 rfl) rfl
theorem q2258 : (Jvm.Cond.selects "BitingDoorsModel" ({ cls := "BitingDoorsModel", name := "walk", desc := "()I" } : Jvm.MethodName) ({ cls := "BitingDoorsModel", name := "walk", desc := "()I" } : Jvm.MethodName)) ∈ lw_all := lw_g (lw_at lw_m9 230 rfl) rfl
theorem q2259 : (Jvm.Cond.code ({ cls := "BitingDoorsModel", name := "walk", desc := "()I" } : Jvm.MethodName) prog_26_method_107_code (2 : Nat) (Option.some Jvm.ClassFile.FieldType.int)) ∈ lw_all := lw_g (lw_at lw_m9 231 rfl) rfl
theorem q2261 : (Jvm.Cond.instanceMethod ({ cls := "BitingDoorsModel", name := "reach", desc := "(I)I" } : Jvm.MethodName)) ∈ lw_all := lw_g (lw_at lw_m9 233 rfl) rfl
theorem q2262 : (Jvm.Cond.selects "BitingDoorsModel" ({ cls := "BitingDoorsModel", name := "reach", desc := "(I)I" } : Jvm.MethodName) ({ cls := "BitingDoorsModel", name := "reach", desc := "(I)I" } : Jvm.MethodName)) ∈ lw_all := lw_g (lw_at lw_m9 234 rfl) rfl
theorem q2263 : (Jvm.Cond.code ({ cls := "BitingDoorsModel", name := "reach", desc := "(I)I" } : Jvm.MethodName) prog_26_method_108_code (4 : Nat) (Option.some Jvm.ClassFile.FieldType.int)) ∈ lw_all := lw_g (lw_at lw_m9 235 rfl) rfl
theorem q2264 : (Jvm.Cond.methodLink "BitingDoorsModel" (432 : Nat) ({ cls := "BitingDoorsModel", name := "walkOn", desc := "()V" } : Jvm.MethodName)) ∈ lw_all := lw_g (lw_at lw_m9 236 rfl) rfl
theorem q2265 : (Jvm.Cond.privateMethod ({ cls := "BitingDoorsModel", name := "walkOn", desc := "()V" } : Jvm.MethodName)) ∈ lw_tbl := lw_at lw_m9 237 rfl
theorem q2266 : (Jvm.Cond.instanceMethod ({ cls := "BitingDoorsModel", name := "walkOn", desc := "()V" } : Jvm.MethodName)) ∈ lw_all := lw_g (lw_at lw_m9 238 rfl) rfl
theorem q2267 : (Jvm.Cond.code ({ cls := "BitingDoorsModel", name := "walkOn", desc := "()V" } : Jvm.MethodName) prog_26_method_109_code (5 : Nat) (Option.none : Option Jvm.ClassFile.FieldType)) ∈ lw_all := lw_g (lw_at lw_m9 239 rfl) rfl
theorem q2269 : (Jvm.Cond.instanceMethod ({ cls := "BitingDoorsModel", name := "quiet", desc := "()I" } : Jvm.MethodName)) ∈ lw_all := lw_g (lw_at lw_m10 1 rfl) rfl
theorem q2270 : (Jvm.Cond.selects "BitingDoorsModel" ({ cls := "BitingDoorsModel", name := "quiet", desc := "()I" } : Jvm.MethodName) ({ cls := "BitingDoorsModel", name := "quiet", desc := "()I" } : Jvm.MethodName)) ∈ lw_all := lw_g (lw_at lw_m10 2 rfl) rfl
theorem q2271 : (Jvm.Cond.code ({ cls := "BitingDoorsModel", name := "quiet", desc := "()I" } : Jvm.MethodName) prog_26_method_110_code (2 : Nat) (Option.some Jvm.ClassFile.FieldType.int)) ∈ lw_all := lw_g (lw_at lw_m10 3 rfl) rfl
theorem q2273 : (Jvm.Cond.instanceMethod ({ cls := "BitingDoorsModel", name := "stride", desc := "()I" } : Jvm.MethodName)) ∈ lw_all := lw_g (lw_at lw_m10 5 rfl) rfl
theorem q2274 : (Jvm.Cond.selects "BitingDoorsModel" ({ cls := "BitingDoorsModel", name := "stride", desc := "()I" } : Jvm.MethodName) ({ cls := "BitingDoorsModel", name := "stride", desc := "()I" } : Jvm.MethodName)) ∈ lw_all := lw_g (lw_at lw_m10 6 rfl) rfl
theorem q2275 : (Jvm.Cond.code ({ cls := "BitingDoorsModel", name := "stride", desc := "()I" } : Jvm.MethodName) prog_26_method_111_code (1 : Nat) (Option.some Jvm.ClassFile.FieldType.int)) ∈ lw_all := lw_g (lw_at lw_m10 7 rfl) rfl
theorem q2277 : (Jvm.Cond.instanceMethod ({ cls := "BitingDoorsModel", name := "sentence", desc := "()I" } : Jvm.MethodName)) ∈ lw_all := lw_g (lw_at lw_m10 9 rfl) rfl
theorem q2278 : (Jvm.Cond.selects "BitingDoorsModel" ({ cls := "BitingDoorsModel", name := "sentence", desc := "()I" } : Jvm.MethodName) ({ cls := "BitingDoorsModel", name := "sentence", desc := "()I" } : Jvm.MethodName)) ∈ lw_all := lw_g (lw_at lw_m10 10 rfl) rfl
theorem q2279 : (Jvm.Cond.code ({ cls := "BitingDoorsModel", name := "sentence", desc := "()I" } : Jvm.MethodName) prog_26_method_121_code (2 : Nat) (Option.some Jvm.ClassFile.FieldType.int)) ∈ lw_all := lw_g (lw_at lw_m10 11 rfl) rfl
theorem q2280 : (Jvm.Cond.methodLink "BitingDoorsModel" (471 : Nat) ({ cls := "BitingDoorsModel", name := "readOr", desc := "()Z" } : Jvm.MethodName)) ∈ lw_all := lw_g (lw_at lw_m10 12 rfl) rfl
theorem q2281 : (Jvm.Cond.privateMethod ({ cls := "BitingDoorsModel", name := "readOr", desc := "()Z" } : Jvm.MethodName)) ∈ lw_tbl := lw_at lw_m10 13 rfl
theorem q2282 : (Jvm.Cond.instanceMethod ({ cls := "BitingDoorsModel", name := "readOr", desc := "()Z" } : Jvm.MethodName)) ∈ lw_all := lw_g (lw_at lw_m10 14 rfl) rfl
theorem q2283 : (Jvm.Cond.code ({ cls := "BitingDoorsModel", name := "readOr", desc := "()Z" } : Jvm.MethodName) prog_26_method_113_code (2 : Nat) (Option.some Jvm.ClassFile.FieldType.boolean)) ∈ lw_all := lw_g (lw_at lw_m10 15 rfl) rfl
theorem q2284 : (Jvm.Cond.methodLink "BitingDoorsModel" (438 : Nat) ({ cls := "BitingDoorsModel", name := "readAnd", desc := "()Z" } : Jvm.MethodName)) ∈ lw_all := lw_g (lw_at lw_m10 16 rfl) rfl
theorem q2285 : (Jvm.Cond.privateMethod ({ cls := "BitingDoorsModel", name := "readAnd", desc := "()Z" } : Jvm.MethodName)) ∈ lw_tbl := lw_at lw_m10 17 rfl
theorem q2286 : (Jvm.Cond.instanceMethod ({ cls := "BitingDoorsModel", name := "readAnd", desc := "()Z" } : Jvm.MethodName)) ∈ lw_all := lw_g (lw_at lw_m10 18 rfl) rfl
theorem q2287 : (Jvm.Cond.code ({ cls := "BitingDoorsModel", name := "readAnd", desc := "()Z" } : Jvm.MethodName) prog_26_method_114_code (2 : Nat) (Option.some Jvm.ClassFile.FieldType.boolean)) ∈ lw_all := lw_g (lw_at lw_m10 19 rfl) rfl
theorem q2288 : (Jvm.Cond.methodLink "BitingDoorsModel" (447 : Nat) ({ cls := "BitingDoorsModel", name := "readOne", desc := "()Z" } : Jvm.MethodName)) ∈ lw_all := lw_g (lw_at lw_m10 20 rfl) rfl
theorem q2289 : (Jvm.Cond.privateMethod ({ cls := "BitingDoorsModel", name := "readOne", desc := "()Z" } : Jvm.MethodName)) ∈ lw_tbl := lw_at lw_m10 21 rfl
theorem q2290 : (Jvm.Cond.instanceMethod ({ cls := "BitingDoorsModel", name := "readOne", desc := "()Z" } : Jvm.MethodName)) ∈ lw_all := lw_g (lw_at lw_m10 22 rfl) rfl
theorem q2291 : (Jvm.Cond.code ({ cls := "BitingDoorsModel", name := "readOne", desc := "()Z" } : Jvm.MethodName) prog_26_method_116_code (4 : Nat) (Option.some Jvm.ClassFile.FieldType.boolean)) ∈ lw_all := lw_g (lw_at lw_m10 23 rfl) rfl
theorem q2292 : (Jvm.Cond.methodLink "BitingDoorsModel" (450 : Nat) ({ cls := "BitingDoorsModel", name := "oneAtHand", desc := "()I" } : Jvm.MethodName)) ∈ lw_all := lw_g (lw_at lw_m10 24 rfl) rfl
theorem q2293 : (Jvm.Cond.privateMethod ({ cls := "BitingDoorsModel", name := "oneAtHand", desc := "()I" } : Jvm.MethodName)) ∈ lw_tbl := lw_at lw_m10 25 rfl
theorem q2294 : (Jvm.Cond.instanceMethod ({ cls := "BitingDoorsModel", name := "oneAtHand", desc := "()I" } : Jvm.MethodName)) ∈ lw_all := lw_g (lw_at lw_m10 26 rfl) rfl
theorem q2295 : (Jvm.Cond.code ({ cls := "BitingDoorsModel", name := "oneAtHand", desc := "()I" } : Jvm.MethodName) prog_26_method_115_code (2 : Nat) (Option.some Jvm.ClassFile.FieldType.int)) ∈ lw_all := lw_g (lw_at lw_m10 27 rfl) rfl
theorem q2296 : (Jvm.Cond.methodLink "BitingDoorsModel" (459 : Nat) ({ cls := "BitingDoorsModel", name := "readBracket", desc := "()Z" } : Jvm.MethodName)) ∈ lw_all := lw_g (lw_at lw_m10 28 rfl) rfl
theorem q2297 : (Jvm.Cond.privateMethod ({ cls := "BitingDoorsModel", name := "readBracket", desc := "()Z" } : Jvm.MethodName)) ∈ lw_tbl := lw_at lw_m10 29 rfl
theorem q2298 : (Jvm.Cond.instanceMethod ({ cls := "BitingDoorsModel", name := "readBracket", desc := "()Z" } : Jvm.MethodName)) ∈ lw_all := lw_g (lw_at lw_m10 30 rfl) rfl
theorem q2299 : (Jvm.Cond.code ({ cls := "BitingDoorsModel", name := "readBracket", desc := "()Z" } : Jvm.MethodName) prog_26_method_118_code (1 : Nat) (Option.some Jvm.ClassFile.FieldType.boolean)) ∈ lw_all := lw_g (lw_at lw_m10 31 rfl) rfl
theorem q2300 : (Jvm.Cond.methodLink "BitingDoorsModel" (462 : Nat) ({ cls := "BitingDoorsModel", name := "readNot", desc := "()Z" } : Jvm.MethodName)) ∈ lw_all := lw_g (lw_at lw_m10 32 rfl) rfl
theorem q2301 : (Jvm.Cond.privateMethod ({ cls := "BitingDoorsModel", name := "readNot", desc := "()Z" } : Jvm.MethodName)) ∈ lw_tbl := lw_at lw_m10 33 rfl
theorem q2302 : (Jvm.Cond.instanceMethod ({ cls := "BitingDoorsModel", name := "readNot", desc := "()Z" } : Jvm.MethodName)) ∈ lw_all := lw_g (lw_at lw_m10 34 rfl) rfl
theorem q2303 : (Jvm.Cond.code ({ cls := "BitingDoorsModel", name := "readNot", desc := "()Z" } : Jvm.MethodName) prog_26_method_117_code (1 : Nat) (Option.some Jvm.ClassFile.FieldType.boolean)) ∈ lw_all := lw_g (lw_at lw_m10 35 rfl) rfl
theorem q2304 : (Jvm.Cond.methodLink "BitingDoorsModel" (444 : Nat) ({ cls := "BitingDoorsModel", name := "lays", desc := "(IIII)I" } : Jvm.MethodName)) ∈ lw_all := lw_g (lw_at lw_m10 36 rfl) rfl
theorem q2305 : (Jvm.Cond.privateMethod ({ cls := "BitingDoorsModel", name := "lays", desc := "(IIII)I" } : Jvm.MethodName)) ∈ lw_tbl := lw_at lw_m10 37 rfl
theorem q2306 : (Jvm.Cond.instanceMethod ({ cls := "BitingDoorsModel", name := "lays", desc := "(IIII)I" } : Jvm.MethodName)) ∈ lw_all := lw_g (lw_at lw_m10 38 rfl) rfl
theorem q2307 : (Jvm.Cond.code ({ cls := "BitingDoorsModel", name := "lays", desc := "(IIII)I" } : Jvm.MethodName) prog_26_method_112_code (6 : Nat) (Option.some Jvm.ClassFile.FieldType.int)) ∈ lw_all := lw_g (lw_at lw_m10 39 rfl) rfl
theorem q2308 : (Jvm.Cond.methodLink "BitingDoorsModel" (465 : Nat) ({ cls := "BitingDoorsModel", name := "readBites", desc := "()Z" } : Jvm.MethodName)) ∈ lw_all := lw_g (lw_at lw_m10 40 rfl) rfl
theorem q2309 : (Jvm.Cond.privateMethod ({ cls := "BitingDoorsModel", name := "readBites", desc := "()Z" } : Jvm.MethodName)) ∈ lw_tbl := lw_at lw_m10 41 rfl
theorem q2310 : (Jvm.Cond.instanceMethod ({ cls := "BitingDoorsModel", name := "readBites", desc := "()Z" } : Jvm.MethodName)) ∈ lw_all := lw_g (lw_at lw_m10 42 rfl) rfl
theorem q2311 : (Jvm.Cond.code ({ cls := "BitingDoorsModel", name := "readBites", desc := "()Z" } : Jvm.MethodName) prog_26_method_119_code (2 : Nat) (Option.some Jvm.ClassFile.FieldType.boolean)) ∈ lw_all := lw_g (lw_at lw_m10 43 rfl) rfl
theorem q2312 : (Jvm.Cond.methodLink "BitingDoorsModel" (468 : Nat) ({ cls := "BitingDoorsModel", name := "readCompare", desc := "(I)Z" } : Jvm.MethodName)) ∈ lw_all := lw_g (lw_at lw_m10 44 rfl) rfl
theorem q2313 : (Jvm.Cond.privateMethod ({ cls := "BitingDoorsModel", name := "readCompare", desc := "(I)Z" } : Jvm.MethodName)) ∈ lw_tbl := lw_at lw_m10 45 rfl
theorem q2314 : (Jvm.Cond.instanceMethod ({ cls := "BitingDoorsModel", name := "readCompare", desc := "(I)Z" } : Jvm.MethodName)) ∈ lw_all := lw_g (lw_at lw_m10 46 rfl) rfl
theorem q2315 : (Jvm.Cond.code ({ cls := "BitingDoorsModel", name := "readCompare", desc := "(I)Z" } : Jvm.MethodName) prog_26_method_120_code (3 : Nat) (Option.some Jvm.ClassFile.FieldType.boolean)) ∈ lw_all := lw_g (lw_at lw_m10 47 rfl) rfl
theorem q2317 : (Jvm.Cond.instanceMethod ({ cls := "BitingDoorsModel", name := "said", desc := "()I" } : Jvm.MethodName)) ∈ lw_all := lw_g (lw_at lw_m10 49 rfl) rfl
theorem q2318 : (Jvm.Cond.selects "BitingDoorsModel" ({ cls := "BitingDoorsModel", name := "said", desc := "()I" } : Jvm.MethodName) ({ cls := "BitingDoorsModel", name := "said", desc := "()I" } : Jvm.MethodName)) ∈ lw_all := lw_g (lw_at lw_m10 50 rfl) rfl
theorem q2319 : (Jvm.Cond.code ({ cls := "BitingDoorsModel", name := "said", desc := "()I" } : Jvm.MethodName) prog_26_method_124_code (3 : Nat) (Option.some Jvm.ClassFile.FieldType.int)) ∈ lw_all := lw_g (lw_at lw_m10 51 rfl) rfl
theorem q2320 : (Jvm.Cond.methodLink "BitingDoorsModel" (474 : Nat) ({ cls := "BitingDoorsModel", name := "isSo", desc := "(II)Z" } : Jvm.MethodName)) ∈ lw_all := lw_g (lw_at lw_m10 52 rfl) rfl
theorem q2321 : (Jvm.Cond.privateMethod ({ cls := "BitingDoorsModel", name := "isSo", desc := "(II)Z" } : Jvm.MethodName)) ∈ lw_tbl := lw_at lw_m10 53 rfl
theorem q2322 : (Jvm.Cond.instanceMethod ({ cls := "BitingDoorsModel", name := "isSo", desc := "(II)Z" } : Jvm.MethodName)) ∈ lw_all := lw_g (lw_at lw_m10 54 rfl) rfl
theorem q2323 : (Jvm.Cond.code ({ cls := "BitingDoorsModel", name := "isSo", desc := "(II)Z" } : Jvm.MethodName) prog_26_method_123_code (7 : Nat) (Option.some Jvm.ClassFile.FieldType.boolean)) ∈ lw_all := lw_g (lw_at lw_m10 55 rfl) rfl
theorem q2324 : (Jvm.Cond.methodLink "BitingDoorsModel" (477 : Nat) ({ cls := "BitingDoorsModel", name := "valueOf", desc := "(II)I" } : Jvm.MethodName)) ∈ lw_all := lw_g (lw_at lw_m10 56 rfl) rfl
theorem q2325 : (Jvm.Cond.privateMethod ({ cls := "BitingDoorsModel", name := "valueOf", desc := "(II)I" } : Jvm.MethodName)) ∈ lw_tbl := lw_at lw_m10 57 rfl
theorem q2326 : (Jvm.Cond.instanceMethod ({ cls := "BitingDoorsModel", name := "valueOf", desc := "(II)I" } : Jvm.MethodName)) ∈ lw_all := lw_g (lw_at lw_m10 58 rfl) rfl
theorem q2327 : (Jvm.Cond.code ({ cls := "BitingDoorsModel", name := "valueOf", desc := "(II)I" } : Jvm.MethodName) prog_26_method_122_code (4 : Nat) (Option.some Jvm.ClassFile.FieldType.int)) ∈ lw_all := lw_g (lw_at lw_m10 59 rfl) rfl
theorem q2329 : (Jvm.Cond.instanceMethod ({ cls := "BitingDoorsModel", name := "image", desc := "(I)Z" } : Jvm.MethodName)) ∈ lw_all := lw_g (lw_at lw_m10 61 rfl) rfl
theorem q2330 : (Jvm.Cond.selects "BitingDoorsModel" ({ cls := "BitingDoorsModel", name := "image", desc := "(I)Z" } : Jvm.MethodName) ({ cls := "BitingDoorsModel", name := "image", desc := "(I)Z" } : Jvm.MethodName)) ∈ lw_all := lw_g (lw_at lw_m10 62 rfl) rfl
theorem q2331 : (Jvm.Cond.code ({ cls := "BitingDoorsModel", name := "image", desc := "(I)Z" } : Jvm.MethodName) prog_26_method_125_code (3 : Nat) (Option.some Jvm.ClassFile.FieldType.boolean)) ∈ lw_all := lw_g (lw_at lw_m10 63 rfl) rfl
theorem q2333 : (Jvm.Cond.instanceMethod ({ cls := "BitingDoorsModel", name := "restore", desc := "(I)Z" } : Jvm.MethodName)) ∈ lw_all := lw_g (lw_at lw_m10 65 rfl) rfl
theorem q2334 : (Jvm.Cond.selects "BitingDoorsModel" ({ cls := "BitingDoorsModel", name := "restore", desc := "(I)Z" } : Jvm.MethodName) ({ cls := "BitingDoorsModel", name := "restore", desc := "(I)Z" } : Jvm.MethodName)) ∈ lw_all := lw_g (lw_at lw_m10 66 rfl) rfl
theorem q2335 : (Jvm.Cond.code ({ cls := "BitingDoorsModel", name := "restore", desc := "(I)Z" } : Jvm.MethodName) prog_26_method_126_code (3 : Nat) (Option.some Jvm.ClassFile.FieldType.boolean)) ∈ lw_all := lw_g (lw_at lw_m10 67 rfl) rfl
theorem q2337 : (Jvm.Cond.instanceMethod ({ cls := "BitingDoorsModel", name := "count", desc := "(I)I" } : Jvm.MethodName)) ∈ lw_all := lw_g (lw_at lw_m10 69 rfl) rfl
theorem q2338 : (Jvm.Cond.selects "BitingDoorsModel" ({ cls := "BitingDoorsModel", name := "count", desc := "(I)I" } : Jvm.MethodName) ({ cls := "BitingDoorsModel", name := "count", desc := "(I)I" } : Jvm.MethodName)) ∈ lw_all := lw_g (lw_at lw_m10 70 rfl) rfl
theorem q2339 : (Jvm.Cond.code ({ cls := "BitingDoorsModel", name := "count", desc := "(I)I" } : Jvm.MethodName) prog_26_method_127_code (2 : Nat) (Option.some Jvm.ClassFile.FieldType.int)) ∈ lw_all := lw_g (lw_at lw_m10 71 rfl) rfl
theorem q2373 : (Jvm.Cond.castable "BitingDoorsModel" "java/lang/Object") ∈ lw_tbl := lw_at lw_m10 105 rfl
theorem in_X10 : ∀ w ∈ wsX100, w ∈ lw_all := lw_in wsX100 [1714, 1716, 1718, 1720, 1722, 1724, 1726, 1728, 1730, 1732, 1734, 1736, 1738, 1740, 1742, 1744, 1746, 1748, 1750, 1752, 1754, 1756, 1758, 1760, 1762, 1764, 1766, 1768, 1770, 1772, 1774, 1776, 1778, 1780, 1782, 1784, 1786, 1788, 1790, 1792, 1794, 1796, 1798, 1800, 1802, 1804, 1806, 1808, 1810, 1812, 1814, 1816, 1818, 1820, 1822, 1824, 1826, 1828, 1830, 1832, 1834, 1836, 1838, 1840] (by decide +kernel) (by decide +kernel)
theorem q125 : (Jvm.Cond.initialized "BitingDoors$Door") ∈ lw_all := lw_g (lw_at lw_m1 17 rfl) rfl
theorem q832 : (Jvm.Cond.instantiable "BitingDoors$Door" (12 : Nat)) ∈ lw_all := lw_g (lw_at lw_m4 4 rfl) rfl
theorem q834 : (Jvm.Cond.instanceMethod ({ cls := "BitingDoors$Door", name := "<init>", desc := "(JIIZI)V" } : Jvm.MethodName)) ∈ lw_all := lw_g (lw_at lw_m4 6 rfl) rfl
theorem q835 : (Jvm.Cond.code ({ cls := "BitingDoors$Door", name := "<init>", desc := "(JIIZI)V" } : Jvm.MethodName) prog_11_method_1_code (7 : Nat) (Option.none : Option Jvm.ClassFile.FieldType)) ∈ lw_all := lw_g (lw_at lw_m4 7 rfl) rfl
theorem q836 : (Jvm.Cond.methodLink "BitingDoors$Door" (3 : Nat) ({ cls := "java/lang/Object", name := "<init>", desc := "()V" } : Jvm.MethodName)) ∈ lw_all := lw_g (lw_at lw_m4 8 rfl) rfl
theorem q837 : (Jvm.Cond.classLink "BitingDoors$Door" (9 : Nat) "BitingDoors$Cells") ∈ lw_all := lw_g (lw_at lw_m4 9 rfl) rfl
theorem q839 : (Jvm.Cond.fieldLink "BitingDoors$Door" (28 : Nat) "BitingDoors$Door" "name" "J") ∈ lw_all := lw_g (lw_at lw_m4 11 rfl) rfl
theorem q841 : (Jvm.Cond.fieldLink "BitingDoors$Door" (32 : Nat) "BitingDoors$Door" "x" "I") ∈ lw_all := lw_g (lw_at lw_m4 13 rfl) rfl
theorem q843 : (Jvm.Cond.fieldLink "BitingDoors$Door" (35 : Nat) "BitingDoors$Door" "y" "I") ∈ lw_all := lw_g (lw_at lw_m4 15 rfl) rfl
theorem q845 : (Jvm.Cond.fieldLink "BitingDoors$Door" (42 : Nat) "BitingDoors$Door" "length" "I") ∈ lw_all := lw_g (lw_at lw_m4 17 rfl) rfl
theorem q848 : (Jvm.Cond.fieldLink "BitingDoors$Door" (38 : Nat) "BitingDoors$Door" "across" "Z") ∈ lw_all := lw_g (lw_at lw_m4 20 rfl) rfl
theorem q850 : (Jvm.Cond.fieldLink "BitingDoors$Door" (11 : Nat) "BitingDoors$Door" "leaves" "[LBitingDoors$Cells;") ∈ lw_all := lw_g (lw_at lw_m4 22 rfl) rfl
theorem q851 : (Jvm.Cond.fieldLink "BitingDoors$Door" (17 : Nat) "BitingDoors$Door" "swept" "[LBitingDoors$Cells;") ∈ lw_all := lw_g (lw_at lw_m4 23 rfl) rfl
theorem q855 : (Jvm.Cond.fieldLink "BitingDoors$Door" (20 : Nat) "BitingDoors$Door" "can" "[I") ∈ lw_all := lw_g (lw_at lw_m4 27 rfl) rfl
theorem q862 : (Jvm.Cond.fieldLink "BitingDoors$Door" (24 : Nat) "BitingDoors$Door" "costs" "I") ∈ lw_all := lw_g (lw_at lw_m4 34 rfl) rfl
theorem q866 : (Jvm.Cond.fieldLink "BitingDoors$Door" (51 : Nat) "BitingDoors$Door" "whole" "Z") ∈ lw_all := lw_g (lw_at lw_m4 38 rfl) rfl
theorem q869 : (Jvm.Cond.laysFinal "BitingDoors$Door" "BitingDoors$Door" "name" "J") ∈ lw_all := lw_g (lw_at lw_m4 41 rfl) rfl
theorem q870 : (Jvm.Cond.soleField "BitingDoors$Door" "name") ∈ lw_all := lw_g (lw_at lw_m4 42 rfl) rfl
theorem q871 : (Jvm.Cond.laysFinal "BitingDoors$Door" "BitingDoors$Door" "x" "I") ∈ lw_all := lw_g (lw_at lw_m4 43 rfl) rfl
theorem q872 : (Jvm.Cond.soleField "BitingDoors$Door" "x") ∈ lw_all := lw_g (lw_at lw_m4 44 rfl) rfl
theorem q873 : (Jvm.Cond.laysFinal "BitingDoors$Door" "BitingDoors$Door" "y" "I") ∈ lw_all := lw_g (lw_at lw_m4 45 rfl) rfl
theorem q874 : (Jvm.Cond.soleField "BitingDoors$Door" "y") ∈ lw_all := lw_g (lw_at lw_m4 46 rfl) rfl
theorem q875 : (Jvm.Cond.laysFinal "BitingDoors$Door" "BitingDoors$Door" "length" "I") ∈ lw_all := lw_g (lw_at lw_m4 47 rfl) rfl
theorem q876 : (Jvm.Cond.soleField "BitingDoors$Door" "length") ∈ lw_all := lw_g (lw_at lw_m4 48 rfl) rfl
theorem q877 : (Jvm.Cond.laysFinal "BitingDoors$Door" "BitingDoors$Door" "across" "Z") ∈ lw_all := lw_g (lw_at lw_m4 49 rfl) rfl
theorem q878 : (Jvm.Cond.soleField "BitingDoors$Door" "across") ∈ lw_all := lw_g (lw_at lw_m4 50 rfl) rfl
theorem q879 : (Jvm.Cond.laysFinal "BitingDoors$Door" "BitingDoors$Door" "leaves" "[LBitingDoors$Cells;") ∈ lw_all := lw_g (lw_at lw_m4 51 rfl) rfl
theorem q880 : (Jvm.Cond.soleField "BitingDoors$Door" "leaves") ∈ lw_all := lw_g (lw_at lw_m4 52 rfl) rfl
theorem q881 : (Jvm.Cond.laysFinal "BitingDoors$Door" "BitingDoors$Door" "swept" "[LBitingDoors$Cells;") ∈ lw_all := lw_g (lw_at lw_m4 53 rfl) rfl
theorem q882 : (Jvm.Cond.soleField "BitingDoors$Door" "swept") ∈ lw_all := lw_g (lw_at lw_m4 54 rfl) rfl
theorem q883 : (Jvm.Cond.laysFinal "BitingDoors$Door" "BitingDoors$Door" "can" "[I") ∈ lw_all := lw_g (lw_at lw_m4 55 rfl) rfl
theorem q884 : (Jvm.Cond.soleField "BitingDoors$Door" "can") ∈ lw_all := lw_g (lw_at lw_m4 56 rfl) rfl
theorem q885 : (Jvm.Cond.lays "BitingDoors$Door" "BitingDoors$Door" "hanging" "I") ∈ lw_all := lw_g (lw_at lw_m4 57 rfl) rfl
theorem q886 : (Jvm.Cond.soleField "BitingDoors$Door" "hanging") ∈ lw_all := lw_g (lw_at lw_m4 58 rfl) rfl
theorem q887 : (Jvm.Cond.lays "BitingDoors$Door" "BitingDoors$Door" "told" "I") ∈ lw_all := lw_g (lw_at lw_m4 59 rfl) rfl
theorem q888 : (Jvm.Cond.soleField "BitingDoors$Door" "told") ∈ lw_all := lw_g (lw_at lw_m4 60 rfl) rfl
theorem q889 : (Jvm.Cond.lays "BitingDoors$Door" "BitingDoors$Door" "costs" "I") ∈ lw_all := lw_g (lw_at lw_m4 61 rfl) rfl
theorem q890 : (Jvm.Cond.soleField "BitingDoors$Door" "costs") ∈ lw_all := lw_g (lw_at lw_m4 62 rfl) rfl
theorem q891 : (Jvm.Cond.lays "BitingDoors$Door" "BitingDoors$Door" "whole" "Z") ∈ lw_all := lw_g (lw_at lw_m4 63 rfl) rfl
theorem q892 : (Jvm.Cond.soleField "BitingDoors$Door" "whole") ∈ lw_all := lw_g (lw_at lw_m4 64 rfl) rfl
theorem q893 : (Jvm.Cond.superclass "BitingDoors$Door" "java/lang/Object") ∈ lw_all := lw_g (lw_at lw_m4 65 rfl) rfl
theorem q925 : (Jvm.Cond.instanceMethod ({ cls := "BitingDoors$Door", name := "hang", desc := "(LBitingDoors$House;)V" } : Jvm.MethodName)) ∈ lw_all := lw_g (lw_at lw_m4 97 rfl) rfl
theorem q926 : (Jvm.Cond.selects "BitingDoors$Door" ({ cls := "BitingDoors$Door", name := "hang", desc := "(LBitingDoors$House;)V" } : Jvm.MethodName) ({ cls := "BitingDoors$Door", name := "hang", desc := "(LBitingDoors$House;)V" } : Jvm.MethodName)) ∈ lw_all := lw_g (lw_at lw_m4 98 rfl) rfl
theorem q927 : (Jvm.Cond.code ({ cls := "BitingDoors$Door", name := "hang", desc := "(LBitingDoors$House;)V" } : Jvm.MethodName) prog_11_method_5_code (4 : Nat) (Option.none : Option Jvm.ClassFile.FieldType)) ∈ lw_all := lw_g (lw_at lw_m4 99 rfl) rfl
theorem q928 : (Jvm.Cond.methodLink "BitingDoors$Door" (54 : Nat) ({ cls := "BitingDoors$Door", name := "leaf", desc := "(IZZ)LBitingDoors$Cells;" } : Jvm.MethodName)) ∈ lw_all := lw_g (lw_at lw_m4 100 rfl) rfl
theorem q929 : (Jvm.Cond.privateMethod ({ cls := "BitingDoors$Door", name := "leaf", desc := "(IZZ)LBitingDoors$Cells;" } : Jvm.MethodName)) ∈ lw_tbl := lw_at lw_m4 101 rfl
theorem q930 : (Jvm.Cond.instanceMethod ({ cls := "BitingDoors$Door", name := "leaf", desc := "(IZZ)LBitingDoors$Cells;" } : Jvm.MethodName)) ∈ lw_all := lw_g (lw_at lw_m4 102 rfl) rfl
theorem q931 : (Jvm.Cond.code ({ cls := "BitingDoors$Door", name := "leaf", desc := "(IZZ)LBitingDoors$Cells;" } : Jvm.MethodName) prog_11_method_6_code (11 : Nat) (Option.some (Jvm.ClassFile.FieldType.object "BitingDoors$Cells"))) ∈ lw_all := lw_g (lw_at lw_m4 103 rfl) rfl
theorem q933 : (Jvm.Cond.methodLinkNest "BitingDoors$Door" (58 : Nat) ({ cls := "BitingDoors$Cells", name := "<init>", desc := "()V" } : Jvm.MethodName) "BitingDoors") ∈ lw_tbl := lw_at lw_m4 105 rfl
theorem q955 : (Jvm.Cond.methodLink "BitingDoors$Door" (76 : Nat) ({ cls := "BitingDoors$Door", name := "put", desc := "(LBitingDoors$Cells;II)V" } : Jvm.MethodName)) ∈ lw_all := lw_g (lw_at lw_m4 127 rfl) rfl
theorem q956 : (Jvm.Cond.privateMethod ({ cls := "BitingDoors$Door", name := "put", desc := "(LBitingDoors$Cells;II)V" } : Jvm.MethodName)) ∈ lw_tbl := lw_at lw_m4 128 rfl
theorem q957 : (Jvm.Cond.instanceMethod ({ cls := "BitingDoors$Door", name := "put", desc := "(LBitingDoors$Cells;II)V" } : Jvm.MethodName)) ∈ lw_all := lw_g (lw_at lw_m4 129 rfl) rfl
theorem q958 : (Jvm.Cond.code ({ cls := "BitingDoors$Door", name := "put", desc := "(LBitingDoors$Cells;II)V" } : Jvm.MethodName) prog_11_method_7_code (4 : Nat) (Option.none : Option Jvm.ClassFile.FieldType)) ∈ lw_all := lw_g (lw_at lw_m4 130 rfl) rfl
theorem q959 : (Jvm.Cond.methodLink "BitingDoors$Door" (89 : Nat) ({ cls := "BitingDoors$Cells", name := "put", desc := "(II)V" } : Jvm.MethodName)) ∈ lw_all := lw_g (lw_at lw_m4 131 rfl) rfl
theorem q972 : (Jvm.Cond.methodLink "BitingDoors$Door" (80 : Nat) ({ cls := "java/lang/Math", name := "max", desc := "(II)I" } : Jvm.MethodName)) ∈ lw_all := lw_g (lw_at lw_m4 144 rfl) rfl
theorem q975 : (Jvm.Cond.methodLink "BitingDoors$Door" (86 : Nat) ({ cls := "java/lang/Math", name := "min", desc := "(II)I" } : Jvm.MethodName)) ∈ lw_all := lw_g (lw_at lw_m4 147 rfl) rfl
theorem q978 : (Jvm.Cond.methodLink "BitingDoors$Door" (59 : Nat) ({ cls := "BitingDoors$Door", name := "leaf", desc := "(II)LBitingDoors$Cells;" } : Jvm.MethodName)) ∈ lw_all := lw_g (lw_at lw_m4 150 rfl) rfl
theorem q979 : (Jvm.Cond.instanceMethod ({ cls := "BitingDoors$Door", name := "leaf", desc := "(II)LBitingDoors$Cells;" } : Jvm.MethodName)) ∈ lw_all := lw_g (lw_at lw_m4 151 rfl) rfl
theorem q980 : (Jvm.Cond.selects "BitingDoors$Door" ({ cls := "BitingDoors$Door", name := "leaf", desc := "(II)LBitingDoors$Cells;" } : Jvm.MethodName) ({ cls := "BitingDoors$Door", name := "leaf", desc := "(II)LBitingDoors$Cells;" } : Jvm.MethodName)) ∈ lw_all := lw_g (lw_at lw_m4 152 rfl) rfl
theorem q981 : (Jvm.Cond.code ({ cls := "BitingDoors$Door", name := "leaf", desc := "(II)LBitingDoors$Cells;" } : Jvm.MethodName) prog_11_method_2_code (3 : Nat) (Option.some (Jvm.ClassFile.FieldType.object "BitingDoors$Cells"))) ∈ lw_all := lw_g (lw_at lw_m4 153 rfl) rfl
theorem q982 : (Jvm.Cond.methodLink "BitingDoors$Door" (62 : Nat) ({ cls := "BitingDoors$House", name := "isFree", desc := "(LBitingDoors$Cells;)Z" } : Jvm.MethodName)) ∈ lw_all := lw_g (lw_at lw_m4 154 rfl) rfl
theorem q991 : (Jvm.Cond.methodLinkNest "BitingDoors$Door" (68 : Nat) ({ cls := "BitingDoors", name := "one", desc := "(I)I" } : Jvm.MethodName) "BitingDoors") ∈ lw_tbl := lw_at lw_m4 163 rfl
theorem q992 : (Jvm.Cond.methodLink "BitingDoors$Door" (72 : Nat) ({ cls := "BitingDoors$Cells", name := "add", desc := "(LBitingDoors$Cells;)V" } : Jvm.MethodName)) ∈ lw_all := lw_g (lw_at lw_m4 164 rfl) rfl
theorem q1138 : (Jvm.Cond.instanceMethod ({ cls := "BitingDoors$Door", name := "isFit", desc := "(I)Z" } : Jvm.MethodName)) ∈ lw_all := lw_g (lw_at lw_m5 70 rfl) rfl
theorem q1139 : (Jvm.Cond.selects "BitingDoors$Door" ({ cls := "BitingDoors$Door", name := "isFit", desc := "(I)Z" } : Jvm.MethodName) ({ cls := "BitingDoors$Door", name := "isFit", desc := "(I)Z" } : Jvm.MethodName)) ∈ lw_all := lw_g (lw_at lw_m5 71 rfl) rfl
theorem q1140 : (Jvm.Cond.code ({ cls := "BitingDoors$Door", name := "isFit", desc := "(I)Z" } : Jvm.MethodName) prog_11_method_4_code (2 : Nat) (Option.some Jvm.ClassFile.FieldType.boolean)) ∈ lw_all := lw_g (lw_at lw_m5 72 rfl) rfl
theorem q1141 : (Jvm.Cond.methodLink "BitingDoors$Door" (49 : Nat) ({ cls := "BitingDoors$Door", name := "can", desc := "(II)Z" } : Jvm.MethodName)) ∈ lw_all := lw_g (lw_at lw_m5 73 rfl) rfl
theorem q1142 : (Jvm.Cond.instanceMethod ({ cls := "BitingDoors$Door", name := "can", desc := "(II)Z" } : Jvm.MethodName)) ∈ lw_all := lw_g (lw_at lw_m5 74 rfl) rfl
theorem q1143 : (Jvm.Cond.selects "BitingDoors$Door" ({ cls := "BitingDoors$Door", name := "can", desc := "(II)Z" } : Jvm.MethodName) ({ cls := "BitingDoors$Door", name := "can", desc := "(II)Z" } : Jvm.MethodName)) ∈ lw_all := lw_g (lw_at lw_m5 75 rfl) rfl
theorem q1144 : (Jvm.Cond.code ({ cls := "BitingDoors$Door", name := "can", desc := "(II)Z" } : Jvm.MethodName) prog_11_method_3_code (3 : Nat) (Option.some Jvm.ClassFile.FieldType.boolean)) ∈ lw_all := lw_g (lw_at lw_m5 76 rfl) rfl
theorem q1145 : (Jvm.Cond.methodLinkNest "BitingDoors$Door" (45 : Nat) ({ cls := "BitingDoors", name := "has", desc := "(II)Z" } : Jvm.MethodName) "BitingDoors") ∈ lw_tbl := lw_at lw_m5 77 rfl
theorem q2374 : (Jvm.Cond.castable "BitingDoors$Door" "java/lang/Object") ∈ lw_tbl := lw_at lw_m10 106 rfl
theorem in_X11 : ∀ w ∈ wsX110, w ∈ lw_all := lw_in wsX110 [869, 871, 873, 875, 877, 879, 881, 883, 885, 887, 889, 891] (by decide +kernel) (by decide +kernel)
theorem q126 : (Jvm.Cond.initialized "BitingDoors$Cells") ∈ lw_all := lw_g (lw_at lw_m1 18 rfl) rfl
theorem q932 : (Jvm.Cond.instantiable "BitingDoors$Cells" (5 : Nat)) ∈ lw_all := lw_g (lw_at lw_m4 104 rfl) rfl
theorem q934 : (Jvm.Cond.instanceMethod ({ cls := "BitingDoors$Cells", name := "<init>", desc := "()V" } : Jvm.MethodName)) ∈ lw_all := lw_g (lw_at lw_m4 106 rfl) rfl
theorem q935 : (Jvm.Cond.code ({ cls := "BitingDoors$Cells", name := "<init>", desc := "()V" } : Jvm.MethodName) prog_6_method_1_code (1 : Nat) (Option.none : Option Jvm.ClassFile.FieldType)) ∈ lw_all := lw_g (lw_at lw_m4 107 rfl) rfl
theorem q936 : (Jvm.Cond.methodLink "BitingDoors$Cells" (3 : Nat) ({ cls := "java/lang/Object", name := "<init>", desc := "()V" } : Jvm.MethodName)) ∈ lw_all := lw_g (lw_at lw_m4 108 rfl) rfl
theorem q937 : (Jvm.Cond.fieldLink "BitingDoors$Cells" (9 : Nat) "BitingDoors$Cells" "row" "[I") ∈ lw_all := lw_g (lw_at lw_m4 109 rfl) rfl
theorem q939 : (Jvm.Cond.fieldLink "BitingDoors$Cells" (31 : Nat) "BitingDoors$Cells" "many" "I") ∈ lw_all := lw_g (lw_at lw_m4 111 rfl) rfl
theorem q940 : (Jvm.Cond.fieldLink "BitingDoors$Cells" (35 : Nat) "BitingDoors$Cells" "low" "J") ∈ lw_all := lw_g (lw_at lw_m4 112 rfl) rfl
theorem q941 : (Jvm.Cond.fieldLink "BitingDoors$Cells" (39 : Nat) "BitingDoors$Cells" "high" "J") ∈ lw_all := lw_g (lw_at lw_m4 113 rfl) rfl
theorem q942 : (Jvm.Cond.fieldLink "BitingDoors$Cells" (19 : Nat) "BitingDoors$Cells" "beyond" "Z") ∈ lw_all := lw_g (lw_at lw_m4 114 rfl) rfl
theorem q944 : (Jvm.Cond.laysFinal "BitingDoors$Cells" "BitingDoors$Cells" "row" "[I") ∈ lw_all := lw_g (lw_at lw_m4 116 rfl) rfl
theorem q945 : (Jvm.Cond.soleField "BitingDoors$Cells" "row") ∈ lw_all := lw_g (lw_at lw_m4 117 rfl) rfl
theorem q946 : (Jvm.Cond.lays "BitingDoors$Cells" "BitingDoors$Cells" "many" "I") ∈ lw_all := lw_g (lw_at lw_m4 118 rfl) rfl
theorem q947 : (Jvm.Cond.soleField "BitingDoors$Cells" "many") ∈ lw_all := lw_g (lw_at lw_m4 119 rfl) rfl
theorem q948 : (Jvm.Cond.lays "BitingDoors$Cells" "BitingDoors$Cells" "low" "J") ∈ lw_all := lw_g (lw_at lw_m4 120 rfl) rfl
theorem q949 : (Jvm.Cond.soleField "BitingDoors$Cells" "low") ∈ lw_all := lw_g (lw_at lw_m4 121 rfl) rfl
theorem q950 : (Jvm.Cond.lays "BitingDoors$Cells" "BitingDoors$Cells" "high" "J") ∈ lw_all := lw_g (lw_at lw_m4 122 rfl) rfl
theorem q951 : (Jvm.Cond.soleField "BitingDoors$Cells" "high") ∈ lw_all := lw_g (lw_at lw_m4 123 rfl) rfl
theorem q952 : (Jvm.Cond.lays "BitingDoors$Cells" "BitingDoors$Cells" "beyond" "Z") ∈ lw_all := lw_g (lw_at lw_m4 124 rfl) rfl
theorem q953 : (Jvm.Cond.soleField "BitingDoors$Cells" "beyond") ∈ lw_all := lw_g (lw_at lw_m4 125 rfl) rfl
theorem q954 : (Jvm.Cond.superclass "BitingDoors$Cells" "java/lang/Object") ∈ lw_all := lw_g (lw_at lw_m4 126 rfl) rfl
theorem q960 : (Jvm.Cond.instanceMethod ({ cls := "BitingDoors$Cells", name := "put", desc := "(II)V" } : Jvm.MethodName)) ∈ lw_all := lw_g (lw_at lw_m4 132 rfl) rfl
theorem q961 : (Jvm.Cond.selects "BitingDoors$Cells" ({ cls := "BitingDoors$Cells", name := "put", desc := "(II)V" } : Jvm.MethodName) ({ cls := "BitingDoors$Cells", name := "put", desc := "(II)V" } : Jvm.MethodName)) ∈ lw_all := lw_g (lw_at lw_m4 133 rfl) rfl
theorem q962 : (Jvm.Cond.code ({ cls := "BitingDoors$Cells", name := "put", desc := "(II)V" } : Jvm.MethodName) prog_6_method_2_code (3 : Nat) (Option.none : Option Jvm.ClassFile.FieldType)) ∈ lw_all := lw_g (lw_at lw_m4 134 rfl) rfl
theorem q963 : (Jvm.Cond.methodLinkNest "BitingDoors$Cells" (15 : Nat) ({ cls := "BitingDoors", name := "isIn", desc := "(III)Z" } : Jvm.MethodName) "BitingDoors") ∈ lw_tbl := lw_at lw_m4 135 rfl
theorem q964 : (Jvm.Cond.methodLink "BitingDoors$Cells" (23 : Nat) ({ cls := "BitingDoors$Cells", name := "has", desc := "(I)Z" } : Jvm.MethodName)) ∈ lw_all := lw_g (lw_at lw_m4 136 rfl) rfl
theorem q965 : (Jvm.Cond.instanceMethod ({ cls := "BitingDoors$Cells", name := "has", desc := "(I)Z" } : Jvm.MethodName)) ∈ lw_all := lw_g (lw_at lw_m4 137 rfl) rfl
theorem q966 : (Jvm.Cond.selects "BitingDoors$Cells" ({ cls := "BitingDoors$Cells", name := "has", desc := "(I)Z" } : Jvm.MethodName) ({ cls := "BitingDoors$Cells", name := "has", desc := "(I)Z" } : Jvm.MethodName)) ∈ lw_all := lw_g (lw_at lw_m4 138 rfl) rfl
theorem q967 : (Jvm.Cond.code ({ cls := "BitingDoors$Cells", name := "has", desc := "(I)Z" } : Jvm.MethodName) prog_6_method_4_code (2 : Nat) (Option.some Jvm.ClassFile.FieldType.boolean)) ∈ lw_all := lw_g (lw_at lw_m4 139 rfl) rfl
theorem q968 : (Jvm.Cond.methodLink "BitingDoors$Cells" (27 : Nat) ({ cls := "BitingDoors$Cells", name := "put", desc := "(I)V" } : Jvm.MethodName)) ∈ lw_all := lw_g (lw_at lw_m4 140 rfl) rfl
theorem q969 : (Jvm.Cond.privateMethod ({ cls := "BitingDoors$Cells", name := "put", desc := "(I)V" } : Jvm.MethodName)) ∈ lw_tbl := lw_at lw_m4 141 rfl
theorem q970 : (Jvm.Cond.instanceMethod ({ cls := "BitingDoors$Cells", name := "put", desc := "(I)V" } : Jvm.MethodName)) ∈ lw_all := lw_g (lw_at lw_m4 142 rfl) rfl
theorem q971 : (Jvm.Cond.code ({ cls := "BitingDoors$Cells", name := "put", desc := "(I)V" } : Jvm.MethodName) prog_6_method_3_code (3 : Nat) (Option.none : Option Jvm.ClassFile.FieldType)) ∈ lw_all := lw_g (lw_at lw_m4 143 rfl) rfl
theorem q987 : (Jvm.Cond.instanceMethod ({ cls := "BitingDoors$Cells", name := "get", desc := "(I)I" } : Jvm.MethodName)) ∈ lw_all := lw_g (lw_at lw_m4 159 rfl) rfl
theorem q988 : (Jvm.Cond.selects "BitingDoors$Cells" ({ cls := "BitingDoors$Cells", name := "get", desc := "(I)I" } : Jvm.MethodName) ({ cls := "BitingDoors$Cells", name := "get", desc := "(I)I" } : Jvm.MethodName)) ∈ lw_all := lw_g (lw_at lw_m4 160 rfl) rfl
theorem q989 : (Jvm.Cond.code ({ cls := "BitingDoors$Cells", name := "get", desc := "(I)I" } : Jvm.MethodName) prog_6_method_7_code (2 : Nat) (Option.some Jvm.ClassFile.FieldType.int)) ∈ lw_all := lw_g (lw_at lw_m4 161 rfl) rfl
theorem q993 : (Jvm.Cond.instanceMethod ({ cls := "BitingDoors$Cells", name := "add", desc := "(LBitingDoors$Cells;)V" } : Jvm.MethodName)) ∈ lw_all := lw_g (lw_at lw_m4 165 rfl) rfl
theorem q994 : (Jvm.Cond.selects "BitingDoors$Cells" ({ cls := "BitingDoors$Cells", name := "add", desc := "(LBitingDoors$Cells;)V" } : Jvm.MethodName) ({ cls := "BitingDoors$Cells", name := "add", desc := "(LBitingDoors$Cells;)V" } : Jvm.MethodName)) ∈ lw_all := lw_g (lw_at lw_m4 166 rfl) rfl
theorem q995 : (Jvm.Cond.code ({ cls := "BitingDoors$Cells", name := "add", desc := "(LBitingDoors$Cells;)V" } : Jvm.MethodName) prog_6_method_6_code (3 : Nat) (Option.none : Option Jvm.ClassFile.FieldType)) ∈ lw_all := lw_g (lw_at lw_m4 167 rfl) rfl
theorem q997 : (Jvm.Cond.instanceMethod ({ cls := "BitingDoors$Cells", name := "shared", desc := "(LBitingDoors$Cells;)I" } : Jvm.MethodName)) ∈ lw_all := lw_g (lw_at lw_m4 169 rfl) rfl
theorem q998 : (Jvm.Cond.selects "BitingDoors$Cells" ({ cls := "BitingDoors$Cells", name := "shared", desc := "(LBitingDoors$Cells;)I" } : Jvm.MethodName) ({ cls := "BitingDoors$Cells", name := "shared", desc := "(LBitingDoors$Cells;)I" } : Jvm.MethodName)) ∈ lw_all := lw_g (lw_at lw_m4 170 rfl) rfl
theorem q999 : (Jvm.Cond.code ({ cls := "BitingDoors$Cells", name := "shared", desc := "(LBitingDoors$Cells;)I" } : Jvm.MethodName) prog_6_method_5_code (2 : Nat) (Option.some Jvm.ClassFile.FieldType.int)) ∈ lw_all := lw_g (lw_at lw_m4 171 rfl) rfl
theorem q1000 : (Jvm.Cond.methodLink "BitingDoors$Cells" (42 : Nat) ({ cls := "java/lang/Long", name := "bitCount", desc := "(J)I" } : Jvm.MethodName)) ∈ lw_all := lw_g (lw_at lw_m4 172 rfl) rfl
theorem q2375 : (Jvm.Cond.castable "BitingDoors$Cells" "java/lang/Object") ∈ lw_tbl := lw_at lw_m10 107 rfl
theorem in_X12 : ∀ w ∈ wsX120, w ∈ lw_all := lw_in wsX120 [944, 946, 948, 950, 952] (by decide +kernel) (by decide +kernel)
theorem q133 : (Jvm.Cond.initialized "BitingDoors$Act") ∈ lw_all := lw_g (lw_at lw_m1 25 rfl) rfl
theorem q1050 : (Jvm.Cond.instanceMethod ({ cls := "BitingDoors$Act", name := "<init>", desc := "()V" } : Jvm.MethodName)) ∈ lw_all := lw_g (lw_at lw_m4 222 rfl) rfl
theorem q1051 : (Jvm.Cond.code ({ cls := "BitingDoors$Act", name := "<init>", desc := "()V" } : Jvm.MethodName) prog_2_method_1_code (1 : Nat) (Option.none : Option Jvm.ClassFile.FieldType)) ∈ lw_all := lw_g (lw_at lw_m4 223 rfl) rfl
theorem q1052 : (Jvm.Cond.methodLink "BitingDoors$Act" (1 : Nat) ({ cls := "java/lang/Object", name := "<init>", desc := "()V" } : Jvm.MethodName)) ∈ lw_all := lw_g (lw_at lw_m4 224 rfl) rfl
theorem q1345 : (Jvm.Cond.declares ({ cls := "BitingDoors$Act", name := "run", desc := "(LBitingDoors$Walker;)I" } : Jvm.MethodName)) ∈ lw_tbl := lw_at lw_m6 37 rfl
theorem q1346 : (Jvm.Cond.sameMethod "BitingDoors$Act" "BitingDoors$Act" "run" "(LBitingDoors$Walker;)I") ∈ lw_all := lw_g (lw_at lw_m6 38 rfl) rfl
theorem q134 : (Jvm.Cond.initialized "BitingDoors$Go") ∈ lw_all := lw_g (lw_at lw_m1 26 rfl) rfl
theorem q1042 : (Jvm.Cond.instantiable "BitingDoors$Go" (2 : Nat)) ∈ lw_all := lw_g (lw_at lw_m4 214 rfl) rfl
theorem q1047 : (Jvm.Cond.instanceMethod ({ cls := "BitingDoors$Go", name := "<init>", desc := "(II)V" } : Jvm.MethodName)) ∈ lw_all := lw_g (lw_at lw_m4 219 rfl) rfl
theorem q1048 : (Jvm.Cond.code ({ cls := "BitingDoors$Go", name := "<init>", desc := "(II)V" } : Jvm.MethodName) prog_13_method_1_code (3 : Nat) (Option.none : Option Jvm.ClassFile.FieldType)) ∈ lw_all := lw_g (lw_at lw_m4 220 rfl) rfl
theorem q1049 : (Jvm.Cond.methodLinkNest "BitingDoors$Go" (1 : Nat) ({ cls := "BitingDoors$Act", name := "<init>", desc := "()V" } : Jvm.MethodName) "BitingDoors") ∈ lw_tbl := lw_at lw_m4 221 rfl
theorem q1053 : (Jvm.Cond.fieldLink "BitingDoors$Go" (7 : Nat) "BitingDoors$Go" "side" "I") ∈ lw_all := lw_g (lw_at lw_m4 225 rfl) rfl
theorem q1054 : (Jvm.Cond.fieldLink "BitingDoors$Go" (13 : Nat) "BitingDoors$Go" "times" "I") ∈ lw_all := lw_g (lw_at lw_m4 226 rfl) rfl
theorem q1055 : (Jvm.Cond.laysFinal "BitingDoors$Go" "BitingDoors$Go" "side" "I") ∈ lw_all := lw_g (lw_at lw_m4 227 rfl) rfl
theorem q1056 : (Jvm.Cond.soleField "BitingDoors$Go" "side") ∈ lw_all := lw_g (lw_at lw_m4 228 rfl) rfl
theorem q1057 : (Jvm.Cond.laysFinal "BitingDoors$Go" "BitingDoors$Go" "times" "I") ∈ lw_all := lw_g (lw_at lw_m4 229 rfl) rfl
theorem q1058 : (Jvm.Cond.soleField "BitingDoors$Go" "times") ∈ lw_all := lw_g (lw_at lw_m4 230 rfl) rfl
theorem q1059 : (Jvm.Cond.superclass "BitingDoors$Go" "BitingDoors$Act") ∈ lw_all := lw_g (lw_at lw_m4 231 rfl) rfl
theorem q1347 : (Jvm.Cond.selects "BitingDoors$Go" ({ cls := "BitingDoors$Act", name := "run", desc := "(LBitingDoors$Walker;)I" } : Jvm.MethodName) ({ cls := "BitingDoors$Go", name := "run", desc := "(LBitingDoors$Walker;)I" } : Jvm.MethodName)) ∈ lw_all := lw_g (lw_at lw_m6 39 rfl) rfl
theorem q1348 : (Jvm.Cond.instanceMethod ({ cls := "BitingDoors$Go", name := "run", desc := "(LBitingDoors$Walker;)I" } : Jvm.MethodName)) ∈ lw_all := lw_g (lw_at lw_m6 40 rfl) rfl
theorem q1349 : (Jvm.Cond.code ({ cls := "BitingDoors$Go", name := "run", desc := "(LBitingDoors$Walker;)I" } : Jvm.MethodName) prog_13_method_2_code (4 : Nat) (Option.some Jvm.ClassFile.FieldType.int)) ∈ lw_all := lw_g (lw_at lw_m6 41 rfl) rfl
theorem q1350 : (Jvm.Cond.methodLink "BitingDoors$Go" (16 : Nat) ({ cls := "BitingDoors$Walker", name := "minute", desc := "(I)I" } : Jvm.MethodName)) ∈ lw_all := lw_g (lw_at lw_m6 42 rfl) rfl
theorem q2377 : (Jvm.Cond.castable "BitingDoors$Go" "java/lang/Object") ∈ lw_tbl := lw_at lw_m10 109 rfl
theorem q2389 : (Jvm.Cond.castable "BitingDoors$Go" "BitingDoors$Act") ∈ lw_tbl := lw_at lw_m10 121 rfl
theorem in_X14 : ∀ w ∈ wsX140, w ∈ lw_all := lw_in wsX140 [1055, 1057] (by decide +kernel) (by decide +kernel)
theorem q135 : (Jvm.Cond.initialized "BitingDoors$Turn") ∈ lw_all := lw_g (lw_at lw_m1 27 rfl) rfl
theorem q335 : (Jvm.Cond.fieldLinkNest "BitingDoors$Turn" (19 : Nat) "BitingDoors$Walker" "angle" "[I" "BitingDoors") ∈ lw_tbl := lw_at lw_m1 227 rfl
theorem q339 : (Jvm.Cond.fieldLinkNest "BitingDoors$Turn" (31 : Nat) "BitingDoors$Walker" "place" "I" "BitingDoors") ∈ lw_tbl := lw_at lw_m1 231 rfl
theorem q1074 : (Jvm.Cond.instanceMethod ({ cls := "BitingDoors$Turn", name := "<init>", desc := "(I)V" } : Jvm.MethodName)) ∈ lw_all := lw_g (lw_at lw_m5 6 rfl) rfl
theorem q1075 : (Jvm.Cond.code ({ cls := "BitingDoors$Turn", name := "<init>", desc := "(I)V" } : Jvm.MethodName) prog_23_method_1_code (2 : Nat) (Option.none : Option Jvm.ClassFile.FieldType)) ∈ lw_all := lw_g (lw_at lw_m5 7 rfl) rfl
theorem q1076 : (Jvm.Cond.methodLinkNest "BitingDoors$Turn" (3 : Nat) ({ cls := "BitingDoors$Act", name := "<init>", desc := "()V" } : Jvm.MethodName) "BitingDoors") ∈ lw_tbl := lw_at lw_m5 8 rfl
theorem q1077 : (Jvm.Cond.fieldLink "BitingDoors$Turn" (9 : Nat) "BitingDoors$Turn" "door" "I") ∈ lw_all := lw_g (lw_at lw_m5 9 rfl) rfl
theorem q1083 : (Jvm.Cond.soleField "BitingDoors$Turn" "door") ∈ lw_all := lw_g (lw_at lw_m5 15 rfl) rfl
theorem q1352 : (Jvm.Cond.instanceMethod ({ cls := "BitingDoors$Turn", name := "run", desc := "(LBitingDoors$Walker;)I" } : Jvm.MethodName)) ∈ lw_all := lw_g (lw_at lw_m6 44 rfl) rfl
theorem q1353 : (Jvm.Cond.code ({ cls := "BitingDoors$Turn", name := "run", desc := "(LBitingDoors$Walker;)I" } : Jvm.MethodName) prog_23_method_4_code (6 : Nat) (Option.some Jvm.ClassFile.FieldType.int)) ∈ lw_all := lw_g (lw_at lw_m6 45 rfl) rfl
theorem q1354 : (Jvm.Cond.methodLink "BitingDoors$Turn" (15 : Nat) ({ cls := "BitingDoors$Turn", name := "goal", desc := "(LBitingDoors$Walker;)I" } : Jvm.MethodName)) ∈ lw_all := lw_g (lw_at lw_m6 46 rfl) rfl
theorem q1355 : (Jvm.Cond.declares ({ cls := "BitingDoors$Turn", name := "goal", desc := "(LBitingDoors$Walker;)I" } : Jvm.MethodName)) ∈ lw_tbl := lw_at lw_m6 47 rfl
theorem q1356 : (Jvm.Cond.sameMethod "BitingDoors$Turn" "BitingDoors$Turn" "goal" "(LBitingDoors$Walker;)I") ∈ lw_all := lw_g (lw_at lw_m6 48 rfl) rfl
theorem q1364 : (Jvm.Cond.methodLink "BitingDoors$Turn" (25 : Nat) ({ cls := "java/lang/Math", name := "abs", desc := "(I)I" } : Jvm.MethodName)) ∈ lw_all := lw_g (lw_at lw_m6 56 rfl) rfl
theorem q1367 : (Jvm.Cond.methodLink "BitingDoors$Turn" (34 : Nat) ({ cls := "BitingDoors$Walker", name := "isAt", desc := "(I)Z" } : Jvm.MethodName)) ∈ lw_all := lw_g (lw_at lw_m6 59 rfl) rfl
theorem q1368 : (Jvm.Cond.methodLink "BitingDoors$Turn" (38 : Nat) ({ cls := "BitingDoors$Turn", name := "act", desc := "()I" } : Jvm.MethodName)) ∈ lw_all := lw_g (lw_at lw_m6 60 rfl) rfl
theorem q1369 : (Jvm.Cond.declares ({ cls := "BitingDoors$Turn", name := "act", desc := "()I" } : Jvm.MethodName)) ∈ lw_tbl := lw_at lw_m6 61 rfl
theorem q1370 : (Jvm.Cond.sameMethod "BitingDoors$Turn" "BitingDoors$Turn" "act" "()I") ∈ lw_all := lw_g (lw_at lw_m6 62 rfl) rfl
theorem q1377 : (Jvm.Cond.methodLink "BitingDoors$Turn" (42 : Nat) ({ cls := "BitingDoors$Walker", name := "minute", desc := "(I)I" } : Jvm.MethodName)) ∈ lw_all := lw_g (lw_at lw_m6 69 rfl) rfl
theorem q136 : (Jvm.Cond.initialized "BitingDoors$Open") ∈ lw_all := lw_g (lw_at lw_m1 28 rfl) rfl
theorem q272 : (Jvm.Cond.fieldLinkNest "BitingDoors$Open" (15 : Nat) "BitingDoors$House" "doors" "[LBitingDoors$Door;" "BitingDoors") ∈ lw_tbl := lw_at lw_m1 164 rfl
theorem q319 : (Jvm.Cond.fieldLinkNest "BitingDoors$Open" (9 : Nat) "BitingDoors$Walker" "house" "LBitingDoors$House;" "BitingDoors") ∈ lw_tbl := lw_at lw_m1 211 rfl
theorem q327 : (Jvm.Cond.fieldLinkNest "BitingDoors$Open" (27 : Nat) "BitingDoors$Walker" "hanging" "[I" "BitingDoors") ∈ lw_tbl := lw_at lw_m1 219 rfl
theorem q1061 : (Jvm.Cond.instantiable "BitingDoors$Open" (1 : Nat)) ∈ lw_all := lw_g (lw_at lw_m4 233 rfl) rfl
theorem q1071 : (Jvm.Cond.instanceMethod ({ cls := "BitingDoors$Open", name := "<init>", desc := "(I)V" } : Jvm.MethodName)) ∈ lw_all := lw_g (lw_at lw_m5 3 rfl) rfl
theorem q1072 : (Jvm.Cond.code ({ cls := "BitingDoors$Open", name := "<init>", desc := "(I)V" } : Jvm.MethodName) prog_17_method_1_code (2 : Nat) (Option.none : Option Jvm.ClassFile.FieldType)) ∈ lw_all := lw_g (lw_at lw_m5 4 rfl) rfl
theorem q1073 : (Jvm.Cond.methodLink "BitingDoors$Open" (3 : Nat) ({ cls := "BitingDoors$Turn", name := "<init>", desc := "(I)V" } : Jvm.MethodName)) ∈ lw_all := lw_g (lw_at lw_m5 5 rfl) rfl
theorem q1078 : (Jvm.Cond.fieldLink "BitingDoors$Open" (21 : Nat) "BitingDoors$Open" "door" "I") ∈ lw_all := lw_g (lw_at lw_m5 10 rfl) rfl
theorem q1079 : (Jvm.Cond.sameField "BitingDoors$Open" "BitingDoors$Turn" "door" "I") ∈ lw_all := lw_g (lw_at lw_m5 11 rfl) rfl
theorem q1082 : (Jvm.Cond.laysFinal "BitingDoors$Open" "BitingDoors$Turn" "door" "I") ∈ lw_all := lw_g (lw_at lw_m5 14 rfl) rfl
theorem q1084 : (Jvm.Cond.superclass "BitingDoors$Open" "BitingDoors$Turn") ∈ lw_all := lw_g (lw_at lw_m5 16 rfl) rfl
theorem q1351 : (Jvm.Cond.selects "BitingDoors$Open" ({ cls := "BitingDoors$Act", name := "run", desc := "(LBitingDoors$Walker;)I" } : Jvm.MethodName) ({ cls := "BitingDoors$Turn", name := "run", desc := "(LBitingDoors$Walker;)I" } : Jvm.MethodName)) ∈ lw_all := lw_g (lw_at lw_m6 43 rfl) rfl
theorem q1357 : (Jvm.Cond.selects "BitingDoors$Open" ({ cls := "BitingDoors$Turn", name := "goal", desc := "(LBitingDoors$Walker;)I" } : Jvm.MethodName) ({ cls := "BitingDoors$Open", name := "goal", desc := "(LBitingDoors$Walker;)I" } : Jvm.MethodName)) ∈ lw_all := lw_g (lw_at lw_m6 49 rfl) rfl
theorem q1358 : (Jvm.Cond.instanceMethod ({ cls := "BitingDoors$Open", name := "goal", desc := "(LBitingDoors$Walker;)I" } : Jvm.MethodName)) ∈ lw_all := lw_g (lw_at lw_m6 50 rfl) rfl
theorem q1359 : (Jvm.Cond.code ({ cls := "BitingDoors$Open", name := "goal", desc := "(LBitingDoors$Walker;)I" } : Jvm.MethodName) prog_17_method_2_code (2 : Nat) (Option.some Jvm.ClassFile.FieldType.int)) ∈ lw_all := lw_g (lw_at lw_m6 51 rfl) rfl
theorem q1360 : (Jvm.Cond.methodLink "BitingDoors$Open" (31 : Nat) ({ cls := "BitingDoors$Door", name := "can", desc := "(II)Z" } : Jvm.MethodName)) ∈ lw_all := lw_g (lw_at lw_m6 52 rfl) rfl
theorem q1371 : (Jvm.Cond.selects "BitingDoors$Open" ({ cls := "BitingDoors$Turn", name := "act", desc := "()I" } : Jvm.MethodName) ({ cls := "BitingDoors$Open", name := "act", desc := "()I" } : Jvm.MethodName)) ∈ lw_all := lw_g (lw_at lw_m6 63 rfl) rfl
theorem q1372 : (Jvm.Cond.instanceMethod ({ cls := "BitingDoors$Open", name := "act", desc := "()I" } : Jvm.MethodName)) ∈ lw_all := lw_g (lw_at lw_m6 64 rfl) rfl
theorem q1373 : (Jvm.Cond.code ({ cls := "BitingDoors$Open", name := "act", desc := "()I" } : Jvm.MethodName) prog_17_method_3_code (1 : Nat) (Option.some Jvm.ClassFile.FieldType.int)) ∈ lw_all := lw_g (lw_at lw_m6 65 rfl) rfl
theorem q2378 : (Jvm.Cond.castable "BitingDoors$Open" "java/lang/Object") ∈ lw_tbl := lw_at lw_m10 110 rfl
theorem q2390 : (Jvm.Cond.castable "BitingDoors$Open" "BitingDoors$Act") ∈ lw_tbl := lw_at lw_m10 122 rfl
theorem in_X16 : ∀ w ∈ wsX160, w ∈ lw_all := lw_in wsX160 [1082] (by decide +kernel) (by decide +kernel)
theorem q137 : (Jvm.Cond.initialized "BitingDoors$Shut") ∈ lw_all := lw_g (lw_at lw_m1 29 rfl) rfl
theorem q1080 : (Jvm.Cond.fieldLink "BitingDoors$Shut" (9 : Nat) "BitingDoors$Shut" "door" "I") ∈ lw_all := lw_g (lw_at lw_m5 12 rfl) rfl
theorem q1081 : (Jvm.Cond.sameField "BitingDoors$Shut" "BitingDoors$Turn" "door" "I") ∈ lw_all := lw_g (lw_at lw_m5 13 rfl) rfl
theorem q1086 : (Jvm.Cond.instantiable "BitingDoors$Shut" (1 : Nat)) ∈ lw_all := lw_g (lw_at lw_m5 18 rfl) rfl
theorem q1088 : (Jvm.Cond.instanceMethod ({ cls := "BitingDoors$Shut", name := "<init>", desc := "(I)V" } : Jvm.MethodName)) ∈ lw_all := lw_g (lw_at lw_m5 20 rfl) rfl
theorem q1089 : (Jvm.Cond.code ({ cls := "BitingDoors$Shut", name := "<init>", desc := "(I)V" } : Jvm.MethodName) prog_21_method_1_code (2 : Nat) (Option.none : Option Jvm.ClassFile.FieldType)) ∈ lw_all := lw_g (lw_at lw_m5 21 rfl) rfl
theorem q1090 : (Jvm.Cond.methodLink "BitingDoors$Shut" (3 : Nat) ({ cls := "BitingDoors$Turn", name := "<init>", desc := "(I)V" } : Jvm.MethodName)) ∈ lw_all := lw_g (lw_at lw_m5 22 rfl) rfl
theorem q1091 : (Jvm.Cond.laysFinal "BitingDoors$Shut" "BitingDoors$Turn" "door" "I") ∈ lw_all := lw_g (lw_at lw_m5 23 rfl) rfl
theorem q1092 : (Jvm.Cond.superclass "BitingDoors$Shut" "BitingDoors$Turn") ∈ lw_all := lw_g (lw_at lw_m5 24 rfl) rfl
theorem q1361 : (Jvm.Cond.selects "BitingDoors$Shut" ({ cls := "BitingDoors$Turn", name := "goal", desc := "(LBitingDoors$Walker;)I" } : Jvm.MethodName) ({ cls := "BitingDoors$Shut", name := "goal", desc := "(LBitingDoors$Walker;)I" } : Jvm.MethodName)) ∈ lw_all := lw_g (lw_at lw_m6 53 rfl) rfl
theorem q1362 : (Jvm.Cond.instanceMethod ({ cls := "BitingDoors$Shut", name := "goal", desc := "(LBitingDoors$Walker;)I" } : Jvm.MethodName)) ∈ lw_all := lw_g (lw_at lw_m6 54 rfl) rfl
theorem q1363 : (Jvm.Cond.code ({ cls := "BitingDoors$Shut", name := "goal", desc := "(LBitingDoors$Walker;)I" } : Jvm.MethodName) prog_21_method_2_code (2 : Nat) (Option.some Jvm.ClassFile.FieldType.int)) ∈ lw_all := lw_g (lw_at lw_m6 55 rfl) rfl
theorem q1374 : (Jvm.Cond.selects "BitingDoors$Shut" ({ cls := "BitingDoors$Turn", name := "act", desc := "()I" } : Jvm.MethodName) ({ cls := "BitingDoors$Shut", name := "act", desc := "()I" } : Jvm.MethodName)) ∈ lw_all := lw_g (lw_at lw_m6 66 rfl) rfl
theorem q1375 : (Jvm.Cond.instanceMethod ({ cls := "BitingDoors$Shut", name := "act", desc := "()I" } : Jvm.MethodName)) ∈ lw_all := lw_g (lw_at lw_m6 67 rfl) rfl
theorem q1376 : (Jvm.Cond.code ({ cls := "BitingDoors$Shut", name := "act", desc := "()I" } : Jvm.MethodName) prog_21_method_3_code (1 : Nat) (Option.some Jvm.ClassFile.FieldType.int)) ∈ lw_all := lw_g (lw_at lw_m6 68 rfl) rfl
theorem q1382 : (Jvm.Cond.selects "BitingDoors$Shut" ({ cls := "BitingDoors$Act", name := "run", desc := "(LBitingDoors$Walker;)I" } : Jvm.MethodName) ({ cls := "BitingDoors$Turn", name := "run", desc := "(LBitingDoors$Walker;)I" } : Jvm.MethodName)) ∈ lw_all := lw_g (lw_at lw_m6 74 rfl) rfl
theorem q2379 : (Jvm.Cond.castable "BitingDoors$Shut" "java/lang/Object") ∈ lw_tbl := lw_at lw_m10 111 rfl
theorem q2391 : (Jvm.Cond.castable "BitingDoors$Shut" "BitingDoors$Act") ∈ lw_tbl := lw_at lw_m10 123 rfl
theorem in_X17 : ∀ w ∈ wsX170, w ∈ lw_all := lw_in wsX170 [1091] (by decide +kernel) (by decide +kernel)
theorem q138 : (Jvm.Cond.initialized "BitingDoors$Rest") ∈ lw_all := lw_g (lw_at lw_m1 30 rfl) rfl
theorem q1094 : (Jvm.Cond.instantiable "BitingDoors$Rest" (1 : Nat)) ∈ lw_all := lw_g (lw_at lw_m5 26 rfl) rfl
theorem q1096 : (Jvm.Cond.instanceMethod ({ cls := "BitingDoors$Rest", name := "<init>", desc := "(I)V" } : Jvm.MethodName)) ∈ lw_all := lw_g (lw_at lw_m5 28 rfl) rfl
theorem q1097 : (Jvm.Cond.code ({ cls := "BitingDoors$Rest", name := "<init>", desc := "(I)V" } : Jvm.MethodName) prog_19_method_1_code (2 : Nat) (Option.none : Option Jvm.ClassFile.FieldType)) ∈ lw_all := lw_g (lw_at lw_m5 29 rfl) rfl
theorem q1098 : (Jvm.Cond.methodLinkNest "BitingDoors$Rest" (3 : Nat) ({ cls := "BitingDoors$Act", name := "<init>", desc := "()V" } : Jvm.MethodName) "BitingDoors") ∈ lw_tbl := lw_at lw_m5 30 rfl
theorem q1099 : (Jvm.Cond.fieldLink "BitingDoors$Rest" (9 : Nat) "BitingDoors$Rest" "times" "I") ∈ lw_all := lw_g (lw_at lw_m5 31 rfl) rfl
theorem q1100 : (Jvm.Cond.laysFinal "BitingDoors$Rest" "BitingDoors$Rest" "times" "I") ∈ lw_all := lw_g (lw_at lw_m5 32 rfl) rfl
theorem q1101 : (Jvm.Cond.soleField "BitingDoors$Rest" "times") ∈ lw_all := lw_g (lw_at lw_m5 33 rfl) rfl
theorem q1102 : (Jvm.Cond.superclass "BitingDoors$Rest" "BitingDoors$Act") ∈ lw_all := lw_g (lw_at lw_m5 34 rfl) rfl
theorem q1378 : (Jvm.Cond.selects "BitingDoors$Rest" ({ cls := "BitingDoors$Act", name := "run", desc := "(LBitingDoors$Walker;)I" } : Jvm.MethodName) ({ cls := "BitingDoors$Rest", name := "run", desc := "(LBitingDoors$Walker;)I" } : Jvm.MethodName)) ∈ lw_all := lw_g (lw_at lw_m6 70 rfl) rfl
theorem q1379 : (Jvm.Cond.instanceMethod ({ cls := "BitingDoors$Rest", name := "run", desc := "(LBitingDoors$Walker;)I" } : Jvm.MethodName)) ∈ lw_all := lw_g (lw_at lw_m6 71 rfl) rfl
theorem q1380 : (Jvm.Cond.code ({ cls := "BitingDoors$Rest", name := "run", desc := "(LBitingDoors$Walker;)I" } : Jvm.MethodName) prog_19_method_2_code (3 : Nat) (Option.some Jvm.ClassFile.FieldType.int)) ∈ lw_all := lw_g (lw_at lw_m6 72 rfl) rfl
theorem q1381 : (Jvm.Cond.methodLink "BitingDoors$Rest" (15 : Nat) ({ cls := "BitingDoors$Walker", name := "minute", desc := "(I)I" } : Jvm.MethodName)) ∈ lw_all := lw_g (lw_at lw_m6 73 rfl) rfl
theorem q2380 : (Jvm.Cond.castable "BitingDoors$Rest" "java/lang/Object") ∈ lw_tbl := lw_at lw_m10 112 rfl
theorem q2392 : (Jvm.Cond.castable "BitingDoors$Rest" "BitingDoors$Act") ∈ lw_tbl := lw_at lw_m10 124 rfl
theorem in_X18 : ∀ w ∈ wsX180, w ∈ lw_all := lw_in wsX180 [1100] (by decide +kernel) (by decide +kernel)
theorem q139 : (Jvm.Cond.initialized "BitingDoors$Cond") ∈ lw_all := lw_g (lw_at lw_m1 31 rfl) rfl
theorem q1479 : (Jvm.Cond.instanceMethod ({ cls := "BitingDoors$Cond", name := "<init>", desc := "()V" } : Jvm.MethodName)) ∈ lw_all := lw_g (lw_at lw_m6 171 rfl) rfl
theorem q1480 : (Jvm.Cond.code ({ cls := "BitingDoors$Cond", name := "<init>", desc := "()V" } : Jvm.MethodName) prog_7_method_1_code (1 : Nat) (Option.none : Option Jvm.ClassFile.FieldType)) ∈ lw_all := lw_g (lw_at lw_m6 172 rfl) rfl
theorem q1481 : (Jvm.Cond.methodLink "BitingDoors$Cond" (1 : Nat) ({ cls := "java/lang/Object", name := "<init>", desc := "()V" } : Jvm.MethodName)) ∈ lw_all := lw_g (lw_at lw_m6 173 rfl) rfl
theorem q1565 : (Jvm.Cond.declares ({ cls := "BitingDoors$Cond", name := "is", desc := "(LBitingDoors$Walker;I)Z" } : Jvm.MethodName)) ∈ lw_tbl := lw_at lw_m7 17 rfl
theorem q1566 : (Jvm.Cond.sameMethod "BitingDoors$Cond" "BitingDoors$Cond" "is" "(LBitingDoors$Walker;I)Z") ∈ lw_all := lw_g (lw_at lw_m7 18 rfl) rfl
theorem q140 : (Jvm.Cond.initialized "BitingDoors$Not") ∈ lw_all := lw_g (lw_at lw_m1 32 rfl) rfl
theorem q1474 : (Jvm.Cond.instantiable "BitingDoors$Not" (1 : Nat)) ∈ lw_all := lw_g (lw_at lw_m6 166 rfl) rfl
theorem q1476 : (Jvm.Cond.instanceMethod ({ cls := "BitingDoors$Not", name := "<init>", desc := "(LBitingDoors$Cond;)V" } : Jvm.MethodName)) ∈ lw_all := lw_g (lw_at lw_m6 168 rfl) rfl
theorem q1477 : (Jvm.Cond.code ({ cls := "BitingDoors$Not", name := "<init>", desc := "(LBitingDoors$Cond;)V" } : Jvm.MethodName) prog_16_method_1_code (2 : Nat) (Option.none : Option Jvm.ClassFile.FieldType)) ∈ lw_all := lw_g (lw_at lw_m6 169 rfl) rfl
theorem q1478 : (Jvm.Cond.methodLinkNest "BitingDoors$Not" (1 : Nat) ({ cls := "BitingDoors$Cond", name := "<init>", desc := "()V" } : Jvm.MethodName) "BitingDoors") ∈ lw_tbl := lw_at lw_m6 170 rfl
theorem q1482 : (Jvm.Cond.fieldLink "BitingDoors$Not" (7 : Nat) "BitingDoors$Not" "a" "LBitingDoors$Cond;") ∈ lw_all := lw_g (lw_at lw_m6 174 rfl) rfl
theorem q1483 : (Jvm.Cond.laysFinal "BitingDoors$Not" "BitingDoors$Not" "a" "LBitingDoors$Cond;") ∈ lw_all := lw_g (lw_at lw_m6 175 rfl) rfl
theorem q1484 : (Jvm.Cond.soleField "BitingDoors$Not" "a") ∈ lw_all := lw_g (lw_at lw_m6 176 rfl) rfl
theorem q1485 : (Jvm.Cond.superclass "BitingDoors$Not" "BitingDoors$Cond") ∈ lw_all := lw_g (lw_at lw_m6 177 rfl) rfl
theorem q1586 : (Jvm.Cond.instanceMethod ({ cls := "BitingDoors$Not", name := "is", desc := "(LBitingDoors$Walker;I)Z" } : Jvm.MethodName)) ∈ lw_all := lw_g (lw_at lw_m7 38 rfl) rfl
theorem q1587 : (Jvm.Cond.code ({ cls := "BitingDoors$Not", name := "is", desc := "(LBitingDoors$Walker;I)Z" } : Jvm.MethodName) prog_16_method_2_code (3 : Nat) (Option.some Jvm.ClassFile.FieldType.boolean)) ∈ lw_all := lw_g (lw_at lw_m7 39 rfl) rfl
theorem q1588 : (Jvm.Cond.methodLink "BitingDoors$Not" (13 : Nat) ({ cls := "BitingDoors$Cond", name := "is", desc := "(LBitingDoors$Walker;I)Z" } : Jvm.MethodName)) ∈ lw_all := lw_g (lw_at lw_m7 40 rfl) rfl
theorem q1596 : (Jvm.Cond.selects "BitingDoors$Not" ({ cls := "BitingDoors$Cond", name := "is", desc := "(LBitingDoors$Walker;I)Z" } : Jvm.MethodName) ({ cls := "BitingDoors$Not", name := "is", desc := "(LBitingDoors$Walker;I)Z" } : Jvm.MethodName)) ∈ lw_all := lw_g (lw_at lw_m7 48 rfl) rfl
theorem q2381 : (Jvm.Cond.castable "BitingDoors$Not" "java/lang/Object") ∈ lw_tbl := lw_at lw_m10 113 rfl
theorem q2393 : (Jvm.Cond.castable "BitingDoors$Not" "BitingDoors$Cond") ∈ lw_tbl := lw_at lw_m10 125 rfl
theorem in_X20 : ∀ w ∈ wsX200, w ∈ lw_all := lw_in wsX200 [1483] (by decide +kernel) (by decide +kernel)
theorem q141 : (Jvm.Cond.initialized "BitingDoors$Bites") ∈ lw_all := lw_g (lw_at lw_m1 33 rfl) rfl
theorem q321 : (Jvm.Cond.fieldLinkNest "BitingDoors$Bites" (13 : Nat) "BitingDoors$Walker" "house" "LBitingDoors$House;" "BitingDoors") ∈ lw_tbl := lw_at lw_m1 213 rfl
theorem q328 : (Jvm.Cond.fieldLinkNest "BitingDoors$Bites" (19 : Nat) "BitingDoors$Walker" "hanging" "[I" "BitingDoors") ∈ lw_tbl := lw_at lw_m1 220 rfl
theorem q1490 : (Jvm.Cond.instantiable "BitingDoors$Bites" (1 : Nat)) ∈ lw_all := lw_g (lw_at lw_m6 182 rfl) rfl
theorem q1495 : (Jvm.Cond.instanceMethod ({ cls := "BitingDoors$Bites", name := "<init>", desc := "(I)V" } : Jvm.MethodName)) ∈ lw_all := lw_g (lw_at lw_m6 187 rfl) rfl
theorem q1496 : (Jvm.Cond.code ({ cls := "BitingDoors$Bites", name := "<init>", desc := "(I)V" } : Jvm.MethodName) prog_4_method_1_code (2 : Nat) (Option.none : Option Jvm.ClassFile.FieldType)) ∈ lw_all := lw_g (lw_at lw_m6 188 rfl) rfl
theorem q1497 : (Jvm.Cond.methodLinkNest "BitingDoors$Bites" (1 : Nat) ({ cls := "BitingDoors$Cond", name := "<init>", desc := "()V" } : Jvm.MethodName) "BitingDoors") ∈ lw_tbl := lw_at lw_m6 189 rfl
theorem q1498 : (Jvm.Cond.fieldLink "BitingDoors$Bites" (7 : Nat) "BitingDoors$Bites" "other" "I") ∈ lw_all := lw_g (lw_at lw_m6 190 rfl) rfl
theorem q1499 : (Jvm.Cond.laysFinal "BitingDoors$Bites" "BitingDoors$Bites" "other" "I") ∈ lw_all := lw_g (lw_at lw_m6 191 rfl) rfl
theorem q1500 : (Jvm.Cond.soleField "BitingDoors$Bites" "other") ∈ lw_all := lw_g (lw_at lw_m6 192 rfl) rfl
theorem q1501 : (Jvm.Cond.superclass "BitingDoors$Bites" "BitingDoors$Cond") ∈ lw_all := lw_g (lw_at lw_m6 193 rfl) rfl
theorem q1571 : (Jvm.Cond.instanceMethod ({ cls := "BitingDoors$Bites", name := "is", desc := "(LBitingDoors$Walker;I)Z" } : Jvm.MethodName)) ∈ lw_all := lw_g (lw_at lw_m7 23 rfl) rfl
theorem q1572 : (Jvm.Cond.code ({ cls := "BitingDoors$Bites", name := "is", desc := "(LBitingDoors$Walker;I)Z" } : Jvm.MethodName) prog_4_method_2_code (3 : Nat) (Option.some Jvm.ClassFile.FieldType.boolean)) ∈ lw_all := lw_g (lw_at lw_m7 24 rfl) rfl
theorem q1573 : (Jvm.Cond.methodLink "BitingDoors$Bites" (23 : Nat) ({ cls := "BitingDoors$House", name := "bitten", desc := "(III)I" } : Jvm.MethodName)) ∈ lw_all := lw_g (lw_at lw_m7 25 rfl) rfl
theorem q1574 : (Jvm.Cond.methodLinkNest "BitingDoors$Bites" (29 : Nat) ({ cls := "BitingDoors", name := "has", desc := "(II)Z" } : Jvm.MethodName) "BitingDoors") ∈ lw_tbl := lw_at lw_m7 26 rfl
theorem q1593 : (Jvm.Cond.selects "BitingDoors$Bites" ({ cls := "BitingDoors$Cond", name := "is", desc := "(LBitingDoors$Walker;I)Z" } : Jvm.MethodName) ({ cls := "BitingDoors$Bites", name := "is", desc := "(LBitingDoors$Walker;I)Z" } : Jvm.MethodName)) ∈ lw_all := lw_g (lw_at lw_m7 45 rfl) rfl
theorem q2382 : (Jvm.Cond.castable "BitingDoors$Bites" "java/lang/Object") ∈ lw_tbl := lw_at lw_m10 114 rfl
theorem q2394 : (Jvm.Cond.castable "BitingDoors$Bites" "BitingDoors$Cond") ∈ lw_tbl := lw_at lw_m10 126 rfl
theorem in_X21 : ∀ w ∈ wsX210, w ∈ lw_all := lw_in wsX210 [1499] (by decide +kernel) (by decide +kernel)
theorem q142 : (Jvm.Cond.initialized "BitingDoors$Stands") ∈ lw_all := lw_g (lw_at lw_m1 34 rfl) rfl
theorem q275 : (Jvm.Cond.fieldLinkNest "BitingDoors$Stands" (25 : Nat) "BitingDoors$House" "doors" "[LBitingDoors$Door;" "BitingDoors") ∈ lw_tbl := lw_at lw_m1 167 rfl
theorem q322 : (Jvm.Cond.fieldLinkNest "BitingDoors$Stands" (21 : Nat) "BitingDoors$Walker" "house" "LBitingDoors$House;" "BitingDoors") ∈ lw_tbl := lw_at lw_m1 214 rfl
theorem q329 : (Jvm.Cond.fieldLinkNest "BitingDoors$Stands" (31 : Nat) "BitingDoors$Walker" "hanging" "[I" "BitingDoors") ∈ lw_tbl := lw_at lw_m1 221 rfl
theorem q333 : (Jvm.Cond.fieldLinkNest "BitingDoors$Stands" (15 : Nat) "BitingDoors$Walker" "angle" "[I" "BitingDoors") ∈ lw_tbl := lw_at lw_m1 225 rfl
theorem q338 : (Jvm.Cond.fieldLinkNest "BitingDoors$Stands" (40 : Nat) "BitingDoors$Walker" "place" "I" "BitingDoors") ∈ lw_tbl := lw_at lw_m1 230 rfl
theorem q1503 : (Jvm.Cond.instantiable "BitingDoors$Stands" (1 : Nat)) ∈ lw_all := lw_g (lw_at lw_m6 195 rfl) rfl
theorem q1505 : (Jvm.Cond.instanceMethod ({ cls := "BitingDoors$Stands", name := "<init>", desc := "(I)V" } : Jvm.MethodName)) ∈ lw_all := lw_g (lw_at lw_m6 197 rfl) rfl
theorem q1506 : (Jvm.Cond.code ({ cls := "BitingDoors$Stands", name := "<init>", desc := "(I)V" } : Jvm.MethodName) prog_22_method_1_code (2 : Nat) (Option.none : Option Jvm.ClassFile.FieldType)) ∈ lw_all := lw_g (lw_at lw_m6 198 rfl) rfl
theorem q1507 : (Jvm.Cond.methodLinkNest "BitingDoors$Stands" (3 : Nat) ({ cls := "BitingDoors$Cond", name := "<init>", desc := "()V" } : Jvm.MethodName) "BitingDoors") ∈ lw_tbl := lw_at lw_m6 199 rfl
theorem q1508 : (Jvm.Cond.fieldLink "BitingDoors$Stands" (9 : Nat) "BitingDoors$Stands" "what" "I") ∈ lw_all := lw_g (lw_at lw_m6 200 rfl) rfl
theorem q1509 : (Jvm.Cond.laysFinal "BitingDoors$Stands" "BitingDoors$Stands" "what" "I") ∈ lw_all := lw_g (lw_at lw_m6 201 rfl) rfl
theorem q1510 : (Jvm.Cond.soleField "BitingDoors$Stands" "what") ∈ lw_all := lw_g (lw_at lw_m6 202 rfl) rfl
theorem q1511 : (Jvm.Cond.superclass "BitingDoors$Stands" "BitingDoors$Cond") ∈ lw_all := lw_g (lw_at lw_m6 203 rfl) rfl
theorem q1589 : (Jvm.Cond.instanceMethod ({ cls := "BitingDoors$Stands", name := "is", desc := "(LBitingDoors$Walker;I)Z" } : Jvm.MethodName)) ∈ lw_all := lw_g (lw_at lw_m7 41 rfl) rfl
theorem q1590 : (Jvm.Cond.code ({ cls := "BitingDoors$Stands", name := "is", desc := "(LBitingDoors$Walker;I)Z" } : Jvm.MethodName) prog_22_method_2_code (3 : Nat) (Option.some Jvm.ClassFile.FieldType.boolean)) ∈ lw_all := lw_g (lw_at lw_m7 42 rfl) rfl
theorem q1591 : (Jvm.Cond.methodLink "BitingDoors$Stands" (34 : Nat) ({ cls := "BitingDoors$Door", name := "isFit", desc := "(I)Z" } : Jvm.MethodName)) ∈ lw_all := lw_g (lw_at lw_m7 43 rfl) rfl
theorem q1592 : (Jvm.Cond.methodLink "BitingDoors$Stands" (43 : Nat) ({ cls := "BitingDoors$Walker", name := "isAt", desc := "(I)Z" } : Jvm.MethodName)) ∈ lw_all := lw_g (lw_at lw_m7 44 rfl) rfl
theorem q1597 : (Jvm.Cond.selects "BitingDoors$Stands" ({ cls := "BitingDoors$Cond", name := "is", desc := "(LBitingDoors$Walker;I)Z" } : Jvm.MethodName) ({ cls := "BitingDoors$Stands", name := "is", desc := "(LBitingDoors$Walker;I)Z" } : Jvm.MethodName)) ∈ lw_all := lw_g (lw_at lw_m7 49 rfl) rfl
theorem q2383 : (Jvm.Cond.castable "BitingDoors$Stands" "java/lang/Object") ∈ lw_tbl := lw_at lw_m10 115 rfl
theorem q2395 : (Jvm.Cond.castable "BitingDoors$Stands" "BitingDoors$Cond") ∈ lw_tbl := lw_at lw_m10 127 rfl
theorem in_X22 : ∀ w ∈ wsX220, w ∈ lw_all := lw_in wsX220 [1509] (by decide +kernel) (by decide +kernel)
theorem q143 : (Jvm.Cond.initialized "BitingDoors$Counts") ∈ lw_all := lw_g (lw_at lw_m1 35 rfl) rfl
theorem q273 : (Jvm.Cond.fieldLinkNest "BitingDoors$Counts" (25 : Nat) "BitingDoors$House" "doors" "[LBitingDoors$Door;" "BitingDoors") ∈ lw_tbl := lw_at lw_m1 165 rfl
theorem q320 : (Jvm.Cond.fieldLinkNest "BitingDoors$Counts" (19 : Nat) "BitingDoors$Walker" "house" "LBitingDoors$House;" "BitingDoors") ∈ lw_tbl := lw_at lw_m1 212 rfl
theorem q330 : (Jvm.Cond.fieldLinkNest "BitingDoors$Counts" (44 : Nat) "BitingDoors$Walker" "hanging" "[I" "BitingDoors") ∈ lw_tbl := lw_at lw_m1 222 rfl
theorem q334 : (Jvm.Cond.fieldLinkNest "BitingDoors$Counts" (31 : Nat) "BitingDoors$Walker" "angle" "[I" "BitingDoors") ∈ lw_tbl := lw_at lw_m1 226 rfl
theorem q846 : (Jvm.Cond.fieldLinkNest "BitingDoors$Counts" (35 : Nat) "BitingDoors$Door" "length" "I" "BitingDoors") ∈ lw_tbl := lw_at lw_m4 18 rfl
theorem q852 : (Jvm.Cond.fieldLinkNest "BitingDoors$Counts" (40 : Nat) "BitingDoors$Door" "swept" "[LBitingDoors$Cells;" "BitingDoors") ∈ lw_tbl := lw_at lw_m4 24 rfl
theorem q863 : (Jvm.Cond.fieldLinkNest "BitingDoors$Counts" (61 : Nat) "BitingDoors$Door" "costs" "I" "BitingDoors") ∈ lw_tbl := lw_at lw_m4 35 rfl
theorem q938 : (Jvm.Cond.fieldLinkNest "BitingDoors$Counts" (47 : Nat) "BitingDoors$Cells" "many" "I" "BitingDoors") ∈ lw_tbl := lw_at lw_m4 110 rfl
theorem q1517 : (Jvm.Cond.instantiable "BitingDoors$Counts" (3 : Nat)) ∈ lw_all := lw_g (lw_at lw_m6 209 rfl) rfl
theorem q1519 : (Jvm.Cond.instanceMethod ({ cls := "BitingDoors$Counts", name := "<init>", desc := "(III)V" } : Jvm.MethodName)) ∈ lw_all := lw_g (lw_at lw_m6 211 rfl) rfl
theorem q1520 : (Jvm.Cond.code ({ cls := "BitingDoors$Counts", name := "<init>", desc := "(III)V" } : Jvm.MethodName) prog_8_method_1_code (4 : Nat) (Option.none : Option Jvm.ClassFile.FieldType)) ∈ lw_all := lw_g (lw_at lw_m6 212 rfl) rfl
theorem q1521 : (Jvm.Cond.methodLinkNest "BitingDoors$Counts" (1 : Nat) ({ cls := "BitingDoors$Cond", name := "<init>", desc := "()V" } : Jvm.MethodName) "BitingDoors") ∈ lw_tbl := lw_at lw_m6 213 rfl
theorem q1522 : (Jvm.Cond.fieldLink "BitingDoors$Counts" (7 : Nat) "BitingDoors$Counts" "what" "I") ∈ lw_all := lw_g (lw_at lw_m6 214 rfl) rfl
theorem q1523 : (Jvm.Cond.fieldLink "BitingDoors$Counts" (13 : Nat) "BitingDoors$Counts" "sign" "I") ∈ lw_all := lw_g (lw_at lw_m6 215 rfl) rfl
theorem q1524 : (Jvm.Cond.fieldLink "BitingDoors$Counts" (16 : Nat) "BitingDoors$Counts" "number" "I") ∈ lw_all := lw_g (lw_at lw_m6 216 rfl) rfl
theorem q1525 : (Jvm.Cond.laysFinal "BitingDoors$Counts" "BitingDoors$Counts" "what" "I") ∈ lw_all := lw_g (lw_at lw_m6 217 rfl) rfl
theorem q1526 : (Jvm.Cond.soleField "BitingDoors$Counts" "what") ∈ lw_all := lw_g (lw_at lw_m6 218 rfl) rfl
theorem q1527 : (Jvm.Cond.laysFinal "BitingDoors$Counts" "BitingDoors$Counts" "sign" "I") ∈ lw_all := lw_g (lw_at lw_m6 219 rfl) rfl
theorem q1528 : (Jvm.Cond.soleField "BitingDoors$Counts" "sign") ∈ lw_all := lw_g (lw_at lw_m6 220 rfl) rfl
theorem q1529 : (Jvm.Cond.laysFinal "BitingDoors$Counts" "BitingDoors$Counts" "number" "I") ∈ lw_all := lw_g (lw_at lw_m6 221 rfl) rfl
theorem q1530 : (Jvm.Cond.soleField "BitingDoors$Counts" "number") ∈ lw_all := lw_g (lw_at lw_m6 222 rfl) rfl
theorem q1531 : (Jvm.Cond.superclass "BitingDoors$Counts" "BitingDoors$Cond") ∈ lw_all := lw_g (lw_at lw_m6 223 rfl) rfl
theorem q1578 : (Jvm.Cond.instanceMethod ({ cls := "BitingDoors$Counts", name := "is", desc := "(LBitingDoors$Walker;I)Z" } : Jvm.MethodName)) ∈ lw_all := lw_g (lw_at lw_m7 30 rfl) rfl
theorem q1579 : (Jvm.Cond.code ({ cls := "BitingDoors$Counts", name := "is", desc := "(LBitingDoors$Walker;I)Z" } : Jvm.MethodName) prog_8_method_3_code (4 : Nat) (Option.some Jvm.ClassFile.FieldType.boolean)) ∈ lw_all := lw_g (lw_at lw_m7 31 rfl) rfl
theorem q1580 : (Jvm.Cond.methodLink "BitingDoors$Counts" (64 : Nat) ({ cls := "BitingDoors$Counts", name := "of", desc := "(LBitingDoors$Walker;I)I" } : Jvm.MethodName)) ∈ lw_all := lw_g (lw_at lw_m7 32 rfl) rfl
theorem q1581 : (Jvm.Cond.privateMethod ({ cls := "BitingDoors$Counts", name := "of", desc := "(LBitingDoors$Walker;I)I" } : Jvm.MethodName)) ∈ lw_tbl := lw_at lw_m7 33 rfl
theorem q1582 : (Jvm.Cond.instanceMethod ({ cls := "BitingDoors$Counts", name := "of", desc := "(LBitingDoors$Walker;I)I" } : Jvm.MethodName)) ∈ lw_all := lw_g (lw_at lw_m7 34 rfl) rfl
theorem q1583 : (Jvm.Cond.code ({ cls := "BitingDoors$Counts", name := "of", desc := "(LBitingDoors$Walker;I)I" } : Jvm.MethodName) prog_8_method_2_code (4 : Nat) (Option.some Jvm.ClassFile.FieldType.int)) ∈ lw_all := lw_g (lw_at lw_m7 35 rfl) rfl
theorem q1584 : (Jvm.Cond.methodLink "BitingDoors$Counts" (52 : Nat) ({ cls := "BitingDoors$House", name := "domain", desc := "(I)I" } : Jvm.MethodName)) ∈ lw_all := lw_g (lw_at lw_m7 36 rfl) rfl
theorem q1585 : (Jvm.Cond.methodLink "BitingDoors$Counts" (56 : Nat) ({ cls := "java/lang/Integer", name := "bitCount", desc := "(I)I" } : Jvm.MethodName)) ∈ lw_all := lw_g (lw_at lw_m7 37 rfl) rfl
theorem q1595 : (Jvm.Cond.selects "BitingDoors$Counts" ({ cls := "BitingDoors$Cond", name := "is", desc := "(LBitingDoors$Walker;I)Z" } : Jvm.MethodName) ({ cls := "BitingDoors$Counts", name := "is", desc := "(LBitingDoors$Walker;I)Z" } : Jvm.MethodName)) ∈ lw_all := lw_g (lw_at lw_m7 47 rfl) rfl
theorem q2384 : (Jvm.Cond.castable "BitingDoors$Counts" "java/lang/Object") ∈ lw_tbl := lw_at lw_m10 116 rfl
theorem q2396 : (Jvm.Cond.castable "BitingDoors$Counts" "BitingDoors$Cond") ∈ lw_tbl := lw_at lw_m10 128 rfl
theorem in_X23 : ∀ w ∈ wsX230, w ∈ lw_all := lw_in wsX230 [1525, 1527, 1529] (by decide +kernel) (by decide +kernel)
theorem q144 : (Jvm.Cond.initialized "BitingDoors$Both") ∈ lw_all := lw_g (lw_at lw_m1 36 rfl) rfl
theorem q1534 : (Jvm.Cond.instantiable "BitingDoors$Both" (2 : Nat)) ∈ lw_all := lw_g (lw_at lw_m6 226 rfl) rfl
theorem q1536 : (Jvm.Cond.instanceMethod ({ cls := "BitingDoors$Both", name := "<init>", desc := "(LBitingDoors$Cond;LBitingDoors$Cond;)V" } : Jvm.MethodName)) ∈ lw_all := lw_g (lw_at lw_m6 228 rfl) rfl
theorem q1537 : (Jvm.Cond.code ({ cls := "BitingDoors$Both", name := "<init>", desc := "(LBitingDoors$Cond;LBitingDoors$Cond;)V" } : Jvm.MethodName) prog_5_method_1_code (3 : Nat) (Option.none : Option Jvm.ClassFile.FieldType)) ∈ lw_all := lw_g (lw_at lw_m6 229 rfl) rfl
theorem q1538 : (Jvm.Cond.methodLinkNest "BitingDoors$Both" (1 : Nat) ({ cls := "BitingDoors$Cond", name := "<init>", desc := "()V" } : Jvm.MethodName) "BitingDoors") ∈ lw_tbl := lw_at lw_m6 230 rfl
theorem q1539 : (Jvm.Cond.fieldLink "BitingDoors$Both" (7 : Nat) "BitingDoors$Both" "a" "LBitingDoors$Cond;") ∈ lw_all := lw_g (lw_at lw_m6 231 rfl) rfl
theorem q1540 : (Jvm.Cond.fieldLink "BitingDoors$Both" (13 : Nat) "BitingDoors$Both" "b" "LBitingDoors$Cond;") ∈ lw_all := lw_g (lw_at lw_m6 232 rfl) rfl
theorem q1541 : (Jvm.Cond.laysFinal "BitingDoors$Both" "BitingDoors$Both" "a" "LBitingDoors$Cond;") ∈ lw_all := lw_g (lw_at lw_m6 233 rfl) rfl
theorem q1542 : (Jvm.Cond.soleField "BitingDoors$Both" "a") ∈ lw_all := lw_g (lw_at lw_m6 234 rfl) rfl
theorem q1543 : (Jvm.Cond.laysFinal "BitingDoors$Both" "BitingDoors$Both" "b" "LBitingDoors$Cond;") ∈ lw_all := lw_g (lw_at lw_m6 235 rfl) rfl
theorem q1544 : (Jvm.Cond.soleField "BitingDoors$Both" "b") ∈ lw_all := lw_g (lw_at lw_m6 236 rfl) rfl
theorem q1545 : (Jvm.Cond.superclass "BitingDoors$Both" "BitingDoors$Cond") ∈ lw_all := lw_g (lw_at lw_m6 237 rfl) rfl
theorem q1575 : (Jvm.Cond.instanceMethod ({ cls := "BitingDoors$Both", name := "is", desc := "(LBitingDoors$Walker;I)Z" } : Jvm.MethodName)) ∈ lw_all := lw_g (lw_at lw_m7 27 rfl) rfl
theorem q1576 : (Jvm.Cond.code ({ cls := "BitingDoors$Both", name := "is", desc := "(LBitingDoors$Walker;I)Z" } : Jvm.MethodName) prog_5_method_2_code (3 : Nat) (Option.some Jvm.ClassFile.FieldType.boolean)) ∈ lw_all := lw_g (lw_at lw_m7 28 rfl) rfl
theorem q1577 : (Jvm.Cond.methodLink "BitingDoors$Both" (16 : Nat) ({ cls := "BitingDoors$Cond", name := "is", desc := "(LBitingDoors$Walker;I)Z" } : Jvm.MethodName)) ∈ lw_all := lw_g (lw_at lw_m7 29 rfl) rfl
theorem q1594 : (Jvm.Cond.selects "BitingDoors$Both" ({ cls := "BitingDoors$Cond", name := "is", desc := "(LBitingDoors$Walker;I)Z" } : Jvm.MethodName) ({ cls := "BitingDoors$Both", name := "is", desc := "(LBitingDoors$Walker;I)Z" } : Jvm.MethodName)) ∈ lw_all := lw_g (lw_at lw_m7 46 rfl) rfl
theorem q2385 : (Jvm.Cond.castable "BitingDoors$Both" "java/lang/Object") ∈ lw_tbl := lw_at lw_m10 117 rfl
theorem q2397 : (Jvm.Cond.castable "BitingDoors$Both" "BitingDoors$Cond") ∈ lw_tbl := lw_at lw_m10 129 rfl
theorem in_X24 : ∀ w ∈ wsX240, w ∈ lw_all := lw_in wsX240 [1541, 1543] (by decide +kernel) (by decide +kernel)
theorem q145 : (Jvm.Cond.initialized "BitingDoors$Any") ∈ lw_all := lw_g (lw_at lw_m1 37 rfl) rfl
theorem q1548 : (Jvm.Cond.instantiable "BitingDoors$Any" (2 : Nat)) ∈ lw_all := lw_g (lw_at lw_m7 0 rfl) rfl
theorem q1550 : (Jvm.Cond.instanceMethod ({ cls := "BitingDoors$Any", name := "<init>", desc := "(LBitingDoors$Cond;LBitingDoors$Cond;)V" } : Jvm.MethodName)) ∈ lw_all := lw_g (lw_at lw_m7 2 rfl) rfl
theorem q1551 : (Jvm.Cond.code ({ cls := "BitingDoors$Any", name := "<init>", desc := "(LBitingDoors$Cond;LBitingDoors$Cond;)V" } : Jvm.MethodName) prog_3_method_1_code (3 : Nat) (Option.none : Option Jvm.ClassFile.FieldType)) ∈ lw_all := lw_g (lw_at lw_m7 3 rfl) rfl
theorem q1552 : (Jvm.Cond.methodLinkNest "BitingDoors$Any" (1 : Nat) ({ cls := "BitingDoors$Cond", name := "<init>", desc := "()V" } : Jvm.MethodName) "BitingDoors") ∈ lw_tbl := lw_at lw_m7 4 rfl
theorem q1553 : (Jvm.Cond.fieldLink "BitingDoors$Any" (7 : Nat) "BitingDoors$Any" "a" "LBitingDoors$Cond;") ∈ lw_all := lw_g (lw_at lw_m7 5 rfl) rfl
theorem q1554 : (Jvm.Cond.fieldLink "BitingDoors$Any" (13 : Nat) "BitingDoors$Any" "b" "LBitingDoors$Cond;") ∈ lw_all := lw_g (lw_at lw_m7 6 rfl) rfl
theorem q1555 : (Jvm.Cond.laysFinal "BitingDoors$Any" "BitingDoors$Any" "a" "LBitingDoors$Cond;") ∈ lw_all := lw_g (lw_at lw_m7 7 rfl) rfl
theorem q1556 : (Jvm.Cond.soleField "BitingDoors$Any" "a") ∈ lw_all := lw_g (lw_at lw_m7 8 rfl) rfl
theorem q1557 : (Jvm.Cond.laysFinal "BitingDoors$Any" "BitingDoors$Any" "b" "LBitingDoors$Cond;") ∈ lw_all := lw_g (lw_at lw_m7 9 rfl) rfl
theorem q1558 : (Jvm.Cond.soleField "BitingDoors$Any" "b") ∈ lw_all := lw_g (lw_at lw_m7 10 rfl) rfl
theorem q1559 : (Jvm.Cond.superclass "BitingDoors$Any" "BitingDoors$Cond") ∈ lw_all := lw_g (lw_at lw_m7 11 rfl) rfl
theorem q1567 : (Jvm.Cond.selects "BitingDoors$Any" ({ cls := "BitingDoors$Cond", name := "is", desc := "(LBitingDoors$Walker;I)Z" } : Jvm.MethodName) ({ cls := "BitingDoors$Any", name := "is", desc := "(LBitingDoors$Walker;I)Z" } : Jvm.MethodName)) ∈ lw_all := lw_g (lw_at lw_m7 19 rfl) rfl
theorem q1568 : (Jvm.Cond.instanceMethod ({ cls := "BitingDoors$Any", name := "is", desc := "(LBitingDoors$Walker;I)Z" } : Jvm.MethodName)) ∈ lw_all := lw_g (lw_at lw_m7 20 rfl) rfl
theorem q1569 : (Jvm.Cond.code ({ cls := "BitingDoors$Any", name := "is", desc := "(LBitingDoors$Walker;I)Z" } : Jvm.MethodName) prog_3_method_2_code (3 : Nat) (Option.some Jvm.ClassFile.FieldType.boolean)) ∈ lw_all := lw_g (lw_at lw_m7 21 rfl) rfl
theorem q1570 : (Jvm.Cond.methodLink "BitingDoors$Any" (16 : Nat) ({ cls := "BitingDoors$Cond", name := "is", desc := "(LBitingDoors$Walker;I)Z" } : Jvm.MethodName)) ∈ lw_all := lw_g (lw_at lw_m7 22 rfl) rfl
theorem q2386 : (Jvm.Cond.castable "BitingDoors$Any" "java/lang/Object") ∈ lw_tbl := lw_at lw_m10 118 rfl
theorem q2398 : (Jvm.Cond.castable "BitingDoors$Any" "BitingDoors$Cond") ∈ lw_tbl := lw_at lw_m10 130 rfl
theorem in_X25 : ∀ w ∈ wsX250, w ∈ lw_all := lw_in wsX250 [1555, 1557] (by decide +kernel) (by decide +kernel)
theorem q131 : (Jvm.Cond.initialized "java/lang/System") ∈ lw_all := lw_g (lw_at lw_m1 23 rfl) rfl
theorem q1188 : (Jvm.Cond.static ({ cls := "java/lang/System", name := "arraycopy", desc := "(Ljava/lang/Object;ILjava/lang/Object;II)V" } : Jvm.MethodName)) ∈ lw_all := lw_g (lw_at lw_m5 120 rfl) rfl
theorem q1189 : (Jvm.Cond.native ({ cls := "java/lang/System", name := "arraycopy", desc := "(Ljava/lang/Object;ILjava/lang/Object;II)V" } : Jvm.MethodName)) ∈ lw_all := lw_g (lw_at lw_m5 121 rfl) rfl
theorem q222 : (Jvm.Cond.arrayClass Jvm.ClassFile.FieldType.byte) ∈ lw_all := lw_g (lw_at lw_m1 114 rfl) rfl
theorem q224 : (Jvm.Cond.arrayOver (Jvm.ClassFile.FieldType.object "java/lang/String")) ∈ lw_tbl := lw_at lw_m1 116 rfl
theorem q264 : (Jvm.Cond.arrayOver (Jvm.ClassFile.FieldType.object "BitingDoors$Door")) ∈ lw_tbl := lw_at lw_m1 156 rfl
theorem q317 : (Jvm.Cond.arrayClass Jvm.ClassFile.FieldType.int) ∈ lw_all := lw_g (lw_at lw_m1 209 rfl) rfl
theorem q365 : (Jvm.Cond.arrayOver (Jvm.ClassFile.FieldType.object "BitingDoors$Act")) ∈ lw_tbl := lw_at lw_m2 17 rfl
theorem q487 : (Jvm.Cond.arrayClass Jvm.ClassFile.FieldType.boolean) ∈ lw_all := lw_g (lw_at lw_m2 139 rfl) rfl
theorem q488 : (Jvm.Cond.arrayOver (Jvm.ClassFile.FieldType.object "BitingDoors$Walker")) ∈ lw_tbl := lw_at lw_m2 140 rfl
theorem q489 : (Jvm.Cond.arrayOver (Jvm.ClassFile.FieldType.object "BitingDoors$Day")) ∈ lw_tbl := lw_at lw_m2 141 rfl
theorem q491 : (Jvm.Cond.arrayOver (Jvm.ClassFile.FieldType.object "BitingDoors$Cond")) ∈ lw_tbl := lw_at lw_m2 143 rfl
theorem q838 : (Jvm.Cond.arrayOver (Jvm.ClassFile.FieldType.object "BitingDoors$Cells")) ∈ lw_tbl := lw_at lw_m4 10 rfl
theorem q1843 : (Jvm.Cond.arrayClass Jvm.ClassFile.FieldType.long) ∈ lw_all := lw_g (lw_at lw_m8 55 rfl) rfl
