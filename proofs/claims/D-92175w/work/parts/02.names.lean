/-! DECODE ROWS BY BYTES: one lemma an opcode; a method's code is cut into short pieces once, and a row reads its own piece alone. -/
set_option maxRecDepth 100000
/-- the code has just these bytes from pc on -/
def DkAt (code : ByteArray) (pc : Nat) (bs : List UInt8) : Prop := ∀ (j : Nat) (b : UInt8), bs[j]? = some b → code.data.toList[pc + j]? = some b
/-- the piece W has the bytes bs from its place j on -/
def dkIn (W : List UInt8) (j : Nat) (bs : List UInt8) : Bool := decide ((W.drop j).take bs.length = bs)
theorem dk_seg {l W T : List UInt8} {o o2 : Nat} (h : l.drop o = W ++ T) (n : Nat) (hn : W.length = n) (ho : o + n = o2) : l.drop o2 = T := by
  subst ho
  rw [← List.drop_drop, h, List.drop_left' hn]
theorem dk_at {code : ByteArray} {W T bs : List UInt8} {o pc : Nat} (h : code.data.toList.drop o = W ++ T) (j : Nat) (hp : o + j = pc) (hw : dkIn W j bs = true) : DkAt code pc bs := by
  subst hp
  intro i b e
  have h1 := of_decide_eq_true hw
  have h2 : i < bs.length := (List.getElem?_eq_some_iff.mp e).1
  have h3 : W[j + i]? = some b := by
    rw [← h1, List.getElem?_take, if_pos h2, List.getElem?_drop] at e
    exact e
  have h4 : j + i < W.length := (List.getElem?_eq_some_iff.mp h3).1
  have h5 : (code.data.toList.drop o)[j + i]? = some b := by
    rw [h, List.getElem?_append_left h4]
    exact h3
  rw [List.getElem?_drop, ← Nat.add_assoc] at h5
  exact h5
theorem dk_u1 {A : ByteArray} {p : Nat} {b : UInt8} (h : A.data.toList[p]? = some b) : (Reader.u1 : Reader DecodeError Nat) A p = .ok (b.toNat, p + 1) := by
  obtain ⟨h1, h2⟩ := List.getElem?_eq_some_iff.mp h
  have h3 : p < A.size := by simpa using h1
  have h4 : A[p]'h3 = b := h2
  have e : (Reader.u1 : Reader DecodeError Nat) A p = (if h : p < A.size then .ok (A[p].toNat, p + 1) else .error (HasTruncated.truncated p)) := by
    show (do if h : p < A.size then do set (p + 1); Pure.pure A[p].toNat else MonadExcept.throw (HasTruncated.truncated p) : Reader DecodeError Nat) A p = _
    by_cases hi : p < A.size
    · rw [dif_pos hi, dif_pos hi]; rfl
    · rw [dif_neg hi, dif_neg hi]; rfl
  rw [e, dif_pos h3, h4]
theorem dk_bind {α β : Type} {r : Reader DecodeError α} {f : α → Reader DecodeError β} {A : ByteArray} {p s : Nat} {a : α} (h : r A p = .ok (a, s)) : (r >>= f) A p = f a A s := by
  show (do let (a, s) ← r A p; f a A s : Except DecodeError (β × Nat)) = _
  rw [h]
  rfl
theorem dk_map {α β : Type} {r : Reader DecodeError α} {g : α → β} {A : ByteArray} {p s : Nat} {a : α} (h : r A p = .ok (a, s)) : (g <$> r) A p = .ok (g a, s) := by
  show (do let (a, s) ← r A p; .ok (g a, s) : Except DecodeError (β × Nat)) = _
  rw [h]
  rfl
theorem dk_u2 {A : ByteArray} {p : Nat} {a b : UInt8} (h : A.data.toList[p]? = some a) (h2 : A.data.toList[p + 1]? = some b) : (Reader.u2 : Reader DecodeError Nat) A p = .ok (a.toNat * 256 + b.toNat, p + 2) := by
  show (Reader.u1 >>= fun hi => Reader.u1 >>= fun lo => Pure.pure (hi * 256 + lo) : Reader DecodeError Nat) A p = _
  rw [dk_bind (dk_u1 h), dk_bind (dk_u1 h2)]
  rfl
theorem dk_of {code : ByteArray} {pc n : Nat} {i : Instr} (h : Decoder.instr pc code pc = .ok (i, pc + n)) : decode code pc = .ok (i, n) := by
  have e : decode code pc = (match Decoder.instr pc code pc with | .error x => .error x | .ok (j, s) => .ok (j, s - pc)) := by
    show (do let (j, s) ← Decoder.instr pc code pc; Pure.pure (j, s - pc) : Except DecodeError (Instr × Nat)) = _
    cases Decoder.instr pc code pc <;> rfl
  rw [e, h]
  show Except.ok (i, pc + n - pc) = _
  rw [Nat.add_sub_cancel_left]
theorem dk_1 {code : ByteArray} {pc : Nat} (h : DkAt code pc [1]) : decode code pc = .ok (.aconst_null, 1) := dk_of ((dk_bind (dk_u1 (h 0 _ rfl))).trans rfl)
theorem dk_2 {code : ByteArray} {pc : Nat} (h : DkAt code pc [2]) : decode code pc = .ok (.iconst (-1), 1) := dk_of ((dk_bind (dk_u1 (h 0 _ rfl))).trans rfl)
theorem dk_3 {code : ByteArray} {pc : Nat} (h : DkAt code pc [3]) : decode code pc = .ok (.iconst 0, 1) := dk_of ((dk_bind (dk_u1 (h 0 _ rfl))).trans rfl)
theorem dk_4 {code : ByteArray} {pc : Nat} (h : DkAt code pc [4]) : decode code pc = .ok (.iconst 1, 1) := dk_of ((dk_bind (dk_u1 (h 0 _ rfl))).trans rfl)
theorem dk_5 {code : ByteArray} {pc : Nat} (h : DkAt code pc [5]) : decode code pc = .ok (.iconst 2, 1) := dk_of ((dk_bind (dk_u1 (h 0 _ rfl))).trans rfl)
theorem dk_6 {code : ByteArray} {pc : Nat} (h : DkAt code pc [6]) : decode code pc = .ok (.iconst 3, 1) := dk_of ((dk_bind (dk_u1 (h 0 _ rfl))).trans rfl)
theorem dk_7 {code : ByteArray} {pc : Nat} (h : DkAt code pc [7]) : decode code pc = .ok (.iconst 4, 1) := dk_of ((dk_bind (dk_u1 (h 0 _ rfl))).trans rfl)
theorem dk_8 {code : ByteArray} {pc : Nat} (h : DkAt code pc [8]) : decode code pc = .ok (.iconst 5, 1) := dk_of ((dk_bind (dk_u1 (h 0 _ rfl))).trans rfl)
theorem dk_9 {code : ByteArray} {pc : Nat} (h : DkAt code pc [9]) : decode code pc = .ok (.lconst 0, 1) := dk_of ((dk_bind (dk_u1 (h 0 _ rfl))).trans rfl)
theorem dk_10 {code : ByteArray} {pc : Nat} (h : DkAt code pc [10]) : decode code pc = .ok (.lconst 1, 1) := dk_of ((dk_bind (dk_u1 (h 0 _ rfl))).trans rfl)
theorem dk_16 {code : ByteArray} {pc : Nat} (a : UInt8) (h : DkAt code pc [16, a]) : decode code pc = .ok (.bipush (Reader.signed 8 a.toNat), 2) := dk_of ((dk_bind (dk_u1 (h 0 _ rfl))).trans ((dk_bind (dk_map (dk_u1 (h 1 _ rfl)))).trans rfl))
theorem dk_17 {code : ByteArray} {pc : Nat} (a b : UInt8) (h : DkAt code pc [17, a, b]) : decode code pc = .ok (.sipush (Reader.signed 16 (a.toNat * 256 + b.toNat)), 3) := dk_of ((dk_bind (dk_u1 (h 0 _ rfl))).trans ((dk_bind (dk_map (dk_u2 (h 1 _ rfl) (h 2 _ rfl)))).trans rfl))
theorem dk_18 {code : ByteArray} {pc : Nat} (a : UInt8) (h : DkAt code pc [18, a]) : decode code pc = .ok (.ldc a.toNat, 2) := dk_of ((dk_bind (dk_u1 (h 0 _ rfl))).trans ((dk_bind (dk_u1 (h 1 _ rfl))).trans rfl))
theorem dk_19 {code : ByteArray} {pc : Nat} (a b : UInt8) (h : DkAt code pc [19, a, b]) : decode code pc = .ok (.ldc_w (a.toNat * 256 + b.toNat), 3) := dk_of ((dk_bind (dk_u1 (h 0 _ rfl))).trans ((dk_bind (dk_u2 (h 1 _ rfl) (h 2 _ rfl))).trans rfl))
theorem dk_20 {code : ByteArray} {pc : Nat} (a b : UInt8) (h : DkAt code pc [20, a, b]) : decode code pc = .ok (.ldc2_w (a.toNat * 256 + b.toNat), 3) := dk_of ((dk_bind (dk_u1 (h 0 _ rfl))).trans ((dk_bind (dk_u2 (h 1 _ rfl) (h 2 _ rfl))).trans rfl))
theorem dk_21 {code : ByteArray} {pc : Nat} (a : UInt8) (h : DkAt code pc [21, a]) : decode code pc = .ok (.iload a.toNat, 2) := dk_of ((dk_bind (dk_u1 (h 0 _ rfl))).trans ((dk_bind (dk_u1 (h 1 _ rfl))).trans rfl))
theorem dk_22 {code : ByteArray} {pc : Nat} (a : UInt8) (h : DkAt code pc [22, a]) : decode code pc = .ok (.lload a.toNat, 2) := dk_of ((dk_bind (dk_u1 (h 0 _ rfl))).trans ((dk_bind (dk_u1 (h 1 _ rfl))).trans rfl))
theorem dk_25 {code : ByteArray} {pc : Nat} (a : UInt8) (h : DkAt code pc [25, a]) : decode code pc = .ok (.aload a.toNat, 2) := dk_of ((dk_bind (dk_u1 (h 0 _ rfl))).trans ((dk_bind (dk_u1 (h 1 _ rfl))).trans rfl))
theorem dk_26 {code : ByteArray} {pc : Nat} (h : DkAt code pc [26]) : decode code pc = .ok (.iload_n 0, 1) := dk_of ((dk_bind (dk_u1 (h 0 _ rfl))).trans rfl)
theorem dk_27 {code : ByteArray} {pc : Nat} (h : DkAt code pc [27]) : decode code pc = .ok (.iload_n 1, 1) := dk_of ((dk_bind (dk_u1 (h 0 _ rfl))).trans rfl)
theorem dk_28 {code : ByteArray} {pc : Nat} (h : DkAt code pc [28]) : decode code pc = .ok (.iload_n 2, 1) := dk_of ((dk_bind (dk_u1 (h 0 _ rfl))).trans rfl)
theorem dk_29 {code : ByteArray} {pc : Nat} (h : DkAt code pc [29]) : decode code pc = .ok (.iload_n 3, 1) := dk_of ((dk_bind (dk_u1 (h 0 _ rfl))).trans rfl)
theorem dk_30 {code : ByteArray} {pc : Nat} (h : DkAt code pc [30]) : decode code pc = .ok (.lload_n 0, 1) := dk_of ((dk_bind (dk_u1 (h 0 _ rfl))).trans rfl)
theorem dk_31 {code : ByteArray} {pc : Nat} (h : DkAt code pc [31]) : decode code pc = .ok (.lload_n 1, 1) := dk_of ((dk_bind (dk_u1 (h 0 _ rfl))).trans rfl)
theorem dk_32 {code : ByteArray} {pc : Nat} (h : DkAt code pc [32]) : decode code pc = .ok (.lload_n 2, 1) := dk_of ((dk_bind (dk_u1 (h 0 _ rfl))).trans rfl)
theorem dk_33 {code : ByteArray} {pc : Nat} (h : DkAt code pc [33]) : decode code pc = .ok (.lload_n 3, 1) := dk_of ((dk_bind (dk_u1 (h 0 _ rfl))).trans rfl)
theorem dk_42 {code : ByteArray} {pc : Nat} (h : DkAt code pc [42]) : decode code pc = .ok (.aload_n 0, 1) := dk_of ((dk_bind (dk_u1 (h 0 _ rfl))).trans rfl)
theorem dk_43 {code : ByteArray} {pc : Nat} (h : DkAt code pc [43]) : decode code pc = .ok (.aload_n 1, 1) := dk_of ((dk_bind (dk_u1 (h 0 _ rfl))).trans rfl)
theorem dk_44 {code : ByteArray} {pc : Nat} (h : DkAt code pc [44]) : decode code pc = .ok (.aload_n 2, 1) := dk_of ((dk_bind (dk_u1 (h 0 _ rfl))).trans rfl)
theorem dk_45 {code : ByteArray} {pc : Nat} (h : DkAt code pc [45]) : decode code pc = .ok (.aload_n 3, 1) := dk_of ((dk_bind (dk_u1 (h 0 _ rfl))).trans rfl)
theorem dk_46 {code : ByteArray} {pc : Nat} (h : DkAt code pc [46]) : decode code pc = .ok (.iaload, 1) := dk_of ((dk_bind (dk_u1 (h 0 _ rfl))).trans rfl)
theorem dk_50 {code : ByteArray} {pc : Nat} (h : DkAt code pc [50]) : decode code pc = .ok (.aaload, 1) := dk_of ((dk_bind (dk_u1 (h 0 _ rfl))).trans rfl)
theorem dk_51 {code : ByteArray} {pc : Nat} (h : DkAt code pc [51]) : decode code pc = .ok (.baload, 1) := dk_of ((dk_bind (dk_u1 (h 0 _ rfl))).trans rfl)
theorem dk_54 {code : ByteArray} {pc : Nat} (a : UInt8) (h : DkAt code pc [54, a]) : decode code pc = .ok (.istore a.toNat, 2) := dk_of ((dk_bind (dk_u1 (h 0 _ rfl))).trans ((dk_bind (dk_u1 (h 1 _ rfl))).trans rfl))
theorem dk_55 {code : ByteArray} {pc : Nat} (a : UInt8) (h : DkAt code pc [55, a]) : decode code pc = .ok (.lstore a.toNat, 2) := dk_of ((dk_bind (dk_u1 (h 0 _ rfl))).trans ((dk_bind (dk_u1 (h 1 _ rfl))).trans rfl))
theorem dk_58 {code : ByteArray} {pc : Nat} (a : UInt8) (h : DkAt code pc [58, a]) : decode code pc = .ok (.astore a.toNat, 2) := dk_of ((dk_bind (dk_u1 (h 0 _ rfl))).trans ((dk_bind (dk_u1 (h 1 _ rfl))).trans rfl))
theorem dk_59 {code : ByteArray} {pc : Nat} (h : DkAt code pc [59]) : decode code pc = .ok (.istore_n 0, 1) := dk_of ((dk_bind (dk_u1 (h 0 _ rfl))).trans rfl)
theorem dk_60 {code : ByteArray} {pc : Nat} (h : DkAt code pc [60]) : decode code pc = .ok (.istore_n 1, 1) := dk_of ((dk_bind (dk_u1 (h 0 _ rfl))).trans rfl)
theorem dk_61 {code : ByteArray} {pc : Nat} (h : DkAt code pc [61]) : decode code pc = .ok (.istore_n 2, 1) := dk_of ((dk_bind (dk_u1 (h 0 _ rfl))).trans rfl)
theorem dk_62 {code : ByteArray} {pc : Nat} (h : DkAt code pc [62]) : decode code pc = .ok (.istore_n 3, 1) := dk_of ((dk_bind (dk_u1 (h 0 _ rfl))).trans rfl)
theorem dk_65 {code : ByteArray} {pc : Nat} (h : DkAt code pc [65]) : decode code pc = .ok (.lstore_n 2, 1) := dk_of ((dk_bind (dk_u1 (h 0 _ rfl))).trans rfl)
theorem dk_66 {code : ByteArray} {pc : Nat} (h : DkAt code pc [66]) : decode code pc = .ok (.lstore_n 3, 1) := dk_of ((dk_bind (dk_u1 (h 0 _ rfl))).trans rfl)
theorem dk_76 {code : ByteArray} {pc : Nat} (h : DkAt code pc [76]) : decode code pc = .ok (.astore_n 1, 1) := dk_of ((dk_bind (dk_u1 (h 0 _ rfl))).trans rfl)
theorem dk_77 {code : ByteArray} {pc : Nat} (h : DkAt code pc [77]) : decode code pc = .ok (.astore_n 2, 1) := dk_of ((dk_bind (dk_u1 (h 0 _ rfl))).trans rfl)
theorem dk_78 {code : ByteArray} {pc : Nat} (h : DkAt code pc [78]) : decode code pc = .ok (.astore_n 3, 1) := dk_of ((dk_bind (dk_u1 (h 0 _ rfl))).trans rfl)
theorem dk_79 {code : ByteArray} {pc : Nat} (h : DkAt code pc [79]) : decode code pc = .ok (.iastore, 1) := dk_of ((dk_bind (dk_u1 (h 0 _ rfl))).trans rfl)
theorem dk_83 {code : ByteArray} {pc : Nat} (h : DkAt code pc [83]) : decode code pc = .ok (.aastore, 1) := dk_of ((dk_bind (dk_u1 (h 0 _ rfl))).trans rfl)
theorem dk_84 {code : ByteArray} {pc : Nat} (h : DkAt code pc [84]) : decode code pc = .ok (.bastore, 1) := dk_of ((dk_bind (dk_u1 (h 0 _ rfl))).trans rfl)
theorem dk_87 {code : ByteArray} {pc : Nat} (h : DkAt code pc [87]) : decode code pc = .ok (.pop, 1) := dk_of ((dk_bind (dk_u1 (h 0 _ rfl))).trans rfl)
theorem dk_89 {code : ByteArray} {pc : Nat} (h : DkAt code pc [89]) : decode code pc = .ok (.dup, 1) := dk_of ((dk_bind (dk_u1 (h 0 _ rfl))).trans rfl)
theorem dk_92 {code : ByteArray} {pc : Nat} (h : DkAt code pc [92]) : decode code pc = .ok (.dup2, 1) := dk_of ((dk_bind (dk_u1 (h 0 _ rfl))).trans rfl)
theorem dk_96 {code : ByteArray} {pc : Nat} (h : DkAt code pc [96]) : decode code pc = .ok (.iadd, 1) := dk_of ((dk_bind (dk_u1 (h 0 _ rfl))).trans rfl)
theorem dk_97 {code : ByteArray} {pc : Nat} (h : DkAt code pc [97]) : decode code pc = .ok (.ladd, 1) := dk_of ((dk_bind (dk_u1 (h 0 _ rfl))).trans rfl)
theorem dk_100 {code : ByteArray} {pc : Nat} (h : DkAt code pc [100]) : decode code pc = .ok (.isub, 1) := dk_of ((dk_bind (dk_u1 (h 0 _ rfl))).trans rfl)
theorem dk_101 {code : ByteArray} {pc : Nat} (h : DkAt code pc [101]) : decode code pc = .ok (.lsub, 1) := dk_of ((dk_bind (dk_u1 (h 0 _ rfl))).trans rfl)
theorem dk_104 {code : ByteArray} {pc : Nat} (h : DkAt code pc [104]) : decode code pc = .ok (.imul, 1) := dk_of ((dk_bind (dk_u1 (h 0 _ rfl))).trans rfl)
theorem dk_105 {code : ByteArray} {pc : Nat} (h : DkAt code pc [105]) : decode code pc = .ok (.lmul, 1) := dk_of ((dk_bind (dk_u1 (h 0 _ rfl))).trans rfl)
theorem dk_108 {code : ByteArray} {pc : Nat} (h : DkAt code pc [108]) : decode code pc = .ok (.idiv, 1) := dk_of ((dk_bind (dk_u1 (h 0 _ rfl))).trans rfl)
theorem dk_109 {code : ByteArray} {pc : Nat} (h : DkAt code pc [109]) : decode code pc = .ok (.ldiv, 1) := dk_of ((dk_bind (dk_u1 (h 0 _ rfl))).trans rfl)
theorem dk_112 {code : ByteArray} {pc : Nat} (h : DkAt code pc [112]) : decode code pc = .ok (.irem, 1) := dk_of ((dk_bind (dk_u1 (h 0 _ rfl))).trans rfl)
theorem dk_113 {code : ByteArray} {pc : Nat} (h : DkAt code pc [113]) : decode code pc = .ok (.lrem, 1) := dk_of ((dk_bind (dk_u1 (h 0 _ rfl))).trans rfl)
theorem dk_116 {code : ByteArray} {pc : Nat} (h : DkAt code pc [116]) : decode code pc = .ok (.ineg, 1) := dk_of ((dk_bind (dk_u1 (h 0 _ rfl))).trans rfl)
theorem dk_120 {code : ByteArray} {pc : Nat} (h : DkAt code pc [120]) : decode code pc = .ok (.ishl, 1) := dk_of ((dk_bind (dk_u1 (h 0 _ rfl))).trans rfl)
theorem dk_121 {code : ByteArray} {pc : Nat} (h : DkAt code pc [121]) : decode code pc = .ok (.lshl, 1) := dk_of ((dk_bind (dk_u1 (h 0 _ rfl))).trans rfl)
theorem dk_122 {code : ByteArray} {pc : Nat} (h : DkAt code pc [122]) : decode code pc = .ok (.ishr, 1) := dk_of ((dk_bind (dk_u1 (h 0 _ rfl))).trans rfl)
theorem dk_123 {code : ByteArray} {pc : Nat} (h : DkAt code pc [123]) : decode code pc = .ok (.lshr, 1) := dk_of ((dk_bind (dk_u1 (h 0 _ rfl))).trans rfl)
theorem dk_124 {code : ByteArray} {pc : Nat} (h : DkAt code pc [124]) : decode code pc = .ok (.iushr, 1) := dk_of ((dk_bind (dk_u1 (h 0 _ rfl))).trans rfl)
theorem dk_126 {code : ByteArray} {pc : Nat} (h : DkAt code pc [126]) : decode code pc = .ok (.iand, 1) := dk_of ((dk_bind (dk_u1 (h 0 _ rfl))).trans rfl)
theorem dk_127 {code : ByteArray} {pc : Nat} (h : DkAt code pc [127]) : decode code pc = .ok (.land, 1) := dk_of ((dk_bind (dk_u1 (h 0 _ rfl))).trans rfl)
theorem dk_128 {code : ByteArray} {pc : Nat} (h : DkAt code pc [128]) : decode code pc = .ok (.ior, 1) := dk_of ((dk_bind (dk_u1 (h 0 _ rfl))).trans rfl)
theorem dk_129 {code : ByteArray} {pc : Nat} (h : DkAt code pc [129]) : decode code pc = .ok (.lor, 1) := dk_of ((dk_bind (dk_u1 (h 0 _ rfl))).trans rfl)
theorem dk_130 {code : ByteArray} {pc : Nat} (h : DkAt code pc [130]) : decode code pc = .ok (.ixor, 1) := dk_of ((dk_bind (dk_u1 (h 0 _ rfl))).trans rfl)
theorem dk_132 {code : ByteArray} {pc : Nat} (a b : UInt8) (h : DkAt code pc [132, a, b]) : decode code pc = .ok (.iinc a.toNat (Reader.signed 8 b.toNat), 3) := dk_of ((dk_bind (dk_u1 (h 0 _ rfl))).trans ((dk_bind (dk_u1 (h 1 _ rfl))).trans ((dk_bind (dk_map (dk_u1 (h 2 _ rfl)))).trans rfl)))
theorem dk_133 {code : ByteArray} {pc : Nat} (h : DkAt code pc [133]) : decode code pc = .ok (.i2l, 1) := dk_of ((dk_bind (dk_u1 (h 0 _ rfl))).trans rfl)
theorem dk_136 {code : ByteArray} {pc : Nat} (h : DkAt code pc [136]) : decode code pc = .ok (.l2i, 1) := dk_of ((dk_bind (dk_u1 (h 0 _ rfl))).trans rfl)
theorem dk_145 {code : ByteArray} {pc : Nat} (h : DkAt code pc [145]) : decode code pc = .ok (.i2b, 1) := dk_of ((dk_bind (dk_u1 (h 0 _ rfl))).trans rfl)
theorem dk_146 {code : ByteArray} {pc : Nat} (h : DkAt code pc [146]) : decode code pc = .ok (.i2c, 1) := dk_of ((dk_bind (dk_u1 (h 0 _ rfl))).trans rfl)
theorem dk_148 {code : ByteArray} {pc : Nat} (h : DkAt code pc [148]) : decode code pc = .ok (.lcmp, 1) := dk_of ((dk_bind (dk_u1 (h 0 _ rfl))).trans rfl)
theorem dk_153 {code : ByteArray} {pc : Nat} (a b : UInt8) (h : DkAt code pc [153, a, b]) : decode code pc = .ok (.ifCond .eq (Reader.signed 16 (a.toNat * 256 + b.toNat)), 3) := dk_of ((dk_bind (dk_u1 (h 0 _ rfl))).trans ((dk_bind (dk_map (dk_u2 (h 1 _ rfl) (h 2 _ rfl)))).trans rfl))
theorem dk_154 {code : ByteArray} {pc : Nat} (a b : UInt8) (h : DkAt code pc [154, a, b]) : decode code pc = .ok (.ifCond .ne (Reader.signed 16 (a.toNat * 256 + b.toNat)), 3) := dk_of ((dk_bind (dk_u1 (h 0 _ rfl))).trans ((dk_bind (dk_map (dk_u2 (h 1 _ rfl) (h 2 _ rfl)))).trans rfl))
theorem dk_155 {code : ByteArray} {pc : Nat} (a b : UInt8) (h : DkAt code pc [155, a, b]) : decode code pc = .ok (.ifCond .lt (Reader.signed 16 (a.toNat * 256 + b.toNat)), 3) := dk_of ((dk_bind (dk_u1 (h 0 _ rfl))).trans ((dk_bind (dk_map (dk_u2 (h 1 _ rfl) (h 2 _ rfl)))).trans rfl))
theorem dk_156 {code : ByteArray} {pc : Nat} (a b : UInt8) (h : DkAt code pc [156, a, b]) : decode code pc = .ok (.ifCond .ge (Reader.signed 16 (a.toNat * 256 + b.toNat)), 3) := dk_of ((dk_bind (dk_u1 (h 0 _ rfl))).trans ((dk_bind (dk_map (dk_u2 (h 1 _ rfl) (h 2 _ rfl)))).trans rfl))
theorem dk_157 {code : ByteArray} {pc : Nat} (a b : UInt8) (h : DkAt code pc [157, a, b]) : decode code pc = .ok (.ifCond .gt (Reader.signed 16 (a.toNat * 256 + b.toNat)), 3) := dk_of ((dk_bind (dk_u1 (h 0 _ rfl))).trans ((dk_bind (dk_map (dk_u2 (h 1 _ rfl) (h 2 _ rfl)))).trans rfl))
theorem dk_158 {code : ByteArray} {pc : Nat} (a b : UInt8) (h : DkAt code pc [158, a, b]) : decode code pc = .ok (.ifCond .le (Reader.signed 16 (a.toNat * 256 + b.toNat)), 3) := dk_of ((dk_bind (dk_u1 (h 0 _ rfl))).trans ((dk_bind (dk_map (dk_u2 (h 1 _ rfl) (h 2 _ rfl)))).trans rfl))
theorem dk_159 {code : ByteArray} {pc : Nat} (a b : UInt8) (h : DkAt code pc [159, a, b]) : decode code pc = .ok (.if_icmp .eq (Reader.signed 16 (a.toNat * 256 + b.toNat)), 3) := dk_of ((dk_bind (dk_u1 (h 0 _ rfl))).trans ((dk_bind (dk_map (dk_u2 (h 1 _ rfl) (h 2 _ rfl)))).trans rfl))
theorem dk_160 {code : ByteArray} {pc : Nat} (a b : UInt8) (h : DkAt code pc [160, a, b]) : decode code pc = .ok (.if_icmp .ne (Reader.signed 16 (a.toNat * 256 + b.toNat)), 3) := dk_of ((dk_bind (dk_u1 (h 0 _ rfl))).trans ((dk_bind (dk_map (dk_u2 (h 1 _ rfl) (h 2 _ rfl)))).trans rfl))
theorem dk_161 {code : ByteArray} {pc : Nat} (a b : UInt8) (h : DkAt code pc [161, a, b]) : decode code pc = .ok (.if_icmp .lt (Reader.signed 16 (a.toNat * 256 + b.toNat)), 3) := dk_of ((dk_bind (dk_u1 (h 0 _ rfl))).trans ((dk_bind (dk_map (dk_u2 (h 1 _ rfl) (h 2 _ rfl)))).trans rfl))
theorem dk_162 {code : ByteArray} {pc : Nat} (a b : UInt8) (h : DkAt code pc [162, a, b]) : decode code pc = .ok (.if_icmp .ge (Reader.signed 16 (a.toNat * 256 + b.toNat)), 3) := dk_of ((dk_bind (dk_u1 (h 0 _ rfl))).trans ((dk_bind (dk_map (dk_u2 (h 1 _ rfl) (h 2 _ rfl)))).trans rfl))
theorem dk_163 {code : ByteArray} {pc : Nat} (a b : UInt8) (h : DkAt code pc [163, a, b]) : decode code pc = .ok (.if_icmp .gt (Reader.signed 16 (a.toNat * 256 + b.toNat)), 3) := dk_of ((dk_bind (dk_u1 (h 0 _ rfl))).trans ((dk_bind (dk_map (dk_u2 (h 1 _ rfl) (h 2 _ rfl)))).trans rfl))
theorem dk_164 {code : ByteArray} {pc : Nat} (a b : UInt8) (h : DkAt code pc [164, a, b]) : decode code pc = .ok (.if_icmp .le (Reader.signed 16 (a.toNat * 256 + b.toNat)), 3) := dk_of ((dk_bind (dk_u1 (h 0 _ rfl))).trans ((dk_bind (dk_map (dk_u2 (h 1 _ rfl) (h 2 _ rfl)))).trans rfl))
theorem dk_167 {code : ByteArray} {pc : Nat} (a b : UInt8) (h : DkAt code pc [167, a, b]) : decode code pc = .ok (.goto (Reader.signed 16 (a.toNat * 256 + b.toNat)), 3) := dk_of ((dk_bind (dk_u1 (h 0 _ rfl))).trans ((dk_bind (dk_map (dk_u2 (h 1 _ rfl) (h 2 _ rfl)))).trans rfl))
theorem dk_172 {code : ByteArray} {pc : Nat} (h : DkAt code pc [172]) : decode code pc = .ok (.ireturn, 1) := dk_of ((dk_bind (dk_u1 (h 0 _ rfl))).trans rfl)
theorem dk_173 {code : ByteArray} {pc : Nat} (h : DkAt code pc [173]) : decode code pc = .ok (.lreturn, 1) := dk_of ((dk_bind (dk_u1 (h 0 _ rfl))).trans rfl)
theorem dk_176 {code : ByteArray} {pc : Nat} (h : DkAt code pc [176]) : decode code pc = .ok (.areturn, 1) := dk_of ((dk_bind (dk_u1 (h 0 _ rfl))).trans rfl)
theorem dk_177 {code : ByteArray} {pc : Nat} (h : DkAt code pc [177]) : decode code pc = .ok (.return_, 1) := dk_of ((dk_bind (dk_u1 (h 0 _ rfl))).trans rfl)
theorem dk_178 {code : ByteArray} {pc : Nat} (a b : UInt8) (h : DkAt code pc [178, a, b]) : decode code pc = .ok (.getstatic (a.toNat * 256 + b.toNat), 3) := dk_of ((dk_bind (dk_u1 (h 0 _ rfl))).trans ((dk_bind (dk_u2 (h 1 _ rfl) (h 2 _ rfl))).trans rfl))
theorem dk_180 {code : ByteArray} {pc : Nat} (a b : UInt8) (h : DkAt code pc [180, a, b]) : decode code pc = .ok (.getfield (a.toNat * 256 + b.toNat), 3) := dk_of ((dk_bind (dk_u1 (h 0 _ rfl))).trans ((dk_bind (dk_u2 (h 1 _ rfl) (h 2 _ rfl))).trans rfl))
theorem dk_181 {code : ByteArray} {pc : Nat} (a b : UInt8) (h : DkAt code pc [181, a, b]) : decode code pc = .ok (.putfield (a.toNat * 256 + b.toNat), 3) := dk_of ((dk_bind (dk_u1 (h 0 _ rfl))).trans ((dk_bind (dk_u2 (h 1 _ rfl) (h 2 _ rfl))).trans rfl))
theorem dk_182 {code : ByteArray} {pc : Nat} (a b : UInt8) (h : DkAt code pc [182, a, b]) : decode code pc = .ok (.invokevirtual (a.toNat * 256 + b.toNat), 3) := dk_of ((dk_bind (dk_u1 (h 0 _ rfl))).trans ((dk_bind (dk_u2 (h 1 _ rfl) (h 2 _ rfl))).trans rfl))
theorem dk_183 {code : ByteArray} {pc : Nat} (a b : UInt8) (h : DkAt code pc [183, a, b]) : decode code pc = .ok (.invokespecial (a.toNat * 256 + b.toNat), 3) := dk_of ((dk_bind (dk_u1 (h 0 _ rfl))).trans ((dk_bind (dk_u2 (h 1 _ rfl) (h 2 _ rfl))).trans rfl))
theorem dk_184 {code : ByteArray} {pc : Nat} (a b : UInt8) (h : DkAt code pc [184, a, b]) : decode code pc = .ok (.invokestatic (a.toNat * 256 + b.toNat), 3) := dk_of ((dk_bind (dk_u1 (h 0 _ rfl))).trans ((dk_bind (dk_u2 (h 1 _ rfl) (h 2 _ rfl))).trans rfl))
theorem dk_187 {code : ByteArray} {pc : Nat} (a b : UInt8) (h : DkAt code pc [187, a, b]) : decode code pc = .ok (.new (a.toNat * 256 + b.toNat), 3) := dk_of ((dk_bind (dk_u1 (h 0 _ rfl))).trans ((dk_bind (dk_u2 (h 1 _ rfl) (h 2 _ rfl))).trans rfl))
theorem dk_188_4 {code : ByteArray} {pc : Nat} (h : DkAt code pc [188, 4]) : decode code pc = .ok (.newarray .boolean, 2) := dk_of ((dk_bind (dk_u1 (h 0 _ rfl))).trans ((dk_bind (dk_u1 (h 1 _ rfl))).trans rfl))
theorem dk_188_8 {code : ByteArray} {pc : Nat} (h : DkAt code pc [188, 8]) : decode code pc = .ok (.newarray .byte, 2) := dk_of ((dk_bind (dk_u1 (h 0 _ rfl))).trans ((dk_bind (dk_u1 (h 1 _ rfl))).trans rfl))
theorem dk_188_10 {code : ByteArray} {pc : Nat} (h : DkAt code pc [188, 10]) : decode code pc = .ok (.newarray .int, 2) := dk_of ((dk_bind (dk_u1 (h 0 _ rfl))).trans ((dk_bind (dk_u1 (h 1 _ rfl))).trans rfl))
theorem dk_189 {code : ByteArray} {pc : Nat} (a b : UInt8) (h : DkAt code pc [189, a, b]) : decode code pc = .ok (.anewarray (a.toNat * 256 + b.toNat), 3) := dk_of ((dk_bind (dk_u1 (h 0 _ rfl))).trans ((dk_bind (dk_u2 (h 1 _ rfl) (h 2 _ rfl))).trans rfl))
theorem dk_190 {code : ByteArray} {pc : Nat} (h : DkAt code pc [190]) : decode code pc = .ok (.arraylength, 1) := dk_of ((dk_bind (dk_u1 (h 0 _ rfl))).trans rfl)
theorem dk_191 {code : ByteArray} {pc : Nat} (h : DkAt code pc [191]) : decode code pc = .ok (.athrow, 1) := dk_of ((dk_bind (dk_u1 (h 0 _ rfl))).trans rfl)
theorem dk_192 {code : ByteArray} {pc : Nat} (a b : UInt8) (h : DkAt code pc [192, a, b]) : decode code pc = .ok (.checkcast (a.toNat * 256 + b.toNat), 3) := dk_of ((dk_bind (dk_u1 (h 0 _ rfl))).trans ((dk_bind (dk_u2 (h 1 _ rfl) (h 2 _ rfl))).trans rfl))
theorem dk_199 {code : ByteArray} {pc : Nat} (a b : UInt8) (h : DkAt code pc [199, a, b]) : decode code pc = .ok (.ifnonnull (Reader.signed 16 (a.toNat * 256 + b.toNat)), 3) := dk_of ((dk_bind (dk_u1 (h 0 _ rfl))).trans ((dk_bind (dk_map (dk_u2 (h 1 _ rfl) (h 2 _ rfl)))).trans rfl))
/-! java/lang/Math -/
set_option maxRecDepth 100000
def RJ0 : String := "java/lang/Math"
abbrev cJ0_abs : ByteArray := prog_19_method_59_code
def yJ0_abs : MethodName := ⟨RJ0, "abs", "(I)I"⟩
def dkwJ0_abs_0 : List UInt8 := [26, 156, 0, 8, 26, 116, 167, 0, 4, 26, 172]
abbrev dktJ0_abs_0 : List UInt8 := dkwJ0_abs_0 ++ []
theorem dksJ0_abs_0 : cJ0_abs.data.toList.drop 0 = dktJ0_abs_0 := by decide +kernel
theorem dJ0_abs_0 : decode cJ0_abs 0 = .ok (.iload_n 0, 1) := dk_26 (dk_at dksJ0_abs_0 0 rfl rfl)
theorem dJ0_abs_1 : decode cJ0_abs 1 = .ok (.ifCond .ge 8, 3) := dk_156 0 8 (dk_at dksJ0_abs_0 1 rfl rfl)
theorem dJ0_abs_4 : decode cJ0_abs 4 = .ok (.iload_n 0, 1) := dk_26 (dk_at dksJ0_abs_0 4 rfl rfl)
theorem dJ0_abs_5 : decode cJ0_abs 5 = .ok (.ineg, 1) := dk_116 (dk_at dksJ0_abs_0 5 rfl rfl)
theorem dJ0_abs_6 : decode cJ0_abs 6 = .ok (.goto 4, 3) := dk_167 0 4 (dk_at dksJ0_abs_0 6 rfl rfl)
theorem dJ0_abs_9 : decode cJ0_abs 9 = .ok (.iload_n 0, 1) := dk_26 (dk_at dksJ0_abs_0 9 rfl rfl)
theorem dJ0_abs_10 : decode cJ0_abs 10 = .ok (.ireturn, 1) := dk_172 (dk_at dksJ0_abs_0 10 rfl rfl)
abbrev cJ0_max : ByteArray := prog_19_method_65_code
def yJ0_max : MethodName := ⟨RJ0, "max", "(II)I"⟩
def dkwJ0_max_0 : List UInt8 := [26, 27, 161, 0, 7, 26, 167, 0, 4, 27, 172]
abbrev dktJ0_max_0 : List UInt8 := dkwJ0_max_0 ++ []
theorem dksJ0_max_0 : cJ0_max.data.toList.drop 0 = dktJ0_max_0 := by decide +kernel
theorem dJ0_max_0 : decode cJ0_max 0 = .ok (.iload_n 0, 1) := dk_26 (dk_at dksJ0_max_0 0 rfl rfl)
theorem dJ0_max_1 : decode cJ0_max 1 = .ok (.iload_n 1, 1) := dk_27 (dk_at dksJ0_max_0 1 rfl rfl)
theorem dJ0_max_2 : decode cJ0_max 2 = .ok (.if_icmp .lt 7, 3) := dk_161 0 7 (dk_at dksJ0_max_0 2 rfl rfl)
theorem dJ0_max_5 : decode cJ0_max 5 = .ok (.iload_n 0, 1) := dk_26 (dk_at dksJ0_max_0 5 rfl rfl)
theorem dJ0_max_6 : decode cJ0_max 6 = .ok (.goto 4, 3) := dk_167 0 4 (dk_at dksJ0_max_0 6 rfl rfl)
theorem dJ0_max_9 : decode cJ0_max 9 = .ok (.iload_n 1, 1) := dk_27 (dk_at dksJ0_max_0 9 rfl rfl)
theorem dJ0_max_10 : decode cJ0_max 10 = .ok (.ireturn, 1) := dk_172 (dk_at dksJ0_max_0 10 rfl rfl)
abbrev cJ0_min : ByteArray := prog_19_method_69_code
def yJ0_min : MethodName := ⟨RJ0, "min", "(II)I"⟩
def dkwJ0_min_0 : List UInt8 := [26, 27, 163, 0, 7, 26, 167, 0, 4, 27, 172]
abbrev dktJ0_min_0 : List UInt8 := dkwJ0_min_0 ++ []
theorem dksJ0_min_0 : cJ0_min.data.toList.drop 0 = dktJ0_min_0 := by decide +kernel
theorem dJ0_min_0 : decode cJ0_min 0 = .ok (.iload_n 0, 1) := dk_26 (dk_at dksJ0_min_0 0 rfl rfl)
theorem dJ0_min_1 : decode cJ0_min 1 = .ok (.iload_n 1, 1) := dk_27 (dk_at dksJ0_min_0 1 rfl rfl)
theorem dJ0_min_2 : decode cJ0_min 2 = .ok (.if_icmp .gt 7, 3) := dk_163 0 7 (dk_at dksJ0_min_0 2 rfl rfl)
theorem dJ0_min_5 : decode cJ0_min 5 = .ok (.iload_n 0, 1) := dk_26 (dk_at dksJ0_min_0 5 rfl rfl)
theorem dJ0_min_6 : decode cJ0_min 6 = .ok (.goto 4, 3) := dk_167 0 4 (dk_at dksJ0_min_0 6 rfl rfl)
theorem dJ0_min_9 : decode cJ0_min 9 = .ok (.iload_n 1, 1) := dk_27 (dk_at dksJ0_min_0 9 rfl rfl)
theorem dJ0_min_10 : decode cJ0_min 10 = .ok (.ireturn, 1) := dk_172 (dk_at dksJ0_min_0 10 rfl rfl)
theorem q84 : (Jvm.Cond.initialized "java/lang/Math") ∈ lw_all := lw_g (lw_at lw_m1 12 rfl) rfl
theorem q404 : (Jvm.Cond.static ({ cls := "java/lang/Math", name := "abs", desc := "(I)I" } : Jvm.MethodName)) ∈ lw_all := lw_g (lw_at lw_m2 92 rfl) rfl
theorem q405 : (Jvm.Cond.code ({ cls := "java/lang/Math", name := "abs", desc := "(I)I" } : Jvm.MethodName) prog_19_method_59_code (1 : Nat) (Option.some Jvm.ClassFile.FieldType.int)) ∈ lw_all := lw_g (lw_at lw_m2 93 rfl) rfl
theorem q886 : (Jvm.Cond.static ({ cls := "java/lang/Math", name := "max", desc := "(II)I" } : Jvm.MethodName)) ∈ lw_all := lw_g (lw_at lw_m4 94 rfl) rfl
theorem q887 : (Jvm.Cond.code ({ cls := "java/lang/Math", name := "max", desc := "(II)I" } : Jvm.MethodName) prog_19_method_65_code (2 : Nat) (Option.some Jvm.ClassFile.FieldType.int)) ∈ lw_all := lw_g (lw_at lw_m4 95 rfl) rfl
theorem q889 : (Jvm.Cond.static ({ cls := "java/lang/Math", name := "min", desc := "(II)I" } : Jvm.MethodName)) ∈ lw_all := lw_g (lw_at lw_m4 97 rfl) rfl
theorem q890 : (Jvm.Cond.code ({ cls := "java/lang/Math", name := "min", desc := "(II)I" } : Jvm.MethodName) prog_19_method_69_code (2 : Nat) (Option.some Jvm.ClassFile.FieldType.int)) ∈ lw_all := lw_g (lw_at lw_m4 98 rfl) rfl
/-! java/lang/String -/
set_option maxRecDepth 100000
def RJ1 : String := "java/lang/String"
abbrev cJ1_length : ByteArray := prog_20_method_54_code
def yJ1_length : MethodName := ⟨RJ1, "length", "()I"⟩
def dkwJ1_length_0 : List UInt8 := [42, 180, 0, 9, 190, 42, 182, 1, 79, 122, 172]
abbrev dktJ1_length_0 : List UInt8 := dkwJ1_length_0 ++ []
theorem dksJ1_length_0 : cJ1_length.data.toList.drop 0 = dktJ1_length_0 := by decide +kernel
theorem dJ1_length_0 : decode cJ1_length 0 = .ok (.aload_n 0, 1) := dk_42 (dk_at dksJ1_length_0 0 rfl rfl)
theorem dJ1_length_1 : decode cJ1_length 1 = .ok (.getfield 9, 3) := dk_180 0 9 (dk_at dksJ1_length_0 1 rfl rfl)
theorem dJ1_length_4 : decode cJ1_length 4 = .ok (.arraylength, 1) := dk_190 (dk_at dksJ1_length_0 4 rfl rfl)
theorem dJ1_length_5 : decode cJ1_length 5 = .ok (.aload_n 0, 1) := dk_42 (dk_at dksJ1_length_0 5 rfl rfl)
theorem dJ1_length_6 : decode cJ1_length 6 = .ok (.invokevirtual 335, 3) := dk_182 1 79 (dk_at dksJ1_length_0 6 rfl rfl)
theorem dJ1_length_9 : decode cJ1_length 9 = .ok (.ishr, 1) := dk_122 (dk_at dksJ1_length_0 9 rfl rfl)
theorem dJ1_length_10 : decode cJ1_length 10 = .ok (.ireturn, 1) := dk_172 (dk_at dksJ1_length_0 10 rfl rfl)
abbrev cJ1_coder : ByteArray := prog_20_method_152_code
def yJ1_coder : MethodName := ⟨RJ1, "coder", "()B"⟩
def dkwJ1_coder_0 : List UInt8 := [178, 0, 38, 153, 0, 10, 42, 180, 0, 15, 167, 0, 4, 4, 172]
abbrev dktJ1_coder_0 : List UInt8 := dkwJ1_coder_0 ++ []
theorem dksJ1_coder_0 : cJ1_coder.data.toList.drop 0 = dktJ1_coder_0 := by decide +kernel
theorem dJ1_coder_0 : decode cJ1_coder 0 = .ok (.getstatic 38, 3) := dk_178 0 38 (dk_at dksJ1_coder_0 0 rfl rfl)
theorem dJ1_coder_3 : decode cJ1_coder 3 = .ok (.ifCond .eq 10, 3) := dk_153 0 10 (dk_at dksJ1_coder_0 3 rfl rfl)
theorem dJ1_coder_6 : decode cJ1_coder 6 = .ok (.aload_n 0, 1) := dk_42 (dk_at dksJ1_coder_0 6 rfl rfl)
theorem dJ1_coder_7 : decode cJ1_coder 7 = .ok (.getfield 15, 3) := dk_180 0 15 (dk_at dksJ1_coder_0 7 rfl rfl)
theorem dJ1_coder_10 : decode cJ1_coder 10 = .ok (.goto 4, 3) := dk_167 0 4 (dk_at dksJ1_coder_0 10 rfl rfl)
theorem dJ1_coder_13 : decode cJ1_coder 13 = .ok (.iconst 1, 1) := dk_4 (dk_at dksJ1_coder_0 13 rfl rfl)
theorem dJ1_coder_14 : decode cJ1_coder 14 = .ok (.ireturn, 1) := dk_172 (dk_at dksJ1_coder_0 14 rfl rfl)
abbrev cJ1_charAt : ByteArray := prog_20_method_56_code
def yJ1_charAt : MethodName := ⟨RJ1, "charAt", "(I)C"⟩
def dkwJ1_charAt_1 : List UInt8 := [172]
abbrev dktJ1_charAt_1 : List UInt8 := dkwJ1_charAt_1 ++ []
def dkwJ1_charAt_0 : List UInt8 := [42, 182, 1, 236, 153, 0, 12, 42, 180, 0, 9, 27, 184, 1, 239, 172, 42, 180, 0, 9, 27, 184, 1, 242]
abbrev dktJ1_charAt_0 : List UInt8 := dkwJ1_charAt_0 ++ dktJ1_charAt_1
theorem dksJ1_charAt_0 : cJ1_charAt.data.toList.drop 0 = dktJ1_charAt_0 := by decide +kernel
theorem dksJ1_charAt_1 : cJ1_charAt.data.toList.drop 24 = dktJ1_charAt_1 := dk_seg dksJ1_charAt_0 24 rfl rfl
theorem dJ1_charAt_0 : decode cJ1_charAt 0 = .ok (.aload_n 0, 1) := dk_42 (dk_at dksJ1_charAt_0 0 rfl rfl)
theorem dJ1_charAt_1 : decode cJ1_charAt 1 = .ok (.invokevirtual 492, 3) := dk_182 1 236 (dk_at dksJ1_charAt_0 1 rfl rfl)
theorem dJ1_charAt_4 : decode cJ1_charAt 4 = .ok (.ifCond .eq 12, 3) := dk_153 0 12 (dk_at dksJ1_charAt_0 4 rfl rfl)
theorem dJ1_charAt_7 : decode cJ1_charAt 7 = .ok (.aload_n 0, 1) := dk_42 (dk_at dksJ1_charAt_0 7 rfl rfl)
theorem dJ1_charAt_8 : decode cJ1_charAt 8 = .ok (.getfield 9, 3) := dk_180 0 9 (dk_at dksJ1_charAt_0 8 rfl rfl)
theorem dJ1_charAt_11 : decode cJ1_charAt 11 = .ok (.iload_n 1, 1) := dk_27 (dk_at dksJ1_charAt_0 11 rfl rfl)
theorem dJ1_charAt_12 : decode cJ1_charAt 12 = .ok (.invokestatic 495, 3) := dk_184 1 239 (dk_at dksJ1_charAt_0 12 rfl rfl)
theorem dJ1_charAt_15 : decode cJ1_charAt 15 = .ok (.ireturn, 1) := dk_172 (dk_at dksJ1_charAt_0 15 rfl rfl)
theorem dJ1_charAt_16 : decode cJ1_charAt 16 = .ok (.aload_n 0, 1) := dk_42 (dk_at dksJ1_charAt_0 16 rfl rfl)
theorem dJ1_charAt_17 : decode cJ1_charAt 17 = .ok (.getfield 9, 3) := dk_180 0 9 (dk_at dksJ1_charAt_0 17 rfl rfl)
theorem dJ1_charAt_20 : decode cJ1_charAt 20 = .ok (.iload_n 1, 1) := dk_27 (dk_at dksJ1_charAt_0 20 rfl rfl)
theorem dJ1_charAt_21 : decode cJ1_charAt 21 = .ok (.invokestatic 498, 3) := dk_184 1 242 (dk_at dksJ1_charAt_0 21 rfl rfl)
theorem dJ1_charAt_24 : decode cJ1_charAt 24 = .ok (.ireturn, 1) := dk_172 (dk_at dksJ1_charAt_1 0 rfl rfl)
abbrev cJ1_isLatin1 : ByteArray := prog_20_method_154_code
def yJ1_isLatin1 : MethodName := ⟨RJ1, "isLatin1", "()Z"⟩
def dkwJ1_isLatin1_0 : List UInt8 := [178, 0, 38, 153, 0, 14, 42, 180, 0, 15, 154, 0, 7, 4, 167, 0, 4, 3, 172]
abbrev dktJ1_isLatin1_0 : List UInt8 := dkwJ1_isLatin1_0 ++ []
theorem dksJ1_isLatin1_0 : cJ1_isLatin1.data.toList.drop 0 = dktJ1_isLatin1_0 := by decide +kernel
theorem dJ1_isLatin1_0 : decode cJ1_isLatin1 0 = .ok (.getstatic 38, 3) := dk_178 0 38 (dk_at dksJ1_isLatin1_0 0 rfl rfl)
theorem dJ1_isLatin1_3 : decode cJ1_isLatin1 3 = .ok (.ifCond .eq 14, 3) := dk_153 0 14 (dk_at dksJ1_isLatin1_0 3 rfl rfl)
theorem dJ1_isLatin1_6 : decode cJ1_isLatin1 6 = .ok (.aload_n 0, 1) := dk_42 (dk_at dksJ1_isLatin1_0 6 rfl rfl)
theorem dJ1_isLatin1_7 : decode cJ1_isLatin1 7 = .ok (.getfield 15, 3) := dk_180 0 15 (dk_at dksJ1_isLatin1_0 7 rfl rfl)
theorem dJ1_isLatin1_10 : decode cJ1_isLatin1 10 = .ok (.ifCond .ne 7, 3) := dk_154 0 7 (dk_at dksJ1_isLatin1_0 10 rfl rfl)
theorem dJ1_isLatin1_13 : decode cJ1_isLatin1 13 = .ok (.iconst 1, 1) := dk_4 (dk_at dksJ1_isLatin1_0 13 rfl rfl)
theorem dJ1_isLatin1_14 : decode cJ1_isLatin1 14 = .ok (.goto 4, 3) := dk_167 0 4 (dk_at dksJ1_isLatin1_0 14 rfl rfl)
theorem dJ1_isLatin1_17 : decode cJ1_isLatin1 17 = .ok (.iconst 0, 1) := dk_3 (dk_at dksJ1_isLatin1_0 17 rfl rfl)
theorem dJ1_isLatin1_18 : decode cJ1_isLatin1 18 = .ok (.ireturn, 1) := dk_172 (dk_at dksJ1_isLatin1_0 18 rfl rfl)
abbrev cJ1_checkIndex : ByteArray := prog_20_method_155_code
def yJ1_checkIndex : MethodName := ⟨RJ1, "checkIndex", "(II)V"⟩
def dkwJ1_checkIndex_0 : List UInt8 := [26, 27, 178, 4, 29, 184, 4, 35, 87, 177]
abbrev dktJ1_checkIndex_0 : List UInt8 := dkwJ1_checkIndex_0 ++ []
theorem dksJ1_checkIndex_0 : cJ1_checkIndex.data.toList.drop 0 = dktJ1_checkIndex_0 := by decide +kernel
theorem dJ1_checkIndex_0 : decode cJ1_checkIndex 0 = .ok (.iload_n 0, 1) := dk_26 (dk_at dksJ1_checkIndex_0 0 rfl rfl)
theorem dJ1_checkIndex_1 : decode cJ1_checkIndex 1 = .ok (.iload_n 1, 1) := dk_27 (dk_at dksJ1_checkIndex_0 1 rfl rfl)
theorem dJ1_checkIndex_2 : decode cJ1_checkIndex 2 = .ok (.getstatic 1053, 3) := dk_178 4 29 (dk_at dksJ1_checkIndex_0 2 rfl rfl)
theorem dJ1_checkIndex_5 : decode cJ1_checkIndex 5 = .ok (.invokestatic 1059, 3) := dk_184 4 35 (dk_at dksJ1_checkIndex_0 5 rfl rfl)
theorem dJ1_checkIndex_8 : decode cJ1_checkIndex 8 = .ok (.pop, 1) := dk_87 (dk_at dksJ1_checkIndex_0 8 rfl rfl)
theorem dJ1_checkIndex_9 : decode cJ1_checkIndex 9 = .ok (.return_, 1) := dk_177 (dk_at dksJ1_checkIndex_0 9 rfl rfl)
theorem q87 : (Jvm.Cond.initialized "java/lang/String") ∈ lw_all := lw_g (lw_at lw_m1 15 rfl) rfl
theorem q541 : (Jvm.Cond.instanceMethod ({ cls := "java/lang/String", name := "length", desc := "()I" } : Jvm.MethodName)) ∈ lw_all := lw_g (lw_at lw_m2 229 rfl) rfl
theorem q542 : (Jvm.Cond.selects "java/lang/String" ({ cls := "java/lang/String", name := "length", desc := "()I" } : Jvm.MethodName) ({ cls := "java/lang/String", name := "length", desc := "()I" } : Jvm.MethodName)) ∈ lw_all := lw_g (lw_at lw_m2 230 rfl) rfl
theorem q543 : (Jvm.Cond.code ({ cls := "java/lang/String", name := "length", desc := "()I" } : Jvm.MethodName) prog_20_method_54_code (1 : Nat) (Option.some Jvm.ClassFile.FieldType.int)) ∈ lw_all := lw_g (lw_at lw_m2 231 rfl) rfl
theorem q544 : (Jvm.Cond.methodLink "java/lang/String" (335 : Nat) ({ cls := "java/lang/String", name := "coder", desc := "()B" } : Jvm.MethodName)) ∈ lw_all := lw_g (lw_at lw_m2 232 rfl) rfl
theorem q545 : (Jvm.Cond.instanceMethod ({ cls := "java/lang/String", name := "coder", desc := "()B" } : Jvm.MethodName)) ∈ lw_all := lw_g (lw_at lw_m2 233 rfl) rfl
theorem q546 : (Jvm.Cond.selects "java/lang/String" ({ cls := "java/lang/String", name := "coder", desc := "()B" } : Jvm.MethodName) ({ cls := "java/lang/String", name := "coder", desc := "()B" } : Jvm.MethodName)) ∈ lw_all := lw_g (lw_at lw_m2 234 rfl) rfl
theorem q547 : (Jvm.Cond.code ({ cls := "java/lang/String", name := "coder", desc := "()B" } : Jvm.MethodName) prog_20_method_152_code (1 : Nat) (Option.some Jvm.ClassFile.FieldType.byte)) ∈ lw_all := lw_g (lw_at lw_m2 235 rfl) rfl
theorem q548 : (Jvm.Cond.fieldLink "java/lang/String" (38 : Nat) "java/lang/String" "COMPACT_STRINGS" "Z") ∈ lw_all := lw_g (lw_at lw_m2 236 rfl) rfl
theorem q549 : (Jvm.Cond.laysStatic "java/lang/String" "COMPACT_STRINGS" "Z") ∈ lw_tbl := lw_at lw_m2 237 rfl
theorem q551 : (Jvm.Cond.instanceMethod ({ cls := "java/lang/String", name := "charAt", desc := "(I)C" } : Jvm.MethodName)) ∈ lw_all := lw_g (lw_at lw_m2 239 rfl) rfl
theorem q552 : (Jvm.Cond.selects "java/lang/String" ({ cls := "java/lang/String", name := "charAt", desc := "(I)C" } : Jvm.MethodName) ({ cls := "java/lang/String", name := "charAt", desc := "(I)C" } : Jvm.MethodName)) ∈ lw_all := lw_g (lw_at lw_m3 0 rfl) rfl
theorem q553 : (Jvm.Cond.code ({ cls := "java/lang/String", name := "charAt", desc := "(I)C" } : Jvm.MethodName) prog_20_method_56_code (2 : Nat) (Option.some Jvm.ClassFile.FieldType.char)) ∈ lw_all := lw_g (lw_at lw_m3 1 rfl) rfl
theorem q554 : (Jvm.Cond.methodLink "java/lang/String" (492 : Nat) ({ cls := "java/lang/String", name := "isLatin1", desc := "()Z" } : Jvm.MethodName)) ∈ lw_all := lw_g (lw_at lw_m3 2 rfl) rfl
theorem q555 : (Jvm.Cond.instanceMethod ({ cls := "java/lang/String", name := "isLatin1", desc := "()Z" } : Jvm.MethodName)) ∈ lw_all := lw_g (lw_at lw_m3 3 rfl) rfl
theorem q556 : (Jvm.Cond.selects "java/lang/String" ({ cls := "java/lang/String", name := "isLatin1", desc := "()Z" } : Jvm.MethodName) ({ cls := "java/lang/String", name := "isLatin1", desc := "()Z" } : Jvm.MethodName)) ∈ lw_all := lw_g (lw_at lw_m3 4 rfl) rfl
theorem q557 : (Jvm.Cond.code ({ cls := "java/lang/String", name := "isLatin1", desc := "()Z" } : Jvm.MethodName) prog_20_method_154_code (1 : Nat) (Option.some Jvm.ClassFile.FieldType.boolean)) ∈ lw_all := lw_g (lw_at lw_m3 5 rfl) rfl
theorem q558 : (Jvm.Cond.methodLink "java/lang/String" (495 : Nat) ({ cls := "java/lang/StringLatin1", name := "charAt", desc := "([BI)C" } : Jvm.MethodName)) ∈ lw_all := lw_g (lw_at lw_m3 6 rfl) rfl
theorem q562 : (Jvm.Cond.static ({ cls := "java/lang/String", name := "checkIndex", desc := "(II)V" } : Jvm.MethodName)) ∈ lw_all := lw_g (lw_at lw_m3 10 rfl) rfl
theorem q563 : (Jvm.Cond.code ({ cls := "java/lang/String", name := "checkIndex", desc := "(II)V" } : Jvm.MethodName) prog_20_method_155_code (2 : Nat) (Option.none : Option Jvm.ClassFile.FieldType)) ∈ lw_all := lw_g (lw_at lw_m3 11 rfl) rfl
theorem q564 : (Jvm.Cond.fieldLink "java/lang/String" (1053 : Nat) "jdk/internal/util/Preconditions" "SIOOBE_FORMATTER" "Ljava/util/function/BiFunction;") ∈ lw_all := lw_g (lw_at lw_m3 12 rfl) rfl
theorem q566 : (Jvm.Cond.methodLink "java/lang/String" (1059 : Nat) ({ cls := "jdk/internal/util/Preconditions", name := "checkIndex", desc := "(IILjava/util/function/BiFunction;)I" } : Jvm.MethodName)) ∈ lw_all := lw_g (lw_at lw_m3 14 rfl) rfl
theorem q569 : (Jvm.Cond.methodLink "java/lang/String" (498 : Nat) ({ cls := "java/lang/StringUTF16", name := "charAt", desc := "([BI)C" } : Jvm.MethodName)) ∈ lw_all := lw_g (lw_at lw_m3 17 rfl) rfl
theorem q1484 : (Jvm.Cond.fieldLink "java/lang/String" (9 : Nat) "java/lang/String" "value" "[B") ∈ lw_all := lw_g (lw_at lw_m6 212 rfl) rfl
theorem q1485 : (Jvm.Cond.fieldLink "java/lang/String" (15 : Nat) "java/lang/String" "coder" "B") ∈ lw_all := lw_g (lw_at lw_m6 213 rfl) rfl
/-! java/lang/StringLatin1 -/
set_option maxRecDepth 100000
def RJ2 : String := "java/lang/StringLatin1"
abbrev cJ2_charAt : ByteArray := prog_21_method_2_code
def yJ2_charAt : MethodName := ⟨RJ2, "charAt", "([BI)C"⟩
def dkwJ2_charAt_0 : List UInt8 := [27, 42, 190, 184, 0, 9, 42, 27, 51, 17, 0, 255, 126, 146, 172]
abbrev dktJ2_charAt_0 : List UInt8 := dkwJ2_charAt_0 ++ []
theorem dksJ2_charAt_0 : cJ2_charAt.data.toList.drop 0 = dktJ2_charAt_0 := by decide +kernel
theorem dJ2_charAt_0 : decode cJ2_charAt 0 = .ok (.iload_n 1, 1) := dk_27 (dk_at dksJ2_charAt_0 0 rfl rfl)
theorem dJ2_charAt_1 : decode cJ2_charAt 1 = .ok (.aload_n 0, 1) := dk_42 (dk_at dksJ2_charAt_0 1 rfl rfl)
theorem dJ2_charAt_2 : decode cJ2_charAt 2 = .ok (.arraylength, 1) := dk_190 (dk_at dksJ2_charAt_0 2 rfl rfl)
theorem dJ2_charAt_3 : decode cJ2_charAt 3 = .ok (.invokestatic 9, 3) := dk_184 0 9 (dk_at dksJ2_charAt_0 3 rfl rfl)
theorem dJ2_charAt_6 : decode cJ2_charAt 6 = .ok (.aload_n 0, 1) := dk_42 (dk_at dksJ2_charAt_0 6 rfl rfl)
theorem dJ2_charAt_7 : decode cJ2_charAt 7 = .ok (.iload_n 1, 1) := dk_27 (dk_at dksJ2_charAt_0 7 rfl rfl)
theorem dJ2_charAt_8 : decode cJ2_charAt 8 = .ok (.baload, 1) := dk_51 (dk_at dksJ2_charAt_0 8 rfl rfl)
theorem dJ2_charAt_9 : decode cJ2_charAt 9 = .ok (.sipush 255, 3) := dk_17 0 255 (dk_at dksJ2_charAt_0 9 rfl rfl)
theorem dJ2_charAt_12 : decode cJ2_charAt 12 = .ok (.iand, 1) := dk_126 (dk_at dksJ2_charAt_0 12 rfl rfl)
theorem dJ2_charAt_13 : decode cJ2_charAt 13 = .ok (.i2c, 1) := dk_146 (dk_at dksJ2_charAt_0 13 rfl rfl)
theorem dJ2_charAt_14 : decode cJ2_charAt 14 = .ok (.ireturn, 1) := dk_172 (dk_at dksJ2_charAt_0 14 rfl rfl)
theorem q88 : (Jvm.Cond.initialized "java/lang/StringLatin1") ∈ lw_all := lw_g (lw_at lw_m1 16 rfl) rfl
theorem q559 : (Jvm.Cond.static ({ cls := "java/lang/StringLatin1", name := "charAt", desc := "([BI)C" } : Jvm.MethodName)) ∈ lw_all := lw_g (lw_at lw_m3 7 rfl) rfl
theorem q560 : (Jvm.Cond.code ({ cls := "java/lang/StringLatin1", name := "charAt", desc := "([BI)C" } : Jvm.MethodName) prog_21_method_2_code (2 : Nat) (Option.some Jvm.ClassFile.FieldType.char)) ∈ lw_all := lw_g (lw_at lw_m3 8 rfl) rfl
theorem q561 : (Jvm.Cond.methodLink "java/lang/StringLatin1" (9 : Nat) ({ cls := "java/lang/String", name := "checkIndex", desc := "(II)V" } : Jvm.MethodName)) ∈ lw_all := lw_g (lw_at lw_m3 9 rfl) rfl
/-! jdk/internal/util/Preconditions -/
set_option maxRecDepth 100000
def RJ3 : String := "jdk/internal/util/Preconditions"
abbrev cJ3_checkIndex : ByteArray := prog_25_method_11_code
def yJ3_checkIndex : MethodName := ⟨RJ3, "checkIndex", "(IILjava/util/function/BiFunction;)I"⟩
def dkwJ3_checkIndex_0 : List UInt8 := [26, 155, 0, 8, 26, 27, 161, 0, 10, 44, 26, 27, 184, 0, 95, 191, 26, 172]
abbrev dktJ3_checkIndex_0 : List UInt8 := dkwJ3_checkIndex_0 ++ []
theorem dksJ3_checkIndex_0 : cJ3_checkIndex.data.toList.drop 0 = dktJ3_checkIndex_0 := by decide +kernel
theorem dJ3_checkIndex_0 : decode cJ3_checkIndex 0 = .ok (.iload_n 0, 1) := dk_26 (dk_at dksJ3_checkIndex_0 0 rfl rfl)
theorem dJ3_checkIndex_1 : decode cJ3_checkIndex 1 = .ok (.ifCond .lt 8, 3) := dk_155 0 8 (dk_at dksJ3_checkIndex_0 1 rfl rfl)
theorem dJ3_checkIndex_4 : decode cJ3_checkIndex 4 = .ok (.iload_n 0, 1) := dk_26 (dk_at dksJ3_checkIndex_0 4 rfl rfl)
theorem dJ3_checkIndex_5 : decode cJ3_checkIndex 5 = .ok (.iload_n 1, 1) := dk_27 (dk_at dksJ3_checkIndex_0 5 rfl rfl)
theorem dJ3_checkIndex_6 : decode cJ3_checkIndex 6 = .ok (.if_icmp .lt 10, 3) := dk_161 0 10 (dk_at dksJ3_checkIndex_0 6 rfl rfl)
theorem dJ3_checkIndex_9 : decode cJ3_checkIndex 9 = .ok (.aload_n 2, 1) := dk_44 (dk_at dksJ3_checkIndex_0 9 rfl rfl)
theorem dJ3_checkIndex_10 : decode cJ3_checkIndex 10 = .ok (.iload_n 0, 1) := dk_26 (dk_at dksJ3_checkIndex_0 10 rfl rfl)
theorem dJ3_checkIndex_11 : decode cJ3_checkIndex 11 = .ok (.iload_n 1, 1) := dk_27 (dk_at dksJ3_checkIndex_0 11 rfl rfl)
theorem dJ3_checkIndex_12 : decode cJ3_checkIndex 12 = .ok (.invokestatic 95, 3) := dk_184 0 95 (dk_at dksJ3_checkIndex_0 12 rfl rfl)
theorem dJ3_checkIndex_15 : decode cJ3_checkIndex 15 = .ok (.athrow, 1) := dk_191 (dk_at dksJ3_checkIndex_0 15 rfl rfl)
theorem dJ3_checkIndex_16 : decode cJ3_checkIndex 16 = .ok (.iload_n 0, 1) := dk_26 (dk_at dksJ3_checkIndex_0 16 rfl rfl)
theorem dJ3_checkIndex_17 : decode cJ3_checkIndex 17 = .ok (.ireturn, 1) := dk_172 (dk_at dksJ3_checkIndex_0 17 rfl rfl)
theorem q89 : (Jvm.Cond.initialized "jdk/internal/util/Preconditions") ∈ lw_all := lw_g (lw_at lw_m1 17 rfl) rfl
theorem q565 : (Jvm.Cond.laysStatic "jdk/internal/util/Preconditions" "SIOOBE_FORMATTER" "Ljava/util/function/BiFunction;") ∈ lw_tbl := lw_at lw_m3 13 rfl
theorem q567 : (Jvm.Cond.static ({ cls := "jdk/internal/util/Preconditions", name := "checkIndex", desc := "(IILjava/util/function/BiFunction;)I" } : Jvm.MethodName)) ∈ lw_all := lw_g (lw_at lw_m3 15 rfl) rfl
theorem q568 : (Jvm.Cond.code ({ cls := "jdk/internal/util/Preconditions", name := "checkIndex", desc := "(IILjava/util/function/BiFunction;)I" } : Jvm.MethodName) prog_25_method_11_code (3 : Nat) (Option.some Jvm.ClassFile.FieldType.int)) ∈ lw_all := lw_g (lw_at lw_m3 16 rfl) rfl
/-! java/lang/StringUTF16 -/
set_option maxRecDepth 100000
def RJ4 : String := "java/lang/StringUTF16"
abbrev cJ4_charAt : ByteArray := prog_22_method_83_code
def yJ4_charAt : MethodName := ⟨RJ4, "charAt", "([BI)C"⟩
def dkwJ4_charAt_0 : List UInt8 := [27, 42, 184, 0, 67, 42, 27, 184, 0, 71, 172]
abbrev dktJ4_charAt_0 : List UInt8 := dkwJ4_charAt_0 ++ []
theorem dksJ4_charAt_0 : cJ4_charAt.data.toList.drop 0 = dktJ4_charAt_0 := by decide +kernel
theorem dJ4_charAt_0 : decode cJ4_charAt 0 = .ok (.iload_n 1, 1) := dk_27 (dk_at dksJ4_charAt_0 0 rfl rfl)
theorem dJ4_charAt_1 : decode cJ4_charAt 1 = .ok (.aload_n 0, 1) := dk_42 (dk_at dksJ4_charAt_0 1 rfl rfl)
theorem dJ4_charAt_2 : decode cJ4_charAt 2 = .ok (.invokestatic 67, 3) := dk_184 0 67 (dk_at dksJ4_charAt_0 2 rfl rfl)
theorem dJ4_charAt_5 : decode cJ4_charAt 5 = .ok (.aload_n 0, 1) := dk_42 (dk_at dksJ4_charAt_0 5 rfl rfl)
theorem dJ4_charAt_6 : decode cJ4_charAt 6 = .ok (.iload_n 1, 1) := dk_27 (dk_at dksJ4_charAt_0 6 rfl rfl)
theorem dJ4_charAt_7 : decode cJ4_charAt 7 = .ok (.invokestatic 71, 3) := dk_184 0 71 (dk_at dksJ4_charAt_0 7 rfl rfl)
theorem dJ4_charAt_10 : decode cJ4_charAt 10 = .ok (.ireturn, 1) := dk_172 (dk_at dksJ4_charAt_0 10 rfl rfl)
abbrev cJ4_checkIndex : ByteArray := prog_22_method_91_code
def yJ4_checkIndex : MethodName := ⟨RJ4, "checkIndex", "(I[B)V"⟩
def dkwJ4_checkIndex_0 : List UInt8 := [26, 43, 184, 0, 48, 184, 1, 158, 177]
abbrev dktJ4_checkIndex_0 : List UInt8 := dkwJ4_checkIndex_0 ++ []
theorem dksJ4_checkIndex_0 : cJ4_checkIndex.data.toList.drop 0 = dktJ4_checkIndex_0 := by decide +kernel
theorem dJ4_checkIndex_0 : decode cJ4_checkIndex 0 = .ok (.iload_n 0, 1) := dk_26 (dk_at dksJ4_checkIndex_0 0 rfl rfl)
theorem dJ4_checkIndex_1 : decode cJ4_checkIndex 1 = .ok (.aload_n 1, 1) := dk_43 (dk_at dksJ4_checkIndex_0 1 rfl rfl)
theorem dJ4_checkIndex_2 : decode cJ4_checkIndex 2 = .ok (.invokestatic 48, 3) := dk_184 0 48 (dk_at dksJ4_checkIndex_0 2 rfl rfl)
theorem dJ4_checkIndex_5 : decode cJ4_checkIndex 5 = .ok (.invokestatic 414, 3) := dk_184 1 158 (dk_at dksJ4_checkIndex_0 5 rfl rfl)
theorem dJ4_checkIndex_8 : decode cJ4_checkIndex 8 = .ok (.return_, 1) := dk_177 (dk_at dksJ4_checkIndex_0 8 rfl rfl)
abbrev cJ4_length : ByteArray := prog_22_method_6_code
def yJ4_length : MethodName := ⟨RJ4, "length", "([B)I"⟩
def dkwJ4_length_0 : List UInt8 := [42, 190, 4, 122, 172]
abbrev dktJ4_length_0 : List UInt8 := dkwJ4_length_0 ++ []
theorem dksJ4_length_0 : cJ4_length.data.toList.drop 0 = dktJ4_length_0 := by decide +kernel
theorem dJ4_length_0 : decode cJ4_length 0 = .ok (.aload_n 0, 1) := dk_42 (dk_at dksJ4_length_0 0 rfl rfl)
theorem dJ4_length_1 : decode cJ4_length 1 = .ok (.arraylength, 1) := dk_190 (dk_at dksJ4_length_0 1 rfl rfl)
theorem dJ4_length_2 : decode cJ4_length 2 = .ok (.iconst 1, 1) := dk_4 (dk_at dksJ4_length_0 2 rfl rfl)
theorem dJ4_length_3 : decode cJ4_length 3 = .ok (.ishr, 1) := dk_122 (dk_at dksJ4_length_0 3 rfl rfl)
theorem dJ4_length_4 : decode cJ4_length 4 = .ok (.ireturn, 1) := dk_172 (dk_at dksJ4_length_0 4 rfl rfl)
abbrev cJ4_getChar : ByteArray := prog_22_method_5_code
def yJ4_getChar : MethodName := ⟨RJ4, "getChar", "([BI)C"⟩
def dkwJ4_getChar_2 : List UInt8 := [51, 17, 0, 255, 126, 178, 0, 63, 120, 128, 146, 172]
abbrev dktJ4_getChar_2 : List UInt8 := dkwJ4_getChar_2 ++ []
def dkwJ4_getChar_1 : List UInt8 := [183, 0, 56, 191, 27, 4, 120, 60, 42, 27, 132, 1, 1, 51, 17, 0, 255, 126, 178, 0, 59, 120, 42, 27]
abbrev dktJ4_getChar_1 : List UInt8 := dkwJ4_getChar_1 ++ dktJ4_getChar_2
def dkwJ4_getChar_0 : List UInt8 := [178, 0, 44, 154, 0, 25, 27, 155, 0, 11, 27, 42, 184, 0, 48, 161, 0, 13, 187, 0, 52, 89, 18, 54]
abbrev dktJ4_getChar_0 : List UInt8 := dkwJ4_getChar_0 ++ dktJ4_getChar_1
theorem dksJ4_getChar_0 : cJ4_getChar.data.toList.drop 0 = dktJ4_getChar_0 := by decide +kernel
theorem dksJ4_getChar_1 : cJ4_getChar.data.toList.drop 24 = dktJ4_getChar_1 := dk_seg dksJ4_getChar_0 24 rfl rfl
theorem dksJ4_getChar_2 : cJ4_getChar.data.toList.drop 48 = dktJ4_getChar_2 := dk_seg dksJ4_getChar_1 24 rfl rfl
theorem dJ4_getChar_0 : decode cJ4_getChar 0 = .ok (.getstatic 44, 3) := dk_178 0 44 (dk_at dksJ4_getChar_0 0 rfl rfl)
theorem dJ4_getChar_3 : decode cJ4_getChar 3 = .ok (.ifCond .ne 25, 3) := dk_154 0 25 (dk_at dksJ4_getChar_0 3 rfl rfl)
theorem dJ4_getChar_6 : decode cJ4_getChar 6 = .ok (.iload_n 1, 1) := dk_27 (dk_at dksJ4_getChar_0 6 rfl rfl)
theorem dJ4_getChar_7 : decode cJ4_getChar 7 = .ok (.ifCond .lt 11, 3) := dk_155 0 11 (dk_at dksJ4_getChar_0 7 rfl rfl)
theorem dJ4_getChar_10 : decode cJ4_getChar 10 = .ok (.iload_n 1, 1) := dk_27 (dk_at dksJ4_getChar_0 10 rfl rfl)
theorem dJ4_getChar_11 : decode cJ4_getChar 11 = .ok (.aload_n 0, 1) := dk_42 (dk_at dksJ4_getChar_0 11 rfl rfl)
theorem dJ4_getChar_12 : decode cJ4_getChar 12 = .ok (.invokestatic 48, 3) := dk_184 0 48 (dk_at dksJ4_getChar_0 12 rfl rfl)
theorem dJ4_getChar_15 : decode cJ4_getChar 15 = .ok (.if_icmp .lt 13, 3) := dk_161 0 13 (dk_at dksJ4_getChar_0 15 rfl rfl)
theorem dJ4_getChar_18 : decode cJ4_getChar 18 = .ok (.new 52, 3) := dk_187 0 52 (dk_at dksJ4_getChar_0 18 rfl rfl)
theorem dJ4_getChar_21 : decode cJ4_getChar 21 = .ok (.dup, 1) := dk_89 (dk_at dksJ4_getChar_0 21 rfl rfl)
theorem dJ4_getChar_22 : decode cJ4_getChar 22 = .ok (.ldc 54, 2) := dk_18 54 (dk_at dksJ4_getChar_0 22 rfl rfl)
theorem dJ4_getChar_24 : decode cJ4_getChar 24 = .ok (.invokespecial 56, 3) := dk_183 0 56 (dk_at dksJ4_getChar_1 0 rfl rfl)
theorem dJ4_getChar_27 : decode cJ4_getChar 27 = .ok (.athrow, 1) := dk_191 (dk_at dksJ4_getChar_1 3 rfl rfl)
theorem dJ4_getChar_28 : decode cJ4_getChar 28 = .ok (.iload_n 1, 1) := dk_27 (dk_at dksJ4_getChar_1 4 rfl rfl)
theorem dJ4_getChar_29 : decode cJ4_getChar 29 = .ok (.iconst 1, 1) := dk_4 (dk_at dksJ4_getChar_1 5 rfl rfl)
theorem dJ4_getChar_30 : decode cJ4_getChar 30 = .ok (.ishl, 1) := dk_120 (dk_at dksJ4_getChar_1 6 rfl rfl)
theorem dJ4_getChar_31 : decode cJ4_getChar 31 = .ok (.istore_n 1, 1) := dk_60 (dk_at dksJ4_getChar_1 7 rfl rfl)
theorem dJ4_getChar_32 : decode cJ4_getChar 32 = .ok (.aload_n 0, 1) := dk_42 (dk_at dksJ4_getChar_1 8 rfl rfl)
theorem dJ4_getChar_33 : decode cJ4_getChar 33 = .ok (.iload_n 1, 1) := dk_27 (dk_at dksJ4_getChar_1 9 rfl rfl)
theorem dJ4_getChar_34 : decode cJ4_getChar 34 = .ok (.iinc 1 1, 3) := dk_132 1 1 (dk_at dksJ4_getChar_1 10 rfl rfl)
theorem dJ4_getChar_37 : decode cJ4_getChar 37 = .ok (.baload, 1) := dk_51 (dk_at dksJ4_getChar_1 13 rfl rfl)
theorem dJ4_getChar_38 : decode cJ4_getChar 38 = .ok (.sipush 255, 3) := dk_17 0 255 (dk_at dksJ4_getChar_1 14 rfl rfl)
theorem dJ4_getChar_41 : decode cJ4_getChar 41 = .ok (.iand, 1) := dk_126 (dk_at dksJ4_getChar_1 17 rfl rfl)
theorem dJ4_getChar_42 : decode cJ4_getChar 42 = .ok (.getstatic 59, 3) := dk_178 0 59 (dk_at dksJ4_getChar_1 18 rfl rfl)
theorem dJ4_getChar_45 : decode cJ4_getChar 45 = .ok (.ishl, 1) := dk_120 (dk_at dksJ4_getChar_1 21 rfl rfl)
theorem dJ4_getChar_46 : decode cJ4_getChar 46 = .ok (.aload_n 0, 1) := dk_42 (dk_at dksJ4_getChar_1 22 rfl rfl)
theorem dJ4_getChar_47 : decode cJ4_getChar 47 = .ok (.iload_n 1, 1) := dk_27 (dk_at dksJ4_getChar_1 23 rfl rfl)
theorem dJ4_getChar_48 : decode cJ4_getChar 48 = .ok (.baload, 1) := dk_51 (dk_at dksJ4_getChar_2 0 rfl rfl)
theorem dJ4_getChar_49 : decode cJ4_getChar 49 = .ok (.sipush 255, 3) := dk_17 0 255 (dk_at dksJ4_getChar_2 1 rfl rfl)
theorem dJ4_getChar_52 : decode cJ4_getChar 52 = .ok (.iand, 1) := dk_126 (dk_at dksJ4_getChar_2 4 rfl rfl)
theorem dJ4_getChar_53 : decode cJ4_getChar 53 = .ok (.getstatic 63, 3) := dk_178 0 63 (dk_at dksJ4_getChar_2 5 rfl rfl)
theorem dJ4_getChar_56 : decode cJ4_getChar 56 = .ok (.ishl, 1) := dk_120 (dk_at dksJ4_getChar_2 8 rfl rfl)
theorem dJ4_getChar_57 : decode cJ4_getChar 57 = .ok (.ior, 1) := dk_128 (dk_at dksJ4_getChar_2 9 rfl rfl)
theorem dJ4_getChar_58 : decode cJ4_getChar 58 = .ok (.i2c, 1) := dk_146 (dk_at dksJ4_getChar_2 10 rfl rfl)
theorem dJ4_getChar_59 : decode cJ4_getChar 59 = .ok (.ireturn, 1) := dk_172 (dk_at dksJ4_getChar_2 11 rfl rfl)
theorem q90 : (Jvm.Cond.initialized "java/lang/StringUTF16") ∈ lw_all := lw_g (lw_at lw_m1 18 rfl) rfl
theorem q570 : (Jvm.Cond.static ({ cls := "java/lang/StringUTF16", name := "charAt", desc := "([BI)C" } : Jvm.MethodName)) ∈ lw_all := lw_g (lw_at lw_m3 18 rfl) rfl
theorem q571 : (Jvm.Cond.code ({ cls := "java/lang/StringUTF16", name := "charAt", desc := "([BI)C" } : Jvm.MethodName) prog_22_method_83_code (2 : Nat) (Option.some Jvm.ClassFile.FieldType.char)) ∈ lw_all := lw_g (lw_at lw_m3 19 rfl) rfl
theorem q572 : (Jvm.Cond.methodLink "java/lang/StringUTF16" (67 : Nat) ({ cls := "java/lang/StringUTF16", name := "checkIndex", desc := "(I[B)V" } : Jvm.MethodName)) ∈ lw_all := lw_g (lw_at lw_m3 20 rfl) rfl
theorem q573 : (Jvm.Cond.static ({ cls := "java/lang/StringUTF16", name := "checkIndex", desc := "(I[B)V" } : Jvm.MethodName)) ∈ lw_all := lw_g (lw_at lw_m3 21 rfl) rfl
theorem q574 : (Jvm.Cond.code ({ cls := "java/lang/StringUTF16", name := "checkIndex", desc := "(I[B)V" } : Jvm.MethodName) prog_22_method_91_code (2 : Nat) (Option.none : Option Jvm.ClassFile.FieldType)) ∈ lw_all := lw_g (lw_at lw_m3 22 rfl) rfl
theorem q575 : (Jvm.Cond.methodLink "java/lang/StringUTF16" (48 : Nat) ({ cls := "java/lang/StringUTF16", name := "length", desc := "([B)I" } : Jvm.MethodName)) ∈ lw_all := lw_g (lw_at lw_m3 23 rfl) rfl
theorem q576 : (Jvm.Cond.static ({ cls := "java/lang/StringUTF16", name := "length", desc := "([B)I" } : Jvm.MethodName)) ∈ lw_all := lw_g (lw_at lw_m3 24 rfl) rfl
theorem q577 : (Jvm.Cond.code ({ cls := "java/lang/StringUTF16", name := "length", desc := "([B)I" } : Jvm.MethodName) prog_22_method_6_code (1 : Nat) (Option.some Jvm.ClassFile.FieldType.int)) ∈ lw_all := lw_g (lw_at lw_m3 25 rfl) rfl
theorem q578 : (Jvm.Cond.methodLink "java/lang/StringUTF16" (414 : Nat) ({ cls := "java/lang/String", name := "checkIndex", desc := "(II)V" } : Jvm.MethodName)) ∈ lw_all := lw_g (lw_at lw_m3 26 rfl) rfl
theorem q579 : (Jvm.Cond.methodLink "java/lang/StringUTF16" (71 : Nat) ({ cls := "java/lang/StringUTF16", name := "getChar", desc := "([BI)C" } : Jvm.MethodName)) ∈ lw_all := lw_g (lw_at lw_m3 27 rfl) rfl
theorem q580 : (Jvm.Cond.static ({ cls := "java/lang/StringUTF16", name := "getChar", desc := "([BI)C" } : Jvm.MethodName)) ∈ lw_all := lw_g (lw_at lw_m3 28 rfl) rfl
theorem q581 : (Jvm.Cond.code ({ cls := "java/lang/StringUTF16", name := "getChar", desc := "([BI)C" } : Jvm.MethodName) prog_22_method_5_code (2 : Nat) (Option.some Jvm.ClassFile.FieldType.char)) ∈ lw_all := lw_g (lw_at lw_m3 29 rfl) rfl
theorem q582 : (Jvm.Cond.fieldLink "java/lang/StringUTF16" (44 : Nat) "java/lang/StringUTF16" "$assertionsDisabled" "Z") ∈ lw_all := lw_g (lw_at lw_m3 30 rfl) rfl
theorem q583 : (Jvm.Cond.laysStatic "java/lang/StringUTF16" "$assertionsDisabled" "Z") ∈ lw_tbl := lw_at lw_m3 31 rfl
theorem q584 : (Jvm.Cond.fieldLink "java/lang/StringUTF16" (59 : Nat) "java/lang/StringUTF16" "HI_BYTE_SHIFT" "I") ∈ lw_all := lw_g (lw_at lw_m3 32 rfl) rfl
theorem q585 : (Jvm.Cond.laysStatic "java/lang/StringUTF16" "HI_BYTE_SHIFT" "I") ∈ lw_tbl := lw_at lw_m3 33 rfl
theorem q586 : (Jvm.Cond.fieldLink "java/lang/StringUTF16" (63 : Nat) "java/lang/StringUTF16" "LO_BYTE_SHIFT" "I") ∈ lw_all := lw_g (lw_at lw_m3 34 rfl) rfl
theorem q587 : (Jvm.Cond.laysStatic "java/lang/StringUTF16" "LO_BYTE_SHIFT" "I") ∈ lw_tbl := lw_at lw_m3 35 rfl
/-! java/lang/Throwable -/
set_option maxRecDepth 100000
def RJ5 : String := "java/lang/Throwable"
def TJ5 : u_T := fun k => match k with
  | 0 => ("java/lang/Throwable", "cause", "Ljava/lang/Throwable;", false)
  | 1 => ("java/lang/Throwable", "stackTrace", "[Ljava/lang/StackTraceElement;", false)
  | 2 => ("java/lang/Throwable", "suppressedExceptions", "Ljava/util/List;", false)
  | 3 => ("java/lang/Throwable", "detailMessage", "Ljava/lang/String;", false)
  | _ => ("java/lang/Throwable", "backtrace", "Ljava/lang/Object;", false)
def tyJ5 : Nat → FieldType := fun k => match k with
  | 0 => .object "java/lang/Throwable"
  | 1 => .array (.object "java/lang/StackTraceElement")
  | 2 => .object "java/util/List"
  | 3 => .object "java/lang/String"
  | _ => .object "java/lang/Object"
abbrev wsJ50 : List Cond := u_ws RJ5 TJ5 5
theorem nmJ5 : ∀ a, a < 5 → ∀ b, b < 5 → a ≠ b → (TJ5 a).2.1 ≠ (TJ5 b).2.1 := by decide +kernel
theorem tyJ5_ok : ∀ k, k < 5 → parseFieldDescriptor (TJ5 k).2.2.1 = some (tyJ5 k) := by decide +kernel
abbrev cJ5_init : ByteArray := prog_24_method_1_code
def yJ5_init : MethodName := ⟨RJ5, "<init>", "()V"⟩
def dkwJ5_init_1 : List UInt8 := [182, 0, 27, 87, 177]
abbrev dktJ5_init_1 : List UInt8 := dkwJ5_init_1 ++ []
def dkwJ5_init_0 : List UInt8 := [42, 183, 0, 1, 42, 42, 181, 0, 7, 42, 178, 0, 13, 181, 0, 17, 42, 178, 0, 20, 181, 0, 24, 42]
abbrev dktJ5_init_0 : List UInt8 := dkwJ5_init_0 ++ dktJ5_init_1
theorem dksJ5_init_0 : cJ5_init.data.toList.drop 0 = dktJ5_init_0 := by decide +kernel
theorem dksJ5_init_1 : cJ5_init.data.toList.drop 24 = dktJ5_init_1 := dk_seg dksJ5_init_0 24 rfl rfl
theorem dJ5_init_0 : decode cJ5_init 0 = .ok (.aload_n 0, 1) := dk_42 (dk_at dksJ5_init_0 0 rfl rfl)
theorem dJ5_init_1 : decode cJ5_init 1 = .ok (.invokespecial 1, 3) := dk_183 0 1 (dk_at dksJ5_init_0 1 rfl rfl)
theorem dJ5_init_4 : decode cJ5_init 4 = .ok (.aload_n 0, 1) := dk_42 (dk_at dksJ5_init_0 4 rfl rfl)
theorem dJ5_init_5 : decode cJ5_init 5 = .ok (.aload_n 0, 1) := dk_42 (dk_at dksJ5_init_0 5 rfl rfl)
theorem dJ5_init_6 : decode cJ5_init 6 = .ok (.putfield 7, 3) := dk_181 0 7 (dk_at dksJ5_init_0 6 rfl rfl)
theorem dJ5_init_9 : decode cJ5_init 9 = .ok (.aload_n 0, 1) := dk_42 (dk_at dksJ5_init_0 9 rfl rfl)
theorem dJ5_init_10 : decode cJ5_init 10 = .ok (.getstatic 13, 3) := dk_178 0 13 (dk_at dksJ5_init_0 10 rfl rfl)
theorem dJ5_init_13 : decode cJ5_init 13 = .ok (.putfield 17, 3) := dk_181 0 17 (dk_at dksJ5_init_0 13 rfl rfl)
theorem dJ5_init_16 : decode cJ5_init 16 = .ok (.aload_n 0, 1) := dk_42 (dk_at dksJ5_init_0 16 rfl rfl)
theorem dJ5_init_17 : decode cJ5_init 17 = .ok (.getstatic 20, 3) := dk_178 0 20 (dk_at dksJ5_init_0 17 rfl rfl)
theorem dJ5_init_20 : decode cJ5_init 20 = .ok (.putfield 24, 3) := dk_181 0 24 (dk_at dksJ5_init_0 20 rfl rfl)
theorem dJ5_init_23 : decode cJ5_init 23 = .ok (.aload_n 0, 1) := dk_42 (dk_at dksJ5_init_0 23 rfl rfl)
theorem dJ5_init_24 : decode cJ5_init 24 = .ok (.invokevirtual 27, 3) := dk_182 0 27 (dk_at dksJ5_init_1 0 rfl rfl)
theorem dJ5_init_27 : decode cJ5_init 27 = .ok (.pop, 1) := dk_87 (dk_at dksJ5_init_1 3 rfl rfl)
theorem dJ5_init_28 : decode cJ5_init 28 = .ok (.return_, 1) := dk_177 (dk_at dksJ5_init_1 4 rfl rfl)
abbrev cJ5_init_2 : ByteArray := prog_24_method_5_code
def yJ5_init_2 : MethodName := ⟨RJ5, "<init>", "(Ljava/lang/String;Ljava/lang/Throwable;ZZ)V"⟩
def dkwJ5_init_2_2 : List UInt8 := [44, 181, 0, 7, 29, 154, 0, 8, 42, 1, 181, 0, 24, 177]
abbrev dktJ5_init_2_2 : List UInt8 := dkwJ5_init_2_2 ++ []
def dkwJ5_init_2_1 : List UInt8 := [21, 4, 153, 0, 11, 42, 182, 0, 27, 87, 167, 0, 8, 42, 1, 181, 0, 17, 42, 43, 181, 0, 31, 42]
abbrev dktJ5_init_2_1 : List UInt8 := dkwJ5_init_2_1 ++ dktJ5_init_2_2
def dkwJ5_init_2_0 : List UInt8 := [42, 183, 0, 1, 42, 42, 181, 0, 7, 42, 178, 0, 13, 181, 0, 17, 42, 178, 0, 20, 181, 0, 24]
abbrev dktJ5_init_2_0 : List UInt8 := dkwJ5_init_2_0 ++ dktJ5_init_2_1
theorem dksJ5_init_2_0 : cJ5_init_2.data.toList.drop 0 = dktJ5_init_2_0 := by decide +kernel
theorem dksJ5_init_2_1 : cJ5_init_2.data.toList.drop 23 = dktJ5_init_2_1 := dk_seg dksJ5_init_2_0 23 rfl rfl
theorem dksJ5_init_2_2 : cJ5_init_2.data.toList.drop 47 = dktJ5_init_2_2 := dk_seg dksJ5_init_2_1 24 rfl rfl
theorem dJ5_init_2_0 : decode cJ5_init_2 0 = .ok (.aload_n 0, 1) := dk_42 (dk_at dksJ5_init_2_0 0 rfl rfl)
theorem dJ5_init_2_1 : decode cJ5_init_2 1 = .ok (.invokespecial 1, 3) := dk_183 0 1 (dk_at dksJ5_init_2_0 1 rfl rfl)
theorem dJ5_init_2_4 : decode cJ5_init_2 4 = .ok (.aload_n 0, 1) := dk_42 (dk_at dksJ5_init_2_0 4 rfl rfl)
theorem dJ5_init_2_5 : decode cJ5_init_2 5 = .ok (.aload_n 0, 1) := dk_42 (dk_at dksJ5_init_2_0 5 rfl rfl)
theorem dJ5_init_2_6 : decode cJ5_init_2 6 = .ok (.putfield 7, 3) := dk_181 0 7 (dk_at dksJ5_init_2_0 6 rfl rfl)
theorem dJ5_init_2_9 : decode cJ5_init_2 9 = .ok (.aload_n 0, 1) := dk_42 (dk_at dksJ5_init_2_0 9 rfl rfl)
theorem dJ5_init_2_10 : decode cJ5_init_2 10 = .ok (.getstatic 13, 3) := dk_178 0 13 (dk_at dksJ5_init_2_0 10 rfl rfl)
theorem dJ5_init_2_13 : decode cJ5_init_2 13 = .ok (.putfield 17, 3) := dk_181 0 17 (dk_at dksJ5_init_2_0 13 rfl rfl)
theorem dJ5_init_2_16 : decode cJ5_init_2 16 = .ok (.aload_n 0, 1) := dk_42 (dk_at dksJ5_init_2_0 16 rfl rfl)
theorem dJ5_init_2_17 : decode cJ5_init_2 17 = .ok (.getstatic 20, 3) := dk_178 0 20 (dk_at dksJ5_init_2_0 17 rfl rfl)
theorem dJ5_init_2_20 : decode cJ5_init_2 20 = .ok (.putfield 24, 3) := dk_181 0 24 (dk_at dksJ5_init_2_0 20 rfl rfl)
theorem dJ5_init_2_23 : decode cJ5_init_2 23 = .ok (.iload 4, 2) := dk_21 4 (dk_at dksJ5_init_2_1 0 rfl rfl)
theorem dJ5_init_2_25 : decode cJ5_init_2 25 = .ok (.ifCond .eq 11, 3) := dk_153 0 11 (dk_at dksJ5_init_2_1 2 rfl rfl)
theorem dJ5_init_2_28 : decode cJ5_init_2 28 = .ok (.aload_n 0, 1) := dk_42 (dk_at dksJ5_init_2_1 5 rfl rfl)
theorem dJ5_init_2_29 : decode cJ5_init_2 29 = .ok (.invokevirtual 27, 3) := dk_182 0 27 (dk_at dksJ5_init_2_1 6 rfl rfl)
theorem dJ5_init_2_32 : decode cJ5_init_2 32 = .ok (.pop, 1) := dk_87 (dk_at dksJ5_init_2_1 9 rfl rfl)
theorem dJ5_init_2_33 : decode cJ5_init_2 33 = .ok (.goto 8, 3) := dk_167 0 8 (dk_at dksJ5_init_2_1 10 rfl rfl)
theorem dJ5_init_2_36 : decode cJ5_init_2 36 = .ok (.aload_n 0, 1) := dk_42 (dk_at dksJ5_init_2_1 13 rfl rfl)
theorem dJ5_init_2_37 : decode cJ5_init_2 37 = .ok (.aconst_null, 1) := dk_1 (dk_at dksJ5_init_2_1 14 rfl rfl)
theorem dJ5_init_2_38 : decode cJ5_init_2 38 = .ok (.putfield 17, 3) := dk_181 0 17 (dk_at dksJ5_init_2_1 15 rfl rfl)
theorem dJ5_init_2_41 : decode cJ5_init_2 41 = .ok (.aload_n 0, 1) := dk_42 (dk_at dksJ5_init_2_1 18 rfl rfl)
theorem dJ5_init_2_42 : decode cJ5_init_2 42 = .ok (.aload_n 1, 1) := dk_43 (dk_at dksJ5_init_2_1 19 rfl rfl)
theorem dJ5_init_2_43 : decode cJ5_init_2 43 = .ok (.putfield 31, 3) := dk_181 0 31 (dk_at dksJ5_init_2_1 20 rfl rfl)
theorem dJ5_init_2_46 : decode cJ5_init_2 46 = .ok (.aload_n 0, 1) := dk_42 (dk_at dksJ5_init_2_1 23 rfl rfl)
theorem dJ5_init_2_47 : decode cJ5_init_2 47 = .ok (.aload_n 2, 1) := dk_44 (dk_at dksJ5_init_2_2 0 rfl rfl)
theorem dJ5_init_2_48 : decode cJ5_init_2 48 = .ok (.putfield 7, 3) := dk_181 0 7 (dk_at dksJ5_init_2_2 1 rfl rfl)
theorem dJ5_init_2_51 : decode cJ5_init_2 51 = .ok (.iload_n 3, 1) := dk_29 (dk_at dksJ5_init_2_2 4 rfl rfl)
theorem dJ5_init_2_52 : decode cJ5_init_2 52 = .ok (.ifCond .ne 8, 3) := dk_154 0 8 (dk_at dksJ5_init_2_2 5 rfl rfl)
theorem dJ5_init_2_55 : decode cJ5_init_2 55 = .ok (.aload_n 0, 1) := dk_42 (dk_at dksJ5_init_2_2 8 rfl rfl)
theorem dJ5_init_2_56 : decode cJ5_init_2 56 = .ok (.aconst_null, 1) := dk_1 (dk_at dksJ5_init_2_2 9 rfl rfl)
theorem dJ5_init_2_57 : decode cJ5_init_2 57 = .ok (.putfield 24, 3) := dk_181 0 24 (dk_at dksJ5_init_2_2 10 rfl rfl)
theorem dJ5_init_2_60 : decode cJ5_init_2 60 = .ok (.return_, 1) := dk_177 (dk_at dksJ5_init_2_2 13 rfl rfl)
theorem q91 : (Jvm.Cond.initialized "java/lang/Throwable") ∈ lw_all := lw_g (lw_at lw_m1 19 rfl) rfl
theorem q597 : (Jvm.Cond.declares ({ cls := "java/lang/Throwable", name := "<init>", desc := "()V" } : Jvm.MethodName)) ∈ lw_tbl := lw_at lw_m3 45 rfl
theorem q598 : (Jvm.Cond.declares ({ cls := "java/lang/Throwable", name := "<init>", desc := "(Ljava/lang/String;)V" } : Jvm.MethodName)) ∈ lw_tbl := lw_at lw_m3 46 rfl
theorem q602 : (Jvm.Cond.lays "java/lang/Throwable" "java/lang/Throwable" "cause" "Ljava/lang/Throwable;") ∈ lw_all := lw_g (lw_at lw_m3 50 rfl) rfl
theorem q604 : (Jvm.Cond.lays "java/lang/Throwable" "java/lang/Throwable" "stackTrace" "[Ljava/lang/StackTraceElement;") ∈ lw_all := lw_g (lw_at lw_m3 52 rfl) rfl
theorem q606 : (Jvm.Cond.lays "java/lang/Throwable" "java/lang/Throwable" "suppressedExceptions" "Ljava/util/List;") ∈ lw_all := lw_g (lw_at lw_m3 54 rfl) rfl
theorem q608 : (Jvm.Cond.lays "java/lang/Throwable" "java/lang/Throwable" "detailMessage" "Ljava/lang/String;") ∈ lw_all := lw_g (lw_at lw_m3 56 rfl) rfl
theorem q610 : (Jvm.Cond.lays "java/lang/Throwable" "java/lang/Throwable" "backtrace" "Ljava/lang/Object;") ∈ lw_all := lw_g (lw_at lw_m3 58 rfl) rfl
theorem q611 : (Jvm.Cond.fieldLink "java/lang/Throwable" (198 : Nat) "java/lang/Throwable" "backtrace" "Ljava/lang/Object;") ∈ lw_all := lw_g (lw_at lw_m3 59 rfl) rfl
theorem q612 : (Jvm.Cond.superclass "java/lang/Throwable" "java/lang/Object") ∈ lw_all := lw_g (lw_at lw_m3 60 rfl) rfl
theorem q613 : (Jvm.Cond.instanceMethod ({ cls := "java/lang/Throwable", name := "<init>", desc := "()V" } : Jvm.MethodName)) ∈ lw_all := lw_g (lw_at lw_m3 61 rfl) rfl
theorem q614 : (Jvm.Cond.code ({ cls := "java/lang/Throwable", name := "<init>", desc := "()V" } : Jvm.MethodName) prog_24_method_1_code (1 : Nat) (Option.none : Option Jvm.ClassFile.FieldType)) ∈ lw_all := lw_g (lw_at lw_m3 62 rfl) rfl
theorem q615 : (Jvm.Cond.methodLink "java/lang/Throwable" (1 : Nat) ({ cls := "java/lang/Object", name := "<init>", desc := "()V" } : Jvm.MethodName)) ∈ lw_all := lw_g (lw_at lw_m3 63 rfl) rfl
theorem q616 : (Jvm.Cond.fieldLink "java/lang/Throwable" (13 : Nat) "java/lang/Throwable" "UNASSIGNED_STACK" "[Ljava/lang/StackTraceElement;") ∈ lw_all := lw_g (lw_at lw_m3 64 rfl) rfl
theorem q617 : (Jvm.Cond.laysStatic "java/lang/Throwable" "UNASSIGNED_STACK" "[Ljava/lang/StackTraceElement;") ∈ lw_tbl := lw_at lw_m3 65 rfl
theorem q618 : (Jvm.Cond.fieldLink "java/lang/Throwable" (20 : Nat) "java/lang/Throwable" "SUPPRESSED_SENTINEL" "Ljava/util/List;") ∈ lw_all := lw_g (lw_at lw_m3 66 rfl) rfl
theorem q619 : (Jvm.Cond.laysStatic "java/lang/Throwable" "SUPPRESSED_SENTINEL" "Ljava/util/List;") ∈ lw_tbl := lw_at lw_m3 67 rfl
theorem q620 : (Jvm.Cond.methodLink "java/lang/Throwable" (27 : Nat) ({ cls := "java/lang/Throwable", name := "fillInStackTrace", desc := "()Ljava/lang/Throwable;" } : Jvm.MethodName)) ∈ lw_all := lw_g (lw_at lw_m3 68 rfl) rfl
theorem q621 : (Jvm.Cond.instanceMethod ({ cls := "java/lang/Throwable", name := "fillInStackTrace", desc := "()Ljava/lang/Throwable;" } : Jvm.MethodName)) ∈ lw_all := lw_g (lw_at lw_m3 69 rfl) rfl
theorem q622 : (Jvm.Cond.sameMethod "java/lang/Throwable" "java/lang/Throwable" "fillInStackTrace" "()Ljava/lang/Throwable;") ∈ lw_all := lw_g (lw_at lw_m3 70 rfl) rfl
theorem q623 : (Jvm.Cond.codeSync ({ cls := "java/lang/Throwable", name := "fillInStackTrace", desc := "()Ljava/lang/Throwable;" } : Jvm.MethodName) prog_24_method_18_code (1 : Nat) (Option.some (Jvm.ClassFile.FieldType.object "java/lang/Throwable"))) ∈ lw_all := lw_g (lw_at lw_m3 71 rfl) rfl
theorem q624 : (Jvm.Cond.methodLink "java/lang/Throwable" (202 : Nat) ({ cls := "java/lang/Throwable", name := "fillInStackTrace", desc := "(I)Ljava/lang/Throwable;" } : Jvm.MethodName)) ∈ lw_all := lw_g (lw_at lw_m3 72 rfl) rfl
theorem q625 : (Jvm.Cond.privateMethod ({ cls := "java/lang/Throwable", name := "fillInStackTrace", desc := "(I)Ljava/lang/Throwable;" } : Jvm.MethodName)) ∈ lw_tbl := lw_at lw_m3 73 rfl
theorem q626 : (Jvm.Cond.instanceMethod ({ cls := "java/lang/Throwable", name := "fillInStackTrace", desc := "(I)Ljava/lang/Throwable;" } : Jvm.MethodName)) ∈ lw_all := lw_g (lw_at lw_m3 74 rfl) rfl
theorem q627 : (Jvm.Cond.instantiable "java/lang/Throwable" (6 : Nat)) ∈ lw_all := lw_g (lw_at lw_m3 75 rfl) rfl
theorem q628 : (Jvm.Cond.native ({ cls := "java/lang/Throwable", name := "fillInStackTrace", desc := "(I)Ljava/lang/Throwable;" } : Jvm.MethodName)) ∈ lw_all := lw_g (lw_at lw_m3 76 rfl) rfl
theorem q637 : (Jvm.Cond.instanceMethod ({ cls := "java/lang/Throwable", name := "<init>", desc := "(Ljava/lang/String;Ljava/lang/Throwable;ZZ)V" } : Jvm.MethodName)) ∈ lw_all := lw_g (lw_at lw_m3 85 rfl) rfl
theorem q638 : (Jvm.Cond.code ({ cls := "java/lang/Throwable", name := "<init>", desc := "(Ljava/lang/String;Ljava/lang/Throwable;ZZ)V" } : Jvm.MethodName) prog_24_method_5_code (5 : Nat) (Option.none : Option Jvm.ClassFile.FieldType)) ∈ lw_all := lw_g (lw_at lw_m3 86 rfl) rfl
theorem q643 : (Jvm.Cond.fieldLink "java/lang/Throwable" (198 : Nat) "java/lang/Throwable" "backtrace" "Ljava/lang/Object;") ∈ lw_all := lw_g (lw_at lw_m3 91 rfl) rfl
theorem q644 : (Jvm.Cond.fieldLink "java/lang/Throwable" (31 : Nat) "java/lang/Throwable" "detailMessage" "Ljava/lang/String;") ∈ lw_all := lw_g (lw_at lw_m3 92 rfl) rfl
theorem q645 : (Jvm.Cond.fieldLink "java/lang/Throwable" (7 : Nat) "java/lang/Throwable" "cause" "Ljava/lang/Throwable;") ∈ lw_all := lw_g (lw_at lw_m3 93 rfl) rfl
theorem q646 : (Jvm.Cond.fieldLink "java/lang/Throwable" (17 : Nat) "java/lang/Throwable" "stackTrace" "[Ljava/lang/StackTraceElement;") ∈ lw_all := lw_g (lw_at lw_m3 94 rfl) rfl
theorem q647 : (Jvm.Cond.fieldLink "java/lang/Throwable" (24 : Nat) "java/lang/Throwable" "suppressedExceptions" "Ljava/util/List;") ∈ lw_all := lw_g (lw_at lw_m3 95 rfl) rfl
theorem q652 : (Jvm.Cond.soleField "java/lang/Throwable" "backtrace") ∈ lw_all := lw_g (lw_at lw_m3 100 rfl) rfl
theorem q653 : (Jvm.Cond.soleField "java/lang/Throwable" "detailMessage") ∈ lw_all := lw_g (lw_at lw_m3 101 rfl) rfl
theorem q654 : (Jvm.Cond.soleField "java/lang/Throwable" "cause") ∈ lw_all := lw_g (lw_at lw_m3 102 rfl) rfl
theorem q655 : (Jvm.Cond.soleField "java/lang/Throwable" "stackTrace") ∈ lw_all := lw_g (lw_at lw_m3 103 rfl) rfl
theorem q657 : (Jvm.Cond.soleField "java/lang/Throwable" "depth") ∈ lw_all := lw_g (lw_at lw_m3 105 rfl) rfl
theorem q658 : (Jvm.Cond.soleField "java/lang/Throwable" "suppressedExceptions") ∈ lw_all := lw_g (lw_at lw_m3 106 rfl) rfl
theorem q1479 : (Jvm.Cond.sameMethod "java/lang/Throwable" "java/lang/Throwable" "fillInStackTrace" "(I)Ljava/lang/Throwable;") ∈ lw_all := lw_g (lw_at lw_m6 207 rfl) rfl
theorem in_J5 : ∀ w ∈ wsJ50, w ∈ lw_all := lw_in wsJ50 [602, 604, 606, 608, 610] (by decide +kernel) (by decide +kernel)
/-! java/lang/Exception -/
set_option maxRecDepth 100000
def RJ6 : String := "java/lang/Exception"
abbrev cJ6_init : ByteArray := prog_17_method_5_code
def yJ6_init : MethodName := ⟨RJ6, "<init>", "(Ljava/lang/String;Ljava/lang/Throwable;ZZ)V"⟩
def dkwJ6_init_0 : List UInt8 := [42, 43, 44, 29, 21, 4, 183, 0, 16, 177]
abbrev dktJ6_init_0 : List UInt8 := dkwJ6_init_0 ++ []
theorem dksJ6_init_0 : cJ6_init.data.toList.drop 0 = dktJ6_init_0 := by decide +kernel
theorem dJ6_init_0 : decode cJ6_init 0 = .ok (.aload_n 0, 1) := dk_42 (dk_at dksJ6_init_0 0 rfl rfl)
theorem dJ6_init_1 : decode cJ6_init 1 = .ok (.aload_n 1, 1) := dk_43 (dk_at dksJ6_init_0 1 rfl rfl)
theorem dJ6_init_2 : decode cJ6_init 2 = .ok (.aload_n 2, 1) := dk_44 (dk_at dksJ6_init_0 2 rfl rfl)
theorem dJ6_init_3 : decode cJ6_init 3 = .ok (.iload_n 3, 1) := dk_29 (dk_at dksJ6_init_0 3 rfl rfl)
theorem dJ6_init_4 : decode cJ6_init 4 = .ok (.iload 4, 2) := dk_21 4 (dk_at dksJ6_init_0 4 rfl rfl)
theorem dJ6_init_6 : decode cJ6_init 6 = .ok (.invokespecial 16, 3) := dk_183 0 16 (dk_at dksJ6_init_0 6 rfl rfl)
theorem dJ6_init_9 : decode cJ6_init 9 = .ok (.return_, 1) := dk_177 (dk_at dksJ6_init_0 9 rfl rfl)
theorem q92 : (Jvm.Cond.initialized "java/lang/Exception") ∈ lw_all := lw_g (lw_at lw_m1 20 rfl) rfl
theorem q595 : (Jvm.Cond.declares ({ cls := "java/lang/Exception", name := "<init>", desc := "()V" } : Jvm.MethodName)) ∈ lw_tbl := lw_at lw_m3 43 rfl
theorem q596 : (Jvm.Cond.declares ({ cls := "java/lang/Exception", name := "<init>", desc := "(Ljava/lang/String;)V" } : Jvm.MethodName)) ∈ lw_tbl := lw_at lw_m3 44 rfl
theorem q634 : (Jvm.Cond.instanceMethod ({ cls := "java/lang/Exception", name := "<init>", desc := "(Ljava/lang/String;Ljava/lang/Throwable;ZZ)V" } : Jvm.MethodName)) ∈ lw_all := lw_g (lw_at lw_m3 82 rfl) rfl
theorem q635 : (Jvm.Cond.code ({ cls := "java/lang/Exception", name := "<init>", desc := "(Ljava/lang/String;Ljava/lang/Throwable;ZZ)V" } : Jvm.MethodName) prog_17_method_5_code (5 : Nat) (Option.none : Option Jvm.ClassFile.FieldType)) ∈ lw_all := lw_g (lw_at lw_m3 83 rfl) rfl
theorem q636 : (Jvm.Cond.methodLink "java/lang/Exception" (16 : Nat) ({ cls := "java/lang/Throwable", name := "<init>", desc := "(Ljava/lang/String;Ljava/lang/Throwable;ZZ)V" } : Jvm.MethodName)) ∈ lw_all := lw_g (lw_at lw_m3 84 rfl) rfl
/-! java/lang/Integer -/
set_option maxRecDepth 100000
def RJ7 : String := "java/lang/Integer"
abbrev cJ7_bitCount : ByteArray := prog_18_method_49_code
def yJ7_bitCount : MethodName := ⟨RJ7, "bitCount", "(I)I"⟩
def dkwJ7_bitCount_2 : List UInt8 := [26, 16, 63, 126, 172]
abbrev dktJ7_bitCount_2 : List UInt8 := dkwJ7_bitCount_2 ++ []
def dkwJ7_bitCount_1 : List UInt8 := [26, 26, 7, 124, 96, 19, 1, 11, 126, 59, 26, 26, 16, 8, 124, 96, 59, 26, 26, 16, 16, 124, 96, 59]
abbrev dktJ7_bitCount_1 : List UInt8 := dkwJ7_bitCount_1 ++ dktJ7_bitCount_2
def dkwJ7_bitCount_0 : List UInt8 := [26, 26, 4, 124, 19, 1, 9, 126, 100, 59, 26, 19, 1, 10, 126, 26, 5, 124, 19, 1, 10, 126, 96, 59]
abbrev dktJ7_bitCount_0 : List UInt8 := dkwJ7_bitCount_0 ++ dktJ7_bitCount_1
theorem dksJ7_bitCount_0 : cJ7_bitCount.data.toList.drop 0 = dktJ7_bitCount_0 := by decide +kernel
theorem dksJ7_bitCount_1 : cJ7_bitCount.data.toList.drop 24 = dktJ7_bitCount_1 := dk_seg dksJ7_bitCount_0 24 rfl rfl
theorem dksJ7_bitCount_2 : cJ7_bitCount.data.toList.drop 48 = dktJ7_bitCount_2 := dk_seg dksJ7_bitCount_1 24 rfl rfl
theorem dJ7_bitCount_0 : decode cJ7_bitCount 0 = .ok (.iload_n 0, 1) := dk_26 (dk_at dksJ7_bitCount_0 0 rfl rfl)
theorem dJ7_bitCount_1 : decode cJ7_bitCount 1 = .ok (.iload_n 0, 1) := dk_26 (dk_at dksJ7_bitCount_0 1 rfl rfl)
theorem dJ7_bitCount_2 : decode cJ7_bitCount 2 = .ok (.iconst 1, 1) := dk_4 (dk_at dksJ7_bitCount_0 2 rfl rfl)
theorem dJ7_bitCount_3 : decode cJ7_bitCount 3 = .ok (.iushr, 1) := dk_124 (dk_at dksJ7_bitCount_0 3 rfl rfl)
theorem dJ7_bitCount_4 : decode cJ7_bitCount 4 = .ok (.ldc_w 265, 3) := dk_19 1 9 (dk_at dksJ7_bitCount_0 4 rfl rfl)
theorem dJ7_bitCount_7 : decode cJ7_bitCount 7 = .ok (.iand, 1) := dk_126 (dk_at dksJ7_bitCount_0 7 rfl rfl)
theorem dJ7_bitCount_8 : decode cJ7_bitCount 8 = .ok (.isub, 1) := dk_100 (dk_at dksJ7_bitCount_0 8 rfl rfl)
theorem dJ7_bitCount_9 : decode cJ7_bitCount 9 = .ok (.istore_n 0, 1) := dk_59 (dk_at dksJ7_bitCount_0 9 rfl rfl)
theorem dJ7_bitCount_10 : decode cJ7_bitCount 10 = .ok (.iload_n 0, 1) := dk_26 (dk_at dksJ7_bitCount_0 10 rfl rfl)
theorem dJ7_bitCount_11 : decode cJ7_bitCount 11 = .ok (.ldc_w 266, 3) := dk_19 1 10 (dk_at dksJ7_bitCount_0 11 rfl rfl)
theorem dJ7_bitCount_14 : decode cJ7_bitCount 14 = .ok (.iand, 1) := dk_126 (dk_at dksJ7_bitCount_0 14 rfl rfl)
theorem dJ7_bitCount_15 : decode cJ7_bitCount 15 = .ok (.iload_n 0, 1) := dk_26 (dk_at dksJ7_bitCount_0 15 rfl rfl)
theorem dJ7_bitCount_16 : decode cJ7_bitCount 16 = .ok (.iconst 2, 1) := dk_5 (dk_at dksJ7_bitCount_0 16 rfl rfl)
theorem dJ7_bitCount_17 : decode cJ7_bitCount 17 = .ok (.iushr, 1) := dk_124 (dk_at dksJ7_bitCount_0 17 rfl rfl)
theorem dJ7_bitCount_18 : decode cJ7_bitCount 18 = .ok (.ldc_w 266, 3) := dk_19 1 10 (dk_at dksJ7_bitCount_0 18 rfl rfl)
theorem dJ7_bitCount_21 : decode cJ7_bitCount 21 = .ok (.iand, 1) := dk_126 (dk_at dksJ7_bitCount_0 21 rfl rfl)
theorem dJ7_bitCount_22 : decode cJ7_bitCount 22 = .ok (.iadd, 1) := dk_96 (dk_at dksJ7_bitCount_0 22 rfl rfl)
theorem dJ7_bitCount_23 : decode cJ7_bitCount 23 = .ok (.istore_n 0, 1) := dk_59 (dk_at dksJ7_bitCount_0 23 rfl rfl)
theorem dJ7_bitCount_24 : decode cJ7_bitCount 24 = .ok (.iload_n 0, 1) := dk_26 (dk_at dksJ7_bitCount_1 0 rfl rfl)
theorem dJ7_bitCount_25 : decode cJ7_bitCount 25 = .ok (.iload_n 0, 1) := dk_26 (dk_at dksJ7_bitCount_1 1 rfl rfl)
theorem dJ7_bitCount_26 : decode cJ7_bitCount 26 = .ok (.iconst 4, 1) := dk_7 (dk_at dksJ7_bitCount_1 2 rfl rfl)
theorem dJ7_bitCount_27 : decode cJ7_bitCount 27 = .ok (.iushr, 1) := dk_124 (dk_at dksJ7_bitCount_1 3 rfl rfl)
theorem dJ7_bitCount_28 : decode cJ7_bitCount 28 = .ok (.iadd, 1) := dk_96 (dk_at dksJ7_bitCount_1 4 rfl rfl)
theorem dJ7_bitCount_29 : decode cJ7_bitCount 29 = .ok (.ldc_w 267, 3) := dk_19 1 11 (dk_at dksJ7_bitCount_1 5 rfl rfl)
theorem dJ7_bitCount_32 : decode cJ7_bitCount 32 = .ok (.iand, 1) := dk_126 (dk_at dksJ7_bitCount_1 8 rfl rfl)
theorem dJ7_bitCount_33 : decode cJ7_bitCount 33 = .ok (.istore_n 0, 1) := dk_59 (dk_at dksJ7_bitCount_1 9 rfl rfl)
theorem dJ7_bitCount_34 : decode cJ7_bitCount 34 = .ok (.iload_n 0, 1) := dk_26 (dk_at dksJ7_bitCount_1 10 rfl rfl)
theorem dJ7_bitCount_35 : decode cJ7_bitCount 35 = .ok (.iload_n 0, 1) := dk_26 (dk_at dksJ7_bitCount_1 11 rfl rfl)
theorem dJ7_bitCount_36 : decode cJ7_bitCount 36 = .ok (.bipush 8, 2) := dk_16 8 (dk_at dksJ7_bitCount_1 12 rfl rfl)
theorem dJ7_bitCount_38 : decode cJ7_bitCount 38 = .ok (.iushr, 1) := dk_124 (dk_at dksJ7_bitCount_1 14 rfl rfl)
theorem dJ7_bitCount_39 : decode cJ7_bitCount 39 = .ok (.iadd, 1) := dk_96 (dk_at dksJ7_bitCount_1 15 rfl rfl)
theorem dJ7_bitCount_40 : decode cJ7_bitCount 40 = .ok (.istore_n 0, 1) := dk_59 (dk_at dksJ7_bitCount_1 16 rfl rfl)
theorem dJ7_bitCount_41 : decode cJ7_bitCount 41 = .ok (.iload_n 0, 1) := dk_26 (dk_at dksJ7_bitCount_1 17 rfl rfl)
theorem dJ7_bitCount_42 : decode cJ7_bitCount 42 = .ok (.iload_n 0, 1) := dk_26 (dk_at dksJ7_bitCount_1 18 rfl rfl)
theorem dJ7_bitCount_43 : decode cJ7_bitCount 43 = .ok (.bipush 16, 2) := dk_16 16 (dk_at dksJ7_bitCount_1 19 rfl rfl)
theorem dJ7_bitCount_45 : decode cJ7_bitCount 45 = .ok (.iushr, 1) := dk_124 (dk_at dksJ7_bitCount_1 21 rfl rfl)
theorem dJ7_bitCount_46 : decode cJ7_bitCount 46 = .ok (.iadd, 1) := dk_96 (dk_at dksJ7_bitCount_1 22 rfl rfl)
theorem dJ7_bitCount_47 : decode cJ7_bitCount 47 = .ok (.istore_n 0, 1) := dk_59 (dk_at dksJ7_bitCount_1 23 rfl rfl)
theorem dJ7_bitCount_48 : decode cJ7_bitCount 48 = .ok (.iload_n 0, 1) := dk_26 (dk_at dksJ7_bitCount_2 0 rfl rfl)
theorem dJ7_bitCount_49 : decode cJ7_bitCount 49 = .ok (.bipush 63, 2) := dk_16 63 (dk_at dksJ7_bitCount_2 1 rfl rfl)
theorem dJ7_bitCount_51 : decode cJ7_bitCount 51 = .ok (.iand, 1) := dk_126 (dk_at dksJ7_bitCount_2 3 rfl rfl)
theorem dJ7_bitCount_52 : decode cJ7_bitCount 52 = .ok (.ireturn, 1) := dk_172 (dk_at dksJ7_bitCount_2 4 rfl rfl)
theorem q96 : (Jvm.Cond.initialized "java/lang/Integer") ∈ lw_all := lw_g (lw_at lw_m1 24 rfl) rfl
theorem q848 : (Jvm.Cond.static ({ cls := "java/lang/Integer", name := "bitCount", desc := "(I)I" } : Jvm.MethodName)) ∈ lw_all := lw_g (lw_at lw_m4 56 rfl) rfl
theorem q849 : (Jvm.Cond.code ({ cls := "java/lang/Integer", name := "bitCount", desc := "(I)I" } : Jvm.MethodName) prog_18_method_49_code (1 : Nat) (Option.some Jvm.ClassFile.FieldType.int)) ∈ lw_all := lw_g (lw_at lw_m4 57 rfl) rfl
theorem q850 : (Jvm.Cond.constant "java/lang/Integer" (265 : Nat) (1431655765 : Int32)) ∈ lw_all := lw_g (lw_at lw_m4 58 rfl) rfl
theorem q851 : (Jvm.Cond.constant "java/lang/Integer" (266 : Nat) (858993459 : Int32)) ∈ lw_all := lw_g (lw_at lw_m4 59 rfl) rfl
theorem q852 : (Jvm.Cond.constant "java/lang/Integer" (267 : Nat) (252645135 : Int32)) ∈ lw_all := lw_g (lw_at lw_m4 60 rfl) rfl
/-! java/lang/Object -/
set_option maxRecDepth 100000
def RJ8 : String := "java/lang/Object"
abbrev cJ8_init : ByteArray := object_method_1_code
def yJ8_init : MethodName := ⟨RJ8, "<init>", "()V"⟩
theorem dJ8_init_0 : decode cJ8_init 0 = .ok (.return_, 1) := by decide +kernel
theorem q103 : (Jvm.Cond.instanceMethod ({ cls := "java/lang/Object", name := "<init>", desc := "()V" } : Jvm.MethodName)) ∈ lw_all := lw_g (lw_at lw_m1 31 rfl) rfl
theorem q104 : (Jvm.Cond.code ({ cls := "java/lang/Object", name := "<init>", desc := "()V" } : Jvm.MethodName) object_method_1_code (1 : Nat) (Option.none : Option Jvm.ClassFile.FieldType)) ∈ lw_all := lw_g (lw_at lw_m1 32 rfl) rfl
/-! SharedNights$Reader -/
set_option maxRecDepth 100000
def RX1 : String := "SharedNights$Reader"
def TX1 : u_T := fun k => match k with
  | 0 => ("SharedNights$Reader", "at", "I", false)
  | 1 => ("SharedNights$Reader", "place", "I", false)
  | 2 => ("SharedNights$Reader", "end", "I", false)
  | _ => ("SharedNights$Reader", "this$0", "LSharedNights;", true)
def tyX1 : Nat → FieldType := fun k => match k with
  | 0 => .int
  | 1 => .int
  | 2 => .int
  | _ => .object "SharedNights"
abbrev wsX10 : List Cond := u_ws RX1 TX1 4
theorem nmX1 : ∀ a, a < 4 → ∀ b, b < 4 → a ≠ b → (TX1 a).2.1 ≠ (TX1 b).2.1 := by decide +kernel
theorem tyX1_ok : ∀ k, k < 4 → parseFieldDescriptor (TX1 k).2.2.1 = some (tyX1 k) := by decide +kernel
abbrev cX1_init : ByteArray := prog_9_method_1_code
def yX1_init : MethodName := ⟨RX1, "<init>", "(LSharedNights;)V"⟩
def dkwX1_init_0 : List UInt8 := [42, 43, 181, 0, 3, 42, 183, 0, 9, 177]
abbrev dktX1_init_0 : List UInt8 := dkwX1_init_0 ++ []
theorem dksX1_init_0 : cX1_init.data.toList.drop 0 = dktX1_init_0 := by decide +kernel
theorem dX1_init_0 : decode cX1_init 0 = .ok (.aload_n 0, 1) := dk_42 (dk_at dksX1_init_0 0 rfl rfl)
theorem dX1_init_1 : decode cX1_init 1 = .ok (.aload_n 1, 1) := dk_43 (dk_at dksX1_init_0 1 rfl rfl)
theorem dX1_init_2 : decode cX1_init 2 = .ok (.putfield 3, 3) := dk_181 0 3 (dk_at dksX1_init_0 2 rfl rfl)
theorem dX1_init_5 : decode cX1_init 5 = .ok (.aload_n 0, 1) := dk_42 (dk_at dksX1_init_0 5 rfl rfl)
theorem dX1_init_6 : decode cX1_init 6 = .ok (.invokespecial 9, 3) := dk_183 0 9 (dk_at dksX1_init_0 6 rfl rfl)
theorem dX1_init_9 : decode cX1_init 9 = .ok (.return_, 1) := dk_177 (dk_at dksX1_init_0 9 rfl rfl)
abbrev cX1_read : ByteArray := prog_9_method_12_code
def yX1_read : MethodName := ⟨RX1, "read", "()LSharedNights$Plan;"⟩
def dkwX1_read_11 : List UInt8 := [43, 176]
abbrev dktX1_read_11 : List UInt8 := dkwX1_read_11 ++ []
def dkwX1_read_10 : List UInt8 := [182, 0, 135, 21, 4, 21, 5, 183, 0, 152, 83, 43, 89, 180, 0, 139, 4, 96, 181, 0, 139, 167, 255, 102]
abbrev dktX1_read_10 : List UInt8 := dkwX1_read_10 ++ dktX1_read_11
def dkwX1_read_9 : List UInt8 := [182, 0, 87, 54, 5, 42, 16, 44, 182, 0, 127, 43, 180, 0, 131, 43, 180, 0, 139, 187, 0, 150, 89, 42]
abbrev dktX1_read_9 : List UInt8 := dkwX1_read_9 ++ dktX1_read_10
def dkwX1_read_8 : List UInt8 := [182, 0, 70, 42, 18, 146, 3, 16, 6, 182, 0, 87, 54, 4, 42, 18, 148, 21, 4, 21, 4, 6, 96]
abbrev dktX1_read_8 : List UInt8 := dkwX1_read_8 ++ dktX1_read_9
def dkwX1_read_7 : List UInt8 := [180, 0, 139, 6, 162, 0, 10, 16, 12, 29, 128, 167, 0, 7, 16, 8, 29, 128, 182, 0, 66, 42]
abbrev dktX1_read_7 : List UInt8 := dkwX1_read_7 ++ dktX1_read_8
def dkwX1_read_6 : List UInt8 := [180, 0, 139, 6, 162, 0, 16, 42, 16, 44, 182, 0, 73, 153, 0, 7, 4, 167, 0, 4, 3, 43]
abbrev dktX1_read_6 : List UInt8 := dkwX1_read_6 ++ dktX1_read_7
def dkwX1_read_5 : List UInt8 := [180, 0, 139, 4, 100, 50, 180, 0, 142, 61, 28, 153, 0, 7, 3, 167, 0, 5, 16, 16, 62, 42, 43]
abbrev dktX1_read_5 : List UInt8 := dkwX1_read_5 ++ dktX1_read_6
def dkwX1_read_4 : List UInt8 := [43, 4, 181, 0, 139, 42, 180, 0, 26, 42, 180, 0, 3, 180, 0, 19, 162, 0, 146, 43, 180, 0, 131, 43]
abbrev dktX1_read_4 : List UInt8 := dkwX1_read_4 ++ dktX1_read_5
def dkwX1_read_3 : List UInt8 := [16, 99, 182, 0, 87, 181, 0, 125, 42, 16, 58, 182, 0, 127, 43, 180, 0, 131, 3, 42, 182, 0, 135, 83]
abbrev dktX1_read_3 : List UInt8 := dkwX1_read_3 ++ dktX1_read_4
def dkwX1_read_2 : List UInt8 := [18, 116, 3, 42, 180, 0, 3, 180, 0, 117, 4, 100, 182, 0, 87, 181, 0, 120, 43, 42, 18, 123, 4]
abbrev dktX1_read_2 : List UInt8 := dkwX1_read_2 ++ dktX1_read_3
def dkwX1_read_1 : List UInt8 := [18, 107, 3, 6, 182, 0, 87, 181, 0, 109, 43, 42, 18, 111, 3, 5, 182, 0, 87, 181, 0, 113, 43, 42]
abbrev dktX1_read_1 : List UInt8 := dkwX1_read_1 ++ dktX1_read_2
def dkwX1_read_0 : List UInt8 := [187, 0, 102, 89, 42, 180, 0, 3, 183, 0, 104, 76, 42, 3, 181, 0, 15, 42, 182, 0, 70, 43, 42]
abbrev dktX1_read_0 : List UInt8 := dkwX1_read_0 ++ dktX1_read_1
theorem dksX1_read_0 : cX1_read.data.toList.drop 0 = dktX1_read_0 := by decide +kernel
theorem dksX1_read_1 : cX1_read.data.toList.drop 23 = dktX1_read_1 := dk_seg dksX1_read_0 23 rfl rfl
theorem dksX1_read_2 : cX1_read.data.toList.drop 47 = dktX1_read_2 := dk_seg dksX1_read_1 24 rfl rfl
theorem dksX1_read_3 : cX1_read.data.toList.drop 70 = dktX1_read_3 := dk_seg dksX1_read_2 23 rfl rfl
theorem dksX1_read_4 : cX1_read.data.toList.drop 94 = dktX1_read_4 := dk_seg dksX1_read_3 24 rfl rfl
theorem dksX1_read_5 : cX1_read.data.toList.drop 118 = dktX1_read_5 := dk_seg dksX1_read_4 24 rfl rfl
theorem dksX1_read_6 : cX1_read.data.toList.drop 141 = dktX1_read_6 := dk_seg dksX1_read_5 23 rfl rfl
theorem dksX1_read_7 : cX1_read.data.toList.drop 163 = dktX1_read_7 := dk_seg dksX1_read_6 22 rfl rfl
theorem dksX1_read_8 : cX1_read.data.toList.drop 185 = dktX1_read_8 := dk_seg dksX1_read_7 22 rfl rfl
theorem dksX1_read_9 : cX1_read.data.toList.drop 208 = dktX1_read_9 := dk_seg dksX1_read_8 23 rfl rfl
theorem dksX1_read_10 : cX1_read.data.toList.drop 232 = dktX1_read_10 := dk_seg dksX1_read_9 24 rfl rfl
theorem dksX1_read_11 : cX1_read.data.toList.drop 256 = dktX1_read_11 := dk_seg dksX1_read_10 24 rfl rfl
theorem dX1_read_0 : decode cX1_read 0 = .ok (.new 102, 3) := dk_187 0 102 (dk_at dksX1_read_0 0 rfl rfl)
theorem dX1_read_3 : decode cX1_read 3 = .ok (.dup, 1) := dk_89 (dk_at dksX1_read_0 3 rfl rfl)
theorem dX1_read_4 : decode cX1_read 4 = .ok (.aload_n 0, 1) := dk_42 (dk_at dksX1_read_0 4 rfl rfl)
theorem dX1_read_5 : decode cX1_read 5 = .ok (.getfield 3, 3) := dk_180 0 3 (dk_at dksX1_read_0 5 rfl rfl)
theorem dX1_read_8 : decode cX1_read 8 = .ok (.invokespecial 104, 3) := dk_183 0 104 (dk_at dksX1_read_0 8 rfl rfl)
theorem dX1_read_11 : decode cX1_read 11 = .ok (.astore_n 1, 1) := dk_76 (dk_at dksX1_read_0 11 rfl rfl)
theorem dX1_read_12 : decode cX1_read 12 = .ok (.aload_n 0, 1) := dk_42 (dk_at dksX1_read_0 12 rfl rfl)
theorem dX1_read_13 : decode cX1_read 13 = .ok (.iconst 0, 1) := dk_3 (dk_at dksX1_read_0 13 rfl rfl)
theorem dX1_read_14 : decode cX1_read 14 = .ok (.putfield 15, 3) := dk_181 0 15 (dk_at dksX1_read_0 14 rfl rfl)
theorem dX1_read_17 : decode cX1_read 17 = .ok (.aload_n 0, 1) := dk_42 (dk_at dksX1_read_0 17 rfl rfl)
theorem dX1_read_18 : decode cX1_read 18 = .ok (.invokevirtual 70, 3) := dk_182 0 70 (dk_at dksX1_read_0 18 rfl rfl)
theorem dX1_read_21 : decode cX1_read 21 = .ok (.aload_n 1, 1) := dk_43 (dk_at dksX1_read_0 21 rfl rfl)
theorem dX1_read_22 : decode cX1_read 22 = .ok (.aload_n 0, 1) := dk_42 (dk_at dksX1_read_0 22 rfl rfl)
theorem dX1_read_23 : decode cX1_read 23 = .ok (.ldc 107, 2) := dk_18 107 (dk_at dksX1_read_1 0 rfl rfl)
theorem dX1_read_25 : decode cX1_read 25 = .ok (.iconst 0, 1) := dk_3 (dk_at dksX1_read_1 2 rfl rfl)
theorem dX1_read_26 : decode cX1_read 26 = .ok (.iconst 3, 1) := dk_6 (dk_at dksX1_read_1 3 rfl rfl)
theorem dX1_read_27 : decode cX1_read 27 = .ok (.invokevirtual 87, 3) := dk_182 0 87 (dk_at dksX1_read_1 4 rfl rfl)
theorem dX1_read_30 : decode cX1_read 30 = .ok (.putfield 109, 3) := dk_181 0 109 (dk_at dksX1_read_1 7 rfl rfl)
theorem dX1_read_33 : decode cX1_read 33 = .ok (.aload_n 1, 1) := dk_43 (dk_at dksX1_read_1 10 rfl rfl)
theorem dX1_read_34 : decode cX1_read 34 = .ok (.aload_n 0, 1) := dk_42 (dk_at dksX1_read_1 11 rfl rfl)
theorem dX1_read_35 : decode cX1_read 35 = .ok (.ldc 111, 2) := dk_18 111 (dk_at dksX1_read_1 12 rfl rfl)
theorem dX1_read_37 : decode cX1_read 37 = .ok (.iconst 0, 1) := dk_3 (dk_at dksX1_read_1 14 rfl rfl)
theorem dX1_read_38 : decode cX1_read 38 = .ok (.iconst 2, 1) := dk_5 (dk_at dksX1_read_1 15 rfl rfl)
theorem dX1_read_39 : decode cX1_read 39 = .ok (.invokevirtual 87, 3) := dk_182 0 87 (dk_at dksX1_read_1 16 rfl rfl)
theorem dX1_read_42 : decode cX1_read 42 = .ok (.putfield 113, 3) := dk_181 0 113 (dk_at dksX1_read_1 19 rfl rfl)
theorem dX1_read_45 : decode cX1_read 45 = .ok (.aload_n 1, 1) := dk_43 (dk_at dksX1_read_1 22 rfl rfl)
theorem dX1_read_46 : decode cX1_read 46 = .ok (.aload_n 0, 1) := dk_42 (dk_at dksX1_read_1 23 rfl rfl)
theorem dX1_read_47 : decode cX1_read 47 = .ok (.ldc 116, 2) := dk_18 116 (dk_at dksX1_read_2 0 rfl rfl)
theorem dX1_read_49 : decode cX1_read 49 = .ok (.iconst 0, 1) := dk_3 (dk_at dksX1_read_2 2 rfl rfl)
theorem dX1_read_50 : decode cX1_read 50 = .ok (.aload_n 0, 1) := dk_42 (dk_at dksX1_read_2 3 rfl rfl)
theorem dX1_read_51 : decode cX1_read 51 = .ok (.getfield 3, 3) := dk_180 0 3 (dk_at dksX1_read_2 4 rfl rfl)
theorem dX1_read_54 : decode cX1_read 54 = .ok (.getfield 117, 3) := dk_180 0 117 (dk_at dksX1_read_2 7 rfl rfl)
theorem dX1_read_57 : decode cX1_read 57 = .ok (.iconst 1, 1) := dk_4 (dk_at dksX1_read_2 10 rfl rfl)
theorem dX1_read_58 : decode cX1_read 58 = .ok (.isub, 1) := dk_100 (dk_at dksX1_read_2 11 rfl rfl)
theorem dX1_read_59 : decode cX1_read 59 = .ok (.invokevirtual 87, 3) := dk_182 0 87 (dk_at dksX1_read_2 12 rfl rfl)
theorem dX1_read_62 : decode cX1_read 62 = .ok (.putfield 120, 3) := dk_181 0 120 (dk_at dksX1_read_2 15 rfl rfl)
theorem dX1_read_65 : decode cX1_read 65 = .ok (.aload_n 1, 1) := dk_43 (dk_at dksX1_read_2 18 rfl rfl)
theorem dX1_read_66 : decode cX1_read 66 = .ok (.aload_n 0, 1) := dk_42 (dk_at dksX1_read_2 19 rfl rfl)
theorem dX1_read_67 : decode cX1_read 67 = .ok (.ldc 123, 2) := dk_18 123 (dk_at dksX1_read_2 20 rfl rfl)
theorem dX1_read_69 : decode cX1_read 69 = .ok (.iconst 1, 1) := dk_4 (dk_at dksX1_read_2 22 rfl rfl)
theorem dX1_read_70 : decode cX1_read 70 = .ok (.bipush 99, 2) := dk_16 99 (dk_at dksX1_read_3 0 rfl rfl)
theorem dX1_read_72 : decode cX1_read 72 = .ok (.invokevirtual 87, 3) := dk_182 0 87 (dk_at dksX1_read_3 2 rfl rfl)
theorem dX1_read_75 : decode cX1_read 75 = .ok (.putfield 125, 3) := dk_181 0 125 (dk_at dksX1_read_3 5 rfl rfl)
theorem dX1_read_78 : decode cX1_read 78 = .ok (.aload_n 0, 1) := dk_42 (dk_at dksX1_read_3 8 rfl rfl)
theorem dX1_read_79 : decode cX1_read 79 = .ok (.bipush 58, 2) := dk_16 58 (dk_at dksX1_read_3 9 rfl rfl)
theorem dX1_read_81 : decode cX1_read 81 = .ok (.invokevirtual 127, 3) := dk_182 0 127 (dk_at dksX1_read_3 11 rfl rfl)
theorem dX1_read_84 : decode cX1_read 84 = .ok (.aload_n 1, 1) := dk_43 (dk_at dksX1_read_3 14 rfl rfl)
theorem dX1_read_85 : decode cX1_read 85 = .ok (.getfield 131, 3) := dk_180 0 131 (dk_at dksX1_read_3 15 rfl rfl)
theorem dX1_read_88 : decode cX1_read 88 = .ok (.iconst 0, 1) := dk_3 (dk_at dksX1_read_3 18 rfl rfl)
theorem dX1_read_89 : decode cX1_read 89 = .ok (.aload_n 0, 1) := dk_42 (dk_at dksX1_read_3 19 rfl rfl)
theorem dX1_read_90 : decode cX1_read 90 = .ok (.invokevirtual 135, 3) := dk_182 0 135 (dk_at dksX1_read_3 20 rfl rfl)
theorem dX1_read_93 : decode cX1_read 93 = .ok (.aastore, 1) := dk_83 (dk_at dksX1_read_3 23 rfl rfl)
theorem dX1_read_94 : decode cX1_read 94 = .ok (.aload_n 1, 1) := dk_43 (dk_at dksX1_read_4 0 rfl rfl)
theorem dX1_read_95 : decode cX1_read 95 = .ok (.iconst 1, 1) := dk_4 (dk_at dksX1_read_4 1 rfl rfl)
theorem dX1_read_96 : decode cX1_read 96 = .ok (.putfield 139, 3) := dk_181 0 139 (dk_at dksX1_read_4 2 rfl rfl)
theorem dX1_read_99 : decode cX1_read 99 = .ok (.aload_n 0, 1) := dk_42 (dk_at dksX1_read_4 5 rfl rfl)
theorem dX1_read_100 : decode cX1_read 100 = .ok (.getfield 26, 3) := dk_180 0 26 (dk_at dksX1_read_4 6 rfl rfl)
theorem dX1_read_103 : decode cX1_read 103 = .ok (.aload_n 0, 1) := dk_42 (dk_at dksX1_read_4 9 rfl rfl)
theorem dX1_read_104 : decode cX1_read 104 = .ok (.getfield 3, 3) := dk_180 0 3 (dk_at dksX1_read_4 10 rfl rfl)
theorem dX1_read_107 : decode cX1_read 107 = .ok (.getfield 19, 3) := dk_180 0 19 (dk_at dksX1_read_4 13 rfl rfl)
theorem dX1_read_110 : decode cX1_read 110 = .ok (.if_icmp .ge 146, 3) := dk_162 0 146 (dk_at dksX1_read_4 16 rfl rfl)
theorem dX1_read_113 : decode cX1_read 113 = .ok (.aload_n 1, 1) := dk_43 (dk_at dksX1_read_4 19 rfl rfl)
theorem dX1_read_114 : decode cX1_read 114 = .ok (.getfield 131, 3) := dk_180 0 131 (dk_at dksX1_read_4 20 rfl rfl)
theorem dX1_read_117 : decode cX1_read 117 = .ok (.aload_n 1, 1) := dk_43 (dk_at dksX1_read_4 23 rfl rfl)
theorem dX1_read_118 : decode cX1_read 118 = .ok (.getfield 139, 3) := dk_180 0 139 (dk_at dksX1_read_5 0 rfl rfl)
theorem dX1_read_121 : decode cX1_read 121 = .ok (.iconst 1, 1) := dk_4 (dk_at dksX1_read_5 3 rfl rfl)
theorem dX1_read_122 : decode cX1_read 122 = .ok (.isub, 1) := dk_100 (dk_at dksX1_read_5 4 rfl rfl)
theorem dX1_read_123 : decode cX1_read 123 = .ok (.aaload, 1) := dk_50 (dk_at dksX1_read_5 5 rfl rfl)
theorem dX1_read_124 : decode cX1_read 124 = .ok (.getfield 142, 3) := dk_180 0 142 (dk_at dksX1_read_5 6 rfl rfl)
theorem dX1_read_127 : decode cX1_read 127 = .ok (.istore_n 2, 1) := dk_61 (dk_at dksX1_read_5 9 rfl rfl)
theorem dX1_read_128 : decode cX1_read 128 = .ok (.iload_n 2, 1) := dk_28 (dk_at dksX1_read_5 10 rfl rfl)
theorem dX1_read_129 : decode cX1_read 129 = .ok (.ifCond .eq 7, 3) := dk_153 0 7 (dk_at dksX1_read_5 11 rfl rfl)
theorem dX1_read_132 : decode cX1_read 132 = .ok (.iconst 0, 1) := dk_3 (dk_at dksX1_read_5 14 rfl rfl)
theorem dX1_read_133 : decode cX1_read 133 = .ok (.goto 5, 3) := dk_167 0 5 (dk_at dksX1_read_5 15 rfl rfl)
theorem dX1_read_136 : decode cX1_read 136 = .ok (.bipush 16, 2) := dk_16 16 (dk_at dksX1_read_5 18 rfl rfl)
theorem dX1_read_138 : decode cX1_read 138 = .ok (.istore_n 3, 1) := dk_62 (dk_at dksX1_read_5 20 rfl rfl)
theorem dX1_read_139 : decode cX1_read 139 = .ok (.aload_n 0, 1) := dk_42 (dk_at dksX1_read_5 21 rfl rfl)
theorem dX1_read_140 : decode cX1_read 140 = .ok (.aload_n 1, 1) := dk_43 (dk_at dksX1_read_5 22 rfl rfl)
theorem dX1_read_141 : decode cX1_read 141 = .ok (.getfield 139, 3) := dk_180 0 139 (dk_at dksX1_read_6 0 rfl rfl)
theorem dX1_read_144 : decode cX1_read 144 = .ok (.iconst 3, 1) := dk_6 (dk_at dksX1_read_6 3 rfl rfl)
theorem dX1_read_145 : decode cX1_read 145 = .ok (.if_icmp .ge 16, 3) := dk_162 0 16 (dk_at dksX1_read_6 4 rfl rfl)
theorem dX1_read_148 : decode cX1_read 148 = .ok (.aload_n 0, 1) := dk_42 (dk_at dksX1_read_6 7 rfl rfl)
theorem dX1_read_149 : decode cX1_read 149 = .ok (.bipush 44, 2) := dk_16 44 (dk_at dksX1_read_6 8 rfl rfl)
theorem dX1_read_151 : decode cX1_read 151 = .ok (.invokevirtual 73, 3) := dk_182 0 73 (dk_at dksX1_read_6 10 rfl rfl)
theorem dX1_read_154 : decode cX1_read 154 = .ok (.ifCond .eq 7, 3) := dk_153 0 7 (dk_at dksX1_read_6 13 rfl rfl)
theorem dX1_read_157 : decode cX1_read 157 = .ok (.iconst 1, 1) := dk_4 (dk_at dksX1_read_6 16 rfl rfl)
theorem dX1_read_158 : decode cX1_read 158 = .ok (.goto 4, 3) := dk_167 0 4 (dk_at dksX1_read_6 17 rfl rfl)
theorem dX1_read_161 : decode cX1_read 161 = .ok (.iconst 0, 1) := dk_3 (dk_at dksX1_read_6 20 rfl rfl)
theorem dX1_read_162 : decode cX1_read 162 = .ok (.aload_n 1, 1) := dk_43 (dk_at dksX1_read_6 21 rfl rfl)
theorem dX1_read_163 : decode cX1_read 163 = .ok (.getfield 139, 3) := dk_180 0 139 (dk_at dksX1_read_7 0 rfl rfl)
theorem dX1_read_166 : decode cX1_read 166 = .ok (.iconst 3, 1) := dk_6 (dk_at dksX1_read_7 3 rfl rfl)
theorem dX1_read_167 : decode cX1_read 167 = .ok (.if_icmp .ge 10, 3) := dk_162 0 10 (dk_at dksX1_read_7 4 rfl rfl)
theorem dX1_read_170 : decode cX1_read 170 = .ok (.bipush 12, 2) := dk_16 12 (dk_at dksX1_read_7 7 rfl rfl)
theorem dX1_read_172 : decode cX1_read 172 = .ok (.iload_n 3, 1) := dk_29 (dk_at dksX1_read_7 9 rfl rfl)
theorem dX1_read_173 : decode cX1_read 173 = .ok (.ior, 1) := dk_128 (dk_at dksX1_read_7 10 rfl rfl)
theorem dX1_read_174 : decode cX1_read 174 = .ok (.goto 7, 3) := dk_167 0 7 (dk_at dksX1_read_7 11 rfl rfl)
theorem dX1_read_177 : decode cX1_read 177 = .ok (.bipush 8, 2) := dk_16 8 (dk_at dksX1_read_7 14 rfl rfl)
theorem dX1_read_179 : decode cX1_read 179 = .ok (.iload_n 3, 1) := dk_29 (dk_at dksX1_read_7 16 rfl rfl)
theorem dX1_read_180 : decode cX1_read 180 = .ok (.ior, 1) := dk_128 (dk_at dksX1_read_7 17 rfl rfl)
theorem dX1_read_181 : decode cX1_read 181 = .ok (.invokevirtual 66, 3) := dk_182 0 66 (dk_at dksX1_read_7 18 rfl rfl)
theorem dX1_read_184 : decode cX1_read 184 = .ok (.aload_n 0, 1) := dk_42 (dk_at dksX1_read_7 21 rfl rfl)
theorem dX1_read_185 : decode cX1_read 185 = .ok (.invokevirtual 70, 3) := dk_182 0 70 (dk_at dksX1_read_8 0 rfl rfl)
theorem dX1_read_188 : decode cX1_read 188 = .ok (.aload_n 0, 1) := dk_42 (dk_at dksX1_read_8 3 rfl rfl)
theorem dX1_read_189 : decode cX1_read 189 = .ok (.ldc 146, 2) := dk_18 146 (dk_at dksX1_read_8 4 rfl rfl)
theorem dX1_read_191 : decode cX1_read 191 = .ok (.iconst 0, 1) := dk_3 (dk_at dksX1_read_8 6 rfl rfl)
theorem dX1_read_192 : decode cX1_read 192 = .ok (.bipush 6, 2) := dk_16 6 (dk_at dksX1_read_8 7 rfl rfl)
theorem dX1_read_194 : decode cX1_read 194 = .ok (.invokevirtual 87, 3) := dk_182 0 87 (dk_at dksX1_read_8 9 rfl rfl)
theorem dX1_read_197 : decode cX1_read 197 = .ok (.istore 4, 2) := dk_54 4 (dk_at dksX1_read_8 12 rfl rfl)
theorem dX1_read_199 : decode cX1_read 199 = .ok (.aload_n 0, 1) := dk_42 (dk_at dksX1_read_8 14 rfl rfl)
theorem dX1_read_200 : decode cX1_read 200 = .ok (.ldc 148, 2) := dk_18 148 (dk_at dksX1_read_8 15 rfl rfl)
theorem dX1_read_202 : decode cX1_read 202 = .ok (.iload 4, 2) := dk_21 4 (dk_at dksX1_read_8 17 rfl rfl)
theorem dX1_read_204 : decode cX1_read 204 = .ok (.iload 4, 2) := dk_21 4 (dk_at dksX1_read_8 19 rfl rfl)
theorem dX1_read_206 : decode cX1_read 206 = .ok (.iconst 3, 1) := dk_6 (dk_at dksX1_read_8 21 rfl rfl)
theorem dX1_read_207 : decode cX1_read 207 = .ok (.iadd, 1) := dk_96 (dk_at dksX1_read_8 22 rfl rfl)
theorem dX1_read_208 : decode cX1_read 208 = .ok (.invokevirtual 87, 3) := dk_182 0 87 (dk_at dksX1_read_9 0 rfl rfl)
theorem dX1_read_211 : decode cX1_read 211 = .ok (.istore 5, 2) := dk_54 5 (dk_at dksX1_read_9 3 rfl rfl)
theorem dX1_read_213 : decode cX1_read 213 = .ok (.aload_n 0, 1) := dk_42 (dk_at dksX1_read_9 5 rfl rfl)
theorem dX1_read_214 : decode cX1_read 214 = .ok (.bipush 44, 2) := dk_16 44 (dk_at dksX1_read_9 6 rfl rfl)
theorem dX1_read_216 : decode cX1_read 216 = .ok (.invokevirtual 127, 3) := dk_182 0 127 (dk_at dksX1_read_9 8 rfl rfl)
theorem dX1_read_219 : decode cX1_read 219 = .ok (.aload_n 1, 1) := dk_43 (dk_at dksX1_read_9 11 rfl rfl)
theorem dX1_read_220 : decode cX1_read 220 = .ok (.getfield 131, 3) := dk_180 0 131 (dk_at dksX1_read_9 12 rfl rfl)
theorem dX1_read_223 : decode cX1_read 223 = .ok (.aload_n 1, 1) := dk_43 (dk_at dksX1_read_9 15 rfl rfl)
theorem dX1_read_224 : decode cX1_read 224 = .ok (.getfield 139, 3) := dk_180 0 139 (dk_at dksX1_read_9 16 rfl rfl)
theorem dX1_read_227 : decode cX1_read 227 = .ok (.new 150, 3) := dk_187 0 150 (dk_at dksX1_read_9 19 rfl rfl)
theorem dX1_read_230 : decode cX1_read 230 = .ok (.dup, 1) := dk_89 (dk_at dksX1_read_9 22 rfl rfl)
theorem dX1_read_231 : decode cX1_read 231 = .ok (.aload_n 0, 1) := dk_42 (dk_at dksX1_read_9 23 rfl rfl)
theorem dX1_read_232 : decode cX1_read 232 = .ok (.invokevirtual 135, 3) := dk_182 0 135 (dk_at dksX1_read_10 0 rfl rfl)
theorem dX1_read_235 : decode cX1_read 235 = .ok (.iload 4, 2) := dk_21 4 (dk_at dksX1_read_10 3 rfl rfl)
theorem dX1_read_237 : decode cX1_read 237 = .ok (.iload 5, 2) := dk_21 5 (dk_at dksX1_read_10 5 rfl rfl)
theorem dX1_read_239 : decode cX1_read 239 = .ok (.invokespecial 152, 3) := dk_183 0 152 (dk_at dksX1_read_10 7 rfl rfl)
theorem dX1_read_242 : decode cX1_read 242 = .ok (.aastore, 1) := dk_83 (dk_at dksX1_read_10 10 rfl rfl)
theorem dX1_read_243 : decode cX1_read 243 = .ok (.aload_n 1, 1) := dk_43 (dk_at dksX1_read_10 11 rfl rfl)
theorem dX1_read_244 : decode cX1_read 244 = .ok (.dup, 1) := dk_89 (dk_at dksX1_read_10 12 rfl rfl)
theorem dX1_read_245 : decode cX1_read 245 = .ok (.getfield 139, 3) := dk_180 0 139 (dk_at dksX1_read_10 13 rfl rfl)
theorem dX1_read_248 : decode cX1_read 248 = .ok (.iconst 1, 1) := dk_4 (dk_at dksX1_read_10 16 rfl rfl)
theorem dX1_read_249 : decode cX1_read 249 = .ok (.iadd, 1) := dk_96 (dk_at dksX1_read_10 17 rfl rfl)
theorem dX1_read_250 : decode cX1_read 250 = .ok (.putfield 139, 3) := dk_181 0 139 (dk_at dksX1_read_10 18 rfl rfl)
theorem dX1_read_253 : decode cX1_read 253 = .ok (.goto (-154), 3) := dk_167 255 102 (dk_at dksX1_read_10 21 rfl rfl)
theorem dX1_read_256 : decode cX1_read 256 = .ok (.aload_n 1, 1) := dk_43 (dk_at dksX1_read_11 0 rfl rfl)
theorem dX1_read_257 : decode cX1_read 257 = .ok (.areturn, 1) := dk_176 (dk_at dksX1_read_11 1 rfl rfl)
abbrev cX1_token : ByteArray := prog_9_method_2_code
def yX1_token : MethodName := ⟨RX1, "token", "()V"⟩
def dkwX1_token_5 : List UInt8 := [42, 180, 0, 15, 181, 0, 33, 177]
abbrev dktX1_token_5 : List UInt8 := dkwX1_token_5 ++ []
def dkwX1_token_4 : List UInt8 := [180, 0, 15, 42, 180, 0, 26, 160, 0, 16, 42, 89, 180, 0, 15, 4, 96, 181, 0, 15, 167, 255, 205, 42]
abbrev dktX1_token_4 : List UInt8 := dkwX1_token_4 ++ dktX1_token_5
def dkwX1_token_3 : List UInt8 := [180, 0, 19, 162, 0, 43, 42, 42, 180, 0, 15, 182, 0, 29, 27, 160, 0, 31, 27, 157, 0, 14, 42]
abbrev dktX1_token_3 : List UInt8 := dkwX1_token_3 ++ dktX1_token_4
def dkwX1_token_2 : List UInt8 := [180, 0, 15, 181, 0, 26, 42, 42, 180, 0, 15, 182, 0, 29, 60, 42, 180, 0, 15, 42, 180, 0, 3]
abbrev dktX1_token_2 : List UInt8 := dkwX1_token_2 ++ dktX1_token_3
def dkwX1_token_1 : List UInt8 := [180, 0, 15, 51, 16, 32, 160, 0, 16, 42, 89, 180, 0, 15, 4, 96, 181, 0, 15, 167, 255, 215, 42, 42]
abbrev dktX1_token_1 : List UInt8 := dkwX1_token_1 ++ dktX1_token_2
def dkwX1_token_0 : List UInt8 := [42, 180, 0, 15, 42, 180, 0, 3, 180, 0, 19, 162, 0, 33, 42, 180, 0, 3, 180, 0, 22, 42]
abbrev dktX1_token_0 : List UInt8 := dkwX1_token_0 ++ dktX1_token_1
theorem dksX1_token_0 : cX1_token.data.toList.drop 0 = dktX1_token_0 := by decide +kernel
theorem dksX1_token_1 : cX1_token.data.toList.drop 22 = dktX1_token_1 := dk_seg dksX1_token_0 22 rfl rfl
theorem dksX1_token_2 : cX1_token.data.toList.drop 46 = dktX1_token_2 := dk_seg dksX1_token_1 24 rfl rfl
theorem dksX1_token_3 : cX1_token.data.toList.drop 69 = dktX1_token_3 := dk_seg dksX1_token_2 23 rfl rfl
theorem dksX1_token_4 : cX1_token.data.toList.drop 92 = dktX1_token_4 := dk_seg dksX1_token_3 23 rfl rfl
theorem dksX1_token_5 : cX1_token.data.toList.drop 116 = dktX1_token_5 := dk_seg dksX1_token_4 24 rfl rfl
theorem dX1_token_0 : decode cX1_token 0 = .ok (.aload_n 0, 1) := dk_42 (dk_at dksX1_token_0 0 rfl rfl)
theorem dX1_token_1 : decode cX1_token 1 = .ok (.getfield 15, 3) := dk_180 0 15 (dk_at dksX1_token_0 1 rfl rfl)
theorem dX1_token_4 : decode cX1_token 4 = .ok (.aload_n 0, 1) := dk_42 (dk_at dksX1_token_0 4 rfl rfl)
theorem dX1_token_5 : decode cX1_token 5 = .ok (.getfield 3, 3) := dk_180 0 3 (dk_at dksX1_token_0 5 rfl rfl)
theorem dX1_token_8 : decode cX1_token 8 = .ok (.getfield 19, 3) := dk_180 0 19 (dk_at dksX1_token_0 8 rfl rfl)
theorem dX1_token_11 : decode cX1_token 11 = .ok (.if_icmp .ge 33, 3) := dk_162 0 33 (dk_at dksX1_token_0 11 rfl rfl)
theorem dX1_token_14 : decode cX1_token 14 = .ok (.aload_n 0, 1) := dk_42 (dk_at dksX1_token_0 14 rfl rfl)
theorem dX1_token_15 : decode cX1_token 15 = .ok (.getfield 3, 3) := dk_180 0 3 (dk_at dksX1_token_0 15 rfl rfl)
theorem dX1_token_18 : decode cX1_token 18 = .ok (.getfield 22, 3) := dk_180 0 22 (dk_at dksX1_token_0 18 rfl rfl)
theorem dX1_token_21 : decode cX1_token 21 = .ok (.aload_n 0, 1) := dk_42 (dk_at dksX1_token_0 21 rfl rfl)
theorem dX1_token_22 : decode cX1_token 22 = .ok (.getfield 15, 3) := dk_180 0 15 (dk_at dksX1_token_1 0 rfl rfl)
theorem dX1_token_25 : decode cX1_token 25 = .ok (.baload, 1) := dk_51 (dk_at dksX1_token_1 3 rfl rfl)
theorem dX1_token_26 : decode cX1_token 26 = .ok (.bipush 32, 2) := dk_16 32 (dk_at dksX1_token_1 4 rfl rfl)
theorem dX1_token_28 : decode cX1_token 28 = .ok (.if_icmp .ne 16, 3) := dk_160 0 16 (dk_at dksX1_token_1 6 rfl rfl)
theorem dX1_token_31 : decode cX1_token 31 = .ok (.aload_n 0, 1) := dk_42 (dk_at dksX1_token_1 9 rfl rfl)
theorem dX1_token_32 : decode cX1_token 32 = .ok (.dup, 1) := dk_89 (dk_at dksX1_token_1 10 rfl rfl)
theorem dX1_token_33 : decode cX1_token 33 = .ok (.getfield 15, 3) := dk_180 0 15 (dk_at dksX1_token_1 11 rfl rfl)
theorem dX1_token_36 : decode cX1_token 36 = .ok (.iconst 1, 1) := dk_4 (dk_at dksX1_token_1 14 rfl rfl)
theorem dX1_token_37 : decode cX1_token 37 = .ok (.iadd, 1) := dk_96 (dk_at dksX1_token_1 15 rfl rfl)
theorem dX1_token_38 : decode cX1_token 38 = .ok (.putfield 15, 3) := dk_181 0 15 (dk_at dksX1_token_1 16 rfl rfl)
theorem dX1_token_41 : decode cX1_token 41 = .ok (.goto (-41), 3) := dk_167 255 215 (dk_at dksX1_token_1 19 rfl rfl)
theorem dX1_token_44 : decode cX1_token 44 = .ok (.aload_n 0, 1) := dk_42 (dk_at dksX1_token_1 22 rfl rfl)
theorem dX1_token_45 : decode cX1_token 45 = .ok (.aload_n 0, 1) := dk_42 (dk_at dksX1_token_1 23 rfl rfl)
theorem dX1_token_46 : decode cX1_token 46 = .ok (.getfield 15, 3) := dk_180 0 15 (dk_at dksX1_token_2 0 rfl rfl)
theorem dX1_token_49 : decode cX1_token 49 = .ok (.putfield 26, 3) := dk_181 0 26 (dk_at dksX1_token_2 3 rfl rfl)
theorem dX1_token_52 : decode cX1_token 52 = .ok (.aload_n 0, 1) := dk_42 (dk_at dksX1_token_2 6 rfl rfl)
theorem dX1_token_53 : decode cX1_token 53 = .ok (.aload_n 0, 1) := dk_42 (dk_at dksX1_token_2 7 rfl rfl)
theorem dX1_token_54 : decode cX1_token 54 = .ok (.getfield 15, 3) := dk_180 0 15 (dk_at dksX1_token_2 8 rfl rfl)
theorem dX1_token_57 : decode cX1_token 57 = .ok (.invokevirtual 29, 3) := dk_182 0 29 (dk_at dksX1_token_2 11 rfl rfl)
theorem dX1_token_60 : decode cX1_token 60 = .ok (.istore_n 1, 1) := dk_60 (dk_at dksX1_token_2 14 rfl rfl)
theorem dX1_token_61 : decode cX1_token 61 = .ok (.aload_n 0, 1) := dk_42 (dk_at dksX1_token_2 15 rfl rfl)
theorem dX1_token_62 : decode cX1_token 62 = .ok (.getfield 15, 3) := dk_180 0 15 (dk_at dksX1_token_2 16 rfl rfl)
theorem dX1_token_65 : decode cX1_token 65 = .ok (.aload_n 0, 1) := dk_42 (dk_at dksX1_token_2 19 rfl rfl)
theorem dX1_token_66 : decode cX1_token 66 = .ok (.getfield 3, 3) := dk_180 0 3 (dk_at dksX1_token_2 20 rfl rfl)
theorem dX1_token_69 : decode cX1_token 69 = .ok (.getfield 19, 3) := dk_180 0 19 (dk_at dksX1_token_3 0 rfl rfl)
theorem dX1_token_72 : decode cX1_token 72 = .ok (.if_icmp .ge 43, 3) := dk_162 0 43 (dk_at dksX1_token_3 3 rfl rfl)
theorem dX1_token_75 : decode cX1_token 75 = .ok (.aload_n 0, 1) := dk_42 (dk_at dksX1_token_3 6 rfl rfl)
theorem dX1_token_76 : decode cX1_token 76 = .ok (.aload_n 0, 1) := dk_42 (dk_at dksX1_token_3 7 rfl rfl)
theorem dX1_token_77 : decode cX1_token 77 = .ok (.getfield 15, 3) := dk_180 0 15 (dk_at dksX1_token_3 8 rfl rfl)
theorem dX1_token_80 : decode cX1_token 80 = .ok (.invokevirtual 29, 3) := dk_182 0 29 (dk_at dksX1_token_3 11 rfl rfl)
theorem dX1_token_83 : decode cX1_token 83 = .ok (.iload_n 1, 1) := dk_27 (dk_at dksX1_token_3 14 rfl rfl)
theorem dX1_token_84 : decode cX1_token 84 = .ok (.if_icmp .ne 31, 3) := dk_160 0 31 (dk_at dksX1_token_3 15 rfl rfl)
theorem dX1_token_87 : decode cX1_token 87 = .ok (.iload_n 1, 1) := dk_27 (dk_at dksX1_token_3 18 rfl rfl)
theorem dX1_token_88 : decode cX1_token 88 = .ok (.ifCond .gt 14, 3) := dk_157 0 14 (dk_at dksX1_token_3 19 rfl rfl)
theorem dX1_token_91 : decode cX1_token 91 = .ok (.aload_n 0, 1) := dk_42 (dk_at dksX1_token_3 22 rfl rfl)
theorem dX1_token_92 : decode cX1_token 92 = .ok (.getfield 15, 3) := dk_180 0 15 (dk_at dksX1_token_4 0 rfl rfl)
theorem dX1_token_95 : decode cX1_token 95 = .ok (.aload_n 0, 1) := dk_42 (dk_at dksX1_token_4 3 rfl rfl)
theorem dX1_token_96 : decode cX1_token 96 = .ok (.getfield 26, 3) := dk_180 0 26 (dk_at dksX1_token_4 4 rfl rfl)
theorem dX1_token_99 : decode cX1_token 99 = .ok (.if_icmp .ne 16, 3) := dk_160 0 16 (dk_at dksX1_token_4 7 rfl rfl)
theorem dX1_token_102 : decode cX1_token 102 = .ok (.aload_n 0, 1) := dk_42 (dk_at dksX1_token_4 10 rfl rfl)
theorem dX1_token_103 : decode cX1_token 103 = .ok (.dup, 1) := dk_89 (dk_at dksX1_token_4 11 rfl rfl)
theorem dX1_token_104 : decode cX1_token 104 = .ok (.getfield 15, 3) := dk_180 0 15 (dk_at dksX1_token_4 12 rfl rfl)
theorem dX1_token_107 : decode cX1_token 107 = .ok (.iconst 1, 1) := dk_4 (dk_at dksX1_token_4 15 rfl rfl)
theorem dX1_token_108 : decode cX1_token 108 = .ok (.iadd, 1) := dk_96 (dk_at dksX1_token_4 16 rfl rfl)
theorem dX1_token_109 : decode cX1_token 109 = .ok (.putfield 15, 3) := dk_181 0 15 (dk_at dksX1_token_4 17 rfl rfl)
theorem dX1_token_112 : decode cX1_token 112 = .ok (.goto (-51), 3) := dk_167 255 205 (dk_at dksX1_token_4 20 rfl rfl)
theorem dX1_token_115 : decode cX1_token 115 = .ok (.aload_n 0, 1) := dk_42 (dk_at dksX1_token_4 23 rfl rfl)
theorem dX1_token_116 : decode cX1_token 116 = .ok (.aload_n 0, 1) := dk_42 (dk_at dksX1_token_5 0 rfl rfl)
theorem dX1_token_117 : decode cX1_token 117 = .ok (.getfield 15, 3) := dk_180 0 15 (dk_at dksX1_token_5 1 rfl rfl)
theorem dX1_token_120 : decode cX1_token 120 = .ok (.putfield 33, 3) := dk_181 0 33 (dk_at dksX1_token_5 4 rfl rfl)
theorem dX1_token_123 : decode cX1_token 123 = .ok (.return_, 1) := dk_177 (dk_at dksX1_token_5 7 rfl rfl)
abbrev cX1_kindAt : ByteArray := prog_9_method_3_code
def yX1_kindAt : MethodName := ⟨RX1, "kindAt", "(I)I"⟩
def dkwX1_kindAt_2 : List UInt8 := [27, 51, 133, 20, 0, 44, 20, 0, 46, 184, 0, 40, 153, 0, 7, 5, 167, 0, 4, 3, 172]
abbrev dktX1_kindAt_2 : List UInt8 := dkwX1_kindAt_2 ++ []
def dkwX1_kindAt_1 : List UInt8 := [133, 20, 0, 36, 20, 0, 38, 184, 0, 40, 153, 0, 7, 4, 167, 0, 30, 42, 180, 0, 3, 180, 0, 22]
abbrev dktX1_kindAt_1 : List UInt8 := dkwX1_kindAt_1 ++ dktX1_kindAt_2
def dkwX1_kindAt_0 : List UInt8 := [27, 42, 180, 0, 3, 180, 0, 19, 161, 0, 7, 3, 167, 0, 56, 42, 180, 0, 3, 180, 0, 22, 27, 51]
abbrev dktX1_kindAt_0 : List UInt8 := dkwX1_kindAt_0 ++ dktX1_kindAt_1
theorem dksX1_kindAt_0 : cX1_kindAt.data.toList.drop 0 = dktX1_kindAt_0 := by decide +kernel
theorem dksX1_kindAt_1 : cX1_kindAt.data.toList.drop 24 = dktX1_kindAt_1 := dk_seg dksX1_kindAt_0 24 rfl rfl
theorem dksX1_kindAt_2 : cX1_kindAt.data.toList.drop 48 = dktX1_kindAt_2 := dk_seg dksX1_kindAt_1 24 rfl rfl
theorem dX1_kindAt_0 : decode cX1_kindAt 0 = .ok (.iload_n 1, 1) := dk_27 (dk_at dksX1_kindAt_0 0 rfl rfl)
theorem dX1_kindAt_1 : decode cX1_kindAt 1 = .ok (.aload_n 0, 1) := dk_42 (dk_at dksX1_kindAt_0 1 rfl rfl)
theorem dX1_kindAt_2 : decode cX1_kindAt 2 = .ok (.getfield 3, 3) := dk_180 0 3 (dk_at dksX1_kindAt_0 2 rfl rfl)
theorem dX1_kindAt_5 : decode cX1_kindAt 5 = .ok (.getfield 19, 3) := dk_180 0 19 (dk_at dksX1_kindAt_0 5 rfl rfl)
theorem dX1_kindAt_8 : decode cX1_kindAt 8 = .ok (.if_icmp .lt 7, 3) := dk_161 0 7 (dk_at dksX1_kindAt_0 8 rfl rfl)
theorem dX1_kindAt_11 : decode cX1_kindAt 11 = .ok (.iconst 0, 1) := dk_3 (dk_at dksX1_kindAt_0 11 rfl rfl)
theorem dX1_kindAt_12 : decode cX1_kindAt 12 = .ok (.goto 56, 3) := dk_167 0 56 (dk_at dksX1_kindAt_0 12 rfl rfl)
theorem dX1_kindAt_15 : decode cX1_kindAt 15 = .ok (.aload_n 0, 1) := dk_42 (dk_at dksX1_kindAt_0 15 rfl rfl)
theorem dX1_kindAt_16 : decode cX1_kindAt 16 = .ok (.getfield 3, 3) := dk_180 0 3 (dk_at dksX1_kindAt_0 16 rfl rfl)
theorem dX1_kindAt_19 : decode cX1_kindAt 19 = .ok (.getfield 22, 3) := dk_180 0 22 (dk_at dksX1_kindAt_0 19 rfl rfl)
theorem dX1_kindAt_22 : decode cX1_kindAt 22 = .ok (.iload_n 1, 1) := dk_27 (dk_at dksX1_kindAt_0 22 rfl rfl)
theorem dX1_kindAt_23 : decode cX1_kindAt 23 = .ok (.baload, 1) := dk_51 (dk_at dksX1_kindAt_0 23 rfl rfl)
theorem dX1_kindAt_24 : decode cX1_kindAt 24 = .ok (.i2l, 1) := dk_133 (dk_at dksX1_kindAt_1 0 rfl rfl)
theorem dX1_kindAt_25 : decode cX1_kindAt 25 = .ok (.ldc2_w 36, 3) := dk_20 0 36 (dk_at dksX1_kindAt_1 1 rfl rfl)
theorem dX1_kindAt_28 : decode cX1_kindAt 28 = .ok (.ldc2_w 38, 3) := dk_20 0 38 (dk_at dksX1_kindAt_1 4 rfl rfl)
theorem dX1_kindAt_31 : decode cX1_kindAt 31 = .ok (.invokestatic 40, 3) := dk_184 0 40 (dk_at dksX1_kindAt_1 7 rfl rfl)
theorem dX1_kindAt_34 : decode cX1_kindAt 34 = .ok (.ifCond .eq 7, 3) := dk_153 0 7 (dk_at dksX1_kindAt_1 10 rfl rfl)
theorem dX1_kindAt_37 : decode cX1_kindAt 37 = .ok (.iconst 1, 1) := dk_4 (dk_at dksX1_kindAt_1 13 rfl rfl)
theorem dX1_kindAt_38 : decode cX1_kindAt 38 = .ok (.goto 30, 3) := dk_167 0 30 (dk_at dksX1_kindAt_1 14 rfl rfl)
theorem dX1_kindAt_41 : decode cX1_kindAt 41 = .ok (.aload_n 0, 1) := dk_42 (dk_at dksX1_kindAt_1 17 rfl rfl)
theorem dX1_kindAt_42 : decode cX1_kindAt 42 = .ok (.getfield 3, 3) := dk_180 0 3 (dk_at dksX1_kindAt_1 18 rfl rfl)
theorem dX1_kindAt_45 : decode cX1_kindAt 45 = .ok (.getfield 22, 3) := dk_180 0 22 (dk_at dksX1_kindAt_1 21 rfl rfl)
theorem dX1_kindAt_48 : decode cX1_kindAt 48 = .ok (.iload_n 1, 1) := dk_27 (dk_at dksX1_kindAt_2 0 rfl rfl)
theorem dX1_kindAt_49 : decode cX1_kindAt 49 = .ok (.baload, 1) := dk_51 (dk_at dksX1_kindAt_2 1 rfl rfl)
theorem dX1_kindAt_50 : decode cX1_kindAt 50 = .ok (.i2l, 1) := dk_133 (dk_at dksX1_kindAt_2 2 rfl rfl)
theorem dX1_kindAt_51 : decode cX1_kindAt 51 = .ok (.ldc2_w 44, 3) := dk_20 0 44 (dk_at dksX1_kindAt_2 3 rfl rfl)
theorem dX1_kindAt_54 : decode cX1_kindAt 54 = .ok (.ldc2_w 46, 3) := dk_20 0 46 (dk_at dksX1_kindAt_2 6 rfl rfl)
theorem dX1_kindAt_57 : decode cX1_kindAt 57 = .ok (.invokestatic 40, 3) := dk_184 0 40 (dk_at dksX1_kindAt_2 9 rfl rfl)
theorem dX1_kindAt_60 : decode cX1_kindAt 60 = .ok (.ifCond .eq 7, 3) := dk_153 0 7 (dk_at dksX1_kindAt_2 12 rfl rfl)
theorem dX1_kindAt_63 : decode cX1_kindAt 63 = .ok (.iconst 2, 1) := dk_5 (dk_at dksX1_kindAt_2 15 rfl rfl)
theorem dX1_kindAt_64 : decode cX1_kindAt 64 = .ok (.goto 4, 3) := dk_167 0 4 (dk_at dksX1_kindAt_2 16 rfl rfl)
theorem dX1_kindAt_67 : decode cX1_kindAt 67 = .ok (.iconst 0, 1) := dk_3 (dk_at dksX1_kindAt_2 19 rfl rfl)
theorem dX1_kindAt_68 : decode cX1_kindAt 68 = .ok (.ireturn, 1) := dk_172 (dk_at dksX1_kindAt_2 20 rfl rfl)
abbrev cX1_numberBehind : ByteArray := prog_9_method_10_code
def yX1_numberBehind : MethodName := ⟨RX1, "numberBehind", "(Ljava/lang/String;II)I"⟩
def dkwX1_numberBehind_0 : List UInt8 := [42, 43, 182, 0, 77, 42, 28, 29, 182, 0, 81, 172]
abbrev dktX1_numberBehind_0 : List UInt8 := dkwX1_numberBehind_0 ++ []
theorem dksX1_numberBehind_0 : cX1_numberBehind.data.toList.drop 0 = dktX1_numberBehind_0 := by decide +kernel
theorem dX1_numberBehind_0 : decode cX1_numberBehind 0 = .ok (.aload_n 0, 1) := dk_42 (dk_at dksX1_numberBehind_0 0 rfl rfl)
theorem dX1_numberBehind_1 : decode cX1_numberBehind 1 = .ok (.aload_n 1, 1) := dk_43 (dk_at dksX1_numberBehind_0 1 rfl rfl)
theorem dX1_numberBehind_2 : decode cX1_numberBehind 2 = .ok (.invokevirtual 77, 3) := dk_182 0 77 (dk_at dksX1_numberBehind_0 2 rfl rfl)
theorem dX1_numberBehind_5 : decode cX1_numberBehind 5 = .ok (.aload_n 0, 1) := dk_42 (dk_at dksX1_numberBehind_0 5 rfl rfl)
theorem dX1_numberBehind_6 : decode cX1_numberBehind 6 = .ok (.iload_n 2, 1) := dk_28 (dk_at dksX1_numberBehind_0 6 rfl rfl)
theorem dX1_numberBehind_7 : decode cX1_numberBehind 7 = .ok (.iload_n 3, 1) := dk_29 (dk_at dksX1_numberBehind_0 7 rfl rfl)
theorem dX1_numberBehind_8 : decode cX1_numberBehind 8 = .ok (.invokevirtual 81, 3) := dk_182 0 81 (dk_at dksX1_numberBehind_0 8 rfl rfl)
theorem dX1_numberBehind_11 : decode cX1_numberBehind 11 = .ok (.ireturn, 1) := dk_172 (dk_at dksX1_numberBehind_0 11 rfl rfl)
abbrev cX1_word : ByteArray := prog_9_method_6_code
def yX1_word : MethodName := ⟨RX1, "word", "(Ljava/lang/String;)V"⟩
def dkwX1_word_0 : List UInt8 := [42, 42, 43, 182, 0, 62, 4, 182, 0, 66, 42, 182, 0, 70, 177]
abbrev dktX1_word_0 : List UInt8 := dkwX1_word_0 ++ []
theorem dksX1_word_0 : cX1_word.data.toList.drop 0 = dktX1_word_0 := by decide +kernel
theorem dX1_word_0 : decode cX1_word 0 = .ok (.aload_n 0, 1) := dk_42 (dk_at dksX1_word_0 0 rfl rfl)
theorem dX1_word_1 : decode cX1_word 1 = .ok (.aload_n 0, 1) := dk_42 (dk_at dksX1_word_0 1 rfl rfl)
theorem dX1_word_2 : decode cX1_word 2 = .ok (.aload_n 1, 1) := dk_43 (dk_at dksX1_word_0 2 rfl rfl)
theorem dX1_word_3 : decode cX1_word 3 = .ok (.invokevirtual 62, 3) := dk_182 0 62 (dk_at dksX1_word_0 3 rfl rfl)
theorem dX1_word_6 : decode cX1_word 6 = .ok (.iconst 1, 1) := dk_4 (dk_at dksX1_word_0 6 rfl rfl)
theorem dX1_word_7 : decode cX1_word 7 = .ok (.invokevirtual 66, 3) := dk_182 0 66 (dk_at dksX1_word_0 7 rfl rfl)
theorem dX1_word_10 : decode cX1_word 10 = .ok (.aload_n 0, 1) := dk_42 (dk_at dksX1_word_0 10 rfl rfl)
theorem dX1_word_11 : decode cX1_word 11 = .ok (.invokevirtual 70, 3) := dk_182 0 70 (dk_at dksX1_word_0 11 rfl rfl)
theorem dX1_word_14 : decode cX1_word 14 = .ok (.return_, 1) := dk_177 (dk_at dksX1_word_0 14 rfl rfl)
abbrev cX1_isWord : ByteArray := prog_9_method_4_code
def yX1_isWord : MethodName := ⟨RX1, "isWord", "(Ljava/lang/String;)Z"⟩
def dkwX1_isWord_2 : List UInt8 := [96, 51, 43, 29, 182, 0, 53, 160, 0, 7, 4, 167, 0, 4, 3, 61, 132, 3, 1, 167, 255, 213, 28, 172]
abbrev dktX1_isWord_2 : List UInt8 := dkwX1_isWord_2 ++ []
def dkwX1_isWord_1 : List UInt8 := [28, 153, 0, 45, 29, 43, 182, 0, 48, 162, 0, 37, 42, 180, 0, 3, 180, 0, 22, 42, 180, 0, 26, 29]
abbrev dktX1_isWord_1 : List UInt8 := dkwX1_isWord_1 ++ dktX1_isWord_2
def dkwX1_isWord_0 : List UInt8 := [42, 180, 0, 33, 42, 180, 0, 26, 100, 43, 182, 0, 48, 160, 0, 7, 4, 167, 0, 4, 3, 61, 3, 62]
abbrev dktX1_isWord_0 : List UInt8 := dkwX1_isWord_0 ++ dktX1_isWord_1
theorem dksX1_isWord_0 : cX1_isWord.data.toList.drop 0 = dktX1_isWord_0 := by decide +kernel
theorem dksX1_isWord_1 : cX1_isWord.data.toList.drop 24 = dktX1_isWord_1 := dk_seg dksX1_isWord_0 24 rfl rfl
theorem dksX1_isWord_2 : cX1_isWord.data.toList.drop 48 = dktX1_isWord_2 := dk_seg dksX1_isWord_1 24 rfl rfl
theorem dX1_isWord_0 : decode cX1_isWord 0 = .ok (.aload_n 0, 1) := dk_42 (dk_at dksX1_isWord_0 0 rfl rfl)
theorem dX1_isWord_1 : decode cX1_isWord 1 = .ok (.getfield 33, 3) := dk_180 0 33 (dk_at dksX1_isWord_0 1 rfl rfl)
theorem dX1_isWord_4 : decode cX1_isWord 4 = .ok (.aload_n 0, 1) := dk_42 (dk_at dksX1_isWord_0 4 rfl rfl)
theorem dX1_isWord_5 : decode cX1_isWord 5 = .ok (.getfield 26, 3) := dk_180 0 26 (dk_at dksX1_isWord_0 5 rfl rfl)
theorem dX1_isWord_8 : decode cX1_isWord 8 = .ok (.isub, 1) := dk_100 (dk_at dksX1_isWord_0 8 rfl rfl)
theorem dX1_isWord_9 : decode cX1_isWord 9 = .ok (.aload_n 1, 1) := dk_43 (dk_at dksX1_isWord_0 9 rfl rfl)
theorem dX1_isWord_10 : decode cX1_isWord 10 = .ok (.invokevirtual 48, 3) := dk_182 0 48 (dk_at dksX1_isWord_0 10 rfl rfl)
theorem dX1_isWord_13 : decode cX1_isWord 13 = .ok (.if_icmp .ne 7, 3) := dk_160 0 7 (dk_at dksX1_isWord_0 13 rfl rfl)
theorem dX1_isWord_16 : decode cX1_isWord 16 = .ok (.iconst 1, 1) := dk_4 (dk_at dksX1_isWord_0 16 rfl rfl)
theorem dX1_isWord_17 : decode cX1_isWord 17 = .ok (.goto 4, 3) := dk_167 0 4 (dk_at dksX1_isWord_0 17 rfl rfl)
theorem dX1_isWord_20 : decode cX1_isWord 20 = .ok (.iconst 0, 1) := dk_3 (dk_at dksX1_isWord_0 20 rfl rfl)
theorem dX1_isWord_21 : decode cX1_isWord 21 = .ok (.istore_n 2, 1) := dk_61 (dk_at dksX1_isWord_0 21 rfl rfl)
theorem dX1_isWord_22 : decode cX1_isWord 22 = .ok (.iconst 0, 1) := dk_3 (dk_at dksX1_isWord_0 22 rfl rfl)
theorem dX1_isWord_23 : decode cX1_isWord 23 = .ok (.istore_n 3, 1) := dk_62 (dk_at dksX1_isWord_0 23 rfl rfl)
theorem dX1_isWord_24 : decode cX1_isWord 24 = .ok (.iload_n 2, 1) := dk_28 (dk_at dksX1_isWord_1 0 rfl rfl)
theorem dX1_isWord_25 : decode cX1_isWord 25 = .ok (.ifCond .eq 45, 3) := dk_153 0 45 (dk_at dksX1_isWord_1 1 rfl rfl)
theorem dX1_isWord_28 : decode cX1_isWord 28 = .ok (.iload_n 3, 1) := dk_29 (dk_at dksX1_isWord_1 4 rfl rfl)
theorem dX1_isWord_29 : decode cX1_isWord 29 = .ok (.aload_n 1, 1) := dk_43 (dk_at dksX1_isWord_1 5 rfl rfl)
theorem dX1_isWord_30 : decode cX1_isWord 30 = .ok (.invokevirtual 48, 3) := dk_182 0 48 (dk_at dksX1_isWord_1 6 rfl rfl)
theorem dX1_isWord_33 : decode cX1_isWord 33 = .ok (.if_icmp .ge 37, 3) := dk_162 0 37 (dk_at dksX1_isWord_1 9 rfl rfl)
theorem dX1_isWord_36 : decode cX1_isWord 36 = .ok (.aload_n 0, 1) := dk_42 (dk_at dksX1_isWord_1 12 rfl rfl)
theorem dX1_isWord_37 : decode cX1_isWord 37 = .ok (.getfield 3, 3) := dk_180 0 3 (dk_at dksX1_isWord_1 13 rfl rfl)
theorem dX1_isWord_40 : decode cX1_isWord 40 = .ok (.getfield 22, 3) := dk_180 0 22 (dk_at dksX1_isWord_1 16 rfl rfl)
theorem dX1_isWord_43 : decode cX1_isWord 43 = .ok (.aload_n 0, 1) := dk_42 (dk_at dksX1_isWord_1 19 rfl rfl)
theorem dX1_isWord_44 : decode cX1_isWord 44 = .ok (.getfield 26, 3) := dk_180 0 26 (dk_at dksX1_isWord_1 20 rfl rfl)
theorem dX1_isWord_47 : decode cX1_isWord 47 = .ok (.iload_n 3, 1) := dk_29 (dk_at dksX1_isWord_1 23 rfl rfl)
theorem dX1_isWord_48 : decode cX1_isWord 48 = .ok (.iadd, 1) := dk_96 (dk_at dksX1_isWord_2 0 rfl rfl)
theorem dX1_isWord_49 : decode cX1_isWord 49 = .ok (.baload, 1) := dk_51 (dk_at dksX1_isWord_2 1 rfl rfl)
theorem dX1_isWord_50 : decode cX1_isWord 50 = .ok (.aload_n 1, 1) := dk_43 (dk_at dksX1_isWord_2 2 rfl rfl)
theorem dX1_isWord_51 : decode cX1_isWord 51 = .ok (.iload_n 3, 1) := dk_29 (dk_at dksX1_isWord_2 3 rfl rfl)
theorem dX1_isWord_52 : decode cX1_isWord 52 = .ok (.invokevirtual 53, 3) := dk_182 0 53 (dk_at dksX1_isWord_2 4 rfl rfl)
theorem dX1_isWord_55 : decode cX1_isWord 55 = .ok (.if_icmp .ne 7, 3) := dk_160 0 7 (dk_at dksX1_isWord_2 7 rfl rfl)
theorem dX1_isWord_58 : decode cX1_isWord 58 = .ok (.iconst 1, 1) := dk_4 (dk_at dksX1_isWord_2 10 rfl rfl)
theorem dX1_isWord_59 : decode cX1_isWord 59 = .ok (.goto 4, 3) := dk_167 0 4 (dk_at dksX1_isWord_2 11 rfl rfl)
theorem dX1_isWord_62 : decode cX1_isWord 62 = .ok (.iconst 0, 1) := dk_3 (dk_at dksX1_isWord_2 14 rfl rfl)
theorem dX1_isWord_63 : decode cX1_isWord 63 = .ok (.istore_n 2, 1) := dk_61 (dk_at dksX1_isWord_2 15 rfl rfl)
theorem dX1_isWord_64 : decode cX1_isWord 64 = .ok (.iinc 3 1, 3) := dk_132 3 1 (dk_at dksX1_isWord_2 16 rfl rfl)
theorem dX1_isWord_67 : decode cX1_isWord 67 = .ok (.goto (-43), 3) := dk_167 255 213 (dk_at dksX1_isWord_2 19 rfl rfl)
theorem dX1_isWord_70 : decode cX1_isWord 70 = .ok (.iload_n 2, 1) := dk_28 (dk_at dksX1_isWord_2 22 rfl rfl)
theorem dX1_isWord_71 : decode cX1_isWord 71 = .ok (.ireturn, 1) := dk_172 (dk_at dksX1_isWord_2 23 rfl rfl)
abbrev cX1_need : ByteArray := prog_9_method_5_code
def yX1_need : MethodName := ⟨RX1, "need", "(ZI)V"⟩
def dkwX1_need_0 : List UInt8 := [27, 154, 0, 16, 187, 0, 57, 89, 42, 180, 0, 26, 28, 183, 0, 59, 191, 177]
abbrev dktX1_need_0 : List UInt8 := dkwX1_need_0 ++ []
theorem dksX1_need_0 : cX1_need.data.toList.drop 0 = dktX1_need_0 := by decide +kernel
theorem dX1_need_0 : decode cX1_need 0 = .ok (.iload_n 1, 1) := dk_27 (dk_at dksX1_need_0 0 rfl rfl)
theorem dX1_need_1 : decode cX1_need 1 = .ok (.ifCond .ne 16, 3) := dk_154 0 16 (dk_at dksX1_need_0 1 rfl rfl)
theorem dX1_need_4 : decode cX1_need 4 = .ok (.new 57, 3) := dk_187 0 57 (dk_at dksX1_need_0 4 rfl rfl)
theorem dX1_need_7 : decode cX1_need 7 = .ok (.dup, 1) := dk_89 (dk_at dksX1_need_0 7 rfl rfl)
theorem dX1_need_8 : decode cX1_need 8 = .ok (.aload_n 0, 1) := dk_42 (dk_at dksX1_need_0 8 rfl rfl)
theorem dX1_need_9 : decode cX1_need 9 = .ok (.getfield 26, 3) := dk_180 0 26 (dk_at dksX1_need_0 9 rfl rfl)
theorem dX1_need_12 : decode cX1_need 12 = .ok (.iload_n 2, 1) := dk_28 (dk_at dksX1_need_0 12 rfl rfl)
theorem dX1_need_13 : decode cX1_need 13 = .ok (.invokespecial 59, 3) := dk_183 0 59 (dk_at dksX1_need_0 13 rfl rfl)
theorem dX1_need_16 : decode cX1_need 16 = .ok (.athrow, 1) := dk_191 (dk_at dksX1_need_0 16 rfl rfl)
theorem dX1_need_17 : decode cX1_need 17 = .ok (.return_, 1) := dk_177 (dk_at dksX1_need_0 17 rfl rfl)
abbrev cX1_number : ByteArray := prog_9_method_9_code
def yX1_number : MethodName := ⟨RX1, "number", "(II)I"⟩
def dkwX1_number_5 : List UInt8 := [42, 182, 0, 70, 29, 172]
abbrev dktX1_number_5 : List UInt8 := dkwX1_number_5 ++ []
def dkwX1_number_4 : List UInt8 := [153, 0, 19, 29, 133, 27, 133, 28, 133, 184, 0, 40, 153, 0, 7, 4, 167, 0, 4, 3, 5, 182, 0, 66]
abbrev dktX1_number_4 : List UInt8 := dkwX1_number_4 ++ dktX1_number_5
def dkwX1_number_3 : List UInt8 := [42, 180, 0, 3, 180, 0, 22, 21, 5, 51, 96, 16, 48, 100, 62, 132, 5, 1, 167, 255, 220, 42, 21, 4]
abbrev dktX1_number_3 : List UInt8 := dkwX1_number_3 ++ dktX1_number_4
def dkwX1_number_2 : List UInt8 := [42, 180, 0, 26, 54, 5, 21, 4, 153, 0, 37, 21, 5, 42, 180, 0, 33, 162, 0, 28, 16, 10, 29, 104]
abbrev dktX1_number_2 : List UInt8 := dkwX1_number_2 ++ dktX1_number_3
def dkwX1_number_1 : List UInt8 := [5, 160, 0, 20, 42, 180, 0, 33, 42, 180, 0, 26, 100, 5, 163, 0, 7, 4, 167, 0, 4, 3, 54, 4]
abbrev dktX1_number_1 : List UInt8 := dkwX1_number_1 ++ dktX1_number_2
def dkwX1_number_0 : List UInt8 := [3, 62, 42, 180, 0, 26, 42, 180, 0, 3, 180, 0, 19, 162, 0, 32, 42, 42, 180, 0, 26, 182, 0, 29]
abbrev dktX1_number_0 : List UInt8 := dkwX1_number_0 ++ dktX1_number_1
theorem dksX1_number_0 : cX1_number.data.toList.drop 0 = dktX1_number_0 := by decide +kernel
theorem dksX1_number_1 : cX1_number.data.toList.drop 24 = dktX1_number_1 := dk_seg dksX1_number_0 24 rfl rfl
theorem dksX1_number_2 : cX1_number.data.toList.drop 48 = dktX1_number_2 := dk_seg dksX1_number_1 24 rfl rfl
theorem dksX1_number_3 : cX1_number.data.toList.drop 72 = dktX1_number_3 := dk_seg dksX1_number_2 24 rfl rfl
theorem dksX1_number_4 : cX1_number.data.toList.drop 96 = dktX1_number_4 := dk_seg dksX1_number_3 24 rfl rfl
theorem dksX1_number_5 : cX1_number.data.toList.drop 120 = dktX1_number_5 := dk_seg dksX1_number_4 24 rfl rfl
theorem dX1_number_0 : decode cX1_number 0 = .ok (.iconst 0, 1) := dk_3 (dk_at dksX1_number_0 0 rfl rfl)
theorem dX1_number_1 : decode cX1_number 1 = .ok (.istore_n 3, 1) := dk_62 (dk_at dksX1_number_0 1 rfl rfl)
theorem dX1_number_2 : decode cX1_number 2 = .ok (.aload_n 0, 1) := dk_42 (dk_at dksX1_number_0 2 rfl rfl)
theorem dX1_number_3 : decode cX1_number 3 = .ok (.getfield 26, 3) := dk_180 0 26 (dk_at dksX1_number_0 3 rfl rfl)
theorem dX1_number_6 : decode cX1_number 6 = .ok (.aload_n 0, 1) := dk_42 (dk_at dksX1_number_0 6 rfl rfl)
theorem dX1_number_7 : decode cX1_number 7 = .ok (.getfield 3, 3) := dk_180 0 3 (dk_at dksX1_number_0 7 rfl rfl)
theorem dX1_number_10 : decode cX1_number 10 = .ok (.getfield 19, 3) := dk_180 0 19 (dk_at dksX1_number_0 10 rfl rfl)
theorem dX1_number_13 : decode cX1_number 13 = .ok (.if_icmp .ge 32, 3) := dk_162 0 32 (dk_at dksX1_number_0 13 rfl rfl)
theorem dX1_number_16 : decode cX1_number 16 = .ok (.aload_n 0, 1) := dk_42 (dk_at dksX1_number_0 16 rfl rfl)
theorem dX1_number_17 : decode cX1_number 17 = .ok (.aload_n 0, 1) := dk_42 (dk_at dksX1_number_0 17 rfl rfl)
theorem dX1_number_18 : decode cX1_number 18 = .ok (.getfield 26, 3) := dk_180 0 26 (dk_at dksX1_number_0 18 rfl rfl)
theorem dX1_number_21 : decode cX1_number 21 = .ok (.invokevirtual 29, 3) := dk_182 0 29 (dk_at dksX1_number_0 21 rfl rfl)
theorem dX1_number_24 : decode cX1_number 24 = .ok (.iconst 2, 1) := dk_5 (dk_at dksX1_number_1 0 rfl rfl)
theorem dX1_number_25 : decode cX1_number 25 = .ok (.if_icmp .ne 20, 3) := dk_160 0 20 (dk_at dksX1_number_1 1 rfl rfl)
theorem dX1_number_28 : decode cX1_number 28 = .ok (.aload_n 0, 1) := dk_42 (dk_at dksX1_number_1 4 rfl rfl)
theorem dX1_number_29 : decode cX1_number 29 = .ok (.getfield 33, 3) := dk_180 0 33 (dk_at dksX1_number_1 5 rfl rfl)
theorem dX1_number_32 : decode cX1_number 32 = .ok (.aload_n 0, 1) := dk_42 (dk_at dksX1_number_1 8 rfl rfl)
theorem dX1_number_33 : decode cX1_number 33 = .ok (.getfield 26, 3) := dk_180 0 26 (dk_at dksX1_number_1 9 rfl rfl)
theorem dX1_number_36 : decode cX1_number 36 = .ok (.isub, 1) := dk_100 (dk_at dksX1_number_1 12 rfl rfl)
theorem dX1_number_37 : decode cX1_number 37 = .ok (.iconst 2, 1) := dk_5 (dk_at dksX1_number_1 13 rfl rfl)
theorem dX1_number_38 : decode cX1_number 38 = .ok (.if_icmp .gt 7, 3) := dk_163 0 7 (dk_at dksX1_number_1 14 rfl rfl)
theorem dX1_number_41 : decode cX1_number 41 = .ok (.iconst 1, 1) := dk_4 (dk_at dksX1_number_1 17 rfl rfl)
theorem dX1_number_42 : decode cX1_number 42 = .ok (.goto 4, 3) := dk_167 0 4 (dk_at dksX1_number_1 18 rfl rfl)
theorem dX1_number_45 : decode cX1_number 45 = .ok (.iconst 0, 1) := dk_3 (dk_at dksX1_number_1 21 rfl rfl)
theorem dX1_number_46 : decode cX1_number 46 = .ok (.istore 4, 2) := dk_54 4 (dk_at dksX1_number_1 22 rfl rfl)
theorem dX1_number_48 : decode cX1_number 48 = .ok (.aload_n 0, 1) := dk_42 (dk_at dksX1_number_2 0 rfl rfl)
theorem dX1_number_49 : decode cX1_number 49 = .ok (.getfield 26, 3) := dk_180 0 26 (dk_at dksX1_number_2 1 rfl rfl)
theorem dX1_number_52 : decode cX1_number 52 = .ok (.istore 5, 2) := dk_54 5 (dk_at dksX1_number_2 4 rfl rfl)
theorem dX1_number_54 : decode cX1_number 54 = .ok (.iload 4, 2) := dk_21 4 (dk_at dksX1_number_2 6 rfl rfl)
theorem dX1_number_56 : decode cX1_number 56 = .ok (.ifCond .eq 37, 3) := dk_153 0 37 (dk_at dksX1_number_2 8 rfl rfl)
theorem dX1_number_59 : decode cX1_number 59 = .ok (.iload 5, 2) := dk_21 5 (dk_at dksX1_number_2 11 rfl rfl)
theorem dX1_number_61 : decode cX1_number 61 = .ok (.aload_n 0, 1) := dk_42 (dk_at dksX1_number_2 13 rfl rfl)
theorem dX1_number_62 : decode cX1_number 62 = .ok (.getfield 33, 3) := dk_180 0 33 (dk_at dksX1_number_2 14 rfl rfl)
theorem dX1_number_65 : decode cX1_number 65 = .ok (.if_icmp .ge 28, 3) := dk_162 0 28 (dk_at dksX1_number_2 17 rfl rfl)
theorem dX1_number_68 : decode cX1_number 68 = .ok (.bipush 10, 2) := dk_16 10 (dk_at dksX1_number_2 20 rfl rfl)
theorem dX1_number_70 : decode cX1_number 70 = .ok (.iload_n 3, 1) := dk_29 (dk_at dksX1_number_2 22 rfl rfl)
theorem dX1_number_71 : decode cX1_number 71 = .ok (.imul, 1) := dk_104 (dk_at dksX1_number_2 23 rfl rfl)
theorem dX1_number_72 : decode cX1_number 72 = .ok (.aload_n 0, 1) := dk_42 (dk_at dksX1_number_3 0 rfl rfl)
theorem dX1_number_73 : decode cX1_number 73 = .ok (.getfield 3, 3) := dk_180 0 3 (dk_at dksX1_number_3 1 rfl rfl)
theorem dX1_number_76 : decode cX1_number 76 = .ok (.getfield 22, 3) := dk_180 0 22 (dk_at dksX1_number_3 4 rfl rfl)
theorem dX1_number_79 : decode cX1_number 79 = .ok (.iload 5, 2) := dk_21 5 (dk_at dksX1_number_3 7 rfl rfl)
theorem dX1_number_81 : decode cX1_number 81 = .ok (.baload, 1) := dk_51 (dk_at dksX1_number_3 9 rfl rfl)
theorem dX1_number_82 : decode cX1_number 82 = .ok (.iadd, 1) := dk_96 (dk_at dksX1_number_3 10 rfl rfl)
theorem dX1_number_83 : decode cX1_number 83 = .ok (.bipush 48, 2) := dk_16 48 (dk_at dksX1_number_3 11 rfl rfl)
theorem dX1_number_85 : decode cX1_number 85 = .ok (.isub, 1) := dk_100 (dk_at dksX1_number_3 13 rfl rfl)
theorem dX1_number_86 : decode cX1_number 86 = .ok (.istore_n 3, 1) := dk_62 (dk_at dksX1_number_3 14 rfl rfl)
theorem dX1_number_87 : decode cX1_number 87 = .ok (.iinc 5 1, 3) := dk_132 5 1 (dk_at dksX1_number_3 15 rfl rfl)
theorem dX1_number_90 : decode cX1_number 90 = .ok (.goto (-36), 3) := dk_167 255 220 (dk_at dksX1_number_3 18 rfl rfl)
theorem dX1_number_93 : decode cX1_number 93 = .ok (.aload_n 0, 1) := dk_42 (dk_at dksX1_number_3 21 rfl rfl)
theorem dX1_number_94 : decode cX1_number 94 = .ok (.iload 4, 2) := dk_21 4 (dk_at dksX1_number_3 22 rfl rfl)
theorem dX1_number_96 : decode cX1_number 96 = .ok (.ifCond .eq 19, 3) := dk_153 0 19 (dk_at dksX1_number_4 0 rfl rfl)
theorem dX1_number_99 : decode cX1_number 99 = .ok (.iload_n 3, 1) := dk_29 (dk_at dksX1_number_4 3 rfl rfl)
theorem dX1_number_100 : decode cX1_number 100 = .ok (.i2l, 1) := dk_133 (dk_at dksX1_number_4 4 rfl rfl)
theorem dX1_number_101 : decode cX1_number 101 = .ok (.iload_n 1, 1) := dk_27 (dk_at dksX1_number_4 5 rfl rfl)
theorem dX1_number_102 : decode cX1_number 102 = .ok (.i2l, 1) := dk_133 (dk_at dksX1_number_4 6 rfl rfl)
theorem dX1_number_103 : decode cX1_number 103 = .ok (.iload_n 2, 1) := dk_28 (dk_at dksX1_number_4 7 rfl rfl)
theorem dX1_number_104 : decode cX1_number 104 = .ok (.i2l, 1) := dk_133 (dk_at dksX1_number_4 8 rfl rfl)
theorem dX1_number_105 : decode cX1_number 105 = .ok (.invokestatic 40, 3) := dk_184 0 40 (dk_at dksX1_number_4 9 rfl rfl)
theorem dX1_number_108 : decode cX1_number 108 = .ok (.ifCond .eq 7, 3) := dk_153 0 7 (dk_at dksX1_number_4 12 rfl rfl)
theorem dX1_number_111 : decode cX1_number 111 = .ok (.iconst 1, 1) := dk_4 (dk_at dksX1_number_4 15 rfl rfl)
theorem dX1_number_112 : decode cX1_number 112 = .ok (.goto 4, 3) := dk_167 0 4 (dk_at dksX1_number_4 16 rfl rfl)
theorem dX1_number_115 : decode cX1_number 115 = .ok (.iconst 0, 1) := dk_3 (dk_at dksX1_number_4 19 rfl rfl)
theorem dX1_number_116 : decode cX1_number 116 = .ok (.iconst 2, 1) := dk_5 (dk_at dksX1_number_4 20 rfl rfl)
theorem dX1_number_117 : decode cX1_number 117 = .ok (.invokevirtual 66, 3) := dk_182 0 66 (dk_at dksX1_number_4 21 rfl rfl)
theorem dX1_number_120 : decode cX1_number 120 = .ok (.aload_n 0, 1) := dk_42 (dk_at dksX1_number_5 0 rfl rfl)
theorem dX1_number_121 : decode cX1_number 121 = .ok (.invokevirtual 70, 3) := dk_182 0 70 (dk_at dksX1_number_5 1 rfl rfl)
theorem dX1_number_124 : decode cX1_number 124 = .ok (.iload_n 3, 1) := dk_29 (dk_at dksX1_number_5 4 rfl rfl)
theorem dX1_number_125 : decode cX1_number 125 = .ok (.ireturn, 1) := dk_172 (dk_at dksX1_number_5 5 rfl rfl)
abbrev cX1_sign : ByteArray := prog_9_method_8_code
def yX1_sign : MethodName := ⟨RX1, "sign", "(C)V"⟩
def dkwX1_sign_0 : List UInt8 := [42, 42, 27, 182, 0, 73, 7, 182, 0, 66, 42, 182, 0, 70, 177]
abbrev dktX1_sign_0 : List UInt8 := dkwX1_sign_0 ++ []
theorem dksX1_sign_0 : cX1_sign.data.toList.drop 0 = dktX1_sign_0 := by decide +kernel
theorem dX1_sign_0 : decode cX1_sign 0 = .ok (.aload_n 0, 1) := dk_42 (dk_at dksX1_sign_0 0 rfl rfl)
theorem dX1_sign_1 : decode cX1_sign 1 = .ok (.aload_n 0, 1) := dk_42 (dk_at dksX1_sign_0 1 rfl rfl)
theorem dX1_sign_2 : decode cX1_sign 2 = .ok (.iload_n 1, 1) := dk_27 (dk_at dksX1_sign_0 2 rfl rfl)
theorem dX1_sign_3 : decode cX1_sign 3 = .ok (.invokevirtual 73, 3) := dk_182 0 73 (dk_at dksX1_sign_0 3 rfl rfl)
theorem dX1_sign_6 : decode cX1_sign 6 = .ok (.iconst 4, 1) := dk_7 (dk_at dksX1_sign_0 6 rfl rfl)
theorem dX1_sign_7 : decode cX1_sign 7 = .ok (.invokevirtual 66, 3) := dk_182 0 66 (dk_at dksX1_sign_0 7 rfl rfl)
theorem dX1_sign_10 : decode cX1_sign 10 = .ok (.aload_n 0, 1) := dk_42 (dk_at dksX1_sign_0 10 rfl rfl)
theorem dX1_sign_11 : decode cX1_sign 11 = .ok (.invokevirtual 70, 3) := dk_182 0 70 (dk_at dksX1_sign_0 11 rfl rfl)
theorem dX1_sign_14 : decode cX1_sign 14 = .ok (.return_, 1) := dk_177 (dk_at dksX1_sign_0 14 rfl rfl)
abbrev cX1_isSign : ByteArray := prog_9_method_7_code
def yX1_isSign : MethodName := ⟨RX1, "isSign", "(C)Z"⟩
def dkwX1_isSign_2 : List UInt8 := [172]
abbrev dktX1_isSign_2 : List UInt8 := dkwX1_isSign_2 ++ []
def dkwX1_isSign_1 : List UInt8 := [160, 0, 23, 42, 180, 0, 3, 180, 0, 22, 42, 180, 0, 26, 51, 27, 160, 0, 7, 4, 167, 0, 4, 3]
abbrev dktX1_isSign_1 : List UInt8 := dkwX1_isSign_1 ++ dktX1_isSign_2
def dkwX1_isSign_0 : List UInt8 := [42, 180, 0, 26, 42, 180, 0, 3, 180, 0, 19, 162, 0, 36, 42, 180, 0, 33, 42, 180, 0, 26, 100, 4]
abbrev dktX1_isSign_0 : List UInt8 := dkwX1_isSign_0 ++ dktX1_isSign_1
theorem dksX1_isSign_0 : cX1_isSign.data.toList.drop 0 = dktX1_isSign_0 := by decide +kernel
theorem dksX1_isSign_1 : cX1_isSign.data.toList.drop 24 = dktX1_isSign_1 := dk_seg dksX1_isSign_0 24 rfl rfl
theorem dksX1_isSign_2 : cX1_isSign.data.toList.drop 48 = dktX1_isSign_2 := dk_seg dksX1_isSign_1 24 rfl rfl
theorem dX1_isSign_0 : decode cX1_isSign 0 = .ok (.aload_n 0, 1) := dk_42 (dk_at dksX1_isSign_0 0 rfl rfl)
theorem dX1_isSign_1 : decode cX1_isSign 1 = .ok (.getfield 26, 3) := dk_180 0 26 (dk_at dksX1_isSign_0 1 rfl rfl)
theorem dX1_isSign_4 : decode cX1_isSign 4 = .ok (.aload_n 0, 1) := dk_42 (dk_at dksX1_isSign_0 4 rfl rfl)
theorem dX1_isSign_5 : decode cX1_isSign 5 = .ok (.getfield 3, 3) := dk_180 0 3 (dk_at dksX1_isSign_0 5 rfl rfl)
theorem dX1_isSign_8 : decode cX1_isSign 8 = .ok (.getfield 19, 3) := dk_180 0 19 (dk_at dksX1_isSign_0 8 rfl rfl)
theorem dX1_isSign_11 : decode cX1_isSign 11 = .ok (.if_icmp .ge 36, 3) := dk_162 0 36 (dk_at dksX1_isSign_0 11 rfl rfl)
theorem dX1_isSign_14 : decode cX1_isSign 14 = .ok (.aload_n 0, 1) := dk_42 (dk_at dksX1_isSign_0 14 rfl rfl)
theorem dX1_isSign_15 : decode cX1_isSign 15 = .ok (.getfield 33, 3) := dk_180 0 33 (dk_at dksX1_isSign_0 15 rfl rfl)
theorem dX1_isSign_18 : decode cX1_isSign 18 = .ok (.aload_n 0, 1) := dk_42 (dk_at dksX1_isSign_0 18 rfl rfl)
theorem dX1_isSign_19 : decode cX1_isSign 19 = .ok (.getfield 26, 3) := dk_180 0 26 (dk_at dksX1_isSign_0 19 rfl rfl)
theorem dX1_isSign_22 : decode cX1_isSign 22 = .ok (.isub, 1) := dk_100 (dk_at dksX1_isSign_0 22 rfl rfl)
theorem dX1_isSign_23 : decode cX1_isSign 23 = .ok (.iconst 1, 1) := dk_4 (dk_at dksX1_isSign_0 23 rfl rfl)
theorem dX1_isSign_24 : decode cX1_isSign 24 = .ok (.if_icmp .ne 23, 3) := dk_160 0 23 (dk_at dksX1_isSign_1 0 rfl rfl)
theorem dX1_isSign_27 : decode cX1_isSign 27 = .ok (.aload_n 0, 1) := dk_42 (dk_at dksX1_isSign_1 3 rfl rfl)
theorem dX1_isSign_28 : decode cX1_isSign 28 = .ok (.getfield 3, 3) := dk_180 0 3 (dk_at dksX1_isSign_1 4 rfl rfl)
theorem dX1_isSign_31 : decode cX1_isSign 31 = .ok (.getfield 22, 3) := dk_180 0 22 (dk_at dksX1_isSign_1 7 rfl rfl)
theorem dX1_isSign_34 : decode cX1_isSign 34 = .ok (.aload_n 0, 1) := dk_42 (dk_at dksX1_isSign_1 10 rfl rfl)
theorem dX1_isSign_35 : decode cX1_isSign 35 = .ok (.getfield 26, 3) := dk_180 0 26 (dk_at dksX1_isSign_1 11 rfl rfl)
theorem dX1_isSign_38 : decode cX1_isSign 38 = .ok (.baload, 1) := dk_51 (dk_at dksX1_isSign_1 14 rfl rfl)
theorem dX1_isSign_39 : decode cX1_isSign 39 = .ok (.iload_n 1, 1) := dk_27 (dk_at dksX1_isSign_1 15 rfl rfl)
theorem dX1_isSign_40 : decode cX1_isSign 40 = .ok (.if_icmp .ne 7, 3) := dk_160 0 7 (dk_at dksX1_isSign_1 16 rfl rfl)
theorem dX1_isSign_43 : decode cX1_isSign 43 = .ok (.iconst 1, 1) := dk_4 (dk_at dksX1_isSign_1 19 rfl rfl)
theorem dX1_isSign_44 : decode cX1_isSign 44 = .ok (.goto 4, 3) := dk_167 0 4 (dk_at dksX1_isSign_1 20 rfl rfl)
theorem dX1_isSign_47 : decode cX1_isSign 47 = .ok (.iconst 0, 1) := dk_3 (dk_at dksX1_isSign_1 23 rfl rfl)
theorem dX1_isSign_48 : decode cX1_isSign 48 = .ok (.ireturn, 1) := dk_172 (dk_at dksX1_isSign_2 0 rfl rfl)
abbrev cX1_step : ByteArray := prog_9_method_11_code
def yX1_step : MethodName := ⟨RX1, "step", "()LSharedNights$Look;"⟩
def dkwX1_step_2 : List UInt8 := [89, 27, 28, 29, 21, 4, 183, 0, 99, 176]
abbrev dktX1_step_2 : List UInt8 := dkwX1_step_2 ++ []
def dkwX1_step_1 : List UInt8 := [182, 0, 87, 62, 42, 18, 95, 182, 0, 62, 54, 4, 21, 4, 153, 0, 7, 42, 182, 0, 70, 187, 0, 97]
abbrev dktX1_step_1 : List UInt8 := dkwX1_step_1 ++ dktX1_step_2
def dkwX1_step_0 : List UInt8 := [42, 18, 85, 4, 7, 182, 0, 87, 60, 42, 18, 91, 3, 6, 182, 0, 87, 61, 42, 18, 93, 3, 16, 8]
abbrev dktX1_step_0 : List UInt8 := dkwX1_step_0 ++ dktX1_step_1
theorem dksX1_step_0 : cX1_step.data.toList.drop 0 = dktX1_step_0 := by decide +kernel
theorem dksX1_step_1 : cX1_step.data.toList.drop 24 = dktX1_step_1 := dk_seg dksX1_step_0 24 rfl rfl
theorem dksX1_step_2 : cX1_step.data.toList.drop 48 = dktX1_step_2 := dk_seg dksX1_step_1 24 rfl rfl
theorem dX1_step_0 : decode cX1_step 0 = .ok (.aload_n 0, 1) := dk_42 (dk_at dksX1_step_0 0 rfl rfl)
theorem dX1_step_1 : decode cX1_step 1 = .ok (.ldc 85, 2) := dk_18 85 (dk_at dksX1_step_0 1 rfl rfl)
theorem dX1_step_3 : decode cX1_step 3 = .ok (.iconst 1, 1) := dk_4 (dk_at dksX1_step_0 3 rfl rfl)
theorem dX1_step_4 : decode cX1_step 4 = .ok (.iconst 4, 1) := dk_7 (dk_at dksX1_step_0 4 rfl rfl)
theorem dX1_step_5 : decode cX1_step 5 = .ok (.invokevirtual 87, 3) := dk_182 0 87 (dk_at dksX1_step_0 5 rfl rfl)
theorem dX1_step_8 : decode cX1_step 8 = .ok (.istore_n 1, 1) := dk_60 (dk_at dksX1_step_0 8 rfl rfl)
theorem dX1_step_9 : decode cX1_step 9 = .ok (.aload_n 0, 1) := dk_42 (dk_at dksX1_step_0 9 rfl rfl)
theorem dX1_step_10 : decode cX1_step 10 = .ok (.ldc 91, 2) := dk_18 91 (dk_at dksX1_step_0 10 rfl rfl)
theorem dX1_step_12 : decode cX1_step 12 = .ok (.iconst 0, 1) := dk_3 (dk_at dksX1_step_0 12 rfl rfl)
theorem dX1_step_13 : decode cX1_step 13 = .ok (.iconst 3, 1) := dk_6 (dk_at dksX1_step_0 13 rfl rfl)
theorem dX1_step_14 : decode cX1_step 14 = .ok (.invokevirtual 87, 3) := dk_182 0 87 (dk_at dksX1_step_0 14 rfl rfl)
theorem dX1_step_17 : decode cX1_step 17 = .ok (.istore_n 2, 1) := dk_61 (dk_at dksX1_step_0 17 rfl rfl)
theorem dX1_step_18 : decode cX1_step 18 = .ok (.aload_n 0, 1) := dk_42 (dk_at dksX1_step_0 18 rfl rfl)
theorem dX1_step_19 : decode cX1_step 19 = .ok (.ldc 93, 2) := dk_18 93 (dk_at dksX1_step_0 19 rfl rfl)
theorem dX1_step_21 : decode cX1_step 21 = .ok (.iconst 0, 1) := dk_3 (dk_at dksX1_step_0 21 rfl rfl)
theorem dX1_step_22 : decode cX1_step 22 = .ok (.bipush 8, 2) := dk_16 8 (dk_at dksX1_step_0 22 rfl rfl)
theorem dX1_step_24 : decode cX1_step 24 = .ok (.invokevirtual 87, 3) := dk_182 0 87 (dk_at dksX1_step_1 0 rfl rfl)
theorem dX1_step_27 : decode cX1_step 27 = .ok (.istore_n 3, 1) := dk_62 (dk_at dksX1_step_1 3 rfl rfl)
theorem dX1_step_28 : decode cX1_step 28 = .ok (.aload_n 0, 1) := dk_42 (dk_at dksX1_step_1 4 rfl rfl)
theorem dX1_step_29 : decode cX1_step 29 = .ok (.ldc 95, 2) := dk_18 95 (dk_at dksX1_step_1 5 rfl rfl)
theorem dX1_step_31 : decode cX1_step 31 = .ok (.invokevirtual 62, 3) := dk_182 0 62 (dk_at dksX1_step_1 7 rfl rfl)
theorem dX1_step_34 : decode cX1_step 34 = .ok (.istore 4, 2) := dk_54 4 (dk_at dksX1_step_1 10 rfl rfl)
theorem dX1_step_36 : decode cX1_step 36 = .ok (.iload 4, 2) := dk_21 4 (dk_at dksX1_step_1 12 rfl rfl)
theorem dX1_step_38 : decode cX1_step 38 = .ok (.ifCond .eq 7, 3) := dk_153 0 7 (dk_at dksX1_step_1 14 rfl rfl)
theorem dX1_step_41 : decode cX1_step 41 = .ok (.aload_n 0, 1) := dk_42 (dk_at dksX1_step_1 17 rfl rfl)
theorem dX1_step_42 : decode cX1_step 42 = .ok (.invokevirtual 70, 3) := dk_182 0 70 (dk_at dksX1_step_1 18 rfl rfl)
theorem dX1_step_45 : decode cX1_step 45 = .ok (.new 97, 3) := dk_187 0 97 (dk_at dksX1_step_1 21 rfl rfl)
theorem dX1_step_48 : decode cX1_step 48 = .ok (.dup, 1) := dk_89 (dk_at dksX1_step_2 0 rfl rfl)
theorem dX1_step_49 : decode cX1_step 49 = .ok (.iload_n 1, 1) := dk_27 (dk_at dksX1_step_2 1 rfl rfl)
theorem dX1_step_50 : decode cX1_step 50 = .ok (.iload_n 2, 1) := dk_28 (dk_at dksX1_step_2 2 rfl rfl)
theorem dX1_step_51 : decode cX1_step 51 = .ok (.iload_n 3, 1) := dk_29 (dk_at dksX1_step_2 3 rfl rfl)
theorem dX1_step_52 : decode cX1_step 52 = .ok (.iload 4, 2) := dk_21 4 (dk_at dksX1_step_2 4 rfl rfl)
theorem dX1_step_54 : decode cX1_step 54 = .ok (.invokespecial 99, 3) := dk_183 0 99 (dk_at dksX1_step_2 6 rfl rfl)
theorem dX1_step_57 : decode cX1_step 57 = .ok (.areturn, 1) := dk_176 (dk_at dksX1_step_2 9 rfl rfl)
theorem q74 : (Jvm.Cond.initialized "SharedNights$Reader") ∈ lw_all := lw_g (lw_at lw_m1 2 rfl) rfl
theorem q112 : (Jvm.Cond.instantiable "SharedNights$Reader" (4 : Nat)) ∈ lw_all := lw_g (lw_at lw_m1 40 rfl) rfl
theorem q114 : (Jvm.Cond.instanceMethod ({ cls := "SharedNights$Reader", name := "<init>", desc := "(LSharedNights;)V" } : Jvm.MethodName)) ∈ lw_all := lw_g (lw_at lw_m1 42 rfl) rfl
theorem q115 : (Jvm.Cond.code ({ cls := "SharedNights$Reader", name := "<init>", desc := "(LSharedNights;)V" } : Jvm.MethodName) prog_9_method_1_code (2 : Nat) (Option.none : Option Jvm.ClassFile.FieldType)) ∈ lw_all := lw_g (lw_at lw_m1 43 rfl) rfl
theorem q116 : (Jvm.Cond.methodLink "SharedNights$Reader" (9 : Nat) ({ cls := "java/lang/Object", name := "<init>", desc := "()V" } : Jvm.MethodName)) ∈ lw_all := lw_g (lw_at lw_m1 44 rfl) rfl
theorem q117 : (Jvm.Cond.fieldLink "SharedNights$Reader" (15 : Nat) "SharedNights$Reader" "at" "I") ∈ lw_all := lw_g (lw_at lw_m1 45 rfl) rfl
theorem q118 : (Jvm.Cond.fieldLink "SharedNights$Reader" (26 : Nat) "SharedNights$Reader" "place" "I") ∈ lw_all := lw_g (lw_at lw_m1 46 rfl) rfl
theorem q119 : (Jvm.Cond.fieldLink "SharedNights$Reader" (33 : Nat) "SharedNights$Reader" "end" "I") ∈ lw_all := lw_g (lw_at lw_m1 47 rfl) rfl
theorem q120 : (Jvm.Cond.fieldLink "SharedNights$Reader" (3 : Nat) "SharedNights$Reader" "this$0" "LSharedNights;") ∈ lw_all := lw_g (lw_at lw_m1 48 rfl) rfl
theorem q121 : (Jvm.Cond.lays "SharedNights$Reader" "SharedNights$Reader" "at" "I") ∈ lw_all := lw_g (lw_at lw_m1 49 rfl) rfl
theorem q122 : (Jvm.Cond.soleField "SharedNights$Reader" "at") ∈ lw_all := lw_g (lw_at lw_m1 50 rfl) rfl
theorem q123 : (Jvm.Cond.lays "SharedNights$Reader" "SharedNights$Reader" "place" "I") ∈ lw_all := lw_g (lw_at lw_m1 51 rfl) rfl
theorem q124 : (Jvm.Cond.soleField "SharedNights$Reader" "place") ∈ lw_all := lw_g (lw_at lw_m1 52 rfl) rfl
theorem q125 : (Jvm.Cond.lays "SharedNights$Reader" "SharedNights$Reader" "end" "I") ∈ lw_all := lw_g (lw_at lw_m1 53 rfl) rfl
theorem q126 : (Jvm.Cond.soleField "SharedNights$Reader" "end") ∈ lw_all := lw_g (lw_at lw_m1 54 rfl) rfl
theorem q127 : (Jvm.Cond.laysFinal "SharedNights$Reader" "SharedNights$Reader" "this$0" "LSharedNights;") ∈ lw_all := lw_g (lw_at lw_m1 55 rfl) rfl
theorem q128 : (Jvm.Cond.soleField "SharedNights$Reader" "this$0") ∈ lw_all := lw_g (lw_at lw_m1 56 rfl) rfl
theorem q129 : (Jvm.Cond.superclass "SharedNights$Reader" "java/lang/Object") ∈ lw_all := lw_g (lw_at lw_m1 57 rfl) rfl
theorem q269 : (Jvm.Cond.fieldLinkNest "SharedNights$Reader" (117 : Nat) "SharedNights" "targetMany" "I" "SharedNights") ∈ lw_tbl := lw_at lw_m1 197 rfl
theorem q276 : (Jvm.Cond.fieldLinkNest "SharedNights$Reader" (22 : Nat) "SharedNights" "text" "[B" "SharedNights") ∈ lw_tbl := lw_at lw_m1 204 rfl
theorem q278 : (Jvm.Cond.fieldLinkNest "SharedNights$Reader" (19 : Nat) "SharedNights" "length" "I" "SharedNights") ∈ lw_tbl := lw_at lw_m1 206 rfl
theorem q455 : (Jvm.Cond.instanceMethod ({ cls := "SharedNights$Reader", name := "read", desc := "()LSharedNights$Plan;" } : Jvm.MethodName)) ∈ lw_all := lw_g (lw_at lw_m2 143 rfl) rfl
theorem q456 : (Jvm.Cond.selects "SharedNights$Reader" ({ cls := "SharedNights$Reader", name := "read", desc := "()LSharedNights$Plan;" } : Jvm.MethodName) ({ cls := "SharedNights$Reader", name := "read", desc := "()LSharedNights$Plan;" } : Jvm.MethodName)) ∈ lw_all := lw_g (lw_at lw_m2 144 rfl) rfl
theorem q457 : (Jvm.Cond.code ({ cls := "SharedNights$Reader", name := "read", desc := "()LSharedNights$Plan;" } : Jvm.MethodName) prog_9_method_12_code (6 : Nat) (Option.some (Jvm.ClassFile.FieldType.object "SharedNights$Plan"))) ∈ lw_all := lw_g (lw_at lw_m2 145 rfl) rfl
theorem q458 : (Jvm.Cond.classLink "SharedNights$Reader" (102 : Nat) "SharedNights$Plan") ∈ lw_all := lw_g (lw_at lw_m2 146 rfl) rfl
theorem q460 : (Jvm.Cond.methodLinkNest "SharedNights$Reader" (104 : Nat) ({ cls := "SharedNights$Plan", name := "<init>", desc := "(LSharedNights;)V" } : Jvm.MethodName) "SharedNights") ∈ lw_tbl := lw_at lw_m2 148 rfl
theorem q467 : (Jvm.Cond.fieldLinkNest "SharedNights$Reader" (109 : Nat) "SharedNights$Plan" "land" "I" "SharedNights") ∈ lw_tbl := lw_at lw_m2 155 rfl
theorem q472 : (Jvm.Cond.fieldLinkNest "SharedNights$Reader" (113 : Nat) "SharedNights$Plan" "instrument" "I" "SharedNights") ∈ lw_tbl := lw_at lw_m2 160 rfl
theorem q475 : (Jvm.Cond.fieldLinkNest "SharedNights$Reader" (120 : Nat) "SharedNights$Plan" "target" "I" "SharedNights") ∈ lw_tbl := lw_at lw_m2 163 rfl
theorem q480 : (Jvm.Cond.fieldLinkNest "SharedNights$Reader" (125 : Nat) "SharedNights$Plan" "worth" "I" "SharedNights") ∈ lw_tbl := lw_at lw_m2 168 rfl
theorem q484 : (Jvm.Cond.fieldLinkNest "SharedNights$Reader" (131 : Nat) "SharedNights$Plan" "steps" "[LSharedNights$Look;" "SharedNights") ∈ lw_tbl := lw_at lw_m2 172 rfl
theorem q487 : (Jvm.Cond.fieldLinkNest "SharedNights$Reader" (139 : Nat) "SharedNights$Plan" "stepMany" "I" "SharedNights") ∈ lw_tbl := lw_at lw_m2 175 rfl
theorem q514 : (Jvm.Cond.methodLink "SharedNights$Reader" (70 : Nat) ({ cls := "SharedNights$Reader", name := "token", desc := "()V" } : Jvm.MethodName)) ∈ lw_all := lw_g (lw_at lw_m2 202 rfl) rfl
theorem q515 : (Jvm.Cond.privateMethod ({ cls := "SharedNights$Reader", name := "token", desc := "()V" } : Jvm.MethodName)) ∈ lw_tbl := lw_at lw_m2 203 rfl
theorem q516 : (Jvm.Cond.instanceMethod ({ cls := "SharedNights$Reader", name := "token", desc := "()V" } : Jvm.MethodName)) ∈ lw_all := lw_g (lw_at lw_m2 204 rfl) rfl
theorem q517 : (Jvm.Cond.code ({ cls := "SharedNights$Reader", name := "token", desc := "()V" } : Jvm.MethodName) prog_9_method_2_code (2 : Nat) (Option.none : Option Jvm.ClassFile.FieldType)) ∈ lw_all := lw_g (lw_at lw_m2 205 rfl) rfl
theorem q518 : (Jvm.Cond.methodLink "SharedNights$Reader" (29 : Nat) ({ cls := "SharedNights$Reader", name := "kindAt", desc := "(I)I" } : Jvm.MethodName)) ∈ lw_all := lw_g (lw_at lw_m2 206 rfl) rfl
theorem q519 : (Jvm.Cond.privateMethod ({ cls := "SharedNights$Reader", name := "kindAt", desc := "(I)I" } : Jvm.MethodName)) ∈ lw_tbl := lw_at lw_m2 207 rfl
theorem q520 : (Jvm.Cond.instanceMethod ({ cls := "SharedNights$Reader", name := "kindAt", desc := "(I)I" } : Jvm.MethodName)) ∈ lw_all := lw_g (lw_at lw_m2 208 rfl) rfl
theorem q521 : (Jvm.Cond.code ({ cls := "SharedNights$Reader", name := "kindAt", desc := "(I)I" } : Jvm.MethodName) prog_9_method_3_code (2 : Nat) (Option.some Jvm.ClassFile.FieldType.int)) ∈ lw_all := lw_g (lw_at lw_m2 209 rfl) rfl
theorem q522 : (Jvm.Cond.constantLong "SharedNights$Reader" (36 : Nat) (97 : Int64)) ∈ lw_all := lw_g (lw_at lw_m2 210 rfl) rfl
theorem q523 : (Jvm.Cond.constantLong "SharedNights$Reader" (38 : Nat) (122 : Int64)) ∈ lw_all := lw_g (lw_at lw_m2 211 rfl) rfl
theorem q524 : (Jvm.Cond.methodLinkNest "SharedNights$Reader" (40 : Nat) ({ cls := "SharedNights", name := "isIn", desc := "(JJJ)Z" } : Jvm.MethodName) "SharedNights") ∈ lw_tbl := lw_at lw_m2 212 rfl
theorem q525 : (Jvm.Cond.constantLong "SharedNights$Reader" (44 : Nat) (48 : Int64)) ∈ lw_all := lw_g (lw_at lw_m2 213 rfl) rfl
theorem q526 : (Jvm.Cond.constantLong "SharedNights$Reader" (46 : Nat) (57 : Int64)) ∈ lw_all := lw_g (lw_at lw_m2 214 rfl) rfl
theorem q527 : (Jvm.Cond.stringRef "SharedNights$Reader" (107 : Nat) "land") ∈ lw_tbl := lw_at lw_m2 215 rfl
theorem q528 : (Jvm.Cond.methodLink "SharedNights$Reader" (87 : Nat) ({ cls := "SharedNights$Reader", name := "numberBehind", desc := "(Ljava/lang/String;II)I" } : Jvm.MethodName)) ∈ lw_all := lw_g (lw_at lw_m2 216 rfl) rfl
theorem q529 : (Jvm.Cond.privateMethod ({ cls := "SharedNights$Reader", name := "numberBehind", desc := "(Ljava/lang/String;II)I" } : Jvm.MethodName)) ∈ lw_tbl := lw_at lw_m2 217 rfl
theorem q530 : (Jvm.Cond.instanceMethod ({ cls := "SharedNights$Reader", name := "numberBehind", desc := "(Ljava/lang/String;II)I" } : Jvm.MethodName)) ∈ lw_all := lw_g (lw_at lw_m2 218 rfl) rfl
theorem q531 : (Jvm.Cond.code ({ cls := "SharedNights$Reader", name := "numberBehind", desc := "(Ljava/lang/String;II)I" } : Jvm.MethodName) prog_9_method_10_code (4 : Nat) (Option.some Jvm.ClassFile.FieldType.int)) ∈ lw_all := lw_g (lw_at lw_m2 219 rfl) rfl
theorem q532 : (Jvm.Cond.methodLink "SharedNights$Reader" (77 : Nat) ({ cls := "SharedNights$Reader", name := "word", desc := "(Ljava/lang/String;)V" } : Jvm.MethodName)) ∈ lw_all := lw_g (lw_at lw_m2 220 rfl) rfl
theorem q533 : (Jvm.Cond.privateMethod ({ cls := "SharedNights$Reader", name := "word", desc := "(Ljava/lang/String;)V" } : Jvm.MethodName)) ∈ lw_tbl := lw_at lw_m2 221 rfl
theorem q534 : (Jvm.Cond.instanceMethod ({ cls := "SharedNights$Reader", name := "word", desc := "(Ljava/lang/String;)V" } : Jvm.MethodName)) ∈ lw_all := lw_g (lw_at lw_m2 222 rfl) rfl
theorem q535 : (Jvm.Cond.code ({ cls := "SharedNights$Reader", name := "word", desc := "(Ljava/lang/String;)V" } : Jvm.MethodName) prog_9_method_6_code (2 : Nat) (Option.none : Option Jvm.ClassFile.FieldType)) ∈ lw_all := lw_g (lw_at lw_m2 223 rfl) rfl
theorem q536 : (Jvm.Cond.methodLink "SharedNights$Reader" (62 : Nat) ({ cls := "SharedNights$Reader", name := "isWord", desc := "(Ljava/lang/String;)Z" } : Jvm.MethodName)) ∈ lw_all := lw_g (lw_at lw_m2 224 rfl) rfl
theorem q537 : (Jvm.Cond.privateMethod ({ cls := "SharedNights$Reader", name := "isWord", desc := "(Ljava/lang/String;)Z" } : Jvm.MethodName)) ∈ lw_tbl := lw_at lw_m2 225 rfl
theorem q538 : (Jvm.Cond.instanceMethod ({ cls := "SharedNights$Reader", name := "isWord", desc := "(Ljava/lang/String;)Z" } : Jvm.MethodName)) ∈ lw_all := lw_g (lw_at lw_m2 226 rfl) rfl
theorem q539 : (Jvm.Cond.code ({ cls := "SharedNights$Reader", name := "isWord", desc := "(Ljava/lang/String;)Z" } : Jvm.MethodName) prog_9_method_4_code (4 : Nat) (Option.some Jvm.ClassFile.FieldType.boolean)) ∈ lw_all := lw_g (lw_at lw_m2 227 rfl) rfl
theorem q540 : (Jvm.Cond.methodLink "SharedNights$Reader" (48 : Nat) ({ cls := "java/lang/String", name := "length", desc := "()I" } : Jvm.MethodName)) ∈ lw_all := lw_g (lw_at lw_m2 228 rfl) rfl
theorem q550 : (Jvm.Cond.methodLink "SharedNights$Reader" (53 : Nat) ({ cls := "java/lang/String", name := "charAt", desc := "(I)C" } : Jvm.MethodName)) ∈ lw_all := lw_g (lw_at lw_m2 238 rfl) rfl
theorem q588 : (Jvm.Cond.methodLink "SharedNights$Reader" (66 : Nat) ({ cls := "SharedNights$Reader", name := "need", desc := "(ZI)V" } : Jvm.MethodName)) ∈ lw_all := lw_g (lw_at lw_m3 36 rfl) rfl
theorem q589 : (Jvm.Cond.privateMethod ({ cls := "SharedNights$Reader", name := "need", desc := "(ZI)V" } : Jvm.MethodName)) ∈ lw_tbl := lw_at lw_m3 37 rfl
theorem q590 : (Jvm.Cond.instanceMethod ({ cls := "SharedNights$Reader", name := "need", desc := "(ZI)V" } : Jvm.MethodName)) ∈ lw_all := lw_g (lw_at lw_m3 38 rfl) rfl
theorem q591 : (Jvm.Cond.code ({ cls := "SharedNights$Reader", name := "need", desc := "(ZI)V" } : Jvm.MethodName) prog_9_method_5_code (3 : Nat) (Option.none : Option Jvm.ClassFile.FieldType)) ∈ lw_all := lw_g (lw_at lw_m3 39 rfl) rfl
theorem q592 : (Jvm.Cond.classLink "SharedNights$Reader" (57 : Nat) "SharedNights$Fault") ∈ lw_all := lw_g (lw_at lw_m3 40 rfl) rfl
theorem q629 : (Jvm.Cond.methodLink "SharedNights$Reader" (59 : Nat) ({ cls := "SharedNights$Fault", name := "<init>", desc := "(II)V" } : Jvm.MethodName)) ∈ lw_all := lw_g (lw_at lw_m3 77 rfl) rfl
theorem q660 : (Jvm.Cond.methodLink "SharedNights$Reader" (81 : Nat) ({ cls := "SharedNights$Reader", name := "number", desc := "(II)I" } : Jvm.MethodName)) ∈ lw_all := lw_g (lw_at lw_m3 108 rfl) rfl
theorem q661 : (Jvm.Cond.privateMethod ({ cls := "SharedNights$Reader", name := "number", desc := "(II)I" } : Jvm.MethodName)) ∈ lw_tbl := lw_at lw_m3 109 rfl
theorem q662 : (Jvm.Cond.instanceMethod ({ cls := "SharedNights$Reader", name := "number", desc := "(II)I" } : Jvm.MethodName)) ∈ lw_all := lw_g (lw_at lw_m3 110 rfl) rfl
theorem q663 : (Jvm.Cond.code ({ cls := "SharedNights$Reader", name := "number", desc := "(II)I" } : Jvm.MethodName) prog_9_method_9_code (6 : Nat) (Option.some Jvm.ClassFile.FieldType.int)) ∈ lw_all := lw_g (lw_at lw_m3 111 rfl) rfl
theorem q664 : (Jvm.Cond.stringRef "SharedNights$Reader" (111 : Nat) "with") ∈ lw_tbl := lw_at lw_m3 112 rfl
theorem q665 : (Jvm.Cond.stringRef "SharedNights$Reader" (116 : Nat) "at") ∈ lw_tbl := lw_at lw_m3 113 rfl
theorem q666 : (Jvm.Cond.stringRef "SharedNights$Reader" (123 : Nat) "worth") ∈ lw_tbl := lw_at lw_m3 114 rfl
theorem q667 : (Jvm.Cond.methodLink "SharedNights$Reader" (127 : Nat) ({ cls := "SharedNights$Reader", name := "sign", desc := "(C)V" } : Jvm.MethodName)) ∈ lw_all := lw_g (lw_at lw_m3 115 rfl) rfl
theorem q668 : (Jvm.Cond.privateMethod ({ cls := "SharedNights$Reader", name := "sign", desc := "(C)V" } : Jvm.MethodName)) ∈ lw_tbl := lw_at lw_m3 116 rfl
theorem q669 : (Jvm.Cond.instanceMethod ({ cls := "SharedNights$Reader", name := "sign", desc := "(C)V" } : Jvm.MethodName)) ∈ lw_all := lw_g (lw_at lw_m3 117 rfl) rfl
theorem q670 : (Jvm.Cond.code ({ cls := "SharedNights$Reader", name := "sign", desc := "(C)V" } : Jvm.MethodName) prog_9_method_8_code (2 : Nat) (Option.none : Option Jvm.ClassFile.FieldType)) ∈ lw_all := lw_g (lw_at lw_m3 118 rfl) rfl
theorem q671 : (Jvm.Cond.methodLink "SharedNights$Reader" (73 : Nat) ({ cls := "SharedNights$Reader", name := "isSign", desc := "(C)Z" } : Jvm.MethodName)) ∈ lw_all := lw_g (lw_at lw_m3 119 rfl) rfl
theorem q672 : (Jvm.Cond.privateMethod ({ cls := "SharedNights$Reader", name := "isSign", desc := "(C)Z" } : Jvm.MethodName)) ∈ lw_tbl := lw_at lw_m3 120 rfl
theorem q673 : (Jvm.Cond.instanceMethod ({ cls := "SharedNights$Reader", name := "isSign", desc := "(C)Z" } : Jvm.MethodName)) ∈ lw_all := lw_g (lw_at lw_m3 121 rfl) rfl
theorem q674 : (Jvm.Cond.code ({ cls := "SharedNights$Reader", name := "isSign", desc := "(C)Z" } : Jvm.MethodName) prog_9_method_7_code (2 : Nat) (Option.some Jvm.ClassFile.FieldType.boolean)) ∈ lw_all := lw_g (lw_at lw_m3 122 rfl) rfl
theorem q675 : (Jvm.Cond.methodLink "SharedNights$Reader" (135 : Nat) ({ cls := "SharedNights$Reader", name := "step", desc := "()LSharedNights$Look;" } : Jvm.MethodName)) ∈ lw_all := lw_g (lw_at lw_m3 123 rfl) rfl
theorem q676 : (Jvm.Cond.privateMethod ({ cls := "SharedNights$Reader", name := "step", desc := "()LSharedNights$Look;" } : Jvm.MethodName)) ∈ lw_tbl := lw_at lw_m3 124 rfl
theorem q677 : (Jvm.Cond.instanceMethod ({ cls := "SharedNights$Reader", name := "step", desc := "()LSharedNights$Look;" } : Jvm.MethodName)) ∈ lw_all := lw_g (lw_at lw_m3 125 rfl) rfl
theorem q678 : (Jvm.Cond.code ({ cls := "SharedNights$Reader", name := "step", desc := "()LSharedNights$Look;" } : Jvm.MethodName) prog_9_method_11_code (5 : Nat) (Option.some (Jvm.ClassFile.FieldType.object "SharedNights$Look"))) ∈ lw_all := lw_g (lw_at lw_m3 126 rfl) rfl
theorem q679 : (Jvm.Cond.stringRef "SharedNights$Reader" (85 : Nat) "expose") ∈ lw_tbl := lw_at lw_m3 127 rfl
theorem q680 : (Jvm.Cond.stringRef "SharedNights$Reader" (91 : Nat) "seeing") ∈ lw_tbl := lw_at lw_m3 128 rfl
theorem q681 : (Jvm.Cond.stringRef "SharedNights$Reader" (93 : Nat) "air") ∈ lw_tbl := lw_at lw_m3 129 rfl
theorem q682 : (Jvm.Cond.stringRef "SharedNights$Reader" (95 : Nat) "dark") ∈ lw_tbl := lw_at lw_m3 130 rfl
theorem q683 : (Jvm.Cond.classLink "SharedNights$Reader" (97 : Nat) "SharedNights$Look") ∈ lw_all := lw_g (lw_at lw_m3 131 rfl) rfl
theorem q685 : (Jvm.Cond.methodLink "SharedNights$Reader" (99 : Nat) ({ cls := "SharedNights$Look", name := "<init>", desc := "(IIIZ)V" } : Jvm.MethodName)) ∈ lw_all := lw_g (lw_at lw_m3 133 rfl) rfl
theorem q700 : (Jvm.Cond.fieldLink "SharedNights$Reader" (142 : Nat) "SharedNights$Look" "isDark" "Z") ∈ lw_all := lw_g (lw_at lw_m3 148 rfl) rfl
theorem q710 : (Jvm.Cond.stringRef "SharedNights$Reader" (146 : Nat) "wait") ∈ lw_tbl := lw_at lw_m3 158 rfl
theorem q711 : (Jvm.Cond.stringRef "SharedNights$Reader" (148 : Nat) "to") ∈ lw_tbl := lw_at lw_m3 159 rfl
theorem q712 : (Jvm.Cond.classLink "SharedNights$Reader" (150 : Nat) "SharedNights$Later") ∈ lw_all := lw_g (lw_at lw_m3 160 rfl) rfl
theorem q714 : (Jvm.Cond.methodLink "SharedNights$Reader" (152 : Nat) ({ cls := "SharedNights$Later", name := "<init>", desc := "(LSharedNights$Look;II)V" } : Jvm.MethodName)) ∈ lw_all := lw_g (lw_at lw_m3 162 rfl) rfl
theorem in_X1 : ∀ w ∈ wsX10, w ∈ lw_all := lw_in wsX10 [121, 123, 125, 127] (by decide +kernel) (by decide +kernel)
/-! SharedNights$Night -/
set_option maxRecDepth 100000
def RX2 : String := "SharedNights$Night"
def TX2 : u_T := fun k => match k with
  | 0 => ("SharedNights$Night", "row", "[I", true)
  | 1 => ("SharedNights$Night", "best", "[I", true)
  | 2 => ("SharedNights$Night", "bestWorth", "I", false)
  | 3 => ("SharedNights$Night", "bestSlots", "I", false)
  | 4 => ("SharedNights$Night", "used", "[[I", true)
  | 5 => ("SharedNights$Night", "without", "I", false)
  | _ => ("SharedNights$Night", "this$0", "LSharedNights;", true)
def tyX2 : Nat → FieldType := fun k => match k with
  | 0 => .array .int
  | 1 => .array .int
  | 2 => .int
  | 3 => .int
  | 4 => .array (.array .int)
  | 5 => .int
  | _ => .object "SharedNights"
abbrev wsX20 : List Cond := u_ws RX2 TX2 7
theorem nmX2 : ∀ a, a < 7 → ∀ b, b < 7 → a ≠ b → (TX2 a).2.1 ≠ (TX2 b).2.1 := by decide +kernel
theorem tyX2_ok : ∀ k, k < 7 → parseFieldDescriptor (TX2 k).2.2.1 = some (tyX2 k) := by decide +kernel
abbrev cX2_init : ByteArray := prog_7_method_1_code
def yX2_init : MethodName := ⟨RX2, "<init>", "(LSharedNights;)V"⟩
def dkwX2_init_1 : List UInt8 := [16, 6, 6, 197, 0, 22, 2, 181, 0, 24, 177]
abbrev dktX2_init_1 : List UInt8 := dkwX2_init_1 ++ []
def dkwX2_init_0 : List UInt8 := [42, 43, 181, 0, 3, 42, 183, 0, 9, 42, 8, 188, 10, 181, 0, 15, 42, 8, 188, 10, 181, 0, 19, 42]
abbrev dktX2_init_0 : List UInt8 := dkwX2_init_0 ++ dktX2_init_1
theorem dksX2_init_0 : cX2_init.data.toList.drop 0 = dktX2_init_0 := by decide +kernel
theorem dksX2_init_1 : cX2_init.data.toList.drop 24 = dktX2_init_1 := dk_seg dksX2_init_0 24 rfl rfl
theorem dX2_init_0 : decode cX2_init 0 = .ok (.aload_n 0, 1) := dk_42 (dk_at dksX2_init_0 0 rfl rfl)
theorem dX2_init_1 : decode cX2_init 1 = .ok (.aload_n 1, 1) := dk_43 (dk_at dksX2_init_0 1 rfl rfl)
theorem dX2_init_2 : decode cX2_init 2 = .ok (.putfield 3, 3) := dk_181 0 3 (dk_at dksX2_init_0 2 rfl rfl)
theorem dX2_init_5 : decode cX2_init 5 = .ok (.aload_n 0, 1) := dk_42 (dk_at dksX2_init_0 5 rfl rfl)
theorem dX2_init_6 : decode cX2_init 6 = .ok (.invokespecial 9, 3) := dk_183 0 9 (dk_at dksX2_init_0 6 rfl rfl)
theorem dX2_init_9 : decode cX2_init 9 = .ok (.aload_n 0, 1) := dk_42 (dk_at dksX2_init_0 9 rfl rfl)
theorem dX2_init_10 : decode cX2_init 10 = .ok (.iconst 5, 1) := dk_8 (dk_at dksX2_init_0 10 rfl rfl)
theorem dX2_init_11 : decode cX2_init 11 = .ok (.newarray .int, 2) := dk_188_10 (dk_at dksX2_init_0 11 rfl rfl)
theorem dX2_init_13 : decode cX2_init 13 = .ok (.putfield 15, 3) := dk_181 0 15 (dk_at dksX2_init_0 13 rfl rfl)
theorem dX2_init_16 : decode cX2_init 16 = .ok (.aload_n 0, 1) := dk_42 (dk_at dksX2_init_0 16 rfl rfl)
theorem dX2_init_17 : decode cX2_init 17 = .ok (.iconst 5, 1) := dk_8 (dk_at dksX2_init_0 17 rfl rfl)
theorem dX2_init_18 : decode cX2_init 18 = .ok (.newarray .int, 2) := dk_188_10 (dk_at dksX2_init_0 18 rfl rfl)
theorem dX2_init_20 : decode cX2_init 20 = .ok (.putfield 19, 3) := dk_181 0 19 (dk_at dksX2_init_0 20 rfl rfl)
theorem dX2_init_23 : decode cX2_init 23 = .ok (.aload_n 0, 1) := dk_42 (dk_at dksX2_init_0 23 rfl rfl)
theorem dX2_init_24 : decode cX2_init 24 = .ok (.bipush 6, 2) := dk_16 6 (dk_at dksX2_init_1 0 rfl rfl)
theorem dX2_init_26 : decode cX2_init 26 = .ok (.iconst 3, 1) := dk_6 (dk_at dksX2_init_1 2 rfl rfl)
theorem dX2_init_27 : decode cX2_init 27 = .ok (.multianewarray 22 2, 4) := by decide +kernel
theorem dX2_init_31 : decode cX2_init 31 = .ok (.putfield 24, 3) := dk_181 0 24 (dk_at dksX2_init_1 7 rfl rfl)
theorem dX2_init_34 : decode cX2_init 34 = .ok (.return_, 1) := dk_177 (dk_at dksX2_init_1 10 rfl rfl)
abbrev cX2_run : ByteArray := prog_7_method_4_code
def yX2_run : MethodName := ⟨RX2, "run", "(III)V"⟩
def dkwX2_run_15 : List UInt8 := [132, 4, 1, 42, 180, 0, 15, 21, 4, 2, 79, 167, 255, 13, 177]
abbrev dktX2_run_15 : List UInt8 := dkwX2_run_15 ++ []
def dkwX2_run_14 : List UInt8 := [21, 4, 4, 96, 42, 180, 0, 3, 180, 0, 44, 160, 0, 13, 42, 21, 5, 27, 182, 0, 56, 167, 0, 14]
abbrev dktX2_run_14 : List UInt8 := dkwX2_run_14 ++ dktX2_run_15
def dkwX2_run_13 : List UInt8 := [180, 0, 47, 21, 4, 50, 180, 0, 79, 42, 180, 0, 15, 21, 4, 46, 46, 167, 0, 4, 3, 128, 79]
abbrev dktX2_run_13 : List UInt8 := dkwX2_run_13 ++ dktX2_run_14
def dkwX2_run_12 : List UInt8 := [180, 0, 3, 180, 0, 47, 21, 4, 50, 180, 0, 76, 92, 46, 21, 6, 153, 0, 27, 42, 180, 0, 3]
abbrev dktX2_run_12 : List UInt8 := dkwX2_run_12 ++ dktX2_run_13
def dkwX2_run_11 : List UInt8 := [180, 0, 24, 21, 4, 4, 96, 50, 3, 6, 184, 0, 70, 42, 180, 0, 24, 21, 4, 4, 96, 50, 42]
abbrev dktX2_run_11 : List UInt8 := dkwX2_run_11 ++ dktX2_run_12
def dkwX2_run_10 : List UInt8 := [21, 4, 50, 180, 0, 63, 167, 0, 4, 3, 96, 54, 5, 42, 180, 0, 24, 21, 4, 50, 3, 42]
abbrev dktX2_run_10 : List UInt8 := dkwX2_run_10 ++ dktX2_run_11
def dkwX2_run_9 : List UInt8 := [162, 0, 7, 4, 167, 0, 4, 3, 54, 6, 21, 5, 21, 6, 153, 0, 19, 42, 180, 0, 3, 180, 0, 47]
abbrev dktX2_run_9 : List UInt8 := dkwX2_run_9 ++ dktX2_run_10
def dkwX2_run_8 : List UInt8 := [167, 255, 186, 42, 180, 0, 15, 21, 4, 46, 42, 180, 0, 3, 180, 0, 47, 21, 4, 50, 180, 0, 60]
abbrev dktX2_run_8 : List UInt8 := dkwX2_run_8 ++ dktX2_run_9
def dkwX2_run_7 : List UInt8 := [21, 4, 50, 180, 0, 63, 100, 54, 5, 42, 21, 4, 21, 5, 182, 0, 66, 154, 0, 9, 132, 4, 255]
abbrev dktX2_run_7 : List UInt8 := dkwX2_run_7 ++ dktX2_run_8
def dkwX2_run_6 : List UInt8 := [180, 0, 3, 180, 0, 47, 21, 4, 50, 180, 0, 60, 162, 0, 21, 21, 5, 42, 180, 0, 3, 180, 0, 47]
abbrev dktX2_run_6 : List UInt8 := dkwX2_run_6 ++ dktX2_run_7
def dkwX2_run_5 : List UInt8 := [21, 4, 155, 0, 244, 42, 180, 0, 15, 21, 4, 46, 155, 0, 44, 42, 180, 0, 15, 21, 4, 46, 42]
abbrev dktX2_run_5 : List UInt8 := dkwX2_run_5 ++ dktX2_run_6
def dkwX2_run_4 : List UInt8 := [180, 0, 3, 180, 0, 44, 154, 0, 10, 42, 3, 27, 182, 0, 56, 177, 42, 180, 0, 15, 3, 2, 79]
abbrev dktX2_run_4 : List UInt8 := dkwX2_run_4 ++ dktX2_run_5
def dkwX2_run_3 : List UInt8 := [180, 0, 47, 21, 4, 50, 182, 0, 51, 132, 4, 1, 167, 255, 228, 3, 54, 4, 3, 54, 5, 42]
abbrev dktX2_run_3 : List UInt8 := dkwX2_run_3 ++ dktX2_run_4
def dkwX2_run_2 : List UInt8 := [167, 255, 227, 3, 54, 4, 21, 4, 42, 180, 0, 3, 180, 0, 44, 162, 0, 22, 42, 180, 0, 3]
abbrev dktX2_run_2 : List UInt8 := dkwX2_run_2 ++ dktX2_run_3
def dkwX2_run_1 : List UInt8 := [42, 180, 0, 24, 3, 50, 21, 4, 21, 4, 28, 160, 0, 7, 27, 167, 0, 4, 3, 79, 132, 4, 1]
abbrev dktX2_run_1 : List UInt8 := dkwX2_run_1 ++ dktX2_run_2
def dkwX2_run_0 : List UInt8 := [42, 29, 181, 0, 34, 42, 2, 181, 0, 38, 42, 3, 181, 0, 41, 3, 54, 4, 21, 4, 6, 162, 0, 29]
abbrev dktX2_run_0 : List UInt8 := dkwX2_run_0 ++ dktX2_run_1
theorem dksX2_run_0 : cX2_run.data.toList.drop 0 = dktX2_run_0 := by decide +kernel
theorem dksX2_run_1 : cX2_run.data.toList.drop 24 = dktX2_run_1 := dk_seg dksX2_run_0 24 rfl rfl
theorem dksX2_run_2 : cX2_run.data.toList.drop 47 = dktX2_run_2 := dk_seg dksX2_run_1 23 rfl rfl
theorem dksX2_run_3 : cX2_run.data.toList.drop 69 = dktX2_run_3 := dk_seg dksX2_run_2 22 rfl rfl
theorem dksX2_run_4 : cX2_run.data.toList.drop 91 = dktX2_run_4 := dk_seg dksX2_run_3 22 rfl rfl
theorem dksX2_run_5 : cX2_run.data.toList.drop 114 = dktX2_run_5 := dk_seg dksX2_run_4 23 rfl rfl
theorem dksX2_run_6 : cX2_run.data.toList.drop 137 = dktX2_run_6 := dk_seg dksX2_run_5 23 rfl rfl
theorem dksX2_run_7 : cX2_run.data.toList.drop 161 = dktX2_run_7 := dk_seg dksX2_run_6 24 rfl rfl
theorem dksX2_run_8 : cX2_run.data.toList.drop 184 = dktX2_run_8 := dk_seg dksX2_run_7 23 rfl rfl
theorem dksX2_run_9 : cX2_run.data.toList.drop 207 = dktX2_run_9 := dk_seg dksX2_run_8 23 rfl rfl
theorem dksX2_run_10 : cX2_run.data.toList.drop 231 = dktX2_run_10 := dk_seg dksX2_run_9 24 rfl rfl
theorem dksX2_run_11 : cX2_run.data.toList.drop 253 = dktX2_run_11 := dk_seg dksX2_run_10 22 rfl rfl
theorem dksX2_run_12 : cX2_run.data.toList.drop 276 = dktX2_run_12 := dk_seg dksX2_run_11 23 rfl rfl
theorem dksX2_run_13 : cX2_run.data.toList.drop 299 = dktX2_run_13 := dk_seg dksX2_run_12 23 rfl rfl
theorem dksX2_run_14 : cX2_run.data.toList.drop 322 = dktX2_run_14 := dk_seg dksX2_run_13 23 rfl rfl
theorem dksX2_run_15 : cX2_run.data.toList.drop 346 = dktX2_run_15 := dk_seg dksX2_run_14 24 rfl rfl
theorem dX2_run_0 : decode cX2_run 0 = .ok (.aload_n 0, 1) := dk_42 (dk_at dksX2_run_0 0 rfl rfl)
theorem dX2_run_1 : decode cX2_run 1 = .ok (.iload_n 3, 1) := dk_29 (dk_at dksX2_run_0 1 rfl rfl)
theorem dX2_run_2 : decode cX2_run 2 = .ok (.putfield 34, 3) := dk_181 0 34 (dk_at dksX2_run_0 2 rfl rfl)
theorem dX2_run_5 : decode cX2_run 5 = .ok (.aload_n 0, 1) := dk_42 (dk_at dksX2_run_0 5 rfl rfl)
theorem dX2_run_6 : decode cX2_run 6 = .ok (.iconst (-1), 1) := dk_2 (dk_at dksX2_run_0 6 rfl rfl)
theorem dX2_run_7 : decode cX2_run 7 = .ok (.putfield 38, 3) := dk_181 0 38 (dk_at dksX2_run_0 7 rfl rfl)
theorem dX2_run_10 : decode cX2_run 10 = .ok (.aload_n 0, 1) := dk_42 (dk_at dksX2_run_0 10 rfl rfl)
theorem dX2_run_11 : decode cX2_run 11 = .ok (.iconst 0, 1) := dk_3 (dk_at dksX2_run_0 11 rfl rfl)
theorem dX2_run_12 : decode cX2_run 12 = .ok (.putfield 41, 3) := dk_181 0 41 (dk_at dksX2_run_0 12 rfl rfl)
theorem dX2_run_15 : decode cX2_run 15 = .ok (.iconst 0, 1) := dk_3 (dk_at dksX2_run_0 15 rfl rfl)
theorem dX2_run_16 : decode cX2_run 16 = .ok (.istore 4, 2) := dk_54 4 (dk_at dksX2_run_0 16 rfl rfl)
theorem dX2_run_18 : decode cX2_run 18 = .ok (.iload 4, 2) := dk_21 4 (dk_at dksX2_run_0 18 rfl rfl)
theorem dX2_run_20 : decode cX2_run 20 = .ok (.iconst 3, 1) := dk_6 (dk_at dksX2_run_0 20 rfl rfl)
theorem dX2_run_21 : decode cX2_run 21 = .ok (.if_icmp .ge 29, 3) := dk_162 0 29 (dk_at dksX2_run_0 21 rfl rfl)
theorem dX2_run_24 : decode cX2_run 24 = .ok (.aload_n 0, 1) := dk_42 (dk_at dksX2_run_1 0 rfl rfl)
theorem dX2_run_25 : decode cX2_run 25 = .ok (.getfield 24, 3) := dk_180 0 24 (dk_at dksX2_run_1 1 rfl rfl)
theorem dX2_run_28 : decode cX2_run 28 = .ok (.iconst 0, 1) := dk_3 (dk_at dksX2_run_1 4 rfl rfl)
theorem dX2_run_29 : decode cX2_run 29 = .ok (.aaload, 1) := dk_50 (dk_at dksX2_run_1 5 rfl rfl)
theorem dX2_run_30 : decode cX2_run 30 = .ok (.iload 4, 2) := dk_21 4 (dk_at dksX2_run_1 6 rfl rfl)
theorem dX2_run_32 : decode cX2_run 32 = .ok (.iload 4, 2) := dk_21 4 (dk_at dksX2_run_1 8 rfl rfl)
theorem dX2_run_34 : decode cX2_run 34 = .ok (.iload_n 2, 1) := dk_28 (dk_at dksX2_run_1 10 rfl rfl)
theorem dX2_run_35 : decode cX2_run 35 = .ok (.if_icmp .ne 7, 3) := dk_160 0 7 (dk_at dksX2_run_1 11 rfl rfl)
theorem dX2_run_38 : decode cX2_run 38 = .ok (.iload_n 1, 1) := dk_27 (dk_at dksX2_run_1 14 rfl rfl)
theorem dX2_run_39 : decode cX2_run 39 = .ok (.goto 4, 3) := dk_167 0 4 (dk_at dksX2_run_1 15 rfl rfl)
theorem dX2_run_42 : decode cX2_run 42 = .ok (.iconst 0, 1) := dk_3 (dk_at dksX2_run_1 18 rfl rfl)
theorem dX2_run_43 : decode cX2_run 43 = .ok (.iastore, 1) := dk_79 (dk_at dksX2_run_1 19 rfl rfl)
theorem dX2_run_44 : decode cX2_run 44 = .ok (.iinc 4 1, 3) := dk_132 4 1 (dk_at dksX2_run_1 20 rfl rfl)
theorem dX2_run_47 : decode cX2_run 47 = .ok (.goto (-29), 3) := dk_167 255 227 (dk_at dksX2_run_2 0 rfl rfl)
theorem dX2_run_50 : decode cX2_run 50 = .ok (.iconst 0, 1) := dk_3 (dk_at dksX2_run_2 3 rfl rfl)
theorem dX2_run_51 : decode cX2_run 51 = .ok (.istore 4, 2) := dk_54 4 (dk_at dksX2_run_2 4 rfl rfl)
theorem dX2_run_53 : decode cX2_run 53 = .ok (.iload 4, 2) := dk_21 4 (dk_at dksX2_run_2 6 rfl rfl)
theorem dX2_run_55 : decode cX2_run 55 = .ok (.aload_n 0, 1) := dk_42 (dk_at dksX2_run_2 8 rfl rfl)
theorem dX2_run_56 : decode cX2_run 56 = .ok (.getfield 3, 3) := dk_180 0 3 (dk_at dksX2_run_2 9 rfl rfl)
theorem dX2_run_59 : decode cX2_run 59 = .ok (.getfield 44, 3) := dk_180 0 44 (dk_at dksX2_run_2 12 rfl rfl)
theorem dX2_run_62 : decode cX2_run 62 = .ok (.if_icmp .ge 22, 3) := dk_162 0 22 (dk_at dksX2_run_2 15 rfl rfl)
theorem dX2_run_65 : decode cX2_run 65 = .ok (.aload_n 0, 1) := dk_42 (dk_at dksX2_run_2 18 rfl rfl)
theorem dX2_run_66 : decode cX2_run 66 = .ok (.getfield 3, 3) := dk_180 0 3 (dk_at dksX2_run_2 19 rfl rfl)
theorem dX2_run_69 : decode cX2_run 69 = .ok (.getfield 47, 3) := dk_180 0 47 (dk_at dksX2_run_3 0 rfl rfl)
theorem dX2_run_72 : decode cX2_run 72 = .ok (.iload 4, 2) := dk_21 4 (dk_at dksX2_run_3 3 rfl rfl)
theorem dX2_run_74 : decode cX2_run 74 = .ok (.aaload, 1) := dk_50 (dk_at dksX2_run_3 5 rfl rfl)
theorem dX2_run_75 : decode cX2_run 75 = .ok (.invokevirtual 51, 3) := dk_182 0 51 (dk_at dksX2_run_3 6 rfl rfl)
theorem dX2_run_78 : decode cX2_run 78 = .ok (.iinc 4 1, 3) := dk_132 4 1 (dk_at dksX2_run_3 9 rfl rfl)
theorem dX2_run_81 : decode cX2_run 81 = .ok (.goto (-28), 3) := dk_167 255 228 (dk_at dksX2_run_3 12 rfl rfl)
theorem dX2_run_84 : decode cX2_run 84 = .ok (.iconst 0, 1) := dk_3 (dk_at dksX2_run_3 15 rfl rfl)
theorem dX2_run_85 : decode cX2_run 85 = .ok (.istore 4, 2) := dk_54 4 (dk_at dksX2_run_3 16 rfl rfl)
theorem dX2_run_87 : decode cX2_run 87 = .ok (.iconst 0, 1) := dk_3 (dk_at dksX2_run_3 18 rfl rfl)
theorem dX2_run_88 : decode cX2_run 88 = .ok (.istore 5, 2) := dk_54 5 (dk_at dksX2_run_3 19 rfl rfl)
theorem dX2_run_90 : decode cX2_run 90 = .ok (.aload_n 0, 1) := dk_42 (dk_at dksX2_run_3 21 rfl rfl)
theorem dX2_run_91 : decode cX2_run 91 = .ok (.getfield 3, 3) := dk_180 0 3 (dk_at dksX2_run_4 0 rfl rfl)
theorem dX2_run_94 : decode cX2_run 94 = .ok (.getfield 44, 3) := dk_180 0 44 (dk_at dksX2_run_4 3 rfl rfl)
theorem dX2_run_97 : decode cX2_run 97 = .ok (.ifCond .ne 10, 3) := dk_154 0 10 (dk_at dksX2_run_4 6 rfl rfl)
theorem dX2_run_100 : decode cX2_run 100 = .ok (.aload_n 0, 1) := dk_42 (dk_at dksX2_run_4 9 rfl rfl)
theorem dX2_run_101 : decode cX2_run 101 = .ok (.iconst 0, 1) := dk_3 (dk_at dksX2_run_4 10 rfl rfl)
theorem dX2_run_102 : decode cX2_run 102 = .ok (.iload_n 1, 1) := dk_27 (dk_at dksX2_run_4 11 rfl rfl)
theorem dX2_run_103 : decode cX2_run 103 = .ok (.invokevirtual 56, 3) := dk_182 0 56 (dk_at dksX2_run_4 12 rfl rfl)
theorem dX2_run_106 : decode cX2_run 106 = .ok (.return_, 1) := dk_177 (dk_at dksX2_run_4 15 rfl rfl)
theorem dX2_run_107 : decode cX2_run 107 = .ok (.aload_n 0, 1) := dk_42 (dk_at dksX2_run_4 16 rfl rfl)
theorem dX2_run_108 : decode cX2_run 108 = .ok (.getfield 15, 3) := dk_180 0 15 (dk_at dksX2_run_4 17 rfl rfl)
theorem dX2_run_111 : decode cX2_run 111 = .ok (.iconst 0, 1) := dk_3 (dk_at dksX2_run_4 20 rfl rfl)
theorem dX2_run_112 : decode cX2_run 112 = .ok (.iconst (-1), 1) := dk_2 (dk_at dksX2_run_4 21 rfl rfl)
theorem dX2_run_113 : decode cX2_run 113 = .ok (.iastore, 1) := dk_79 (dk_at dksX2_run_4 22 rfl rfl)
theorem dX2_run_114 : decode cX2_run 114 = .ok (.iload 4, 2) := dk_21 4 (dk_at dksX2_run_5 0 rfl rfl)
theorem dX2_run_116 : decode cX2_run 116 = .ok (.ifCond .lt 244, 3) := dk_155 0 244 (dk_at dksX2_run_5 2 rfl rfl)
theorem dX2_run_119 : decode cX2_run 119 = .ok (.aload_n 0, 1) := dk_42 (dk_at dksX2_run_5 5 rfl rfl)
theorem dX2_run_120 : decode cX2_run 120 = .ok (.getfield 15, 3) := dk_180 0 15 (dk_at dksX2_run_5 6 rfl rfl)
theorem dX2_run_123 : decode cX2_run 123 = .ok (.iload 4, 2) := dk_21 4 (dk_at dksX2_run_5 9 rfl rfl)
theorem dX2_run_125 : decode cX2_run 125 = .ok (.iaload, 1) := dk_46 (dk_at dksX2_run_5 11 rfl rfl)
theorem dX2_run_126 : decode cX2_run 126 = .ok (.ifCond .lt 44, 3) := dk_155 0 44 (dk_at dksX2_run_5 12 rfl rfl)
theorem dX2_run_129 : decode cX2_run 129 = .ok (.aload_n 0, 1) := dk_42 (dk_at dksX2_run_5 15 rfl rfl)
theorem dX2_run_130 : decode cX2_run 130 = .ok (.getfield 15, 3) := dk_180 0 15 (dk_at dksX2_run_5 16 rfl rfl)
theorem dX2_run_133 : decode cX2_run 133 = .ok (.iload 4, 2) := dk_21 4 (dk_at dksX2_run_5 19 rfl rfl)
theorem dX2_run_135 : decode cX2_run 135 = .ok (.iaload, 1) := dk_46 (dk_at dksX2_run_5 21 rfl rfl)
theorem dX2_run_136 : decode cX2_run 136 = .ok (.aload_n 0, 1) := dk_42 (dk_at dksX2_run_5 22 rfl rfl)
theorem dX2_run_137 : decode cX2_run 137 = .ok (.getfield 3, 3) := dk_180 0 3 (dk_at dksX2_run_6 0 rfl rfl)
theorem dX2_run_140 : decode cX2_run 140 = .ok (.getfield 47, 3) := dk_180 0 47 (dk_at dksX2_run_6 3 rfl rfl)
theorem dX2_run_143 : decode cX2_run 143 = .ok (.iload 4, 2) := dk_21 4 (dk_at dksX2_run_6 6 rfl rfl)
theorem dX2_run_145 : decode cX2_run 145 = .ok (.aaload, 1) := dk_50 (dk_at dksX2_run_6 8 rfl rfl)
theorem dX2_run_146 : decode cX2_run 146 = .ok (.getfield 60, 3) := dk_180 0 60 (dk_at dksX2_run_6 9 rfl rfl)
theorem dX2_run_149 : decode cX2_run 149 = .ok (.if_icmp .ge 21, 3) := dk_162 0 21 (dk_at dksX2_run_6 12 rfl rfl)
theorem dX2_run_152 : decode cX2_run 152 = .ok (.iload 5, 2) := dk_21 5 (dk_at dksX2_run_6 15 rfl rfl)
theorem dX2_run_154 : decode cX2_run 154 = .ok (.aload_n 0, 1) := dk_42 (dk_at dksX2_run_6 17 rfl rfl)
theorem dX2_run_155 : decode cX2_run 155 = .ok (.getfield 3, 3) := dk_180 0 3 (dk_at dksX2_run_6 18 rfl rfl)
theorem dX2_run_158 : decode cX2_run 158 = .ok (.getfield 47, 3) := dk_180 0 47 (dk_at dksX2_run_6 21 rfl rfl)
theorem dX2_run_161 : decode cX2_run 161 = .ok (.iload 4, 2) := dk_21 4 (dk_at dksX2_run_7 0 rfl rfl)
theorem dX2_run_163 : decode cX2_run 163 = .ok (.aaload, 1) := dk_50 (dk_at dksX2_run_7 2 rfl rfl)
theorem dX2_run_164 : decode cX2_run 164 = .ok (.getfield 63, 3) := dk_180 0 63 (dk_at dksX2_run_7 3 rfl rfl)
theorem dX2_run_167 : decode cX2_run 167 = .ok (.isub, 1) := dk_100 (dk_at dksX2_run_7 6 rfl rfl)
theorem dX2_run_168 : decode cX2_run 168 = .ok (.istore 5, 2) := dk_54 5 (dk_at dksX2_run_7 7 rfl rfl)
theorem dX2_run_170 : decode cX2_run 170 = .ok (.aload_n 0, 1) := dk_42 (dk_at dksX2_run_7 9 rfl rfl)
theorem dX2_run_171 : decode cX2_run 171 = .ok (.iload 4, 2) := dk_21 4 (dk_at dksX2_run_7 10 rfl rfl)
theorem dX2_run_173 : decode cX2_run 173 = .ok (.iload 5, 2) := dk_21 5 (dk_at dksX2_run_7 12 rfl rfl)
theorem dX2_run_175 : decode cX2_run 175 = .ok (.invokevirtual 66, 3) := dk_182 0 66 (dk_at dksX2_run_7 14 rfl rfl)
theorem dX2_run_178 : decode cX2_run 178 = .ok (.ifCond .ne 9, 3) := dk_154 0 9 (dk_at dksX2_run_7 17 rfl rfl)
theorem dX2_run_181 : decode cX2_run 181 = .ok (.iinc 4 (-1), 3) := dk_132 4 255 (dk_at dksX2_run_7 20 rfl rfl)
theorem dX2_run_184 : decode cX2_run 184 = .ok (.goto (-70), 3) := dk_167 255 186 (dk_at dksX2_run_8 0 rfl rfl)
theorem dX2_run_187 : decode cX2_run 187 = .ok (.aload_n 0, 1) := dk_42 (dk_at dksX2_run_8 3 rfl rfl)
theorem dX2_run_188 : decode cX2_run 188 = .ok (.getfield 15, 3) := dk_180 0 15 (dk_at dksX2_run_8 4 rfl rfl)
theorem dX2_run_191 : decode cX2_run 191 = .ok (.iload 4, 2) := dk_21 4 (dk_at dksX2_run_8 7 rfl rfl)
theorem dX2_run_193 : decode cX2_run 193 = .ok (.iaload, 1) := dk_46 (dk_at dksX2_run_8 9 rfl rfl)
theorem dX2_run_194 : decode cX2_run 194 = .ok (.aload_n 0, 1) := dk_42 (dk_at dksX2_run_8 10 rfl rfl)
theorem dX2_run_195 : decode cX2_run 195 = .ok (.getfield 3, 3) := dk_180 0 3 (dk_at dksX2_run_8 11 rfl rfl)
theorem dX2_run_198 : decode cX2_run 198 = .ok (.getfield 47, 3) := dk_180 0 47 (dk_at dksX2_run_8 14 rfl rfl)
theorem dX2_run_201 : decode cX2_run 201 = .ok (.iload 4, 2) := dk_21 4 (dk_at dksX2_run_8 17 rfl rfl)
theorem dX2_run_203 : decode cX2_run 203 = .ok (.aaload, 1) := dk_50 (dk_at dksX2_run_8 19 rfl rfl)
theorem dX2_run_204 : decode cX2_run 204 = .ok (.getfield 60, 3) := dk_180 0 60 (dk_at dksX2_run_8 20 rfl rfl)
theorem dX2_run_207 : decode cX2_run 207 = .ok (.if_icmp .ge 7, 3) := dk_162 0 7 (dk_at dksX2_run_9 0 rfl rfl)
theorem dX2_run_210 : decode cX2_run 210 = .ok (.iconst 1, 1) := dk_4 (dk_at dksX2_run_9 3 rfl rfl)
theorem dX2_run_211 : decode cX2_run 211 = .ok (.goto 4, 3) := dk_167 0 4 (dk_at dksX2_run_9 4 rfl rfl)
theorem dX2_run_214 : decode cX2_run 214 = .ok (.iconst 0, 1) := dk_3 (dk_at dksX2_run_9 7 rfl rfl)
theorem dX2_run_215 : decode cX2_run 215 = .ok (.istore 6, 2) := dk_54 6 (dk_at dksX2_run_9 8 rfl rfl)
theorem dX2_run_217 : decode cX2_run 217 = .ok (.iload 5, 2) := dk_21 5 (dk_at dksX2_run_9 10 rfl rfl)
theorem dX2_run_219 : decode cX2_run 219 = .ok (.iload 6, 2) := dk_21 6 (dk_at dksX2_run_9 12 rfl rfl)
theorem dX2_run_221 : decode cX2_run 221 = .ok (.ifCond .eq 19, 3) := dk_153 0 19 (dk_at dksX2_run_9 14 rfl rfl)
theorem dX2_run_224 : decode cX2_run 224 = .ok (.aload_n 0, 1) := dk_42 (dk_at dksX2_run_9 17 rfl rfl)
theorem dX2_run_225 : decode cX2_run 225 = .ok (.getfield 3, 3) := dk_180 0 3 (dk_at dksX2_run_9 18 rfl rfl)
theorem dX2_run_228 : decode cX2_run 228 = .ok (.getfield 47, 3) := dk_180 0 47 (dk_at dksX2_run_9 21 rfl rfl)
theorem dX2_run_231 : decode cX2_run 231 = .ok (.iload 4, 2) := dk_21 4 (dk_at dksX2_run_10 0 rfl rfl)
theorem dX2_run_233 : decode cX2_run 233 = .ok (.aaload, 1) := dk_50 (dk_at dksX2_run_10 2 rfl rfl)
theorem dX2_run_234 : decode cX2_run 234 = .ok (.getfield 63, 3) := dk_180 0 63 (dk_at dksX2_run_10 3 rfl rfl)
theorem dX2_run_237 : decode cX2_run 237 = .ok (.goto 4, 3) := dk_167 0 4 (dk_at dksX2_run_10 6 rfl rfl)
theorem dX2_run_240 : decode cX2_run 240 = .ok (.iconst 0, 1) := dk_3 (dk_at dksX2_run_10 9 rfl rfl)
theorem dX2_run_241 : decode cX2_run 241 = .ok (.iadd, 1) := dk_96 (dk_at dksX2_run_10 10 rfl rfl)
theorem dX2_run_242 : decode cX2_run 242 = .ok (.istore 5, 2) := dk_54 5 (dk_at dksX2_run_10 11 rfl rfl)
theorem dX2_run_244 : decode cX2_run 244 = .ok (.aload_n 0, 1) := dk_42 (dk_at dksX2_run_10 13 rfl rfl)
theorem dX2_run_245 : decode cX2_run 245 = .ok (.getfield 24, 3) := dk_180 0 24 (dk_at dksX2_run_10 14 rfl rfl)
theorem dX2_run_248 : decode cX2_run 248 = .ok (.iload 4, 2) := dk_21 4 (dk_at dksX2_run_10 17 rfl rfl)
theorem dX2_run_250 : decode cX2_run 250 = .ok (.aaload, 1) := dk_50 (dk_at dksX2_run_10 19 rfl rfl)
theorem dX2_run_251 : decode cX2_run 251 = .ok (.iconst 0, 1) := dk_3 (dk_at dksX2_run_10 20 rfl rfl)
theorem dX2_run_252 : decode cX2_run 252 = .ok (.aload_n 0, 1) := dk_42 (dk_at dksX2_run_10 21 rfl rfl)
theorem dX2_run_253 : decode cX2_run 253 = .ok (.getfield 24, 3) := dk_180 0 24 (dk_at dksX2_run_11 0 rfl rfl)
theorem dX2_run_256 : decode cX2_run 256 = .ok (.iload 4, 2) := dk_21 4 (dk_at dksX2_run_11 3 rfl rfl)
theorem dX2_run_258 : decode cX2_run 258 = .ok (.iconst 1, 1) := dk_4 (dk_at dksX2_run_11 5 rfl rfl)
theorem dX2_run_259 : decode cX2_run 259 = .ok (.iadd, 1) := dk_96 (dk_at dksX2_run_11 6 rfl rfl)
theorem dX2_run_260 : decode cX2_run 260 = .ok (.aaload, 1) := dk_50 (dk_at dksX2_run_11 7 rfl rfl)
theorem dX2_run_261 : decode cX2_run 261 = .ok (.iconst 0, 1) := dk_3 (dk_at dksX2_run_11 8 rfl rfl)
theorem dX2_run_262 : decode cX2_run 262 = .ok (.iconst 3, 1) := dk_6 (dk_at dksX2_run_11 9 rfl rfl)
theorem dX2_run_263 : decode cX2_run 263 = .ok (.invokestatic 70, 3) := dk_184 0 70 (dk_at dksX2_run_11 10 rfl rfl)
theorem dX2_run_266 : decode cX2_run 266 = .ok (.aload_n 0, 1) := dk_42 (dk_at dksX2_run_11 13 rfl rfl)
theorem dX2_run_267 : decode cX2_run 267 = .ok (.getfield 24, 3) := dk_180 0 24 (dk_at dksX2_run_11 14 rfl rfl)
theorem dX2_run_270 : decode cX2_run 270 = .ok (.iload 4, 2) := dk_21 4 (dk_at dksX2_run_11 17 rfl rfl)
theorem dX2_run_272 : decode cX2_run 272 = .ok (.iconst 1, 1) := dk_4 (dk_at dksX2_run_11 19 rfl rfl)
theorem dX2_run_273 : decode cX2_run 273 = .ok (.iadd, 1) := dk_96 (dk_at dksX2_run_11 20 rfl rfl)
theorem dX2_run_274 : decode cX2_run 274 = .ok (.aaload, 1) := dk_50 (dk_at dksX2_run_11 21 rfl rfl)
theorem dX2_run_275 : decode cX2_run 275 = .ok (.aload_n 0, 1) := dk_42 (dk_at dksX2_run_11 22 rfl rfl)
theorem dX2_run_276 : decode cX2_run 276 = .ok (.getfield 3, 3) := dk_180 0 3 (dk_at dksX2_run_12 0 rfl rfl)
theorem dX2_run_279 : decode cX2_run 279 = .ok (.getfield 47, 3) := dk_180 0 47 (dk_at dksX2_run_12 3 rfl rfl)
theorem dX2_run_282 : decode cX2_run 282 = .ok (.iload 4, 2) := dk_21 4 (dk_at dksX2_run_12 6 rfl rfl)
theorem dX2_run_284 : decode cX2_run 284 = .ok (.aaload, 1) := dk_50 (dk_at dksX2_run_12 8 rfl rfl)
theorem dX2_run_285 : decode cX2_run 285 = .ok (.getfield 76, 3) := dk_180 0 76 (dk_at dksX2_run_12 9 rfl rfl)
theorem dX2_run_288 : decode cX2_run 288 = .ok (.dup2, 1) := dk_92 (dk_at dksX2_run_12 12 rfl rfl)
theorem dX2_run_289 : decode cX2_run 289 = .ok (.iaload, 1) := dk_46 (dk_at dksX2_run_12 13 rfl rfl)
theorem dX2_run_290 : decode cX2_run 290 = .ok (.iload 6, 2) := dk_21 6 (dk_at dksX2_run_12 14 rfl rfl)
theorem dX2_run_292 : decode cX2_run 292 = .ok (.ifCond .eq 27, 3) := dk_153 0 27 (dk_at dksX2_run_12 16 rfl rfl)
theorem dX2_run_295 : decode cX2_run 295 = .ok (.aload_n 0, 1) := dk_42 (dk_at dksX2_run_12 19 rfl rfl)
theorem dX2_run_296 : decode cX2_run 296 = .ok (.getfield 3, 3) := dk_180 0 3 (dk_at dksX2_run_12 20 rfl rfl)
theorem dX2_run_299 : decode cX2_run 299 = .ok (.getfield 47, 3) := dk_180 0 47 (dk_at dksX2_run_13 0 rfl rfl)
theorem dX2_run_302 : decode cX2_run 302 = .ok (.iload 4, 2) := dk_21 4 (dk_at dksX2_run_13 3 rfl rfl)
theorem dX2_run_304 : decode cX2_run 304 = .ok (.aaload, 1) := dk_50 (dk_at dksX2_run_13 5 rfl rfl)
theorem dX2_run_305 : decode cX2_run 305 = .ok (.getfield 79, 3) := dk_180 0 79 (dk_at dksX2_run_13 6 rfl rfl)
theorem dX2_run_308 : decode cX2_run 308 = .ok (.aload_n 0, 1) := dk_42 (dk_at dksX2_run_13 9 rfl rfl)
theorem dX2_run_309 : decode cX2_run 309 = .ok (.getfield 15, 3) := dk_180 0 15 (dk_at dksX2_run_13 10 rfl rfl)
theorem dX2_run_312 : decode cX2_run 312 = .ok (.iload 4, 2) := dk_21 4 (dk_at dksX2_run_13 13 rfl rfl)
theorem dX2_run_314 : decode cX2_run 314 = .ok (.iaload, 1) := dk_46 (dk_at dksX2_run_13 15 rfl rfl)
theorem dX2_run_315 : decode cX2_run 315 = .ok (.iaload, 1) := dk_46 (dk_at dksX2_run_13 16 rfl rfl)
theorem dX2_run_316 : decode cX2_run 316 = .ok (.goto 4, 3) := dk_167 0 4 (dk_at dksX2_run_13 17 rfl rfl)
theorem dX2_run_319 : decode cX2_run 319 = .ok (.iconst 0, 1) := dk_3 (dk_at dksX2_run_13 20 rfl rfl)
theorem dX2_run_320 : decode cX2_run 320 = .ok (.ior, 1) := dk_128 (dk_at dksX2_run_13 21 rfl rfl)
theorem dX2_run_321 : decode cX2_run 321 = .ok (.iastore, 1) := dk_79 (dk_at dksX2_run_13 22 rfl rfl)
theorem dX2_run_322 : decode cX2_run 322 = .ok (.iload 4, 2) := dk_21 4 (dk_at dksX2_run_14 0 rfl rfl)
theorem dX2_run_324 : decode cX2_run 324 = .ok (.iconst 1, 1) := dk_4 (dk_at dksX2_run_14 2 rfl rfl)
theorem dX2_run_325 : decode cX2_run 325 = .ok (.iadd, 1) := dk_96 (dk_at dksX2_run_14 3 rfl rfl)
theorem dX2_run_326 : decode cX2_run 326 = .ok (.aload_n 0, 1) := dk_42 (dk_at dksX2_run_14 4 rfl rfl)
theorem dX2_run_327 : decode cX2_run 327 = .ok (.getfield 3, 3) := dk_180 0 3 (dk_at dksX2_run_14 5 rfl rfl)
theorem dX2_run_330 : decode cX2_run 330 = .ok (.getfield 44, 3) := dk_180 0 44 (dk_at dksX2_run_14 8 rfl rfl)
theorem dX2_run_333 : decode cX2_run 333 = .ok (.if_icmp .ne 13, 3) := dk_160 0 13 (dk_at dksX2_run_14 11 rfl rfl)
theorem dX2_run_336 : decode cX2_run 336 = .ok (.aload_n 0, 1) := dk_42 (dk_at dksX2_run_14 14 rfl rfl)
theorem dX2_run_337 : decode cX2_run 337 = .ok (.iload 5, 2) := dk_21 5 (dk_at dksX2_run_14 15 rfl rfl)
theorem dX2_run_339 : decode cX2_run 339 = .ok (.iload_n 1, 1) := dk_27 (dk_at dksX2_run_14 17 rfl rfl)
theorem dX2_run_340 : decode cX2_run 340 = .ok (.invokevirtual 56, 3) := dk_182 0 56 (dk_at dksX2_run_14 18 rfl rfl)
theorem dX2_run_343 : decode cX2_run 343 = .ok (.goto 14, 3) := dk_167 0 14 (dk_at dksX2_run_14 21 rfl rfl)
theorem dX2_run_346 : decode cX2_run 346 = .ok (.iinc 4 1, 3) := dk_132 4 1 (dk_at dksX2_run_15 0 rfl rfl)
theorem dX2_run_349 : decode cX2_run 349 = .ok (.aload_n 0, 1) := dk_42 (dk_at dksX2_run_15 3 rfl rfl)
theorem dX2_run_350 : decode cX2_run 350 = .ok (.getfield 15, 3) := dk_180 0 15 (dk_at dksX2_run_15 4 rfl rfl)
theorem dX2_run_353 : decode cX2_run 353 = .ok (.iload 4, 2) := dk_21 4 (dk_at dksX2_run_15 7 rfl rfl)
theorem dX2_run_355 : decode cX2_run 355 = .ok (.iconst (-1), 1) := dk_2 (dk_at dksX2_run_15 9 rfl rfl)
theorem dX2_run_356 : decode cX2_run 356 = .ok (.iastore, 1) := dk_79 (dk_at dksX2_run_15 10 rfl rfl)
theorem dX2_run_357 : decode cX2_run 357 = .ok (.goto (-243), 3) := dk_167 255 13 (dk_at dksX2_run_15 11 rfl rfl)
theorem dX2_run_360 : decode cX2_run 360 = .ok (.return_, 1) := dk_177 (dk_at dksX2_run_15 14 rfl rfl)
abbrev cX2_look : ByteArray := prog_7_method_7_code
def yX2_look : MethodName := ⟨RX2, "look", "(II)V"⟩
def dkwX2_look_3 : List UInt8 := [180, 0, 15, 3, 42, 180, 0, 19, 3, 42, 180, 0, 3, 180, 0, 44, 184, 0, 70, 177]
abbrev dktX2_look_3 : List UInt8 := dkwX2_look_3 ++ []
def dkwX2_look_2 : List UInt8 := [181, 0, 38, 42, 42, 42, 180, 0, 3, 180, 0, 44, 182, 0, 27, 28, 2, 130, 126, 181, 0, 41, 42]
abbrev dktX2_look_2 : List UInt8 := dkwX2_look_2 ++ dktX2_look_3
def dkwX2_look_1 : List UInt8 := [163, 0, 22, 27, 42, 180, 0, 38, 160, 0, 58, 29, 42, 180, 0, 41, 184, 0, 89, 162, 0, 47, 42, 27]
abbrev dktX2_look_1 : List UInt8 := dkwX2_look_1 ++ dktX2_look_2
def dkwX2_look_0 : List UInt8 := [42, 42, 180, 0, 3, 180, 0, 44, 182, 0, 27, 28, 2, 130, 126, 184, 0, 89, 62, 27, 42, 180, 0, 38]
abbrev dktX2_look_0 : List UInt8 := dkwX2_look_0 ++ dktX2_look_1
theorem dksX2_look_0 : cX2_look.data.toList.drop 0 = dktX2_look_0 := by decide +kernel
theorem dksX2_look_1 : cX2_look.data.toList.drop 24 = dktX2_look_1 := dk_seg dksX2_look_0 24 rfl rfl
theorem dksX2_look_2 : cX2_look.data.toList.drop 48 = dktX2_look_2 := dk_seg dksX2_look_1 24 rfl rfl
theorem dksX2_look_3 : cX2_look.data.toList.drop 71 = dktX2_look_3 := dk_seg dksX2_look_2 23 rfl rfl
theorem dX2_look_0 : decode cX2_look 0 = .ok (.aload_n 0, 1) := dk_42 (dk_at dksX2_look_0 0 rfl rfl)
theorem dX2_look_1 : decode cX2_look 1 = .ok (.aload_n 0, 1) := dk_42 (dk_at dksX2_look_0 1 rfl rfl)
theorem dX2_look_2 : decode cX2_look 2 = .ok (.getfield 3, 3) := dk_180 0 3 (dk_at dksX2_look_0 2 rfl rfl)
theorem dX2_look_5 : decode cX2_look 5 = .ok (.getfield 44, 3) := dk_180 0 44 (dk_at dksX2_look_0 5 rfl rfl)
theorem dX2_look_8 : decode cX2_look 8 = .ok (.invokevirtual 27, 3) := dk_182 0 27 (dk_at dksX2_look_0 8 rfl rfl)
theorem dX2_look_11 : decode cX2_look 11 = .ok (.iload_n 2, 1) := dk_28 (dk_at dksX2_look_0 11 rfl rfl)
theorem dX2_look_12 : decode cX2_look 12 = .ok (.iconst (-1), 1) := dk_2 (dk_at dksX2_look_0 12 rfl rfl)
theorem dX2_look_13 : decode cX2_look 13 = .ok (.ixor, 1) := dk_130 (dk_at dksX2_look_0 13 rfl rfl)
theorem dX2_look_14 : decode cX2_look 14 = .ok (.iand, 1) := dk_126 (dk_at dksX2_look_0 14 rfl rfl)
theorem dX2_look_15 : decode cX2_look 15 = .ok (.invokestatic 89, 3) := dk_184 0 89 (dk_at dksX2_look_0 15 rfl rfl)
theorem dX2_look_18 : decode cX2_look 18 = .ok (.istore_n 3, 1) := dk_62 (dk_at dksX2_look_0 18 rfl rfl)
theorem dX2_look_19 : decode cX2_look 19 = .ok (.iload_n 1, 1) := dk_27 (dk_at dksX2_look_0 19 rfl rfl)
theorem dX2_look_20 : decode cX2_look 20 = .ok (.aload_n 0, 1) := dk_42 (dk_at dksX2_look_0 20 rfl rfl)
theorem dX2_look_21 : decode cX2_look 21 = .ok (.getfield 38, 3) := dk_180 0 38 (dk_at dksX2_look_0 21 rfl rfl)
theorem dX2_look_24 : decode cX2_look 24 = .ok (.if_icmp .gt 22, 3) := dk_163 0 22 (dk_at dksX2_look_1 0 rfl rfl)
theorem dX2_look_27 : decode cX2_look 27 = .ok (.iload_n 1, 1) := dk_27 (dk_at dksX2_look_1 3 rfl rfl)
theorem dX2_look_28 : decode cX2_look 28 = .ok (.aload_n 0, 1) := dk_42 (dk_at dksX2_look_1 4 rfl rfl)
theorem dX2_look_29 : decode cX2_look 29 = .ok (.getfield 38, 3) := dk_180 0 38 (dk_at dksX2_look_1 5 rfl rfl)
theorem dX2_look_32 : decode cX2_look 32 = .ok (.if_icmp .ne 58, 3) := dk_160 0 58 (dk_at dksX2_look_1 8 rfl rfl)
theorem dX2_look_35 : decode cX2_look 35 = .ok (.iload_n 3, 1) := dk_29 (dk_at dksX2_look_1 11 rfl rfl)
theorem dX2_look_36 : decode cX2_look 36 = .ok (.aload_n 0, 1) := dk_42 (dk_at dksX2_look_1 12 rfl rfl)
theorem dX2_look_37 : decode cX2_look 37 = .ok (.getfield 41, 3) := dk_180 0 41 (dk_at dksX2_look_1 13 rfl rfl)
theorem dX2_look_40 : decode cX2_look 40 = .ok (.invokestatic 89, 3) := dk_184 0 89 (dk_at dksX2_look_1 16 rfl rfl)
theorem dX2_look_43 : decode cX2_look 43 = .ok (.if_icmp .ge 47, 3) := dk_162 0 47 (dk_at dksX2_look_1 19 rfl rfl)
theorem dX2_look_46 : decode cX2_look 46 = .ok (.aload_n 0, 1) := dk_42 (dk_at dksX2_look_1 22 rfl rfl)
theorem dX2_look_47 : decode cX2_look 47 = .ok (.iload_n 1, 1) := dk_27 (dk_at dksX2_look_1 23 rfl rfl)
theorem dX2_look_48 : decode cX2_look 48 = .ok (.putfield 38, 3) := dk_181 0 38 (dk_at dksX2_look_2 0 rfl rfl)
theorem dX2_look_51 : decode cX2_look 51 = .ok (.aload_n 0, 1) := dk_42 (dk_at dksX2_look_2 3 rfl rfl)
theorem dX2_look_52 : decode cX2_look 52 = .ok (.aload_n 0, 1) := dk_42 (dk_at dksX2_look_2 4 rfl rfl)
theorem dX2_look_53 : decode cX2_look 53 = .ok (.aload_n 0, 1) := dk_42 (dk_at dksX2_look_2 5 rfl rfl)
theorem dX2_look_54 : decode cX2_look 54 = .ok (.getfield 3, 3) := dk_180 0 3 (dk_at dksX2_look_2 6 rfl rfl)
theorem dX2_look_57 : decode cX2_look 57 = .ok (.getfield 44, 3) := dk_180 0 44 (dk_at dksX2_look_2 9 rfl rfl)
theorem dX2_look_60 : decode cX2_look 60 = .ok (.invokevirtual 27, 3) := dk_182 0 27 (dk_at dksX2_look_2 12 rfl rfl)
theorem dX2_look_63 : decode cX2_look 63 = .ok (.iload_n 2, 1) := dk_28 (dk_at dksX2_look_2 15 rfl rfl)
theorem dX2_look_64 : decode cX2_look 64 = .ok (.iconst (-1), 1) := dk_2 (dk_at dksX2_look_2 16 rfl rfl)
theorem dX2_look_65 : decode cX2_look 65 = .ok (.ixor, 1) := dk_130 (dk_at dksX2_look_2 17 rfl rfl)
theorem dX2_look_66 : decode cX2_look 66 = .ok (.iand, 1) := dk_126 (dk_at dksX2_look_2 18 rfl rfl)
theorem dX2_look_67 : decode cX2_look 67 = .ok (.putfield 41, 3) := dk_181 0 41 (dk_at dksX2_look_2 19 rfl rfl)
theorem dX2_look_70 : decode cX2_look 70 = .ok (.aload_n 0, 1) := dk_42 (dk_at dksX2_look_2 22 rfl rfl)
theorem dX2_look_71 : decode cX2_look 71 = .ok (.getfield 15, 3) := dk_180 0 15 (dk_at dksX2_look_3 0 rfl rfl)
theorem dX2_look_74 : decode cX2_look 74 = .ok (.iconst 0, 1) := dk_3 (dk_at dksX2_look_3 3 rfl rfl)
theorem dX2_look_75 : decode cX2_look 75 = .ok (.aload_n 0, 1) := dk_42 (dk_at dksX2_look_3 4 rfl rfl)
theorem dX2_look_76 : decode cX2_look 76 = .ok (.getfield 19, 3) := dk_180 0 19 (dk_at dksX2_look_3 5 rfl rfl)
theorem dX2_look_79 : decode cX2_look 79 = .ok (.iconst 0, 1) := dk_3 (dk_at dksX2_look_3 8 rfl rfl)
theorem dX2_look_80 : decode cX2_look 80 = .ok (.aload_n 0, 1) := dk_42 (dk_at dksX2_look_3 9 rfl rfl)
theorem dX2_look_81 : decode cX2_look 81 = .ok (.getfield 3, 3) := dk_180 0 3 (dk_at dksX2_look_3 10 rfl rfl)
theorem dX2_look_84 : decode cX2_look 84 = .ok (.getfield 44, 3) := dk_180 0 44 (dk_at dksX2_look_3 13 rfl rfl)
theorem dX2_look_87 : decode cX2_look 87 = .ok (.invokestatic 70, 3) := dk_184 0 70 (dk_at dksX2_look_3 16 rfl rfl)
theorem dX2_look_90 : decode cX2_look 90 = .ok (.return_, 1) := dk_177 (dk_at dksX2_look_3 19 rfl rfl)
abbrev cX2_all : ByteArray := prog_7_method_2_code
def yX2_all : MethodName := ⟨RX2, "all", "(I)I"⟩
def dkwX2_all_1 : List UInt8 := [46, 128, 172]
abbrev dktX2_all_1 : List UInt8 := dkwX2_all_1 ++ []
def dkwX2_all_0 : List UInt8 := [42, 180, 0, 24, 27, 50, 3, 46, 42, 180, 0, 24, 27, 50, 4, 46, 128, 42, 180, 0, 24, 27, 50, 5]
abbrev dktX2_all_0 : List UInt8 := dkwX2_all_0 ++ dktX2_all_1
theorem dksX2_all_0 : cX2_all.data.toList.drop 0 = dktX2_all_0 := by decide +kernel
theorem dksX2_all_1 : cX2_all.data.toList.drop 24 = dktX2_all_1 := dk_seg dksX2_all_0 24 rfl rfl
theorem dX2_all_0 : decode cX2_all 0 = .ok (.aload_n 0, 1) := dk_42 (dk_at dksX2_all_0 0 rfl rfl)
theorem dX2_all_1 : decode cX2_all 1 = .ok (.getfield 24, 3) := dk_180 0 24 (dk_at dksX2_all_0 1 rfl rfl)
theorem dX2_all_4 : decode cX2_all 4 = .ok (.iload_n 1, 1) := dk_27 (dk_at dksX2_all_0 4 rfl rfl)
theorem dX2_all_5 : decode cX2_all 5 = .ok (.aaload, 1) := dk_50 (dk_at dksX2_all_0 5 rfl rfl)
theorem dX2_all_6 : decode cX2_all 6 = .ok (.iconst 0, 1) := dk_3 (dk_at dksX2_all_0 6 rfl rfl)
theorem dX2_all_7 : decode cX2_all 7 = .ok (.iaload, 1) := dk_46 (dk_at dksX2_all_0 7 rfl rfl)
theorem dX2_all_8 : decode cX2_all 8 = .ok (.aload_n 0, 1) := dk_42 (dk_at dksX2_all_0 8 rfl rfl)
theorem dX2_all_9 : decode cX2_all 9 = .ok (.getfield 24, 3) := dk_180 0 24 (dk_at dksX2_all_0 9 rfl rfl)
theorem dX2_all_12 : decode cX2_all 12 = .ok (.iload_n 1, 1) := dk_27 (dk_at dksX2_all_0 12 rfl rfl)
theorem dX2_all_13 : decode cX2_all 13 = .ok (.aaload, 1) := dk_50 (dk_at dksX2_all_0 13 rfl rfl)
theorem dX2_all_14 : decode cX2_all 14 = .ok (.iconst 1, 1) := dk_4 (dk_at dksX2_all_0 14 rfl rfl)
theorem dX2_all_15 : decode cX2_all 15 = .ok (.iaload, 1) := dk_46 (dk_at dksX2_all_0 15 rfl rfl)
theorem dX2_all_16 : decode cX2_all 16 = .ok (.ior, 1) := dk_128 (dk_at dksX2_all_0 16 rfl rfl)
theorem dX2_all_17 : decode cX2_all 17 = .ok (.aload_n 0, 1) := dk_42 (dk_at dksX2_all_0 17 rfl rfl)
theorem dX2_all_18 : decode cX2_all 18 = .ok (.getfield 24, 3) := dk_180 0 24 (dk_at dksX2_all_0 18 rfl rfl)
theorem dX2_all_21 : decode cX2_all 21 = .ok (.iload_n 1, 1) := dk_27 (dk_at dksX2_all_0 21 rfl rfl)
theorem dX2_all_22 : decode cX2_all 22 = .ok (.aaload, 1) := dk_50 (dk_at dksX2_all_0 22 rfl rfl)
theorem dX2_all_23 : decode cX2_all 23 = .ok (.iconst 2, 1) := dk_5 (dk_at dksX2_all_0 23 rfl rfl)
theorem dX2_all_24 : decode cX2_all 24 = .ok (.iaload, 1) := dk_46 (dk_at dksX2_all_1 0 rfl rfl)
theorem dX2_all_25 : decode cX2_all 25 = .ok (.ior, 1) := dk_128 (dk_at dksX2_all_1 1 rfl rfl)
theorem dX2_all_26 : decode cX2_all 26 = .ok (.ireturn, 1) := dk_172 (dk_at dksX2_all_1 2 rfl rfl)
abbrev cX2_next : ByteArray := prog_7_method_6_code
def yX2_next : MethodName := ⟨RX2, "next", "(II)Z"⟩
def dkwX2_next_5 : List UInt8 := [180, 0, 15, 27, 92, 46, 4, 96, 79, 167, 255, 178, 4, 172]
abbrev dktX2_next_5 : List UInt8 := dkwX2_next_5 ++ []
def dkwX2_next_4 : List UInt8 := [27, 46, 46, 42, 180, 0, 3, 180, 0, 47, 27, 50, 180, 0, 76, 182, 0, 85, 154, 0, 16, 42]
abbrev dktX2_next_4 : List UInt8 := dkwX2_next_4 ++ dktX2_next_5
def dkwX2_next_3 : List UInt8 := [180, 0, 34, 159, 0, 42, 42, 27, 42, 180, 0, 3, 180, 0, 47, 27, 50, 180, 0, 79, 42, 180, 0, 15]
abbrev dktX2_next_3 : List UInt8 := dkwX2_next_3 ++ dktX2_next_4
def dkwX2_next_2 : List UInt8 := [180, 0, 15, 27, 46, 42, 180, 0, 3, 180, 0, 47, 27, 50, 180, 0, 60, 162, 0, 63, 27, 42]
abbrev dktX2_next_2 : List UInt8 := dkwX2_next_2 ++ dktX2_next_3
def dkwX2_next_1 : List UInt8 := [182, 0, 82, 96, 42, 180, 0, 38, 162, 0, 5, 3, 172, 42, 180, 0, 15, 27, 92, 46, 4, 96, 79, 42]
abbrev dktX2_next_1 : List UInt8 := dkwX2_next_1 ++ dktX2_next_2
def dkwX2_next_0 : List UInt8 := [42, 180, 0, 15, 27, 46, 42, 180, 0, 3, 180, 0, 47, 27, 50, 180, 0, 60, 162, 0, 17, 28, 42, 27]
abbrev dktX2_next_0 : List UInt8 := dkwX2_next_0 ++ dktX2_next_1
theorem dksX2_next_0 : cX2_next.data.toList.drop 0 = dktX2_next_0 := by decide +kernel
theorem dksX2_next_1 : cX2_next.data.toList.drop 24 = dktX2_next_1 := dk_seg dksX2_next_0 24 rfl rfl
theorem dksX2_next_2 : cX2_next.data.toList.drop 48 = dktX2_next_2 := dk_seg dksX2_next_1 24 rfl rfl
theorem dksX2_next_3 : cX2_next.data.toList.drop 70 = dktX2_next_3 := dk_seg dksX2_next_2 22 rfl rfl
theorem dksX2_next_4 : cX2_next.data.toList.drop 94 = dktX2_next_4 := dk_seg dksX2_next_3 24 rfl rfl
theorem dksX2_next_5 : cX2_next.data.toList.drop 116 = dktX2_next_5 := dk_seg dksX2_next_4 22 rfl rfl
theorem dX2_next_0 : decode cX2_next 0 = .ok (.aload_n 0, 1) := dk_42 (dk_at dksX2_next_0 0 rfl rfl)
theorem dX2_next_1 : decode cX2_next 1 = .ok (.getfield 15, 3) := dk_180 0 15 (dk_at dksX2_next_0 1 rfl rfl)
theorem dX2_next_4 : decode cX2_next 4 = .ok (.iload_n 1, 1) := dk_27 (dk_at dksX2_next_0 4 rfl rfl)
theorem dX2_next_5 : decode cX2_next 5 = .ok (.iaload, 1) := dk_46 (dk_at dksX2_next_0 5 rfl rfl)
theorem dX2_next_6 : decode cX2_next 6 = .ok (.aload_n 0, 1) := dk_42 (dk_at dksX2_next_0 6 rfl rfl)
theorem dX2_next_7 : decode cX2_next 7 = .ok (.getfield 3, 3) := dk_180 0 3 (dk_at dksX2_next_0 7 rfl rfl)
theorem dX2_next_10 : decode cX2_next 10 = .ok (.getfield 47, 3) := dk_180 0 47 (dk_at dksX2_next_0 10 rfl rfl)
theorem dX2_next_13 : decode cX2_next 13 = .ok (.iload_n 1, 1) := dk_27 (dk_at dksX2_next_0 13 rfl rfl)
theorem dX2_next_14 : decode cX2_next 14 = .ok (.aaload, 1) := dk_50 (dk_at dksX2_next_0 14 rfl rfl)
theorem dX2_next_15 : decode cX2_next 15 = .ok (.getfield 60, 3) := dk_180 0 60 (dk_at dksX2_next_0 15 rfl rfl)
theorem dX2_next_18 : decode cX2_next 18 = .ok (.if_icmp .ge 17, 3) := dk_162 0 17 (dk_at dksX2_next_0 18 rfl rfl)
theorem dX2_next_21 : decode cX2_next 21 = .ok (.iload_n 2, 1) := dk_28 (dk_at dksX2_next_0 21 rfl rfl)
theorem dX2_next_22 : decode cX2_next 22 = .ok (.aload_n 0, 1) := dk_42 (dk_at dksX2_next_0 22 rfl rfl)
theorem dX2_next_23 : decode cX2_next 23 = .ok (.iload_n 1, 1) := dk_27 (dk_at dksX2_next_0 23 rfl rfl)
theorem dX2_next_24 : decode cX2_next 24 = .ok (.invokevirtual 82, 3) := dk_182 0 82 (dk_at dksX2_next_1 0 rfl rfl)
theorem dX2_next_27 : decode cX2_next 27 = .ok (.iadd, 1) := dk_96 (dk_at dksX2_next_1 3 rfl rfl)
theorem dX2_next_28 : decode cX2_next 28 = .ok (.aload_n 0, 1) := dk_42 (dk_at dksX2_next_1 4 rfl rfl)
theorem dX2_next_29 : decode cX2_next 29 = .ok (.getfield 38, 3) := dk_180 0 38 (dk_at dksX2_next_1 5 rfl rfl)
theorem dX2_next_32 : decode cX2_next 32 = .ok (.if_icmp .ge 5, 3) := dk_162 0 5 (dk_at dksX2_next_1 8 rfl rfl)
theorem dX2_next_35 : decode cX2_next 35 = .ok (.iconst 0, 1) := dk_3 (dk_at dksX2_next_1 11 rfl rfl)
theorem dX2_next_36 : decode cX2_next 36 = .ok (.ireturn, 1) := dk_172 (dk_at dksX2_next_1 12 rfl rfl)
theorem dX2_next_37 : decode cX2_next 37 = .ok (.aload_n 0, 1) := dk_42 (dk_at dksX2_next_1 13 rfl rfl)
theorem dX2_next_38 : decode cX2_next 38 = .ok (.getfield 15, 3) := dk_180 0 15 (dk_at dksX2_next_1 14 rfl rfl)
theorem dX2_next_41 : decode cX2_next 41 = .ok (.iload_n 1, 1) := dk_27 (dk_at dksX2_next_1 17 rfl rfl)
theorem dX2_next_42 : decode cX2_next 42 = .ok (.dup2, 1) := dk_92 (dk_at dksX2_next_1 18 rfl rfl)
theorem dX2_next_43 : decode cX2_next 43 = .ok (.iaload, 1) := dk_46 (dk_at dksX2_next_1 19 rfl rfl)
theorem dX2_next_44 : decode cX2_next 44 = .ok (.iconst 1, 1) := dk_4 (dk_at dksX2_next_1 20 rfl rfl)
theorem dX2_next_45 : decode cX2_next 45 = .ok (.iadd, 1) := dk_96 (dk_at dksX2_next_1 21 rfl rfl)
theorem dX2_next_46 : decode cX2_next 46 = .ok (.iastore, 1) := dk_79 (dk_at dksX2_next_1 22 rfl rfl)
theorem dX2_next_47 : decode cX2_next 47 = .ok (.aload_n 0, 1) := dk_42 (dk_at dksX2_next_1 23 rfl rfl)
theorem dX2_next_48 : decode cX2_next 48 = .ok (.getfield 15, 3) := dk_180 0 15 (dk_at dksX2_next_2 0 rfl rfl)
theorem dX2_next_51 : decode cX2_next 51 = .ok (.iload_n 1, 1) := dk_27 (dk_at dksX2_next_2 3 rfl rfl)
theorem dX2_next_52 : decode cX2_next 52 = .ok (.iaload, 1) := dk_46 (dk_at dksX2_next_2 4 rfl rfl)
theorem dX2_next_53 : decode cX2_next 53 = .ok (.aload_n 0, 1) := dk_42 (dk_at dksX2_next_2 5 rfl rfl)
theorem dX2_next_54 : decode cX2_next 54 = .ok (.getfield 3, 3) := dk_180 0 3 (dk_at dksX2_next_2 6 rfl rfl)
theorem dX2_next_57 : decode cX2_next 57 = .ok (.getfield 47, 3) := dk_180 0 47 (dk_at dksX2_next_2 9 rfl rfl)
theorem dX2_next_60 : decode cX2_next 60 = .ok (.iload_n 1, 1) := dk_27 (dk_at dksX2_next_2 12 rfl rfl)
theorem dX2_next_61 : decode cX2_next 61 = .ok (.aaload, 1) := dk_50 (dk_at dksX2_next_2 13 rfl rfl)
theorem dX2_next_62 : decode cX2_next 62 = .ok (.getfield 60, 3) := dk_180 0 60 (dk_at dksX2_next_2 14 rfl rfl)
theorem dX2_next_65 : decode cX2_next 65 = .ok (.if_icmp .ge 63, 3) := dk_162 0 63 (dk_at dksX2_next_2 17 rfl rfl)
theorem dX2_next_68 : decode cX2_next 68 = .ok (.iload_n 1, 1) := dk_27 (dk_at dksX2_next_2 20 rfl rfl)
theorem dX2_next_69 : decode cX2_next 69 = .ok (.aload_n 0, 1) := dk_42 (dk_at dksX2_next_2 21 rfl rfl)
theorem dX2_next_70 : decode cX2_next 70 = .ok (.getfield 34, 3) := dk_180 0 34 (dk_at dksX2_next_3 0 rfl rfl)
theorem dX2_next_73 : decode cX2_next 73 = .ok (.if_icmp .eq 42, 3) := dk_159 0 42 (dk_at dksX2_next_3 3 rfl rfl)
theorem dX2_next_76 : decode cX2_next 76 = .ok (.aload_n 0, 1) := dk_42 (dk_at dksX2_next_3 6 rfl rfl)
theorem dX2_next_77 : decode cX2_next 77 = .ok (.iload_n 1, 1) := dk_27 (dk_at dksX2_next_3 7 rfl rfl)
theorem dX2_next_78 : decode cX2_next 78 = .ok (.aload_n 0, 1) := dk_42 (dk_at dksX2_next_3 8 rfl rfl)
theorem dX2_next_79 : decode cX2_next 79 = .ok (.getfield 3, 3) := dk_180 0 3 (dk_at dksX2_next_3 9 rfl rfl)
theorem dX2_next_82 : decode cX2_next 82 = .ok (.getfield 47, 3) := dk_180 0 47 (dk_at dksX2_next_3 12 rfl rfl)
theorem dX2_next_85 : decode cX2_next 85 = .ok (.iload_n 1, 1) := dk_27 (dk_at dksX2_next_3 15 rfl rfl)
theorem dX2_next_86 : decode cX2_next 86 = .ok (.aaload, 1) := dk_50 (dk_at dksX2_next_3 16 rfl rfl)
theorem dX2_next_87 : decode cX2_next 87 = .ok (.getfield 79, 3) := dk_180 0 79 (dk_at dksX2_next_3 17 rfl rfl)
theorem dX2_next_90 : decode cX2_next 90 = .ok (.aload_n 0, 1) := dk_42 (dk_at dksX2_next_3 20 rfl rfl)
theorem dX2_next_91 : decode cX2_next 91 = .ok (.getfield 15, 3) := dk_180 0 15 (dk_at dksX2_next_3 21 rfl rfl)
theorem dX2_next_94 : decode cX2_next 94 = .ok (.iload_n 1, 1) := dk_27 (dk_at dksX2_next_4 0 rfl rfl)
theorem dX2_next_95 : decode cX2_next 95 = .ok (.iaload, 1) := dk_46 (dk_at dksX2_next_4 1 rfl rfl)
theorem dX2_next_96 : decode cX2_next 96 = .ok (.iaload, 1) := dk_46 (dk_at dksX2_next_4 2 rfl rfl)
theorem dX2_next_97 : decode cX2_next 97 = .ok (.aload_n 0, 1) := dk_42 (dk_at dksX2_next_4 3 rfl rfl)
theorem dX2_next_98 : decode cX2_next 98 = .ok (.getfield 3, 3) := dk_180 0 3 (dk_at dksX2_next_4 4 rfl rfl)
theorem dX2_next_101 : decode cX2_next 101 = .ok (.getfield 47, 3) := dk_180 0 47 (dk_at dksX2_next_4 7 rfl rfl)
theorem dX2_next_104 : decode cX2_next 104 = .ok (.iload_n 1, 1) := dk_27 (dk_at dksX2_next_4 10 rfl rfl)
theorem dX2_next_105 : decode cX2_next 105 = .ok (.aaload, 1) := dk_50 (dk_at dksX2_next_4 11 rfl rfl)
theorem dX2_next_106 : decode cX2_next 106 = .ok (.getfield 76, 3) := dk_180 0 76 (dk_at dksX2_next_4 12 rfl rfl)
theorem dX2_next_109 : decode cX2_next 109 = .ok (.invokevirtual 85, 3) := dk_182 0 85 (dk_at dksX2_next_4 15 rfl rfl)
theorem dX2_next_112 : decode cX2_next 112 = .ok (.ifCond .ne 16, 3) := dk_154 0 16 (dk_at dksX2_next_4 18 rfl rfl)
theorem dX2_next_115 : decode cX2_next 115 = .ok (.aload_n 0, 1) := dk_42 (dk_at dksX2_next_4 21 rfl rfl)
theorem dX2_next_116 : decode cX2_next 116 = .ok (.getfield 15, 3) := dk_180 0 15 (dk_at dksX2_next_5 0 rfl rfl)
theorem dX2_next_119 : decode cX2_next 119 = .ok (.iload_n 1, 1) := dk_27 (dk_at dksX2_next_5 3 rfl rfl)
theorem dX2_next_120 : decode cX2_next 120 = .ok (.dup2, 1) := dk_92 (dk_at dksX2_next_5 4 rfl rfl)
theorem dX2_next_121 : decode cX2_next 121 = .ok (.iaload, 1) := dk_46 (dk_at dksX2_next_5 5 rfl rfl)
theorem dX2_next_122 : decode cX2_next 122 = .ok (.iconst 1, 1) := dk_4 (dk_at dksX2_next_5 6 rfl rfl)
theorem dX2_next_123 : decode cX2_next 123 = .ok (.iadd, 1) := dk_96 (dk_at dksX2_next_5 7 rfl rfl)
theorem dX2_next_124 : decode cX2_next 124 = .ok (.iastore, 1) := dk_79 (dk_at dksX2_next_5 8 rfl rfl)
theorem dX2_next_125 : decode cX2_next 125 = .ok (.goto (-78), 3) := dk_167 255 178 (dk_at dksX2_next_5 9 rfl rfl)
theorem dX2_next_128 : decode cX2_next 128 = .ok (.iconst 1, 1) := dk_4 (dk_at dksX2_next_5 12 rfl rfl)
theorem dX2_next_129 : decode cX2_next 129 = .ok (.ireturn, 1) := dk_172 (dk_at dksX2_next_5 13 rfl rfl)
abbrev cX2_rest : ByteArray := prog_7_method_5_code
def yX2_rest : MethodName := ⟨RX2, "rest", "(I)I"⟩
def dkwX2_rest_2 : List UInt8 := [28, 172]
abbrev dktX2_rest_2 : List UInt8 := dkwX2_rest_2 ++ []
def dkwX2_rest_1 : List UInt8 := [3, 167, 0, 15, 42, 180, 0, 3, 180, 0, 47, 29, 50, 180, 0, 63, 96, 61, 132, 3, 1, 167, 255, 215]
abbrev dktX2_rest_1 : List UInt8 := dkwX2_rest_1 ++ dktX2_rest_2
def dkwX2_rest_0 : List UInt8 := [3, 61, 27, 62, 29, 42, 180, 0, 3, 180, 0, 44, 162, 0, 36, 28, 29, 42, 180, 0, 34, 160, 0, 7]
abbrev dktX2_rest_0 : List UInt8 := dkwX2_rest_0 ++ dktX2_rest_1
theorem dksX2_rest_0 : cX2_rest.data.toList.drop 0 = dktX2_rest_0 := by decide +kernel
theorem dksX2_rest_1 : cX2_rest.data.toList.drop 24 = dktX2_rest_1 := dk_seg dksX2_rest_0 24 rfl rfl
theorem dksX2_rest_2 : cX2_rest.data.toList.drop 48 = dktX2_rest_2 := dk_seg dksX2_rest_1 24 rfl rfl
theorem dX2_rest_0 : decode cX2_rest 0 = .ok (.iconst 0, 1) := dk_3 (dk_at dksX2_rest_0 0 rfl rfl)
theorem dX2_rest_1 : decode cX2_rest 1 = .ok (.istore_n 2, 1) := dk_61 (dk_at dksX2_rest_0 1 rfl rfl)
theorem dX2_rest_2 : decode cX2_rest 2 = .ok (.iload_n 1, 1) := dk_27 (dk_at dksX2_rest_0 2 rfl rfl)
theorem dX2_rest_3 : decode cX2_rest 3 = .ok (.istore_n 3, 1) := dk_62 (dk_at dksX2_rest_0 3 rfl rfl)
theorem dX2_rest_4 : decode cX2_rest 4 = .ok (.iload_n 3, 1) := dk_29 (dk_at dksX2_rest_0 4 rfl rfl)
theorem dX2_rest_5 : decode cX2_rest 5 = .ok (.aload_n 0, 1) := dk_42 (dk_at dksX2_rest_0 5 rfl rfl)
theorem dX2_rest_6 : decode cX2_rest 6 = .ok (.getfield 3, 3) := dk_180 0 3 (dk_at dksX2_rest_0 6 rfl rfl)
theorem dX2_rest_9 : decode cX2_rest 9 = .ok (.getfield 44, 3) := dk_180 0 44 (dk_at dksX2_rest_0 9 rfl rfl)
theorem dX2_rest_12 : decode cX2_rest 12 = .ok (.if_icmp .ge 36, 3) := dk_162 0 36 (dk_at dksX2_rest_0 12 rfl rfl)
theorem dX2_rest_15 : decode cX2_rest 15 = .ok (.iload_n 2, 1) := dk_28 (dk_at dksX2_rest_0 15 rfl rfl)
theorem dX2_rest_16 : decode cX2_rest 16 = .ok (.iload_n 3, 1) := dk_29 (dk_at dksX2_rest_0 16 rfl rfl)
theorem dX2_rest_17 : decode cX2_rest 17 = .ok (.aload_n 0, 1) := dk_42 (dk_at dksX2_rest_0 17 rfl rfl)
theorem dX2_rest_18 : decode cX2_rest 18 = .ok (.getfield 34, 3) := dk_180 0 34 (dk_at dksX2_rest_0 18 rfl rfl)
theorem dX2_rest_21 : decode cX2_rest 21 = .ok (.if_icmp .ne 7, 3) := dk_160 0 7 (dk_at dksX2_rest_0 21 rfl rfl)
theorem dX2_rest_24 : decode cX2_rest 24 = .ok (.iconst 0, 1) := dk_3 (dk_at dksX2_rest_1 0 rfl rfl)
theorem dX2_rest_25 : decode cX2_rest 25 = .ok (.goto 15, 3) := dk_167 0 15 (dk_at dksX2_rest_1 1 rfl rfl)
theorem dX2_rest_28 : decode cX2_rest 28 = .ok (.aload_n 0, 1) := dk_42 (dk_at dksX2_rest_1 4 rfl rfl)
theorem dX2_rest_29 : decode cX2_rest 29 = .ok (.getfield 3, 3) := dk_180 0 3 (dk_at dksX2_rest_1 5 rfl rfl)
theorem dX2_rest_32 : decode cX2_rest 32 = .ok (.getfield 47, 3) := dk_180 0 47 (dk_at dksX2_rest_1 8 rfl rfl)
theorem dX2_rest_35 : decode cX2_rest 35 = .ok (.iload_n 3, 1) := dk_29 (dk_at dksX2_rest_1 11 rfl rfl)
theorem dX2_rest_36 : decode cX2_rest 36 = .ok (.aaload, 1) := dk_50 (dk_at dksX2_rest_1 12 rfl rfl)
theorem dX2_rest_37 : decode cX2_rest 37 = .ok (.getfield 63, 3) := dk_180 0 63 (dk_at dksX2_rest_1 13 rfl rfl)
theorem dX2_rest_40 : decode cX2_rest 40 = .ok (.iadd, 1) := dk_96 (dk_at dksX2_rest_1 16 rfl rfl)
theorem dX2_rest_41 : decode cX2_rest 41 = .ok (.istore_n 2, 1) := dk_61 (dk_at dksX2_rest_1 17 rfl rfl)
theorem dX2_rest_42 : decode cX2_rest 42 = .ok (.iinc 3 1, 3) := dk_132 3 1 (dk_at dksX2_rest_1 18 rfl rfl)
theorem dX2_rest_45 : decode cX2_rest 45 = .ok (.goto (-41), 3) := dk_167 255 215 (dk_at dksX2_rest_1 21 rfl rfl)
theorem dX2_rest_48 : decode cX2_rest 48 = .ok (.iload_n 2, 1) := dk_28 (dk_at dksX2_rest_2 0 rfl rfl)
theorem dX2_rest_49 : decode cX2_rest 49 = .ok (.ireturn, 1) := dk_172 (dk_at dksX2_rest_2 1 rfl rfl)
abbrev cX2_goes : ByteArray := prog_7_method_3_code
def yX2_goes : MethodName := ⟨RX2, "goes", "(III)Z"⟩
def dkwX2_goes_1 : List UInt8 := [126, 154, 0, 17, 21, 4, 28, 184, 0, 31, 126, 154, 0, 7, 4, 167, 0, 4, 3, 172]
abbrev dktX2_goes_1 : List UInt8 := dkwX2_goes_1 ++ []
def dkwX2_goes_0 : List UInt8 := [42, 27, 182, 0, 27, 42, 180, 0, 24, 27, 50, 29, 46, 2, 130, 126, 54, 4, 42, 27, 182, 0, 27, 28]
abbrev dktX2_goes_0 : List UInt8 := dkwX2_goes_0 ++ dktX2_goes_1
theorem dksX2_goes_0 : cX2_goes.data.toList.drop 0 = dktX2_goes_0 := by decide +kernel
theorem dksX2_goes_1 : cX2_goes.data.toList.drop 24 = dktX2_goes_1 := dk_seg dksX2_goes_0 24 rfl rfl
theorem dX2_goes_0 : decode cX2_goes 0 = .ok (.aload_n 0, 1) := dk_42 (dk_at dksX2_goes_0 0 rfl rfl)
theorem dX2_goes_1 : decode cX2_goes 1 = .ok (.iload_n 1, 1) := dk_27 (dk_at dksX2_goes_0 1 rfl rfl)
theorem dX2_goes_2 : decode cX2_goes 2 = .ok (.invokevirtual 27, 3) := dk_182 0 27 (dk_at dksX2_goes_0 2 rfl rfl)
theorem dX2_goes_5 : decode cX2_goes 5 = .ok (.aload_n 0, 1) := dk_42 (dk_at dksX2_goes_0 5 rfl rfl)
theorem dX2_goes_6 : decode cX2_goes 6 = .ok (.getfield 24, 3) := dk_180 0 24 (dk_at dksX2_goes_0 6 rfl rfl)
theorem dX2_goes_9 : decode cX2_goes 9 = .ok (.iload_n 1, 1) := dk_27 (dk_at dksX2_goes_0 9 rfl rfl)
theorem dX2_goes_10 : decode cX2_goes 10 = .ok (.aaload, 1) := dk_50 (dk_at dksX2_goes_0 10 rfl rfl)
theorem dX2_goes_11 : decode cX2_goes 11 = .ok (.iload_n 3, 1) := dk_29 (dk_at dksX2_goes_0 11 rfl rfl)
theorem dX2_goes_12 : decode cX2_goes 12 = .ok (.iaload, 1) := dk_46 (dk_at dksX2_goes_0 12 rfl rfl)
theorem dX2_goes_13 : decode cX2_goes 13 = .ok (.iconst (-1), 1) := dk_2 (dk_at dksX2_goes_0 13 rfl rfl)
theorem dX2_goes_14 : decode cX2_goes 14 = .ok (.ixor, 1) := dk_130 (dk_at dksX2_goes_0 14 rfl rfl)
theorem dX2_goes_15 : decode cX2_goes 15 = .ok (.iand, 1) := dk_126 (dk_at dksX2_goes_0 15 rfl rfl)
theorem dX2_goes_16 : decode cX2_goes 16 = .ok (.istore 4, 2) := dk_54 4 (dk_at dksX2_goes_0 16 rfl rfl)
theorem dX2_goes_18 : decode cX2_goes 18 = .ok (.aload_n 0, 1) := dk_42 (dk_at dksX2_goes_0 18 rfl rfl)
theorem dX2_goes_19 : decode cX2_goes 19 = .ok (.iload_n 1, 1) := dk_27 (dk_at dksX2_goes_0 19 rfl rfl)
theorem dX2_goes_20 : decode cX2_goes 20 = .ok (.invokevirtual 27, 3) := dk_182 0 27 (dk_at dksX2_goes_0 20 rfl rfl)
theorem dX2_goes_23 : decode cX2_goes 23 = .ok (.iload_n 2, 1) := dk_28 (dk_at dksX2_goes_0 23 rfl rfl)
theorem dX2_goes_24 : decode cX2_goes 24 = .ok (.iand, 1) := dk_126 (dk_at dksX2_goes_1 0 rfl rfl)
theorem dX2_goes_25 : decode cX2_goes 25 = .ok (.ifCond .ne 17, 3) := dk_154 0 17 (dk_at dksX2_goes_1 1 rfl rfl)
theorem dX2_goes_28 : decode cX2_goes 28 = .ok (.iload 4, 2) := dk_21 4 (dk_at dksX2_goes_1 4 rfl rfl)
theorem dX2_goes_30 : decode cX2_goes 30 = .ok (.iload_n 2, 1) := dk_28 (dk_at dksX2_goes_1 6 rfl rfl)
theorem dX2_goes_31 : decode cX2_goes 31 = .ok (.invokestatic 31, 3) := dk_184 0 31 (dk_at dksX2_goes_1 7 rfl rfl)
theorem dX2_goes_34 : decode cX2_goes 34 = .ok (.iand, 1) := dk_126 (dk_at dksX2_goes_1 10 rfl rfl)
theorem dX2_goes_35 : decode cX2_goes 35 = .ok (.ifCond .ne 7, 3) := dk_154 0 7 (dk_at dksX2_goes_1 11 rfl rfl)
theorem dX2_goes_38 : decode cX2_goes 38 = .ok (.iconst 1, 1) := dk_4 (dk_at dksX2_goes_1 14 rfl rfl)
theorem dX2_goes_39 : decode cX2_goes 39 = .ok (.goto 4, 3) := dk_167 0 4 (dk_at dksX2_goes_1 15 rfl rfl)
theorem dX2_goes_42 : decode cX2_goes 42 = .ok (.iconst 0, 1) := dk_3 (dk_at dksX2_goes_1 18 rfl rfl)
theorem dX2_goes_43 : decode cX2_goes 43 = .ok (.ireturn, 1) := dk_172 (dk_at dksX2_goes_1 19 rfl rfl)
abbrev cX2_has : ByteArray := prog_7_method_8_code
def yX2_has : MethodName := ⟨RX2, "has", "(I)Z"⟩
def dkwX2_has_1 : List UInt8 := [167, 0, 4, 3, 172]
abbrev dktX2_has_1 : List UInt8 := dkwX2_has_1 ++ []
def dkwX2_has_0 : List UInt8 := [42, 180, 0, 19, 27, 46, 42, 180, 0, 3, 180, 0, 47, 27, 50, 180, 0, 60, 162, 0, 7, 4]
abbrev dktX2_has_0 : List UInt8 := dkwX2_has_0 ++ dktX2_has_1
theorem dksX2_has_0 : cX2_has.data.toList.drop 0 = dktX2_has_0 := by decide +kernel
theorem dksX2_has_1 : cX2_has.data.toList.drop 22 = dktX2_has_1 := dk_seg dksX2_has_0 22 rfl rfl
theorem dX2_has_0 : decode cX2_has 0 = .ok (.aload_n 0, 1) := dk_42 (dk_at dksX2_has_0 0 rfl rfl)
theorem dX2_has_1 : decode cX2_has 1 = .ok (.getfield 19, 3) := dk_180 0 19 (dk_at dksX2_has_0 1 rfl rfl)
theorem dX2_has_4 : decode cX2_has 4 = .ok (.iload_n 1, 1) := dk_27 (dk_at dksX2_has_0 4 rfl rfl)
theorem dX2_has_5 : decode cX2_has 5 = .ok (.iaload, 1) := dk_46 (dk_at dksX2_has_0 5 rfl rfl)
theorem dX2_has_6 : decode cX2_has 6 = .ok (.aload_n 0, 1) := dk_42 (dk_at dksX2_has_0 6 rfl rfl)
theorem dX2_has_7 : decode cX2_has 7 = .ok (.getfield 3, 3) := dk_180 0 3 (dk_at dksX2_has_0 7 rfl rfl)
theorem dX2_has_10 : decode cX2_has 10 = .ok (.getfield 47, 3) := dk_180 0 47 (dk_at dksX2_has_0 10 rfl rfl)
theorem dX2_has_13 : decode cX2_has 13 = .ok (.iload_n 1, 1) := dk_27 (dk_at dksX2_has_0 13 rfl rfl)
theorem dX2_has_14 : decode cX2_has 14 = .ok (.aaload, 1) := dk_50 (dk_at dksX2_has_0 14 rfl rfl)
theorem dX2_has_15 : decode cX2_has 15 = .ok (.getfield 60, 3) := dk_180 0 60 (dk_at dksX2_has_0 15 rfl rfl)
theorem dX2_has_18 : decode cX2_has 18 = .ok (.if_icmp .ge 7, 3) := dk_162 0 7 (dk_at dksX2_has_0 18 rfl rfl)
theorem dX2_has_21 : decode cX2_has 21 = .ok (.iconst 1, 1) := dk_4 (dk_at dksX2_has_0 21 rfl rfl)
theorem dX2_has_22 : decode cX2_has 22 = .ok (.goto 4, 3) := dk_167 0 4 (dk_at dksX2_has_1 0 rfl rfl)
theorem dX2_has_25 : decode cX2_has 25 = .ok (.iconst 0, 1) := dk_3 (dk_at dksX2_has_1 3 rfl rfl)
theorem dX2_has_26 : decode cX2_has 26 = .ok (.ireturn, 1) := dk_172 (dk_at dksX2_has_1 4 rfl rfl)
theorem q75 : (Jvm.Cond.initialized "SharedNights$Night") ∈ lw_all := lw_g (lw_at lw_m1 3 rfl) rfl
theorem q132 : (Jvm.Cond.instantiable "SharedNights$Night" (7 : Nat)) ∈ lw_all := lw_g (lw_at lw_m1 60 rfl) rfl
theorem q134 : (Jvm.Cond.instanceMethod ({ cls := "SharedNights$Night", name := "<init>", desc := "(LSharedNights;)V" } : Jvm.MethodName)) ∈ lw_all := lw_g (lw_at lw_m1 62 rfl) rfl
theorem q135 : (Jvm.Cond.code ({ cls := "SharedNights$Night", name := "<init>", desc := "(LSharedNights;)V" } : Jvm.MethodName) prog_7_method_1_code (2 : Nat) (Option.none : Option Jvm.ClassFile.FieldType)) ∈ lw_all := lw_g (lw_at lw_m1 63 rfl) rfl
theorem q136 : (Jvm.Cond.methodLink "SharedNights$Night" (9 : Nat) ({ cls := "java/lang/Object", name := "<init>", desc := "()V" } : Jvm.MethodName)) ∈ lw_all := lw_g (lw_at lw_m1 64 rfl) rfl
theorem q137 : (Jvm.Cond.classLink "SharedNights$Night" (22 : Nat) "[[I") ∈ lw_all := lw_g (lw_at lw_m1 65 rfl) rfl
theorem q139 : (Jvm.Cond.fieldLink "SharedNights$Night" (15 : Nat) "SharedNights$Night" "row" "[I") ∈ lw_all := lw_g (lw_at lw_m1 67 rfl) rfl
theorem q140 : (Jvm.Cond.fieldLink "SharedNights$Night" (19 : Nat) "SharedNights$Night" "best" "[I") ∈ lw_all := lw_g (lw_at lw_m1 68 rfl) rfl
theorem q142 : (Jvm.Cond.fieldLink "SharedNights$Night" (38 : Nat) "SharedNights$Night" "bestWorth" "I") ∈ lw_all := lw_g (lw_at lw_m1 70 rfl) rfl
theorem q144 : (Jvm.Cond.fieldLink "SharedNights$Night" (41 : Nat) "SharedNights$Night" "bestSlots" "I") ∈ lw_all := lw_g (lw_at lw_m1 72 rfl) rfl
theorem q146 : (Jvm.Cond.fieldLink "SharedNights$Night" (24 : Nat) "SharedNights$Night" "used" "[[I") ∈ lw_all := lw_g (lw_at lw_m1 74 rfl) rfl
theorem q147 : (Jvm.Cond.fieldLink "SharedNights$Night" (34 : Nat) "SharedNights$Night" "without" "I") ∈ lw_all := lw_g (lw_at lw_m1 75 rfl) rfl
theorem q148 : (Jvm.Cond.fieldLink "SharedNights$Night" (3 : Nat) "SharedNights$Night" "this$0" "LSharedNights;") ∈ lw_all := lw_g (lw_at lw_m1 76 rfl) rfl
theorem q149 : (Jvm.Cond.laysFinal "SharedNights$Night" "SharedNights$Night" "row" "[I") ∈ lw_all := lw_g (lw_at lw_m1 77 rfl) rfl
theorem q150 : (Jvm.Cond.soleField "SharedNights$Night" "row") ∈ lw_all := lw_g (lw_at lw_m1 78 rfl) rfl
theorem q151 : (Jvm.Cond.laysFinal "SharedNights$Night" "SharedNights$Night" "best" "[I") ∈ lw_all := lw_g (lw_at lw_m1 79 rfl) rfl
theorem q152 : (Jvm.Cond.soleField "SharedNights$Night" "best") ∈ lw_all := lw_g (lw_at lw_m1 80 rfl) rfl
theorem q153 : (Jvm.Cond.lays "SharedNights$Night" "SharedNights$Night" "bestWorth" "I") ∈ lw_all := lw_g (lw_at lw_m1 81 rfl) rfl
theorem q154 : (Jvm.Cond.soleField "SharedNights$Night" "bestWorth") ∈ lw_all := lw_g (lw_at lw_m1 82 rfl) rfl
theorem q155 : (Jvm.Cond.lays "SharedNights$Night" "SharedNights$Night" "bestSlots" "I") ∈ lw_all := lw_g (lw_at lw_m1 83 rfl) rfl
theorem q156 : (Jvm.Cond.soleField "SharedNights$Night" "bestSlots") ∈ lw_all := lw_g (lw_at lw_m1 84 rfl) rfl
theorem q157 : (Jvm.Cond.laysFinal "SharedNights$Night" "SharedNights$Night" "used" "[[I") ∈ lw_all := lw_g (lw_at lw_m1 85 rfl) rfl
theorem q158 : (Jvm.Cond.soleField "SharedNights$Night" "used") ∈ lw_all := lw_g (lw_at lw_m1 86 rfl) rfl
theorem q159 : (Jvm.Cond.lays "SharedNights$Night" "SharedNights$Night" "without" "I") ∈ lw_all := lw_g (lw_at lw_m1 87 rfl) rfl
theorem q160 : (Jvm.Cond.soleField "SharedNights$Night" "without") ∈ lw_all := lw_g (lw_at lw_m1 88 rfl) rfl
theorem q161 : (Jvm.Cond.laysFinal "SharedNights$Night" "SharedNights$Night" "this$0" "LSharedNights;") ∈ lw_all := lw_g (lw_at lw_m1 89 rfl) rfl
theorem q162 : (Jvm.Cond.soleField "SharedNights$Night" "this$0") ∈ lw_all := lw_g (lw_at lw_m1 90 rfl) rfl
theorem q163 : (Jvm.Cond.superclass "SharedNights$Night" "java/lang/Object") ∈ lw_all := lw_g (lw_at lw_m1 91 rfl) rfl
theorem q271 : (Jvm.Cond.fieldLinkNest "SharedNights$Night" (47 : Nat) "SharedNights" "plans" "[LSharedNights$Plan;" "SharedNights") ∈ lw_tbl := lw_at lw_m1 199 rfl
theorem q274 : (Jvm.Cond.fieldLinkNest "SharedNights$Night" (44 : Nat) "SharedNights" "planMany" "I" "SharedNights") ∈ lw_tbl := lw_at lw_m1 202 rfl
theorem q469 : (Jvm.Cond.fieldLinkNest "SharedNights$Night" (76 : Nat) "SharedNights$Plan" "instrument" "I" "SharedNights") ∈ lw_tbl := lw_at lw_m2 157 rfl
theorem q477 : (Jvm.Cond.fieldLinkNest "SharedNights$Night" (63 : Nat) "SharedNights$Plan" "worth" "I" "SharedNights") ∈ lw_tbl := lw_at lw_m2 165 rfl
theorem q489 : (Jvm.Cond.fieldLinkNest "SharedNights$Night" (79 : Nat) "SharedNights$Plan" "places" "[I" "SharedNights") ∈ lw_tbl := lw_at lw_m2 177 rfl
theorem q492 : (Jvm.Cond.fieldLinkNest "SharedNights$Night" (60 : Nat) "SharedNights$Plan" "placeMany" "I" "SharedNights") ∈ lw_tbl := lw_at lw_m2 180 rfl
theorem q835 : (Jvm.Cond.instanceMethod ({ cls := "SharedNights$Night", name := "run", desc := "(III)V" } : Jvm.MethodName)) ∈ lw_all := lw_g (lw_at lw_m4 43 rfl) rfl
theorem q836 : (Jvm.Cond.selects "SharedNights$Night" ({ cls := "SharedNights$Night", name := "run", desc := "(III)V" } : Jvm.MethodName) ({ cls := "SharedNights$Night", name := "run", desc := "(III)V" } : Jvm.MethodName)) ∈ lw_all := lw_g (lw_at lw_m4 44 rfl) rfl
theorem q837 : (Jvm.Cond.code ({ cls := "SharedNights$Night", name := "run", desc := "(III)V" } : Jvm.MethodName) prog_7_method_4_code (7 : Nat) (Option.none : Option Jvm.ClassFile.FieldType)) ∈ lw_all := lw_g (lw_at lw_m4 45 rfl) rfl
theorem q838 : (Jvm.Cond.methodLink "SharedNights$Night" (51 : Nat) ({ cls := "SharedNights$Plan", name := "layPlaces", desc := "()V" } : Jvm.MethodName)) ∈ lw_all := lw_g (lw_at lw_m4 46 rfl) rfl
theorem q839 : (Jvm.Cond.methodLink "SharedNights$Night" (56 : Nat) ({ cls := "SharedNights$Night", name := "look", desc := "(II)V" } : Jvm.MethodName)) ∈ lw_all := lw_g (lw_at lw_m4 47 rfl) rfl
theorem q840 : (Jvm.Cond.privateMethod ({ cls := "SharedNights$Night", name := "look", desc := "(II)V" } : Jvm.MethodName)) ∈ lw_tbl := lw_at lw_m4 48 rfl
theorem q841 : (Jvm.Cond.instanceMethod ({ cls := "SharedNights$Night", name := "look", desc := "(II)V" } : Jvm.MethodName)) ∈ lw_all := lw_g (lw_at lw_m4 49 rfl) rfl
theorem q842 : (Jvm.Cond.code ({ cls := "SharedNights$Night", name := "look", desc := "(II)V" } : Jvm.MethodName) prog_7_method_7_code (4 : Nat) (Option.none : Option Jvm.ClassFile.FieldType)) ∈ lw_all := lw_g (lw_at lw_m4 50 rfl) rfl
theorem q843 : (Jvm.Cond.methodLink "SharedNights$Night" (27 : Nat) ({ cls := "SharedNights$Night", name := "all", desc := "(I)I" } : Jvm.MethodName)) ∈ lw_all := lw_g (lw_at lw_m4 51 rfl) rfl
theorem q844 : (Jvm.Cond.privateMethod ({ cls := "SharedNights$Night", name := "all", desc := "(I)I" } : Jvm.MethodName)) ∈ lw_tbl := lw_at lw_m4 52 rfl
theorem q845 : (Jvm.Cond.instanceMethod ({ cls := "SharedNights$Night", name := "all", desc := "(I)I" } : Jvm.MethodName)) ∈ lw_all := lw_g (lw_at lw_m4 53 rfl) rfl
theorem q846 : (Jvm.Cond.code ({ cls := "SharedNights$Night", name := "all", desc := "(I)I" } : Jvm.MethodName) prog_7_method_2_code (2 : Nat) (Option.some Jvm.ClassFile.FieldType.int)) ∈ lw_all := lw_g (lw_at lw_m4 54 rfl) rfl
theorem q847 : (Jvm.Cond.methodLink "SharedNights$Night" (89 : Nat) ({ cls := "java/lang/Integer", name := "bitCount", desc := "(I)I" } : Jvm.MethodName)) ∈ lw_all := lw_g (lw_at lw_m4 55 rfl) rfl
theorem q853 : (Jvm.Cond.methodLink "SharedNights$Night" (70 : Nat) ({ cls := "java/lang/System", name := "arraycopy", desc := "(Ljava/lang/Object;ILjava/lang/Object;II)V" } : Jvm.MethodName)) ∈ lw_all := lw_g (lw_at lw_m4 61 rfl) rfl
theorem q854 : (Jvm.Cond.methodLink "SharedNights$Night" (66 : Nat) ({ cls := "SharedNights$Night", name := "next", desc := "(II)Z" } : Jvm.MethodName)) ∈ lw_all := lw_g (lw_at lw_m4 62 rfl) rfl
theorem q855 : (Jvm.Cond.privateMethod ({ cls := "SharedNights$Night", name := "next", desc := "(II)Z" } : Jvm.MethodName)) ∈ lw_tbl := lw_at lw_m4 63 rfl
theorem q856 : (Jvm.Cond.instanceMethod ({ cls := "SharedNights$Night", name := "next", desc := "(II)Z" } : Jvm.MethodName)) ∈ lw_all := lw_g (lw_at lw_m4 64 rfl) rfl
theorem q857 : (Jvm.Cond.code ({ cls := "SharedNights$Night", name := "next", desc := "(II)Z" } : Jvm.MethodName) prog_7_method_6_code (3 : Nat) (Option.some Jvm.ClassFile.FieldType.boolean)) ∈ lw_all := lw_g (lw_at lw_m4 65 rfl) rfl
theorem q858 : (Jvm.Cond.methodLink "SharedNights$Night" (82 : Nat) ({ cls := "SharedNights$Night", name := "rest", desc := "(I)I" } : Jvm.MethodName)) ∈ lw_all := lw_g (lw_at lw_m4 66 rfl) rfl
theorem q859 : (Jvm.Cond.privateMethod ({ cls := "SharedNights$Night", name := "rest", desc := "(I)I" } : Jvm.MethodName)) ∈ lw_tbl := lw_at lw_m4 67 rfl
theorem q860 : (Jvm.Cond.instanceMethod ({ cls := "SharedNights$Night", name := "rest", desc := "(I)I" } : Jvm.MethodName)) ∈ lw_all := lw_g (lw_at lw_m4 68 rfl) rfl
theorem q861 : (Jvm.Cond.code ({ cls := "SharedNights$Night", name := "rest", desc := "(I)I" } : Jvm.MethodName) prog_7_method_5_code (4 : Nat) (Option.some Jvm.ClassFile.FieldType.int)) ∈ lw_all := lw_g (lw_at lw_m4 69 rfl) rfl
theorem q862 : (Jvm.Cond.methodLink "SharedNights$Night" (85 : Nat) ({ cls := "SharedNights$Night", name := "goes", desc := "(III)Z" } : Jvm.MethodName)) ∈ lw_all := lw_g (lw_at lw_m4 70 rfl) rfl
theorem q863 : (Jvm.Cond.privateMethod ({ cls := "SharedNights$Night", name := "goes", desc := "(III)Z" } : Jvm.MethodName)) ∈ lw_tbl := lw_at lw_m4 71 rfl
theorem q864 : (Jvm.Cond.instanceMethod ({ cls := "SharedNights$Night", name := "goes", desc := "(III)Z" } : Jvm.MethodName)) ∈ lw_all := lw_g (lw_at lw_m4 72 rfl) rfl
theorem q865 : (Jvm.Cond.code ({ cls := "SharedNights$Night", name := "goes", desc := "(III)Z" } : Jvm.MethodName) prog_7_method_3_code (5 : Nat) (Option.some Jvm.ClassFile.FieldType.boolean)) ∈ lw_all := lw_g (lw_at lw_m4 73 rfl) rfl
theorem q866 : (Jvm.Cond.methodLinkNest "SharedNights$Night" (31 : Nat) ({ cls := "SharedNights", name := "wide", desc := "(I)I" } : Jvm.MethodName) "SharedNights") ∈ lw_tbl := lw_at lw_m4 74 rfl
theorem q874 : (Jvm.Cond.instanceMethod ({ cls := "SharedNights$Night", name := "has", desc := "(I)Z" } : Jvm.MethodName)) ∈ lw_all := lw_g (lw_at lw_m4 82 rfl) rfl
theorem q875 : (Jvm.Cond.selects "SharedNights$Night" ({ cls := "SharedNights$Night", name := "has", desc := "(I)Z" } : Jvm.MethodName) ({ cls := "SharedNights$Night", name := "has", desc := "(I)Z" } : Jvm.MethodName)) ∈ lw_all := lw_g (lw_at lw_m4 83 rfl) rfl
theorem q876 : (Jvm.Cond.code ({ cls := "SharedNights$Night", name := "has", desc := "(I)Z" } : Jvm.MethodName) prog_7_method_8_code (2 : Nat) (Option.some Jvm.ClassFile.FieldType.boolean)) ∈ lw_all := lw_g (lw_at lw_m4 84 rfl) rfl
theorem in_X2 : ∀ w ∈ wsX20, w ∈ lw_all := lw_in wsX20 [149, 151, 153, 155, 157, 159, 161] (by decide +kernel) (by decide +kernel)
/-! SharedNights$Rule -/
set_option maxRecDepth 100000
def RX3 : String := "SharedNights$Rule"
abbrev cX3_init : ByteArray := prog_10_method_1_code
def yX3_init : MethodName := ⟨RX3, "<init>", "()V"⟩
theorem dX3_init_0 : decode cX3_init 0 = .ok (.aload_n 0, 1) := by decide +kernel
theorem dX3_init_1 : decode cX3_init 1 = .ok (.invokespecial 1, 3) := by decide +kernel
theorem dX3_init_4 : decode cX3_init 4 = .ok (.return_, 1) := by decide +kernel
theorem q76 : (Jvm.Cond.initialized "SharedNights$Rule") ∈ lw_all := lw_g (lw_at lw_m1 4 rfl) rfl
theorem q173 : (Jvm.Cond.instanceMethod ({ cls := "SharedNights$Rule", name := "<init>", desc := "()V" } : Jvm.MethodName)) ∈ lw_all := lw_g (lw_at lw_m1 101 rfl) rfl
theorem q174 : (Jvm.Cond.code ({ cls := "SharedNights$Rule", name := "<init>", desc := "()V" } : Jvm.MethodName) prog_10_method_1_code (1 : Nat) (Option.none : Option Jvm.ClassFile.FieldType)) ∈ lw_all := lw_g (lw_at lw_m1 102 rfl) rfl
theorem q175 : (Jvm.Cond.methodLink "SharedNights$Rule" (1 : Nat) ({ cls := "java/lang/Object", name := "<init>", desc := "()V" } : Jvm.MethodName)) ∈ lw_all := lw_g (lw_at lw_m1 103 rfl) rfl
theorem q940 : (Jvm.Cond.declares ({ cls := "SharedNights$Rule", name := "measure", desc := "(LSharedNights$Plan;I)I" } : Jvm.MethodName)) ∈ lw_tbl := lw_at lw_m4 148 rfl
theorem q941 : (Jvm.Cond.sameMethod "SharedNights$Rule" "SharedNights$Rule" "measure" "(LSharedNights$Plan;I)I") ∈ lw_all := lw_g (lw_at lw_m4 149 rfl) rfl
/-! SharedNights$Worth -/
set_option maxRecDepth 100000
def RX4 : String := "SharedNights$Worth"
abbrev cX4_init : ByteArray := prog_14_method_1_code
def yX4_init : MethodName := ⟨RX4, "<init>", "()V"⟩
theorem dX4_init_0 : decode cX4_init 0 = .ok (.aload_n 0, 1) := by decide +kernel
theorem dX4_init_1 : decode cX4_init 1 = .ok (.invokespecial 1, 3) := by decide +kernel
theorem dX4_init_4 : decode cX4_init 4 = .ok (.return_, 1) := by decide +kernel
abbrev cX4_measure : ByteArray := prog_14_method_2_code
def yX4_measure : MethodName := ⟨RX4, "measure", "(LSharedNights$Plan;I)I"⟩
def dkwX4_measure_0 : List UInt8 := [43, 180, 0, 7, 116, 172]
abbrev dktX4_measure_0 : List UInt8 := dkwX4_measure_0 ++ []
theorem dksX4_measure_0 : cX4_measure.data.toList.drop 0 = dktX4_measure_0 := by decide +kernel
theorem dX4_measure_0 : decode cX4_measure 0 = .ok (.aload_n 1, 1) := dk_43 (dk_at dksX4_measure_0 0 rfl rfl)
theorem dX4_measure_1 : decode cX4_measure 1 = .ok (.getfield 7, 3) := dk_180 0 7 (dk_at dksX4_measure_0 1 rfl rfl)
theorem dX4_measure_4 : decode cX4_measure 4 = .ok (.ineg, 1) := dk_116 (dk_at dksX4_measure_0 4 rfl rfl)
theorem dX4_measure_5 : decode cX4_measure 5 = .ok (.ireturn, 1) := dk_172 (dk_at dksX4_measure_0 5 rfl rfl)
theorem q77 : (Jvm.Cond.initialized "SharedNights$Worth") ∈ lw_all := lw_g (lw_at lw_m1 5 rfl) rfl
theorem q168 : (Jvm.Cond.instantiable "SharedNights$Worth" (0 : Nat)) ∈ lw_all := lw_g (lw_at lw_m1 96 rfl) rfl
theorem q170 : (Jvm.Cond.instanceMethod ({ cls := "SharedNights$Worth", name := "<init>", desc := "()V" } : Jvm.MethodName)) ∈ lw_all := lw_g (lw_at lw_m1 98 rfl) rfl
theorem q171 : (Jvm.Cond.code ({ cls := "SharedNights$Worth", name := "<init>", desc := "()V" } : Jvm.MethodName) prog_14_method_1_code (1 : Nat) (Option.none : Option Jvm.ClassFile.FieldType)) ∈ lw_all := lw_g (lw_at lw_m1 99 rfl) rfl
theorem q172 : (Jvm.Cond.methodLinkNest "SharedNights$Worth" (1 : Nat) ({ cls := "SharedNights$Rule", name := "<init>", desc := "()V" } : Jvm.MethodName) "SharedNights") ∈ lw_tbl := lw_at lw_m1 100 rfl
theorem q176 : (Jvm.Cond.superclass "SharedNights$Worth" "SharedNights$Rule") ∈ lw_all := lw_g (lw_at lw_m1 104 rfl) rfl
theorem q476 : (Jvm.Cond.fieldLinkNest "SharedNights$Worth" (7 : Nat) "SharedNights$Plan" "worth" "I" "SharedNights") ∈ lw_tbl := lw_at lw_m2 164 rfl
theorem q956 : (Jvm.Cond.selects "SharedNights$Worth" ({ cls := "SharedNights$Rule", name := "measure", desc := "(LSharedNights$Plan;I)I" } : Jvm.MethodName) ({ cls := "SharedNights$Worth", name := "measure", desc := "(LSharedNights$Plan;I)I" } : Jvm.MethodName)) ∈ lw_all := lw_g (lw_at lw_m4 164 rfl) rfl
theorem q957 : (Jvm.Cond.instanceMethod ({ cls := "SharedNights$Worth", name := "measure", desc := "(LSharedNights$Plan;I)I" } : Jvm.MethodName)) ∈ lw_all := lw_g (lw_at lw_m4 165 rfl) rfl
theorem q958 : (Jvm.Cond.code ({ cls := "SharedNights$Worth", name := "measure", desc := "(LSharedNights$Plan;I)I" } : Jvm.MethodName) prog_14_method_2_code (3 : Nat) (Option.some Jvm.ClassFile.FieldType.int)) ∈ lw_all := lw_g (lw_at lw_m4 166 rfl) rfl
theorem q1480 : (Jvm.Cond.castable "SharedNights$Worth" "SharedNights$Rule") ∈ lw_tbl := lw_at lw_m6 208 rfl
/-! SharedNights$Air -/
set_option maxRecDepth 100000
def RX5 : String := "SharedNights$Air"
abbrev cX5_init : ByteArray := prog_2_method_1_code
def yX5_init : MethodName := ⟨RX5, "<init>", "()V"⟩
theorem dX5_init_0 : decode cX5_init 0 = .ok (.aload_n 0, 1) := by decide +kernel
theorem dX5_init_1 : decode cX5_init 1 = .ok (.invokespecial 1, 3) := by decide +kernel
theorem dX5_init_4 : decode cX5_init 4 = .ok (.return_, 1) := by decide +kernel
abbrev cX5_measure : ByteArray := prog_2_method_2_code
def yX5_measure : MethodName := ⟨RX5, "measure", "(LSharedNights$Plan;I)I"⟩
def dkwX5_measure_0 : List UInt8 := [43, 182, 0, 7, 28, 182, 0, 13, 172]
abbrev dktX5_measure_0 : List UInt8 := dkwX5_measure_0 ++ []
theorem dksX5_measure_0 : cX5_measure.data.toList.drop 0 = dktX5_measure_0 := by decide +kernel
theorem dX5_measure_0 : decode cX5_measure 0 = .ok (.aload_n 1, 1) := dk_43 (dk_at dksX5_measure_0 0 rfl rfl)
theorem dX5_measure_1 : decode cX5_measure 1 = .ok (.invokevirtual 7, 3) := dk_182 0 7 (dk_at dksX5_measure_0 1 rfl rfl)
theorem dX5_measure_4 : decode cX5_measure 4 = .ok (.iload_n 2, 1) := dk_28 (dk_at dksX5_measure_0 4 rfl rfl)
theorem dX5_measure_5 : decode cX5_measure 5 = .ok (.invokevirtual 13, 3) := dk_182 0 13 (dk_at dksX5_measure_0 5 rfl rfl)
theorem dX5_measure_8 : decode cX5_measure 8 = .ok (.ireturn, 1) := dk_172 (dk_at dksX5_measure_0 8 rfl rfl)
theorem q78 : (Jvm.Cond.initialized "SharedNights$Air") ∈ lw_all := lw_g (lw_at lw_m1 6 rfl) rfl
theorem q178 : (Jvm.Cond.instantiable "SharedNights$Air" (0 : Nat)) ∈ lw_all := lw_g (lw_at lw_m1 106 rfl) rfl
theorem q180 : (Jvm.Cond.instanceMethod ({ cls := "SharedNights$Air", name := "<init>", desc := "()V" } : Jvm.MethodName)) ∈ lw_all := lw_g (lw_at lw_m1 108 rfl) rfl
theorem q181 : (Jvm.Cond.code ({ cls := "SharedNights$Air", name := "<init>", desc := "()V" } : Jvm.MethodName) prog_2_method_1_code (1 : Nat) (Option.none : Option Jvm.ClassFile.FieldType)) ∈ lw_all := lw_g (lw_at lw_m1 109 rfl) rfl
theorem q182 : (Jvm.Cond.methodLinkNest "SharedNights$Air" (1 : Nat) ({ cls := "SharedNights$Rule", name := "<init>", desc := "()V" } : Jvm.MethodName) "SharedNights") ∈ lw_tbl := lw_at lw_m1 110 rfl
theorem q183 : (Jvm.Cond.superclass "SharedNights$Air" "SharedNights$Rule") ∈ lw_all := lw_g (lw_at lw_m1 111 rfl) rfl
theorem q942 : (Jvm.Cond.selects "SharedNights$Air" ({ cls := "SharedNights$Rule", name := "measure", desc := "(LSharedNights$Plan;I)I" } : Jvm.MethodName) ({ cls := "SharedNights$Air", name := "measure", desc := "(LSharedNights$Plan;I)I" } : Jvm.MethodName)) ∈ lw_all := lw_g (lw_at lw_m4 150 rfl) rfl
theorem q943 : (Jvm.Cond.instanceMethod ({ cls := "SharedNights$Air", name := "measure", desc := "(LSharedNights$Plan;I)I" } : Jvm.MethodName)) ∈ lw_all := lw_g (lw_at lw_m4 151 rfl) rfl
theorem q944 : (Jvm.Cond.code ({ cls := "SharedNights$Air", name := "measure", desc := "(LSharedNights$Plan;I)I" } : Jvm.MethodName) prog_2_method_2_code (3 : Nat) (Option.some Jvm.ClassFile.FieldType.int)) ∈ lw_all := lw_g (lw_at lw_m4 152 rfl) rfl
theorem q945 : (Jvm.Cond.methodLink "SharedNights$Air" (7 : Nat) ({ cls := "SharedNights$Plan", name := "of", desc := "()LSharedNights$Target;" } : Jvm.MethodName)) ∈ lw_all := lw_g (lw_at lw_m4 153 rfl) rfl
theorem q946 : (Jvm.Cond.methodLink "SharedNights$Air" (13 : Nat) ({ cls := "SharedNights$Target", name := "air", desc := "(I)I" } : Jvm.MethodName)) ∈ lw_all := lw_g (lw_at lw_m4 154 rfl) rfl
theorem q1481 : (Jvm.Cond.castable "SharedNights$Air" "SharedNights$Rule") ∈ lw_tbl := lw_at lw_m6 209 rfl
/-! SharedNights$Closing -/
set_option maxRecDepth 100000
def RX6 : String := "SharedNights$Closing"
abbrev cX6_init : ByteArray := prog_3_method_1_code
def yX6_init : MethodName := ⟨RX6, "<init>", "()V"⟩
theorem dX6_init_0 : decode cX6_init 0 = .ok (.aload_n 0, 1) := by decide +kernel
theorem dX6_init_1 : decode cX6_init 1 = .ok (.invokespecial 1, 3) := by decide +kernel
theorem dX6_init_4 : decode cX6_init 4 = .ok (.return_, 1) := by decide +kernel
abbrev cX6_measure : ByteArray := prog_3_method_2_code
def yX6_measure : MethodName := ⟨RX6, "measure", "(LSharedNights$Plan;I)I"⟩
def dkwX6_measure_0 : List UInt8 := [43, 182, 0, 7, 182, 0, 13, 172]
abbrev dktX6_measure_0 : List UInt8 := dkwX6_measure_0 ++ []
theorem dksX6_measure_0 : cX6_measure.data.toList.drop 0 = dktX6_measure_0 := by decide +kernel
theorem dX6_measure_0 : decode cX6_measure 0 = .ok (.aload_n 1, 1) := dk_43 (dk_at dksX6_measure_0 0 rfl rfl)
theorem dX6_measure_1 : decode cX6_measure 1 = .ok (.invokevirtual 7, 3) := dk_182 0 7 (dk_at dksX6_measure_0 1 rfl rfl)
theorem dX6_measure_4 : decode cX6_measure 4 = .ok (.invokevirtual 13, 3) := dk_182 0 13 (dk_at dksX6_measure_0 4 rfl rfl)
theorem dX6_measure_7 : decode cX6_measure 7 = .ok (.ireturn, 1) := dk_172 (dk_at dksX6_measure_0 7 rfl rfl)
theorem q79 : (Jvm.Cond.initialized "SharedNights$Closing") ∈ lw_all := lw_g (lw_at lw_m1 7 rfl) rfl
theorem q185 : (Jvm.Cond.instantiable "SharedNights$Closing" (0 : Nat)) ∈ lw_all := lw_g (lw_at lw_m1 113 rfl) rfl
theorem q187 : (Jvm.Cond.instanceMethod ({ cls := "SharedNights$Closing", name := "<init>", desc := "()V" } : Jvm.MethodName)) ∈ lw_all := lw_g (lw_at lw_m1 115 rfl) rfl
theorem q188 : (Jvm.Cond.code ({ cls := "SharedNights$Closing", name := "<init>", desc := "()V" } : Jvm.MethodName) prog_3_method_1_code (1 : Nat) (Option.none : Option Jvm.ClassFile.FieldType)) ∈ lw_all := lw_g (lw_at lw_m1 116 rfl) rfl
theorem q189 : (Jvm.Cond.methodLinkNest "SharedNights$Closing" (1 : Nat) ({ cls := "SharedNights$Rule", name := "<init>", desc := "()V" } : Jvm.MethodName) "SharedNights") ∈ lw_tbl := lw_at lw_m1 117 rfl
theorem q190 : (Jvm.Cond.superclass "SharedNights$Closing" "SharedNights$Rule") ∈ lw_all := lw_g (lw_at lw_m1 118 rfl) rfl
theorem q947 : (Jvm.Cond.selects "SharedNights$Closing" ({ cls := "SharedNights$Rule", name := "measure", desc := "(LSharedNights$Plan;I)I" } : Jvm.MethodName) ({ cls := "SharedNights$Closing", name := "measure", desc := "(LSharedNights$Plan;I)I" } : Jvm.MethodName)) ∈ lw_all := lw_g (lw_at lw_m4 155 rfl) rfl
theorem q948 : (Jvm.Cond.instanceMethod ({ cls := "SharedNights$Closing", name := "measure", desc := "(LSharedNights$Plan;I)I" } : Jvm.MethodName)) ∈ lw_all := lw_g (lw_at lw_m4 156 rfl) rfl
theorem q949 : (Jvm.Cond.code ({ cls := "SharedNights$Closing", name := "measure", desc := "(LSharedNights$Plan;I)I" } : Jvm.MethodName) prog_3_method_2_code (3 : Nat) (Option.some Jvm.ClassFile.FieldType.int)) ∈ lw_all := lw_g (lw_at lw_m4 157 rfl) rfl
theorem q950 : (Jvm.Cond.methodLink "SharedNights$Closing" (7 : Nat) ({ cls := "SharedNights$Plan", name := "of", desc := "()LSharedNights$Target;" } : Jvm.MethodName)) ∈ lw_all := lw_g (lw_at lw_m4 158 rfl) rfl
theorem q951 : (Jvm.Cond.methodLink "SharedNights$Closing" (13 : Nat) ({ cls := "SharedNights$Target", name := "last", desc := "()I" } : Jvm.MethodName)) ∈ lw_all := lw_g (lw_at lw_m4 159 rfl) rfl
theorem q1482 : (Jvm.Cond.castable "SharedNights$Closing" "SharedNights$Rule") ∈ lw_tbl := lw_at lw_m6 210 rfl
/-! SharedNights$Watch -/
set_option maxRecDepth 100000
def RX7 : String := "SharedNights$Watch"
def TX7 : u_T := fun k => match k with
  | 0 => ("SharedNights$Watch", "step", "[I", true)
  | 1 => ("SharedNights$Watch", "end", "[I", true)
  | 2 => ("SharedNights$Watch", "wasBroken", "[Z", true)
  | 3 => ("SharedNights$Watch", "log", "[I", true)
  | 4 => ("SharedNights$Watch", "in", "I", false)
  | 5 => ("SharedNights$Watch", "going", "I", false)
  | 6 => ("SharedNights$Watch", "left", "I", false)
  | 7 => ("SharedNights$Watch", "rule", "LSharedNights$Rule;", false)
  | 8 => ("SharedNights$Watch", "sky", "LSharedNights$Sky;", false)
  | _ => ("SharedNights$Watch", "this$0", "LSharedNights;", true)
def tyX7 : Nat → FieldType := fun k => match k with
  | 0 => .array .int
  | 1 => .array .int
  | 2 => .array .boolean
  | 3 => .array .int
  | 4 => .int
  | 5 => .int
  | 6 => .int
  | 7 => .object "SharedNights$Rule"
  | 8 => .object "SharedNights$Sky"
  | _ => .object "SharedNights"
abbrev wsX70 : List Cond := u_ws RX7 TX7 10
theorem nmX7 : ∀ a, a < 10 → ∀ b, b < 10 → a ≠ b → (TX7 a).2.1 ≠ (TX7 b).2.1 := by decide +kernel
theorem tyX7_ok : ∀ k, k < 10 → parseFieldDescriptor (TX7 k).2.2.1 = some (tyX7 k) := by decide +kernel
abbrev cX7_init : ByteArray := prog_13_method_1_code
def yX7_init : MethodName := ⟨RX7, "<init>", "(LSharedNights;)V"⟩
def dkwX7_init_1 : List UInt8 := [8, 188, 4, 181, 0, 22, 42, 16, 12, 188, 10, 181, 0, 26, 177]
abbrev dktX7_init_1 : List UInt8 := dkwX7_init_1 ++ []
def dkwX7_init_0 : List UInt8 := [42, 43, 181, 0, 3, 42, 183, 0, 9, 42, 8, 188, 10, 181, 0, 15, 42, 8, 188, 10, 181, 0, 19, 42]
abbrev dktX7_init_0 : List UInt8 := dkwX7_init_0 ++ dktX7_init_1
theorem dksX7_init_0 : cX7_init.data.toList.drop 0 = dktX7_init_0 := by decide +kernel
theorem dksX7_init_1 : cX7_init.data.toList.drop 24 = dktX7_init_1 := dk_seg dksX7_init_0 24 rfl rfl
theorem dX7_init_0 : decode cX7_init 0 = .ok (.aload_n 0, 1) := dk_42 (dk_at dksX7_init_0 0 rfl rfl)
theorem dX7_init_1 : decode cX7_init 1 = .ok (.aload_n 1, 1) := dk_43 (dk_at dksX7_init_0 1 rfl rfl)
theorem dX7_init_2 : decode cX7_init 2 = .ok (.putfield 3, 3) := dk_181 0 3 (dk_at dksX7_init_0 2 rfl rfl)
theorem dX7_init_5 : decode cX7_init 5 = .ok (.aload_n 0, 1) := dk_42 (dk_at dksX7_init_0 5 rfl rfl)
theorem dX7_init_6 : decode cX7_init 6 = .ok (.invokespecial 9, 3) := dk_183 0 9 (dk_at dksX7_init_0 6 rfl rfl)
theorem dX7_init_9 : decode cX7_init 9 = .ok (.aload_n 0, 1) := dk_42 (dk_at dksX7_init_0 9 rfl rfl)
theorem dX7_init_10 : decode cX7_init 10 = .ok (.iconst 5, 1) := dk_8 (dk_at dksX7_init_0 10 rfl rfl)
theorem dX7_init_11 : decode cX7_init 11 = .ok (.newarray .int, 2) := dk_188_10 (dk_at dksX7_init_0 11 rfl rfl)
theorem dX7_init_13 : decode cX7_init 13 = .ok (.putfield 15, 3) := dk_181 0 15 (dk_at dksX7_init_0 13 rfl rfl)
theorem dX7_init_16 : decode cX7_init 16 = .ok (.aload_n 0, 1) := dk_42 (dk_at dksX7_init_0 16 rfl rfl)
theorem dX7_init_17 : decode cX7_init 17 = .ok (.iconst 5, 1) := dk_8 (dk_at dksX7_init_0 17 rfl rfl)
theorem dX7_init_18 : decode cX7_init 18 = .ok (.newarray .int, 2) := dk_188_10 (dk_at dksX7_init_0 18 rfl rfl)
theorem dX7_init_20 : decode cX7_init 20 = .ok (.putfield 19, 3) := dk_181 0 19 (dk_at dksX7_init_0 20 rfl rfl)
theorem dX7_init_23 : decode cX7_init 23 = .ok (.aload_n 0, 1) := dk_42 (dk_at dksX7_init_0 23 rfl rfl)
theorem dX7_init_24 : decode cX7_init 24 = .ok (.iconst 5, 1) := dk_8 (dk_at dksX7_init_1 0 rfl rfl)
theorem dX7_init_25 : decode cX7_init 25 = .ok (.newarray .boolean, 2) := dk_188_4 (dk_at dksX7_init_1 1 rfl rfl)
theorem dX7_init_27 : decode cX7_init 27 = .ok (.putfield 22, 3) := dk_181 0 22 (dk_at dksX7_init_1 3 rfl rfl)
theorem dX7_init_30 : decode cX7_init 30 = .ok (.aload_n 0, 1) := dk_42 (dk_at dksX7_init_1 6 rfl rfl)
theorem dX7_init_31 : decode cX7_init 31 = .ok (.bipush 12, 2) := dk_16 12 (dk_at dksX7_init_1 7 rfl rfl)
theorem dX7_init_33 : decode cX7_init 33 = .ok (.newarray .int, 2) := dk_188_10 (dk_at dksX7_init_1 9 rfl rfl)
theorem dX7_init_35 : decode cX7_init 35 = .ok (.putfield 26, 3) := dk_181 0 26 (dk_at dksX7_init_1 11 rfl rfl)
theorem dX7_init_38 : decode cX7_init 38 = .ok (.return_, 1) := dk_177 (dk_at dksX7_init_1 14 rfl rfl)
abbrev cX7_run : ByteArray := prog_13_method_2_code
def yX7_run : MethodName := ⟨RX7, "run", "(III)V"⟩
def dkwX7_run_5 : List UInt8 := [21, 4, 182, 0, 59, 79, 132, 4, 1, 167, 255, 217, 177]
abbrev dktX7_run_5 : List UInt8 := dkwX7_run_5 ++ []
def dkwX7_run_4 : List UInt8 := [180, 0, 26, 21, 4, 42, 180, 0, 49, 2, 160, 0, 12, 42, 21, 4, 182, 0, 55, 167, 0, 9, 42]
abbrev dktX7_run_4 : List UInt8 := dkwX7_run_4 ++ dktX7_run_5
def dkwX7_run_3 : List UInt8 := [180, 0, 22, 21, 4, 3, 84, 132, 4, 1, 167, 255, 217, 3, 54, 4, 21, 4, 29, 162, 0, 39, 42]
abbrev dktX7_run_3 : List UInt8 := dkwX7_run_3 ++ dktX7_run_4
def dkwX7_run_2 : List UInt8 := [180, 0, 52, 162, 0, 33, 42, 180, 0, 15, 21, 4, 3, 79, 42, 180, 0, 19, 21, 4, 3, 79, 42]
abbrev dktX7_run_2 : List UInt8 := dkwX7_run_2 ++ dktX7_run_3
def dkwX7_run_1 : List UInt8 := [181, 0, 41, 42, 3, 181, 0, 45, 42, 2, 181, 0, 49, 3, 54, 4, 21, 4, 42, 180, 0, 3]
abbrev dktX7_run_1 : List UInt8 := dkwX7_run_1 ++ dktX7_run_2
def dkwX7_run_0 : List UInt8 := [42, 42, 180, 0, 3, 180, 0, 29, 27, 50, 181, 0, 33, 42, 42, 180, 0, 3, 180, 0, 37, 28, 50]
abbrev dktX7_run_0 : List UInt8 := dkwX7_run_0 ++ dktX7_run_1
theorem dksX7_run_0 : cX7_run.data.toList.drop 0 = dktX7_run_0 := by decide +kernel
theorem dksX7_run_1 : cX7_run.data.toList.drop 23 = dktX7_run_1 := dk_seg dksX7_run_0 23 rfl rfl
theorem dksX7_run_2 : cX7_run.data.toList.drop 45 = dktX7_run_2 := dk_seg dksX7_run_1 22 rfl rfl
theorem dksX7_run_3 : cX7_run.data.toList.drop 68 = dktX7_run_3 := dk_seg dksX7_run_2 23 rfl rfl
theorem dksX7_run_4 : cX7_run.data.toList.drop 91 = dktX7_run_4 := dk_seg dksX7_run_3 23 rfl rfl
theorem dksX7_run_5 : cX7_run.data.toList.drop 114 = dktX7_run_5 := dk_seg dksX7_run_4 23 rfl rfl
theorem dX7_run_0 : decode cX7_run 0 = .ok (.aload_n 0, 1) := dk_42 (dk_at dksX7_run_0 0 rfl rfl)
theorem dX7_run_1 : decode cX7_run 1 = .ok (.aload_n 0, 1) := dk_42 (dk_at dksX7_run_0 1 rfl rfl)
theorem dX7_run_2 : decode cX7_run 2 = .ok (.getfield 3, 3) := dk_180 0 3 (dk_at dksX7_run_0 2 rfl rfl)
theorem dX7_run_5 : decode cX7_run 5 = .ok (.getfield 29, 3) := dk_180 0 29 (dk_at dksX7_run_0 5 rfl rfl)
theorem dX7_run_8 : decode cX7_run 8 = .ok (.iload_n 1, 1) := dk_27 (dk_at dksX7_run_0 8 rfl rfl)
theorem dX7_run_9 : decode cX7_run 9 = .ok (.aaload, 1) := dk_50 (dk_at dksX7_run_0 9 rfl rfl)
theorem dX7_run_10 : decode cX7_run 10 = .ok (.putfield 33, 3) := dk_181 0 33 (dk_at dksX7_run_0 10 rfl rfl)
theorem dX7_run_13 : decode cX7_run 13 = .ok (.aload_n 0, 1) := dk_42 (dk_at dksX7_run_0 13 rfl rfl)
theorem dX7_run_14 : decode cX7_run 14 = .ok (.aload_n 0, 1) := dk_42 (dk_at dksX7_run_0 14 rfl rfl)
theorem dX7_run_15 : decode cX7_run 15 = .ok (.getfield 3, 3) := dk_180 0 3 (dk_at dksX7_run_0 15 rfl rfl)
theorem dX7_run_18 : decode cX7_run 18 = .ok (.getfield 37, 3) := dk_180 0 37 (dk_at dksX7_run_0 18 rfl rfl)
theorem dX7_run_21 : decode cX7_run 21 = .ok (.iload_n 2, 1) := dk_28 (dk_at dksX7_run_0 21 rfl rfl)
theorem dX7_run_22 : decode cX7_run 22 = .ok (.aaload, 1) := dk_50 (dk_at dksX7_run_0 22 rfl rfl)
theorem dX7_run_23 : decode cX7_run 23 = .ok (.putfield 41, 3) := dk_181 0 41 (dk_at dksX7_run_1 0 rfl rfl)
theorem dX7_run_26 : decode cX7_run 26 = .ok (.aload_n 0, 1) := dk_42 (dk_at dksX7_run_1 3 rfl rfl)
theorem dX7_run_27 : decode cX7_run 27 = .ok (.iconst 0, 1) := dk_3 (dk_at dksX7_run_1 4 rfl rfl)
theorem dX7_run_28 : decode cX7_run 28 = .ok (.putfield 45, 3) := dk_181 0 45 (dk_at dksX7_run_1 5 rfl rfl)
theorem dX7_run_31 : decode cX7_run 31 = .ok (.aload_n 0, 1) := dk_42 (dk_at dksX7_run_1 8 rfl rfl)
theorem dX7_run_32 : decode cX7_run 32 = .ok (.iconst (-1), 1) := dk_2 (dk_at dksX7_run_1 9 rfl rfl)
theorem dX7_run_33 : decode cX7_run 33 = .ok (.putfield 49, 3) := dk_181 0 49 (dk_at dksX7_run_1 10 rfl rfl)
theorem dX7_run_36 : decode cX7_run 36 = .ok (.iconst 0, 1) := dk_3 (dk_at dksX7_run_1 13 rfl rfl)
theorem dX7_run_37 : decode cX7_run 37 = .ok (.istore 4, 2) := dk_54 4 (dk_at dksX7_run_1 14 rfl rfl)
theorem dX7_run_39 : decode cX7_run 39 = .ok (.iload 4, 2) := dk_21 4 (dk_at dksX7_run_1 16 rfl rfl)
theorem dX7_run_41 : decode cX7_run 41 = .ok (.aload_n 0, 1) := dk_42 (dk_at dksX7_run_1 18 rfl rfl)
theorem dX7_run_42 : decode cX7_run 42 = .ok (.getfield 3, 3) := dk_180 0 3 (dk_at dksX7_run_1 19 rfl rfl)
theorem dX7_run_45 : decode cX7_run 45 = .ok (.getfield 52, 3) := dk_180 0 52 (dk_at dksX7_run_2 0 rfl rfl)
theorem dX7_run_48 : decode cX7_run 48 = .ok (.if_icmp .ge 33, 3) := dk_162 0 33 (dk_at dksX7_run_2 3 rfl rfl)
theorem dX7_run_51 : decode cX7_run 51 = .ok (.aload_n 0, 1) := dk_42 (dk_at dksX7_run_2 6 rfl rfl)
theorem dX7_run_52 : decode cX7_run 52 = .ok (.getfield 15, 3) := dk_180 0 15 (dk_at dksX7_run_2 7 rfl rfl)
theorem dX7_run_55 : decode cX7_run 55 = .ok (.iload 4, 2) := dk_21 4 (dk_at dksX7_run_2 10 rfl rfl)
theorem dX7_run_57 : decode cX7_run 57 = .ok (.iconst 0, 1) := dk_3 (dk_at dksX7_run_2 12 rfl rfl)
theorem dX7_run_58 : decode cX7_run 58 = .ok (.iastore, 1) := dk_79 (dk_at dksX7_run_2 13 rfl rfl)
theorem dX7_run_59 : decode cX7_run 59 = .ok (.aload_n 0, 1) := dk_42 (dk_at dksX7_run_2 14 rfl rfl)
theorem dX7_run_60 : decode cX7_run 60 = .ok (.getfield 19, 3) := dk_180 0 19 (dk_at dksX7_run_2 15 rfl rfl)
theorem dX7_run_63 : decode cX7_run 63 = .ok (.iload 4, 2) := dk_21 4 (dk_at dksX7_run_2 18 rfl rfl)
theorem dX7_run_65 : decode cX7_run 65 = .ok (.iconst 0, 1) := dk_3 (dk_at dksX7_run_2 20 rfl rfl)
theorem dX7_run_66 : decode cX7_run 66 = .ok (.iastore, 1) := dk_79 (dk_at dksX7_run_2 21 rfl rfl)
theorem dX7_run_67 : decode cX7_run 67 = .ok (.aload_n 0, 1) := dk_42 (dk_at dksX7_run_2 22 rfl rfl)
theorem dX7_run_68 : decode cX7_run 68 = .ok (.getfield 22, 3) := dk_180 0 22 (dk_at dksX7_run_3 0 rfl rfl)
theorem dX7_run_71 : decode cX7_run 71 = .ok (.iload 4, 2) := dk_21 4 (dk_at dksX7_run_3 3 rfl rfl)
theorem dX7_run_73 : decode cX7_run 73 = .ok (.iconst 0, 1) := dk_3 (dk_at dksX7_run_3 5 rfl rfl)
theorem dX7_run_74 : decode cX7_run 74 = .ok (.bastore, 1) := dk_84 (dk_at dksX7_run_3 6 rfl rfl)
theorem dX7_run_75 : decode cX7_run 75 = .ok (.iinc 4 1, 3) := dk_132 4 1 (dk_at dksX7_run_3 7 rfl rfl)
theorem dX7_run_78 : decode cX7_run 78 = .ok (.goto (-39), 3) := dk_167 255 217 (dk_at dksX7_run_3 10 rfl rfl)
theorem dX7_run_81 : decode cX7_run 81 = .ok (.iconst 0, 1) := dk_3 (dk_at dksX7_run_3 13 rfl rfl)
theorem dX7_run_82 : decode cX7_run 82 = .ok (.istore 4, 2) := dk_54 4 (dk_at dksX7_run_3 14 rfl rfl)
theorem dX7_run_84 : decode cX7_run 84 = .ok (.iload 4, 2) := dk_21 4 (dk_at dksX7_run_3 16 rfl rfl)
theorem dX7_run_86 : decode cX7_run 86 = .ok (.iload_n 3, 1) := dk_29 (dk_at dksX7_run_3 18 rfl rfl)
theorem dX7_run_87 : decode cX7_run 87 = .ok (.if_icmp .ge 39, 3) := dk_162 0 39 (dk_at dksX7_run_3 19 rfl rfl)
theorem dX7_run_90 : decode cX7_run 90 = .ok (.aload_n 0, 1) := dk_42 (dk_at dksX7_run_3 22 rfl rfl)
theorem dX7_run_91 : decode cX7_run 91 = .ok (.getfield 26, 3) := dk_180 0 26 (dk_at dksX7_run_4 0 rfl rfl)
theorem dX7_run_94 : decode cX7_run 94 = .ok (.iload 4, 2) := dk_21 4 (dk_at dksX7_run_4 3 rfl rfl)
theorem dX7_run_96 : decode cX7_run 96 = .ok (.aload_n 0, 1) := dk_42 (dk_at dksX7_run_4 5 rfl rfl)
theorem dX7_run_97 : decode cX7_run 97 = .ok (.getfield 49, 3) := dk_180 0 49 (dk_at dksX7_run_4 6 rfl rfl)
theorem dX7_run_100 : decode cX7_run 100 = .ok (.iconst (-1), 1) := dk_2 (dk_at dksX7_run_4 9 rfl rfl)
theorem dX7_run_101 : decode cX7_run 101 = .ok (.if_icmp .ne 12, 3) := dk_160 0 12 (dk_at dksX7_run_4 10 rfl rfl)
theorem dX7_run_104 : decode cX7_run 104 = .ok (.aload_n 0, 1) := dk_42 (dk_at dksX7_run_4 13 rfl rfl)
theorem dX7_run_105 : decode cX7_run 105 = .ok (.iload 4, 2) := dk_21 4 (dk_at dksX7_run_4 14 rfl rfl)
theorem dX7_run_107 : decode cX7_run 107 = .ok (.invokevirtual 55, 3) := dk_182 0 55 (dk_at dksX7_run_4 16 rfl rfl)
theorem dX7_run_110 : decode cX7_run 110 = .ok (.goto 9, 3) := dk_167 0 9 (dk_at dksX7_run_4 19 rfl rfl)
theorem dX7_run_113 : decode cX7_run 113 = .ok (.aload_n 0, 1) := dk_42 (dk_at dksX7_run_4 22 rfl rfl)
theorem dX7_run_114 : decode cX7_run 114 = .ok (.iload 4, 2) := dk_21 4 (dk_at dksX7_run_5 0 rfl rfl)
theorem dX7_run_116 : decode cX7_run 116 = .ok (.invokevirtual 59, 3) := dk_182 0 59 (dk_at dksX7_run_5 2 rfl rfl)
theorem dX7_run_119 : decode cX7_run 119 = .ok (.iastore, 1) := dk_79 (dk_at dksX7_run_5 5 rfl rfl)
theorem dX7_run_120 : decode cX7_run 120 = .ok (.iinc 4 1, 3) := dk_132 4 1 (dk_at dksX7_run_5 6 rfl rfl)
theorem dX7_run_123 : decode cX7_run 123 = .ok (.goto (-39), 3) := dk_167 255 217 (dk_at dksX7_run_5 9 rfl rfl)
theorem dX7_run_126 : decode cX7_run 126 = .ok (.return_, 1) := dk_177 (dk_at dksX7_run_5 12 rfl rfl)
abbrev cX7_begin : ByteArray := prog_13_method_6_code
def yX7_begin : MethodName := ⟨RX7, "begin", "(I)I"⟩
def dkwX7_begin_10 : List UInt8 := [46, 50, 180, 0, 88, 181, 0, 130, 42, 27, 182, 0, 59, 172]
abbrev dktX7_begin_10 : List UInt8 := dkwX7_begin_10 ++ []
def dkwX7_begin_9 : List UInt8 := [172, 42, 28, 181, 0, 49, 42, 42, 180, 0, 3, 180, 0, 69, 28, 50, 180, 0, 73, 42, 180, 0, 15, 28]
abbrev dktX7_begin_9 : List UInt8 := dkwX7_begin_9 ++ dktX7_begin_10
def dkwX7_begin_8 : List UInt8 := [180, 0, 45, 159, 0, 22, 42, 42, 180, 0, 3, 180, 0, 69, 28, 50, 180, 0, 127, 181, 0, 45, 16, 20]
abbrev dktX7_begin_8 : List UInt8 := dkwX7_begin_8 ++ dktX7_begin_9
def dkwX7_begin_7 : List UInt8 := [160, 0, 8, 16, 21, 167, 0, 5, 16, 22, 172, 42, 180, 0, 3, 180, 0, 69, 28, 50, 180, 0, 127, 42]
abbrev dktX7_begin_7 : List UInt8 := dkwX7_begin_7 ++ dktX7_begin_8
def dkwX7_begin_6 : List UInt8 := [61, 132, 3, 1, 167, 255, 189, 28, 2, 160, 0, 24, 42, 180, 0, 41, 180, 0, 121, 27, 51, 7]
abbrev dktX7_begin_6 : List UInt8 := dkwX7_begin_6 ++ dktX7_begin_7
def dkwX7_begin_5 : List UInt8 := [182, 0, 115, 42, 180, 0, 33, 42, 180, 0, 3, 180, 0, 69, 28, 50, 27, 182, 0, 115, 162, 0, 5, 29]
abbrev dktX7_begin_5 : List UInt8 := dkwX7_begin_5 ++ dktX7_begin_6
def dkwX7_begin_4 : List UInt8 := [153, 0, 47, 28, 2, 159, 0, 40, 42, 180, 0, 33, 42, 180, 0, 3, 180, 0, 69, 29, 50, 27]
abbrev dktX7_begin_4 : List UInt8 := dkwX7_begin_4 ++ dktX7_begin_5
def dkwX7_begin_3 : List UInt8 := [167, 255, 188, 3, 62, 29, 42, 180, 0, 3, 180, 0, 52, 162, 0, 62, 42, 29, 27, 182, 0, 111]
abbrev dktX7_begin_3 : List UInt8 := dkwX7_begin_3 ++ dktX7_begin_4
def dkwX7_begin_2 : List UInt8 := [50, 42, 180, 0, 15, 29, 46, 182, 0, 79, 180, 0, 104, 164, 0, 8, 42, 29, 182, 0, 107, 132, 3, 1]
abbrev dktX7_begin_2 : List UInt8 := dkwX7_begin_2 ++ dktX7_begin_3
def dkwX7_begin_1 : List UInt8 := [180, 0, 15, 29, 46, 158, 0, 40, 27, 42, 180, 0, 19, 29, 46, 100, 42, 180, 0, 3, 180, 0, 69, 29]
abbrev dktX7_begin_1 : List UInt8 := dkwX7_begin_1 ++ dktX7_begin_2
def dkwX7_begin_0 : List UInt8 := [2, 61, 3, 62, 29, 42, 180, 0, 3, 180, 0, 52, 162, 0, 63, 42, 29, 182, 0, 65, 153, 0, 49, 42]
abbrev dktX7_begin_0 : List UInt8 := dkwX7_begin_0 ++ dktX7_begin_1
theorem dksX7_begin_0 : cX7_begin.data.toList.drop 0 = dktX7_begin_0 := by decide +kernel
theorem dksX7_begin_1 : cX7_begin.data.toList.drop 24 = dktX7_begin_1 := dk_seg dksX7_begin_0 24 rfl rfl
theorem dksX7_begin_2 : cX7_begin.data.toList.drop 48 = dktX7_begin_2 := dk_seg dksX7_begin_1 24 rfl rfl
theorem dksX7_begin_3 : cX7_begin.data.toList.drop 72 = dktX7_begin_3 := dk_seg dksX7_begin_2 24 rfl rfl
theorem dksX7_begin_4 : cX7_begin.data.toList.drop 94 = dktX7_begin_4 := dk_seg dksX7_begin_3 22 rfl rfl
theorem dksX7_begin_5 : cX7_begin.data.toList.drop 116 = dktX7_begin_5 := dk_seg dksX7_begin_4 22 rfl rfl
theorem dksX7_begin_6 : cX7_begin.data.toList.drop 140 = dktX7_begin_6 := dk_seg dksX7_begin_5 24 rfl rfl
theorem dksX7_begin_7 : cX7_begin.data.toList.drop 162 = dktX7_begin_7 := dk_seg dksX7_begin_6 22 rfl rfl
theorem dksX7_begin_8 : cX7_begin.data.toList.drop 186 = dktX7_begin_8 := dk_seg dksX7_begin_7 24 rfl rfl
theorem dksX7_begin_9 : cX7_begin.data.toList.drop 210 = dktX7_begin_9 := dk_seg dksX7_begin_8 24 rfl rfl
theorem dksX7_begin_10 : cX7_begin.data.toList.drop 234 = dktX7_begin_10 := dk_seg dksX7_begin_9 24 rfl rfl
theorem dX7_begin_0 : decode cX7_begin 0 = .ok (.iconst (-1), 1) := dk_2 (dk_at dksX7_begin_0 0 rfl rfl)
theorem dX7_begin_1 : decode cX7_begin 1 = .ok (.istore_n 2, 1) := dk_61 (dk_at dksX7_begin_0 1 rfl rfl)
theorem dX7_begin_2 : decode cX7_begin 2 = .ok (.iconst 0, 1) := dk_3 (dk_at dksX7_begin_0 2 rfl rfl)
theorem dX7_begin_3 : decode cX7_begin 3 = .ok (.istore_n 3, 1) := dk_62 (dk_at dksX7_begin_0 3 rfl rfl)
theorem dX7_begin_4 : decode cX7_begin 4 = .ok (.iload_n 3, 1) := dk_29 (dk_at dksX7_begin_0 4 rfl rfl)
theorem dX7_begin_5 : decode cX7_begin 5 = .ok (.aload_n 0, 1) := dk_42 (dk_at dksX7_begin_0 5 rfl rfl)
theorem dX7_begin_6 : decode cX7_begin 6 = .ok (.getfield 3, 3) := dk_180 0 3 (dk_at dksX7_begin_0 6 rfl rfl)
theorem dX7_begin_9 : decode cX7_begin 9 = .ok (.getfield 52, 3) := dk_180 0 52 (dk_at dksX7_begin_0 9 rfl rfl)
theorem dX7_begin_12 : decode cX7_begin 12 = .ok (.if_icmp .ge 63, 3) := dk_162 0 63 (dk_at dksX7_begin_0 12 rfl rfl)
theorem dX7_begin_15 : decode cX7_begin 15 = .ok (.aload_n 0, 1) := dk_42 (dk_at dksX7_begin_0 15 rfl rfl)
theorem dX7_begin_16 : decode cX7_begin 16 = .ok (.iload_n 3, 1) := dk_29 (dk_at dksX7_begin_0 16 rfl rfl)
theorem dX7_begin_17 : decode cX7_begin 17 = .ok (.invokevirtual 65, 3) := dk_182 0 65 (dk_at dksX7_begin_0 17 rfl rfl)
theorem dX7_begin_20 : decode cX7_begin 20 = .ok (.ifCond .eq 49, 3) := dk_153 0 49 (dk_at dksX7_begin_0 20 rfl rfl)
theorem dX7_begin_23 : decode cX7_begin 23 = .ok (.aload_n 0, 1) := dk_42 (dk_at dksX7_begin_0 23 rfl rfl)
theorem dX7_begin_24 : decode cX7_begin 24 = .ok (.getfield 15, 3) := dk_180 0 15 (dk_at dksX7_begin_1 0 rfl rfl)
theorem dX7_begin_27 : decode cX7_begin 27 = .ok (.iload_n 3, 1) := dk_29 (dk_at dksX7_begin_1 3 rfl rfl)
theorem dX7_begin_28 : decode cX7_begin 28 = .ok (.iaload, 1) := dk_46 (dk_at dksX7_begin_1 4 rfl rfl)
theorem dX7_begin_29 : decode cX7_begin 29 = .ok (.ifCond .le 40, 3) := dk_158 0 40 (dk_at dksX7_begin_1 5 rfl rfl)
theorem dX7_begin_32 : decode cX7_begin 32 = .ok (.iload_n 1, 1) := dk_27 (dk_at dksX7_begin_1 8 rfl rfl)
theorem dX7_begin_33 : decode cX7_begin 33 = .ok (.aload_n 0, 1) := dk_42 (dk_at dksX7_begin_1 9 rfl rfl)
theorem dX7_begin_34 : decode cX7_begin 34 = .ok (.getfield 19, 3) := dk_180 0 19 (dk_at dksX7_begin_1 10 rfl rfl)
theorem dX7_begin_37 : decode cX7_begin 37 = .ok (.iload_n 3, 1) := dk_29 (dk_at dksX7_begin_1 13 rfl rfl)
theorem dX7_begin_38 : decode cX7_begin 38 = .ok (.iaload, 1) := dk_46 (dk_at dksX7_begin_1 14 rfl rfl)
theorem dX7_begin_39 : decode cX7_begin 39 = .ok (.isub, 1) := dk_100 (dk_at dksX7_begin_1 15 rfl rfl)
theorem dX7_begin_40 : decode cX7_begin 40 = .ok (.aload_n 0, 1) := dk_42 (dk_at dksX7_begin_1 16 rfl rfl)
theorem dX7_begin_41 : decode cX7_begin 41 = .ok (.getfield 3, 3) := dk_180 0 3 (dk_at dksX7_begin_1 17 rfl rfl)
theorem dX7_begin_44 : decode cX7_begin 44 = .ok (.getfield 69, 3) := dk_180 0 69 (dk_at dksX7_begin_1 20 rfl rfl)
theorem dX7_begin_47 : decode cX7_begin 47 = .ok (.iload_n 3, 1) := dk_29 (dk_at dksX7_begin_1 23 rfl rfl)
theorem dX7_begin_48 : decode cX7_begin 48 = .ok (.aaload, 1) := dk_50 (dk_at dksX7_begin_2 0 rfl rfl)
theorem dX7_begin_49 : decode cX7_begin 49 = .ok (.aload_n 0, 1) := dk_42 (dk_at dksX7_begin_2 1 rfl rfl)
theorem dX7_begin_50 : decode cX7_begin 50 = .ok (.getfield 15, 3) := dk_180 0 15 (dk_at dksX7_begin_2 2 rfl rfl)
theorem dX7_begin_53 : decode cX7_begin 53 = .ok (.iload_n 3, 1) := dk_29 (dk_at dksX7_begin_2 5 rfl rfl)
theorem dX7_begin_54 : decode cX7_begin 54 = .ok (.iaload, 1) := dk_46 (dk_at dksX7_begin_2 6 rfl rfl)
theorem dX7_begin_55 : decode cX7_begin 55 = .ok (.invokevirtual 79, 3) := dk_182 0 79 (dk_at dksX7_begin_2 7 rfl rfl)
theorem dX7_begin_58 : decode cX7_begin 58 = .ok (.getfield 104, 3) := dk_180 0 104 (dk_at dksX7_begin_2 10 rfl rfl)
theorem dX7_begin_61 : decode cX7_begin 61 = .ok (.if_icmp .le 8, 3) := dk_164 0 8 (dk_at dksX7_begin_2 13 rfl rfl)
theorem dX7_begin_64 : decode cX7_begin 64 = .ok (.aload_n 0, 1) := dk_42 (dk_at dksX7_begin_2 16 rfl rfl)
theorem dX7_begin_65 : decode cX7_begin 65 = .ok (.iload_n 3, 1) := dk_29 (dk_at dksX7_begin_2 17 rfl rfl)
theorem dX7_begin_66 : decode cX7_begin 66 = .ok (.invokevirtual 107, 3) := dk_182 0 107 (dk_at dksX7_begin_2 18 rfl rfl)
theorem dX7_begin_69 : decode cX7_begin 69 = .ok (.iinc 3 1, 3) := dk_132 3 1 (dk_at dksX7_begin_2 21 rfl rfl)
theorem dX7_begin_72 : decode cX7_begin 72 = .ok (.goto (-68), 3) := dk_167 255 188 (dk_at dksX7_begin_3 0 rfl rfl)
theorem dX7_begin_75 : decode cX7_begin 75 = .ok (.iconst 0, 1) := dk_3 (dk_at dksX7_begin_3 3 rfl rfl)
theorem dX7_begin_76 : decode cX7_begin 76 = .ok (.istore_n 3, 1) := dk_62 (dk_at dksX7_begin_3 4 rfl rfl)
theorem dX7_begin_77 : decode cX7_begin 77 = .ok (.iload_n 3, 1) := dk_29 (dk_at dksX7_begin_3 5 rfl rfl)
theorem dX7_begin_78 : decode cX7_begin 78 = .ok (.aload_n 0, 1) := dk_42 (dk_at dksX7_begin_3 6 rfl rfl)
theorem dX7_begin_79 : decode cX7_begin 79 = .ok (.getfield 3, 3) := dk_180 0 3 (dk_at dksX7_begin_3 7 rfl rfl)
theorem dX7_begin_82 : decode cX7_begin 82 = .ok (.getfield 52, 3) := dk_180 0 52 (dk_at dksX7_begin_3 10 rfl rfl)
theorem dX7_begin_85 : decode cX7_begin 85 = .ok (.if_icmp .ge 62, 3) := dk_162 0 62 (dk_at dksX7_begin_3 13 rfl rfl)
theorem dX7_begin_88 : decode cX7_begin 88 = .ok (.aload_n 0, 1) := dk_42 (dk_at dksX7_begin_3 16 rfl rfl)
theorem dX7_begin_89 : decode cX7_begin 89 = .ok (.iload_n 3, 1) := dk_29 (dk_at dksX7_begin_3 17 rfl rfl)
theorem dX7_begin_90 : decode cX7_begin 90 = .ok (.iload_n 1, 1) := dk_27 (dk_at dksX7_begin_3 18 rfl rfl)
theorem dX7_begin_91 : decode cX7_begin 91 = .ok (.invokevirtual 111, 3) := dk_182 0 111 (dk_at dksX7_begin_3 19 rfl rfl)
theorem dX7_begin_94 : decode cX7_begin 94 = .ok (.ifCond .eq 47, 3) := dk_153 0 47 (dk_at dksX7_begin_4 0 rfl rfl)
theorem dX7_begin_97 : decode cX7_begin 97 = .ok (.iload_n 2, 1) := dk_28 (dk_at dksX7_begin_4 3 rfl rfl)
theorem dX7_begin_98 : decode cX7_begin 98 = .ok (.iconst (-1), 1) := dk_2 (dk_at dksX7_begin_4 4 rfl rfl)
theorem dX7_begin_99 : decode cX7_begin 99 = .ok (.if_icmp .eq 40, 3) := dk_159 0 40 (dk_at dksX7_begin_4 5 rfl rfl)
theorem dX7_begin_102 : decode cX7_begin 102 = .ok (.aload_n 0, 1) := dk_42 (dk_at dksX7_begin_4 8 rfl rfl)
theorem dX7_begin_103 : decode cX7_begin 103 = .ok (.getfield 33, 3) := dk_180 0 33 (dk_at dksX7_begin_4 9 rfl rfl)
theorem dX7_begin_106 : decode cX7_begin 106 = .ok (.aload_n 0, 1) := dk_42 (dk_at dksX7_begin_4 12 rfl rfl)
theorem dX7_begin_107 : decode cX7_begin 107 = .ok (.getfield 3, 3) := dk_180 0 3 (dk_at dksX7_begin_4 13 rfl rfl)
theorem dX7_begin_110 : decode cX7_begin 110 = .ok (.getfield 69, 3) := dk_180 0 69 (dk_at dksX7_begin_4 16 rfl rfl)
theorem dX7_begin_113 : decode cX7_begin 113 = .ok (.iload_n 3, 1) := dk_29 (dk_at dksX7_begin_4 19 rfl rfl)
theorem dX7_begin_114 : decode cX7_begin 114 = .ok (.aaload, 1) := dk_50 (dk_at dksX7_begin_4 20 rfl rfl)
theorem dX7_begin_115 : decode cX7_begin 115 = .ok (.iload_n 1, 1) := dk_27 (dk_at dksX7_begin_4 21 rfl rfl)
theorem dX7_begin_116 : decode cX7_begin 116 = .ok (.invokevirtual 115, 3) := dk_182 0 115 (dk_at dksX7_begin_5 0 rfl rfl)
theorem dX7_begin_119 : decode cX7_begin 119 = .ok (.aload_n 0, 1) := dk_42 (dk_at dksX7_begin_5 3 rfl rfl)
theorem dX7_begin_120 : decode cX7_begin 120 = .ok (.getfield 33, 3) := dk_180 0 33 (dk_at dksX7_begin_5 4 rfl rfl)
theorem dX7_begin_123 : decode cX7_begin 123 = .ok (.aload_n 0, 1) := dk_42 (dk_at dksX7_begin_5 7 rfl rfl)
theorem dX7_begin_124 : decode cX7_begin 124 = .ok (.getfield 3, 3) := dk_180 0 3 (dk_at dksX7_begin_5 8 rfl rfl)
theorem dX7_begin_127 : decode cX7_begin 127 = .ok (.getfield 69, 3) := dk_180 0 69 (dk_at dksX7_begin_5 11 rfl rfl)
theorem dX7_begin_130 : decode cX7_begin 130 = .ok (.iload_n 2, 1) := dk_28 (dk_at dksX7_begin_5 14 rfl rfl)
theorem dX7_begin_131 : decode cX7_begin 131 = .ok (.aaload, 1) := dk_50 (dk_at dksX7_begin_5 15 rfl rfl)
theorem dX7_begin_132 : decode cX7_begin 132 = .ok (.iload_n 1, 1) := dk_27 (dk_at dksX7_begin_5 16 rfl rfl)
theorem dX7_begin_133 : decode cX7_begin 133 = .ok (.invokevirtual 115, 3) := dk_182 0 115 (dk_at dksX7_begin_5 17 rfl rfl)
theorem dX7_begin_136 : decode cX7_begin 136 = .ok (.if_icmp .ge 5, 3) := dk_162 0 5 (dk_at dksX7_begin_5 20 rfl rfl)
theorem dX7_begin_139 : decode cX7_begin 139 = .ok (.iload_n 3, 1) := dk_29 (dk_at dksX7_begin_5 23 rfl rfl)
theorem dX7_begin_140 : decode cX7_begin 140 = .ok (.istore_n 2, 1) := dk_61 (dk_at dksX7_begin_6 0 rfl rfl)
theorem dX7_begin_141 : decode cX7_begin 141 = .ok (.iinc 3 1, 3) := dk_132 3 1 (dk_at dksX7_begin_6 1 rfl rfl)
theorem dX7_begin_144 : decode cX7_begin 144 = .ok (.goto (-67), 3) := dk_167 255 189 (dk_at dksX7_begin_6 4 rfl rfl)
theorem dX7_begin_147 : decode cX7_begin 147 = .ok (.iload_n 2, 1) := dk_28 (dk_at dksX7_begin_6 7 rfl rfl)
theorem dX7_begin_148 : decode cX7_begin 148 = .ok (.iconst (-1), 1) := dk_2 (dk_at dksX7_begin_6 8 rfl rfl)
theorem dX7_begin_149 : decode cX7_begin 149 = .ok (.if_icmp .ne 24, 3) := dk_160 0 24 (dk_at dksX7_begin_6 9 rfl rfl)
theorem dX7_begin_152 : decode cX7_begin 152 = .ok (.aload_n 0, 1) := dk_42 (dk_at dksX7_begin_6 12 rfl rfl)
theorem dX7_begin_153 : decode cX7_begin 153 = .ok (.getfield 41, 3) := dk_180 0 41 (dk_at dksX7_begin_6 13 rfl rfl)
theorem dX7_begin_156 : decode cX7_begin 156 = .ok (.getfield 121, 3) := dk_180 0 121 (dk_at dksX7_begin_6 16 rfl rfl)
theorem dX7_begin_159 : decode cX7_begin 159 = .ok (.iload_n 1, 1) := dk_27 (dk_at dksX7_begin_6 19 rfl rfl)
theorem dX7_begin_160 : decode cX7_begin 160 = .ok (.baload, 1) := dk_51 (dk_at dksX7_begin_6 20 rfl rfl)
theorem dX7_begin_161 : decode cX7_begin 161 = .ok (.iconst 4, 1) := dk_7 (dk_at dksX7_begin_6 21 rfl rfl)
theorem dX7_begin_162 : decode cX7_begin 162 = .ok (.if_icmp .ne 8, 3) := dk_160 0 8 (dk_at dksX7_begin_7 0 rfl rfl)
theorem dX7_begin_165 : decode cX7_begin 165 = .ok (.bipush 21, 2) := dk_16 21 (dk_at dksX7_begin_7 3 rfl rfl)
theorem dX7_begin_167 : decode cX7_begin 167 = .ok (.goto 5, 3) := dk_167 0 5 (dk_at dksX7_begin_7 5 rfl rfl)
theorem dX7_begin_170 : decode cX7_begin 170 = .ok (.bipush 22, 2) := dk_16 22 (dk_at dksX7_begin_7 8 rfl rfl)
theorem dX7_begin_172 : decode cX7_begin 172 = .ok (.ireturn, 1) := dk_172 (dk_at dksX7_begin_7 10 rfl rfl)
theorem dX7_begin_173 : decode cX7_begin 173 = .ok (.aload_n 0, 1) := dk_42 (dk_at dksX7_begin_7 11 rfl rfl)
theorem dX7_begin_174 : decode cX7_begin 174 = .ok (.getfield 3, 3) := dk_180 0 3 (dk_at dksX7_begin_7 12 rfl rfl)
theorem dX7_begin_177 : decode cX7_begin 177 = .ok (.getfield 69, 3) := dk_180 0 69 (dk_at dksX7_begin_7 15 rfl rfl)
theorem dX7_begin_180 : decode cX7_begin 180 = .ok (.iload_n 2, 1) := dk_28 (dk_at dksX7_begin_7 18 rfl rfl)
theorem dX7_begin_181 : decode cX7_begin 181 = .ok (.aaload, 1) := dk_50 (dk_at dksX7_begin_7 19 rfl rfl)
theorem dX7_begin_182 : decode cX7_begin 182 = .ok (.getfield 127, 3) := dk_180 0 127 (dk_at dksX7_begin_7 20 rfl rfl)
theorem dX7_begin_185 : decode cX7_begin 185 = .ok (.aload_n 0, 1) := dk_42 (dk_at dksX7_begin_7 23 rfl rfl)
theorem dX7_begin_186 : decode cX7_begin 186 = .ok (.getfield 45, 3) := dk_180 0 45 (dk_at dksX7_begin_8 0 rfl rfl)
theorem dX7_begin_189 : decode cX7_begin 189 = .ok (.if_icmp .eq 22, 3) := dk_159 0 22 (dk_at dksX7_begin_8 3 rfl rfl)
theorem dX7_begin_192 : decode cX7_begin 192 = .ok (.aload_n 0, 1) := dk_42 (dk_at dksX7_begin_8 6 rfl rfl)
theorem dX7_begin_193 : decode cX7_begin 193 = .ok (.aload_n 0, 1) := dk_42 (dk_at dksX7_begin_8 7 rfl rfl)
theorem dX7_begin_194 : decode cX7_begin 194 = .ok (.getfield 3, 3) := dk_180 0 3 (dk_at dksX7_begin_8 8 rfl rfl)
theorem dX7_begin_197 : decode cX7_begin 197 = .ok (.getfield 69, 3) := dk_180 0 69 (dk_at dksX7_begin_8 11 rfl rfl)
theorem dX7_begin_200 : decode cX7_begin 200 = .ok (.iload_n 2, 1) := dk_28 (dk_at dksX7_begin_8 14 rfl rfl)
theorem dX7_begin_201 : decode cX7_begin 201 = .ok (.aaload, 1) := dk_50 (dk_at dksX7_begin_8 15 rfl rfl)
theorem dX7_begin_202 : decode cX7_begin 202 = .ok (.getfield 127, 3) := dk_180 0 127 (dk_at dksX7_begin_8 16 rfl rfl)
theorem dX7_begin_205 : decode cX7_begin 205 = .ok (.putfield 45, 3) := dk_181 0 45 (dk_at dksX7_begin_8 19 rfl rfl)
theorem dX7_begin_208 : decode cX7_begin 208 = .ok (.bipush 20, 2) := dk_16 20 (dk_at dksX7_begin_8 22 rfl rfl)
theorem dX7_begin_210 : decode cX7_begin 210 = .ok (.ireturn, 1) := dk_172 (dk_at dksX7_begin_9 0 rfl rfl)
theorem dX7_begin_211 : decode cX7_begin 211 = .ok (.aload_n 0, 1) := dk_42 (dk_at dksX7_begin_9 1 rfl rfl)
theorem dX7_begin_212 : decode cX7_begin 212 = .ok (.iload_n 2, 1) := dk_28 (dk_at dksX7_begin_9 2 rfl rfl)
theorem dX7_begin_213 : decode cX7_begin 213 = .ok (.putfield 49, 3) := dk_181 0 49 (dk_at dksX7_begin_9 3 rfl rfl)
theorem dX7_begin_216 : decode cX7_begin 216 = .ok (.aload_n 0, 1) := dk_42 (dk_at dksX7_begin_9 6 rfl rfl)
theorem dX7_begin_217 : decode cX7_begin 217 = .ok (.aload_n 0, 1) := dk_42 (dk_at dksX7_begin_9 7 rfl rfl)
theorem dX7_begin_218 : decode cX7_begin 218 = .ok (.getfield 3, 3) := dk_180 0 3 (dk_at dksX7_begin_9 8 rfl rfl)
theorem dX7_begin_221 : decode cX7_begin 221 = .ok (.getfield 69, 3) := dk_180 0 69 (dk_at dksX7_begin_9 11 rfl rfl)
theorem dX7_begin_224 : decode cX7_begin 224 = .ok (.iload_n 2, 1) := dk_28 (dk_at dksX7_begin_9 14 rfl rfl)
theorem dX7_begin_225 : decode cX7_begin 225 = .ok (.aaload, 1) := dk_50 (dk_at dksX7_begin_9 15 rfl rfl)
theorem dX7_begin_226 : decode cX7_begin 226 = .ok (.getfield 73, 3) := dk_180 0 73 (dk_at dksX7_begin_9 16 rfl rfl)
theorem dX7_begin_229 : decode cX7_begin 229 = .ok (.aload_n 0, 1) := dk_42 (dk_at dksX7_begin_9 19 rfl rfl)
theorem dX7_begin_230 : decode cX7_begin 230 = .ok (.getfield 15, 3) := dk_180 0 15 (dk_at dksX7_begin_9 20 rfl rfl)
theorem dX7_begin_233 : decode cX7_begin 233 = .ok (.iload_n 2, 1) := dk_28 (dk_at dksX7_begin_9 23 rfl rfl)
theorem dX7_begin_234 : decode cX7_begin 234 = .ok (.iaload, 1) := dk_46 (dk_at dksX7_begin_10 0 rfl rfl)
theorem dX7_begin_235 : decode cX7_begin 235 = .ok (.aaload, 1) := dk_50 (dk_at dksX7_begin_10 1 rfl rfl)
theorem dX7_begin_236 : decode cX7_begin 236 = .ok (.getfield 88, 3) := dk_180 0 88 (dk_at dksX7_begin_10 2 rfl rfl)
theorem dX7_begin_239 : decode cX7_begin 239 = .ok (.putfield 130, 3) := dk_181 0 130 (dk_at dksX7_begin_10 5 rfl rfl)
theorem dX7_begin_242 : decode cX7_begin 242 = .ok (.aload_n 0, 1) := dk_42 (dk_at dksX7_begin_10 8 rfl rfl)
theorem dX7_begin_243 : decode cX7_begin 243 = .ok (.iload_n 1, 1) := dk_27 (dk_at dksX7_begin_10 9 rfl rfl)
theorem dX7_begin_244 : decode cX7_begin 244 = .ok (.invokevirtual 59, 3) := dk_182 0 59 (dk_at dksX7_begin_10 10 rfl rfl)
theorem dX7_begin_247 : decode cX7_begin 247 = .ok (.ireturn, 1) := dk_172 (dk_at dksX7_begin_10 13 rfl rfl)
abbrev cX7_isWaiting : ByteArray := prog_13_method_3_code
def yX7_isWaiting : MethodName := ⟨RX7, "isWaiting", "(I)Z"⟩
def dkwX7_isWaiting_0 : List UInt8 := [42, 180, 0, 15, 27, 46, 16, 8, 162, 0, 7, 4, 167, 0, 4, 3, 172]
abbrev dktX7_isWaiting_0 : List UInt8 := dkwX7_isWaiting_0 ++ []
theorem dksX7_isWaiting_0 : cX7_isWaiting.data.toList.drop 0 = dktX7_isWaiting_0 := by decide +kernel
theorem dX7_isWaiting_0 : decode cX7_isWaiting 0 = .ok (.aload_n 0, 1) := dk_42 (dk_at dksX7_isWaiting_0 0 rfl rfl)
theorem dX7_isWaiting_1 : decode cX7_isWaiting 1 = .ok (.getfield 15, 3) := dk_180 0 15 (dk_at dksX7_isWaiting_0 1 rfl rfl)
theorem dX7_isWaiting_4 : decode cX7_isWaiting 4 = .ok (.iload_n 1, 1) := dk_27 (dk_at dksX7_isWaiting_0 4 rfl rfl)
theorem dX7_isWaiting_5 : decode cX7_isWaiting 5 = .ok (.iaload, 1) := dk_46 (dk_at dksX7_isWaiting_0 5 rfl rfl)
theorem dX7_isWaiting_6 : decode cX7_isWaiting 6 = .ok (.bipush 8, 2) := dk_16 8 (dk_at dksX7_isWaiting_0 6 rfl rfl)
theorem dX7_isWaiting_8 : decode cX7_isWaiting 8 = .ok (.if_icmp .ge 7, 3) := dk_162 0 7 (dk_at dksX7_isWaiting_0 8 rfl rfl)
theorem dX7_isWaiting_11 : decode cX7_isWaiting 11 = .ok (.iconst 1, 1) := dk_4 (dk_at dksX7_isWaiting_0 11 rfl rfl)
theorem dX7_isWaiting_12 : decode cX7_isWaiting 12 = .ok (.goto 4, 3) := dk_167 0 4 (dk_at dksX7_isWaiting_0 12 rfl rfl)
theorem dX7_isWaiting_15 : decode cX7_isWaiting 15 = .ok (.iconst 0, 1) := dk_3 (dk_at dksX7_isWaiting_0 15 rfl rfl)
theorem dX7_isWaiting_16 : decode cX7_isWaiting 16 = .ok (.ireturn, 1) := dk_172 (dk_at dksX7_isWaiting_0 16 rfl rfl)
abbrev cX7_lose : ByteArray := prog_13_method_4_code
def yX7_lose : MethodName := ⟨RX7, "lose", "(I)V"⟩
def dkwX7_lose_1 : List UInt8 := [154, 0, 7, 3, 167, 0, 5, 16, 9, 79, 42, 180, 0, 22, 27, 4, 84, 177]
abbrev dktX7_lose_1 : List UInt8 := dkwX7_lose_1 ++ []
def dkwX7_lose_0 : List UInt8 := [42, 180, 0, 15, 27, 42, 180, 0, 3, 180, 0, 62, 4, 160, 0, 16, 42, 180, 0, 22, 27, 51]
abbrev dktX7_lose_0 : List UInt8 := dkwX7_lose_0 ++ dktX7_lose_1
theorem dksX7_lose_0 : cX7_lose.data.toList.drop 0 = dktX7_lose_0 := by decide +kernel
theorem dksX7_lose_1 : cX7_lose.data.toList.drop 22 = dktX7_lose_1 := dk_seg dksX7_lose_0 22 rfl rfl
theorem dX7_lose_0 : decode cX7_lose 0 = .ok (.aload_n 0, 1) := dk_42 (dk_at dksX7_lose_0 0 rfl rfl)
theorem dX7_lose_1 : decode cX7_lose 1 = .ok (.getfield 15, 3) := dk_180 0 15 (dk_at dksX7_lose_0 1 rfl rfl)
theorem dX7_lose_4 : decode cX7_lose 4 = .ok (.iload_n 1, 1) := dk_27 (dk_at dksX7_lose_0 4 rfl rfl)
theorem dX7_lose_5 : decode cX7_lose 5 = .ok (.aload_n 0, 1) := dk_42 (dk_at dksX7_lose_0 5 rfl rfl)
theorem dX7_lose_6 : decode cX7_lose 6 = .ok (.getfield 3, 3) := dk_180 0 3 (dk_at dksX7_lose_0 6 rfl rfl)
theorem dX7_lose_9 : decode cX7_lose 9 = .ok (.getfield 62, 3) := dk_180 0 62 (dk_at dksX7_lose_0 9 rfl rfl)
theorem dX7_lose_12 : decode cX7_lose 12 = .ok (.iconst 1, 1) := dk_4 (dk_at dksX7_lose_0 12 rfl rfl)
theorem dX7_lose_13 : decode cX7_lose 13 = .ok (.if_icmp .ne 16, 3) := dk_160 0 16 (dk_at dksX7_lose_0 13 rfl rfl)
theorem dX7_lose_16 : decode cX7_lose 16 = .ok (.aload_n 0, 1) := dk_42 (dk_at dksX7_lose_0 16 rfl rfl)
theorem dX7_lose_17 : decode cX7_lose 17 = .ok (.getfield 22, 3) := dk_180 0 22 (dk_at dksX7_lose_0 17 rfl rfl)
theorem dX7_lose_20 : decode cX7_lose 20 = .ok (.iload_n 1, 1) := dk_27 (dk_at dksX7_lose_0 20 rfl rfl)
theorem dX7_lose_21 : decode cX7_lose 21 = .ok (.baload, 1) := dk_51 (dk_at dksX7_lose_0 21 rfl rfl)
theorem dX7_lose_22 : decode cX7_lose 22 = .ok (.ifCond .ne 7, 3) := dk_154 0 7 (dk_at dksX7_lose_1 0 rfl rfl)
theorem dX7_lose_25 : decode cX7_lose 25 = .ok (.iconst 0, 1) := dk_3 (dk_at dksX7_lose_1 3 rfl rfl)
theorem dX7_lose_26 : decode cX7_lose 26 = .ok (.goto 5, 3) := dk_167 0 5 (dk_at dksX7_lose_1 4 rfl rfl)
theorem dX7_lose_29 : decode cX7_lose 29 = .ok (.bipush 9, 2) := dk_16 9 (dk_at dksX7_lose_1 7 rfl rfl)
theorem dX7_lose_31 : decode cX7_lose 31 = .ok (.iastore, 1) := dk_79 (dk_at dksX7_lose_1 9 rfl rfl)
theorem dX7_lose_32 : decode cX7_lose 32 = .ok (.aload_n 0, 1) := dk_42 (dk_at dksX7_lose_1 10 rfl rfl)
theorem dX7_lose_33 : decode cX7_lose 33 = .ok (.getfield 22, 3) := dk_180 0 22 (dk_at dksX7_lose_1 11 rfl rfl)
theorem dX7_lose_36 : decode cX7_lose 36 = .ok (.iload_n 1, 1) := dk_27 (dk_at dksX7_lose_1 14 rfl rfl)
theorem dX7_lose_37 : decode cX7_lose 37 = .ok (.iconst 1, 1) := dk_4 (dk_at dksX7_lose_1 15 rfl rfl)
theorem dX7_lose_38 : decode cX7_lose 38 = .ok (.bastore, 1) := dk_84 (dk_at dksX7_lose_1 16 rfl rfl)
theorem dX7_lose_39 : decode cX7_lose 39 = .ok (.return_, 1) := dk_177 (dk_at dksX7_lose_1 17 rfl rfl)
abbrev cX7_mayBegin : ByteArray := prog_13_method_5_code
def yX7_mayBegin : MethodName := ⟨RX7, "mayBegin", "(II)Z"⟩
def dkwX7_mayBegin_5 : List UInt8 := [182, 0, 100, 153, 0, 7, 4, 167, 0, 4, 3, 172]
abbrev dktX7_mayBegin_5 : List UInt8 := dkwX7_mayBegin_5 ++ []
def dkwX7_mayBegin_4 : List UInt8 := [180, 0, 93, 163, 0, 31, 45, 42, 180, 0, 41, 42, 180, 0, 3, 180, 0, 69, 27, 50, 182, 0, 96, 28]
abbrev dktX7_mayBegin_4 : List UInt8 := dkwX7_mayBegin_4 ++ dktX7_mayBegin_5
def dkwX7_mayBegin_3 : List UInt8 := [4, 167, 0, 4, 3, 54, 4, 21, 4, 153, 0, 47, 28, 45, 180, 0, 88, 96, 42, 180, 0, 3]
abbrev dktX7_mayBegin_3 : List UInt8 := dkwX7_mayBegin_3 ++ dktX7_mayBegin_4
def dkwX7_mayBegin_2 : List UInt8 := [42, 180, 0, 3, 180, 0, 69, 27, 50, 42, 180, 0, 15, 27, 46, 182, 0, 79, 180, 0, 83, 161, 0, 7]
abbrev dktX7_mayBegin_2 : List UInt8 := dkwX7_mayBegin_2 ++ dktX7_mayBegin_3
def dkwX7_mayBegin_1 : List UInt8 := [180, 0, 15, 27, 46, 50, 78, 42, 180, 0, 15, 27, 46, 153, 0, 35, 28, 42, 180, 0, 19, 27, 46, 100]
abbrev dktX7_mayBegin_1 : List UInt8 := dkwX7_mayBegin_1 ++ dktX7_mayBegin_2
def dkwX7_mayBegin_0 : List UInt8 := [42, 27, 182, 0, 65, 154, 0, 5, 3, 172, 42, 180, 0, 3, 180, 0, 69, 27, 50, 180, 0, 73, 42]
abbrev dktX7_mayBegin_0 : List UInt8 := dkwX7_mayBegin_0 ++ dktX7_mayBegin_1
theorem dksX7_mayBegin_0 : cX7_mayBegin.data.toList.drop 0 = dktX7_mayBegin_0 := by decide +kernel
theorem dksX7_mayBegin_1 : cX7_mayBegin.data.toList.drop 23 = dktX7_mayBegin_1 := dk_seg dksX7_mayBegin_0 23 rfl rfl
theorem dksX7_mayBegin_2 : cX7_mayBegin.data.toList.drop 47 = dktX7_mayBegin_2 := dk_seg dksX7_mayBegin_1 24 rfl rfl
theorem dksX7_mayBegin_3 : cX7_mayBegin.data.toList.drop 71 = dktX7_mayBegin_3 := dk_seg dksX7_mayBegin_2 24 rfl rfl
theorem dksX7_mayBegin_4 : cX7_mayBegin.data.toList.drop 93 = dktX7_mayBegin_4 := dk_seg dksX7_mayBegin_3 22 rfl rfl
theorem dksX7_mayBegin_5 : cX7_mayBegin.data.toList.drop 117 = dktX7_mayBegin_5 := dk_seg dksX7_mayBegin_4 24 rfl rfl
theorem dX7_mayBegin_0 : decode cX7_mayBegin 0 = .ok (.aload_n 0, 1) := dk_42 (dk_at dksX7_mayBegin_0 0 rfl rfl)
theorem dX7_mayBegin_1 : decode cX7_mayBegin 1 = .ok (.iload_n 1, 1) := dk_27 (dk_at dksX7_mayBegin_0 1 rfl rfl)
theorem dX7_mayBegin_2 : decode cX7_mayBegin 2 = .ok (.invokevirtual 65, 3) := dk_182 0 65 (dk_at dksX7_mayBegin_0 2 rfl rfl)
theorem dX7_mayBegin_5 : decode cX7_mayBegin 5 = .ok (.ifCond .ne 5, 3) := dk_154 0 5 (dk_at dksX7_mayBegin_0 5 rfl rfl)
theorem dX7_mayBegin_8 : decode cX7_mayBegin 8 = .ok (.iconst 0, 1) := dk_3 (dk_at dksX7_mayBegin_0 8 rfl rfl)
theorem dX7_mayBegin_9 : decode cX7_mayBegin 9 = .ok (.ireturn, 1) := dk_172 (dk_at dksX7_mayBegin_0 9 rfl rfl)
theorem dX7_mayBegin_10 : decode cX7_mayBegin 10 = .ok (.aload_n 0, 1) := dk_42 (dk_at dksX7_mayBegin_0 10 rfl rfl)
theorem dX7_mayBegin_11 : decode cX7_mayBegin 11 = .ok (.getfield 3, 3) := dk_180 0 3 (dk_at dksX7_mayBegin_0 11 rfl rfl)
theorem dX7_mayBegin_14 : decode cX7_mayBegin 14 = .ok (.getfield 69, 3) := dk_180 0 69 (dk_at dksX7_mayBegin_0 14 rfl rfl)
theorem dX7_mayBegin_17 : decode cX7_mayBegin 17 = .ok (.iload_n 1, 1) := dk_27 (dk_at dksX7_mayBegin_0 17 rfl rfl)
theorem dX7_mayBegin_18 : decode cX7_mayBegin 18 = .ok (.aaload, 1) := dk_50 (dk_at dksX7_mayBegin_0 18 rfl rfl)
theorem dX7_mayBegin_19 : decode cX7_mayBegin 19 = .ok (.getfield 73, 3) := dk_180 0 73 (dk_at dksX7_mayBegin_0 19 rfl rfl)
theorem dX7_mayBegin_22 : decode cX7_mayBegin 22 = .ok (.aload_n 0, 1) := dk_42 (dk_at dksX7_mayBegin_0 22 rfl rfl)
theorem dX7_mayBegin_23 : decode cX7_mayBegin 23 = .ok (.getfield 15, 3) := dk_180 0 15 (dk_at dksX7_mayBegin_1 0 rfl rfl)
theorem dX7_mayBegin_26 : decode cX7_mayBegin 26 = .ok (.iload_n 1, 1) := dk_27 (dk_at dksX7_mayBegin_1 3 rfl rfl)
theorem dX7_mayBegin_27 : decode cX7_mayBegin 27 = .ok (.iaload, 1) := dk_46 (dk_at dksX7_mayBegin_1 4 rfl rfl)
theorem dX7_mayBegin_28 : decode cX7_mayBegin 28 = .ok (.aaload, 1) := dk_50 (dk_at dksX7_mayBegin_1 5 rfl rfl)
theorem dX7_mayBegin_29 : decode cX7_mayBegin 29 = .ok (.astore_n 3, 1) := dk_78 (dk_at dksX7_mayBegin_1 6 rfl rfl)
theorem dX7_mayBegin_30 : decode cX7_mayBegin 30 = .ok (.aload_n 0, 1) := dk_42 (dk_at dksX7_mayBegin_1 7 rfl rfl)
theorem dX7_mayBegin_31 : decode cX7_mayBegin 31 = .ok (.getfield 15, 3) := dk_180 0 15 (dk_at dksX7_mayBegin_1 8 rfl rfl)
theorem dX7_mayBegin_34 : decode cX7_mayBegin 34 = .ok (.iload_n 1, 1) := dk_27 (dk_at dksX7_mayBegin_1 11 rfl rfl)
theorem dX7_mayBegin_35 : decode cX7_mayBegin 35 = .ok (.iaload, 1) := dk_46 (dk_at dksX7_mayBegin_1 12 rfl rfl)
theorem dX7_mayBegin_36 : decode cX7_mayBegin 36 = .ok (.ifCond .eq 35, 3) := dk_153 0 35 (dk_at dksX7_mayBegin_1 13 rfl rfl)
theorem dX7_mayBegin_39 : decode cX7_mayBegin 39 = .ok (.iload_n 2, 1) := dk_28 (dk_at dksX7_mayBegin_1 16 rfl rfl)
theorem dX7_mayBegin_40 : decode cX7_mayBegin 40 = .ok (.aload_n 0, 1) := dk_42 (dk_at dksX7_mayBegin_1 17 rfl rfl)
theorem dX7_mayBegin_41 : decode cX7_mayBegin 41 = .ok (.getfield 19, 3) := dk_180 0 19 (dk_at dksX7_mayBegin_1 18 rfl rfl)
theorem dX7_mayBegin_44 : decode cX7_mayBegin 44 = .ok (.iload_n 1, 1) := dk_27 (dk_at dksX7_mayBegin_1 21 rfl rfl)
theorem dX7_mayBegin_45 : decode cX7_mayBegin 45 = .ok (.iaload, 1) := dk_46 (dk_at dksX7_mayBegin_1 22 rfl rfl)
theorem dX7_mayBegin_46 : decode cX7_mayBegin 46 = .ok (.isub, 1) := dk_100 (dk_at dksX7_mayBegin_1 23 rfl rfl)
theorem dX7_mayBegin_47 : decode cX7_mayBegin 47 = .ok (.aload_n 0, 1) := dk_42 (dk_at dksX7_mayBegin_2 0 rfl rfl)
theorem dX7_mayBegin_48 : decode cX7_mayBegin 48 = .ok (.getfield 3, 3) := dk_180 0 3 (dk_at dksX7_mayBegin_2 1 rfl rfl)
theorem dX7_mayBegin_51 : decode cX7_mayBegin 51 = .ok (.getfield 69, 3) := dk_180 0 69 (dk_at dksX7_mayBegin_2 4 rfl rfl)
theorem dX7_mayBegin_54 : decode cX7_mayBegin 54 = .ok (.iload_n 1, 1) := dk_27 (dk_at dksX7_mayBegin_2 7 rfl rfl)
theorem dX7_mayBegin_55 : decode cX7_mayBegin 55 = .ok (.aaload, 1) := dk_50 (dk_at dksX7_mayBegin_2 8 rfl rfl)
theorem dX7_mayBegin_56 : decode cX7_mayBegin 56 = .ok (.aload_n 0, 1) := dk_42 (dk_at dksX7_mayBegin_2 9 rfl rfl)
theorem dX7_mayBegin_57 : decode cX7_mayBegin 57 = .ok (.getfield 15, 3) := dk_180 0 15 (dk_at dksX7_mayBegin_2 10 rfl rfl)
theorem dX7_mayBegin_60 : decode cX7_mayBegin 60 = .ok (.iload_n 1, 1) := dk_27 (dk_at dksX7_mayBegin_2 13 rfl rfl)
theorem dX7_mayBegin_61 : decode cX7_mayBegin 61 = .ok (.iaload, 1) := dk_46 (dk_at dksX7_mayBegin_2 14 rfl rfl)
theorem dX7_mayBegin_62 : decode cX7_mayBegin 62 = .ok (.invokevirtual 79, 3) := dk_182 0 79 (dk_at dksX7_mayBegin_2 15 rfl rfl)
theorem dX7_mayBegin_65 : decode cX7_mayBegin 65 = .ok (.getfield 83, 3) := dk_180 0 83 (dk_at dksX7_mayBegin_2 18 rfl rfl)
theorem dX7_mayBegin_68 : decode cX7_mayBegin 68 = .ok (.if_icmp .lt 7, 3) := dk_161 0 7 (dk_at dksX7_mayBegin_2 21 rfl rfl)
theorem dX7_mayBegin_71 : decode cX7_mayBegin 71 = .ok (.iconst 1, 1) := dk_4 (dk_at dksX7_mayBegin_3 0 rfl rfl)
theorem dX7_mayBegin_72 : decode cX7_mayBegin 72 = .ok (.goto 4, 3) := dk_167 0 4 (dk_at dksX7_mayBegin_3 1 rfl rfl)
theorem dX7_mayBegin_75 : decode cX7_mayBegin 75 = .ok (.iconst 0, 1) := dk_3 (dk_at dksX7_mayBegin_3 4 rfl rfl)
theorem dX7_mayBegin_76 : decode cX7_mayBegin 76 = .ok (.istore 4, 2) := dk_54 4 (dk_at dksX7_mayBegin_3 5 rfl rfl)
theorem dX7_mayBegin_78 : decode cX7_mayBegin 78 = .ok (.iload 4, 2) := dk_21 4 (dk_at dksX7_mayBegin_3 7 rfl rfl)
theorem dX7_mayBegin_80 : decode cX7_mayBegin 80 = .ok (.ifCond .eq 47, 3) := dk_153 0 47 (dk_at dksX7_mayBegin_3 9 rfl rfl)
theorem dX7_mayBegin_83 : decode cX7_mayBegin 83 = .ok (.iload_n 2, 1) := dk_28 (dk_at dksX7_mayBegin_3 12 rfl rfl)
theorem dX7_mayBegin_84 : decode cX7_mayBegin 84 = .ok (.aload_n 3, 1) := dk_45 (dk_at dksX7_mayBegin_3 13 rfl rfl)
theorem dX7_mayBegin_85 : decode cX7_mayBegin 85 = .ok (.getfield 88, 3) := dk_180 0 88 (dk_at dksX7_mayBegin_3 14 rfl rfl)
theorem dX7_mayBegin_88 : decode cX7_mayBegin 88 = .ok (.iadd, 1) := dk_96 (dk_at dksX7_mayBegin_3 17 rfl rfl)
theorem dX7_mayBegin_89 : decode cX7_mayBegin 89 = .ok (.aload_n 0, 1) := dk_42 (dk_at dksX7_mayBegin_3 18 rfl rfl)
theorem dX7_mayBegin_90 : decode cX7_mayBegin 90 = .ok (.getfield 3, 3) := dk_180 0 3 (dk_at dksX7_mayBegin_3 19 rfl rfl)
theorem dX7_mayBegin_93 : decode cX7_mayBegin 93 = .ok (.getfield 93, 3) := dk_180 0 93 (dk_at dksX7_mayBegin_4 0 rfl rfl)
theorem dX7_mayBegin_96 : decode cX7_mayBegin 96 = .ok (.if_icmp .gt 31, 3) := dk_163 0 31 (dk_at dksX7_mayBegin_4 3 rfl rfl)
theorem dX7_mayBegin_99 : decode cX7_mayBegin 99 = .ok (.aload_n 3, 1) := dk_45 (dk_at dksX7_mayBegin_4 6 rfl rfl)
theorem dX7_mayBegin_100 : decode cX7_mayBegin 100 = .ok (.aload_n 0, 1) := dk_42 (dk_at dksX7_mayBegin_4 7 rfl rfl)
theorem dX7_mayBegin_101 : decode cX7_mayBegin 101 = .ok (.getfield 41, 3) := dk_180 0 41 (dk_at dksX7_mayBegin_4 8 rfl rfl)
theorem dX7_mayBegin_104 : decode cX7_mayBegin 104 = .ok (.aload_n 0, 1) := dk_42 (dk_at dksX7_mayBegin_4 11 rfl rfl)
theorem dX7_mayBegin_105 : decode cX7_mayBegin 105 = .ok (.getfield 3, 3) := dk_180 0 3 (dk_at dksX7_mayBegin_4 12 rfl rfl)
theorem dX7_mayBegin_108 : decode cX7_mayBegin 108 = .ok (.getfield 69, 3) := dk_180 0 69 (dk_at dksX7_mayBegin_4 15 rfl rfl)
theorem dX7_mayBegin_111 : decode cX7_mayBegin 111 = .ok (.iload_n 1, 1) := dk_27 (dk_at dksX7_mayBegin_4 18 rfl rfl)
theorem dX7_mayBegin_112 : decode cX7_mayBegin 112 = .ok (.aaload, 1) := dk_50 (dk_at dksX7_mayBegin_4 19 rfl rfl)
theorem dX7_mayBegin_113 : decode cX7_mayBegin 113 = .ok (.invokevirtual 96, 3) := dk_182 0 96 (dk_at dksX7_mayBegin_4 20 rfl rfl)
theorem dX7_mayBegin_116 : decode cX7_mayBegin 116 = .ok (.iload_n 2, 1) := dk_28 (dk_at dksX7_mayBegin_4 23 rfl rfl)
theorem dX7_mayBegin_117 : decode cX7_mayBegin 117 = .ok (.invokevirtual 100, 3) := dk_182 0 100 (dk_at dksX7_mayBegin_5 0 rfl rfl)
theorem dX7_mayBegin_120 : decode cX7_mayBegin 120 = .ok (.ifCond .eq 7, 3) := dk_153 0 7 (dk_at dksX7_mayBegin_5 3 rfl rfl)
theorem dX7_mayBegin_123 : decode cX7_mayBegin 123 = .ok (.iconst 1, 1) := dk_4 (dk_at dksX7_mayBegin_5 6 rfl rfl)
theorem dX7_mayBegin_124 : decode cX7_mayBegin 124 = .ok (.goto 4, 3) := dk_167 0 4 (dk_at dksX7_mayBegin_5 7 rfl rfl)
theorem dX7_mayBegin_127 : decode cX7_mayBegin 127 = .ok (.iconst 0, 1) := dk_3 (dk_at dksX7_mayBegin_5 10 rfl rfl)
theorem dX7_mayBegin_128 : decode cX7_mayBegin 128 = .ok (.ireturn, 1) := dk_172 (dk_at dksX7_mayBegin_5 11 rfl rfl)
abbrev cX7_goOn : ByteArray := prog_13_method_7_code
def yX7_goOn : MethodName := ⟨RX7, "goOn", "(I)I"⟩
def dkwX7_goOn_5 : List UInt8 := [79, 42, 180, 0, 19, 28, 27, 4, 96, 79, 42, 2, 181, 0, 49, 28, 172]
abbrev dktX7_goOn_5 : List UInt8 := dkwX7_goOn_5 ++ []
def dkwX7_goOn_4 : List UInt8 := [180, 0, 69, 28, 50, 180, 0, 133, 160, 0, 8, 16, 8, 167, 0, 11, 42, 180, 0, 15, 28, 46, 4, 96]
abbrev dktX7_goOn_4 : List UInt8 := dkwX7_goOn_4 ++ dktX7_goOn_5
def dkwX7_goOn_3 : List UInt8 := [42, 180, 0, 130, 154, 0, 59, 42, 180, 0, 15, 28, 42, 180, 0, 15, 28, 46, 4, 96, 42, 180, 0, 3]
abbrev dktX7_goOn_3 : List UInt8 := dkwX7_goOn_3 ++ dktX7_goOn_4
def dkwX7_goOn_2 : List UInt8 := [28, 182, 0, 107, 42, 2, 181, 0, 49, 16, 10, 28, 96, 172, 42, 89, 180, 0, 130, 4, 100, 181, 0, 130]
abbrev dktX7_goOn_2 : List UInt8 := dkwX7_goOn_2 ++ dktX7_goOn_3
def dkwX7_goOn_1 : List UInt8 := [42, 180, 0, 41, 42, 180, 0, 3, 180, 0, 69, 28, 50, 182, 0, 96, 27, 182, 0, 100, 154, 0, 18, 42]
abbrev dktX7_goOn_1 : List UInt8 := dkwX7_goOn_1 ++ dktX7_goOn_2
def dkwX7_goOn_0 : List UInt8 := [42, 180, 0, 49, 61, 42, 180, 0, 3, 180, 0, 69, 28, 50, 180, 0, 73, 42, 180, 0, 15, 28, 46, 50]
abbrev dktX7_goOn_0 : List UInt8 := dkwX7_goOn_0 ++ dktX7_goOn_1
theorem dksX7_goOn_0 : cX7_goOn.data.toList.drop 0 = dktX7_goOn_0 := by decide +kernel
theorem dksX7_goOn_1 : cX7_goOn.data.toList.drop 24 = dktX7_goOn_1 := dk_seg dksX7_goOn_0 24 rfl rfl
theorem dksX7_goOn_2 : cX7_goOn.data.toList.drop 48 = dktX7_goOn_2 := dk_seg dksX7_goOn_1 24 rfl rfl
theorem dksX7_goOn_3 : cX7_goOn.data.toList.drop 72 = dktX7_goOn_3 := dk_seg dksX7_goOn_2 24 rfl rfl
theorem dksX7_goOn_4 : cX7_goOn.data.toList.drop 96 = dktX7_goOn_4 := dk_seg dksX7_goOn_3 24 rfl rfl
theorem dksX7_goOn_5 : cX7_goOn.data.toList.drop 120 = dktX7_goOn_5 := dk_seg dksX7_goOn_4 24 rfl rfl
theorem dX7_goOn_0 : decode cX7_goOn 0 = .ok (.aload_n 0, 1) := dk_42 (dk_at dksX7_goOn_0 0 rfl rfl)
theorem dX7_goOn_1 : decode cX7_goOn 1 = .ok (.getfield 49, 3) := dk_180 0 49 (dk_at dksX7_goOn_0 1 rfl rfl)
theorem dX7_goOn_4 : decode cX7_goOn 4 = .ok (.istore_n 2, 1) := dk_61 (dk_at dksX7_goOn_0 4 rfl rfl)
theorem dX7_goOn_5 : decode cX7_goOn 5 = .ok (.aload_n 0, 1) := dk_42 (dk_at dksX7_goOn_0 5 rfl rfl)
theorem dX7_goOn_6 : decode cX7_goOn 6 = .ok (.getfield 3, 3) := dk_180 0 3 (dk_at dksX7_goOn_0 6 rfl rfl)
theorem dX7_goOn_9 : decode cX7_goOn 9 = .ok (.getfield 69, 3) := dk_180 0 69 (dk_at dksX7_goOn_0 9 rfl rfl)
theorem dX7_goOn_12 : decode cX7_goOn 12 = .ok (.iload_n 2, 1) := dk_28 (dk_at dksX7_goOn_0 12 rfl rfl)
theorem dX7_goOn_13 : decode cX7_goOn 13 = .ok (.aaload, 1) := dk_50 (dk_at dksX7_goOn_0 13 rfl rfl)
theorem dX7_goOn_14 : decode cX7_goOn 14 = .ok (.getfield 73, 3) := dk_180 0 73 (dk_at dksX7_goOn_0 14 rfl rfl)
theorem dX7_goOn_17 : decode cX7_goOn 17 = .ok (.aload_n 0, 1) := dk_42 (dk_at dksX7_goOn_0 17 rfl rfl)
theorem dX7_goOn_18 : decode cX7_goOn 18 = .ok (.getfield 15, 3) := dk_180 0 15 (dk_at dksX7_goOn_0 18 rfl rfl)
theorem dX7_goOn_21 : decode cX7_goOn 21 = .ok (.iload_n 2, 1) := dk_28 (dk_at dksX7_goOn_0 21 rfl rfl)
theorem dX7_goOn_22 : decode cX7_goOn 22 = .ok (.iaload, 1) := dk_46 (dk_at dksX7_goOn_0 22 rfl rfl)
theorem dX7_goOn_23 : decode cX7_goOn 23 = .ok (.aaload, 1) := dk_50 (dk_at dksX7_goOn_0 23 rfl rfl)
theorem dX7_goOn_24 : decode cX7_goOn 24 = .ok (.aload_n 0, 1) := dk_42 (dk_at dksX7_goOn_1 0 rfl rfl)
theorem dX7_goOn_25 : decode cX7_goOn 25 = .ok (.getfield 41, 3) := dk_180 0 41 (dk_at dksX7_goOn_1 1 rfl rfl)
theorem dX7_goOn_28 : decode cX7_goOn 28 = .ok (.aload_n 0, 1) := dk_42 (dk_at dksX7_goOn_1 4 rfl rfl)
theorem dX7_goOn_29 : decode cX7_goOn 29 = .ok (.getfield 3, 3) := dk_180 0 3 (dk_at dksX7_goOn_1 5 rfl rfl)
theorem dX7_goOn_32 : decode cX7_goOn 32 = .ok (.getfield 69, 3) := dk_180 0 69 (dk_at dksX7_goOn_1 8 rfl rfl)
theorem dX7_goOn_35 : decode cX7_goOn 35 = .ok (.iload_n 2, 1) := dk_28 (dk_at dksX7_goOn_1 11 rfl rfl)
theorem dX7_goOn_36 : decode cX7_goOn 36 = .ok (.aaload, 1) := dk_50 (dk_at dksX7_goOn_1 12 rfl rfl)
theorem dX7_goOn_37 : decode cX7_goOn 37 = .ok (.invokevirtual 96, 3) := dk_182 0 96 (dk_at dksX7_goOn_1 13 rfl rfl)
theorem dX7_goOn_40 : decode cX7_goOn 40 = .ok (.iload_n 1, 1) := dk_27 (dk_at dksX7_goOn_1 16 rfl rfl)
theorem dX7_goOn_41 : decode cX7_goOn 41 = .ok (.invokevirtual 100, 3) := dk_182 0 100 (dk_at dksX7_goOn_1 17 rfl rfl)
theorem dX7_goOn_44 : decode cX7_goOn 44 = .ok (.ifCond .ne 18, 3) := dk_154 0 18 (dk_at dksX7_goOn_1 20 rfl rfl)
theorem dX7_goOn_47 : decode cX7_goOn 47 = .ok (.aload_n 0, 1) := dk_42 (dk_at dksX7_goOn_1 23 rfl rfl)
theorem dX7_goOn_48 : decode cX7_goOn 48 = .ok (.iload_n 2, 1) := dk_28 (dk_at dksX7_goOn_2 0 rfl rfl)
theorem dX7_goOn_49 : decode cX7_goOn 49 = .ok (.invokevirtual 107, 3) := dk_182 0 107 (dk_at dksX7_goOn_2 1 rfl rfl)
theorem dX7_goOn_52 : decode cX7_goOn 52 = .ok (.aload_n 0, 1) := dk_42 (dk_at dksX7_goOn_2 4 rfl rfl)
theorem dX7_goOn_53 : decode cX7_goOn 53 = .ok (.iconst (-1), 1) := dk_2 (dk_at dksX7_goOn_2 5 rfl rfl)
theorem dX7_goOn_54 : decode cX7_goOn 54 = .ok (.putfield 49, 3) := dk_181 0 49 (dk_at dksX7_goOn_2 6 rfl rfl)
theorem dX7_goOn_57 : decode cX7_goOn 57 = .ok (.bipush 10, 2) := dk_16 10 (dk_at dksX7_goOn_2 9 rfl rfl)
theorem dX7_goOn_59 : decode cX7_goOn 59 = .ok (.iload_n 2, 1) := dk_28 (dk_at dksX7_goOn_2 11 rfl rfl)
theorem dX7_goOn_60 : decode cX7_goOn 60 = .ok (.iadd, 1) := dk_96 (dk_at dksX7_goOn_2 12 rfl rfl)
theorem dX7_goOn_61 : decode cX7_goOn 61 = .ok (.ireturn, 1) := dk_172 (dk_at dksX7_goOn_2 13 rfl rfl)
theorem dX7_goOn_62 : decode cX7_goOn 62 = .ok (.aload_n 0, 1) := dk_42 (dk_at dksX7_goOn_2 14 rfl rfl)
theorem dX7_goOn_63 : decode cX7_goOn 63 = .ok (.dup, 1) := dk_89 (dk_at dksX7_goOn_2 15 rfl rfl)
theorem dX7_goOn_64 : decode cX7_goOn 64 = .ok (.getfield 130, 3) := dk_180 0 130 (dk_at dksX7_goOn_2 16 rfl rfl)
theorem dX7_goOn_67 : decode cX7_goOn 67 = .ok (.iconst 1, 1) := dk_4 (dk_at dksX7_goOn_2 19 rfl rfl)
theorem dX7_goOn_68 : decode cX7_goOn 68 = .ok (.isub, 1) := dk_100 (dk_at dksX7_goOn_2 20 rfl rfl)
theorem dX7_goOn_69 : decode cX7_goOn 69 = .ok (.putfield 130, 3) := dk_181 0 130 (dk_at dksX7_goOn_2 21 rfl rfl)
theorem dX7_goOn_72 : decode cX7_goOn 72 = .ok (.aload_n 0, 1) := dk_42 (dk_at dksX7_goOn_3 0 rfl rfl)
theorem dX7_goOn_73 : decode cX7_goOn 73 = .ok (.getfield 130, 3) := dk_180 0 130 (dk_at dksX7_goOn_3 1 rfl rfl)
theorem dX7_goOn_76 : decode cX7_goOn 76 = .ok (.ifCond .ne 59, 3) := dk_154 0 59 (dk_at dksX7_goOn_3 4 rfl rfl)
theorem dX7_goOn_79 : decode cX7_goOn 79 = .ok (.aload_n 0, 1) := dk_42 (dk_at dksX7_goOn_3 7 rfl rfl)
theorem dX7_goOn_80 : decode cX7_goOn 80 = .ok (.getfield 15, 3) := dk_180 0 15 (dk_at dksX7_goOn_3 8 rfl rfl)
theorem dX7_goOn_83 : decode cX7_goOn 83 = .ok (.iload_n 2, 1) := dk_28 (dk_at dksX7_goOn_3 11 rfl rfl)
theorem dX7_goOn_84 : decode cX7_goOn 84 = .ok (.aload_n 0, 1) := dk_42 (dk_at dksX7_goOn_3 12 rfl rfl)
theorem dX7_goOn_85 : decode cX7_goOn 85 = .ok (.getfield 15, 3) := dk_180 0 15 (dk_at dksX7_goOn_3 13 rfl rfl)
theorem dX7_goOn_88 : decode cX7_goOn 88 = .ok (.iload_n 2, 1) := dk_28 (dk_at dksX7_goOn_3 16 rfl rfl)
theorem dX7_goOn_89 : decode cX7_goOn 89 = .ok (.iaload, 1) := dk_46 (dk_at dksX7_goOn_3 17 rfl rfl)
theorem dX7_goOn_90 : decode cX7_goOn 90 = .ok (.iconst 1, 1) := dk_4 (dk_at dksX7_goOn_3 18 rfl rfl)
theorem dX7_goOn_91 : decode cX7_goOn 91 = .ok (.iadd, 1) := dk_96 (dk_at dksX7_goOn_3 19 rfl rfl)
theorem dX7_goOn_92 : decode cX7_goOn 92 = .ok (.aload_n 0, 1) := dk_42 (dk_at dksX7_goOn_3 20 rfl rfl)
theorem dX7_goOn_93 : decode cX7_goOn 93 = .ok (.getfield 3, 3) := dk_180 0 3 (dk_at dksX7_goOn_3 21 rfl rfl)
theorem dX7_goOn_96 : decode cX7_goOn 96 = .ok (.getfield 69, 3) := dk_180 0 69 (dk_at dksX7_goOn_4 0 rfl rfl)
theorem dX7_goOn_99 : decode cX7_goOn 99 = .ok (.iload_n 2, 1) := dk_28 (dk_at dksX7_goOn_4 3 rfl rfl)
theorem dX7_goOn_100 : decode cX7_goOn 100 = .ok (.aaload, 1) := dk_50 (dk_at dksX7_goOn_4 4 rfl rfl)
theorem dX7_goOn_101 : decode cX7_goOn 101 = .ok (.getfield 133, 3) := dk_180 0 133 (dk_at dksX7_goOn_4 5 rfl rfl)
theorem dX7_goOn_104 : decode cX7_goOn 104 = .ok (.if_icmp .ne 8, 3) := dk_160 0 8 (dk_at dksX7_goOn_4 8 rfl rfl)
theorem dX7_goOn_107 : decode cX7_goOn 107 = .ok (.bipush 8, 2) := dk_16 8 (dk_at dksX7_goOn_4 11 rfl rfl)
theorem dX7_goOn_109 : decode cX7_goOn 109 = .ok (.goto 11, 3) := dk_167 0 11 (dk_at dksX7_goOn_4 13 rfl rfl)
theorem dX7_goOn_112 : decode cX7_goOn 112 = .ok (.aload_n 0, 1) := dk_42 (dk_at dksX7_goOn_4 16 rfl rfl)
theorem dX7_goOn_113 : decode cX7_goOn 113 = .ok (.getfield 15, 3) := dk_180 0 15 (dk_at dksX7_goOn_4 17 rfl rfl)
theorem dX7_goOn_116 : decode cX7_goOn 116 = .ok (.iload_n 2, 1) := dk_28 (dk_at dksX7_goOn_4 20 rfl rfl)
theorem dX7_goOn_117 : decode cX7_goOn 117 = .ok (.iaload, 1) := dk_46 (dk_at dksX7_goOn_4 21 rfl rfl)
theorem dX7_goOn_118 : decode cX7_goOn 118 = .ok (.iconst 1, 1) := dk_4 (dk_at dksX7_goOn_4 22 rfl rfl)
theorem dX7_goOn_119 : decode cX7_goOn 119 = .ok (.iadd, 1) := dk_96 (dk_at dksX7_goOn_4 23 rfl rfl)
theorem dX7_goOn_120 : decode cX7_goOn 120 = .ok (.iastore, 1) := dk_79 (dk_at dksX7_goOn_5 0 rfl rfl)
theorem dX7_goOn_121 : decode cX7_goOn 121 = .ok (.aload_n 0, 1) := dk_42 (dk_at dksX7_goOn_5 1 rfl rfl)
theorem dX7_goOn_122 : decode cX7_goOn 122 = .ok (.getfield 19, 3) := dk_180 0 19 (dk_at dksX7_goOn_5 2 rfl rfl)
theorem dX7_goOn_125 : decode cX7_goOn 125 = .ok (.iload_n 2, 1) := dk_28 (dk_at dksX7_goOn_5 5 rfl rfl)
theorem dX7_goOn_126 : decode cX7_goOn 126 = .ok (.iload_n 1, 1) := dk_27 (dk_at dksX7_goOn_5 6 rfl rfl)
theorem dX7_goOn_127 : decode cX7_goOn 127 = .ok (.iconst 1, 1) := dk_4 (dk_at dksX7_goOn_5 7 rfl rfl)
theorem dX7_goOn_128 : decode cX7_goOn 128 = .ok (.iadd, 1) := dk_96 (dk_at dksX7_goOn_5 8 rfl rfl)
theorem dX7_goOn_129 : decode cX7_goOn 129 = .ok (.iastore, 1) := dk_79 (dk_at dksX7_goOn_5 9 rfl rfl)
theorem dX7_goOn_130 : decode cX7_goOn 130 = .ok (.aload_n 0, 1) := dk_42 (dk_at dksX7_goOn_5 10 rfl rfl)
theorem dX7_goOn_131 : decode cX7_goOn 131 = .ok (.iconst (-1), 1) := dk_2 (dk_at dksX7_goOn_5 11 rfl rfl)
theorem dX7_goOn_132 : decode cX7_goOn 132 = .ok (.putfield 49, 3) := dk_181 0 49 (dk_at dksX7_goOn_5 12 rfl rfl)
theorem dX7_goOn_135 : decode cX7_goOn 135 = .ok (.iload_n 2, 1) := dk_28 (dk_at dksX7_goOn_5 15 rfl rfl)
theorem dX7_goOn_136 : decode cX7_goOn 136 = .ok (.ireturn, 1) := dk_172 (dk_at dksX7_goOn_5 16 rfl rfl)
abbrev cX7_score : ByteArray := prog_13_method_8_code
def yX7_score : MethodName := ⟨RX7, "score", "()I"⟩
def dkwX7_score_2 : List UInt8 := [167, 255, 212, 27, 172]
abbrev dktX7_score_2 : List UInt8 := dkwX7_score_2 ++ []
def dkwX7_score_1 : List UInt8 := [160, 0, 18, 42, 180, 0, 3, 180, 0, 69, 28, 50, 180, 0, 136, 167, 0, 4, 3, 96, 60, 132, 2, 1]
abbrev dktX7_score_1 : List UInt8 := dkwX7_score_1 ++ dktX7_score_2
def dkwX7_score_0 : List UInt8 := [3, 60, 3, 61, 28, 42, 180, 0, 3, 180, 0, 52, 162, 0, 39, 27, 42, 180, 0, 15, 28, 46, 16, 8]
abbrev dktX7_score_0 : List UInt8 := dkwX7_score_0 ++ dktX7_score_1
theorem dksX7_score_0 : cX7_score.data.toList.drop 0 = dktX7_score_0 := by decide +kernel
theorem dksX7_score_1 : cX7_score.data.toList.drop 24 = dktX7_score_1 := dk_seg dksX7_score_0 24 rfl rfl
theorem dksX7_score_2 : cX7_score.data.toList.drop 48 = dktX7_score_2 := dk_seg dksX7_score_1 24 rfl rfl
theorem dX7_score_0 : decode cX7_score 0 = .ok (.iconst 0, 1) := dk_3 (dk_at dksX7_score_0 0 rfl rfl)
theorem dX7_score_1 : decode cX7_score 1 = .ok (.istore_n 1, 1) := dk_60 (dk_at dksX7_score_0 1 rfl rfl)
theorem dX7_score_2 : decode cX7_score 2 = .ok (.iconst 0, 1) := dk_3 (dk_at dksX7_score_0 2 rfl rfl)
theorem dX7_score_3 : decode cX7_score 3 = .ok (.istore_n 2, 1) := dk_61 (dk_at dksX7_score_0 3 rfl rfl)
theorem dX7_score_4 : decode cX7_score 4 = .ok (.iload_n 2, 1) := dk_28 (dk_at dksX7_score_0 4 rfl rfl)
theorem dX7_score_5 : decode cX7_score 5 = .ok (.aload_n 0, 1) := dk_42 (dk_at dksX7_score_0 5 rfl rfl)
theorem dX7_score_6 : decode cX7_score 6 = .ok (.getfield 3, 3) := dk_180 0 3 (dk_at dksX7_score_0 6 rfl rfl)
theorem dX7_score_9 : decode cX7_score 9 = .ok (.getfield 52, 3) := dk_180 0 52 (dk_at dksX7_score_0 9 rfl rfl)
theorem dX7_score_12 : decode cX7_score 12 = .ok (.if_icmp .ge 39, 3) := dk_162 0 39 (dk_at dksX7_score_0 12 rfl rfl)
theorem dX7_score_15 : decode cX7_score 15 = .ok (.iload_n 1, 1) := dk_27 (dk_at dksX7_score_0 15 rfl rfl)
theorem dX7_score_16 : decode cX7_score 16 = .ok (.aload_n 0, 1) := dk_42 (dk_at dksX7_score_0 16 rfl rfl)
theorem dX7_score_17 : decode cX7_score 17 = .ok (.getfield 15, 3) := dk_180 0 15 (dk_at dksX7_score_0 17 rfl rfl)
theorem dX7_score_20 : decode cX7_score 20 = .ok (.iload_n 2, 1) := dk_28 (dk_at dksX7_score_0 20 rfl rfl)
theorem dX7_score_21 : decode cX7_score 21 = .ok (.iaload, 1) := dk_46 (dk_at dksX7_score_0 21 rfl rfl)
theorem dX7_score_22 : decode cX7_score 22 = .ok (.bipush 8, 2) := dk_16 8 (dk_at dksX7_score_0 22 rfl rfl)
theorem dX7_score_24 : decode cX7_score 24 = .ok (.if_icmp .ne 18, 3) := dk_160 0 18 (dk_at dksX7_score_1 0 rfl rfl)
theorem dX7_score_27 : decode cX7_score 27 = .ok (.aload_n 0, 1) := dk_42 (dk_at dksX7_score_1 3 rfl rfl)
theorem dX7_score_28 : decode cX7_score 28 = .ok (.getfield 3, 3) := dk_180 0 3 (dk_at dksX7_score_1 4 rfl rfl)
theorem dX7_score_31 : decode cX7_score 31 = .ok (.getfield 69, 3) := dk_180 0 69 (dk_at dksX7_score_1 7 rfl rfl)
theorem dX7_score_34 : decode cX7_score 34 = .ok (.iload_n 2, 1) := dk_28 (dk_at dksX7_score_1 10 rfl rfl)
theorem dX7_score_35 : decode cX7_score 35 = .ok (.aaload, 1) := dk_50 (dk_at dksX7_score_1 11 rfl rfl)
theorem dX7_score_36 : decode cX7_score 36 = .ok (.getfield 136, 3) := dk_180 0 136 (dk_at dksX7_score_1 12 rfl rfl)
theorem dX7_score_39 : decode cX7_score 39 = .ok (.goto 4, 3) := dk_167 0 4 (dk_at dksX7_score_1 15 rfl rfl)
theorem dX7_score_42 : decode cX7_score 42 = .ok (.iconst 0, 1) := dk_3 (dk_at dksX7_score_1 18 rfl rfl)
theorem dX7_score_43 : decode cX7_score 43 = .ok (.iadd, 1) := dk_96 (dk_at dksX7_score_1 19 rfl rfl)
theorem dX7_score_44 : decode cX7_score 44 = .ok (.istore_n 1, 1) := dk_60 (dk_at dksX7_score_1 20 rfl rfl)
theorem dX7_score_45 : decode cX7_score 45 = .ok (.iinc 2 1, 3) := dk_132 2 1 (dk_at dksX7_score_1 21 rfl rfl)
theorem dX7_score_48 : decode cX7_score 48 = .ok (.goto (-44), 3) := dk_167 255 212 (dk_at dksX7_score_2 0 rfl rfl)
theorem dX7_score_51 : decode cX7_score 51 = .ok (.iload_n 1, 1) := dk_27 (dk_at dksX7_score_2 3 rfl rfl)
theorem dX7_score_52 : decode cX7_score 52 = .ok (.ireturn, 1) := dk_172 (dk_at dksX7_score_2 4 rfl rfl)
theorem q80 : (Jvm.Cond.initialized "SharedNights$Watch") ∈ lw_all := lw_g (lw_at lw_m1 8 rfl) rfl
theorem q192 : (Jvm.Cond.instantiable "SharedNights$Watch" (10 : Nat)) ∈ lw_all := lw_g (lw_at lw_m1 120 rfl) rfl
theorem q194 : (Jvm.Cond.instanceMethod ({ cls := "SharedNights$Watch", name := "<init>", desc := "(LSharedNights;)V" } : Jvm.MethodName)) ∈ lw_all := lw_g (lw_at lw_m1 122 rfl) rfl
theorem q195 : (Jvm.Cond.code ({ cls := "SharedNights$Watch", name := "<init>", desc := "(LSharedNights;)V" } : Jvm.MethodName) prog_13_method_1_code (2 : Nat) (Option.none : Option Jvm.ClassFile.FieldType)) ∈ lw_all := lw_g (lw_at lw_m1 123 rfl) rfl
theorem q196 : (Jvm.Cond.methodLink "SharedNights$Watch" (9 : Nat) ({ cls := "java/lang/Object", name := "<init>", desc := "()V" } : Jvm.MethodName)) ∈ lw_all := lw_g (lw_at lw_m1 124 rfl) rfl
theorem q197 : (Jvm.Cond.fieldLink "SharedNights$Watch" (15 : Nat) "SharedNights$Watch" "step" "[I") ∈ lw_all := lw_g (lw_at lw_m1 125 rfl) rfl
theorem q199 : (Jvm.Cond.fieldLink "SharedNights$Watch" (19 : Nat) "SharedNights$Watch" "end" "[I") ∈ lw_all := lw_g (lw_at lw_m1 127 rfl) rfl
theorem q200 : (Jvm.Cond.fieldLink "SharedNights$Watch" (22 : Nat) "SharedNights$Watch" "wasBroken" "[Z") ∈ lw_all := lw_g (lw_at lw_m1 128 rfl) rfl
theorem q201 : (Jvm.Cond.fieldLink "SharedNights$Watch" (26 : Nat) "SharedNights$Watch" "log" "[I") ∈ lw_all := lw_g (lw_at lw_m1 129 rfl) rfl
theorem q203 : (Jvm.Cond.fieldLink "SharedNights$Watch" (45 : Nat) "SharedNights$Watch" "in" "I") ∈ lw_all := lw_g (lw_at lw_m1 131 rfl) rfl
theorem q204 : (Jvm.Cond.fieldLink "SharedNights$Watch" (49 : Nat) "SharedNights$Watch" "going" "I") ∈ lw_all := lw_g (lw_at lw_m1 132 rfl) rfl
theorem q205 : (Jvm.Cond.fieldLink "SharedNights$Watch" (130 : Nat) "SharedNights$Watch" "left" "I") ∈ lw_all := lw_g (lw_at lw_m1 133 rfl) rfl
theorem q206 : (Jvm.Cond.fieldLink "SharedNights$Watch" (33 : Nat) "SharedNights$Watch" "rule" "LSharedNights$Rule;") ∈ lw_all := lw_g (lw_at lw_m1 134 rfl) rfl
theorem q207 : (Jvm.Cond.fieldLink "SharedNights$Watch" (41 : Nat) "SharedNights$Watch" "sky" "LSharedNights$Sky;") ∈ lw_all := lw_g (lw_at lw_m1 135 rfl) rfl
theorem q208 : (Jvm.Cond.fieldLink "SharedNights$Watch" (3 : Nat) "SharedNights$Watch" "this$0" "LSharedNights;") ∈ lw_all := lw_g (lw_at lw_m1 136 rfl) rfl
theorem q209 : (Jvm.Cond.laysFinal "SharedNights$Watch" "SharedNights$Watch" "step" "[I") ∈ lw_all := lw_g (lw_at lw_m1 137 rfl) rfl
theorem q210 : (Jvm.Cond.soleField "SharedNights$Watch" "step") ∈ lw_all := lw_g (lw_at lw_m1 138 rfl) rfl
theorem q211 : (Jvm.Cond.laysFinal "SharedNights$Watch" "SharedNights$Watch" "end" "[I") ∈ lw_all := lw_g (lw_at lw_m1 139 rfl) rfl
theorem q212 : (Jvm.Cond.soleField "SharedNights$Watch" "end") ∈ lw_all := lw_g (lw_at lw_m1 140 rfl) rfl
theorem q213 : (Jvm.Cond.laysFinal "SharedNights$Watch" "SharedNights$Watch" "wasBroken" "[Z") ∈ lw_all := lw_g (lw_at lw_m1 141 rfl) rfl
theorem q214 : (Jvm.Cond.soleField "SharedNights$Watch" "wasBroken") ∈ lw_all := lw_g (lw_at lw_m1 142 rfl) rfl
theorem q215 : (Jvm.Cond.laysFinal "SharedNights$Watch" "SharedNights$Watch" "log" "[I") ∈ lw_all := lw_g (lw_at lw_m1 143 rfl) rfl
theorem q216 : (Jvm.Cond.soleField "SharedNights$Watch" "log") ∈ lw_all := lw_g (lw_at lw_m1 144 rfl) rfl
theorem q217 : (Jvm.Cond.lays "SharedNights$Watch" "SharedNights$Watch" "in" "I") ∈ lw_all := lw_g (lw_at lw_m1 145 rfl) rfl
theorem q218 : (Jvm.Cond.soleField "SharedNights$Watch" "in") ∈ lw_all := lw_g (lw_at lw_m1 146 rfl) rfl
theorem q219 : (Jvm.Cond.lays "SharedNights$Watch" "SharedNights$Watch" "going" "I") ∈ lw_all := lw_g (lw_at lw_m1 147 rfl) rfl
theorem q220 : (Jvm.Cond.soleField "SharedNights$Watch" "going") ∈ lw_all := lw_g (lw_at lw_m1 148 rfl) rfl
theorem q221 : (Jvm.Cond.lays "SharedNights$Watch" "SharedNights$Watch" "left" "I") ∈ lw_all := lw_g (lw_at lw_m1 149 rfl) rfl
theorem q222 : (Jvm.Cond.soleField "SharedNights$Watch" "left") ∈ lw_all := lw_g (lw_at lw_m1 150 rfl) rfl
theorem q223 : (Jvm.Cond.lays "SharedNights$Watch" "SharedNights$Watch" "rule" "LSharedNights$Rule;") ∈ lw_all := lw_g (lw_at lw_m1 151 rfl) rfl
theorem q224 : (Jvm.Cond.soleField "SharedNights$Watch" "rule") ∈ lw_all := lw_g (lw_at lw_m1 152 rfl) rfl
theorem q225 : (Jvm.Cond.lays "SharedNights$Watch" "SharedNights$Watch" "sky" "LSharedNights$Sky;") ∈ lw_all := lw_g (lw_at lw_m1 153 rfl) rfl
theorem q226 : (Jvm.Cond.soleField "SharedNights$Watch" "sky") ∈ lw_all := lw_g (lw_at lw_m1 154 rfl) rfl
theorem q227 : (Jvm.Cond.laysFinal "SharedNights$Watch" "SharedNights$Watch" "this$0" "LSharedNights;") ∈ lw_all := lw_g (lw_at lw_m1 155 rfl) rfl
theorem q228 : (Jvm.Cond.soleField "SharedNights$Watch" "this$0") ∈ lw_all := lw_g (lw_at lw_m1 156 rfl) rfl
theorem q229 : (Jvm.Cond.superclass "SharedNights$Watch" "java/lang/Object") ∈ lw_all := lw_g (lw_at lw_m1 157 rfl) rfl
theorem q242 : (Jvm.Cond.fieldLinkNest "SharedNights$Watch" (121 : Nat) "SharedNights$Sky" "seeing" "[B" "SharedNights") ∈ lw_tbl := lw_at lw_m1 170 rfl
theorem q254 : (Jvm.Cond.fieldLinkNest "SharedNights$Watch" (93 : Nat) "SharedNights" "many" "I" "SharedNights") ∈ lw_tbl := lw_at lw_m1 182 rfl
theorem q263 : (Jvm.Cond.fieldLinkNest "SharedNights$Watch" (37 : Nat) "SharedNights" "skies" "[LSharedNights$Sky;" "SharedNights") ∈ lw_tbl := lw_at lw_m1 191 rfl
theorem q272 : (Jvm.Cond.fieldLinkNest "SharedNights$Watch" (69 : Nat) "SharedNights" "plans" "[LSharedNights$Plan;" "SharedNights") ∈ lw_tbl := lw_at lw_m1 200 rfl
theorem q273 : (Jvm.Cond.fieldLinkNest "SharedNights$Watch" (52 : Nat) "SharedNights" "planMany" "I" "SharedNights") ∈ lw_tbl := lw_at lw_m1 201 rfl
theorem q284 : (Jvm.Cond.fieldLinkNest "SharedNights$Watch" (62 : Nat) "SharedNights" "again" "I" "SharedNights") ∈ lw_tbl := lw_at lw_m1 212 rfl
theorem q286 : (Jvm.Cond.fieldLinkNest "SharedNights$Watch" (29 : Nat) "SharedNights" "rules" "[LSharedNights$Rule;" "SharedNights") ∈ lw_tbl := lw_at lw_m1 214 rfl
theorem q470 : (Jvm.Cond.fieldLinkNest "SharedNights$Watch" (127 : Nat) "SharedNights$Plan" "instrument" "I" "SharedNights") ∈ lw_tbl := lw_at lw_m2 158 rfl
theorem q479 : (Jvm.Cond.fieldLinkNest "SharedNights$Watch" (136 : Nat) "SharedNights$Plan" "worth" "I" "SharedNights") ∈ lw_tbl := lw_at lw_m2 167 rfl
theorem q483 : (Jvm.Cond.fieldLinkNest "SharedNights$Watch" (73 : Nat) "SharedNights$Plan" "steps" "[LSharedNights$Look;" "SharedNights") ∈ lw_tbl := lw_at lw_m2 171 rfl
theorem q486 : (Jvm.Cond.fieldLinkNest "SharedNights$Watch" (133 : Nat) "SharedNights$Plan" "stepMany" "I" "SharedNights") ∈ lw_tbl := lw_at lw_m2 174 rfl
theorem q692 : (Jvm.Cond.fieldLink "SharedNights$Watch" (88 : Nat) "SharedNights$Look" "slots" "I") ∈ lw_all := lw_g (lw_at lw_m3 140 rfl) rfl
theorem q720 : (Jvm.Cond.fieldLinkNest "SharedNights$Watch" (83 : Nat) "SharedNights$Later" "least" "I" "SharedNights") ∈ lw_tbl := lw_at lw_m3 168 rfl
theorem q723 : (Jvm.Cond.fieldLinkNest "SharedNights$Watch" (104 : Nat) "SharedNights$Later" "most" "I" "SharedNights") ∈ lw_tbl := lw_at lw_m3 171 rfl
theorem q917 : (Jvm.Cond.instanceMethod ({ cls := "SharedNights$Watch", name := "run", desc := "(III)V" } : Jvm.MethodName)) ∈ lw_all := lw_g (lw_at lw_m4 125 rfl) rfl
theorem q918 : (Jvm.Cond.selects "SharedNights$Watch" ({ cls := "SharedNights$Watch", name := "run", desc := "(III)V" } : Jvm.MethodName) ({ cls := "SharedNights$Watch", name := "run", desc := "(III)V" } : Jvm.MethodName)) ∈ lw_all := lw_g (lw_at lw_m4 126 rfl) rfl
theorem q919 : (Jvm.Cond.code ({ cls := "SharedNights$Watch", name := "run", desc := "(III)V" } : Jvm.MethodName) prog_13_method_2_code (5 : Nat) (Option.none : Option Jvm.ClassFile.FieldType)) ∈ lw_all := lw_g (lw_at lw_m4 127 rfl) rfl
theorem q920 : (Jvm.Cond.methodLink "SharedNights$Watch" (55 : Nat) ({ cls := "SharedNights$Watch", name := "begin", desc := "(I)I" } : Jvm.MethodName)) ∈ lw_all := lw_g (lw_at lw_m4 128 rfl) rfl
theorem q921 : (Jvm.Cond.privateMethod ({ cls := "SharedNights$Watch", name := "begin", desc := "(I)I" } : Jvm.MethodName)) ∈ lw_tbl := lw_at lw_m4 129 rfl
theorem q922 : (Jvm.Cond.instanceMethod ({ cls := "SharedNights$Watch", name := "begin", desc := "(I)I" } : Jvm.MethodName)) ∈ lw_all := lw_g (lw_at lw_m4 130 rfl) rfl
theorem q923 : (Jvm.Cond.code ({ cls := "SharedNights$Watch", name := "begin", desc := "(I)I" } : Jvm.MethodName) prog_13_method_6_code (4 : Nat) (Option.some Jvm.ClassFile.FieldType.int)) ∈ lw_all := lw_g (lw_at lw_m4 131 rfl) rfl
theorem q924 : (Jvm.Cond.methodLink "SharedNights$Watch" (65 : Nat) ({ cls := "SharedNights$Watch", name := "isWaiting", desc := "(I)Z" } : Jvm.MethodName)) ∈ lw_all := lw_g (lw_at lw_m4 132 rfl) rfl
theorem q925 : (Jvm.Cond.privateMethod ({ cls := "SharedNights$Watch", name := "isWaiting", desc := "(I)Z" } : Jvm.MethodName)) ∈ lw_tbl := lw_at lw_m4 133 rfl
theorem q926 : (Jvm.Cond.instanceMethod ({ cls := "SharedNights$Watch", name := "isWaiting", desc := "(I)Z" } : Jvm.MethodName)) ∈ lw_all := lw_g (lw_at lw_m4 134 rfl) rfl
theorem q927 : (Jvm.Cond.code ({ cls := "SharedNights$Watch", name := "isWaiting", desc := "(I)Z" } : Jvm.MethodName) prog_13_method_3_code (2 : Nat) (Option.some Jvm.ClassFile.FieldType.boolean)) ∈ lw_all := lw_g (lw_at lw_m4 135 rfl) rfl
theorem q928 : (Jvm.Cond.methodLinkNest "SharedNights$Watch" (79 : Nat) ({ cls := "SharedNights$Plan", name := "later", desc := "(I)LSharedNights$Later;" } : Jvm.MethodName) "SharedNights") ∈ lw_tbl := lw_at lw_m4 136 rfl
theorem q929 : (Jvm.Cond.methodLink "SharedNights$Watch" (107 : Nat) ({ cls := "SharedNights$Watch", name := "lose", desc := "(I)V" } : Jvm.MethodName)) ∈ lw_all := lw_g (lw_at lw_m4 137 rfl) rfl
theorem q930 : (Jvm.Cond.privateMethod ({ cls := "SharedNights$Watch", name := "lose", desc := "(I)V" } : Jvm.MethodName)) ∈ lw_tbl := lw_at lw_m4 138 rfl
theorem q931 : (Jvm.Cond.instanceMethod ({ cls := "SharedNights$Watch", name := "lose", desc := "(I)V" } : Jvm.MethodName)) ∈ lw_all := lw_g (lw_at lw_m4 139 rfl) rfl
theorem q932 : (Jvm.Cond.code ({ cls := "SharedNights$Watch", name := "lose", desc := "(I)V" } : Jvm.MethodName) prog_13_method_4_code (2 : Nat) (Option.none : Option Jvm.ClassFile.FieldType)) ∈ lw_all := lw_g (lw_at lw_m4 140 rfl) rfl
theorem q933 : (Jvm.Cond.methodLink "SharedNights$Watch" (111 : Nat) ({ cls := "SharedNights$Watch", name := "mayBegin", desc := "(II)Z" } : Jvm.MethodName)) ∈ lw_all := lw_g (lw_at lw_m4 141 rfl) rfl
theorem q934 : (Jvm.Cond.privateMethod ({ cls := "SharedNights$Watch", name := "mayBegin", desc := "(II)Z" } : Jvm.MethodName)) ∈ lw_tbl := lw_at lw_m4 142 rfl
theorem q935 : (Jvm.Cond.instanceMethod ({ cls := "SharedNights$Watch", name := "mayBegin", desc := "(II)Z" } : Jvm.MethodName)) ∈ lw_all := lw_g (lw_at lw_m4 143 rfl) rfl
theorem q936 : (Jvm.Cond.code ({ cls := "SharedNights$Watch", name := "mayBegin", desc := "(II)Z" } : Jvm.MethodName) prog_13_method_5_code (5 : Nat) (Option.some Jvm.ClassFile.FieldType.boolean)) ∈ lw_all := lw_g (lw_at lw_m4 144 rfl) rfl
theorem q937 : (Jvm.Cond.methodLink "SharedNights$Watch" (96 : Nat) ({ cls := "SharedNights$Plan", name := "of", desc := "()LSharedNights$Target;" } : Jvm.MethodName)) ∈ lw_all := lw_g (lw_at lw_m4 145 rfl) rfl
theorem q938 : (Jvm.Cond.methodLink "SharedNights$Watch" (100 : Nat) ({ cls := "SharedNights$Look", name := "fitsIn", desc := "(LSharedNights$Sky;LSharedNights$Target;I)Z" } : Jvm.MethodName)) ∈ lw_all := lw_g (lw_at lw_m4 146 rfl) rfl
theorem q939 : (Jvm.Cond.methodLink "SharedNights$Watch" (115 : Nat) ({ cls := "SharedNights$Rule", name := "measure", desc := "(LSharedNights$Plan;I)I" } : Jvm.MethodName)) ∈ lw_all := lw_g (lw_at lw_m4 147 rfl) rfl
theorem q959 : (Jvm.Cond.methodLink "SharedNights$Watch" (59 : Nat) ({ cls := "SharedNights$Watch", name := "goOn", desc := "(I)I" } : Jvm.MethodName)) ∈ lw_all := lw_g (lw_at lw_m4 167 rfl) rfl
theorem q960 : (Jvm.Cond.privateMethod ({ cls := "SharedNights$Watch", name := "goOn", desc := "(I)I" } : Jvm.MethodName)) ∈ lw_tbl := lw_at lw_m4 168 rfl
theorem q961 : (Jvm.Cond.instanceMethod ({ cls := "SharedNights$Watch", name := "goOn", desc := "(I)I" } : Jvm.MethodName)) ∈ lw_all := lw_g (lw_at lw_m4 169 rfl) rfl
theorem q962 : (Jvm.Cond.code ({ cls := "SharedNights$Watch", name := "goOn", desc := "(I)I" } : Jvm.MethodName) prog_13_method_7_code (3 : Nat) (Option.some Jvm.ClassFile.FieldType.int)) ∈ lw_all := lw_g (lw_at lw_m4 170 rfl) rfl
theorem q964 : (Jvm.Cond.instanceMethod ({ cls := "SharedNights$Watch", name := "score", desc := "()I" } : Jvm.MethodName)) ∈ lw_all := lw_g (lw_at lw_m4 172 rfl) rfl
theorem q965 : (Jvm.Cond.selects "SharedNights$Watch" ({ cls := "SharedNights$Watch", name := "score", desc := "()I" } : Jvm.MethodName) ({ cls := "SharedNights$Watch", name := "score", desc := "()I" } : Jvm.MethodName)) ∈ lw_all := lw_g (lw_at lw_m4 173 rfl) rfl
theorem q966 : (Jvm.Cond.code ({ cls := "SharedNights$Watch", name := "score", desc := "()I" } : Jvm.MethodName) prog_13_method_8_code (3 : Nat) (Option.some Jvm.ClassFile.FieldType.int)) ∈ lw_all := lw_g (lw_at lw_m4 174 rfl) rfl
theorem in_X7 : ∀ w ∈ wsX70, w ∈ lw_all := lw_in wsX70 [209, 211, 213, 215, 217, 219, 221, 223, 225, 227] (by decide +kernel) (by decide +kernel)
/-! SharedNights$Sky -/
set_option maxRecDepth 100000
def RX8 : String := "SharedNights$Sky"
def TX8 : u_T := fun k => match k with
  | 0 => ("SharedNights$Sky", "seeing", "[B", true)
  | _ => ("SharedNights$Sky", "weight", "I", false)
def tyX8 : Nat → FieldType := fun k => match k with
  | 0 => .array .byte
  | _ => .int
abbrev wsX80 : List Cond := u_ws RX8 TX8 2
theorem nmX8 : ∀ a, a < 2 → ∀ b, b < 2 → a ≠ b → (TX8 a).2.1 ≠ (TX8 b).2.1 := by decide +kernel
theorem tyX8_ok : ∀ k, k < 2 → parseFieldDescriptor (TX8 k).2.2.1 = some (tyX8 k) := by decide +kernel
abbrev cX8_init : ByteArray := prog_11_method_1_code
def yX8_init : MethodName := ⟨RX8, "<init>", "()V"⟩
def dkwX8_init_0 : List UInt8 := [42, 183, 0, 3, 42, 16, 12, 188, 8, 181, 0, 9, 42, 182, 0, 15, 177]
abbrev dktX8_init_0 : List UInt8 := dkwX8_init_0 ++ []
theorem dksX8_init_0 : cX8_init.data.toList.drop 0 = dktX8_init_0 := by decide +kernel
theorem dX8_init_0 : decode cX8_init 0 = .ok (.aload_n 0, 1) := dk_42 (dk_at dksX8_init_0 0 rfl rfl)
theorem dX8_init_1 : decode cX8_init 1 = .ok (.invokespecial 3, 3) := dk_183 0 3 (dk_at dksX8_init_0 1 rfl rfl)
theorem dX8_init_4 : decode cX8_init 4 = .ok (.aload_n 0, 1) := dk_42 (dk_at dksX8_init_0 4 rfl rfl)
theorem dX8_init_5 : decode cX8_init 5 = .ok (.bipush 12, 2) := dk_16 12 (dk_at dksX8_init_0 5 rfl rfl)
theorem dX8_init_7 : decode cX8_init 7 = .ok (.newarray .byte, 2) := dk_188_8 (dk_at dksX8_init_0 7 rfl rfl)
theorem dX8_init_9 : decode cX8_init 9 = .ok (.putfield 9, 3) := dk_181 0 9 (dk_at dksX8_init_0 9 rfl rfl)
theorem dX8_init_12 : decode cX8_init 12 = .ok (.aload_n 0, 1) := dk_42 (dk_at dksX8_init_0 12 rfl rfl)
theorem dX8_init_13 : decode cX8_init 13 = .ok (.invokevirtual 15, 3) := dk_182 0 15 (dk_at dksX8_init_0 13 rfl rfl)
theorem dX8_init_16 : decode cX8_init 16 = .ok (.return_, 1) := dk_177 (dk_at dksX8_init_0 16 rfl rfl)
abbrev cX8_clear : ByteArray := prog_11_method_2_code
def yX8_clear : MethodName := ⟨RX8, "clear", "()V"⟩
def dkwX8_clear_0 : List UInt8 := [3, 60, 27, 16, 12, 162, 0, 16, 42, 180, 0, 9, 27, 4, 84, 132, 1, 1, 167, 255, 240, 177]
abbrev dktX8_clear_0 : List UInt8 := dkwX8_clear_0 ++ []
theorem dksX8_clear_0 : cX8_clear.data.toList.drop 0 = dktX8_clear_0 := by decide +kernel
theorem dX8_clear_0 : decode cX8_clear 0 = .ok (.iconst 0, 1) := dk_3 (dk_at dksX8_clear_0 0 rfl rfl)
theorem dX8_clear_1 : decode cX8_clear 1 = .ok (.istore_n 1, 1) := dk_60 (dk_at dksX8_clear_0 1 rfl rfl)
theorem dX8_clear_2 : decode cX8_clear 2 = .ok (.iload_n 1, 1) := dk_27 (dk_at dksX8_clear_0 2 rfl rfl)
theorem dX8_clear_3 : decode cX8_clear 3 = .ok (.bipush 12, 2) := dk_16 12 (dk_at dksX8_clear_0 3 rfl rfl)
theorem dX8_clear_5 : decode cX8_clear 5 = .ok (.if_icmp .ge 16, 3) := dk_162 0 16 (dk_at dksX8_clear_0 5 rfl rfl)
theorem dX8_clear_8 : decode cX8_clear 8 = .ok (.aload_n 0, 1) := dk_42 (dk_at dksX8_clear_0 8 rfl rfl)
theorem dX8_clear_9 : decode cX8_clear 9 = .ok (.getfield 9, 3) := dk_180 0 9 (dk_at dksX8_clear_0 9 rfl rfl)
theorem dX8_clear_12 : decode cX8_clear 12 = .ok (.iload_n 1, 1) := dk_27 (dk_at dksX8_clear_0 12 rfl rfl)
theorem dX8_clear_13 : decode cX8_clear 13 = .ok (.iconst 1, 1) := dk_4 (dk_at dksX8_clear_0 13 rfl rfl)
theorem dX8_clear_14 : decode cX8_clear 14 = .ok (.bastore, 1) := dk_84 (dk_at dksX8_clear_0 14 rfl rfl)
theorem dX8_clear_15 : decode cX8_clear 15 = .ok (.iinc 1 1, 3) := dk_132 1 1 (dk_at dksX8_clear_0 15 rfl rfl)
theorem dX8_clear_18 : decode cX8_clear 18 = .ok (.goto (-16), 3) := dk_167 255 240 (dk_at dksX8_clear_0 18 rfl rfl)
theorem dX8_clear_21 : decode cX8_clear 21 = .ok (.return_, 1) := dk_177 (dk_at dksX8_clear_0 21 rfl rfl)
abbrev cX8_like : ByteArray := prog_11_method_3_code
def yX8_like : MethodName := ⟨RX8, "like", "(I)LSharedNights$Sky;"⟩
def dkwX8_like_1 : List UInt8 := [27, 181, 0, 25, 44, 176]
abbrev dktX8_like_1 : List UInt8 := dkwX8_like_1 ++ []
def dkwX8_like_0 : List UInt8 := [187, 0, 10, 89, 183, 0, 18, 77, 42, 180, 0, 9, 3, 44, 180, 0, 9, 3, 16, 12, 184, 0, 19, 44]
abbrev dktX8_like_0 : List UInt8 := dkwX8_like_0 ++ dktX8_like_1
theorem dksX8_like_0 : cX8_like.data.toList.drop 0 = dktX8_like_0 := by decide +kernel
theorem dksX8_like_1 : cX8_like.data.toList.drop 24 = dktX8_like_1 := dk_seg dksX8_like_0 24 rfl rfl
theorem dX8_like_0 : decode cX8_like 0 = .ok (.new 10, 3) := dk_187 0 10 (dk_at dksX8_like_0 0 rfl rfl)
theorem dX8_like_3 : decode cX8_like 3 = .ok (.dup, 1) := dk_89 (dk_at dksX8_like_0 3 rfl rfl)
theorem dX8_like_4 : decode cX8_like 4 = .ok (.invokespecial 18, 3) := dk_183 0 18 (dk_at dksX8_like_0 4 rfl rfl)
theorem dX8_like_7 : decode cX8_like 7 = .ok (.astore_n 2, 1) := dk_77 (dk_at dksX8_like_0 7 rfl rfl)
theorem dX8_like_8 : decode cX8_like 8 = .ok (.aload_n 0, 1) := dk_42 (dk_at dksX8_like_0 8 rfl rfl)
theorem dX8_like_9 : decode cX8_like 9 = .ok (.getfield 9, 3) := dk_180 0 9 (dk_at dksX8_like_0 9 rfl rfl)
theorem dX8_like_12 : decode cX8_like 12 = .ok (.iconst 0, 1) := dk_3 (dk_at dksX8_like_0 12 rfl rfl)
theorem dX8_like_13 : decode cX8_like 13 = .ok (.aload_n 2, 1) := dk_44 (dk_at dksX8_like_0 13 rfl rfl)
theorem dX8_like_14 : decode cX8_like 14 = .ok (.getfield 9, 3) := dk_180 0 9 (dk_at dksX8_like_0 14 rfl rfl)
theorem dX8_like_17 : decode cX8_like 17 = .ok (.iconst 0, 1) := dk_3 (dk_at dksX8_like_0 17 rfl rfl)
theorem dX8_like_18 : decode cX8_like 18 = .ok (.bipush 12, 2) := dk_16 12 (dk_at dksX8_like_0 18 rfl rfl)
theorem dX8_like_20 : decode cX8_like 20 = .ok (.invokestatic 19, 3) := dk_184 0 19 (dk_at dksX8_like_0 20 rfl rfl)
theorem dX8_like_23 : decode cX8_like 23 = .ok (.aload_n 2, 1) := dk_44 (dk_at dksX8_like_0 23 rfl rfl)
theorem dX8_like_24 : decode cX8_like 24 = .ok (.iload_n 1, 1) := dk_27 (dk_at dksX8_like_1 0 rfl rfl)
theorem dX8_like_25 : decode cX8_like 25 = .ok (.putfield 25, 3) := dk_181 0 25 (dk_at dksX8_like_1 1 rfl rfl)
theorem dX8_like_28 : decode cX8_like 28 = .ok (.aload_n 2, 1) := dk_44 (dk_at dksX8_like_1 4 rfl rfl)
theorem dX8_like_29 : decode cX8_like 29 = .ok (.areturn, 1) := dk_176 (dk_at dksX8_like_1 5 rfl rfl)
theorem q81 : (Jvm.Cond.initialized "SharedNights$Sky") ∈ lw_all := lw_g (lw_at lw_m1 9 rfl) rfl
theorem q231 : (Jvm.Cond.instantiable "SharedNights$Sky" (2 : Nat)) ∈ lw_all := lw_g (lw_at lw_m1 159 rfl) rfl
theorem q233 : (Jvm.Cond.instanceMethod ({ cls := "SharedNights$Sky", name := "<init>", desc := "()V" } : Jvm.MethodName)) ∈ lw_all := lw_g (lw_at lw_m1 161 rfl) rfl
theorem q234 : (Jvm.Cond.code ({ cls := "SharedNights$Sky", name := "<init>", desc := "()V" } : Jvm.MethodName) prog_11_method_1_code (1 : Nat) (Option.none : Option Jvm.ClassFile.FieldType)) ∈ lw_all := lw_g (lw_at lw_m1 162 rfl) rfl
theorem q235 : (Jvm.Cond.methodLink "SharedNights$Sky" (3 : Nat) ({ cls := "java/lang/Object", name := "<init>", desc := "()V" } : Jvm.MethodName)) ∈ lw_all := lw_g (lw_at lw_m1 163 rfl) rfl
theorem q236 : (Jvm.Cond.methodLink "SharedNights$Sky" (15 : Nat) ({ cls := "SharedNights$Sky", name := "clear", desc := "()V" } : Jvm.MethodName)) ∈ lw_all := lw_g (lw_at lw_m1 164 rfl) rfl
theorem q237 : (Jvm.Cond.instanceMethod ({ cls := "SharedNights$Sky", name := "clear", desc := "()V" } : Jvm.MethodName)) ∈ lw_all := lw_g (lw_at lw_m1 165 rfl) rfl
theorem q238 : (Jvm.Cond.selects "SharedNights$Sky" ({ cls := "SharedNights$Sky", name := "clear", desc := "()V" } : Jvm.MethodName) ({ cls := "SharedNights$Sky", name := "clear", desc := "()V" } : Jvm.MethodName)) ∈ lw_all := lw_g (lw_at lw_m1 166 rfl) rfl
theorem q239 : (Jvm.Cond.code ({ cls := "SharedNights$Sky", name := "clear", desc := "()V" } : Jvm.MethodName) prog_11_method_2_code (2 : Nat) (Option.none : Option Jvm.ClassFile.FieldType)) ∈ lw_all := lw_g (lw_at lw_m1 167 rfl) rfl
theorem q240 : (Jvm.Cond.fieldLink "SharedNights$Sky" (9 : Nat) "SharedNights$Sky" "seeing" "[B") ∈ lw_all := lw_g (lw_at lw_m1 168 rfl) rfl
theorem q244 : (Jvm.Cond.fieldLink "SharedNights$Sky" (25 : Nat) "SharedNights$Sky" "weight" "I") ∈ lw_all := lw_g (lw_at lw_m1 172 rfl) rfl
theorem q246 : (Jvm.Cond.laysFinal "SharedNights$Sky" "SharedNights$Sky" "seeing" "[B") ∈ lw_all := lw_g (lw_at lw_m1 174 rfl) rfl
theorem q247 : (Jvm.Cond.soleField "SharedNights$Sky" "seeing") ∈ lw_all := lw_g (lw_at lw_m1 175 rfl) rfl
theorem q248 : (Jvm.Cond.lays "SharedNights$Sky" "SharedNights$Sky" "weight" "I") ∈ lw_all := lw_g (lw_at lw_m1 176 rfl) rfl
theorem q249 : (Jvm.Cond.soleField "SharedNights$Sky" "weight") ∈ lw_all := lw_g (lw_at lw_m1 177 rfl) rfl
theorem q250 : (Jvm.Cond.superclass "SharedNights$Sky" "java/lang/Object") ∈ lw_all := lw_g (lw_at lw_m1 178 rfl) rfl
theorem q425 : (Jvm.Cond.instanceMethod ({ cls := "SharedNights$Sky", name := "like", desc := "(I)LSharedNights$Sky;" } : Jvm.MethodName)) ∈ lw_all := lw_g (lw_at lw_m2 113 rfl) rfl
theorem q426 : (Jvm.Cond.selects "SharedNights$Sky" ({ cls := "SharedNights$Sky", name := "like", desc := "(I)LSharedNights$Sky;" } : Jvm.MethodName) ({ cls := "SharedNights$Sky", name := "like", desc := "(I)LSharedNights$Sky;" } : Jvm.MethodName)) ∈ lw_all := lw_g (lw_at lw_m2 114 rfl) rfl
theorem q427 : (Jvm.Cond.code ({ cls := "SharedNights$Sky", name := "like", desc := "(I)LSharedNights$Sky;" } : Jvm.MethodName) prog_11_method_3_code (3 : Nat) (Option.some (Jvm.ClassFile.FieldType.object "SharedNights$Sky"))) ∈ lw_all := lw_g (lw_at lw_m2 115 rfl) rfl
theorem q428 : (Jvm.Cond.classLink "SharedNights$Sky" (10 : Nat) "SharedNights$Sky") ∈ lw_all := lw_g (lw_at lw_m2 116 rfl) rfl
theorem q429 : (Jvm.Cond.methodLink "SharedNights$Sky" (18 : Nat) ({ cls := "SharedNights$Sky", name := "<init>", desc := "()V" } : Jvm.MethodName)) ∈ lw_all := lw_g (lw_at lw_m2 117 rfl) rfl
theorem q430 : (Jvm.Cond.methodLink "SharedNights$Sky" (19 : Nat) ({ cls := "java/lang/System", name := "arraycopy", desc := "(Ljava/lang/Object;ILjava/lang/Object;II)V" } : Jvm.MethodName)) ∈ lw_all := lw_g (lw_at lw_m2 118 rfl) rfl
theorem in_X8 : ∀ w ∈ wsX80, w ∈ lw_all := lw_in wsX80 [246, 248] (by decide +kernel) (by decide +kernel)
