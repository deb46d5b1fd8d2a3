/-! DECODE ROWS BY BYTES: one lemma an opcode; a method's code is cut into short pieces once, and a row reads its own piece alone. -/
set_option maxRecDepth 100000
/-- the code has just these bytes from pc on -/
def DkAt (code : ByteArray) (pc : Nat) (bs : List UInt8) : Prop := ∀ (j : Nat) (b : UInt8), bs[j]? = some b → code.data.toList[pc + j]? = some b
/-- the piece W has the bytes bs from its place j on -/
def dkIn (W : List UInt8) (j : Nat) (bs : List UInt8) : Bool := decide ((W.drop j).take bs.length = bs)
theorem dk_seg {l W T : List UInt8} {o o2 : Nat} (h : l.drop o = W ++ T) (n : Nat) (hn : W.length = n) (ho : o + n = o2) : l.drop o2 = T := by
  subst ho
  rw [← List.drop_drop, h, List.drop_left' hn]
theorem dk_at {code : ByteArray} {W T bs : List UInt8} {o pc : Nat} (h : code.data.toList.drop o = W ++ T) (j : Nat) (hp : o + j = pc) (hw : dkIn W j bs = true) : DkAt code pc bs := by
  subst hp
  intro i b e
  have h1 := of_decide_eq_true hw
  have h2 : i < bs.length := (List.getElem?_eq_some_iff.mp e).1
  have h3 : W[j + i]? = some b := by
    rw [← h1, List.getElem?_take, if_pos h2, List.getElem?_drop] at e
    exact e
  have h4 : j + i < W.length := (List.getElem?_eq_some_iff.mp h3).1
  have h5 : (code.data.toList.drop o)[j + i]? = some b := by
    rw [h, List.getElem?_append_left h4]
    exact h3
  rw [List.getElem?_drop, ← Nat.add_assoc] at h5
  exact h5
theorem dk_u1 {A : ByteArray} {p : Nat} {b : UInt8} (h : A.data.toList[p]? = some b) : (Reader.u1 : Reader DecodeError Nat) A p = .ok (b.toNat, p + 1) := by
  obtain ⟨h1, h2⟩ := List.getElem?_eq_some_iff.mp h
  have h3 : p < A.size := by simpa using h1
  have h4 : A[p]'h3 = b := h2
  have e : (Reader.u1 : Reader DecodeError Nat) A p = (if h : p < A.size then .ok (A[p].toNat, p + 1) else .error (HasTruncated.truncated p)) := by
    show (do if h : p < A.size then do set (p + 1); Pure.pure A[p].toNat else MonadExcept.throw (HasTruncated.truncated p) : Reader DecodeError Nat) A p = _
    by_cases hi : p < A.size
    · rw [dif_pos hi, dif_pos hi]; rfl
    · rw [dif_neg hi, dif_neg hi]; rfl
  rw [e, dif_pos h3, h4]
theorem dk_bind {α β : Type} {r : Reader DecodeError α} {f : α → Reader DecodeError β} {A : ByteArray} {p s : Nat} {a : α} (h : r A p = .ok (a, s)) : (r >>= f) A p = f a A s := by
  show (do let (a, s) ← r A p; f a A s : Except DecodeError (β × Nat)) = _
  rw [h]
  rfl
theorem dk_map {α β : Type} {r : Reader DecodeError α} {g : α → β} {A : ByteArray} {p s : Nat} {a : α} (h : r A p = .ok (a, s)) : (g <$> r) A p = .ok (g a, s) := by
  show (do let (a, s) ← r A p; .ok (g a, s) : Except DecodeError (β × Nat)) = _
  rw [h]
  rfl
theorem dk_u2 {A : ByteArray} {p : Nat} {a b : UInt8} (h : A.data.toList[p]? = some a) (h2 : A.data.toList[p + 1]? = some b) : (Reader.u2 : Reader DecodeError Nat) A p = .ok (a.toNat * 256 + b.toNat, p + 2) := by
  show (Reader.u1 >>= fun hi => Reader.u1 >>= fun lo => Pure.pure (hi * 256 + lo) : Reader DecodeError Nat) A p = _
  rw [dk_bind (dk_u1 h), dk_bind (dk_u1 h2)]
  rfl
theorem dk_of {code : ByteArray} {pc n : Nat} {i : Instr} (h : Decoder.instr pc code pc = .ok (i, pc + n)) : decode code pc = .ok (i, n) := by
  have e : decode code pc = (match Decoder.instr pc code pc with | .error x => .error x | .ok (j, s) => .ok (j, s - pc)) := by
    show (do let (j, s) ← Decoder.instr pc code pc; Pure.pure (j, s - pc) : Except DecodeError (Instr × Nat)) = _
    cases Decoder.instr pc code pc <;> rfl
  rw [e, h]
  show Except.ok (i, pc + n - pc) = _
  rw [Nat.add_sub_cancel_left]
theorem dk_1 {code : ByteArray} {pc : Nat} (h : DkAt code pc [1]) : decode code pc = .ok (.aconst_null, 1) := dk_of ((dk_bind (dk_u1 (h 0 _ rfl))).trans rfl)
theorem dk_2 {code : ByteArray} {pc : Nat} (h : DkAt code pc [2]) : decode code pc = .ok (.iconst (-1), 1) := dk_of ((dk_bind (dk_u1 (h 0 _ rfl))).trans rfl)
theorem dk_3 {code : ByteArray} {pc : Nat} (h : DkAt code pc [3]) : decode code pc = .ok (.iconst 0, 1) := dk_of ((dk_bind (dk_u1 (h 0 _ rfl))).trans rfl)
theorem dk_4 {code : ByteArray} {pc : Nat} (h : DkAt code pc [4]) : decode code pc = .ok (.iconst 1, 1) := dk_of ((dk_bind (dk_u1 (h 0 _ rfl))).trans rfl)
theorem dk_5 {code : ByteArray} {pc : Nat} (h : DkAt code pc [5]) : decode code pc = .ok (.iconst 2, 1) := dk_of ((dk_bind (dk_u1 (h 0 _ rfl))).trans rfl)
theorem dk_6 {code : ByteArray} {pc : Nat} (h : DkAt code pc [6]) : decode code pc = .ok (.iconst 3, 1) := dk_of ((dk_bind (dk_u1 (h 0 _ rfl))).trans rfl)
theorem dk_7 {code : ByteArray} {pc : Nat} (h : DkAt code pc [7]) : decode code pc = .ok (.iconst 4, 1) := dk_of ((dk_bind (dk_u1 (h 0 _ rfl))).trans rfl)
theorem dk_8 {code : ByteArray} {pc : Nat} (h : DkAt code pc [8]) : decode code pc = .ok (.iconst 5, 1) := dk_of ((dk_bind (dk_u1 (h 0 _ rfl))).trans rfl)
theorem dk_9 {code : ByteArray} {pc : Nat} (h : DkAt code pc [9]) : decode code pc = .ok (.lconst 0, 1) := dk_of ((dk_bind (dk_u1 (h 0 _ rfl))).trans rfl)
theorem dk_10 {code : ByteArray} {pc : Nat} (h : DkAt code pc [10]) : decode code pc = .ok (.lconst 1, 1) := dk_of ((dk_bind (dk_u1 (h 0 _ rfl))).trans rfl)
theorem dk_16 {code : ByteArray} {pc : Nat} (a : UInt8) (h : DkAt code pc [16, a]) : decode code pc = .ok (.bipush (Reader.signed 8 a.toNat), 2) := dk_of ((dk_bind (dk_u1 (h 0 _ rfl))).trans ((dk_bind (dk_map (dk_u1 (h 1 _ rfl)))).trans rfl))
theorem dk_17 {code : ByteArray} {pc : Nat} (a b : UInt8) (h : DkAt code pc [17, a, b]) : decode code pc = .ok (.sipush (Reader.signed 16 (a.toNat * 256 + b.toNat)), 3) := dk_of ((dk_bind (dk_u1 (h 0 _ rfl))).trans ((dk_bind (dk_map (dk_u2 (h 1 _ rfl) (h 2 _ rfl)))).trans rfl))
theorem dk_18 {code : ByteArray} {pc : Nat} (a : UInt8) (h : DkAt code pc [18, a]) : decode code pc = .ok (.ldc a.toNat, 2) := dk_of ((dk_bind (dk_u1 (h 0 _ rfl))).trans ((dk_bind (dk_u1 (h 1 _ rfl))).trans rfl))
theorem dk_19 {code : ByteArray} {pc : Nat} (a b : UInt8) (h : DkAt code pc [19, a, b]) : decode code pc = .ok (.ldc_w (a.toNat * 256 + b.toNat), 3) := dk_of ((dk_bind (dk_u1 (h 0 _ rfl))).trans ((dk_bind (dk_u2 (h 1 _ rfl) (h 2 _ rfl))).trans rfl))
theorem dk_20 {code : ByteArray} {pc : Nat} (a b : UInt8) (h : DkAt code pc [20, a, b]) : decode code pc = .ok (.ldc2_w (a.toNat * 256 + b.toNat), 3) := dk_of ((dk_bind (dk_u1 (h 0 _ rfl))).trans ((dk_bind (dk_u2 (h 1 _ rfl) (h 2 _ rfl))).trans rfl))
theorem dk_21 {code : ByteArray} {pc : Nat} (a : UInt8) (h : DkAt code pc [21, a]) : decode code pc = .ok (.iload a.toNat, 2) := dk_of ((dk_bind (dk_u1 (h 0 _ rfl))).trans ((dk_bind (dk_u1 (h 1 _ rfl))).trans rfl))
theorem dk_22 {code : ByteArray} {pc : Nat} (a : UInt8) (h : DkAt code pc [22, a]) : decode code pc = .ok (.lload a.toNat, 2) := dk_of ((dk_bind (dk_u1 (h 0 _ rfl))).trans ((dk_bind (dk_u1 (h 1 _ rfl))).trans rfl))
theorem dk_25 {code : ByteArray} {pc : Nat} (a : UInt8) (h : DkAt code pc [25, a]) : decode code pc = .ok (.aload a.toNat, 2) := dk_of ((dk_bind (dk_u1 (h 0 _ rfl))).trans ((dk_bind (dk_u1 (h 1 _ rfl))).trans rfl))
theorem dk_26 {code : ByteArray} {pc : Nat} (h : DkAt code pc [26]) : decode code pc = .ok (.iload_n 0, 1) := dk_of ((dk_bind (dk_u1 (h 0 _ rfl))).trans rfl)
theorem dk_27 {code : ByteArray} {pc : Nat} (h : DkAt code pc [27]) : decode code pc = .ok (.iload_n 1, 1) := dk_of ((dk_bind (dk_u1 (h 0 _ rfl))).trans rfl)
theorem dk_28 {code : ByteArray} {pc : Nat} (h : DkAt code pc [28]) : decode code pc = .ok (.iload_n 2, 1) := dk_of ((dk_bind (dk_u1 (h 0 _ rfl))).trans rfl)
theorem dk_29 {code : ByteArray} {pc : Nat} (h : DkAt code pc [29]) : decode code pc = .ok (.iload_n 3, 1) := dk_of ((dk_bind (dk_u1 (h 0 _ rfl))).trans rfl)
theorem dk_30 {code : ByteArray} {pc : Nat} (h : DkAt code pc [30]) : decode code pc = .ok (.lload_n 0, 1) := dk_of ((dk_bind (dk_u1 (h 0 _ rfl))).trans rfl)
theorem dk_31 {code : ByteArray} {pc : Nat} (h : DkAt code pc [31]) : decode code pc = .ok (.lload_n 1, 1) := dk_of ((dk_bind (dk_u1 (h 0 _ rfl))).trans rfl)
theorem dk_32 {code : ByteArray} {pc : Nat} (h : DkAt code pc [32]) : decode code pc = .ok (.lload_n 2, 1) := dk_of ((dk_bind (dk_u1 (h 0 _ rfl))).trans rfl)
theorem dk_33 {code : ByteArray} {pc : Nat} (h : DkAt code pc [33]) : decode code pc = .ok (.lload_n 3, 1) := dk_of ((dk_bind (dk_u1 (h 0 _ rfl))).trans rfl)
theorem dk_42 {code : ByteArray} {pc : Nat} (h : DkAt code pc [42]) : decode code pc = .ok (.aload_n 0, 1) := dk_of ((dk_bind (dk_u1 (h 0 _ rfl))).trans rfl)
theorem dk_43 {code : ByteArray} {pc : Nat} (h : DkAt code pc [43]) : decode code pc = .ok (.aload_n 1, 1) := dk_of ((dk_bind (dk_u1 (h 0 _ rfl))).trans rfl)
theorem dk_44 {code : ByteArray} {pc : Nat} (h : DkAt code pc [44]) : decode code pc = .ok (.aload_n 2, 1) := dk_of ((dk_bind (dk_u1 (h 0 _ rfl))).trans rfl)
theorem dk_45 {code : ByteArray} {pc : Nat} (h : DkAt code pc [45]) : decode code pc = .ok (.aload_n 3, 1) := dk_of ((dk_bind (dk_u1 (h 0 _ rfl))).trans rfl)
theorem dk_46 {code : ByteArray} {pc : Nat} (h : DkAt code pc [46]) : decode code pc = .ok (.iaload, 1) := dk_of ((dk_bind (dk_u1 (h 0 _ rfl))).trans rfl)
theorem dk_47 {code : ByteArray} {pc : Nat} (h : DkAt code pc [47]) : decode code pc = .ok (.laload, 1) := dk_of ((dk_bind (dk_u1 (h 0 _ rfl))).trans rfl)
theorem dk_50 {code : ByteArray} {pc : Nat} (h : DkAt code pc [50]) : decode code pc = .ok (.aaload, 1) := dk_of ((dk_bind (dk_u1 (h 0 _ rfl))).trans rfl)
theorem dk_51 {code : ByteArray} {pc : Nat} (h : DkAt code pc [51]) : decode code pc = .ok (.baload, 1) := dk_of ((dk_bind (dk_u1 (h 0 _ rfl))).trans rfl)
theorem dk_53 {code : ByteArray} {pc : Nat} (h : DkAt code pc [53]) : decode code pc = .ok (.saload, 1) := dk_of ((dk_bind (dk_u1 (h 0 _ rfl))).trans rfl)
theorem dk_54 {code : ByteArray} {pc : Nat} (a : UInt8) (h : DkAt code pc [54, a]) : decode code pc = .ok (.istore a.toNat, 2) := dk_of ((dk_bind (dk_u1 (h 0 _ rfl))).trans ((dk_bind (dk_u1 (h 1 _ rfl))).trans rfl))
theorem dk_55 {code : ByteArray} {pc : Nat} (a : UInt8) (h : DkAt code pc [55, a]) : decode code pc = .ok (.lstore a.toNat, 2) := dk_of ((dk_bind (dk_u1 (h 0 _ rfl))).trans ((dk_bind (dk_u1 (h 1 _ rfl))).trans rfl))
theorem dk_58 {code : ByteArray} {pc : Nat} (a : UInt8) (h : DkAt code pc [58, a]) : decode code pc = .ok (.astore a.toNat, 2) := dk_of ((dk_bind (dk_u1 (h 0 _ rfl))).trans ((dk_bind (dk_u1 (h 1 _ rfl))).trans rfl))
theorem dk_59 {code : ByteArray} {pc : Nat} (h : DkAt code pc [59]) : decode code pc = .ok (.istore_n 0, 1) := dk_of ((dk_bind (dk_u1 (h 0 _ rfl))).trans rfl)
theorem dk_60 {code : ByteArray} {pc : Nat} (h : DkAt code pc [60]) : decode code pc = .ok (.istore_n 1, 1) := dk_of ((dk_bind (dk_u1 (h 0 _ rfl))).trans rfl)
theorem dk_61 {code : ByteArray} {pc : Nat} (h : DkAt code pc [61]) : decode code pc = .ok (.istore_n 2, 1) := dk_of ((dk_bind (dk_u1 (h 0 _ rfl))).trans rfl)
theorem dk_62 {code : ByteArray} {pc : Nat} (h : DkAt code pc [62]) : decode code pc = .ok (.istore_n 3, 1) := dk_of ((dk_bind (dk_u1 (h 0 _ rfl))).trans rfl)
theorem dk_76 {code : ByteArray} {pc : Nat} (h : DkAt code pc [76]) : decode code pc = .ok (.astore_n 1, 1) := dk_of ((dk_bind (dk_u1 (h 0 _ rfl))).trans rfl)
theorem dk_77 {code : ByteArray} {pc : Nat} (h : DkAt code pc [77]) : decode code pc = .ok (.astore_n 2, 1) := dk_of ((dk_bind (dk_u1 (h 0 _ rfl))).trans rfl)
theorem dk_78 {code : ByteArray} {pc : Nat} (h : DkAt code pc [78]) : decode code pc = .ok (.astore_n 3, 1) := dk_of ((dk_bind (dk_u1 (h 0 _ rfl))).trans rfl)
theorem dk_79 {code : ByteArray} {pc : Nat} (h : DkAt code pc [79]) : decode code pc = .ok (.iastore, 1) := dk_of ((dk_bind (dk_u1 (h 0 _ rfl))).trans rfl)
theorem dk_80 {code : ByteArray} {pc : Nat} (h : DkAt code pc [80]) : decode code pc = .ok (.lastore, 1) := dk_of ((dk_bind (dk_u1 (h 0 _ rfl))).trans rfl)
theorem dk_83 {code : ByteArray} {pc : Nat} (h : DkAt code pc [83]) : decode code pc = .ok (.aastore, 1) := dk_of ((dk_bind (dk_u1 (h 0 _ rfl))).trans rfl)
theorem dk_84 {code : ByteArray} {pc : Nat} (h : DkAt code pc [84]) : decode code pc = .ok (.bastore, 1) := dk_of ((dk_bind (dk_u1 (h 0 _ rfl))).trans rfl)
theorem dk_86 {code : ByteArray} {pc : Nat} (h : DkAt code pc [86]) : decode code pc = .ok (.sastore, 1) := dk_of ((dk_bind (dk_u1 (h 0 _ rfl))).trans rfl)
theorem dk_87 {code : ByteArray} {pc : Nat} (h : DkAt code pc [87]) : decode code pc = .ok (.pop, 1) := dk_of ((dk_bind (dk_u1 (h 0 _ rfl))).trans rfl)
theorem dk_89 {code : ByteArray} {pc : Nat} (h : DkAt code pc [89]) : decode code pc = .ok (.dup, 1) := dk_of ((dk_bind (dk_u1 (h 0 _ rfl))).trans rfl)
theorem dk_92 {code : ByteArray} {pc : Nat} (h : DkAt code pc [92]) : decode code pc = .ok (.dup2, 1) := dk_of ((dk_bind (dk_u1 (h 0 _ rfl))).trans rfl)
theorem dk_96 {code : ByteArray} {pc : Nat} (h : DkAt code pc [96]) : decode code pc = .ok (.iadd, 1) := dk_of ((dk_bind (dk_u1 (h 0 _ rfl))).trans rfl)
theorem dk_100 {code : ByteArray} {pc : Nat} (h : DkAt code pc [100]) : decode code pc = .ok (.isub, 1) := dk_of ((dk_bind (dk_u1 (h 0 _ rfl))).trans rfl)
theorem dk_104 {code : ByteArray} {pc : Nat} (h : DkAt code pc [104]) : decode code pc = .ok (.imul, 1) := dk_of ((dk_bind (dk_u1 (h 0 _ rfl))).trans rfl)
theorem dk_108 {code : ByteArray} {pc : Nat} (h : DkAt code pc [108]) : decode code pc = .ok (.idiv, 1) := dk_of ((dk_bind (dk_u1 (h 0 _ rfl))).trans rfl)
theorem dk_109 {code : ByteArray} {pc : Nat} (h : DkAt code pc [109]) : decode code pc = .ok (.ldiv, 1) := dk_of ((dk_bind (dk_u1 (h 0 _ rfl))).trans rfl)
theorem dk_112 {code : ByteArray} {pc : Nat} (h : DkAt code pc [112]) : decode code pc = .ok (.irem, 1) := dk_of ((dk_bind (dk_u1 (h 0 _ rfl))).trans rfl)
theorem dk_113 {code : ByteArray} {pc : Nat} (h : DkAt code pc [113]) : decode code pc = .ok (.lrem, 1) := dk_of ((dk_bind (dk_u1 (h 0 _ rfl))).trans rfl)
theorem dk_117 {code : ByteArray} {pc : Nat} (h : DkAt code pc [117]) : decode code pc = .ok (.lneg, 1) := dk_of ((dk_bind (dk_u1 (h 0 _ rfl))).trans rfl)
theorem dk_120 {code : ByteArray} {pc : Nat} (h : DkAt code pc [120]) : decode code pc = .ok (.ishl, 1) := dk_of ((dk_bind (dk_u1 (h 0 _ rfl))).trans rfl)
theorem dk_121 {code : ByteArray} {pc : Nat} (h : DkAt code pc [121]) : decode code pc = .ok (.lshl, 1) := dk_of ((dk_bind (dk_u1 (h 0 _ rfl))).trans rfl)
theorem dk_122 {code : ByteArray} {pc : Nat} (h : DkAt code pc [122]) : decode code pc = .ok (.ishr, 1) := dk_of ((dk_bind (dk_u1 (h 0 _ rfl))).trans rfl)
theorem dk_123 {code : ByteArray} {pc : Nat} (h : DkAt code pc [123]) : decode code pc = .ok (.lshr, 1) := dk_of ((dk_bind (dk_u1 (h 0 _ rfl))).trans rfl)
theorem dk_124 {code : ByteArray} {pc : Nat} (h : DkAt code pc [124]) : decode code pc = .ok (.iushr, 1) := dk_of ((dk_bind (dk_u1 (h 0 _ rfl))).trans rfl)
theorem dk_125 {code : ByteArray} {pc : Nat} (h : DkAt code pc [125]) : decode code pc = .ok (.lushr, 1) := dk_of ((dk_bind (dk_u1 (h 0 _ rfl))).trans rfl)
theorem dk_126 {code : ByteArray} {pc : Nat} (h : DkAt code pc [126]) : decode code pc = .ok (.iand, 1) := dk_of ((dk_bind (dk_u1 (h 0 _ rfl))).trans rfl)
theorem dk_127 {code : ByteArray} {pc : Nat} (h : DkAt code pc [127]) : decode code pc = .ok (.land, 1) := dk_of ((dk_bind (dk_u1 (h 0 _ rfl))).trans rfl)
theorem dk_128 {code : ByteArray} {pc : Nat} (h : DkAt code pc [128]) : decode code pc = .ok (.ior, 1) := dk_of ((dk_bind (dk_u1 (h 0 _ rfl))).trans rfl)
theorem dk_129 {code : ByteArray} {pc : Nat} (h : DkAt code pc [129]) : decode code pc = .ok (.lor, 1) := dk_of ((dk_bind (dk_u1 (h 0 _ rfl))).trans rfl)
theorem dk_130 {code : ByteArray} {pc : Nat} (h : DkAt code pc [130]) : decode code pc = .ok (.ixor, 1) := dk_of ((dk_bind (dk_u1 (h 0 _ rfl))).trans rfl)
theorem dk_132 {code : ByteArray} {pc : Nat} (a b : UInt8) (h : DkAt code pc [132, a, b]) : decode code pc = .ok (.iinc a.toNat (Reader.signed 8 b.toNat), 3) := dk_of ((dk_bind (dk_u1 (h 0 _ rfl))).trans ((dk_bind (dk_u1 (h 1 _ rfl))).trans ((dk_bind (dk_map (dk_u1 (h 2 _ rfl)))).trans rfl)))
theorem dk_133 {code : ByteArray} {pc : Nat} (h : DkAt code pc [133]) : decode code pc = .ok (.i2l, 1) := dk_of ((dk_bind (dk_u1 (h 0 _ rfl))).trans rfl)
theorem dk_136 {code : ByteArray} {pc : Nat} (h : DkAt code pc [136]) : decode code pc = .ok (.l2i, 1) := dk_of ((dk_bind (dk_u1 (h 0 _ rfl))).trans rfl)
theorem dk_145 {code : ByteArray} {pc : Nat} (h : DkAt code pc [145]) : decode code pc = .ok (.i2b, 1) := dk_of ((dk_bind (dk_u1 (h 0 _ rfl))).trans rfl)
theorem dk_146 {code : ByteArray} {pc : Nat} (h : DkAt code pc [146]) : decode code pc = .ok (.i2c, 1) := dk_of ((dk_bind (dk_u1 (h 0 _ rfl))).trans rfl)
theorem dk_147 {code : ByteArray} {pc : Nat} (h : DkAt code pc [147]) : decode code pc = .ok (.i2s, 1) := dk_of ((dk_bind (dk_u1 (h 0 _ rfl))).trans rfl)
theorem dk_148 {code : ByteArray} {pc : Nat} (h : DkAt code pc [148]) : decode code pc = .ok (.lcmp, 1) := dk_of ((dk_bind (dk_u1 (h 0 _ rfl))).trans rfl)
theorem dk_153 {code : ByteArray} {pc : Nat} (a b : UInt8) (h : DkAt code pc [153, a, b]) : decode code pc = .ok (.ifCond .eq (Reader.signed 16 (a.toNat * 256 + b.toNat)), 3) := dk_of ((dk_bind (dk_u1 (h 0 _ rfl))).trans ((dk_bind (dk_map (dk_u2 (h 1 _ rfl) (h 2 _ rfl)))).trans rfl))
theorem dk_154 {code : ByteArray} {pc : Nat} (a b : UInt8) (h : DkAt code pc [154, a, b]) : decode code pc = .ok (.ifCond .ne (Reader.signed 16 (a.toNat * 256 + b.toNat)), 3) := dk_of ((dk_bind (dk_u1 (h 0 _ rfl))).trans ((dk_bind (dk_map (dk_u2 (h 1 _ rfl) (h 2 _ rfl)))).trans rfl))
theorem dk_155 {code : ByteArray} {pc : Nat} (a b : UInt8) (h : DkAt code pc [155, a, b]) : decode code pc = .ok (.ifCond .lt (Reader.signed 16 (a.toNat * 256 + b.toNat)), 3) := dk_of ((dk_bind (dk_u1 (h 0 _ rfl))).trans ((dk_bind (dk_map (dk_u2 (h 1 _ rfl) (h 2 _ rfl)))).trans rfl))
theorem dk_156 {code : ByteArray} {pc : Nat} (a b : UInt8) (h : DkAt code pc [156, a, b]) : decode code pc = .ok (.ifCond .ge (Reader.signed 16 (a.toNat * 256 + b.toNat)), 3) := dk_of ((dk_bind (dk_u1 (h 0 _ rfl))).trans ((dk_bind (dk_map (dk_u2 (h 1 _ rfl) (h 2 _ rfl)))).trans rfl))
theorem dk_157 {code : ByteArray} {pc : Nat} (a b : UInt8) (h : DkAt code pc [157, a, b]) : decode code pc = .ok (.ifCond .gt (Reader.signed 16 (a.toNat * 256 + b.toNat)), 3) := dk_of ((dk_bind (dk_u1 (h 0 _ rfl))).trans ((dk_bind (dk_map (dk_u2 (h 1 _ rfl) (h 2 _ rfl)))).trans rfl))
theorem dk_158 {code : ByteArray} {pc : Nat} (a b : UInt8) (h : DkAt code pc [158, a, b]) : decode code pc = .ok (.ifCond .le (Reader.signed 16 (a.toNat * 256 + b.toNat)), 3) := dk_of ((dk_bind (dk_u1 (h 0 _ rfl))).trans ((dk_bind (dk_map (dk_u2 (h 1 _ rfl) (h 2 _ rfl)))).trans rfl))
theorem dk_159 {code : ByteArray} {pc : Nat} (a b : UInt8) (h : DkAt code pc [159, a, b]) : decode code pc = .ok (.if_icmp .eq (Reader.signed 16 (a.toNat * 256 + b.toNat)), 3) := dk_of ((dk_bind (dk_u1 (h 0 _ rfl))).trans ((dk_bind (dk_map (dk_u2 (h 1 _ rfl) (h 2 _ rfl)))).trans rfl))
theorem dk_160 {code : ByteArray} {pc : Nat} (a b : UInt8) (h : DkAt code pc [160, a, b]) : decode code pc = .ok (.if_icmp .ne (Reader.signed 16 (a.toNat * 256 + b.toNat)), 3) := dk_of ((dk_bind (dk_u1 (h 0 _ rfl))).trans ((dk_bind (dk_map (dk_u2 (h 1 _ rfl) (h 2 _ rfl)))).trans rfl))
theorem dk_161 {code : ByteArray} {pc : Nat} (a b : UInt8) (h : DkAt code pc [161, a, b]) : decode code pc = .ok (.if_icmp .lt (Reader.signed 16 (a.toNat * 256 + b.toNat)), 3) := dk_of ((dk_bind (dk_u1 (h 0 _ rfl))).trans ((dk_bind (dk_map (dk_u2 (h 1 _ rfl) (h 2 _ rfl)))).trans rfl))
theorem dk_162 {code : ByteArray} {pc : Nat} (a b : UInt8) (h : DkAt code pc [162, a, b]) : decode code pc = .ok (.if_icmp .ge (Reader.signed 16 (a.toNat * 256 + b.toNat)), 3) := dk_of ((dk_bind (dk_u1 (h 0 _ rfl))).trans ((dk_bind (dk_map (dk_u2 (h 1 _ rfl) (h 2 _ rfl)))).trans rfl))
theorem dk_163 {code : ByteArray} {pc : Nat} (a b : UInt8) (h : DkAt code pc [163, a, b]) : decode code pc = .ok (.if_icmp .gt (Reader.signed 16 (a.toNat * 256 + b.toNat)), 3) := dk_of ((dk_bind (dk_u1 (h 0 _ rfl))).trans ((dk_bind (dk_map (dk_u2 (h 1 _ rfl) (h 2 _ rfl)))).trans rfl))
theorem dk_164 {code : ByteArray} {pc : Nat} (a b : UInt8) (h : DkAt code pc [164, a, b]) : decode code pc = .ok (.if_icmp .le (Reader.signed 16 (a.toNat * 256 + b.toNat)), 3) := dk_of ((dk_bind (dk_u1 (h 0 _ rfl))).trans ((dk_bind (dk_map (dk_u2 (h 1 _ rfl) (h 2 _ rfl)))).trans rfl))
theorem dk_165 {code : ByteArray} {pc : Nat} (a b : UInt8) (h : DkAt code pc [165, a, b]) : decode code pc = .ok (.if_acmp .eq (Reader.signed 16 (a.toNat * 256 + b.toNat)), 3) := dk_of ((dk_bind (dk_u1 (h 0 _ rfl))).trans ((dk_bind (dk_map (dk_u2 (h 1 _ rfl) (h 2 _ rfl)))).trans rfl))
theorem dk_167 {code : ByteArray} {pc : Nat} (a b : UInt8) (h : DkAt code pc [167, a, b]) : decode code pc = .ok (.goto (Reader.signed 16 (a.toNat * 256 + b.toNat)), 3) := dk_of ((dk_bind (dk_u1 (h 0 _ rfl))).trans ((dk_bind (dk_map (dk_u2 (h 1 _ rfl) (h 2 _ rfl)))).trans rfl))
theorem dk_172 {code : ByteArray} {pc : Nat} (h : DkAt code pc [172]) : decode code pc = .ok (.ireturn, 1) := dk_of ((dk_bind (dk_u1 (h 0 _ rfl))).trans rfl)
theorem dk_173 {code : ByteArray} {pc : Nat} (h : DkAt code pc [173]) : decode code pc = .ok (.lreturn, 1) := dk_of ((dk_bind (dk_u1 (h 0 _ rfl))).trans rfl)
theorem dk_176 {code : ByteArray} {pc : Nat} (h : DkAt code pc [176]) : decode code pc = .ok (.areturn, 1) := dk_of ((dk_bind (dk_u1 (h 0 _ rfl))).trans rfl)
theorem dk_177 {code : ByteArray} {pc : Nat} (h : DkAt code pc [177]) : decode code pc = .ok (.return_, 1) := dk_of ((dk_bind (dk_u1 (h 0 _ rfl))).trans rfl)
theorem dk_178 {code : ByteArray} {pc : Nat} (a b : UInt8) (h : DkAt code pc [178, a, b]) : decode code pc = .ok (.getstatic (a.toNat * 256 + b.toNat), 3) := dk_of ((dk_bind (dk_u1 (h 0 _ rfl))).trans ((dk_bind (dk_u2 (h 1 _ rfl) (h 2 _ rfl))).trans rfl))
theorem dk_180 {code : ByteArray} {pc : Nat} (a b : UInt8) (h : DkAt code pc [180, a, b]) : decode code pc = .ok (.getfield (a.toNat * 256 + b.toNat), 3) := dk_of ((dk_bind (dk_u1 (h 0 _ rfl))).trans ((dk_bind (dk_u2 (h 1 _ rfl) (h 2 _ rfl))).trans rfl))
theorem dk_181 {code : ByteArray} {pc : Nat} (a b : UInt8) (h : DkAt code pc [181, a, b]) : decode code pc = .ok (.putfield (a.toNat * 256 + b.toNat), 3) := dk_of ((dk_bind (dk_u1 (h 0 _ rfl))).trans ((dk_bind (dk_u2 (h 1 _ rfl) (h 2 _ rfl))).trans rfl))
theorem dk_182 {code : ByteArray} {pc : Nat} (a b : UInt8) (h : DkAt code pc [182, a, b]) : decode code pc = .ok (.invokevirtual (a.toNat * 256 + b.toNat), 3) := dk_of ((dk_bind (dk_u1 (h 0 _ rfl))).trans ((dk_bind (dk_u2 (h 1 _ rfl) (h 2 _ rfl))).trans rfl))
theorem dk_183 {code : ByteArray} {pc : Nat} (a b : UInt8) (h : DkAt code pc [183, a, b]) : decode code pc = .ok (.invokespecial (a.toNat * 256 + b.toNat), 3) := dk_of ((dk_bind (dk_u1 (h 0 _ rfl))).trans ((dk_bind (dk_u2 (h 1 _ rfl) (h 2 _ rfl))).trans rfl))
theorem dk_184 {code : ByteArray} {pc : Nat} (a b : UInt8) (h : DkAt code pc [184, a, b]) : decode code pc = .ok (.invokestatic (a.toNat * 256 + b.toNat), 3) := dk_of ((dk_bind (dk_u1 (h 0 _ rfl))).trans ((dk_bind (dk_u2 (h 1 _ rfl) (h 2 _ rfl))).trans rfl))
theorem dk_187 {code : ByteArray} {pc : Nat} (a b : UInt8) (h : DkAt code pc [187, a, b]) : decode code pc = .ok (.new (a.toNat * 256 + b.toNat), 3) := dk_of ((dk_bind (dk_u1 (h 0 _ rfl))).trans ((dk_bind (dk_u2 (h 1 _ rfl) (h 2 _ rfl))).trans rfl))
theorem dk_188_4 {code : ByteArray} {pc : Nat} (h : DkAt code pc [188, 4]) : decode code pc = .ok (.newarray .boolean, 2) := dk_of ((dk_bind (dk_u1 (h 0 _ rfl))).trans ((dk_bind (dk_u1 (h 1 _ rfl))).trans rfl))
theorem dk_188_8 {code : ByteArray} {pc : Nat} (h : DkAt code pc [188, 8]) : decode code pc = .ok (.newarray .byte, 2) := dk_of ((dk_bind (dk_u1 (h 0 _ rfl))).trans ((dk_bind (dk_u1 (h 1 _ rfl))).trans rfl))
theorem dk_188_9 {code : ByteArray} {pc : Nat} (h : DkAt code pc [188, 9]) : decode code pc = .ok (.newarray .short, 2) := dk_of ((dk_bind (dk_u1 (h 0 _ rfl))).trans ((dk_bind (dk_u1 (h 1 _ rfl))).trans rfl))
theorem dk_188_10 {code : ByteArray} {pc : Nat} (h : DkAt code pc [188, 10]) : decode code pc = .ok (.newarray .int, 2) := dk_of ((dk_bind (dk_u1 (h 0 _ rfl))).trans ((dk_bind (dk_u1 (h 1 _ rfl))).trans rfl))
theorem dk_188_11 {code : ByteArray} {pc : Nat} (h : DkAt code pc [188, 11]) : decode code pc = .ok (.newarray .long, 2) := dk_of ((dk_bind (dk_u1 (h 0 _ rfl))).trans ((dk_bind (dk_u1 (h 1 _ rfl))).trans rfl))
theorem dk_189 {code : ByteArray} {pc : Nat} (a b : UInt8) (h : DkAt code pc [189, a, b]) : decode code pc = .ok (.anewarray (a.toNat * 256 + b.toNat), 3) := dk_of ((dk_bind (dk_u1 (h 0 _ rfl))).trans ((dk_bind (dk_u2 (h 1 _ rfl) (h 2 _ rfl))).trans rfl))
theorem dk_190 {code : ByteArray} {pc : Nat} (h : DkAt code pc [190]) : decode code pc = .ok (.arraylength, 1) := dk_of ((dk_bind (dk_u1 (h 0 _ rfl))).trans rfl)
theorem dk_191 {code : ByteArray} {pc : Nat} (h : DkAt code pc [191]) : decode code pc = .ok (.athrow, 1) := dk_of ((dk_bind (dk_u1 (h 0 _ rfl))).trans rfl)
theorem dk_192 {code : ByteArray} {pc : Nat} (a b : UInt8) (h : DkAt code pc [192, a, b]) : decode code pc = .ok (.checkcast (a.toNat * 256 + b.toNat), 3) := dk_of ((dk_bind (dk_u1 (h 0 _ rfl))).trans ((dk_bind (dk_u2 (h 1 _ rfl) (h 2 _ rfl))).trans rfl))
theorem dk_193 {code : ByteArray} {pc : Nat} (a b : UInt8) (h : DkAt code pc [193, a, b]) : decode code pc = .ok (.instanceof (a.toNat * 256 + b.toNat), 3) := dk_of ((dk_bind (dk_u1 (h 0 _ rfl))).trans ((dk_bind (dk_u2 (h 1 _ rfl) (h 2 _ rfl))).trans rfl))
theorem dk_198 {code : ByteArray} {pc : Nat} (a b : UInt8) (h : DkAt code pc [198, a, b]) : decode code pc = .ok (.ifnull (Reader.signed 16 (a.toNat * 256 + b.toNat)), 3) := dk_of ((dk_bind (dk_u1 (h 0 _ rfl))).trans ((dk_bind (dk_map (dk_u2 (h 1 _ rfl) (h 2 _ rfl)))).trans rfl))
theorem dk_199 {code : ByteArray} {pc : Nat} (a b : UInt8) (h : DkAt code pc [199, a, b]) : decode code pc = .ok (.ifnonnull (Reader.signed 16 (a.toNat * 256 + b.toNat)), 3) := dk_of ((dk_bind (dk_u1 (h 0 _ rfl))).trans ((dk_bind (dk_map (dk_u2 (h 1 _ rfl) (h 2 _ rfl)))).trans rfl))
theorem q159 : (Jvm.Cond.arrayOver (Jvm.ClassFile.FieldType.object "RaisedPress$Tray")) ∈ lw_tbl := lw_at lw_m1 40 rfl
set_option maxRecDepth 100000
theorem q258 : (Jvm.Cond.arrayClass Jvm.ClassFile.FieldType.byte) ∈ lw_all := lw_g (lw_at lw_m1 139 rfl) rfl
theorem q272 : (Jvm.Cond.arrayOver (Jvm.ClassFile.FieldType.object "RaisedPress$Rule")) ∈ lw_tbl := lw_at lw_m1 153 rfl
theorem q327 : (Jvm.Cond.arrayOver (Jvm.ClassFile.FieldType.object "RaisedPress$House")) ∈ lw_tbl := lw_at lw_m1 208 rfl
theorem q407 : (Jvm.Cond.arrayClass Jvm.ClassFile.FieldType.int) ∈ lw_all := lw_g (lw_at lw_m2 48 rfl) rfl
theorem q493 : (Jvm.Cond.arrayClass Jvm.ClassFile.FieldType.boolean) ∈ lw_all := lw_g (lw_at lw_m2 134 rfl) rfl
theorem q554 : (Jvm.Cond.arrayClass Jvm.ClassFile.FieldType.short) ∈ lw_all := lw_g (lw_at lw_m2 195 rfl) rfl
theorem q555 : (Jvm.Cond.arrayClass Jvm.ClassFile.FieldType.long) ∈ lw_all := lw_g (lw_at lw_m2 196 rfl) rfl
/-! java/lang/Math -/
set_option maxRecDepth 100000
def RJ10 : String := "java/lang/Math"
abbrev cJ10_min : ByteArray := prog_23_method_69_code
def yJ10_min : MethodName := ⟨RJ10, "min", "(II)I"⟩
def dkwJ10_min_0 : List UInt8 := [26, 27, 163, 0, 7, 26, 167, 0, 4, 27, 172]
abbrev dktJ10_min_0 : List UInt8 := dkwJ10_min_0 ++ []
theorem dksJ10_min_0 : cJ10_min.data.toList.drop 0 = dktJ10_min_0 := by decide +kernel
theorem dJ10_min_0 : decode cJ10_min 0 = .ok (.iload_n 0, 1) := dk_26 (dk_at dksJ10_min_0 0 rfl rfl)
theorem dJ10_min_1 : decode cJ10_min 1 = .ok (.iload_n 1, 1) := dk_27 (dk_at dksJ10_min_0 1 rfl rfl)
theorem dJ10_min_2 : decode cJ10_min 2 = .ok (.if_icmp .gt 7, 3) := dk_163 0 7 (dk_at dksJ10_min_0 2 rfl rfl)
theorem dJ10_min_5 : decode cJ10_min 5 = .ok (.iload_n 0, 1) := dk_26 (dk_at dksJ10_min_0 5 rfl rfl)
theorem dJ10_min_6 : decode cJ10_min 6 = .ok (.goto 4, 3) := dk_167 0 4 (dk_at dksJ10_min_0 6 rfl rfl)
theorem dJ10_min_9 : decode cJ10_min 9 = .ok (.iload_n 1, 1) := dk_27 (dk_at dksJ10_min_0 9 rfl rfl)
theorem dJ10_min_10 : decode cJ10_min 10 = .ok (.ireturn, 1) := dk_172 (dk_at dksJ10_min_0 10 rfl rfl)
abbrev cJ10_max : ByteArray := prog_23_method_65_code
def yJ10_max : MethodName := ⟨RJ10, "max", "(II)I"⟩
def dkwJ10_max_0 : List UInt8 := [26, 27, 161, 0, 7, 26, 167, 0, 4, 27, 172]
abbrev dktJ10_max_0 : List UInt8 := dkwJ10_max_0 ++ []
theorem dksJ10_max_0 : cJ10_max.data.toList.drop 0 = dktJ10_max_0 := by decide +kernel
theorem dJ10_max_0 : decode cJ10_max 0 = .ok (.iload_n 0, 1) := dk_26 (dk_at dksJ10_max_0 0 rfl rfl)
theorem dJ10_max_1 : decode cJ10_max 1 = .ok (.iload_n 1, 1) := dk_27 (dk_at dksJ10_max_0 1 rfl rfl)
theorem dJ10_max_2 : decode cJ10_max 2 = .ok (.if_icmp .lt 7, 3) := dk_161 0 7 (dk_at dksJ10_max_0 2 rfl rfl)
theorem dJ10_max_5 : decode cJ10_max 5 = .ok (.iload_n 0, 1) := dk_26 (dk_at dksJ10_max_0 5 rfl rfl)
theorem dJ10_max_6 : decode cJ10_max 6 = .ok (.goto 4, 3) := dk_167 0 4 (dk_at dksJ10_max_0 6 rfl rfl)
theorem dJ10_max_9 : decode cJ10_max 9 = .ok (.iload_n 1, 1) := dk_27 (dk_at dksJ10_max_0 9 rfl rfl)
theorem dJ10_max_10 : decode cJ10_max 10 = .ok (.ireturn, 1) := dk_172 (dk_at dksJ10_max_0 10 rfl rfl)
abbrev cJ10_abs : ByteArray := prog_23_method_61_code
def yJ10_abs : MethodName := ⟨RJ10, "abs", "(J)J"⟩
def dkwJ10_abs_0 : List UInt8 := [30, 9, 148, 156, 0, 8, 30, 117, 167, 0, 4, 30, 173]
abbrev dktJ10_abs_0 : List UInt8 := dkwJ10_abs_0 ++ []
theorem dksJ10_abs_0 : cJ10_abs.data.toList.drop 0 = dktJ10_abs_0 := by decide +kernel
theorem dJ10_abs_0 : decode cJ10_abs 0 = .ok (.lload_n 0, 1) := dk_30 (dk_at dksJ10_abs_0 0 rfl rfl)
theorem dJ10_abs_1 : decode cJ10_abs 1 = .ok (.lconst 0, 1) := dk_9 (dk_at dksJ10_abs_0 1 rfl rfl)
theorem dJ10_abs_2 : decode cJ10_abs 2 = .ok (.lcmp, 1) := dk_148 (dk_at dksJ10_abs_0 2 rfl rfl)
theorem dJ10_abs_3 : decode cJ10_abs 3 = .ok (.ifCond .ge 8, 3) := dk_156 0 8 (dk_at dksJ10_abs_0 3 rfl rfl)
theorem dJ10_abs_6 : decode cJ10_abs 6 = .ok (.lload_n 0, 1) := dk_30 (dk_at dksJ10_abs_0 6 rfl rfl)
theorem dJ10_abs_7 : decode cJ10_abs 7 = .ok (.lneg, 1) := dk_117 (dk_at dksJ10_abs_0 7 rfl rfl)
theorem dJ10_abs_8 : decode cJ10_abs 8 = .ok (.goto 4, 3) := dk_167 0 4 (dk_at dksJ10_abs_0 8 rfl rfl)
theorem dJ10_abs_11 : decode cJ10_abs 11 = .ok (.lload_n 0, 1) := dk_30 (dk_at dksJ10_abs_0 11 rfl rfl)
theorem dJ10_abs_12 : decode cJ10_abs 12 = .ok (.lreturn, 1) := dk_173 (dk_at dksJ10_abs_0 12 rfl rfl)
theorem q146 : (Jvm.Cond.initialized "java/lang/Math") ∈ lw_all := lw_g (lw_at lw_m1 27 rfl) rfl
theorem q1209 : (Jvm.Cond.static ({ cls := "java/lang/Math", name := "min", desc := "(II)I" } : Jvm.MethodName)) ∈ lw_all := lw_g (lw_at lw_m5 130 rfl) rfl
theorem q1210 : (Jvm.Cond.code ({ cls := "java/lang/Math", name := "min", desc := "(II)I" } : Jvm.MethodName) prog_23_method_69_code (2 : Nat) (Option.some Jvm.ClassFile.FieldType.int)) ∈ lw_all := lw_g (lw_at lw_m5 131 rfl) rfl
theorem q1233 : (Jvm.Cond.static ({ cls := "java/lang/Math", name := "max", desc := "(II)I" } : Jvm.MethodName)) ∈ lw_all := lw_g (lw_at lw_m5 154 rfl) rfl
theorem q1234 : (Jvm.Cond.code ({ cls := "java/lang/Math", name := "max", desc := "(II)I" } : Jvm.MethodName) prog_23_method_65_code (2 : Nat) (Option.some Jvm.ClassFile.FieldType.int)) ∈ lw_all := lw_g (lw_at lw_m5 155 rfl) rfl
theorem q1457 : (Jvm.Cond.static ({ cls := "java/lang/Math", name := "abs", desc := "(J)J" } : Jvm.MethodName)) ∈ lw_all := lw_g (lw_at lw_m6 138 rfl) rfl
theorem q1458 : (Jvm.Cond.code ({ cls := "java/lang/Math", name := "abs", desc := "(J)J" } : Jvm.MethodName) prog_23_method_61_code (2 : Nat) (Option.some Jvm.ClassFile.FieldType.long)) ∈ lw_all := lw_g (lw_at lw_m6 139 rfl) rfl
/-! RaisedPressModel -/
set_option maxRecDepth 100000
def RX7 : String := "RaisedPressModel"
def TX7 : u_T := fun k => match k with
  | 0 => ("RaisedPressModel", "at", "[I", true)
  | 1 => ("RaisedPressModel", "status", "I", false)
  | 2 => ("RaisedPressModel", "top", "J", false)
  | 3 => ("RaisedPressModel", "bottom", "J", false)
  | 4 => ("RaisedPressModel", "sort", "[I", true)
  | 5 => ("RaisedPressModel", "trayMany", "[I", true)
  | 6 => ("RaisedPressModel", "trays", "[J", true)
  | 7 => ("RaisedPressModel", "tape", "[B", true)
  | 8 => ("RaisedPressModel", "text", "[B", true)
  | 9 => ("RaisedPressModel", "taped", "I", false)
  | 10 => ("RaisedPressModel", "size", "I", false)
  | 11 => ("RaisedPressModel", "token", "I", false)
  | 12 => ("RaisedPressModel", "from", "I", false)
  | 13 => ("RaisedPressModel", "end", "I", false)
  | 14 => ("RaisedPressModel", "value", "I", false)
  | 15 => ("RaisedPressModel", "faultKind", "I", false)
  | 16 => ("RaisedPressModel", "faultPlace", "I", false)
  | 17 => ("RaisedPressModel", "faults", "I", false)
  | 18 => ("RaisedPressModel", "seen", "I", false)
  | 19 => ("RaisedPressModel", "told0", "I", false)
  | 20 => ("RaisedPressModel", "badKind", "I", false)
  | 21 => ("RaisedPressModel", "badPlace", "I", false)
  | 22 => ("RaisedPressModel", "laid", "[I", true)
  | 23 => ("RaisedPressModel", "lineFrom", "[I", true)
  | 24 => ("RaisedPressModel", "lineMany", "[I", true)
  | 25 => ("RaisedPressModel", "pieceLine", "[I", true)
  | 26 => ("RaisedPressModel", "pieceEnd", "[I", true)
  | 27 => ("RaisedPressModel", "lines0", "I", false)
  | 28 => ("RaisedPressModel", "laidMany", "I", false)
  | 29 => ("RaisedPressModel", "hyphens0", "I", false)
  | 30 => ("RaisedPressModel", "raggedFrom", "[I", true)
  | 31 => ("RaisedPressModel", "leastFrom", "[I", true)
  | 32 => ("RaisedPressModel", "asked", "[I", true)
  | 33 => ("RaisedPressModel", "failing", "[I", true)
  | 34 => ("RaisedPressModel", "waysFrom", "[I", true)
  | 35 => ("RaisedPressModel", "firstRules", "[I", true)
  | 36 => ("RaisedPressModel", "firstMany", "I", false)
  | 37 => ("RaisedPressModel", "firstLetters", "I", false)
  | 38 => ("RaisedPressModel", "tried", "[I", true)
  | 39 => ("RaisedPressModel", "triedAt", "[I", true)
  | 40 => ("RaisedPressModel", "overs", "[I", true)
  | 41 => ("RaisedPressModel", "drawn", "I", false)
  | 42 => ("RaisedPressModel", "wornMany", "I", false)
  | 43 => ("RaisedPressModel", "worn0", "[I", true)
  | 44 => ("RaisedPressModel", "toldWorn", "[I", true)
  | _ => ("RaisedPressModel", "marks", "I", false)
def tyX7 : Nat → FieldType := fun k => match k with
  | 0 => .array .int
  | 1 => .int
  | 2 => .long
  | 3 => .long
  | 4 => .array .int
  | 5 => .array .int
  | 6 => .array .long
  | 7 => .array .byte
  | 8 => .array .byte
  | 9 => .int
  | 10 => .int
  | 11 => .int
  | 12 => .int
  | 13 => .int
  | 14 => .int
  | 15 => .int
  | 16 => .int
  | 17 => .int
  | 18 => .int
  | 19 => .int
  | 20 => .int
  | 21 => .int
  | 22 => .array .int
  | 23 => .array .int
  | 24 => .array .int
  | 25 => .array .int
  | 26 => .array .int
  | 27 => .int
  | 28 => .int
  | 29 => .int
  | 30 => .array .int
  | 31 => .array .int
  | 32 => .array .int
  | 33 => .array .int
  | 34 => .array .int
  | 35 => .array .int
  | 36 => .int
  | 37 => .int
  | 38 => .array .int
  | 39 => .array .int
  | 40 => .array .int
  | 41 => .int
  | 42 => .int
  | 43 => .array .int
  | 44 => .array .int
  | _ => .int
abbrev wsX70 : List Cond := u_ws RX7 TX7 46
set_option maxRecDepth 100000 in
theorem nmX7 : ∀ a, a < 46 → ∀ b, b < 46 → a ≠ b → (TX7 a).2.1 ≠ (TX7 b).2.1 := by decide +kernel
set_option maxRecDepth 100000 in
theorem tyX7_ok : ∀ k, k < 46 → parseFieldDescriptor (TX7 k).2.2.1 = some (tyX7 k) := by decide +kernel
abbrev cX7_init : ByteArray := prog_17_method_1_code
def yX7_init : MethodName := ⟨RX7, "<init>", "()V"⟩
def dkwX7_init_10 : List UInt8 := [188, 10, 181, 0, 92, 42, 3, 182, 0, 95, 177]
abbrev dktX7_init_10 : List UInt8 := dkwX7_init_10 ++ []
def dkwX7_init_9 : List UInt8 := [188, 10, 181, 0, 83, 42, 2, 181, 0, 86, 42, 17, 4, 226, 188, 10, 181, 0, 89, 42, 17, 4, 226]
abbrev dktX7_init_9 : List UInt8 := dkwX7_init_9 ++ dktX7_init_10
def dkwX7_init_8 : List UInt8 := [181, 0, 74, 42, 16, 21, 188, 10, 181, 0, 77, 42, 16, 22, 188, 10, 181, 0, 80, 42, 17, 16, 65]
abbrev dktX7_init_8 : List UInt8 := dkwX7_init_8 ++ dktX7_init_9
def dkwX7_init_7 : List UInt8 := [188, 10, 181, 0, 65, 42, 16, 21, 188, 10, 181, 0, 68, 42, 16, 20, 188, 10, 181, 0, 71, 42, 2]
abbrev dktX7_init_7 : List UInt8 := dkwX7_init_7 ++ dktX7_init_8
def dkwX7_init_6 : List UInt8 := [181, 0, 56, 42, 17, 1, 45, 188, 10, 181, 0, 59, 42, 16, 20, 188, 10, 181, 0, 62, 42, 16, 20]
abbrev dktX7_init_6 : List UInt8 := dkwX7_init_6 ++ dktX7_init_7
def dkwX7_init_5 : List UInt8 := [17, 0, 160, 188, 10, 181, 0, 50, 42, 17, 0, 160, 188, 10, 181, 0, 53, 42, 17, 0, 160, 188, 10]
abbrev dktX7_init_5 : List UInt8 := dkwX7_init_5 ++ dktX7_init_6
def dkwX7_init_4 : List UInt8 := [181, 0, 41, 42, 17, 5, 20, 188, 10, 181, 0, 44, 42, 17, 5, 20, 188, 10, 181, 0, 47, 42]
abbrev dktX7_init_4 : List UInt8 := dkwX7_init_4 ++ dktX7_init_5
def dkwX7_init_3 : List UInt8 := [17, 3, 132, 188, 8, 181, 0, 31, 42, 2, 181, 0, 34, 42, 2, 181, 0, 38, 42, 17, 10, 40, 188, 10]
abbrev dktX7_init_3 : List UInt8 := dkwX7_init_3 ++ dktX7_init_4
def dkwX7_init_2 : List UInt8 := [181, 0, 20, 42, 17, 0, 240, 188, 11, 181, 0, 23, 42, 17, 3, 132, 188, 8, 181, 0, 27, 42]
abbrev dktX7_init_2 : List UInt8 := dkwX7_init_2 ++ dktX7_init_3
def dkwX7_init_1 : List UInt8 := [181, 0, 17, 42, 7, 188, 10, 89, 3, 2, 79, 89, 4, 2, 79, 89, 5, 2, 79, 89, 6, 2, 79]
abbrev dktX7_init_1 : List UInt8 := dkwX7_init_1 ++ dktX7_init_2
def dkwX7_init_0 : List UInt8 := [42, 183, 0, 1, 42, 17, 77, 88, 188, 10, 181, 0, 7, 42, 10, 181, 0, 13, 42, 7, 188, 10]
abbrev dktX7_init_0 : List UInt8 := dkwX7_init_0 ++ dktX7_init_1
theorem dksX7_init_0 : cX7_init.data.toList.drop 0 = dktX7_init_0 := by decide +kernel
theorem dksX7_init_1 : cX7_init.data.toList.drop 22 = dktX7_init_1 := dk_seg dksX7_init_0 22 rfl rfl
theorem dksX7_init_2 : cX7_init.data.toList.drop 45 = dktX7_init_2 := dk_seg dksX7_init_1 23 rfl rfl
theorem dksX7_init_3 : cX7_init.data.toList.drop 67 = dktX7_init_3 := dk_seg dksX7_init_2 22 rfl rfl
theorem dksX7_init_4 : cX7_init.data.toList.drop 91 = dktX7_init_4 := dk_seg dksX7_init_3 24 rfl rfl
theorem dksX7_init_5 : cX7_init.data.toList.drop 113 = dktX7_init_5 := dk_seg dksX7_init_4 22 rfl rfl
theorem dksX7_init_6 : cX7_init.data.toList.drop 136 = dktX7_init_6 := dk_seg dksX7_init_5 23 rfl rfl
theorem dksX7_init_7 : cX7_init.data.toList.drop 159 = dktX7_init_7 := dk_seg dksX7_init_6 23 rfl rfl
theorem dksX7_init_8 : cX7_init.data.toList.drop 182 = dktX7_init_8 := dk_seg dksX7_init_7 23 rfl rfl
theorem dksX7_init_9 : cX7_init.data.toList.drop 205 = dktX7_init_9 := dk_seg dksX7_init_8 23 rfl rfl
theorem dksX7_init_10 : cX7_init.data.toList.drop 228 = dktX7_init_10 := dk_seg dksX7_init_9 23 rfl rfl
theorem dX7_init_0 : decode cX7_init 0 = .ok (.aload_n 0, 1) := dk_42 (dk_at dksX7_init_0 0 rfl rfl)
theorem dX7_init_1 : decode cX7_init 1 = .ok (.invokespecial 1, 3) := dk_183 0 1 (dk_at dksX7_init_0 1 rfl rfl)
theorem dX7_init_4 : decode cX7_init 4 = .ok (.aload_n 0, 1) := dk_42 (dk_at dksX7_init_0 4 rfl rfl)
theorem dX7_init_5 : decode cX7_init 5 = .ok (.sipush 19800, 3) := dk_17 77 88 (dk_at dksX7_init_0 5 rfl rfl)
theorem dX7_init_8 : decode cX7_init 8 = .ok (.newarray .int, 2) := dk_188_10 (dk_at dksX7_init_0 8 rfl rfl)
theorem dX7_init_10 : decode cX7_init 10 = .ok (.putfield 7, 3) := dk_181 0 7 (dk_at dksX7_init_0 10 rfl rfl)
theorem dX7_init_13 : decode cX7_init 13 = .ok (.aload_n 0, 1) := dk_42 (dk_at dksX7_init_0 13 rfl rfl)
theorem dX7_init_14 : decode cX7_init 14 = .ok (.lconst 1, 1) := dk_10 (dk_at dksX7_init_0 14 rfl rfl)
theorem dX7_init_15 : decode cX7_init 15 = .ok (.putfield 13, 3) := dk_181 0 13 (dk_at dksX7_init_0 15 rfl rfl)
theorem dX7_init_18 : decode cX7_init 18 = .ok (.aload_n 0, 1) := dk_42 (dk_at dksX7_init_0 18 rfl rfl)
theorem dX7_init_19 : decode cX7_init 19 = .ok (.iconst 4, 1) := dk_7 (dk_at dksX7_init_0 19 rfl rfl)
theorem dX7_init_20 : decode cX7_init 20 = .ok (.newarray .int, 2) := dk_188_10 (dk_at dksX7_init_0 20 rfl rfl)
theorem dX7_init_22 : decode cX7_init 22 = .ok (.putfield 17, 3) := dk_181 0 17 (dk_at dksX7_init_1 0 rfl rfl)
theorem dX7_init_25 : decode cX7_init 25 = .ok (.aload_n 0, 1) := dk_42 (dk_at dksX7_init_1 3 rfl rfl)
theorem dX7_init_26 : decode cX7_init 26 = .ok (.iconst 4, 1) := dk_7 (dk_at dksX7_init_1 4 rfl rfl)
theorem dX7_init_27 : decode cX7_init 27 = .ok (.newarray .int, 2) := dk_188_10 (dk_at dksX7_init_1 5 rfl rfl)
theorem dX7_init_29 : decode cX7_init 29 = .ok (.dup, 1) := dk_89 (dk_at dksX7_init_1 7 rfl rfl)
theorem dX7_init_30 : decode cX7_init 30 = .ok (.iconst 0, 1) := dk_3 (dk_at dksX7_init_1 8 rfl rfl)
theorem dX7_init_31 : decode cX7_init 31 = .ok (.iconst (-1), 1) := dk_2 (dk_at dksX7_init_1 9 rfl rfl)
theorem dX7_init_32 : decode cX7_init 32 = .ok (.iastore, 1) := dk_79 (dk_at dksX7_init_1 10 rfl rfl)
theorem dX7_init_33 : decode cX7_init 33 = .ok (.dup, 1) := dk_89 (dk_at dksX7_init_1 11 rfl rfl)
theorem dX7_init_34 : decode cX7_init 34 = .ok (.iconst 1, 1) := dk_4 (dk_at dksX7_init_1 12 rfl rfl)
theorem dX7_init_35 : decode cX7_init 35 = .ok (.iconst (-1), 1) := dk_2 (dk_at dksX7_init_1 13 rfl rfl)
theorem dX7_init_36 : decode cX7_init 36 = .ok (.iastore, 1) := dk_79 (dk_at dksX7_init_1 14 rfl rfl)
theorem dX7_init_37 : decode cX7_init 37 = .ok (.dup, 1) := dk_89 (dk_at dksX7_init_1 15 rfl rfl)
theorem dX7_init_38 : decode cX7_init 38 = .ok (.iconst 2, 1) := dk_5 (dk_at dksX7_init_1 16 rfl rfl)
theorem dX7_init_39 : decode cX7_init 39 = .ok (.iconst (-1), 1) := dk_2 (dk_at dksX7_init_1 17 rfl rfl)
theorem dX7_init_40 : decode cX7_init 40 = .ok (.iastore, 1) := dk_79 (dk_at dksX7_init_1 18 rfl rfl)
theorem dX7_init_41 : decode cX7_init 41 = .ok (.dup, 1) := dk_89 (dk_at dksX7_init_1 19 rfl rfl)
theorem dX7_init_42 : decode cX7_init 42 = .ok (.iconst 3, 1) := dk_6 (dk_at dksX7_init_1 20 rfl rfl)
theorem dX7_init_43 : decode cX7_init 43 = .ok (.iconst (-1), 1) := dk_2 (dk_at dksX7_init_1 21 rfl rfl)
theorem dX7_init_44 : decode cX7_init 44 = .ok (.iastore, 1) := dk_79 (dk_at dksX7_init_1 22 rfl rfl)
theorem dX7_init_45 : decode cX7_init 45 = .ok (.putfield 20, 3) := dk_181 0 20 (dk_at dksX7_init_2 0 rfl rfl)
theorem dX7_init_48 : decode cX7_init 48 = .ok (.aload_n 0, 1) := dk_42 (dk_at dksX7_init_2 3 rfl rfl)
theorem dX7_init_49 : decode cX7_init 49 = .ok (.sipush 240, 3) := dk_17 0 240 (dk_at dksX7_init_2 4 rfl rfl)
theorem dX7_init_52 : decode cX7_init 52 = .ok (.newarray .long, 2) := dk_188_11 (dk_at dksX7_init_2 7 rfl rfl)
theorem dX7_init_54 : decode cX7_init 54 = .ok (.putfield 23, 3) := dk_181 0 23 (dk_at dksX7_init_2 9 rfl rfl)
theorem dX7_init_57 : decode cX7_init 57 = .ok (.aload_n 0, 1) := dk_42 (dk_at dksX7_init_2 12 rfl rfl)
theorem dX7_init_58 : decode cX7_init 58 = .ok (.sipush 900, 3) := dk_17 3 132 (dk_at dksX7_init_2 13 rfl rfl)
theorem dX7_init_61 : decode cX7_init 61 = .ok (.newarray .byte, 2) := dk_188_8 (dk_at dksX7_init_2 16 rfl rfl)
theorem dX7_init_63 : decode cX7_init 63 = .ok (.putfield 27, 3) := dk_181 0 27 (dk_at dksX7_init_2 18 rfl rfl)
theorem dX7_init_66 : decode cX7_init 66 = .ok (.aload_n 0, 1) := dk_42 (dk_at dksX7_init_2 21 rfl rfl)
theorem dX7_init_67 : decode cX7_init 67 = .ok (.sipush 900, 3) := dk_17 3 132 (dk_at dksX7_init_3 0 rfl rfl)
theorem dX7_init_70 : decode cX7_init 70 = .ok (.newarray .byte, 2) := dk_188_8 (dk_at dksX7_init_3 3 rfl rfl)
theorem dX7_init_72 : decode cX7_init 72 = .ok (.putfield 31, 3) := dk_181 0 31 (dk_at dksX7_init_3 5 rfl rfl)
theorem dX7_init_75 : decode cX7_init 75 = .ok (.aload_n 0, 1) := dk_42 (dk_at dksX7_init_3 8 rfl rfl)
theorem dX7_init_76 : decode cX7_init 76 = .ok (.iconst (-1), 1) := dk_2 (dk_at dksX7_init_3 9 rfl rfl)
theorem dX7_init_77 : decode cX7_init 77 = .ok (.putfield 34, 3) := dk_181 0 34 (dk_at dksX7_init_3 10 rfl rfl)
theorem dX7_init_80 : decode cX7_init 80 = .ok (.aload_n 0, 1) := dk_42 (dk_at dksX7_init_3 13 rfl rfl)
theorem dX7_init_81 : decode cX7_init 81 = .ok (.iconst (-1), 1) := dk_2 (dk_at dksX7_init_3 14 rfl rfl)
theorem dX7_init_82 : decode cX7_init 82 = .ok (.putfield 38, 3) := dk_181 0 38 (dk_at dksX7_init_3 15 rfl rfl)
theorem dX7_init_85 : decode cX7_init 85 = .ok (.aload_n 0, 1) := dk_42 (dk_at dksX7_init_3 18 rfl rfl)
theorem dX7_init_86 : decode cX7_init 86 = .ok (.sipush 2600, 3) := dk_17 10 40 (dk_at dksX7_init_3 19 rfl rfl)
theorem dX7_init_89 : decode cX7_init 89 = .ok (.newarray .int, 2) := dk_188_10 (dk_at dksX7_init_3 22 rfl rfl)
theorem dX7_init_91 : decode cX7_init 91 = .ok (.putfield 41, 3) := dk_181 0 41 (dk_at dksX7_init_4 0 rfl rfl)
theorem dX7_init_94 : decode cX7_init 94 = .ok (.aload_n 0, 1) := dk_42 (dk_at dksX7_init_4 3 rfl rfl)
theorem dX7_init_95 : decode cX7_init 95 = .ok (.sipush 1300, 3) := dk_17 5 20 (dk_at dksX7_init_4 4 rfl rfl)
theorem dX7_init_98 : decode cX7_init 98 = .ok (.newarray .int, 2) := dk_188_10 (dk_at dksX7_init_4 7 rfl rfl)
theorem dX7_init_100 : decode cX7_init 100 = .ok (.putfield 44, 3) := dk_181 0 44 (dk_at dksX7_init_4 9 rfl rfl)
theorem dX7_init_103 : decode cX7_init 103 = .ok (.aload_n 0, 1) := dk_42 (dk_at dksX7_init_4 12 rfl rfl)
theorem dX7_init_104 : decode cX7_init 104 = .ok (.sipush 1300, 3) := dk_17 5 20 (dk_at dksX7_init_4 13 rfl rfl)
theorem dX7_init_107 : decode cX7_init 107 = .ok (.newarray .int, 2) := dk_188_10 (dk_at dksX7_init_4 16 rfl rfl)
theorem dX7_init_109 : decode cX7_init 109 = .ok (.putfield 47, 3) := dk_181 0 47 (dk_at dksX7_init_4 18 rfl rfl)
theorem dX7_init_112 : decode cX7_init 112 = .ok (.aload_n 0, 1) := dk_42 (dk_at dksX7_init_4 21 rfl rfl)
theorem dX7_init_113 : decode cX7_init 113 = .ok (.sipush 160, 3) := dk_17 0 160 (dk_at dksX7_init_5 0 rfl rfl)
theorem dX7_init_116 : decode cX7_init 116 = .ok (.newarray .int, 2) := dk_188_10 (dk_at dksX7_init_5 3 rfl rfl)
theorem dX7_init_118 : decode cX7_init 118 = .ok (.putfield 50, 3) := dk_181 0 50 (dk_at dksX7_init_5 5 rfl rfl)
theorem dX7_init_121 : decode cX7_init 121 = .ok (.aload_n 0, 1) := dk_42 (dk_at dksX7_init_5 8 rfl rfl)
theorem dX7_init_122 : decode cX7_init 122 = .ok (.sipush 160, 3) := dk_17 0 160 (dk_at dksX7_init_5 9 rfl rfl)
theorem dX7_init_125 : decode cX7_init 125 = .ok (.newarray .int, 2) := dk_188_10 (dk_at dksX7_init_5 12 rfl rfl)
theorem dX7_init_127 : decode cX7_init 127 = .ok (.putfield 53, 3) := dk_181 0 53 (dk_at dksX7_init_5 14 rfl rfl)
theorem dX7_init_130 : decode cX7_init 130 = .ok (.aload_n 0, 1) := dk_42 (dk_at dksX7_init_5 17 rfl rfl)
theorem dX7_init_131 : decode cX7_init 131 = .ok (.sipush 160, 3) := dk_17 0 160 (dk_at dksX7_init_5 18 rfl rfl)
theorem dX7_init_134 : decode cX7_init 134 = .ok (.newarray .int, 2) := dk_188_10 (dk_at dksX7_init_5 21 rfl rfl)
theorem dX7_init_136 : decode cX7_init 136 = .ok (.putfield 56, 3) := dk_181 0 56 (dk_at dksX7_init_6 0 rfl rfl)
theorem dX7_init_139 : decode cX7_init 139 = .ok (.aload_n 0, 1) := dk_42 (dk_at dksX7_init_6 3 rfl rfl)
theorem dX7_init_140 : decode cX7_init 140 = .ok (.sipush 301, 3) := dk_17 1 45 (dk_at dksX7_init_6 4 rfl rfl)
theorem dX7_init_143 : decode cX7_init 143 = .ok (.newarray .int, 2) := dk_188_10 (dk_at dksX7_init_6 7 rfl rfl)
theorem dX7_init_145 : decode cX7_init 145 = .ok (.putfield 59, 3) := dk_181 0 59 (dk_at dksX7_init_6 9 rfl rfl)
theorem dX7_init_148 : decode cX7_init 148 = .ok (.aload_n 0, 1) := dk_42 (dk_at dksX7_init_6 12 rfl rfl)
theorem dX7_init_149 : decode cX7_init 149 = .ok (.bipush 20, 2) := dk_16 20 (dk_at dksX7_init_6 13 rfl rfl)
theorem dX7_init_151 : decode cX7_init 151 = .ok (.newarray .int, 2) := dk_188_10 (dk_at dksX7_init_6 15 rfl rfl)
theorem dX7_init_153 : decode cX7_init 153 = .ok (.putfield 62, 3) := dk_181 0 62 (dk_at dksX7_init_6 17 rfl rfl)
theorem dX7_init_156 : decode cX7_init 156 = .ok (.aload_n 0, 1) := dk_42 (dk_at dksX7_init_6 20 rfl rfl)
theorem dX7_init_157 : decode cX7_init 157 = .ok (.bipush 20, 2) := dk_16 20 (dk_at dksX7_init_6 21 rfl rfl)
theorem dX7_init_159 : decode cX7_init 159 = .ok (.newarray .int, 2) := dk_188_10 (dk_at dksX7_init_7 0 rfl rfl)
theorem dX7_init_161 : decode cX7_init 161 = .ok (.putfield 65, 3) := dk_181 0 65 (dk_at dksX7_init_7 2 rfl rfl)
theorem dX7_init_164 : decode cX7_init 164 = .ok (.aload_n 0, 1) := dk_42 (dk_at dksX7_init_7 5 rfl rfl)
theorem dX7_init_165 : decode cX7_init 165 = .ok (.bipush 21, 2) := dk_16 21 (dk_at dksX7_init_7 6 rfl rfl)
theorem dX7_init_167 : decode cX7_init 167 = .ok (.newarray .int, 2) := dk_188_10 (dk_at dksX7_init_7 8 rfl rfl)
theorem dX7_init_169 : decode cX7_init 169 = .ok (.putfield 68, 3) := dk_181 0 68 (dk_at dksX7_init_7 10 rfl rfl)
theorem dX7_init_172 : decode cX7_init 172 = .ok (.aload_n 0, 1) := dk_42 (dk_at dksX7_init_7 13 rfl rfl)
theorem dX7_init_173 : decode cX7_init 173 = .ok (.bipush 20, 2) := dk_16 20 (dk_at dksX7_init_7 14 rfl rfl)
theorem dX7_init_175 : decode cX7_init 175 = .ok (.newarray .int, 2) := dk_188_10 (dk_at dksX7_init_7 16 rfl rfl)
theorem dX7_init_177 : decode cX7_init 177 = .ok (.putfield 71, 3) := dk_181 0 71 (dk_at dksX7_init_7 18 rfl rfl)
theorem dX7_init_180 : decode cX7_init 180 = .ok (.aload_n 0, 1) := dk_42 (dk_at dksX7_init_7 21 rfl rfl)
theorem dX7_init_181 : decode cX7_init 181 = .ok (.iconst (-1), 1) := dk_2 (dk_at dksX7_init_7 22 rfl rfl)
theorem dX7_init_182 : decode cX7_init 182 = .ok (.putfield 74, 3) := dk_181 0 74 (dk_at dksX7_init_8 0 rfl rfl)
theorem dX7_init_185 : decode cX7_init 185 = .ok (.aload_n 0, 1) := dk_42 (dk_at dksX7_init_8 3 rfl rfl)
theorem dX7_init_186 : decode cX7_init 186 = .ok (.bipush 21, 2) := dk_16 21 (dk_at dksX7_init_8 4 rfl rfl)
theorem dX7_init_188 : decode cX7_init 188 = .ok (.newarray .int, 2) := dk_188_10 (dk_at dksX7_init_8 6 rfl rfl)
theorem dX7_init_190 : decode cX7_init 190 = .ok (.putfield 77, 3) := dk_181 0 77 (dk_at dksX7_init_8 8 rfl rfl)
theorem dX7_init_193 : decode cX7_init 193 = .ok (.aload_n 0, 1) := dk_42 (dk_at dksX7_init_8 11 rfl rfl)
theorem dX7_init_194 : decode cX7_init 194 = .ok (.bipush 22, 2) := dk_16 22 (dk_at dksX7_init_8 12 rfl rfl)
theorem dX7_init_196 : decode cX7_init 196 = .ok (.newarray .int, 2) := dk_188_10 (dk_at dksX7_init_8 14 rfl rfl)
theorem dX7_init_198 : decode cX7_init 198 = .ok (.putfield 80, 3) := dk_181 0 80 (dk_at dksX7_init_8 16 rfl rfl)
theorem dX7_init_201 : decode cX7_init 201 = .ok (.aload_n 0, 1) := dk_42 (dk_at dksX7_init_8 19 rfl rfl)
theorem dX7_init_202 : decode cX7_init 202 = .ok (.sipush 4161, 3) := dk_17 16 65 (dk_at dksX7_init_8 20 rfl rfl)
theorem dX7_init_205 : decode cX7_init 205 = .ok (.newarray .int, 2) := dk_188_10 (dk_at dksX7_init_9 0 rfl rfl)
theorem dX7_init_207 : decode cX7_init 207 = .ok (.putfield 83, 3) := dk_181 0 83 (dk_at dksX7_init_9 2 rfl rfl)
theorem dX7_init_210 : decode cX7_init 210 = .ok (.aload_n 0, 1) := dk_42 (dk_at dksX7_init_9 5 rfl rfl)
theorem dX7_init_211 : decode cX7_init 211 = .ok (.iconst (-1), 1) := dk_2 (dk_at dksX7_init_9 6 rfl rfl)
theorem dX7_init_212 : decode cX7_init 212 = .ok (.putfield 86, 3) := dk_181 0 86 (dk_at dksX7_init_9 7 rfl rfl)
theorem dX7_init_215 : decode cX7_init 215 = .ok (.aload_n 0, 1) := dk_42 (dk_at dksX7_init_9 10 rfl rfl)
theorem dX7_init_216 : decode cX7_init 216 = .ok (.sipush 1250, 3) := dk_17 4 226 (dk_at dksX7_init_9 11 rfl rfl)
theorem dX7_init_219 : decode cX7_init 219 = .ok (.newarray .int, 2) := dk_188_10 (dk_at dksX7_init_9 14 rfl rfl)
theorem dX7_init_221 : decode cX7_init 221 = .ok (.putfield 89, 3) := dk_181 0 89 (dk_at dksX7_init_9 16 rfl rfl)
theorem dX7_init_224 : decode cX7_init 224 = .ok (.aload_n 0, 1) := dk_42 (dk_at dksX7_init_9 19 rfl rfl)
theorem dX7_init_225 : decode cX7_init 225 = .ok (.sipush 1250, 3) := dk_17 4 226 (dk_at dksX7_init_9 20 rfl rfl)
theorem dX7_init_228 : decode cX7_init 228 = .ok (.newarray .int, 2) := dk_188_10 (dk_at dksX7_init_10 0 rfl rfl)
theorem dX7_init_230 : decode cX7_init 230 = .ok (.putfield 92, 3) := dk_181 0 92 (dk_at dksX7_init_10 2 rfl rfl)
theorem dX7_init_233 : decode cX7_init 233 = .ok (.aload_n 0, 1) := dk_42 (dk_at dksX7_init_10 5 rfl rfl)
theorem dX7_init_234 : decode cX7_init 234 = .ok (.iconst 0, 1) := dk_3 (dk_at dksX7_init_10 6 rfl rfl)
theorem dX7_init_235 : decode cX7_init 235 = .ok (.invokevirtual 95, 3) := dk_182 0 95 (dk_at dksX7_init_10 7 rfl rfl)
theorem dX7_init_238 : decode cX7_init 238 = .ok (.return_, 1) := dk_177 (dk_at dksX7_init_10 10 rfl rfl)
abbrev cX7_empties : ByteArray := prog_17_method_2_code
def yX7_empties : MethodName := ⟨RX7, "empties", "(I)V"⟩
def dkwX7_empties_2 : List UInt8 := [27, 16, 7, 96, 2, 79, 177]
abbrev dktX7_empties_2 : List UInt8 := dkwX7_empties_2 ++ []
def dkwX7_empties_1 : List UInt8 := [42, 180, 0, 7, 27, 7, 96, 16, 32, 79, 42, 180, 0, 7, 27, 8, 96, 16, 25, 79, 42, 180, 0, 7]
abbrev dktX7_empties_1 : List UInt8 := dkwX7_empties_1 ++ dktX7_empties_2
def dkwX7_empties_0 : List UInt8 := [3, 61, 28, 17, 12, 228, 162, 0, 18, 42, 180, 0, 7, 27, 28, 96, 3, 79, 132, 2, 1, 167, 255, 237]
abbrev dktX7_empties_0 : List UInt8 := dkwX7_empties_0 ++ dktX7_empties_1
theorem dksX7_empties_0 : cX7_empties.data.toList.drop 0 = dktX7_empties_0 := by decide +kernel
theorem dksX7_empties_1 : cX7_empties.data.toList.drop 24 = dktX7_empties_1 := dk_seg dksX7_empties_0 24 rfl rfl
theorem dksX7_empties_2 : cX7_empties.data.toList.drop 48 = dktX7_empties_2 := dk_seg dksX7_empties_1 24 rfl rfl
theorem dX7_empties_0 : decode cX7_empties 0 = .ok (.iconst 0, 1) := dk_3 (dk_at dksX7_empties_0 0 rfl rfl)
theorem dX7_empties_1 : decode cX7_empties 1 = .ok (.istore_n 2, 1) := dk_61 (dk_at dksX7_empties_0 1 rfl rfl)
theorem dX7_empties_2 : decode cX7_empties 2 = .ok (.iload_n 2, 1) := dk_28 (dk_at dksX7_empties_0 2 rfl rfl)
theorem dX7_empties_3 : decode cX7_empties 3 = .ok (.sipush 3300, 3) := dk_17 12 228 (dk_at dksX7_empties_0 3 rfl rfl)
theorem dX7_empties_6 : decode cX7_empties 6 = .ok (.if_icmp .ge 18, 3) := dk_162 0 18 (dk_at dksX7_empties_0 6 rfl rfl)
theorem dX7_empties_9 : decode cX7_empties 9 = .ok (.aload_n 0, 1) := dk_42 (dk_at dksX7_empties_0 9 rfl rfl)
theorem dX7_empties_10 : decode cX7_empties 10 = .ok (.getfield 7, 3) := dk_180 0 7 (dk_at dksX7_empties_0 10 rfl rfl)
theorem dX7_empties_13 : decode cX7_empties 13 = .ok (.iload_n 1, 1) := dk_27 (dk_at dksX7_empties_0 13 rfl rfl)
theorem dX7_empties_14 : decode cX7_empties 14 = .ok (.iload_n 2, 1) := dk_28 (dk_at dksX7_empties_0 14 rfl rfl)
theorem dX7_empties_15 : decode cX7_empties 15 = .ok (.iadd, 1) := dk_96 (dk_at dksX7_empties_0 15 rfl rfl)
theorem dX7_empties_16 : decode cX7_empties 16 = .ok (.iconst 0, 1) := dk_3 (dk_at dksX7_empties_0 16 rfl rfl)
theorem dX7_empties_17 : decode cX7_empties 17 = .ok (.iastore, 1) := dk_79 (dk_at dksX7_empties_0 17 rfl rfl)
theorem dX7_empties_18 : decode cX7_empties 18 = .ok (.iinc 2 1, 3) := dk_132 2 1 (dk_at dksX7_empties_0 18 rfl rfl)
theorem dX7_empties_21 : decode cX7_empties 21 = .ok (.goto (-19), 3) := dk_167 255 237 (dk_at dksX7_empties_0 21 rfl rfl)
theorem dX7_empties_24 : decode cX7_empties 24 = .ok (.aload_n 0, 1) := dk_42 (dk_at dksX7_empties_1 0 rfl rfl)
theorem dX7_empties_25 : decode cX7_empties 25 = .ok (.getfield 7, 3) := dk_180 0 7 (dk_at dksX7_empties_1 1 rfl rfl)
theorem dX7_empties_28 : decode cX7_empties 28 = .ok (.iload_n 1, 1) := dk_27 (dk_at dksX7_empties_1 4 rfl rfl)
theorem dX7_empties_29 : decode cX7_empties 29 = .ok (.iconst 4, 1) := dk_7 (dk_at dksX7_empties_1 5 rfl rfl)
theorem dX7_empties_30 : decode cX7_empties 30 = .ok (.iadd, 1) := dk_96 (dk_at dksX7_empties_1 6 rfl rfl)
theorem dX7_empties_31 : decode cX7_empties 31 = .ok (.bipush 32, 2) := dk_16 32 (dk_at dksX7_empties_1 7 rfl rfl)
theorem dX7_empties_33 : decode cX7_empties 33 = .ok (.iastore, 1) := dk_79 (dk_at dksX7_empties_1 9 rfl rfl)
theorem dX7_empties_34 : decode cX7_empties 34 = .ok (.aload_n 0, 1) := dk_42 (dk_at dksX7_empties_1 10 rfl rfl)
theorem dX7_empties_35 : decode cX7_empties 35 = .ok (.getfield 7, 3) := dk_180 0 7 (dk_at dksX7_empties_1 11 rfl rfl)
theorem dX7_empties_38 : decode cX7_empties 38 = .ok (.iload_n 1, 1) := dk_27 (dk_at dksX7_empties_1 14 rfl rfl)
theorem dX7_empties_39 : decode cX7_empties 39 = .ok (.iconst 5, 1) := dk_8 (dk_at dksX7_empties_1 15 rfl rfl)
theorem dX7_empties_40 : decode cX7_empties 40 = .ok (.iadd, 1) := dk_96 (dk_at dksX7_empties_1 16 rfl rfl)
theorem dX7_empties_41 : decode cX7_empties 41 = .ok (.bipush 25, 2) := dk_16 25 (dk_at dksX7_empties_1 17 rfl rfl)
theorem dX7_empties_43 : decode cX7_empties 43 = .ok (.iastore, 1) := dk_79 (dk_at dksX7_empties_1 19 rfl rfl)
theorem dX7_empties_44 : decode cX7_empties 44 = .ok (.aload_n 0, 1) := dk_42 (dk_at dksX7_empties_1 20 rfl rfl)
theorem dX7_empties_45 : decode cX7_empties 45 = .ok (.getfield 7, 3) := dk_180 0 7 (dk_at dksX7_empties_1 21 rfl rfl)
theorem dX7_empties_48 : decode cX7_empties 48 = .ok (.iload_n 1, 1) := dk_27 (dk_at dksX7_empties_2 0 rfl rfl)
theorem dX7_empties_49 : decode cX7_empties 49 = .ok (.bipush 7, 2) := dk_16 7 (dk_at dksX7_empties_2 1 rfl rfl)
theorem dX7_empties_51 : decode cX7_empties 51 = .ok (.iadd, 1) := dk_96 (dk_at dksX7_empties_2 3 rfl rfl)
theorem dX7_empties_52 : decode cX7_empties 52 = .ok (.iconst (-1), 1) := dk_2 (dk_at dksX7_empties_2 4 rfl rfl)
theorem dX7_empties_53 : decode cX7_empties 53 = .ok (.iastore, 1) := dk_79 (dk_at dksX7_empties_2 5 rfl rfl)
theorem dX7_empties_54 : decode cX7_empties 54 = .ok (.return_, 1) := dk_177 (dk_at dksX7_empties_2 6 rfl rfl)
abbrev cX7_status : ByteArray := prog_17_method_3_code
def yX7_status : MethodName := ⟨RX7, "status", "()I"⟩
theorem dX7_status_0 : decode cX7_status 0 = .ok (.aload_n 0, 1) := by decide +kernel
theorem dX7_status_1 : decode cX7_status 1 = .ok (.getfield 99, 3) := by decide +kernel
theorem dX7_status_4 : decode cX7_status 4 = .ok (.ireturn, 1) := by decide +kernel
abbrev cX7_top : ByteArray := prog_17_method_4_code
def yX7_top : MethodName := ⟨RX7, "top", "()J"⟩
theorem dX7_top_0 : decode cX7_top 0 = .ok (.aload_n 0, 1) := by decide +kernel
theorem dX7_top_1 : decode cX7_top 1 = .ok (.getfield 102, 3) := by decide +kernel
theorem dX7_top_4 : decode cX7_top 4 = .ok (.lreturn, 1) := by decide +kernel
abbrev cX7_bottom : ByteArray := prog_17_method_5_code
def yX7_bottom : MethodName := ⟨RX7, "bottom", "()J"⟩
theorem dX7_bottom_0 : decode cX7_bottom 0 = .ok (.aload_n 0, 1) := by decide +kernel
theorem dX7_bottom_1 : decode cX7_bottom 1 = .ok (.getfield 13, 3) := by decide +kernel
theorem dX7_bottom_4 : decode cX7_bottom 4 = .ok (.lreturn, 1) := by decide +kernel
abbrev cX7_tray : ByteArray := prog_17_method_12_code
def yX7_tray : MethodName := ⟨RX7, "tray", "(III)Z"⟩
def dkwX7_tray_3 : List UInt8 := [167, 255, 234, 42, 3, 182, 0, 105, 172]
abbrev dktX7_tray_3 : List UInt8 := dkwX7_tray_3 ++ []
def dkwX7_tray_2 : List UInt8 := [54, 4, 21, 4, 29, 162, 0, 22, 42, 180, 0, 23, 16, 60, 27, 104, 21, 4, 96, 9, 80, 132, 4, 1]
abbrev dktX7_tray_2 : List UInt8 := dkwX7_tray_2 ++ dktX7_tray_3
def dkwX7_tray_1 : List UInt8 := [164, 0, 9, 42, 4, 182, 0, 105, 172, 42, 180, 0, 17, 27, 28, 79, 42, 180, 0, 20, 27, 29, 79, 3]
abbrev dktX7_tray_1 : List UInt8 := dkwX7_tray_1 ++ dktX7_tray_2
def dkwX7_tray_0 : List UInt8 := [27, 184, 0, 109, 153, 0, 22, 28, 155, 0, 18, 28, 6, 163, 0, 13, 29, 155, 0, 9, 29, 16, 60]
abbrev dktX7_tray_0 : List UInt8 := dkwX7_tray_0 ++ dktX7_tray_1
theorem dksX7_tray_0 : cX7_tray.data.toList.drop 0 = dktX7_tray_0 := by decide +kernel
theorem dksX7_tray_1 : cX7_tray.data.toList.drop 23 = dktX7_tray_1 := dk_seg dksX7_tray_0 23 rfl rfl
theorem dksX7_tray_2 : cX7_tray.data.toList.drop 47 = dktX7_tray_2 := dk_seg dksX7_tray_1 24 rfl rfl
theorem dksX7_tray_3 : cX7_tray.data.toList.drop 71 = dktX7_tray_3 := dk_seg dksX7_tray_2 24 rfl rfl
theorem dX7_tray_0 : decode cX7_tray 0 = .ok (.iload_n 1, 1) := dk_27 (dk_at dksX7_tray_0 0 rfl rfl)
theorem dX7_tray_1 : decode cX7_tray 1 = .ok (.invokestatic 109, 3) := dk_184 0 109 (dk_at dksX7_tray_0 1 rfl rfl)
theorem dX7_tray_4 : decode cX7_tray 4 = .ok (.ifCond .eq 22, 3) := dk_153 0 22 (dk_at dksX7_tray_0 4 rfl rfl)
theorem dX7_tray_7 : decode cX7_tray 7 = .ok (.iload_n 2, 1) := dk_28 (dk_at dksX7_tray_0 7 rfl rfl)
theorem dX7_tray_8 : decode cX7_tray 8 = .ok (.ifCond .lt 18, 3) := dk_155 0 18 (dk_at dksX7_tray_0 8 rfl rfl)
theorem dX7_tray_11 : decode cX7_tray 11 = .ok (.iload_n 2, 1) := dk_28 (dk_at dksX7_tray_0 11 rfl rfl)
theorem dX7_tray_12 : decode cX7_tray 12 = .ok (.iconst 3, 1) := dk_6 (dk_at dksX7_tray_0 12 rfl rfl)
theorem dX7_tray_13 : decode cX7_tray 13 = .ok (.if_icmp .gt 13, 3) := dk_163 0 13 (dk_at dksX7_tray_0 13 rfl rfl)
theorem dX7_tray_16 : decode cX7_tray 16 = .ok (.iload_n 3, 1) := dk_29 (dk_at dksX7_tray_0 16 rfl rfl)
theorem dX7_tray_17 : decode cX7_tray 17 = .ok (.ifCond .lt 9, 3) := dk_155 0 9 (dk_at dksX7_tray_0 17 rfl rfl)
theorem dX7_tray_20 : decode cX7_tray 20 = .ok (.iload_n 3, 1) := dk_29 (dk_at dksX7_tray_0 20 rfl rfl)
theorem dX7_tray_21 : decode cX7_tray 21 = .ok (.bipush 60, 2) := dk_16 60 (dk_at dksX7_tray_0 21 rfl rfl)
theorem dX7_tray_23 : decode cX7_tray 23 = .ok (.if_icmp .le 9, 3) := dk_164 0 9 (dk_at dksX7_tray_1 0 rfl rfl)
theorem dX7_tray_26 : decode cX7_tray 26 = .ok (.aload_n 0, 1) := dk_42 (dk_at dksX7_tray_1 3 rfl rfl)
theorem dX7_tray_27 : decode cX7_tray 27 = .ok (.iconst 1, 1) := dk_4 (dk_at dksX7_tray_1 4 rfl rfl)
theorem dX7_tray_28 : decode cX7_tray 28 = .ok (.invokevirtual 105, 3) := dk_182 0 105 (dk_at dksX7_tray_1 5 rfl rfl)
theorem dX7_tray_31 : decode cX7_tray 31 = .ok (.ireturn, 1) := dk_172 (dk_at dksX7_tray_1 8 rfl rfl)
theorem dX7_tray_32 : decode cX7_tray 32 = .ok (.aload_n 0, 1) := dk_42 (dk_at dksX7_tray_1 9 rfl rfl)
theorem dX7_tray_33 : decode cX7_tray 33 = .ok (.getfield 17, 3) := dk_180 0 17 (dk_at dksX7_tray_1 10 rfl rfl)
theorem dX7_tray_36 : decode cX7_tray 36 = .ok (.iload_n 1, 1) := dk_27 (dk_at dksX7_tray_1 13 rfl rfl)
theorem dX7_tray_37 : decode cX7_tray 37 = .ok (.iload_n 2, 1) := dk_28 (dk_at dksX7_tray_1 14 rfl rfl)
theorem dX7_tray_38 : decode cX7_tray 38 = .ok (.iastore, 1) := dk_79 (dk_at dksX7_tray_1 15 rfl rfl)
theorem dX7_tray_39 : decode cX7_tray 39 = .ok (.aload_n 0, 1) := dk_42 (dk_at dksX7_tray_1 16 rfl rfl)
theorem dX7_tray_40 : decode cX7_tray 40 = .ok (.getfield 20, 3) := dk_180 0 20 (dk_at dksX7_tray_1 17 rfl rfl)
theorem dX7_tray_43 : decode cX7_tray 43 = .ok (.iload_n 1, 1) := dk_27 (dk_at dksX7_tray_1 20 rfl rfl)
theorem dX7_tray_44 : decode cX7_tray 44 = .ok (.iload_n 3, 1) := dk_29 (dk_at dksX7_tray_1 21 rfl rfl)
theorem dX7_tray_45 : decode cX7_tray 45 = .ok (.iastore, 1) := dk_79 (dk_at dksX7_tray_1 22 rfl rfl)
theorem dX7_tray_46 : decode cX7_tray 46 = .ok (.iconst 0, 1) := dk_3 (dk_at dksX7_tray_1 23 rfl rfl)
theorem dX7_tray_47 : decode cX7_tray 47 = .ok (.istore 4, 2) := dk_54 4 (dk_at dksX7_tray_2 0 rfl rfl)
theorem dX7_tray_49 : decode cX7_tray 49 = .ok (.iload 4, 2) := dk_21 4 (dk_at dksX7_tray_2 2 rfl rfl)
theorem dX7_tray_51 : decode cX7_tray 51 = .ok (.iload_n 3, 1) := dk_29 (dk_at dksX7_tray_2 4 rfl rfl)
theorem dX7_tray_52 : decode cX7_tray 52 = .ok (.if_icmp .ge 22, 3) := dk_162 0 22 (dk_at dksX7_tray_2 5 rfl rfl)
theorem dX7_tray_55 : decode cX7_tray 55 = .ok (.aload_n 0, 1) := dk_42 (dk_at dksX7_tray_2 8 rfl rfl)
theorem dX7_tray_56 : decode cX7_tray 56 = .ok (.getfield 23, 3) := dk_180 0 23 (dk_at dksX7_tray_2 9 rfl rfl)
theorem dX7_tray_59 : decode cX7_tray 59 = .ok (.bipush 60, 2) := dk_16 60 (dk_at dksX7_tray_2 12 rfl rfl)
theorem dX7_tray_61 : decode cX7_tray 61 = .ok (.iload_n 1, 1) := dk_27 (dk_at dksX7_tray_2 14 rfl rfl)
theorem dX7_tray_62 : decode cX7_tray 62 = .ok (.imul, 1) := dk_104 (dk_at dksX7_tray_2 15 rfl rfl)
theorem dX7_tray_63 : decode cX7_tray 63 = .ok (.iload 4, 2) := dk_21 4 (dk_at dksX7_tray_2 16 rfl rfl)
theorem dX7_tray_65 : decode cX7_tray 65 = .ok (.iadd, 1) := dk_96 (dk_at dksX7_tray_2 18 rfl rfl)
theorem dX7_tray_66 : decode cX7_tray 66 = .ok (.lconst 0, 1) := dk_9 (dk_at dksX7_tray_2 19 rfl rfl)
theorem dX7_tray_67 : decode cX7_tray 67 = .ok (.lastore, 1) := dk_80 (dk_at dksX7_tray_2 20 rfl rfl)
theorem dX7_tray_68 : decode cX7_tray 68 = .ok (.iinc 4 1, 3) := dk_132 4 1 (dk_at dksX7_tray_2 21 rfl rfl)
theorem dX7_tray_71 : decode cX7_tray 71 = .ok (.goto (-22), 3) := dk_167 255 234 (dk_at dksX7_tray_3 0 rfl rfl)
theorem dX7_tray_74 : decode cX7_tray 74 = .ok (.aload_n 0, 1) := dk_42 (dk_at dksX7_tray_3 3 rfl rfl)
theorem dX7_tray_75 : decode cX7_tray 75 = .ok (.iconst 0, 1) := dk_3 (dk_at dksX7_tray_3 4 rfl rfl)
theorem dX7_tray_76 : decode cX7_tray 76 = .ok (.invokevirtual 105, 3) := dk_182 0 105 (dk_at dksX7_tray_3 5 rfl rfl)
theorem dX7_tray_79 : decode cX7_tray 79 = .ok (.ireturn, 1) := dk_172 (dk_at dksX7_tray_3 8 rfl rfl)
abbrev cX7_isTray : ByteArray := prog_17_method_10_code
def yX7_isTray : MethodName := ⟨RX7, "isTray", "(I)Z"⟩
def dkwX7_isTray_0 : List UInt8 := [26, 155, 0, 12, 26, 7, 162, 0, 7, 4, 167, 0, 4, 3, 172]
abbrev dktX7_isTray_0 : List UInt8 := dkwX7_isTray_0 ++ []
theorem dksX7_isTray_0 : cX7_isTray.data.toList.drop 0 = dktX7_isTray_0 := by decide +kernel
theorem dX7_isTray_0 : decode cX7_isTray 0 = .ok (.iload_n 0, 1) := dk_26 (dk_at dksX7_isTray_0 0 rfl rfl)
theorem dX7_isTray_1 : decode cX7_isTray 1 = .ok (.ifCond .lt 12, 3) := dk_155 0 12 (dk_at dksX7_isTray_0 1 rfl rfl)
theorem dX7_isTray_4 : decode cX7_isTray 4 = .ok (.iload_n 0, 1) := dk_26 (dk_at dksX7_isTray_0 4 rfl rfl)
theorem dX7_isTray_5 : decode cX7_isTray 5 = .ok (.iconst 4, 1) := dk_7 (dk_at dksX7_isTray_0 5 rfl rfl)
theorem dX7_isTray_6 : decode cX7_isTray 6 = .ok (.if_icmp .ge 7, 3) := dk_162 0 7 (dk_at dksX7_isTray_0 6 rfl rfl)
theorem dX7_isTray_9 : decode cX7_isTray 9 = .ok (.iconst 1, 1) := dk_4 (dk_at dksX7_isTray_0 9 rfl rfl)
theorem dX7_isTray_10 : decode cX7_isTray 10 = .ok (.goto 4, 3) := dk_167 0 4 (dk_at dksX7_isTray_0 10 rfl rfl)
theorem dX7_isTray_13 : decode cX7_isTray 13 = .ok (.iconst 0, 1) := dk_3 (dk_at dksX7_isTray_0 13 rfl rfl)
theorem dX7_isTray_14 : decode cX7_isTray 14 = .ok (.ireturn, 1) := dk_172 (dk_at dksX7_isTray_0 14 rfl rfl)
abbrev cX7_is : ByteArray := prog_17_method_6_code
def yX7_is : MethodName := ⟨RX7, "is", "(I)Z"⟩
def dkwX7_is_0 : List UInt8 := [42, 27, 181, 0, 99, 27, 154, 0, 7, 4, 167, 0, 4, 3, 172]
abbrev dktX7_is_0 : List UInt8 := dkwX7_is_0 ++ []
theorem dksX7_is_0 : cX7_is.data.toList.drop 0 = dktX7_is_0 := by decide +kernel
theorem dX7_is_0 : decode cX7_is 0 = .ok (.aload_n 0, 1) := dk_42 (dk_at dksX7_is_0 0 rfl rfl)
theorem dX7_is_1 : decode cX7_is 1 = .ok (.iload_n 1, 1) := dk_27 (dk_at dksX7_is_0 1 rfl rfl)
theorem dX7_is_2 : decode cX7_is 2 = .ok (.putfield 99, 3) := dk_181 0 99 (dk_at dksX7_is_0 2 rfl rfl)
theorem dX7_is_5 : decode cX7_is 5 = .ok (.iload_n 1, 1) := dk_27 (dk_at dksX7_is_0 5 rfl rfl)
theorem dX7_is_6 : decode cX7_is 6 = .ok (.ifCond .ne 7, 3) := dk_154 0 7 (dk_at dksX7_is_0 6 rfl rfl)
theorem dX7_is_9 : decode cX7_is 9 = .ok (.iconst 1, 1) := dk_4 (dk_at dksX7_is_0 9 rfl rfl)
theorem dX7_is_10 : decode cX7_is 10 = .ok (.goto 4, 3) := dk_167 0 4 (dk_at dksX7_is_0 10 rfl rfl)
theorem dX7_is_13 : decode cX7_is 13 = .ok (.iconst 0, 1) := dk_3 (dk_at dksX7_is_0 13 rfl rfl)
theorem dX7_is_14 : decode cX7_is 14 = .ok (.ireturn, 1) := dk_172 (dk_at dksX7_is_0 14 rfl rfl)
abbrev cX7_write : ByteArray := prog_17_method_14_code
def yX7_write : MethodName := ⟨RX7, "write", "(IIJ)Z"⟩
def dkwX7_write_1 : List UInt8 := [42, 180, 0, 17, 27, 46, 184, 0, 116, 80, 42, 21, 5, 182, 0, 105, 172]
abbrev dktX7_write_1 : List UInt8 := dkwX7_write_1 ++ []
def dkwX7_write_0 : List UInt8 := [42, 27, 28, 182, 0, 112, 54, 5, 21, 5, 154, 0, 24, 42, 180, 0, 23, 16, 60, 27, 104, 28, 96, 33]
abbrev dktX7_write_0 : List UInt8 := dkwX7_write_0 ++ dktX7_write_1
theorem dksX7_write_0 : cX7_write.data.toList.drop 0 = dktX7_write_0 := by decide +kernel
theorem dksX7_write_1 : cX7_write.data.toList.drop 24 = dktX7_write_1 := dk_seg dksX7_write_0 24 rfl rfl
theorem dX7_write_0 : decode cX7_write 0 = .ok (.aload_n 0, 1) := dk_42 (dk_at dksX7_write_0 0 rfl rfl)
theorem dX7_write_1 : decode cX7_write 1 = .ok (.iload_n 1, 1) := dk_27 (dk_at dksX7_write_0 1 rfl rfl)
theorem dX7_write_2 : decode cX7_write 2 = .ok (.iload_n 2, 1) := dk_28 (dk_at dksX7_write_0 2 rfl rfl)
theorem dX7_write_3 : decode cX7_write 3 = .ok (.invokevirtual 112, 3) := dk_182 0 112 (dk_at dksX7_write_0 3 rfl rfl)
theorem dX7_write_6 : decode cX7_write 6 = .ok (.istore 5, 2) := dk_54 5 (dk_at dksX7_write_0 6 rfl rfl)
theorem dX7_write_8 : decode cX7_write 8 = .ok (.iload 5, 2) := dk_21 5 (dk_at dksX7_write_0 8 rfl rfl)
theorem dX7_write_10 : decode cX7_write 10 = .ok (.ifCond .ne 24, 3) := dk_154 0 24 (dk_at dksX7_write_0 10 rfl rfl)
theorem dX7_write_13 : decode cX7_write 13 = .ok (.aload_n 0, 1) := dk_42 (dk_at dksX7_write_0 13 rfl rfl)
theorem dX7_write_14 : decode cX7_write 14 = .ok (.getfield 23, 3) := dk_180 0 23 (dk_at dksX7_write_0 14 rfl rfl)
theorem dX7_write_17 : decode cX7_write 17 = .ok (.bipush 60, 2) := dk_16 60 (dk_at dksX7_write_0 17 rfl rfl)
theorem dX7_write_19 : decode cX7_write 19 = .ok (.iload_n 1, 1) := dk_27 (dk_at dksX7_write_0 19 rfl rfl)
theorem dX7_write_20 : decode cX7_write 20 = .ok (.imul, 1) := dk_104 (dk_at dksX7_write_0 20 rfl rfl)
theorem dX7_write_21 : decode cX7_write 21 = .ok (.iload_n 2, 1) := dk_28 (dk_at dksX7_write_0 21 rfl rfl)
theorem dX7_write_22 : decode cX7_write 22 = .ok (.iadd, 1) := dk_96 (dk_at dksX7_write_0 22 rfl rfl)
theorem dX7_write_23 : decode cX7_write 23 = .ok (.lload_n 3, 1) := dk_33 (dk_at dksX7_write_0 23 rfl rfl)
theorem dX7_write_24 : decode cX7_write 24 = .ok (.aload_n 0, 1) := dk_42 (dk_at dksX7_write_1 0 rfl rfl)
theorem dX7_write_25 : decode cX7_write 25 = .ok (.getfield 17, 3) := dk_180 0 17 (dk_at dksX7_write_1 1 rfl rfl)
theorem dX7_write_28 : decode cX7_write 28 = .ok (.iload_n 1, 1) := dk_27 (dk_at dksX7_write_1 4 rfl rfl)
theorem dX7_write_29 : decode cX7_write 29 = .ok (.iaload, 1) := dk_46 (dk_at dksX7_write_1 5 rfl rfl)
theorem dX7_write_30 : decode cX7_write 30 = .ok (.invokestatic 116, 3) := dk_184 0 116 (dk_at dksX7_write_1 6 rfl rfl)
theorem dX7_write_33 : decode cX7_write 33 = .ok (.lastore, 1) := dk_80 (dk_at dksX7_write_1 9 rfl rfl)
theorem dX7_write_34 : decode cX7_write 34 = .ok (.aload_n 0, 1) := dk_42 (dk_at dksX7_write_1 10 rfl rfl)
theorem dX7_write_35 : decode cX7_write 35 = .ok (.iload 5, 2) := dk_21 5 (dk_at dksX7_write_1 11 rfl rfl)
theorem dX7_write_37 : decode cX7_write 37 = .ok (.invokevirtual 105, 3) := dk_182 0 105 (dk_at dksX7_write_1 13 rfl rfl)
theorem dX7_write_40 : decode cX7_write 40 = .ok (.ireturn, 1) := dk_172 (dk_at dksX7_write_1 16 rfl rfl)
abbrev cX7_wrongPlace : ByteArray := prog_17_method_13_code
def yX7_wrongPlace : MethodName := ⟨RX7, "wrongPlace", "(II)I"⟩
def dkwX7_wrongPlace_1 : List UInt8 := [167, 0, 22, 28, 155, 0, 13, 28, 42, 180, 0, 20, 27, 46, 161, 0, 7, 6, 167, 0, 4, 3, 172]
abbrev dktX7_wrongPlace_1 : List UInt8 := dkwX7_wrongPlace_1 ++ []
def dkwX7_wrongPlace_0 : List UInt8 := [27, 184, 0, 109, 154, 0, 7, 4, 167, 0, 36, 42, 180, 0, 20, 27, 46, 2, 160, 0, 7, 5]
abbrev dktX7_wrongPlace_0 : List UInt8 := dkwX7_wrongPlace_0 ++ dktX7_wrongPlace_1
theorem dksX7_wrongPlace_0 : cX7_wrongPlace.data.toList.drop 0 = dktX7_wrongPlace_0 := by decide +kernel
theorem dksX7_wrongPlace_1 : cX7_wrongPlace.data.toList.drop 22 = dktX7_wrongPlace_1 := dk_seg dksX7_wrongPlace_0 22 rfl rfl
theorem dX7_wrongPlace_0 : decode cX7_wrongPlace 0 = .ok (.iload_n 1, 1) := dk_27 (dk_at dksX7_wrongPlace_0 0 rfl rfl)
theorem dX7_wrongPlace_1 : decode cX7_wrongPlace 1 = .ok (.invokestatic 109, 3) := dk_184 0 109 (dk_at dksX7_wrongPlace_0 1 rfl rfl)
theorem dX7_wrongPlace_4 : decode cX7_wrongPlace 4 = .ok (.ifCond .ne 7, 3) := dk_154 0 7 (dk_at dksX7_wrongPlace_0 4 rfl rfl)
theorem dX7_wrongPlace_7 : decode cX7_wrongPlace 7 = .ok (.iconst 1, 1) := dk_4 (dk_at dksX7_wrongPlace_0 7 rfl rfl)
theorem dX7_wrongPlace_8 : decode cX7_wrongPlace 8 = .ok (.goto 36, 3) := dk_167 0 36 (dk_at dksX7_wrongPlace_0 8 rfl rfl)
theorem dX7_wrongPlace_11 : decode cX7_wrongPlace 11 = .ok (.aload_n 0, 1) := dk_42 (dk_at dksX7_wrongPlace_0 11 rfl rfl)
theorem dX7_wrongPlace_12 : decode cX7_wrongPlace 12 = .ok (.getfield 20, 3) := dk_180 0 20 (dk_at dksX7_wrongPlace_0 12 rfl rfl)
theorem dX7_wrongPlace_15 : decode cX7_wrongPlace 15 = .ok (.iload_n 1, 1) := dk_27 (dk_at dksX7_wrongPlace_0 15 rfl rfl)
theorem dX7_wrongPlace_16 : decode cX7_wrongPlace 16 = .ok (.iaload, 1) := dk_46 (dk_at dksX7_wrongPlace_0 16 rfl rfl)
theorem dX7_wrongPlace_17 : decode cX7_wrongPlace 17 = .ok (.iconst (-1), 1) := dk_2 (dk_at dksX7_wrongPlace_0 17 rfl rfl)
theorem dX7_wrongPlace_18 : decode cX7_wrongPlace 18 = .ok (.if_icmp .ne 7, 3) := dk_160 0 7 (dk_at dksX7_wrongPlace_0 18 rfl rfl)
theorem dX7_wrongPlace_21 : decode cX7_wrongPlace 21 = .ok (.iconst 2, 1) := dk_5 (dk_at dksX7_wrongPlace_0 21 rfl rfl)
theorem dX7_wrongPlace_22 : decode cX7_wrongPlace 22 = .ok (.goto 22, 3) := dk_167 0 22 (dk_at dksX7_wrongPlace_1 0 rfl rfl)
theorem dX7_wrongPlace_25 : decode cX7_wrongPlace 25 = .ok (.iload_n 2, 1) := dk_28 (dk_at dksX7_wrongPlace_1 3 rfl rfl)
theorem dX7_wrongPlace_26 : decode cX7_wrongPlace 26 = .ok (.ifCond .lt 13, 3) := dk_155 0 13 (dk_at dksX7_wrongPlace_1 4 rfl rfl)
theorem dX7_wrongPlace_29 : decode cX7_wrongPlace 29 = .ok (.iload_n 2, 1) := dk_28 (dk_at dksX7_wrongPlace_1 7 rfl rfl)
theorem dX7_wrongPlace_30 : decode cX7_wrongPlace 30 = .ok (.aload_n 0, 1) := dk_42 (dk_at dksX7_wrongPlace_1 8 rfl rfl)
theorem dX7_wrongPlace_31 : decode cX7_wrongPlace 31 = .ok (.getfield 20, 3) := dk_180 0 20 (dk_at dksX7_wrongPlace_1 9 rfl rfl)
theorem dX7_wrongPlace_34 : decode cX7_wrongPlace 34 = .ok (.iload_n 1, 1) := dk_27 (dk_at dksX7_wrongPlace_1 12 rfl rfl)
theorem dX7_wrongPlace_35 : decode cX7_wrongPlace 35 = .ok (.iaload, 1) := dk_46 (dk_at dksX7_wrongPlace_1 13 rfl rfl)
theorem dX7_wrongPlace_36 : decode cX7_wrongPlace 36 = .ok (.if_icmp .lt 7, 3) := dk_161 0 7 (dk_at dksX7_wrongPlace_1 14 rfl rfl)
theorem dX7_wrongPlace_39 : decode cX7_wrongPlace 39 = .ok (.iconst 3, 1) := dk_6 (dk_at dksX7_wrongPlace_1 17 rfl rfl)
theorem dX7_wrongPlace_40 : decode cX7_wrongPlace 40 = .ok (.goto 4, 3) := dk_167 0 4 (dk_at dksX7_wrongPlace_1 18 rfl rfl)
theorem dX7_wrongPlace_43 : decode cX7_wrongPlace 43 = .ok (.iconst 0, 1) := dk_3 (dk_at dksX7_wrongPlace_1 21 rfl rfl)
theorem dX7_wrongPlace_44 : decode cX7_wrongPlace 44 = .ok (.ireturn, 1) := dk_172 (dk_at dksX7_wrongPlace_1 22 rfl rfl)
abbrev cX7_cut : ByteArray := prog_17_method_11_code
def yX7_cut : MethodName := ⟨RX7, "cut", "(JI)J"⟩
def dkwX7_cut_1 : List UInt8 := [5, 160, 0, 9, 30, 136, 133, 167, 0, 4, 30, 173]
abbrev dktX7_cut_1 : List UInt8 := dkwX7_cut_1 ++ []
def dkwX7_cut_0 : List UInt8 := [28, 154, 0, 10, 30, 136, 145, 133, 167, 0, 27, 28, 4, 160, 0, 10, 30, 136, 147, 133, 167, 0, 15, 28]
abbrev dktX7_cut_0 : List UInt8 := dkwX7_cut_0 ++ dktX7_cut_1
theorem dksX7_cut_0 : cX7_cut.data.toList.drop 0 = dktX7_cut_0 := by decide +kernel
theorem dksX7_cut_1 : cX7_cut.data.toList.drop 24 = dktX7_cut_1 := dk_seg dksX7_cut_0 24 rfl rfl
theorem dX7_cut_0 : decode cX7_cut 0 = .ok (.iload_n 2, 1) := dk_28 (dk_at dksX7_cut_0 0 rfl rfl)
theorem dX7_cut_1 : decode cX7_cut 1 = .ok (.ifCond .ne 10, 3) := dk_154 0 10 (dk_at dksX7_cut_0 1 rfl rfl)
theorem dX7_cut_4 : decode cX7_cut 4 = .ok (.lload_n 0, 1) := dk_30 (dk_at dksX7_cut_0 4 rfl rfl)
theorem dX7_cut_5 : decode cX7_cut 5 = .ok (.l2i, 1) := dk_136 (dk_at dksX7_cut_0 5 rfl rfl)
theorem dX7_cut_6 : decode cX7_cut 6 = .ok (.i2b, 1) := dk_145 (dk_at dksX7_cut_0 6 rfl rfl)
theorem dX7_cut_7 : decode cX7_cut 7 = .ok (.i2l, 1) := dk_133 (dk_at dksX7_cut_0 7 rfl rfl)
theorem dX7_cut_8 : decode cX7_cut 8 = .ok (.goto 27, 3) := dk_167 0 27 (dk_at dksX7_cut_0 8 rfl rfl)
theorem dX7_cut_11 : decode cX7_cut 11 = .ok (.iload_n 2, 1) := dk_28 (dk_at dksX7_cut_0 11 rfl rfl)
theorem dX7_cut_12 : decode cX7_cut 12 = .ok (.iconst 1, 1) := dk_4 (dk_at dksX7_cut_0 12 rfl rfl)
theorem dX7_cut_13 : decode cX7_cut 13 = .ok (.if_icmp .ne 10, 3) := dk_160 0 10 (dk_at dksX7_cut_0 13 rfl rfl)
theorem dX7_cut_16 : decode cX7_cut 16 = .ok (.lload_n 0, 1) := dk_30 (dk_at dksX7_cut_0 16 rfl rfl)
theorem dX7_cut_17 : decode cX7_cut 17 = .ok (.l2i, 1) := dk_136 (dk_at dksX7_cut_0 17 rfl rfl)
theorem dX7_cut_18 : decode cX7_cut 18 = .ok (.i2s, 1) := dk_147 (dk_at dksX7_cut_0 18 rfl rfl)
theorem dX7_cut_19 : decode cX7_cut 19 = .ok (.i2l, 1) := dk_133 (dk_at dksX7_cut_0 19 rfl rfl)
theorem dX7_cut_20 : decode cX7_cut 20 = .ok (.goto 15, 3) := dk_167 0 15 (dk_at dksX7_cut_0 20 rfl rfl)
theorem dX7_cut_23 : decode cX7_cut 23 = .ok (.iload_n 2, 1) := dk_28 (dk_at dksX7_cut_0 23 rfl rfl)
theorem dX7_cut_24 : decode cX7_cut 24 = .ok (.iconst 2, 1) := dk_5 (dk_at dksX7_cut_1 0 rfl rfl)
theorem dX7_cut_25 : decode cX7_cut 25 = .ok (.if_icmp .ne 9, 3) := dk_160 0 9 (dk_at dksX7_cut_1 1 rfl rfl)
theorem dX7_cut_28 : decode cX7_cut 28 = .ok (.lload_n 0, 1) := dk_30 (dk_at dksX7_cut_1 4 rfl rfl)
theorem dX7_cut_29 : decode cX7_cut 29 = .ok (.l2i, 1) := dk_136 (dk_at dksX7_cut_1 5 rfl rfl)
theorem dX7_cut_30 : decode cX7_cut 30 = .ok (.i2l, 1) := dk_133 (dk_at dksX7_cut_1 6 rfl rfl)
theorem dX7_cut_31 : decode cX7_cut 31 = .ok (.goto 4, 3) := dk_167 0 4 (dk_at dksX7_cut_1 7 rfl rfl)
theorem dX7_cut_34 : decode cX7_cut 34 = .ok (.lload_n 0, 1) := dk_30 (dk_at dksX7_cut_1 10 rfl rfl)
theorem dX7_cut_35 : decode cX7_cut 35 = .ok (.lreturn, 1) := dk_173 (dk_at dksX7_cut_1 11 rfl rfl)
abbrev cX7_read : ByteArray := prog_17_method_15_code
def yX7_read : MethodName := ⟨RX7, "read", "(II)J"⟩
def dkwX7_read_1 : List UInt8 := [180, 0, 23, 16, 60, 27, 104, 28, 96, 47, 173]
abbrev dktX7_read_1 : List UInt8 := dkwX7_read_1 ++ []
def dkwX7_read_0 : List UInt8 := [42, 42, 27, 28, 182, 0, 112, 181, 0, 99, 42, 180, 0, 99, 158, 0, 9, 20, 0, 120, 167, 0, 14, 42]
abbrev dktX7_read_0 : List UInt8 := dkwX7_read_0 ++ dktX7_read_1
theorem dksX7_read_0 : cX7_read.data.toList.drop 0 = dktX7_read_0 := by decide +kernel
theorem dksX7_read_1 : cX7_read.data.toList.drop 24 = dktX7_read_1 := dk_seg dksX7_read_0 24 rfl rfl
theorem dX7_read_0 : decode cX7_read 0 = .ok (.aload_n 0, 1) := dk_42 (dk_at dksX7_read_0 0 rfl rfl)
theorem dX7_read_1 : decode cX7_read 1 = .ok (.aload_n 0, 1) := dk_42 (dk_at dksX7_read_0 1 rfl rfl)
theorem dX7_read_2 : decode cX7_read 2 = .ok (.iload_n 1, 1) := dk_27 (dk_at dksX7_read_0 2 rfl rfl)
theorem dX7_read_3 : decode cX7_read 3 = .ok (.iload_n 2, 1) := dk_28 (dk_at dksX7_read_0 3 rfl rfl)
theorem dX7_read_4 : decode cX7_read 4 = .ok (.invokevirtual 112, 3) := dk_182 0 112 (dk_at dksX7_read_0 4 rfl rfl)
theorem dX7_read_7 : decode cX7_read 7 = .ok (.putfield 99, 3) := dk_181 0 99 (dk_at dksX7_read_0 7 rfl rfl)
theorem dX7_read_10 : decode cX7_read 10 = .ok (.aload_n 0, 1) := dk_42 (dk_at dksX7_read_0 10 rfl rfl)
theorem dX7_read_11 : decode cX7_read 11 = .ok (.getfield 99, 3) := dk_180 0 99 (dk_at dksX7_read_0 11 rfl rfl)
theorem dX7_read_14 : decode cX7_read 14 = .ok (.ifCond .le 9, 3) := dk_158 0 9 (dk_at dksX7_read_0 14 rfl rfl)
theorem dX7_read_17 : decode cX7_read 17 = .ok (.ldc2_w 120, 3) := dk_20 0 120 (dk_at dksX7_read_0 17 rfl rfl)
theorem dX7_read_20 : decode cX7_read 20 = .ok (.goto 14, 3) := dk_167 0 14 (dk_at dksX7_read_0 20 rfl rfl)
theorem dX7_read_23 : decode cX7_read 23 = .ok (.aload_n 0, 1) := dk_42 (dk_at dksX7_read_0 23 rfl rfl)
theorem dX7_read_24 : decode cX7_read 24 = .ok (.getfield 23, 3) := dk_180 0 23 (dk_at dksX7_read_1 0 rfl rfl)
theorem dX7_read_27 : decode cX7_read 27 = .ok (.bipush 60, 2) := dk_16 60 (dk_at dksX7_read_1 3 rfl rfl)
theorem dX7_read_29 : decode cX7_read 29 = .ok (.iload_n 1, 1) := dk_27 (dk_at dksX7_read_1 5 rfl rfl)
theorem dX7_read_30 : decode cX7_read 30 = .ok (.imul, 1) := dk_104 (dk_at dksX7_read_1 6 rfl rfl)
theorem dX7_read_31 : decode cX7_read 31 = .ok (.iload_n 2, 1) := dk_28 (dk_at dksX7_read_1 7 rfl rfl)
theorem dX7_read_32 : decode cX7_read 32 = .ok (.iadd, 1) := dk_96 (dk_at dksX7_read_1 8 rfl rfl)
theorem dX7_read_33 : decode cX7_read 33 = .ok (.laload, 1) := dk_47 (dk_at dksX7_read_1 9 rfl rfl)
theorem dX7_read_34 : decode cX7_read 34 = .ok (.lreturn, 1) := dk_173 (dk_at dksX7_read_1 10 rfl rfl)
abbrev cX7_pour : ByteArray := prog_17_method_16_code
def yX7_pour : MethodName := ⟨RX7, "pour", "(IIIII)Z"⟩
def dkwX7_pour_8 : List UInt8 := [182, 0, 105, 172]
abbrev dktX7_pour_8 : List UInt8 := dkwX7_pour_8 ++ []
def dkwX7_pour_7 : List UInt8 := [180, 0, 23, 16, 60, 27, 104, 28, 96, 21, 7, 96, 47, 80, 132, 6, 1, 167, 255, 197, 42, 3]
abbrev dktX7_pour_7 : List UInt8 := dkwX7_pour_7 ++ dktX7_pour_8
def dkwX7_pour_6 : List UInt8 := [167, 0, 5, 21, 6, 54, 7, 42, 180, 0, 23, 16, 60, 29, 104, 21, 4, 96, 21, 7, 96, 42]
abbrev dktX7_pour_6 : List UInt8 := dkwX7_pour_6 ++ dktX7_pour_7
def dkwX7_pour_5 : List UInt8 := [3, 54, 6, 21, 6, 21, 5, 162, 0, 58, 28, 21, 4, 162, 0, 13, 21, 5, 4, 100, 21, 6, 100]
abbrev dktX7_pour_5 : List UInt8 := dkwX7_pour_5 ++ dktX7_pour_6
def dkwX7_pour_4 : List UInt8 := [100, 163, 0, 17, 21, 5, 42, 180, 0, 20, 29, 46, 21, 4, 100, 164, 0, 9, 42, 6, 182, 0, 105, 172]
abbrev dktX7_pour_4 : List UInt8 := dkwX7_pour_4 ++ dktX7_pour_5
def dkwX7_pour_3 : List UInt8 := [180, 0, 17, 29, 46, 159, 0, 10, 42, 16, 8, 182, 0, 105, 172, 21, 5, 42, 180, 0, 20, 27, 46, 28]
abbrev dktX7_pour_3 : List UInt8 := dkwX7_pour_3 ++ dktX7_pour_4
def dkwX7_pour_2 : List UInt8 := [180, 0, 20, 29, 46, 2, 160, 0, 9, 42, 5, 182, 0, 105, 172, 42, 180, 0, 17, 27, 46, 42]
abbrev dktX7_pour_2 : List UInt8 := dkwX7_pour_2 ++ dktX7_pour_3
def dkwX7_pour_1 : List UInt8 := [21, 5, 156, 0, 9, 42, 4, 182, 0, 105, 172, 42, 180, 0, 20, 27, 46, 2, 159, 0, 13, 42]
abbrev dktX7_pour_1 : List UInt8 := dkwX7_pour_1 ++ dktX7_pour_2
def dkwX7_pour_0 : List UInt8 := [27, 184, 0, 109, 153, 0, 24, 29, 184, 0, 109, 153, 0, 17, 28, 155, 0, 13, 21, 4, 155, 0, 8]
abbrev dktX7_pour_0 : List UInt8 := dkwX7_pour_0 ++ dktX7_pour_1
theorem dksX7_pour_0 : cX7_pour.data.toList.drop 0 = dktX7_pour_0 := by decide +kernel
theorem dksX7_pour_1 : cX7_pour.data.toList.drop 23 = dktX7_pour_1 := dk_seg dksX7_pour_0 23 rfl rfl
theorem dksX7_pour_2 : cX7_pour.data.toList.drop 45 = dktX7_pour_2 := dk_seg dksX7_pour_1 22 rfl rfl
theorem dksX7_pour_3 : cX7_pour.data.toList.drop 67 = dktX7_pour_3 := dk_seg dksX7_pour_2 22 rfl rfl
theorem dksX7_pour_4 : cX7_pour.data.toList.drop 91 = dktX7_pour_4 := dk_seg dksX7_pour_3 24 rfl rfl
theorem dksX7_pour_5 : cX7_pour.data.toList.drop 115 = dktX7_pour_5 := dk_seg dksX7_pour_4 24 rfl rfl
theorem dksX7_pour_6 : cX7_pour.data.toList.drop 138 = dktX7_pour_6 := dk_seg dksX7_pour_5 23 rfl rfl
theorem dksX7_pour_7 : cX7_pour.data.toList.drop 160 = dktX7_pour_7 := dk_seg dksX7_pour_6 22 rfl rfl
theorem dksX7_pour_8 : cX7_pour.data.toList.drop 182 = dktX7_pour_8 := dk_seg dksX7_pour_7 22 rfl rfl
theorem dX7_pour_0 : decode cX7_pour 0 = .ok (.iload_n 1, 1) := dk_27 (dk_at dksX7_pour_0 0 rfl rfl)
theorem dX7_pour_1 : decode cX7_pour 1 = .ok (.invokestatic 109, 3) := dk_184 0 109 (dk_at dksX7_pour_0 1 rfl rfl)
theorem dX7_pour_4 : decode cX7_pour 4 = .ok (.ifCond .eq 24, 3) := dk_153 0 24 (dk_at dksX7_pour_0 4 rfl rfl)
theorem dX7_pour_7 : decode cX7_pour 7 = .ok (.iload_n 3, 1) := dk_29 (dk_at dksX7_pour_0 7 rfl rfl)
theorem dX7_pour_8 : decode cX7_pour 8 = .ok (.invokestatic 109, 3) := dk_184 0 109 (dk_at dksX7_pour_0 8 rfl rfl)
theorem dX7_pour_11 : decode cX7_pour 11 = .ok (.ifCond .eq 17, 3) := dk_153 0 17 (dk_at dksX7_pour_0 11 rfl rfl)
theorem dX7_pour_14 : decode cX7_pour 14 = .ok (.iload_n 2, 1) := dk_28 (dk_at dksX7_pour_0 14 rfl rfl)
theorem dX7_pour_15 : decode cX7_pour 15 = .ok (.ifCond .lt 13, 3) := dk_155 0 13 (dk_at dksX7_pour_0 15 rfl rfl)
theorem dX7_pour_18 : decode cX7_pour 18 = .ok (.iload 4, 2) := dk_21 4 (dk_at dksX7_pour_0 18 rfl rfl)
theorem dX7_pour_20 : decode cX7_pour 20 = .ok (.ifCond .lt 8, 3) := dk_155 0 8 (dk_at dksX7_pour_0 20 rfl rfl)
theorem dX7_pour_23 : decode cX7_pour 23 = .ok (.iload 5, 2) := dk_21 5 (dk_at dksX7_pour_1 0 rfl rfl)
theorem dX7_pour_25 : decode cX7_pour 25 = .ok (.ifCond .ge 9, 3) := dk_156 0 9 (dk_at dksX7_pour_1 2 rfl rfl)
theorem dX7_pour_28 : decode cX7_pour 28 = .ok (.aload_n 0, 1) := dk_42 (dk_at dksX7_pour_1 5 rfl rfl)
theorem dX7_pour_29 : decode cX7_pour 29 = .ok (.iconst 1, 1) := dk_4 (dk_at dksX7_pour_1 6 rfl rfl)
theorem dX7_pour_30 : decode cX7_pour 30 = .ok (.invokevirtual 105, 3) := dk_182 0 105 (dk_at dksX7_pour_1 7 rfl rfl)
theorem dX7_pour_33 : decode cX7_pour 33 = .ok (.ireturn, 1) := dk_172 (dk_at dksX7_pour_1 10 rfl rfl)
theorem dX7_pour_34 : decode cX7_pour 34 = .ok (.aload_n 0, 1) := dk_42 (dk_at dksX7_pour_1 11 rfl rfl)
theorem dX7_pour_35 : decode cX7_pour 35 = .ok (.getfield 20, 3) := dk_180 0 20 (dk_at dksX7_pour_1 12 rfl rfl)
theorem dX7_pour_38 : decode cX7_pour 38 = .ok (.iload_n 1, 1) := dk_27 (dk_at dksX7_pour_1 15 rfl rfl)
theorem dX7_pour_39 : decode cX7_pour 39 = .ok (.iaload, 1) := dk_46 (dk_at dksX7_pour_1 16 rfl rfl)
theorem dX7_pour_40 : decode cX7_pour 40 = .ok (.iconst (-1), 1) := dk_2 (dk_at dksX7_pour_1 17 rfl rfl)
theorem dX7_pour_41 : decode cX7_pour 41 = .ok (.if_icmp .eq 13, 3) := dk_159 0 13 (dk_at dksX7_pour_1 18 rfl rfl)
theorem dX7_pour_44 : decode cX7_pour 44 = .ok (.aload_n 0, 1) := dk_42 (dk_at dksX7_pour_1 21 rfl rfl)
theorem dX7_pour_45 : decode cX7_pour 45 = .ok (.getfield 20, 3) := dk_180 0 20 (dk_at dksX7_pour_2 0 rfl rfl)
theorem dX7_pour_48 : decode cX7_pour 48 = .ok (.iload_n 3, 1) := dk_29 (dk_at dksX7_pour_2 3 rfl rfl)
theorem dX7_pour_49 : decode cX7_pour 49 = .ok (.iaload, 1) := dk_46 (dk_at dksX7_pour_2 4 rfl rfl)
theorem dX7_pour_50 : decode cX7_pour 50 = .ok (.iconst (-1), 1) := dk_2 (dk_at dksX7_pour_2 5 rfl rfl)
theorem dX7_pour_51 : decode cX7_pour 51 = .ok (.if_icmp .ne 9, 3) := dk_160 0 9 (dk_at dksX7_pour_2 6 rfl rfl)
theorem dX7_pour_54 : decode cX7_pour 54 = .ok (.aload_n 0, 1) := dk_42 (dk_at dksX7_pour_2 9 rfl rfl)
theorem dX7_pour_55 : decode cX7_pour 55 = .ok (.iconst 2, 1) := dk_5 (dk_at dksX7_pour_2 10 rfl rfl)
theorem dX7_pour_56 : decode cX7_pour 56 = .ok (.invokevirtual 105, 3) := dk_182 0 105 (dk_at dksX7_pour_2 11 rfl rfl)
theorem dX7_pour_59 : decode cX7_pour 59 = .ok (.ireturn, 1) := dk_172 (dk_at dksX7_pour_2 14 rfl rfl)
theorem dX7_pour_60 : decode cX7_pour 60 = .ok (.aload_n 0, 1) := dk_42 (dk_at dksX7_pour_2 15 rfl rfl)
theorem dX7_pour_61 : decode cX7_pour 61 = .ok (.getfield 17, 3) := dk_180 0 17 (dk_at dksX7_pour_2 16 rfl rfl)
theorem dX7_pour_64 : decode cX7_pour 64 = .ok (.iload_n 1, 1) := dk_27 (dk_at dksX7_pour_2 19 rfl rfl)
theorem dX7_pour_65 : decode cX7_pour 65 = .ok (.iaload, 1) := dk_46 (dk_at dksX7_pour_2 20 rfl rfl)
theorem dX7_pour_66 : decode cX7_pour 66 = .ok (.aload_n 0, 1) := dk_42 (dk_at dksX7_pour_2 21 rfl rfl)
theorem dX7_pour_67 : decode cX7_pour 67 = .ok (.getfield 17, 3) := dk_180 0 17 (dk_at dksX7_pour_3 0 rfl rfl)
theorem dX7_pour_70 : decode cX7_pour 70 = .ok (.iload_n 3, 1) := dk_29 (dk_at dksX7_pour_3 3 rfl rfl)
theorem dX7_pour_71 : decode cX7_pour 71 = .ok (.iaload, 1) := dk_46 (dk_at dksX7_pour_3 4 rfl rfl)
theorem dX7_pour_72 : decode cX7_pour 72 = .ok (.if_icmp .eq 10, 3) := dk_159 0 10 (dk_at dksX7_pour_3 5 rfl rfl)
theorem dX7_pour_75 : decode cX7_pour 75 = .ok (.aload_n 0, 1) := dk_42 (dk_at dksX7_pour_3 8 rfl rfl)
theorem dX7_pour_76 : decode cX7_pour 76 = .ok (.bipush 8, 2) := dk_16 8 (dk_at dksX7_pour_3 9 rfl rfl)
theorem dX7_pour_78 : decode cX7_pour 78 = .ok (.invokevirtual 105, 3) := dk_182 0 105 (dk_at dksX7_pour_3 11 rfl rfl)
theorem dX7_pour_81 : decode cX7_pour 81 = .ok (.ireturn, 1) := dk_172 (dk_at dksX7_pour_3 14 rfl rfl)
theorem dX7_pour_82 : decode cX7_pour 82 = .ok (.iload 5, 2) := dk_21 5 (dk_at dksX7_pour_3 15 rfl rfl)
theorem dX7_pour_84 : decode cX7_pour 84 = .ok (.aload_n 0, 1) := dk_42 (dk_at dksX7_pour_3 17 rfl rfl)
theorem dX7_pour_85 : decode cX7_pour 85 = .ok (.getfield 20, 3) := dk_180 0 20 (dk_at dksX7_pour_3 18 rfl rfl)
theorem dX7_pour_88 : decode cX7_pour 88 = .ok (.iload_n 1, 1) := dk_27 (dk_at dksX7_pour_3 21 rfl rfl)
theorem dX7_pour_89 : decode cX7_pour 89 = .ok (.iaload, 1) := dk_46 (dk_at dksX7_pour_3 22 rfl rfl)
theorem dX7_pour_90 : decode cX7_pour 90 = .ok (.iload_n 2, 1) := dk_28 (dk_at dksX7_pour_3 23 rfl rfl)
theorem dX7_pour_91 : decode cX7_pour 91 = .ok (.isub, 1) := dk_100 (dk_at dksX7_pour_4 0 rfl rfl)
theorem dX7_pour_92 : decode cX7_pour 92 = .ok (.if_icmp .gt 17, 3) := dk_163 0 17 (dk_at dksX7_pour_4 1 rfl rfl)
theorem dX7_pour_95 : decode cX7_pour 95 = .ok (.iload 5, 2) := dk_21 5 (dk_at dksX7_pour_4 4 rfl rfl)
theorem dX7_pour_97 : decode cX7_pour 97 = .ok (.aload_n 0, 1) := dk_42 (dk_at dksX7_pour_4 6 rfl rfl)
theorem dX7_pour_98 : decode cX7_pour 98 = .ok (.getfield 20, 3) := dk_180 0 20 (dk_at dksX7_pour_4 7 rfl rfl)
theorem dX7_pour_101 : decode cX7_pour 101 = .ok (.iload_n 3, 1) := dk_29 (dk_at dksX7_pour_4 10 rfl rfl)
theorem dX7_pour_102 : decode cX7_pour 102 = .ok (.iaload, 1) := dk_46 (dk_at dksX7_pour_4 11 rfl rfl)
theorem dX7_pour_103 : decode cX7_pour 103 = .ok (.iload 4, 2) := dk_21 4 (dk_at dksX7_pour_4 12 rfl rfl)
theorem dX7_pour_105 : decode cX7_pour 105 = .ok (.isub, 1) := dk_100 (dk_at dksX7_pour_4 14 rfl rfl)
theorem dX7_pour_106 : decode cX7_pour 106 = .ok (.if_icmp .le 9, 3) := dk_164 0 9 (dk_at dksX7_pour_4 15 rfl rfl)
theorem dX7_pour_109 : decode cX7_pour 109 = .ok (.aload_n 0, 1) := dk_42 (dk_at dksX7_pour_4 18 rfl rfl)
theorem dX7_pour_110 : decode cX7_pour 110 = .ok (.iconst 3, 1) := dk_6 (dk_at dksX7_pour_4 19 rfl rfl)
theorem dX7_pour_111 : decode cX7_pour 111 = .ok (.invokevirtual 105, 3) := dk_182 0 105 (dk_at dksX7_pour_4 20 rfl rfl)
theorem dX7_pour_114 : decode cX7_pour 114 = .ok (.ireturn, 1) := dk_172 (dk_at dksX7_pour_4 23 rfl rfl)
theorem dX7_pour_115 : decode cX7_pour 115 = .ok (.iconst 0, 1) := dk_3 (dk_at dksX7_pour_5 0 rfl rfl)
theorem dX7_pour_116 : decode cX7_pour 116 = .ok (.istore 6, 2) := dk_54 6 (dk_at dksX7_pour_5 1 rfl rfl)
theorem dX7_pour_118 : decode cX7_pour 118 = .ok (.iload 6, 2) := dk_21 6 (dk_at dksX7_pour_5 3 rfl rfl)
theorem dX7_pour_120 : decode cX7_pour 120 = .ok (.iload 5, 2) := dk_21 5 (dk_at dksX7_pour_5 5 rfl rfl)
theorem dX7_pour_122 : decode cX7_pour 122 = .ok (.if_icmp .ge 58, 3) := dk_162 0 58 (dk_at dksX7_pour_5 7 rfl rfl)
theorem dX7_pour_125 : decode cX7_pour 125 = .ok (.iload_n 2, 1) := dk_28 (dk_at dksX7_pour_5 10 rfl rfl)
theorem dX7_pour_126 : decode cX7_pour 126 = .ok (.iload 4, 2) := dk_21 4 (dk_at dksX7_pour_5 11 rfl rfl)
theorem dX7_pour_128 : decode cX7_pour 128 = .ok (.if_icmp .ge 13, 3) := dk_162 0 13 (dk_at dksX7_pour_5 13 rfl rfl)
theorem dX7_pour_131 : decode cX7_pour 131 = .ok (.iload 5, 2) := dk_21 5 (dk_at dksX7_pour_5 16 rfl rfl)
theorem dX7_pour_133 : decode cX7_pour 133 = .ok (.iconst 1, 1) := dk_4 (dk_at dksX7_pour_5 18 rfl rfl)
theorem dX7_pour_134 : decode cX7_pour 134 = .ok (.isub, 1) := dk_100 (dk_at dksX7_pour_5 19 rfl rfl)
theorem dX7_pour_135 : decode cX7_pour 135 = .ok (.iload 6, 2) := dk_21 6 (dk_at dksX7_pour_5 20 rfl rfl)
theorem dX7_pour_137 : decode cX7_pour 137 = .ok (.isub, 1) := dk_100 (dk_at dksX7_pour_5 22 rfl rfl)
theorem dX7_pour_138 : decode cX7_pour 138 = .ok (.goto 5, 3) := dk_167 0 5 (dk_at dksX7_pour_6 0 rfl rfl)
theorem dX7_pour_141 : decode cX7_pour 141 = .ok (.iload 6, 2) := dk_21 6 (dk_at dksX7_pour_6 3 rfl rfl)
theorem dX7_pour_143 : decode cX7_pour 143 = .ok (.istore 7, 2) := dk_54 7 (dk_at dksX7_pour_6 5 rfl rfl)
theorem dX7_pour_145 : decode cX7_pour 145 = .ok (.aload_n 0, 1) := dk_42 (dk_at dksX7_pour_6 7 rfl rfl)
theorem dX7_pour_146 : decode cX7_pour 146 = .ok (.getfield 23, 3) := dk_180 0 23 (dk_at dksX7_pour_6 8 rfl rfl)
theorem dX7_pour_149 : decode cX7_pour 149 = .ok (.bipush 60, 2) := dk_16 60 (dk_at dksX7_pour_6 11 rfl rfl)
theorem dX7_pour_151 : decode cX7_pour 151 = .ok (.iload_n 3, 1) := dk_29 (dk_at dksX7_pour_6 13 rfl rfl)
theorem dX7_pour_152 : decode cX7_pour 152 = .ok (.imul, 1) := dk_104 (dk_at dksX7_pour_6 14 rfl rfl)
theorem dX7_pour_153 : decode cX7_pour 153 = .ok (.iload 4, 2) := dk_21 4 (dk_at dksX7_pour_6 15 rfl rfl)
theorem dX7_pour_155 : decode cX7_pour 155 = .ok (.iadd, 1) := dk_96 (dk_at dksX7_pour_6 17 rfl rfl)
theorem dX7_pour_156 : decode cX7_pour 156 = .ok (.iload 7, 2) := dk_21 7 (dk_at dksX7_pour_6 18 rfl rfl)
theorem dX7_pour_158 : decode cX7_pour 158 = .ok (.iadd, 1) := dk_96 (dk_at dksX7_pour_6 20 rfl rfl)
theorem dX7_pour_159 : decode cX7_pour 159 = .ok (.aload_n 0, 1) := dk_42 (dk_at dksX7_pour_6 21 rfl rfl)
theorem dX7_pour_160 : decode cX7_pour 160 = .ok (.getfield 23, 3) := dk_180 0 23 (dk_at dksX7_pour_7 0 rfl rfl)
theorem dX7_pour_163 : decode cX7_pour 163 = .ok (.bipush 60, 2) := dk_16 60 (dk_at dksX7_pour_7 3 rfl rfl)
theorem dX7_pour_165 : decode cX7_pour 165 = .ok (.iload_n 1, 1) := dk_27 (dk_at dksX7_pour_7 5 rfl rfl)
theorem dX7_pour_166 : decode cX7_pour 166 = .ok (.imul, 1) := dk_104 (dk_at dksX7_pour_7 6 rfl rfl)
theorem dX7_pour_167 : decode cX7_pour 167 = .ok (.iload_n 2, 1) := dk_28 (dk_at dksX7_pour_7 7 rfl rfl)
theorem dX7_pour_168 : decode cX7_pour 168 = .ok (.iadd, 1) := dk_96 (dk_at dksX7_pour_7 8 rfl rfl)
theorem dX7_pour_169 : decode cX7_pour 169 = .ok (.iload 7, 2) := dk_21 7 (dk_at dksX7_pour_7 9 rfl rfl)
theorem dX7_pour_171 : decode cX7_pour 171 = .ok (.iadd, 1) := dk_96 (dk_at dksX7_pour_7 11 rfl rfl)
theorem dX7_pour_172 : decode cX7_pour 172 = .ok (.laload, 1) := dk_47 (dk_at dksX7_pour_7 12 rfl rfl)
theorem dX7_pour_173 : decode cX7_pour 173 = .ok (.lastore, 1) := dk_80 (dk_at dksX7_pour_7 13 rfl rfl)
theorem dX7_pour_174 : decode cX7_pour 174 = .ok (.iinc 6 1, 3) := dk_132 6 1 (dk_at dksX7_pour_7 14 rfl rfl)
theorem dX7_pour_177 : decode cX7_pour 177 = .ok (.goto (-59), 3) := dk_167 255 197 (dk_at dksX7_pour_7 17 rfl rfl)
theorem dX7_pour_180 : decode cX7_pour 180 = .ok (.aload_n 0, 1) := dk_42 (dk_at dksX7_pour_7 20 rfl rfl)
theorem dX7_pour_181 : decode cX7_pour 181 = .ok (.iconst 0, 1) := dk_3 (dk_at dksX7_pour_7 21 rfl rfl)
theorem dX7_pour_182 : decode cX7_pour 182 = .ok (.invokevirtual 105, 3) := dk_182 0 105 (dk_at dksX7_pour_8 0 rfl rfl)
theorem dX7_pour_185 : decode cX7_pour 185 = .ok (.ireturn, 1) := dk_172 (dk_at dksX7_pour_8 3 rfl rfl)
abbrev cX7_feed : ByteArray := prog_17_method_18_code
def yX7_feed : MethodName := ⟨RX7, "feed", "(IIIII)I"⟩
def dkwX7_feed_2 : List UInt8 := [172]
abbrev dktX7_feed_2 : List UInt8 := dkwX7_feed_2 ++ []
def dkwX7_feed_1 : List UInt8 := [182, 0, 125, 42, 29, 182, 0, 125, 42, 21, 4, 182, 0, 125, 42, 21, 5, 182, 0, 125, 42, 180, 0, 122]
abbrev dktX7_feed_1 : List UInt8 := dkwX7_feed_1 ++ dktX7_feed_2
def dkwX7_feed_0 : List UInt8 := [42, 180, 0, 122, 16, 20, 96, 17, 3, 132, 164, 0, 5, 2, 172, 42, 27, 182, 0, 125, 42, 28]
abbrev dktX7_feed_0 : List UInt8 := dkwX7_feed_0 ++ dktX7_feed_1
theorem dksX7_feed_0 : cX7_feed.data.toList.drop 0 = dktX7_feed_0 := by decide +kernel
theorem dksX7_feed_1 : cX7_feed.data.toList.drop 22 = dktX7_feed_1 := dk_seg dksX7_feed_0 22 rfl rfl
theorem dksX7_feed_2 : cX7_feed.data.toList.drop 46 = dktX7_feed_2 := dk_seg dksX7_feed_1 24 rfl rfl
theorem dX7_feed_0 : decode cX7_feed 0 = .ok (.aload_n 0, 1) := dk_42 (dk_at dksX7_feed_0 0 rfl rfl)
theorem dX7_feed_1 : decode cX7_feed 1 = .ok (.getfield 122, 3) := dk_180 0 122 (dk_at dksX7_feed_0 1 rfl rfl)
theorem dX7_feed_4 : decode cX7_feed 4 = .ok (.bipush 20, 2) := dk_16 20 (dk_at dksX7_feed_0 4 rfl rfl)
theorem dX7_feed_6 : decode cX7_feed 6 = .ok (.iadd, 1) := dk_96 (dk_at dksX7_feed_0 6 rfl rfl)
theorem dX7_feed_7 : decode cX7_feed 7 = .ok (.sipush 900, 3) := dk_17 3 132 (dk_at dksX7_feed_0 7 rfl rfl)
theorem dX7_feed_10 : decode cX7_feed 10 = .ok (.if_icmp .le 5, 3) := dk_164 0 5 (dk_at dksX7_feed_0 10 rfl rfl)
theorem dX7_feed_13 : decode cX7_feed 13 = .ok (.iconst (-1), 1) := dk_2 (dk_at dksX7_feed_0 13 rfl rfl)
theorem dX7_feed_14 : decode cX7_feed 14 = .ok (.ireturn, 1) := dk_172 (dk_at dksX7_feed_0 14 rfl rfl)
theorem dX7_feed_15 : decode cX7_feed 15 = .ok (.aload_n 0, 1) := dk_42 (dk_at dksX7_feed_0 15 rfl rfl)
theorem dX7_feed_16 : decode cX7_feed 16 = .ok (.iload_n 1, 1) := dk_27 (dk_at dksX7_feed_0 16 rfl rfl)
theorem dX7_feed_17 : decode cX7_feed 17 = .ok (.invokevirtual 125, 3) := dk_182 0 125 (dk_at dksX7_feed_0 17 rfl rfl)
theorem dX7_feed_20 : decode cX7_feed 20 = .ok (.aload_n 0, 1) := dk_42 (dk_at dksX7_feed_0 20 rfl rfl)
theorem dX7_feed_21 : decode cX7_feed 21 = .ok (.iload_n 2, 1) := dk_28 (dk_at dksX7_feed_0 21 rfl rfl)
theorem dX7_feed_22 : decode cX7_feed 22 = .ok (.invokevirtual 125, 3) := dk_182 0 125 (dk_at dksX7_feed_1 0 rfl rfl)
theorem dX7_feed_25 : decode cX7_feed 25 = .ok (.aload_n 0, 1) := dk_42 (dk_at dksX7_feed_1 3 rfl rfl)
theorem dX7_feed_26 : decode cX7_feed 26 = .ok (.iload_n 3, 1) := dk_29 (dk_at dksX7_feed_1 4 rfl rfl)
theorem dX7_feed_27 : decode cX7_feed 27 = .ok (.invokevirtual 125, 3) := dk_182 0 125 (dk_at dksX7_feed_1 5 rfl rfl)
theorem dX7_feed_30 : decode cX7_feed 30 = .ok (.aload_n 0, 1) := dk_42 (dk_at dksX7_feed_1 8 rfl rfl)
theorem dX7_feed_31 : decode cX7_feed 31 = .ok (.iload 4, 2) := dk_21 4 (dk_at dksX7_feed_1 9 rfl rfl)
theorem dX7_feed_33 : decode cX7_feed 33 = .ok (.invokevirtual 125, 3) := dk_182 0 125 (dk_at dksX7_feed_1 11 rfl rfl)
theorem dX7_feed_36 : decode cX7_feed 36 = .ok (.aload_n 0, 1) := dk_42 (dk_at dksX7_feed_1 14 rfl rfl)
theorem dX7_feed_37 : decode cX7_feed 37 = .ok (.iload 5, 2) := dk_21 5 (dk_at dksX7_feed_1 15 rfl rfl)
theorem dX7_feed_39 : decode cX7_feed 39 = .ok (.invokevirtual 125, 3) := dk_182 0 125 (dk_at dksX7_feed_1 17 rfl rfl)
theorem dX7_feed_42 : decode cX7_feed 42 = .ok (.aload_n 0, 1) := dk_42 (dk_at dksX7_feed_1 20 rfl rfl)
theorem dX7_feed_43 : decode cX7_feed 43 = .ok (.getfield 122, 3) := dk_180 0 122 (dk_at dksX7_feed_1 21 rfl rfl)
theorem dX7_feed_46 : decode cX7_feed 46 = .ok (.ireturn, 1) := dk_172 (dk_at dksX7_feed_2 0 rfl rfl)
abbrev cX7_four : ByteArray := prog_17_method_19_code
def yX7_four : MethodName := ⟨RX7, "four", "(I)V"⟩
def dkwX7_four_1 : List UInt8 := [180, 0, 122, 4, 96, 181, 0, 122, 132, 2, 248, 167, 255, 226, 177]
abbrev dktX7_four_1 : List UInt8 := dkwX7_four_1 ++ []
def dkwX7_four_0 : List UInt8 := [16, 24, 61, 28, 155, 0, 32, 42, 180, 0, 27, 42, 180, 0, 122, 27, 28, 122, 145, 84, 42, 89]
abbrev dktX7_four_0 : List UInt8 := dkwX7_four_0 ++ dktX7_four_1
theorem dksX7_four_0 : cX7_four.data.toList.drop 0 = dktX7_four_0 := by decide +kernel
theorem dksX7_four_1 : cX7_four.data.toList.drop 22 = dktX7_four_1 := dk_seg dksX7_four_0 22 rfl rfl
theorem dX7_four_0 : decode cX7_four 0 = .ok (.bipush 24, 2) := dk_16 24 (dk_at dksX7_four_0 0 rfl rfl)
theorem dX7_four_2 : decode cX7_four 2 = .ok (.istore_n 2, 1) := dk_61 (dk_at dksX7_four_0 2 rfl rfl)
theorem dX7_four_3 : decode cX7_four 3 = .ok (.iload_n 2, 1) := dk_28 (dk_at dksX7_four_0 3 rfl rfl)
theorem dX7_four_4 : decode cX7_four 4 = .ok (.ifCond .lt 32, 3) := dk_155 0 32 (dk_at dksX7_four_0 4 rfl rfl)
theorem dX7_four_7 : decode cX7_four 7 = .ok (.aload_n 0, 1) := dk_42 (dk_at dksX7_four_0 7 rfl rfl)
theorem dX7_four_8 : decode cX7_four 8 = .ok (.getfield 27, 3) := dk_180 0 27 (dk_at dksX7_four_0 8 rfl rfl)
theorem dX7_four_11 : decode cX7_four 11 = .ok (.aload_n 0, 1) := dk_42 (dk_at dksX7_four_0 11 rfl rfl)
theorem dX7_four_12 : decode cX7_four 12 = .ok (.getfield 122, 3) := dk_180 0 122 (dk_at dksX7_four_0 12 rfl rfl)
theorem dX7_four_15 : decode cX7_four 15 = .ok (.iload_n 1, 1) := dk_27 (dk_at dksX7_four_0 15 rfl rfl)
theorem dX7_four_16 : decode cX7_four 16 = .ok (.iload_n 2, 1) := dk_28 (dk_at dksX7_four_0 16 rfl rfl)
theorem dX7_four_17 : decode cX7_four 17 = .ok (.ishr, 1) := dk_122 (dk_at dksX7_four_0 17 rfl rfl)
theorem dX7_four_18 : decode cX7_four 18 = .ok (.i2b, 1) := dk_145 (dk_at dksX7_four_0 18 rfl rfl)
theorem dX7_four_19 : decode cX7_four 19 = .ok (.bastore, 1) := dk_84 (dk_at dksX7_four_0 19 rfl rfl)
theorem dX7_four_20 : decode cX7_four 20 = .ok (.aload_n 0, 1) := dk_42 (dk_at dksX7_four_0 20 rfl rfl)
theorem dX7_four_21 : decode cX7_four 21 = .ok (.dup, 1) := dk_89 (dk_at dksX7_four_0 21 rfl rfl)
theorem dX7_four_22 : decode cX7_four 22 = .ok (.getfield 122, 3) := dk_180 0 122 (dk_at dksX7_four_1 0 rfl rfl)
theorem dX7_four_25 : decode cX7_four 25 = .ok (.iconst 1, 1) := dk_4 (dk_at dksX7_four_1 3 rfl rfl)
theorem dX7_four_26 : decode cX7_four 26 = .ok (.iadd, 1) := dk_96 (dk_at dksX7_four_1 4 rfl rfl)
theorem dX7_four_27 : decode cX7_four 27 = .ok (.putfield 122, 3) := dk_181 0 122 (dk_at dksX7_four_1 5 rfl rfl)
theorem dX7_four_30 : decode cX7_four 30 = .ok (.iinc 2 (-8), 3) := dk_132 2 248 (dk_at dksX7_four_1 8 rfl rfl)
theorem dX7_four_33 : decode cX7_four 33 = .ok (.goto (-30), 3) := dk_167 255 226 (dk_at dksX7_four_1 11 rfl rfl)
theorem dX7_four_36 : decode cX7_four 36 = .ok (.return_, 1) := dk_177 (dk_at dksX7_four_1 14 rfl rfl)
abbrev cX7_fault : ByteArray := prog_17_method_31_code
def yX7_fault : MethodName := ⟨RX7, "fault", "(I)I"⟩
def dkwX7_fault_1 : List UInt8 := [172]
abbrev dktX7_fault_1 : List UInt8 := dkwX7_fault_1 ++ []
def dkwX7_fault_0 : List UInt8 := [27, 154, 0, 10, 42, 180, 0, 34, 167, 0, 16, 27, 4, 160, 0, 10, 42, 180, 0, 38, 167, 0, 4, 2]
abbrev dktX7_fault_0 : List UInt8 := dkwX7_fault_0 ++ dktX7_fault_1
theorem dksX7_fault_0 : cX7_fault.data.toList.drop 0 = dktX7_fault_0 := by decide +kernel
theorem dksX7_fault_1 : cX7_fault.data.toList.drop 24 = dktX7_fault_1 := dk_seg dksX7_fault_0 24 rfl rfl
theorem dX7_fault_0 : decode cX7_fault 0 = .ok (.iload_n 1, 1) := dk_27 (dk_at dksX7_fault_0 0 rfl rfl)
theorem dX7_fault_1 : decode cX7_fault 1 = .ok (.ifCond .ne 10, 3) := dk_154 0 10 (dk_at dksX7_fault_0 1 rfl rfl)
theorem dX7_fault_4 : decode cX7_fault 4 = .ok (.aload_n 0, 1) := dk_42 (dk_at dksX7_fault_0 4 rfl rfl)
theorem dX7_fault_5 : decode cX7_fault 5 = .ok (.getfield 34, 3) := dk_180 0 34 (dk_at dksX7_fault_0 5 rfl rfl)
theorem dX7_fault_8 : decode cX7_fault 8 = .ok (.goto 16, 3) := dk_167 0 16 (dk_at dksX7_fault_0 8 rfl rfl)
theorem dX7_fault_11 : decode cX7_fault 11 = .ok (.iload_n 1, 1) := dk_27 (dk_at dksX7_fault_0 11 rfl rfl)
theorem dX7_fault_12 : decode cX7_fault 12 = .ok (.iconst 1, 1) := dk_4 (dk_at dksX7_fault_0 12 rfl rfl)
theorem dX7_fault_13 : decode cX7_fault 13 = .ok (.if_icmp .ne 10, 3) := dk_160 0 10 (dk_at dksX7_fault_0 13 rfl rfl)
theorem dX7_fault_16 : decode cX7_fault 16 = .ok (.aload_n 0, 1) := dk_42 (dk_at dksX7_fault_0 16 rfl rfl)
theorem dX7_fault_17 : decode cX7_fault 17 = .ok (.getfield 38, 3) := dk_180 0 38 (dk_at dksX7_fault_0 17 rfl rfl)
theorem dX7_fault_20 : decode cX7_fault 20 = .ok (.goto 4, 3) := dk_167 0 4 (dk_at dksX7_fault_0 20 rfl rfl)
theorem dX7_fault_23 : decode cX7_fault 23 = .ok (.iconst (-1), 1) := dk_2 (dk_at dksX7_fault_0 23 rfl rfl)
theorem dX7_fault_24 : decode cX7_fault 24 = .ok (.ireturn, 1) := dk_172 (dk_at dksX7_fault_1 0 rfl rfl)
abbrev cX7_press : ByteArray := prog_17_method_37_code
def yX7_press : MethodName := ⟨RX7, "press", "(I)I"⟩
def dkwX7_press_4 : List UInt8 := [182, 0, 227, 172]
abbrev dktX7_press_4 : List UInt8 := dkwX7_press_4 ++ []
def dkwX7_press_3 : List UInt8 := [42, 180, 0, 7, 17, 51, 144, 29, 96, 46, 79, 132, 3, 1, 167, 255, 230, 42, 42, 180, 0, 7, 3, 46]
abbrev dktX7_press_3 : List UInt8 := dkwX7_press_3 ++ dktX7_press_4
def dkwX7_press_2 : List UInt8 := [167, 255, 240, 42, 180, 0, 169, 154, 0, 34, 3, 62, 29, 17, 12, 228, 162, 0, 25, 42, 180, 0, 7, 29]
abbrev dktX7_press_2 : List UInt8 := dkwX7_press_2 ++ dktX7_press_3
def dkwX7_press_1 : List UInt8 := [42, 3, 181, 0, 214, 4, 61, 28, 153, 0, 18, 42, 180, 0, 144, 153, 0, 11, 42, 182, 0, 224, 61]
abbrev dktX7_press_1 : List UInt8 := dkwX7_press_1 ++ dktX7_press_2
def dkwX7_press_0 : List UInt8 := [42, 27, 17, 3, 132, 182, 0, 221, 154, 0, 9, 42, 4, 182, 0, 188, 172, 42, 17, 51, 144, 182, 0, 95]
abbrev dktX7_press_0 : List UInt8 := dkwX7_press_0 ++ dktX7_press_1
theorem dksX7_press_0 : cX7_press.data.toList.drop 0 = dktX7_press_0 := by decide +kernel
theorem dksX7_press_1 : cX7_press.data.toList.drop 24 = dktX7_press_1 := dk_seg dksX7_press_0 24 rfl rfl
theorem dksX7_press_2 : cX7_press.data.toList.drop 47 = dktX7_press_2 := dk_seg dksX7_press_1 23 rfl rfl
theorem dksX7_press_3 : cX7_press.data.toList.drop 71 = dktX7_press_3 := dk_seg dksX7_press_2 24 rfl rfl
theorem dksX7_press_4 : cX7_press.data.toList.drop 95 = dktX7_press_4 := dk_seg dksX7_press_3 24 rfl rfl
theorem dX7_press_0 : decode cX7_press 0 = .ok (.aload_n 0, 1) := dk_42 (dk_at dksX7_press_0 0 rfl rfl)
theorem dX7_press_1 : decode cX7_press 1 = .ok (.iload_n 1, 1) := dk_27 (dk_at dksX7_press_0 1 rfl rfl)
theorem dX7_press_2 : decode cX7_press 2 = .ok (.sipush 900, 3) := dk_17 3 132 (dk_at dksX7_press_0 2 rfl rfl)
theorem dX7_press_5 : decode cX7_press 5 = .ok (.invokevirtual 221, 3) := dk_182 0 221 (dk_at dksX7_press_0 5 rfl rfl)
theorem dX7_press_8 : decode cX7_press 8 = .ok (.ifCond .ne 9, 3) := dk_154 0 9 (dk_at dksX7_press_0 8 rfl rfl)
theorem dX7_press_11 : decode cX7_press 11 = .ok (.aload_n 0, 1) := dk_42 (dk_at dksX7_press_0 11 rfl rfl)
theorem dX7_press_12 : decode cX7_press 12 = .ok (.iconst 1, 1) := dk_4 (dk_at dksX7_press_0 12 rfl rfl)
theorem dX7_press_13 : decode cX7_press 13 = .ok (.invokevirtual 188, 3) := dk_182 0 188 (dk_at dksX7_press_0 13 rfl rfl)
theorem dX7_press_16 : decode cX7_press 16 = .ok (.ireturn, 1) := dk_172 (dk_at dksX7_press_0 16 rfl rfl)
theorem dX7_press_17 : decode cX7_press 17 = .ok (.aload_n 0, 1) := dk_42 (dk_at dksX7_press_0 17 rfl rfl)
theorem dX7_press_18 : decode cX7_press 18 = .ok (.sipush 13200, 3) := dk_17 51 144 (dk_at dksX7_press_0 18 rfl rfl)
theorem dX7_press_21 : decode cX7_press 21 = .ok (.invokevirtual 95, 3) := dk_182 0 95 (dk_at dksX7_press_0 21 rfl rfl)
theorem dX7_press_24 : decode cX7_press 24 = .ok (.aload_n 0, 1) := dk_42 (dk_at dksX7_press_1 0 rfl rfl)
theorem dX7_press_25 : decode cX7_press 25 = .ok (.iconst 0, 1) := dk_3 (dk_at dksX7_press_1 1 rfl rfl)
theorem dX7_press_26 : decode cX7_press 26 = .ok (.putfield 214, 3) := dk_181 0 214 (dk_at dksX7_press_1 2 rfl rfl)
theorem dX7_press_29 : decode cX7_press 29 = .ok (.iconst 1, 1) := dk_4 (dk_at dksX7_press_1 5 rfl rfl)
theorem dX7_press_30 : decode cX7_press 30 = .ok (.istore_n 2, 1) := dk_61 (dk_at dksX7_press_1 6 rfl rfl)
theorem dX7_press_31 : decode cX7_press 31 = .ok (.iload_n 2, 1) := dk_28 (dk_at dksX7_press_1 7 rfl rfl)
theorem dX7_press_32 : decode cX7_press 32 = .ok (.ifCond .eq 18, 3) := dk_153 0 18 (dk_at dksX7_press_1 8 rfl rfl)
theorem dX7_press_35 : decode cX7_press 35 = .ok (.aload_n 0, 1) := dk_42 (dk_at dksX7_press_1 11 rfl rfl)
theorem dX7_press_36 : decode cX7_press 36 = .ok (.getfield 144, 3) := dk_180 0 144 (dk_at dksX7_press_1 12 rfl rfl)
theorem dX7_press_39 : decode cX7_press 39 = .ok (.ifCond .eq 11, 3) := dk_153 0 11 (dk_at dksX7_press_1 15 rfl rfl)
theorem dX7_press_42 : decode cX7_press 42 = .ok (.aload_n 0, 1) := dk_42 (dk_at dksX7_press_1 18 rfl rfl)
theorem dX7_press_43 : decode cX7_press 43 = .ok (.invokevirtual 224, 3) := dk_182 0 224 (dk_at dksX7_press_1 19 rfl rfl)
theorem dX7_press_46 : decode cX7_press 46 = .ok (.istore_n 2, 1) := dk_61 (dk_at dksX7_press_1 22 rfl rfl)
theorem dX7_press_47 : decode cX7_press 47 = .ok (.goto (-16), 3) := dk_167 255 240 (dk_at dksX7_press_2 0 rfl rfl)
theorem dX7_press_50 : decode cX7_press 50 = .ok (.aload_n 0, 1) := dk_42 (dk_at dksX7_press_2 3 rfl rfl)
theorem dX7_press_51 : decode cX7_press 51 = .ok (.getfield 169, 3) := dk_180 0 169 (dk_at dksX7_press_2 4 rfl rfl)
theorem dX7_press_54 : decode cX7_press 54 = .ok (.ifCond .ne 34, 3) := dk_154 0 34 (dk_at dksX7_press_2 7 rfl rfl)
theorem dX7_press_57 : decode cX7_press 57 = .ok (.iconst 0, 1) := dk_3 (dk_at dksX7_press_2 10 rfl rfl)
theorem dX7_press_58 : decode cX7_press 58 = .ok (.istore_n 3, 1) := dk_62 (dk_at dksX7_press_2 11 rfl rfl)
theorem dX7_press_59 : decode cX7_press 59 = .ok (.iload_n 3, 1) := dk_29 (dk_at dksX7_press_2 12 rfl rfl)
theorem dX7_press_60 : decode cX7_press 60 = .ok (.sipush 3300, 3) := dk_17 12 228 (dk_at dksX7_press_2 13 rfl rfl)
theorem dX7_press_63 : decode cX7_press 63 = .ok (.if_icmp .ge 25, 3) := dk_162 0 25 (dk_at dksX7_press_2 16 rfl rfl)
theorem dX7_press_66 : decode cX7_press 66 = .ok (.aload_n 0, 1) := dk_42 (dk_at dksX7_press_2 19 rfl rfl)
theorem dX7_press_67 : decode cX7_press 67 = .ok (.getfield 7, 3) := dk_180 0 7 (dk_at dksX7_press_2 20 rfl rfl)
theorem dX7_press_70 : decode cX7_press 70 = .ok (.iload_n 3, 1) := dk_29 (dk_at dksX7_press_2 23 rfl rfl)
theorem dX7_press_71 : decode cX7_press 71 = .ok (.aload_n 0, 1) := dk_42 (dk_at dksX7_press_3 0 rfl rfl)
theorem dX7_press_72 : decode cX7_press 72 = .ok (.getfield 7, 3) := dk_180 0 7 (dk_at dksX7_press_3 1 rfl rfl)
theorem dX7_press_75 : decode cX7_press 75 = .ok (.sipush 13200, 3) := dk_17 51 144 (dk_at dksX7_press_3 4 rfl rfl)
theorem dX7_press_78 : decode cX7_press 78 = .ok (.iload_n 3, 1) := dk_29 (dk_at dksX7_press_3 7 rfl rfl)
theorem dX7_press_79 : decode cX7_press 79 = .ok (.iadd, 1) := dk_96 (dk_at dksX7_press_3 8 rfl rfl)
theorem dX7_press_80 : decode cX7_press 80 = .ok (.iaload, 1) := dk_46 (dk_at dksX7_press_3 9 rfl rfl)
theorem dX7_press_81 : decode cX7_press 81 = .ok (.iastore, 1) := dk_79 (dk_at dksX7_press_3 10 rfl rfl)
theorem dX7_press_82 : decode cX7_press 82 = .ok (.iinc 3 1, 3) := dk_132 3 1 (dk_at dksX7_press_3 11 rfl rfl)
theorem dX7_press_85 : decode cX7_press 85 = .ok (.goto (-26), 3) := dk_167 255 230 (dk_at dksX7_press_3 14 rfl rfl)
theorem dX7_press_88 : decode cX7_press 88 = .ok (.aload_n 0, 1) := dk_42 (dk_at dksX7_press_3 17 rfl rfl)
theorem dX7_press_89 : decode cX7_press 89 = .ok (.aload_n 0, 1) := dk_42 (dk_at dksX7_press_3 18 rfl rfl)
theorem dX7_press_90 : decode cX7_press 90 = .ok (.getfield 7, 3) := dk_180 0 7 (dk_at dksX7_press_3 19 rfl rfl)
theorem dX7_press_93 : decode cX7_press 93 = .ok (.iconst 0, 1) := dk_3 (dk_at dksX7_press_3 22 rfl rfl)
theorem dX7_press_94 : decode cX7_press 94 = .ok (.iaload, 1) := dk_46 (dk_at dksX7_press_3 23 rfl rfl)
theorem dX7_press_95 : decode cX7_press 95 = .ok (.invokevirtual 227, 3) := dk_182 0 227 (dk_at dksX7_press_4 0 rfl rfl)
theorem dX7_press_98 : decode cX7_press 98 = .ok (.ireturn, 1) := dk_172 (dk_at dksX7_press_4 3 rfl rfl)
abbrev cX7_begins : ByteArray := prog_17_method_27_code
def yX7_begins : MethodName := ⟨RX7, "begins", "(II)Z"⟩
def dkwX7_begins_3 : List UInt8 := [3, 181, 0, 172, 42, 182, 0, 175, 4, 172]
abbrev dktX7_begins_3 : List UInt8 := dkwX7_begins_3 ++ []
def dkwX7_begins_2 : List UInt8 := [167, 255, 236, 42, 3, 181, 0, 122, 42, 3, 181, 0, 169, 42, 2, 181, 0, 38, 42, 3, 181, 0, 131, 42]
abbrev dktX7_begins_2 : List UInt8 := dkwX7_begins_2 ++ dktX7_begins_3
def dkwX7_begins_1 : List UInt8 := [3, 62, 29, 27, 162, 0, 21, 42, 180, 0, 31, 29, 42, 180, 0, 27, 29, 51, 84, 132, 3, 1]
abbrev dktX7_begins_1 : List UInt8 := dkwX7_begins_1 ++ dktX7_begins_2
def dkwX7_begins_0 : List UInt8 := [27, 155, 0, 16, 27, 42, 180, 0, 122, 163, 0, 8, 27, 28, 164, 0, 5, 3, 172, 42, 27, 181, 0, 128]
abbrev dktX7_begins_0 : List UInt8 := dkwX7_begins_0 ++ dktX7_begins_1
theorem dksX7_begins_0 : cX7_begins.data.toList.drop 0 = dktX7_begins_0 := by decide +kernel
theorem dksX7_begins_1 : cX7_begins.data.toList.drop 24 = dktX7_begins_1 := dk_seg dksX7_begins_0 24 rfl rfl
theorem dksX7_begins_2 : cX7_begins.data.toList.drop 46 = dktX7_begins_2 := dk_seg dksX7_begins_1 22 rfl rfl
theorem dksX7_begins_3 : cX7_begins.data.toList.drop 70 = dktX7_begins_3 := dk_seg dksX7_begins_2 24 rfl rfl
theorem dX7_begins_0 : decode cX7_begins 0 = .ok (.iload_n 1, 1) := dk_27 (dk_at dksX7_begins_0 0 rfl rfl)
theorem dX7_begins_1 : decode cX7_begins 1 = .ok (.ifCond .lt 16, 3) := dk_155 0 16 (dk_at dksX7_begins_0 1 rfl rfl)
theorem dX7_begins_4 : decode cX7_begins 4 = .ok (.iload_n 1, 1) := dk_27 (dk_at dksX7_begins_0 4 rfl rfl)
theorem dX7_begins_5 : decode cX7_begins 5 = .ok (.aload_n 0, 1) := dk_42 (dk_at dksX7_begins_0 5 rfl rfl)
theorem dX7_begins_6 : decode cX7_begins 6 = .ok (.getfield 122, 3) := dk_180 0 122 (dk_at dksX7_begins_0 6 rfl rfl)
theorem dX7_begins_9 : decode cX7_begins 9 = .ok (.if_icmp .gt 8, 3) := dk_163 0 8 (dk_at dksX7_begins_0 9 rfl rfl)
theorem dX7_begins_12 : decode cX7_begins 12 = .ok (.iload_n 1, 1) := dk_27 (dk_at dksX7_begins_0 12 rfl rfl)
theorem dX7_begins_13 : decode cX7_begins 13 = .ok (.iload_n 2, 1) := dk_28 (dk_at dksX7_begins_0 13 rfl rfl)
theorem dX7_begins_14 : decode cX7_begins 14 = .ok (.if_icmp .le 5, 3) := dk_164 0 5 (dk_at dksX7_begins_0 14 rfl rfl)
theorem dX7_begins_17 : decode cX7_begins 17 = .ok (.iconst 0, 1) := dk_3 (dk_at dksX7_begins_0 17 rfl rfl)
theorem dX7_begins_18 : decode cX7_begins 18 = .ok (.ireturn, 1) := dk_172 (dk_at dksX7_begins_0 18 rfl rfl)
theorem dX7_begins_19 : decode cX7_begins 19 = .ok (.aload_n 0, 1) := dk_42 (dk_at dksX7_begins_0 19 rfl rfl)
theorem dX7_begins_20 : decode cX7_begins 20 = .ok (.iload_n 1, 1) := dk_27 (dk_at dksX7_begins_0 20 rfl rfl)
theorem dX7_begins_21 : decode cX7_begins 21 = .ok (.putfield 128, 3) := dk_181 0 128 (dk_at dksX7_begins_0 21 rfl rfl)
theorem dX7_begins_24 : decode cX7_begins 24 = .ok (.iconst 0, 1) := dk_3 (dk_at dksX7_begins_1 0 rfl rfl)
theorem dX7_begins_25 : decode cX7_begins 25 = .ok (.istore_n 3, 1) := dk_62 (dk_at dksX7_begins_1 1 rfl rfl)
theorem dX7_begins_26 : decode cX7_begins 26 = .ok (.iload_n 3, 1) := dk_29 (dk_at dksX7_begins_1 2 rfl rfl)
theorem dX7_begins_27 : decode cX7_begins 27 = .ok (.iload_n 1, 1) := dk_27 (dk_at dksX7_begins_1 3 rfl rfl)
theorem dX7_begins_28 : decode cX7_begins 28 = .ok (.if_icmp .ge 21, 3) := dk_162 0 21 (dk_at dksX7_begins_1 4 rfl rfl)
theorem dX7_begins_31 : decode cX7_begins 31 = .ok (.aload_n 0, 1) := dk_42 (dk_at dksX7_begins_1 7 rfl rfl)
theorem dX7_begins_32 : decode cX7_begins 32 = .ok (.getfield 31, 3) := dk_180 0 31 (dk_at dksX7_begins_1 8 rfl rfl)
theorem dX7_begins_35 : decode cX7_begins 35 = .ok (.iload_n 3, 1) := dk_29 (dk_at dksX7_begins_1 11 rfl rfl)
theorem dX7_begins_36 : decode cX7_begins 36 = .ok (.aload_n 0, 1) := dk_42 (dk_at dksX7_begins_1 12 rfl rfl)
theorem dX7_begins_37 : decode cX7_begins 37 = .ok (.getfield 27, 3) := dk_180 0 27 (dk_at dksX7_begins_1 13 rfl rfl)
theorem dX7_begins_40 : decode cX7_begins 40 = .ok (.iload_n 3, 1) := dk_29 (dk_at dksX7_begins_1 16 rfl rfl)
theorem dX7_begins_41 : decode cX7_begins 41 = .ok (.baload, 1) := dk_51 (dk_at dksX7_begins_1 17 rfl rfl)
theorem dX7_begins_42 : decode cX7_begins 42 = .ok (.bastore, 1) := dk_84 (dk_at dksX7_begins_1 18 rfl rfl)
theorem dX7_begins_43 : decode cX7_begins 43 = .ok (.iinc 3 1, 3) := dk_132 3 1 (dk_at dksX7_begins_1 19 rfl rfl)
theorem dX7_begins_46 : decode cX7_begins 46 = .ok (.goto (-20), 3) := dk_167 255 236 (dk_at dksX7_begins_2 0 rfl rfl)
theorem dX7_begins_49 : decode cX7_begins 49 = .ok (.aload_n 0, 1) := dk_42 (dk_at dksX7_begins_2 3 rfl rfl)
theorem dX7_begins_50 : decode cX7_begins 50 = .ok (.iconst 0, 1) := dk_3 (dk_at dksX7_begins_2 4 rfl rfl)
theorem dX7_begins_51 : decode cX7_begins 51 = .ok (.putfield 122, 3) := dk_181 0 122 (dk_at dksX7_begins_2 5 rfl rfl)
theorem dX7_begins_54 : decode cX7_begins 54 = .ok (.aload_n 0, 1) := dk_42 (dk_at dksX7_begins_2 8 rfl rfl)
theorem dX7_begins_55 : decode cX7_begins 55 = .ok (.iconst 0, 1) := dk_3 (dk_at dksX7_begins_2 9 rfl rfl)
theorem dX7_begins_56 : decode cX7_begins 56 = .ok (.putfield 169, 3) := dk_181 0 169 (dk_at dksX7_begins_2 10 rfl rfl)
theorem dX7_begins_59 : decode cX7_begins 59 = .ok (.aload_n 0, 1) := dk_42 (dk_at dksX7_begins_2 13 rfl rfl)
theorem dX7_begins_60 : decode cX7_begins 60 = .ok (.iconst (-1), 1) := dk_2 (dk_at dksX7_begins_2 14 rfl rfl)
theorem dX7_begins_61 : decode cX7_begins 61 = .ok (.putfield 38, 3) := dk_181 0 38 (dk_at dksX7_begins_2 15 rfl rfl)
theorem dX7_begins_64 : decode cX7_begins 64 = .ok (.aload_n 0, 1) := dk_42 (dk_at dksX7_begins_2 18 rfl rfl)
theorem dX7_begins_65 : decode cX7_begins 65 = .ok (.iconst 0, 1) := dk_3 (dk_at dksX7_begins_2 19 rfl rfl)
theorem dX7_begins_66 : decode cX7_begins 66 = .ok (.putfield 131, 3) := dk_181 0 131 (dk_at dksX7_begins_2 20 rfl rfl)
theorem dX7_begins_69 : decode cX7_begins 69 = .ok (.aload_n 0, 1) := dk_42 (dk_at dksX7_begins_2 23 rfl rfl)
theorem dX7_begins_70 : decode cX7_begins 70 = .ok (.iconst 0, 1) := dk_3 (dk_at dksX7_begins_3 0 rfl rfl)
theorem dX7_begins_71 : decode cX7_begins 71 = .ok (.putfield 172, 3) := dk_181 0 172 (dk_at dksX7_begins_3 1 rfl rfl)
theorem dX7_begins_74 : decode cX7_begins 74 = .ok (.aload_n 0, 1) := dk_42 (dk_at dksX7_begins_3 4 rfl rfl)
theorem dX7_begins_75 : decode cX7_begins 75 = .ok (.invokevirtual 175, 3) := dk_182 0 175 (dk_at dksX7_begins_3 5 rfl rfl)
theorem dX7_begins_78 : decode cX7_begins 78 = .ok (.iconst 1, 1) := dk_4 (dk_at dksX7_begins_3 8 rfl rfl)
theorem dX7_begins_79 : decode cX7_begins 79 = .ok (.ireturn, 1) := dk_172 (dk_at dksX7_begins_3 9 rfl rfl)
abbrev cX7_ahead : ByteArray := prog_17_method_23_code
def yX7_ahead : MethodName := ⟨RX7, "ahead", "()V"⟩
def dkwX7_ahead_10 : List UInt8 := [177]
abbrev dktX7_ahead_10 : List UInt8 := dkwX7_ahead_10 ++ []
def dkwX7_ahead_9 : List UInt8 := [89, 180, 0, 131, 4, 96, 181, 0, 131, 42, 27, 16, 59, 160, 0, 7, 7, 167, 0, 4, 4, 181, 0, 144]
abbrev dktX7_ahead_9 : List UInt8 := dkwX7_ahead_9 ++ dktX7_ahead_10
def dkwX7_ahead_8 : List UInt8 := [180, 0, 131, 42, 180, 0, 138, 100, 7, 164, 0, 7, 4, 167, 0, 4, 6, 181, 0, 144, 167, 0, 28, 42]
abbrev dktX7_ahead_8 : List UInt8 := dkwX7_ahead_8 ++ dktX7_ahead_9
def dkwX7_ahead_7 : List UInt8 := [100, 184, 0, 154, 181, 0, 141, 42, 89, 180, 0, 131, 4, 96, 181, 0, 131, 167, 255, 204, 42, 42]
abbrev dktX7_ahead_7 : List UInt8 := dkwX7_ahead_7 ++ dktX7_ahead_8
def dkwX7_ahead_6 : List UInt8 := [153, 0, 44, 42, 18, 153, 16, 10, 42, 180, 0, 141, 104, 42, 42, 180, 0, 131, 182, 0, 134, 96, 16, 48]
abbrev dktX7_ahead_6 : List UInt8 := dkwX7_ahead_6 ++ dktX7_ahead_7
def dkwX7_ahead_5 : List UInt8 := [184, 0, 150, 153, 0, 88, 42, 3, 181, 0, 141, 42, 42, 180, 0, 131, 182, 0, 134, 184, 0, 150]
abbrev dktX7_ahead_5 : List UInt8 := dkwX7_ahead_5 ++ dktX7_ahead_6
def dkwX7_ahead_4 : List UInt8 := [42, 89, 180, 0, 131, 4, 96, 181, 0, 131, 167, 255, 232, 42, 5, 181, 0, 144, 167, 0, 120, 27]
abbrev dktX7_ahead_4 : List UInt8 := dkwX7_ahead_4 ++ dktX7_ahead_5
def dkwX7_ahead_3 : List UInt8 := [167, 0, 162, 27, 184, 0, 147, 153, 0, 38, 42, 42, 180, 0, 131, 182, 0, 134, 184, 0, 147, 153, 0, 16]
abbrev dktX7_ahead_3 : List UInt8 := dkwX7_ahead_3 ++ dktX7_ahead_4
def dkwX7_ahead_2 : List UInt8 := [42, 42, 180, 0, 131, 182, 0, 134, 60, 42, 27, 181, 0, 141, 27, 2, 160, 0, 11, 42, 3, 181, 0, 144]
abbrev dktX7_ahead_2 : List UInt8 := dkwX7_ahead_2 ++ dktX7_ahead_3
def dkwX7_ahead_1 : List UInt8 := [160, 0, 16, 42, 89, 180, 0, 131, 4, 96, 181, 0, 131, 167, 255, 220, 42, 42, 180, 0, 131, 181, 0, 138]
abbrev dktX7_ahead_1 : List UInt8 := dkwX7_ahead_1 ++ dktX7_ahead_2
def dkwX7_ahead_0 : List UInt8 := [42, 42, 180, 0, 131, 182, 0, 134, 16, 32, 159, 0, 16, 42, 42, 180, 0, 131, 182, 0, 134, 16, 10]
abbrev dktX7_ahead_0 : List UInt8 := dkwX7_ahead_0 ++ dktX7_ahead_1
theorem dksX7_ahead_0 : cX7_ahead.data.toList.drop 0 = dktX7_ahead_0 := by decide +kernel
theorem dksX7_ahead_1 : cX7_ahead.data.toList.drop 23 = dktX7_ahead_1 := dk_seg dksX7_ahead_0 23 rfl rfl
theorem dksX7_ahead_2 : cX7_ahead.data.toList.drop 47 = dktX7_ahead_2 := dk_seg dksX7_ahead_1 24 rfl rfl
theorem dksX7_ahead_3 : cX7_ahead.data.toList.drop 71 = dktX7_ahead_3 := dk_seg dksX7_ahead_2 24 rfl rfl
theorem dksX7_ahead_4 : cX7_ahead.data.toList.drop 95 = dktX7_ahead_4 := dk_seg dksX7_ahead_3 24 rfl rfl
theorem dksX7_ahead_5 : cX7_ahead.data.toList.drop 117 = dktX7_ahead_5 := dk_seg dksX7_ahead_4 22 rfl rfl
theorem dksX7_ahead_6 : cX7_ahead.data.toList.drop 139 = dktX7_ahead_6 := dk_seg dksX7_ahead_5 22 rfl rfl
theorem dksX7_ahead_7 : cX7_ahead.data.toList.drop 163 = dktX7_ahead_7 := dk_seg dksX7_ahead_6 24 rfl rfl
theorem dksX7_ahead_8 : cX7_ahead.data.toList.drop 185 = dktX7_ahead_8 := dk_seg dksX7_ahead_7 22 rfl rfl
theorem dksX7_ahead_9 : cX7_ahead.data.toList.drop 209 = dktX7_ahead_9 := dk_seg dksX7_ahead_8 24 rfl rfl
theorem dksX7_ahead_10 : cX7_ahead.data.toList.drop 233 = dktX7_ahead_10 := dk_seg dksX7_ahead_9 24 rfl rfl
theorem dX7_ahead_0 : decode cX7_ahead 0 = .ok (.aload_n 0, 1) := dk_42 (dk_at dksX7_ahead_0 0 rfl rfl)
theorem dX7_ahead_1 : decode cX7_ahead 1 = .ok (.aload_n 0, 1) := dk_42 (dk_at dksX7_ahead_0 1 rfl rfl)
theorem dX7_ahead_2 : decode cX7_ahead 2 = .ok (.getfield 131, 3) := dk_180 0 131 (dk_at dksX7_ahead_0 2 rfl rfl)
theorem dX7_ahead_5 : decode cX7_ahead 5 = .ok (.invokevirtual 134, 3) := dk_182 0 134 (dk_at dksX7_ahead_0 5 rfl rfl)
theorem dX7_ahead_8 : decode cX7_ahead 8 = .ok (.bipush 32, 2) := dk_16 32 (dk_at dksX7_ahead_0 8 rfl rfl)
theorem dX7_ahead_10 : decode cX7_ahead 10 = .ok (.if_icmp .eq 16, 3) := dk_159 0 16 (dk_at dksX7_ahead_0 10 rfl rfl)
theorem dX7_ahead_13 : decode cX7_ahead 13 = .ok (.aload_n 0, 1) := dk_42 (dk_at dksX7_ahead_0 13 rfl rfl)
theorem dX7_ahead_14 : decode cX7_ahead 14 = .ok (.aload_n 0, 1) := dk_42 (dk_at dksX7_ahead_0 14 rfl rfl)
theorem dX7_ahead_15 : decode cX7_ahead 15 = .ok (.getfield 131, 3) := dk_180 0 131 (dk_at dksX7_ahead_0 15 rfl rfl)
theorem dX7_ahead_18 : decode cX7_ahead 18 = .ok (.invokevirtual 134, 3) := dk_182 0 134 (dk_at dksX7_ahead_0 18 rfl rfl)
theorem dX7_ahead_21 : decode cX7_ahead 21 = .ok (.bipush 10, 2) := dk_16 10 (dk_at dksX7_ahead_0 21 rfl rfl)
theorem dX7_ahead_23 : decode cX7_ahead 23 = .ok (.if_icmp .ne 16, 3) := dk_160 0 16 (dk_at dksX7_ahead_1 0 rfl rfl)
theorem dX7_ahead_26 : decode cX7_ahead 26 = .ok (.aload_n 0, 1) := dk_42 (dk_at dksX7_ahead_1 3 rfl rfl)
theorem dX7_ahead_27 : decode cX7_ahead 27 = .ok (.dup, 1) := dk_89 (dk_at dksX7_ahead_1 4 rfl rfl)
theorem dX7_ahead_28 : decode cX7_ahead 28 = .ok (.getfield 131, 3) := dk_180 0 131 (dk_at dksX7_ahead_1 5 rfl rfl)
theorem dX7_ahead_31 : decode cX7_ahead 31 = .ok (.iconst 1, 1) := dk_4 (dk_at dksX7_ahead_1 8 rfl rfl)
theorem dX7_ahead_32 : decode cX7_ahead 32 = .ok (.iadd, 1) := dk_96 (dk_at dksX7_ahead_1 9 rfl rfl)
theorem dX7_ahead_33 : decode cX7_ahead 33 = .ok (.putfield 131, 3) := dk_181 0 131 (dk_at dksX7_ahead_1 10 rfl rfl)
theorem dX7_ahead_36 : decode cX7_ahead 36 = .ok (.goto (-36), 3) := dk_167 255 220 (dk_at dksX7_ahead_1 13 rfl rfl)
theorem dX7_ahead_39 : decode cX7_ahead 39 = .ok (.aload_n 0, 1) := dk_42 (dk_at dksX7_ahead_1 16 rfl rfl)
theorem dX7_ahead_40 : decode cX7_ahead 40 = .ok (.aload_n 0, 1) := dk_42 (dk_at dksX7_ahead_1 17 rfl rfl)
theorem dX7_ahead_41 : decode cX7_ahead 41 = .ok (.getfield 131, 3) := dk_180 0 131 (dk_at dksX7_ahead_1 18 rfl rfl)
theorem dX7_ahead_44 : decode cX7_ahead 44 = .ok (.putfield 138, 3) := dk_181 0 138 (dk_at dksX7_ahead_1 21 rfl rfl)
theorem dX7_ahead_47 : decode cX7_ahead 47 = .ok (.aload_n 0, 1) := dk_42 (dk_at dksX7_ahead_2 0 rfl rfl)
theorem dX7_ahead_48 : decode cX7_ahead 48 = .ok (.aload_n 0, 1) := dk_42 (dk_at dksX7_ahead_2 1 rfl rfl)
theorem dX7_ahead_49 : decode cX7_ahead 49 = .ok (.getfield 131, 3) := dk_180 0 131 (dk_at dksX7_ahead_2 2 rfl rfl)
theorem dX7_ahead_52 : decode cX7_ahead 52 = .ok (.invokevirtual 134, 3) := dk_182 0 134 (dk_at dksX7_ahead_2 5 rfl rfl)
theorem dX7_ahead_55 : decode cX7_ahead 55 = .ok (.istore_n 1, 1) := dk_60 (dk_at dksX7_ahead_2 8 rfl rfl)
theorem dX7_ahead_56 : decode cX7_ahead 56 = .ok (.aload_n 0, 1) := dk_42 (dk_at dksX7_ahead_2 9 rfl rfl)
theorem dX7_ahead_57 : decode cX7_ahead 57 = .ok (.iload_n 1, 1) := dk_27 (dk_at dksX7_ahead_2 10 rfl rfl)
theorem dX7_ahead_58 : decode cX7_ahead 58 = .ok (.putfield 141, 3) := dk_181 0 141 (dk_at dksX7_ahead_2 11 rfl rfl)
theorem dX7_ahead_61 : decode cX7_ahead 61 = .ok (.iload_n 1, 1) := dk_27 (dk_at dksX7_ahead_2 14 rfl rfl)
theorem dX7_ahead_62 : decode cX7_ahead 62 = .ok (.iconst (-1), 1) := dk_2 (dk_at dksX7_ahead_2 15 rfl rfl)
theorem dX7_ahead_63 : decode cX7_ahead 63 = .ok (.if_icmp .ne 11, 3) := dk_160 0 11 (dk_at dksX7_ahead_2 16 rfl rfl)
theorem dX7_ahead_66 : decode cX7_ahead 66 = .ok (.aload_n 0, 1) := dk_42 (dk_at dksX7_ahead_2 19 rfl rfl)
theorem dX7_ahead_67 : decode cX7_ahead 67 = .ok (.iconst 0, 1) := dk_3 (dk_at dksX7_ahead_2 20 rfl rfl)
theorem dX7_ahead_68 : decode cX7_ahead 68 = .ok (.putfield 144, 3) := dk_181 0 144 (dk_at dksX7_ahead_2 21 rfl rfl)
theorem dX7_ahead_71 : decode cX7_ahead 71 = .ok (.goto 162, 3) := dk_167 0 162 (dk_at dksX7_ahead_3 0 rfl rfl)
theorem dX7_ahead_74 : decode cX7_ahead 74 = .ok (.iload_n 1, 1) := dk_27 (dk_at dksX7_ahead_3 3 rfl rfl)
theorem dX7_ahead_75 : decode cX7_ahead 75 = .ok (.invokestatic 147, 3) := dk_184 0 147 (dk_at dksX7_ahead_3 4 rfl rfl)
theorem dX7_ahead_78 : decode cX7_ahead 78 = .ok (.ifCond .eq 38, 3) := dk_153 0 38 (dk_at dksX7_ahead_3 7 rfl rfl)
theorem dX7_ahead_81 : decode cX7_ahead 81 = .ok (.aload_n 0, 1) := dk_42 (dk_at dksX7_ahead_3 10 rfl rfl)
theorem dX7_ahead_82 : decode cX7_ahead 82 = .ok (.aload_n 0, 1) := dk_42 (dk_at dksX7_ahead_3 11 rfl rfl)
theorem dX7_ahead_83 : decode cX7_ahead 83 = .ok (.getfield 131, 3) := dk_180 0 131 (dk_at dksX7_ahead_3 12 rfl rfl)
theorem dX7_ahead_86 : decode cX7_ahead 86 = .ok (.invokevirtual 134, 3) := dk_182 0 134 (dk_at dksX7_ahead_3 15 rfl rfl)
theorem dX7_ahead_89 : decode cX7_ahead 89 = .ok (.invokestatic 147, 3) := dk_184 0 147 (dk_at dksX7_ahead_3 18 rfl rfl)
theorem dX7_ahead_92 : decode cX7_ahead 92 = .ok (.ifCond .eq 16, 3) := dk_153 0 16 (dk_at dksX7_ahead_3 21 rfl rfl)
theorem dX7_ahead_95 : decode cX7_ahead 95 = .ok (.aload_n 0, 1) := dk_42 (dk_at dksX7_ahead_4 0 rfl rfl)
theorem dX7_ahead_96 : decode cX7_ahead 96 = .ok (.dup, 1) := dk_89 (dk_at dksX7_ahead_4 1 rfl rfl)
theorem dX7_ahead_97 : decode cX7_ahead 97 = .ok (.getfield 131, 3) := dk_180 0 131 (dk_at dksX7_ahead_4 2 rfl rfl)
theorem dX7_ahead_100 : decode cX7_ahead 100 = .ok (.iconst 1, 1) := dk_4 (dk_at dksX7_ahead_4 5 rfl rfl)
theorem dX7_ahead_101 : decode cX7_ahead 101 = .ok (.iadd, 1) := dk_96 (dk_at dksX7_ahead_4 6 rfl rfl)
theorem dX7_ahead_102 : decode cX7_ahead 102 = .ok (.putfield 131, 3) := dk_181 0 131 (dk_at dksX7_ahead_4 7 rfl rfl)
theorem dX7_ahead_105 : decode cX7_ahead 105 = .ok (.goto (-24), 3) := dk_167 255 232 (dk_at dksX7_ahead_4 10 rfl rfl)
theorem dX7_ahead_108 : decode cX7_ahead 108 = .ok (.aload_n 0, 1) := dk_42 (dk_at dksX7_ahead_4 13 rfl rfl)
theorem dX7_ahead_109 : decode cX7_ahead 109 = .ok (.iconst 2, 1) := dk_5 (dk_at dksX7_ahead_4 14 rfl rfl)
theorem dX7_ahead_110 : decode cX7_ahead 110 = .ok (.putfield 144, 3) := dk_181 0 144 (dk_at dksX7_ahead_4 15 rfl rfl)
theorem dX7_ahead_113 : decode cX7_ahead 113 = .ok (.goto 120, 3) := dk_167 0 120 (dk_at dksX7_ahead_4 18 rfl rfl)
theorem dX7_ahead_116 : decode cX7_ahead 116 = .ok (.iload_n 1, 1) := dk_27 (dk_at dksX7_ahead_4 21 rfl rfl)
theorem dX7_ahead_117 : decode cX7_ahead 117 = .ok (.invokestatic 150, 3) := dk_184 0 150 (dk_at dksX7_ahead_5 0 rfl rfl)
theorem dX7_ahead_120 : decode cX7_ahead 120 = .ok (.ifCond .eq 88, 3) := dk_153 0 88 (dk_at dksX7_ahead_5 3 rfl rfl)
theorem dX7_ahead_123 : decode cX7_ahead 123 = .ok (.aload_n 0, 1) := dk_42 (dk_at dksX7_ahead_5 6 rfl rfl)
theorem dX7_ahead_124 : decode cX7_ahead 124 = .ok (.iconst 0, 1) := dk_3 (dk_at dksX7_ahead_5 7 rfl rfl)
theorem dX7_ahead_125 : decode cX7_ahead 125 = .ok (.putfield 141, 3) := dk_181 0 141 (dk_at dksX7_ahead_5 8 rfl rfl)
theorem dX7_ahead_128 : decode cX7_ahead 128 = .ok (.aload_n 0, 1) := dk_42 (dk_at dksX7_ahead_5 11 rfl rfl)
theorem dX7_ahead_129 : decode cX7_ahead 129 = .ok (.aload_n 0, 1) := dk_42 (dk_at dksX7_ahead_5 12 rfl rfl)
theorem dX7_ahead_130 : decode cX7_ahead 130 = .ok (.getfield 131, 3) := dk_180 0 131 (dk_at dksX7_ahead_5 13 rfl rfl)
theorem dX7_ahead_133 : decode cX7_ahead 133 = .ok (.invokevirtual 134, 3) := dk_182 0 134 (dk_at dksX7_ahead_5 16 rfl rfl)
theorem dX7_ahead_136 : decode cX7_ahead 136 = .ok (.invokestatic 150, 3) := dk_184 0 150 (dk_at dksX7_ahead_5 19 rfl rfl)
theorem dX7_ahead_139 : decode cX7_ahead 139 = .ok (.ifCond .eq 44, 3) := dk_153 0 44 (dk_at dksX7_ahead_6 0 rfl rfl)
theorem dX7_ahead_142 : decode cX7_ahead 142 = .ok (.aload_n 0, 1) := dk_42 (dk_at dksX7_ahead_6 3 rfl rfl)
theorem dX7_ahead_143 : decode cX7_ahead 143 = .ok (.ldc 153, 2) := dk_18 153 (dk_at dksX7_ahead_6 4 rfl rfl)
theorem dX7_ahead_145 : decode cX7_ahead 145 = .ok (.bipush 10, 2) := dk_16 10 (dk_at dksX7_ahead_6 6 rfl rfl)
theorem dX7_ahead_147 : decode cX7_ahead 147 = .ok (.aload_n 0, 1) := dk_42 (dk_at dksX7_ahead_6 8 rfl rfl)
theorem dX7_ahead_148 : decode cX7_ahead 148 = .ok (.getfield 141, 3) := dk_180 0 141 (dk_at dksX7_ahead_6 9 rfl rfl)
theorem dX7_ahead_151 : decode cX7_ahead 151 = .ok (.imul, 1) := dk_104 (dk_at dksX7_ahead_6 12 rfl rfl)
theorem dX7_ahead_152 : decode cX7_ahead 152 = .ok (.aload_n 0, 1) := dk_42 (dk_at dksX7_ahead_6 13 rfl rfl)
theorem dX7_ahead_153 : decode cX7_ahead 153 = .ok (.aload_n 0, 1) := dk_42 (dk_at dksX7_ahead_6 14 rfl rfl)
theorem dX7_ahead_154 : decode cX7_ahead 154 = .ok (.getfield 131, 3) := dk_180 0 131 (dk_at dksX7_ahead_6 15 rfl rfl)
theorem dX7_ahead_157 : decode cX7_ahead 157 = .ok (.invokevirtual 134, 3) := dk_182 0 134 (dk_at dksX7_ahead_6 18 rfl rfl)
theorem dX7_ahead_160 : decode cX7_ahead 160 = .ok (.iadd, 1) := dk_96 (dk_at dksX7_ahead_6 21 rfl rfl)
theorem dX7_ahead_161 : decode cX7_ahead 161 = .ok (.bipush 48, 2) := dk_16 48 (dk_at dksX7_ahead_6 22 rfl rfl)
theorem dX7_ahead_163 : decode cX7_ahead 163 = .ok (.isub, 1) := dk_100 (dk_at dksX7_ahead_7 0 rfl rfl)
theorem dX7_ahead_164 : decode cX7_ahead 164 = .ok (.invokestatic 154, 3) := dk_184 0 154 (dk_at dksX7_ahead_7 1 rfl rfl)
theorem dX7_ahead_167 : decode cX7_ahead 167 = .ok (.putfield 141, 3) := dk_181 0 141 (dk_at dksX7_ahead_7 4 rfl rfl)
theorem dX7_ahead_170 : decode cX7_ahead 170 = .ok (.aload_n 0, 1) := dk_42 (dk_at dksX7_ahead_7 7 rfl rfl)
theorem dX7_ahead_171 : decode cX7_ahead 171 = .ok (.dup, 1) := dk_89 (dk_at dksX7_ahead_7 8 rfl rfl)
theorem dX7_ahead_172 : decode cX7_ahead 172 = .ok (.getfield 131, 3) := dk_180 0 131 (dk_at dksX7_ahead_7 9 rfl rfl)
theorem dX7_ahead_175 : decode cX7_ahead 175 = .ok (.iconst 1, 1) := dk_4 (dk_at dksX7_ahead_7 12 rfl rfl)
theorem dX7_ahead_176 : decode cX7_ahead 176 = .ok (.iadd, 1) := dk_96 (dk_at dksX7_ahead_7 13 rfl rfl)
theorem dX7_ahead_177 : decode cX7_ahead 177 = .ok (.putfield 131, 3) := dk_181 0 131 (dk_at dksX7_ahead_7 14 rfl rfl)
theorem dX7_ahead_180 : decode cX7_ahead 180 = .ok (.goto (-52), 3) := dk_167 255 204 (dk_at dksX7_ahead_7 17 rfl rfl)
theorem dX7_ahead_183 : decode cX7_ahead 183 = .ok (.aload_n 0, 1) := dk_42 (dk_at dksX7_ahead_7 20 rfl rfl)
theorem dX7_ahead_184 : decode cX7_ahead 184 = .ok (.aload_n 0, 1) := dk_42 (dk_at dksX7_ahead_7 21 rfl rfl)
theorem dX7_ahead_185 : decode cX7_ahead 185 = .ok (.getfield 131, 3) := dk_180 0 131 (dk_at dksX7_ahead_8 0 rfl rfl)
theorem dX7_ahead_188 : decode cX7_ahead 188 = .ok (.aload_n 0, 1) := dk_42 (dk_at dksX7_ahead_8 3 rfl rfl)
theorem dX7_ahead_189 : decode cX7_ahead 189 = .ok (.getfield 138, 3) := dk_180 0 138 (dk_at dksX7_ahead_8 4 rfl rfl)
theorem dX7_ahead_192 : decode cX7_ahead 192 = .ok (.isub, 1) := dk_100 (dk_at dksX7_ahead_8 7 rfl rfl)
theorem dX7_ahead_193 : decode cX7_ahead 193 = .ok (.iconst 4, 1) := dk_7 (dk_at dksX7_ahead_8 8 rfl rfl)
theorem dX7_ahead_194 : decode cX7_ahead 194 = .ok (.if_icmp .le 7, 3) := dk_164 0 7 (dk_at dksX7_ahead_8 9 rfl rfl)
theorem dX7_ahead_197 : decode cX7_ahead 197 = .ok (.iconst 1, 1) := dk_4 (dk_at dksX7_ahead_8 12 rfl rfl)
theorem dX7_ahead_198 : decode cX7_ahead 198 = .ok (.goto 4, 3) := dk_167 0 4 (dk_at dksX7_ahead_8 13 rfl rfl)
theorem dX7_ahead_201 : decode cX7_ahead 201 = .ok (.iconst 3, 1) := dk_6 (dk_at dksX7_ahead_8 16 rfl rfl)
theorem dX7_ahead_202 : decode cX7_ahead 202 = .ok (.putfield 144, 3) := dk_181 0 144 (dk_at dksX7_ahead_8 17 rfl rfl)
theorem dX7_ahead_205 : decode cX7_ahead 205 = .ok (.goto 28, 3) := dk_167 0 28 (dk_at dksX7_ahead_8 20 rfl rfl)
theorem dX7_ahead_208 : decode cX7_ahead 208 = .ok (.aload_n 0, 1) := dk_42 (dk_at dksX7_ahead_8 23 rfl rfl)
theorem dX7_ahead_209 : decode cX7_ahead 209 = .ok (.dup, 1) := dk_89 (dk_at dksX7_ahead_9 0 rfl rfl)
theorem dX7_ahead_210 : decode cX7_ahead 210 = .ok (.getfield 131, 3) := dk_180 0 131 (dk_at dksX7_ahead_9 1 rfl rfl)
theorem dX7_ahead_213 : decode cX7_ahead 213 = .ok (.iconst 1, 1) := dk_4 (dk_at dksX7_ahead_9 4 rfl rfl)
theorem dX7_ahead_214 : decode cX7_ahead 214 = .ok (.iadd, 1) := dk_96 (dk_at dksX7_ahead_9 5 rfl rfl)
theorem dX7_ahead_215 : decode cX7_ahead 215 = .ok (.putfield 131, 3) := dk_181 0 131 (dk_at dksX7_ahead_9 6 rfl rfl)
theorem dX7_ahead_218 : decode cX7_ahead 218 = .ok (.aload_n 0, 1) := dk_42 (dk_at dksX7_ahead_9 9 rfl rfl)
theorem dX7_ahead_219 : decode cX7_ahead 219 = .ok (.iload_n 1, 1) := dk_27 (dk_at dksX7_ahead_9 10 rfl rfl)
theorem dX7_ahead_220 : decode cX7_ahead 220 = .ok (.bipush 59, 2) := dk_16 59 (dk_at dksX7_ahead_9 11 rfl rfl)
theorem dX7_ahead_222 : decode cX7_ahead 222 = .ok (.if_icmp .ne 7, 3) := dk_160 0 7 (dk_at dksX7_ahead_9 13 rfl rfl)
theorem dX7_ahead_225 : decode cX7_ahead 225 = .ok (.iconst 4, 1) := dk_7 (dk_at dksX7_ahead_9 16 rfl rfl)
theorem dX7_ahead_226 : decode cX7_ahead 226 = .ok (.goto 4, 3) := dk_167 0 4 (dk_at dksX7_ahead_9 17 rfl rfl)
theorem dX7_ahead_229 : decode cX7_ahead 229 = .ok (.iconst 1, 1) := dk_4 (dk_at dksX7_ahead_9 20 rfl rfl)
theorem dX7_ahead_230 : decode cX7_ahead 230 = .ok (.putfield 144, 3) := dk_181 0 144 (dk_at dksX7_ahead_9 21 rfl rfl)
theorem dX7_ahead_233 : decode cX7_ahead 233 = .ok (.return_, 1) := dk_177 (dk_at dksX7_ahead_10 0 rfl rfl)
abbrev cX7_byteAt : ByteArray := prog_17_method_20_code
def yX7_byteAt : MethodName := ⟨RX7, "byteAt", "(I)I"⟩
def dkwX7_byteAt_0 : List UInt8 := [27, 42, 180, 0, 128, 162, 0, 16, 42, 180, 0, 31, 27, 51, 17, 0, 255, 126, 167, 0, 4, 2, 172]
abbrev dktX7_byteAt_0 : List UInt8 := dkwX7_byteAt_0 ++ []
theorem dksX7_byteAt_0 : cX7_byteAt.data.toList.drop 0 = dktX7_byteAt_0 := by decide +kernel
theorem dX7_byteAt_0 : decode cX7_byteAt 0 = .ok (.iload_n 1, 1) := dk_27 (dk_at dksX7_byteAt_0 0 rfl rfl)
theorem dX7_byteAt_1 : decode cX7_byteAt 1 = .ok (.aload_n 0, 1) := dk_42 (dk_at dksX7_byteAt_0 1 rfl rfl)
theorem dX7_byteAt_2 : decode cX7_byteAt 2 = .ok (.getfield 128, 3) := dk_180 0 128 (dk_at dksX7_byteAt_0 2 rfl rfl)
theorem dX7_byteAt_5 : decode cX7_byteAt 5 = .ok (.if_icmp .ge 16, 3) := dk_162 0 16 (dk_at dksX7_byteAt_0 5 rfl rfl)
theorem dX7_byteAt_8 : decode cX7_byteAt 8 = .ok (.aload_n 0, 1) := dk_42 (dk_at dksX7_byteAt_0 8 rfl rfl)
theorem dX7_byteAt_9 : decode cX7_byteAt 9 = .ok (.getfield 31, 3) := dk_180 0 31 (dk_at dksX7_byteAt_0 9 rfl rfl)
theorem dX7_byteAt_12 : decode cX7_byteAt 12 = .ok (.iload_n 1, 1) := dk_27 (dk_at dksX7_byteAt_0 12 rfl rfl)
theorem dX7_byteAt_13 : decode cX7_byteAt 13 = .ok (.baload, 1) := dk_51 (dk_at dksX7_byteAt_0 13 rfl rfl)
theorem dX7_byteAt_14 : decode cX7_byteAt 14 = .ok (.sipush 255, 3) := dk_17 0 255 (dk_at dksX7_byteAt_0 14 rfl rfl)
theorem dX7_byteAt_17 : decode cX7_byteAt 17 = .ok (.iand, 1) := dk_126 (dk_at dksX7_byteAt_0 17 rfl rfl)
theorem dX7_byteAt_18 : decode cX7_byteAt 18 = .ok (.goto 4, 3) := dk_167 0 4 (dk_at dksX7_byteAt_0 18 rfl rfl)
theorem dX7_byteAt_21 : decode cX7_byteAt 21 = .ok (.iconst (-1), 1) := dk_2 (dk_at dksX7_byteAt_0 21 rfl rfl)
theorem dX7_byteAt_22 : decode cX7_byteAt 22 = .ok (.ireturn, 1) := dk_172 (dk_at dksX7_byteAt_0 22 rfl rfl)
abbrev cX7_isSmall : ByteArray := prog_17_method_21_code
def yX7_isSmall : MethodName := ⟨RX7, "isSmall", "(I)Z"⟩
def dkwX7_isSmall_0 : List UInt8 := [26, 16, 97, 161, 0, 13, 26, 16, 122, 163, 0, 7, 4, 167, 0, 4, 3, 172]
abbrev dktX7_isSmall_0 : List UInt8 := dkwX7_isSmall_0 ++ []
theorem dksX7_isSmall_0 : cX7_isSmall.data.toList.drop 0 = dktX7_isSmall_0 := by decide +kernel
theorem dX7_isSmall_0 : decode cX7_isSmall 0 = .ok (.iload_n 0, 1) := dk_26 (dk_at dksX7_isSmall_0 0 rfl rfl)
theorem dX7_isSmall_1 : decode cX7_isSmall 1 = .ok (.bipush 97, 2) := dk_16 97 (dk_at dksX7_isSmall_0 1 rfl rfl)
theorem dX7_isSmall_3 : decode cX7_isSmall 3 = .ok (.if_icmp .lt 13, 3) := dk_161 0 13 (dk_at dksX7_isSmall_0 3 rfl rfl)
theorem dX7_isSmall_6 : decode cX7_isSmall 6 = .ok (.iload_n 0, 1) := dk_26 (dk_at dksX7_isSmall_0 6 rfl rfl)
theorem dX7_isSmall_7 : decode cX7_isSmall 7 = .ok (.bipush 122, 2) := dk_16 122 (dk_at dksX7_isSmall_0 7 rfl rfl)
theorem dX7_isSmall_9 : decode cX7_isSmall 9 = .ok (.if_icmp .gt 7, 3) := dk_163 0 7 (dk_at dksX7_isSmall_0 9 rfl rfl)
theorem dX7_isSmall_12 : decode cX7_isSmall 12 = .ok (.iconst 1, 1) := dk_4 (dk_at dksX7_isSmall_0 12 rfl rfl)
theorem dX7_isSmall_13 : decode cX7_isSmall 13 = .ok (.goto 4, 3) := dk_167 0 4 (dk_at dksX7_isSmall_0 13 rfl rfl)
theorem dX7_isSmall_16 : decode cX7_isSmall 16 = .ok (.iconst 0, 1) := dk_3 (dk_at dksX7_isSmall_0 16 rfl rfl)
theorem dX7_isSmall_17 : decode cX7_isSmall 17 = .ok (.ireturn, 1) := dk_172 (dk_at dksX7_isSmall_0 17 rfl rfl)
abbrev cX7_isDigit : ByteArray := prog_17_method_22_code
def yX7_isDigit : MethodName := ⟨RX7, "isDigit", "(I)Z"⟩
def dkwX7_isDigit_0 : List UInt8 := [26, 16, 48, 161, 0, 13, 26, 16, 57, 163, 0, 7, 4, 167, 0, 4, 3, 172]
abbrev dktX7_isDigit_0 : List UInt8 := dkwX7_isDigit_0 ++ []
theorem dksX7_isDigit_0 : cX7_isDigit.data.toList.drop 0 = dktX7_isDigit_0 := by decide +kernel
theorem dX7_isDigit_0 : decode cX7_isDigit 0 = .ok (.iload_n 0, 1) := dk_26 (dk_at dksX7_isDigit_0 0 rfl rfl)
theorem dX7_isDigit_1 : decode cX7_isDigit 1 = .ok (.bipush 48, 2) := dk_16 48 (dk_at dksX7_isDigit_0 1 rfl rfl)
theorem dX7_isDigit_3 : decode cX7_isDigit 3 = .ok (.if_icmp .lt 13, 3) := dk_161 0 13 (dk_at dksX7_isDigit_0 3 rfl rfl)
theorem dX7_isDigit_6 : decode cX7_isDigit 6 = .ok (.iload_n 0, 1) := dk_26 (dk_at dksX7_isDigit_0 6 rfl rfl)
theorem dX7_isDigit_7 : decode cX7_isDigit 7 = .ok (.bipush 57, 2) := dk_16 57 (dk_at dksX7_isDigit_0 7 rfl rfl)
theorem dX7_isDigit_9 : decode cX7_isDigit 9 = .ok (.if_icmp .gt 7, 3) := dk_163 0 7 (dk_at dksX7_isDigit_0 9 rfl rfl)
theorem dX7_isDigit_12 : decode cX7_isDigit 12 = .ok (.iconst 1, 1) := dk_4 (dk_at dksX7_isDigit_0 12 rfl rfl)
theorem dX7_isDigit_13 : decode cX7_isDigit 13 = .ok (.goto 4, 3) := dk_167 0 4 (dk_at dksX7_isDigit_0 13 rfl rfl)
theorem dX7_isDigit_16 : decode cX7_isDigit 16 = .ok (.iconst 0, 1) := dk_3 (dk_at dksX7_isDigit_0 16 rfl rfl)
theorem dX7_isDigit_17 : decode cX7_isDigit 17 = .ok (.ireturn, 1) := dk_172 (dk_at dksX7_isDigit_0 17 rfl rfl)
abbrev cX7_refuse : ByteArray := prog_17_method_7_code
def yX7_refuse : MethodName := ⟨RX7, "refuse", "(I)I"⟩
def dkwX7_refuse_0 : List UInt8 := [42, 27, 181, 0, 99, 2, 172]
abbrev dktX7_refuse_0 : List UInt8 := dkwX7_refuse_0 ++ []
theorem dksX7_refuse_0 : cX7_refuse.data.toList.drop 0 = dktX7_refuse_0 := by decide +kernel
theorem dX7_refuse_0 : decode cX7_refuse 0 = .ok (.aload_n 0, 1) := dk_42 (dk_at dksX7_refuse_0 0 rfl rfl)
theorem dX7_refuse_1 : decode cX7_refuse 1 = .ok (.iload_n 1, 1) := dk_27 (dk_at dksX7_refuse_0 1 rfl rfl)
theorem dX7_refuse_2 : decode cX7_refuse 2 = .ok (.putfield 99, 3) := dk_181 0 99 (dk_at dksX7_refuse_0 2 rfl rfl)
theorem dX7_refuse_5 : decode cX7_refuse 5 = .ok (.iconst (-1), 1) := dk_2 (dk_at dksX7_refuse_0 5 rfl rfl)
theorem dX7_refuse_6 : decode cX7_refuse 6 = .ok (.ireturn, 1) := dk_172 (dk_at dksX7_refuse_0 6 rfl rfl)
abbrev cX7_pressPart : ByteArray := prog_17_method_36_code
def yX7_pressPart : MethodName := ⟨RX7, "pressPart", "()Z"⟩
def dkwX7_pressPart_5 : List UInt8 := [16, 63, 182, 0, 217, 153, 0, 16, 42, 16, 59, 182, 0, 207, 153, 0, 7, 4, 167, 0, 4, 3, 172]
abbrev dktX7_pressPart_5 : List UInt8 := dkwX7_pressPart_5 ++ []
def dkwX7_pressPart_4 : List UInt8 := [42, 17, 51, 149, 5, 16, 30, 182, 0, 217, 153, 0, 34, 167, 0, 18, 42, 17, 51, 144, 27, 96, 4]
abbrev dktX7_pressPart_4 : List UInt8 := dkwX7_pressPart_4 ++ dktX7_pressPart_5
def dkwX7_pressPart_3 : List UInt8 := [160, 0, 19, 42, 17, 51, 148, 7, 16, 40, 182, 0, 217, 153, 0, 55, 167, 0, 39, 27, 8, 160, 0, 19]
abbrev dktX7_pressPart_3 : List UInt8 := dkwX7_pressPart_3 ++ dktX7_pressPart_4
def dkwX7_pressPart_2 : List UInt8 := [182, 0, 181, 172, 42, 89, 180, 0, 214, 4, 27, 120, 128, 181, 0, 214, 42, 182, 0, 175, 27, 7]
abbrev dktX7_pressPart_2 : List UInt8 := dkwX7_pressPart_2 ++ dktX7_pressPart_3
def dkwX7_pressPart_1 : List UInt8 := [164, 0, 9, 42, 5, 182, 0, 181, 172, 42, 180, 0, 214, 27, 122, 4, 126, 4, 160, 0, 9, 42, 8]
abbrev dktX7_pressPart_1 : List UInt8 := dkwX7_pressPart_1 ++ dktX7_pressPart_2
def dkwX7_pressPart_0 : List UInt8 := [42, 18, 197, 182, 0, 184, 60, 27, 154, 0, 8, 42, 182, 0, 210, 172, 27, 4, 161, 0, 8, 27, 8]
abbrev dktX7_pressPart_0 : List UInt8 := dkwX7_pressPart_0 ++ dktX7_pressPart_1
theorem dksX7_pressPart_0 : cX7_pressPart.data.toList.drop 0 = dktX7_pressPart_0 := by decide +kernel
theorem dksX7_pressPart_1 : cX7_pressPart.data.toList.drop 23 = dktX7_pressPart_1 := dk_seg dksX7_pressPart_0 23 rfl rfl
theorem dksX7_pressPart_2 : cX7_pressPart.data.toList.drop 46 = dktX7_pressPart_2 := dk_seg dksX7_pressPart_1 23 rfl rfl
theorem dksX7_pressPart_3 : cX7_pressPart.data.toList.drop 68 = dktX7_pressPart_3 := dk_seg dksX7_pressPart_2 22 rfl rfl
theorem dksX7_pressPart_4 : cX7_pressPart.data.toList.drop 92 = dktX7_pressPart_4 := dk_seg dksX7_pressPart_3 24 rfl rfl
theorem dksX7_pressPart_5 : cX7_pressPart.data.toList.drop 115 = dktX7_pressPart_5 := dk_seg dksX7_pressPart_4 23 rfl rfl
theorem dX7_pressPart_0 : decode cX7_pressPart 0 = .ok (.aload_n 0, 1) := dk_42 (dk_at dksX7_pressPart_0 0 rfl rfl)
theorem dX7_pressPart_1 : decode cX7_pressPart 1 = .ok (.ldc 197, 2) := dk_18 197 (dk_at dksX7_pressPart_0 1 rfl rfl)
theorem dX7_pressPart_3 : decode cX7_pressPart 3 = .ok (.invokevirtual 184, 3) := dk_182 0 184 (dk_at dksX7_pressPart_0 3 rfl rfl)
theorem dX7_pressPart_6 : decode cX7_pressPart 6 = .ok (.istore_n 1, 1) := dk_60 (dk_at dksX7_pressPart_0 6 rfl rfl)
theorem dX7_pressPart_7 : decode cX7_pressPart 7 = .ok (.iload_n 1, 1) := dk_27 (dk_at dksX7_pressPart_0 7 rfl rfl)
theorem dX7_pressPart_8 : decode cX7_pressPart 8 = .ok (.ifCond .ne 8, 3) := dk_154 0 8 (dk_at dksX7_pressPart_0 8 rfl rfl)
theorem dX7_pressPart_11 : decode cX7_pressPart 11 = .ok (.aload_n 0, 1) := dk_42 (dk_at dksX7_pressPart_0 11 rfl rfl)
theorem dX7_pressPart_12 : decode cX7_pressPart 12 = .ok (.invokevirtual 210, 3) := dk_182 0 210 (dk_at dksX7_pressPart_0 12 rfl rfl)
theorem dX7_pressPart_15 : decode cX7_pressPart 15 = .ok (.ireturn, 1) := dk_172 (dk_at dksX7_pressPart_0 15 rfl rfl)
theorem dX7_pressPart_16 : decode cX7_pressPart 16 = .ok (.iload_n 1, 1) := dk_27 (dk_at dksX7_pressPart_0 16 rfl rfl)
theorem dX7_pressPart_17 : decode cX7_pressPart 17 = .ok (.iconst 1, 1) := dk_4 (dk_at dksX7_pressPart_0 17 rfl rfl)
theorem dX7_pressPart_18 : decode cX7_pressPart 18 = .ok (.if_icmp .lt 8, 3) := dk_161 0 8 (dk_at dksX7_pressPart_0 18 rfl rfl)
theorem dX7_pressPart_21 : decode cX7_pressPart 21 = .ok (.iload_n 1, 1) := dk_27 (dk_at dksX7_pressPart_0 21 rfl rfl)
theorem dX7_pressPart_22 : decode cX7_pressPart 22 = .ok (.iconst 5, 1) := dk_8 (dk_at dksX7_pressPart_0 22 rfl rfl)
theorem dX7_pressPart_23 : decode cX7_pressPart 23 = .ok (.if_icmp .le 9, 3) := dk_164 0 9 (dk_at dksX7_pressPart_1 0 rfl rfl)
theorem dX7_pressPart_26 : decode cX7_pressPart 26 = .ok (.aload_n 0, 1) := dk_42 (dk_at dksX7_pressPart_1 3 rfl rfl)
theorem dX7_pressPart_27 : decode cX7_pressPart 27 = .ok (.iconst 2, 1) := dk_5 (dk_at dksX7_pressPart_1 4 rfl rfl)
theorem dX7_pressPart_28 : decode cX7_pressPart 28 = .ok (.invokevirtual 181, 3) := dk_182 0 181 (dk_at dksX7_pressPart_1 5 rfl rfl)
theorem dX7_pressPart_31 : decode cX7_pressPart 31 = .ok (.ireturn, 1) := dk_172 (dk_at dksX7_pressPart_1 8 rfl rfl)
theorem dX7_pressPart_32 : decode cX7_pressPart 32 = .ok (.aload_n 0, 1) := dk_42 (dk_at dksX7_pressPart_1 9 rfl rfl)
theorem dX7_pressPart_33 : decode cX7_pressPart 33 = .ok (.getfield 214, 3) := dk_180 0 214 (dk_at dksX7_pressPart_1 10 rfl rfl)
theorem dX7_pressPart_36 : decode cX7_pressPart 36 = .ok (.iload_n 1, 1) := dk_27 (dk_at dksX7_pressPart_1 13 rfl rfl)
theorem dX7_pressPart_37 : decode cX7_pressPart 37 = .ok (.ishr, 1) := dk_122 (dk_at dksX7_pressPart_1 14 rfl rfl)
theorem dX7_pressPart_38 : decode cX7_pressPart 38 = .ok (.iconst 1, 1) := dk_4 (dk_at dksX7_pressPart_1 15 rfl rfl)
theorem dX7_pressPart_39 : decode cX7_pressPart 39 = .ok (.iand, 1) := dk_126 (dk_at dksX7_pressPart_1 16 rfl rfl)
theorem dX7_pressPart_40 : decode cX7_pressPart 40 = .ok (.iconst 1, 1) := dk_4 (dk_at dksX7_pressPart_1 17 rfl rfl)
theorem dX7_pressPart_41 : decode cX7_pressPart 41 = .ok (.if_icmp .ne 9, 3) := dk_160 0 9 (dk_at dksX7_pressPart_1 18 rfl rfl)
theorem dX7_pressPart_44 : decode cX7_pressPart 44 = .ok (.aload_n 0, 1) := dk_42 (dk_at dksX7_pressPart_1 21 rfl rfl)
theorem dX7_pressPart_45 : decode cX7_pressPart 45 = .ok (.iconst 5, 1) := dk_8 (dk_at dksX7_pressPart_1 22 rfl rfl)
theorem dX7_pressPart_46 : decode cX7_pressPart 46 = .ok (.invokevirtual 181, 3) := dk_182 0 181 (dk_at dksX7_pressPart_2 0 rfl rfl)
theorem dX7_pressPart_49 : decode cX7_pressPart 49 = .ok (.ireturn, 1) := dk_172 (dk_at dksX7_pressPart_2 3 rfl rfl)
theorem dX7_pressPart_50 : decode cX7_pressPart 50 = .ok (.aload_n 0, 1) := dk_42 (dk_at dksX7_pressPart_2 4 rfl rfl)
theorem dX7_pressPart_51 : decode cX7_pressPart 51 = .ok (.dup, 1) := dk_89 (dk_at dksX7_pressPart_2 5 rfl rfl)
theorem dX7_pressPart_52 : decode cX7_pressPart 52 = .ok (.getfield 214, 3) := dk_180 0 214 (dk_at dksX7_pressPart_2 6 rfl rfl)
theorem dX7_pressPart_55 : decode cX7_pressPart 55 = .ok (.iconst 1, 1) := dk_4 (dk_at dksX7_pressPart_2 9 rfl rfl)
theorem dX7_pressPart_56 : decode cX7_pressPart 56 = .ok (.iload_n 1, 1) := dk_27 (dk_at dksX7_pressPart_2 10 rfl rfl)
theorem dX7_pressPart_57 : decode cX7_pressPart 57 = .ok (.ishl, 1) := dk_120 (dk_at dksX7_pressPart_2 11 rfl rfl)
theorem dX7_pressPart_58 : decode cX7_pressPart 58 = .ok (.ior, 1) := dk_128 (dk_at dksX7_pressPart_2 12 rfl rfl)
theorem dX7_pressPart_59 : decode cX7_pressPart 59 = .ok (.putfield 214, 3) := dk_181 0 214 (dk_at dksX7_pressPart_2 13 rfl rfl)
theorem dX7_pressPart_62 : decode cX7_pressPart 62 = .ok (.aload_n 0, 1) := dk_42 (dk_at dksX7_pressPart_2 16 rfl rfl)
theorem dX7_pressPart_63 : decode cX7_pressPart 63 = .ok (.invokevirtual 175, 3) := dk_182 0 175 (dk_at dksX7_pressPart_2 17 rfl rfl)
theorem dX7_pressPart_66 : decode cX7_pressPart 66 = .ok (.iload_n 1, 1) := dk_27 (dk_at dksX7_pressPart_2 20 rfl rfl)
theorem dX7_pressPart_67 : decode cX7_pressPart 67 = .ok (.iconst 4, 1) := dk_7 (dk_at dksX7_pressPart_2 21 rfl rfl)
theorem dX7_pressPart_68 : decode cX7_pressPart 68 = .ok (.if_icmp .ne 19, 3) := dk_160 0 19 (dk_at dksX7_pressPart_3 0 rfl rfl)
theorem dX7_pressPart_71 : decode cX7_pressPart 71 = .ok (.aload_n 0, 1) := dk_42 (dk_at dksX7_pressPart_3 3 rfl rfl)
theorem dX7_pressPart_72 : decode cX7_pressPart 72 = .ok (.sipush 13204, 3) := dk_17 51 148 (dk_at dksX7_pressPart_3 4 rfl rfl)
theorem dX7_pressPart_75 : decode cX7_pressPart 75 = .ok (.iconst 4, 1) := dk_7 (dk_at dksX7_pressPart_3 7 rfl rfl)
theorem dX7_pressPart_76 : decode cX7_pressPart 76 = .ok (.bipush 40, 2) := dk_16 40 (dk_at dksX7_pressPart_3 8 rfl rfl)
theorem dX7_pressPart_78 : decode cX7_pressPart 78 = .ok (.invokevirtual 217, 3) := dk_182 0 217 (dk_at dksX7_pressPart_3 10 rfl rfl)
theorem dX7_pressPart_81 : decode cX7_pressPart 81 = .ok (.ifCond .eq 55, 3) := dk_153 0 55 (dk_at dksX7_pressPart_3 13 rfl rfl)
theorem dX7_pressPart_84 : decode cX7_pressPart 84 = .ok (.goto 39, 3) := dk_167 0 39 (dk_at dksX7_pressPart_3 16 rfl rfl)
theorem dX7_pressPart_87 : decode cX7_pressPart 87 = .ok (.iload_n 1, 1) := dk_27 (dk_at dksX7_pressPart_3 19 rfl rfl)
theorem dX7_pressPart_88 : decode cX7_pressPart 88 = .ok (.iconst 5, 1) := dk_8 (dk_at dksX7_pressPart_3 20 rfl rfl)
theorem dX7_pressPart_89 : decode cX7_pressPart 89 = .ok (.if_icmp .ne 19, 3) := dk_160 0 19 (dk_at dksX7_pressPart_3 21 rfl rfl)
theorem dX7_pressPart_92 : decode cX7_pressPart 92 = .ok (.aload_n 0, 1) := dk_42 (dk_at dksX7_pressPart_4 0 rfl rfl)
theorem dX7_pressPart_93 : decode cX7_pressPart 93 = .ok (.sipush 13205, 3) := dk_17 51 149 (dk_at dksX7_pressPart_4 1 rfl rfl)
theorem dX7_pressPart_96 : decode cX7_pressPart 96 = .ok (.iconst 2, 1) := dk_5 (dk_at dksX7_pressPart_4 4 rfl rfl)
theorem dX7_pressPart_97 : decode cX7_pressPart 97 = .ok (.bipush 30, 2) := dk_16 30 (dk_at dksX7_pressPart_4 5 rfl rfl)
theorem dX7_pressPart_99 : decode cX7_pressPart 99 = .ok (.invokevirtual 217, 3) := dk_182 0 217 (dk_at dksX7_pressPart_4 7 rfl rfl)
theorem dX7_pressPart_102 : decode cX7_pressPart 102 = .ok (.ifCond .eq 34, 3) := dk_153 0 34 (dk_at dksX7_pressPart_4 10 rfl rfl)
theorem dX7_pressPart_105 : decode cX7_pressPart 105 = .ok (.goto 18, 3) := dk_167 0 18 (dk_at dksX7_pressPart_4 13 rfl rfl)
theorem dX7_pressPart_108 : decode cX7_pressPart 108 = .ok (.aload_n 0, 1) := dk_42 (dk_at dksX7_pressPart_4 16 rfl rfl)
theorem dX7_pressPart_109 : decode cX7_pressPart 109 = .ok (.sipush 13200, 3) := dk_17 51 144 (dk_at dksX7_pressPart_4 17 rfl rfl)
theorem dX7_pressPart_112 : decode cX7_pressPart 112 = .ok (.iload_n 1, 1) := dk_27 (dk_at dksX7_pressPart_4 20 rfl rfl)
theorem dX7_pressPart_113 : decode cX7_pressPart 113 = .ok (.iadd, 1) := dk_96 (dk_at dksX7_pressPart_4 21 rfl rfl)
theorem dX7_pressPart_114 : decode cX7_pressPart 114 = .ok (.iconst 1, 1) := dk_4 (dk_at dksX7_pressPart_4 22 rfl rfl)
theorem dX7_pressPart_115 : decode cX7_pressPart 115 = .ok (.bipush 63, 2) := dk_16 63 (dk_at dksX7_pressPart_5 0 rfl rfl)
theorem dX7_pressPart_117 : decode cX7_pressPart 117 = .ok (.invokevirtual 217, 3) := dk_182 0 217 (dk_at dksX7_pressPart_5 2 rfl rfl)
theorem dX7_pressPart_120 : decode cX7_pressPart 120 = .ok (.ifCond .eq 16, 3) := dk_153 0 16 (dk_at dksX7_pressPart_5 5 rfl rfl)
theorem dX7_pressPart_123 : decode cX7_pressPart 123 = .ok (.aload_n 0, 1) := dk_42 (dk_at dksX7_pressPart_5 8 rfl rfl)
theorem dX7_pressPart_124 : decode cX7_pressPart 124 = .ok (.bipush 59, 2) := dk_16 59 (dk_at dksX7_pressPart_5 9 rfl rfl)
theorem dX7_pressPart_126 : decode cX7_pressPart 126 = .ok (.invokevirtual 207, 3) := dk_182 0 207 (dk_at dksX7_pressPart_5 11 rfl rfl)
theorem dX7_pressPart_129 : decode cX7_pressPart 129 = .ok (.ifCond .eq 7, 3) := dk_153 0 7 (dk_at dksX7_pressPart_5 14 rfl rfl)
theorem dX7_pressPart_132 : decode cX7_pressPart 132 = .ok (.iconst 1, 1) := dk_4 (dk_at dksX7_pressPart_5 17 rfl rfl)
theorem dX7_pressPart_133 : decode cX7_pressPart 133 = .ok (.goto 4, 3) := dk_167 0 4 (dk_at dksX7_pressPart_5 18 rfl rfl)
theorem dX7_pressPart_136 : decode cX7_pressPart 136 = .ok (.iconst 0, 1) := dk_3 (dk_at dksX7_pressPart_5 21 rfl rfl)
theorem dX7_pressPart_137 : decode cX7_pressPart 137 = .ok (.ireturn, 1) := dk_172 (dk_at dksX7_pressPart_5 22 rfl rfl)
abbrev cX7_inWords : ByteArray := prog_17_method_25_code
def yX7_inWords : MethodName := ⟨RX7, "inWords", "(Ljava/lang/String;)I"⟩
def dkwX7_inWords_5 : List UInt8 := [153, 0, 5, 28, 172, 132, 2, 1, 21, 4, 4, 96, 62, 167, 255, 140, 2, 172]
abbrev dktX7_inWords_5 : List UInt8 := dkwX7_inWords_5 ++ []
def dkwX7_inWords_4 : List UInt8 := [29, 100, 182, 0, 134, 160, 0, 7, 4, 167, 0, 4, 3, 54, 5, 132, 6, 1, 167, 255, 212, 21, 5]
abbrev dktX7_inWords_4 : List UInt8 := dkwX7_inWords_4 ++ dktX7_inWords_5
def dkwX7_inWords_3 : List UInt8 := [21, 4, 162, 0, 43, 21, 5, 153, 0, 38, 43, 21, 6, 182, 0, 165, 42, 42, 180, 0, 138, 21, 6, 96]
abbrev dktX7_inWords_3 : List UInt8 := dkwX7_inWords_3 ++ dktX7_inWords_4
def dkwX7_inWords_2 : List UInt8 := [180, 0, 131, 42, 180, 0, 138, 100, 160, 0, 7, 4, 167, 0, 4, 3, 54, 5, 29, 54, 6, 21, 6]
abbrev dktX7_inWords_2 : List UInt8 := dkwX7_inWords_2 ++ dktX7_inWords_3
def dkwX7_inWords_1 : List UInt8 := [54, 4, 43, 21, 4, 182, 0, 165, 16, 32, 159, 0, 9, 132, 4, 1, 167, 255, 242, 21, 4, 29, 100, 42]
abbrev dktX7_inWords_1 : List UInt8 := dkwX7_inWords_1 ++ dktX7_inWords_2
def dkwX7_inWords_0 : List UInt8 := [42, 180, 0, 144, 5, 159, 0, 5, 2, 172, 3, 61, 4, 62, 29, 43, 182, 0, 159, 162, 0, 114, 29]
abbrev dktX7_inWords_0 : List UInt8 := dkwX7_inWords_0 ++ dktX7_inWords_1
theorem dksX7_inWords_0 : cX7_inWords.data.toList.drop 0 = dktX7_inWords_0 := by decide +kernel
theorem dksX7_inWords_1 : cX7_inWords.data.toList.drop 23 = dktX7_inWords_1 := dk_seg dksX7_inWords_0 23 rfl rfl
theorem dksX7_inWords_2 : cX7_inWords.data.toList.drop 47 = dktX7_inWords_2 := dk_seg dksX7_inWords_1 24 rfl rfl
theorem dksX7_inWords_3 : cX7_inWords.data.toList.drop 70 = dktX7_inWords_3 := dk_seg dksX7_inWords_2 23 rfl rfl
theorem dksX7_inWords_4 : cX7_inWords.data.toList.drop 94 = dktX7_inWords_4 := dk_seg dksX7_inWords_3 24 rfl rfl
theorem dksX7_inWords_5 : cX7_inWords.data.toList.drop 117 = dktX7_inWords_5 := dk_seg dksX7_inWords_4 23 rfl rfl
theorem dX7_inWords_0 : decode cX7_inWords 0 = .ok (.aload_n 0, 1) := dk_42 (dk_at dksX7_inWords_0 0 rfl rfl)
theorem dX7_inWords_1 : decode cX7_inWords 1 = .ok (.getfield 144, 3) := dk_180 0 144 (dk_at dksX7_inWords_0 1 rfl rfl)
theorem dX7_inWords_4 : decode cX7_inWords 4 = .ok (.iconst 2, 1) := dk_5 (dk_at dksX7_inWords_0 4 rfl rfl)
theorem dX7_inWords_5 : decode cX7_inWords 5 = .ok (.if_icmp .eq 5, 3) := dk_159 0 5 (dk_at dksX7_inWords_0 5 rfl rfl)
theorem dX7_inWords_8 : decode cX7_inWords 8 = .ok (.iconst (-1), 1) := dk_2 (dk_at dksX7_inWords_0 8 rfl rfl)
theorem dX7_inWords_9 : decode cX7_inWords 9 = .ok (.ireturn, 1) := dk_172 (dk_at dksX7_inWords_0 9 rfl rfl)
theorem dX7_inWords_10 : decode cX7_inWords 10 = .ok (.iconst 0, 1) := dk_3 (dk_at dksX7_inWords_0 10 rfl rfl)
theorem dX7_inWords_11 : decode cX7_inWords 11 = .ok (.istore_n 2, 1) := dk_61 (dk_at dksX7_inWords_0 11 rfl rfl)
theorem dX7_inWords_12 : decode cX7_inWords 12 = .ok (.iconst 1, 1) := dk_4 (dk_at dksX7_inWords_0 12 rfl rfl)
theorem dX7_inWords_13 : decode cX7_inWords 13 = .ok (.istore_n 3, 1) := dk_62 (dk_at dksX7_inWords_0 13 rfl rfl)
theorem dX7_inWords_14 : decode cX7_inWords 14 = .ok (.iload_n 3, 1) := dk_29 (dk_at dksX7_inWords_0 14 rfl rfl)
theorem dX7_inWords_15 : decode cX7_inWords 15 = .ok (.aload_n 1, 1) := dk_43 (dk_at dksX7_inWords_0 15 rfl rfl)
theorem dX7_inWords_16 : decode cX7_inWords 16 = .ok (.invokevirtual 159, 3) := dk_182 0 159 (dk_at dksX7_inWords_0 16 rfl rfl)
theorem dX7_inWords_19 : decode cX7_inWords 19 = .ok (.if_icmp .ge 114, 3) := dk_162 0 114 (dk_at dksX7_inWords_0 19 rfl rfl)
theorem dX7_inWords_22 : decode cX7_inWords 22 = .ok (.iload_n 3, 1) := dk_29 (dk_at dksX7_inWords_0 22 rfl rfl)
theorem dX7_inWords_23 : decode cX7_inWords 23 = .ok (.istore 4, 2) := dk_54 4 (dk_at dksX7_inWords_1 0 rfl rfl)
theorem dX7_inWords_25 : decode cX7_inWords 25 = .ok (.aload_n 1, 1) := dk_43 (dk_at dksX7_inWords_1 2 rfl rfl)
theorem dX7_inWords_26 : decode cX7_inWords 26 = .ok (.iload 4, 2) := dk_21 4 (dk_at dksX7_inWords_1 3 rfl rfl)
theorem dX7_inWords_28 : decode cX7_inWords 28 = .ok (.invokevirtual 165, 3) := dk_182 0 165 (dk_at dksX7_inWords_1 5 rfl rfl)
theorem dX7_inWords_31 : decode cX7_inWords 31 = .ok (.bipush 32, 2) := dk_16 32 (dk_at dksX7_inWords_1 8 rfl rfl)
theorem dX7_inWords_33 : decode cX7_inWords 33 = .ok (.if_icmp .eq 9, 3) := dk_159 0 9 (dk_at dksX7_inWords_1 10 rfl rfl)
theorem dX7_inWords_36 : decode cX7_inWords 36 = .ok (.iinc 4 1, 3) := dk_132 4 1 (dk_at dksX7_inWords_1 13 rfl rfl)
theorem dX7_inWords_39 : decode cX7_inWords 39 = .ok (.goto (-14), 3) := dk_167 255 242 (dk_at dksX7_inWords_1 16 rfl rfl)
theorem dX7_inWords_42 : decode cX7_inWords 42 = .ok (.iload 4, 2) := dk_21 4 (dk_at dksX7_inWords_1 19 rfl rfl)
theorem dX7_inWords_44 : decode cX7_inWords 44 = .ok (.iload_n 3, 1) := dk_29 (dk_at dksX7_inWords_1 21 rfl rfl)
theorem dX7_inWords_45 : decode cX7_inWords 45 = .ok (.isub, 1) := dk_100 (dk_at dksX7_inWords_1 22 rfl rfl)
theorem dX7_inWords_46 : decode cX7_inWords 46 = .ok (.aload_n 0, 1) := dk_42 (dk_at dksX7_inWords_1 23 rfl rfl)
theorem dX7_inWords_47 : decode cX7_inWords 47 = .ok (.getfield 131, 3) := dk_180 0 131 (dk_at dksX7_inWords_2 0 rfl rfl)
theorem dX7_inWords_50 : decode cX7_inWords 50 = .ok (.aload_n 0, 1) := dk_42 (dk_at dksX7_inWords_2 3 rfl rfl)
theorem dX7_inWords_51 : decode cX7_inWords 51 = .ok (.getfield 138, 3) := dk_180 0 138 (dk_at dksX7_inWords_2 4 rfl rfl)
theorem dX7_inWords_54 : decode cX7_inWords 54 = .ok (.isub, 1) := dk_100 (dk_at dksX7_inWords_2 7 rfl rfl)
theorem dX7_inWords_55 : decode cX7_inWords 55 = .ok (.if_icmp .ne 7, 3) := dk_160 0 7 (dk_at dksX7_inWords_2 8 rfl rfl)
theorem dX7_inWords_58 : decode cX7_inWords 58 = .ok (.iconst 1, 1) := dk_4 (dk_at dksX7_inWords_2 11 rfl rfl)
theorem dX7_inWords_59 : decode cX7_inWords 59 = .ok (.goto 4, 3) := dk_167 0 4 (dk_at dksX7_inWords_2 12 rfl rfl)
theorem dX7_inWords_62 : decode cX7_inWords 62 = .ok (.iconst 0, 1) := dk_3 (dk_at dksX7_inWords_2 15 rfl rfl)
theorem dX7_inWords_63 : decode cX7_inWords 63 = .ok (.istore 5, 2) := dk_54 5 (dk_at dksX7_inWords_2 16 rfl rfl)
theorem dX7_inWords_65 : decode cX7_inWords 65 = .ok (.iload_n 3, 1) := dk_29 (dk_at dksX7_inWords_2 18 rfl rfl)
theorem dX7_inWords_66 : decode cX7_inWords 66 = .ok (.istore 6, 2) := dk_54 6 (dk_at dksX7_inWords_2 19 rfl rfl)
theorem dX7_inWords_68 : decode cX7_inWords 68 = .ok (.iload 6, 2) := dk_21 6 (dk_at dksX7_inWords_2 21 rfl rfl)
theorem dX7_inWords_70 : decode cX7_inWords 70 = .ok (.iload 4, 2) := dk_21 4 (dk_at dksX7_inWords_3 0 rfl rfl)
theorem dX7_inWords_72 : decode cX7_inWords 72 = .ok (.if_icmp .ge 43, 3) := dk_162 0 43 (dk_at dksX7_inWords_3 2 rfl rfl)
theorem dX7_inWords_75 : decode cX7_inWords 75 = .ok (.iload 5, 2) := dk_21 5 (dk_at dksX7_inWords_3 5 rfl rfl)
theorem dX7_inWords_77 : decode cX7_inWords 77 = .ok (.ifCond .eq 38, 3) := dk_153 0 38 (dk_at dksX7_inWords_3 7 rfl rfl)
theorem dX7_inWords_80 : decode cX7_inWords 80 = .ok (.aload_n 1, 1) := dk_43 (dk_at dksX7_inWords_3 10 rfl rfl)
theorem dX7_inWords_81 : decode cX7_inWords 81 = .ok (.iload 6, 2) := dk_21 6 (dk_at dksX7_inWords_3 11 rfl rfl)
theorem dX7_inWords_83 : decode cX7_inWords 83 = .ok (.invokevirtual 165, 3) := dk_182 0 165 (dk_at dksX7_inWords_3 13 rfl rfl)
theorem dX7_inWords_86 : decode cX7_inWords 86 = .ok (.aload_n 0, 1) := dk_42 (dk_at dksX7_inWords_3 16 rfl rfl)
theorem dX7_inWords_87 : decode cX7_inWords 87 = .ok (.aload_n 0, 1) := dk_42 (dk_at dksX7_inWords_3 17 rfl rfl)
theorem dX7_inWords_88 : decode cX7_inWords 88 = .ok (.getfield 138, 3) := dk_180 0 138 (dk_at dksX7_inWords_3 18 rfl rfl)
theorem dX7_inWords_91 : decode cX7_inWords 91 = .ok (.iload 6, 2) := dk_21 6 (dk_at dksX7_inWords_3 21 rfl rfl)
theorem dX7_inWords_93 : decode cX7_inWords 93 = .ok (.iadd, 1) := dk_96 (dk_at dksX7_inWords_3 23 rfl rfl)
theorem dX7_inWords_94 : decode cX7_inWords 94 = .ok (.iload_n 3, 1) := dk_29 (dk_at dksX7_inWords_4 0 rfl rfl)
theorem dX7_inWords_95 : decode cX7_inWords 95 = .ok (.isub, 1) := dk_100 (dk_at dksX7_inWords_4 1 rfl rfl)
theorem dX7_inWords_96 : decode cX7_inWords 96 = .ok (.invokevirtual 134, 3) := dk_182 0 134 (dk_at dksX7_inWords_4 2 rfl rfl)
theorem dX7_inWords_99 : decode cX7_inWords 99 = .ok (.if_icmp .ne 7, 3) := dk_160 0 7 (dk_at dksX7_inWords_4 5 rfl rfl)
theorem dX7_inWords_102 : decode cX7_inWords 102 = .ok (.iconst 1, 1) := dk_4 (dk_at dksX7_inWords_4 8 rfl rfl)
theorem dX7_inWords_103 : decode cX7_inWords 103 = .ok (.goto 4, 3) := dk_167 0 4 (dk_at dksX7_inWords_4 9 rfl rfl)
theorem dX7_inWords_106 : decode cX7_inWords 106 = .ok (.iconst 0, 1) := dk_3 (dk_at dksX7_inWords_4 12 rfl rfl)
theorem dX7_inWords_107 : decode cX7_inWords 107 = .ok (.istore 5, 2) := dk_54 5 (dk_at dksX7_inWords_4 13 rfl rfl)
theorem dX7_inWords_109 : decode cX7_inWords 109 = .ok (.iinc 6 1, 3) := dk_132 6 1 (dk_at dksX7_inWords_4 15 rfl rfl)
theorem dX7_inWords_112 : decode cX7_inWords 112 = .ok (.goto (-44), 3) := dk_167 255 212 (dk_at dksX7_inWords_4 18 rfl rfl)
theorem dX7_inWords_115 : decode cX7_inWords 115 = .ok (.iload 5, 2) := dk_21 5 (dk_at dksX7_inWords_4 21 rfl rfl)
theorem dX7_inWords_117 : decode cX7_inWords 117 = .ok (.ifCond .eq 5, 3) := dk_153 0 5 (dk_at dksX7_inWords_5 0 rfl rfl)
theorem dX7_inWords_120 : decode cX7_inWords 120 = .ok (.iload_n 2, 1) := dk_28 (dk_at dksX7_inWords_5 3 rfl rfl)
theorem dX7_inWords_121 : decode cX7_inWords 121 = .ok (.ireturn, 1) := dk_172 (dk_at dksX7_inWords_5 4 rfl rfl)
theorem dX7_inWords_122 : decode cX7_inWords 122 = .ok (.iinc 2 1, 3) := dk_132 2 1 (dk_at dksX7_inWords_5 5 rfl rfl)
theorem dX7_inWords_125 : decode cX7_inWords 125 = .ok (.iload 4, 2) := dk_21 4 (dk_at dksX7_inWords_5 8 rfl rfl)
theorem dX7_inWords_127 : decode cX7_inWords 127 = .ok (.iconst 1, 1) := dk_4 (dk_at dksX7_inWords_5 10 rfl rfl)
theorem dX7_inWords_128 : decode cX7_inWords 128 = .ok (.iadd, 1) := dk_96 (dk_at dksX7_inWords_5 11 rfl rfl)
theorem dX7_inWords_129 : decode cX7_inWords 129 = .ok (.istore_n 3, 1) := dk_62 (dk_at dksX7_inWords_5 12 rfl rfl)
theorem dX7_inWords_130 : decode cX7_inWords 130 = .ok (.goto (-116), 3) := dk_167 255 140 (dk_at dksX7_inWords_5 13 rfl rfl)
theorem dX7_inWords_133 : decode cX7_inWords 133 = .ok (.iconst (-1), 1) := dk_2 (dk_at dksX7_inWords_5 16 rfl rfl)
theorem dX7_inWords_134 : decode cX7_inWords 134 = .ok (.ireturn, 1) := dk_172 (dk_at dksX7_inWords_5 17 rfl rfl)
abbrev cX7_aRule : ByteArray := prog_17_method_35_code
def yX7_aRule : MethodName := ⟨RX7, "aRule", "()Z"⟩
def dkwX7_aRule_16 : List UInt8 := [17, 51, 144, 92, 46, 4, 96, 79, 42, 16, 59, 182, 0, 207, 172]
abbrev dktX7_aRule_16 : List UInt8 := dkwX7_aRule_16 ++ []
def dkwX7_aRule_15 : List UInt8 := [182, 0, 203, 153, 0, 9, 42, 6, 182, 0, 181, 172, 132, 4, 1, 167, 255, 225, 42, 180, 0, 7]
abbrev dktX7_aRule_15 : List UInt8 := dkwX7_aRule_15 ++ dktX7_aRule_16
def dkwX7_aRule_14 : List UInt8 := [182, 0, 181, 172, 3, 54, 4, 21, 4, 27, 162, 0, 31, 42, 17, 51, 144, 21, 4, 184, 0, 194, 28]
abbrev dktX7_aRule_14 : List UInt8 := dkwX7_aRule_14 ++ dktX7_aRule_15
def dkwX7_aRule_13 : List UInt8 := [28, 16, 11, 96, 46, 158, 0, 7, 42, 182, 0, 175, 42, 16, 59, 182, 0, 178, 154, 0, 9, 42, 5]
abbrev dktX7_aRule_13 : List UInt8 := dkwX7_aRule_13 ++ dktX7_aRule_14
def dkwX7_aRule_12 : List UInt8 := [161, 0, 18, 29, 16, 10, 163, 0, 12, 29, 16, 7, 100, 4, 96, 167, 0, 4, 3, 79, 42, 180, 0, 7]
abbrev dktX7_aRule_12 : List UInt8 := dkwX7_aRule_12 ++ dktX7_aRule_13
def dkwX7_aRule_11 : List UInt8 := [182, 0, 175, 167, 255, 164, 42, 18, 197, 182, 0, 184, 62, 42, 180, 0, 7, 28, 16, 11, 96, 29, 16, 7]
abbrev dktX7_aRule_11 : List UInt8 := dkwX7_aRule_11 ++ dktX7_aRule_12
def dkwX7_aRule_10 : List UInt8 := [16, 7, 96, 46, 96, 42, 180, 0, 141, 79, 42, 180, 0, 7, 28, 16, 7, 96, 92, 46, 4, 96, 79, 42]
abbrev dktX7_aRule_10 : List UInt8 := dkwX7_aRule_10 ++ dktX7_aRule_11
def dkwX7_aRule_9 : List UInt8 := [160, 0, 9, 42, 8, 182, 0, 181, 172, 42, 180, 0, 7, 28, 16, 7, 96, 4, 96, 42, 180, 0, 7, 28]
abbrev dktX7_aRule_9 : List UInt8 := dkwX7_aRule_9 ++ dktX7_aRule_10
def dkwX7_aRule_8 : List UInt8 := [180, 0, 141, 16, 63, 164, 0, 9, 42, 7, 182, 0, 181, 172, 42, 180, 0, 7, 28, 16, 7, 96, 46, 6]
abbrev dktX7_aRule_8 : List UInt8 := dkwX7_aRule_8 ++ dktX7_aRule_9
def dkwX7_aRule_7 : List UInt8 := [16, 7, 96, 3, 79, 42, 180, 0, 144, 6, 160, 0, 90, 42, 180, 0, 141, 4, 161, 0, 12, 42]
abbrev dktX7_aRule_7 : List UInt8 := dkwX7_aRule_7 ++ dktX7_aRule_8
def dkwX7_aRule_6 : List UInt8 := [154, 0, 5, 3, 172, 42, 180, 0, 144, 6, 159, 0, 9, 42, 5, 182, 0, 181, 172, 42, 180, 0, 7, 28]
abbrev dktX7_aRule_6 : List UInt8 := dkwX7_aRule_6 ++ dktX7_aRule_7
def dkwX7_aRule_5 : List UInt8 := [167, 0, 4, 3, 79, 132, 3, 1, 167, 255, 208, 42, 182, 0, 175, 42, 18, 197, 16, 6, 182, 0, 199]
abbrev dktX7_aRule_5 : List UInt8 := dkwX7_aRule_5 ++ dktX7_aRule_6
def dkwX7_aRule_4 : List UInt8 := [42, 180, 0, 7, 28, 46, 162, 0, 21, 42, 42, 180, 0, 138, 29, 96, 182, 0, 134, 16, 97, 100, 4, 96]
abbrev dktX7_aRule_4 : List UInt8 := dkwX7_aRule_4 ++ dktX7_aRule_5
def dkwX7_aRule_3 : List UInt8 := [42, 180, 0, 138, 100, 79, 3, 62, 29, 16, 6, 162, 0, 48, 42, 180, 0, 7, 28, 4, 96, 29, 96, 29]
abbrev dktX7_aRule_3 : List UInt8 := dkwX7_aRule_3 ++ dktX7_aRule_4
def dkwX7_aRule_2 : List UInt8 := [180, 0, 138, 100, 16, 6, 164, 0, 9, 42, 5, 182, 0, 181, 172, 42, 180, 0, 7, 28, 42, 180, 0, 131]
abbrev dktX7_aRule_2 : List UInt8 := dkwX7_aRule_2 ++ dktX7_aRule_3
def dkwX7_aRule_1 : List UInt8 := [16, 6, 182, 0, 181, 172, 42, 182, 0, 175, 42, 180, 0, 144, 5, 160, 0, 17, 42, 180, 0, 131, 42]
abbrev dktX7_aRule_1 : List UInt8 := dkwX7_aRule_1 ++ dktX7_aRule_2
def dkwX7_aRule_0 : List UInt8 := [42, 180, 0, 7, 17, 51, 144, 46, 60, 17, 51, 144, 27, 184, 0, 194, 61, 27, 16, 24, 160, 0, 10, 42]
abbrev dktX7_aRule_0 : List UInt8 := dkwX7_aRule_0 ++ dktX7_aRule_1
theorem dksX7_aRule_0 : cX7_aRule.data.toList.drop 0 = dktX7_aRule_0 := by decide +kernel
theorem dksX7_aRule_1 : cX7_aRule.data.toList.drop 24 = dktX7_aRule_1 := dk_seg dksX7_aRule_0 24 rfl rfl
theorem dksX7_aRule_2 : cX7_aRule.data.toList.drop 47 = dktX7_aRule_2 := dk_seg dksX7_aRule_1 23 rfl rfl
theorem dksX7_aRule_3 : cX7_aRule.data.toList.drop 71 = dktX7_aRule_3 := dk_seg dksX7_aRule_2 24 rfl rfl
theorem dksX7_aRule_4 : cX7_aRule.data.toList.drop 95 = dktX7_aRule_4 := dk_seg dksX7_aRule_3 24 rfl rfl
theorem dksX7_aRule_5 : cX7_aRule.data.toList.drop 119 = dktX7_aRule_5 := dk_seg dksX7_aRule_4 24 rfl rfl
theorem dksX7_aRule_6 : cX7_aRule.data.toList.drop 142 = dktX7_aRule_6 := dk_seg dksX7_aRule_5 23 rfl rfl
theorem dksX7_aRule_7 : cX7_aRule.data.toList.drop 166 = dktX7_aRule_7 := dk_seg dksX7_aRule_6 24 rfl rfl
theorem dksX7_aRule_8 : cX7_aRule.data.toList.drop 188 = dktX7_aRule_8 := dk_seg dksX7_aRule_7 22 rfl rfl
theorem dksX7_aRule_9 : cX7_aRule.data.toList.drop 212 = dktX7_aRule_9 := dk_seg dksX7_aRule_8 24 rfl rfl
theorem dksX7_aRule_10 : cX7_aRule.data.toList.drop 236 = dktX7_aRule_10 := dk_seg dksX7_aRule_9 24 rfl rfl
theorem dksX7_aRule_11 : cX7_aRule.data.toList.drop 260 = dktX7_aRule_11 := dk_seg dksX7_aRule_10 24 rfl rfl
theorem dksX7_aRule_12 : cX7_aRule.data.toList.drop 284 = dktX7_aRule_12 := dk_seg dksX7_aRule_11 24 rfl rfl
theorem dksX7_aRule_13 : cX7_aRule.data.toList.drop 308 = dktX7_aRule_13 := dk_seg dksX7_aRule_12 24 rfl rfl
theorem dksX7_aRule_14 : cX7_aRule.data.toList.drop 331 = dktX7_aRule_14 := dk_seg dksX7_aRule_13 23 rfl rfl
theorem dksX7_aRule_15 : cX7_aRule.data.toList.drop 354 = dktX7_aRule_15 := dk_seg dksX7_aRule_14 23 rfl rfl
theorem dksX7_aRule_16 : cX7_aRule.data.toList.drop 376 = dktX7_aRule_16 := dk_seg dksX7_aRule_15 22 rfl rfl
theorem dX7_aRule_0 : decode cX7_aRule 0 = .ok (.aload_n 0, 1) := dk_42 (dk_at dksX7_aRule_0 0 rfl rfl)
theorem dX7_aRule_1 : decode cX7_aRule 1 = .ok (.getfield 7, 3) := dk_180 0 7 (dk_at dksX7_aRule_0 1 rfl rfl)
theorem dX7_aRule_4 : decode cX7_aRule 4 = .ok (.sipush 13200, 3) := dk_17 51 144 (dk_at dksX7_aRule_0 4 rfl rfl)
theorem dX7_aRule_7 : decode cX7_aRule 7 = .ok (.iaload, 1) := dk_46 (dk_at dksX7_aRule_0 7 rfl rfl)
theorem dX7_aRule_8 : decode cX7_aRule 8 = .ok (.istore_n 1, 1) := dk_60 (dk_at dksX7_aRule_0 8 rfl rfl)
theorem dX7_aRule_9 : decode cX7_aRule 9 = .ok (.sipush 13200, 3) := dk_17 51 144 (dk_at dksX7_aRule_0 9 rfl rfl)
theorem dX7_aRule_12 : decode cX7_aRule 12 = .ok (.iload_n 1, 1) := dk_27 (dk_at dksX7_aRule_0 12 rfl rfl)
theorem dX7_aRule_13 : decode cX7_aRule 13 = .ok (.invokestatic 194, 3) := dk_184 0 194 (dk_at dksX7_aRule_0 13 rfl rfl)
theorem dX7_aRule_16 : decode cX7_aRule 16 = .ok (.istore_n 2, 1) := dk_61 (dk_at dksX7_aRule_0 16 rfl rfl)
theorem dX7_aRule_17 : decode cX7_aRule 17 = .ok (.iload_n 1, 1) := dk_27 (dk_at dksX7_aRule_0 17 rfl rfl)
theorem dX7_aRule_18 : decode cX7_aRule 18 = .ok (.bipush 24, 2) := dk_16 24 (dk_at dksX7_aRule_0 18 rfl rfl)
theorem dX7_aRule_20 : decode cX7_aRule 20 = .ok (.if_icmp .ne 10, 3) := dk_160 0 10 (dk_at dksX7_aRule_0 20 rfl rfl)
theorem dX7_aRule_23 : decode cX7_aRule 23 = .ok (.aload_n 0, 1) := dk_42 (dk_at dksX7_aRule_0 23 rfl rfl)
theorem dX7_aRule_24 : decode cX7_aRule 24 = .ok (.bipush 6, 2) := dk_16 6 (dk_at dksX7_aRule_1 0 rfl rfl)
theorem dX7_aRule_26 : decode cX7_aRule 26 = .ok (.invokevirtual 181, 3) := dk_182 0 181 (dk_at dksX7_aRule_1 2 rfl rfl)
theorem dX7_aRule_29 : decode cX7_aRule 29 = .ok (.ireturn, 1) := dk_172 (dk_at dksX7_aRule_1 5 rfl rfl)
theorem dX7_aRule_30 : decode cX7_aRule 30 = .ok (.aload_n 0, 1) := dk_42 (dk_at dksX7_aRule_1 6 rfl rfl)
theorem dX7_aRule_31 : decode cX7_aRule 31 = .ok (.invokevirtual 175, 3) := dk_182 0 175 (dk_at dksX7_aRule_1 7 rfl rfl)
theorem dX7_aRule_34 : decode cX7_aRule 34 = .ok (.aload_n 0, 1) := dk_42 (dk_at dksX7_aRule_1 10 rfl rfl)
theorem dX7_aRule_35 : decode cX7_aRule 35 = .ok (.getfield 144, 3) := dk_180 0 144 (dk_at dksX7_aRule_1 11 rfl rfl)
theorem dX7_aRule_38 : decode cX7_aRule 38 = .ok (.iconst 2, 1) := dk_5 (dk_at dksX7_aRule_1 14 rfl rfl)
theorem dX7_aRule_39 : decode cX7_aRule 39 = .ok (.if_icmp .ne 17, 3) := dk_160 0 17 (dk_at dksX7_aRule_1 15 rfl rfl)
theorem dX7_aRule_42 : decode cX7_aRule 42 = .ok (.aload_n 0, 1) := dk_42 (dk_at dksX7_aRule_1 18 rfl rfl)
theorem dX7_aRule_43 : decode cX7_aRule 43 = .ok (.getfield 131, 3) := dk_180 0 131 (dk_at dksX7_aRule_1 19 rfl rfl)
theorem dX7_aRule_46 : decode cX7_aRule 46 = .ok (.aload_n 0, 1) := dk_42 (dk_at dksX7_aRule_1 22 rfl rfl)
theorem dX7_aRule_47 : decode cX7_aRule 47 = .ok (.getfield 138, 3) := dk_180 0 138 (dk_at dksX7_aRule_2 0 rfl rfl)
theorem dX7_aRule_50 : decode cX7_aRule 50 = .ok (.isub, 1) := dk_100 (dk_at dksX7_aRule_2 3 rfl rfl)
theorem dX7_aRule_51 : decode cX7_aRule 51 = .ok (.bipush 6, 2) := dk_16 6 (dk_at dksX7_aRule_2 4 rfl rfl)
theorem dX7_aRule_53 : decode cX7_aRule 53 = .ok (.if_icmp .le 9, 3) := dk_164 0 9 (dk_at dksX7_aRule_2 6 rfl rfl)
theorem dX7_aRule_56 : decode cX7_aRule 56 = .ok (.aload_n 0, 1) := dk_42 (dk_at dksX7_aRule_2 9 rfl rfl)
theorem dX7_aRule_57 : decode cX7_aRule 57 = .ok (.iconst 2, 1) := dk_5 (dk_at dksX7_aRule_2 10 rfl rfl)
theorem dX7_aRule_58 : decode cX7_aRule 58 = .ok (.invokevirtual 181, 3) := dk_182 0 181 (dk_at dksX7_aRule_2 11 rfl rfl)
theorem dX7_aRule_61 : decode cX7_aRule 61 = .ok (.ireturn, 1) := dk_172 (dk_at dksX7_aRule_2 14 rfl rfl)
theorem dX7_aRule_62 : decode cX7_aRule 62 = .ok (.aload_n 0, 1) := dk_42 (dk_at dksX7_aRule_2 15 rfl rfl)
theorem dX7_aRule_63 : decode cX7_aRule 63 = .ok (.getfield 7, 3) := dk_180 0 7 (dk_at dksX7_aRule_2 16 rfl rfl)
theorem dX7_aRule_66 : decode cX7_aRule 66 = .ok (.iload_n 2, 1) := dk_28 (dk_at dksX7_aRule_2 19 rfl rfl)
theorem dX7_aRule_67 : decode cX7_aRule 67 = .ok (.aload_n 0, 1) := dk_42 (dk_at dksX7_aRule_2 20 rfl rfl)
theorem dX7_aRule_68 : decode cX7_aRule 68 = .ok (.getfield 131, 3) := dk_180 0 131 (dk_at dksX7_aRule_2 21 rfl rfl)
theorem dX7_aRule_71 : decode cX7_aRule 71 = .ok (.aload_n 0, 1) := dk_42 (dk_at dksX7_aRule_3 0 rfl rfl)
theorem dX7_aRule_72 : decode cX7_aRule 72 = .ok (.getfield 138, 3) := dk_180 0 138 (dk_at dksX7_aRule_3 1 rfl rfl)
theorem dX7_aRule_75 : decode cX7_aRule 75 = .ok (.isub, 1) := dk_100 (dk_at dksX7_aRule_3 4 rfl rfl)
theorem dX7_aRule_76 : decode cX7_aRule 76 = .ok (.iastore, 1) := dk_79 (dk_at dksX7_aRule_3 5 rfl rfl)
theorem dX7_aRule_77 : decode cX7_aRule 77 = .ok (.iconst 0, 1) := dk_3 (dk_at dksX7_aRule_3 6 rfl rfl)
theorem dX7_aRule_78 : decode cX7_aRule 78 = .ok (.istore_n 3, 1) := dk_62 (dk_at dksX7_aRule_3 7 rfl rfl)
theorem dX7_aRule_79 : decode cX7_aRule 79 = .ok (.iload_n 3, 1) := dk_29 (dk_at dksX7_aRule_3 8 rfl rfl)
theorem dX7_aRule_80 : decode cX7_aRule 80 = .ok (.bipush 6, 2) := dk_16 6 (dk_at dksX7_aRule_3 9 rfl rfl)
theorem dX7_aRule_82 : decode cX7_aRule 82 = .ok (.if_icmp .ge 48, 3) := dk_162 0 48 (dk_at dksX7_aRule_3 11 rfl rfl)
theorem dX7_aRule_85 : decode cX7_aRule 85 = .ok (.aload_n 0, 1) := dk_42 (dk_at dksX7_aRule_3 14 rfl rfl)
theorem dX7_aRule_86 : decode cX7_aRule 86 = .ok (.getfield 7, 3) := dk_180 0 7 (dk_at dksX7_aRule_3 15 rfl rfl)
theorem dX7_aRule_89 : decode cX7_aRule 89 = .ok (.iload_n 2, 1) := dk_28 (dk_at dksX7_aRule_3 18 rfl rfl)
theorem dX7_aRule_90 : decode cX7_aRule 90 = .ok (.iconst 1, 1) := dk_4 (dk_at dksX7_aRule_3 19 rfl rfl)
theorem dX7_aRule_91 : decode cX7_aRule 91 = .ok (.iadd, 1) := dk_96 (dk_at dksX7_aRule_3 20 rfl rfl)
theorem dX7_aRule_92 : decode cX7_aRule 92 = .ok (.iload_n 3, 1) := dk_29 (dk_at dksX7_aRule_3 21 rfl rfl)
theorem dX7_aRule_93 : decode cX7_aRule 93 = .ok (.iadd, 1) := dk_96 (dk_at dksX7_aRule_3 22 rfl rfl)
theorem dX7_aRule_94 : decode cX7_aRule 94 = .ok (.iload_n 3, 1) := dk_29 (dk_at dksX7_aRule_3 23 rfl rfl)
theorem dX7_aRule_95 : decode cX7_aRule 95 = .ok (.aload_n 0, 1) := dk_42 (dk_at dksX7_aRule_4 0 rfl rfl)
theorem dX7_aRule_96 : decode cX7_aRule 96 = .ok (.getfield 7, 3) := dk_180 0 7 (dk_at dksX7_aRule_4 1 rfl rfl)
theorem dX7_aRule_99 : decode cX7_aRule 99 = .ok (.iload_n 2, 1) := dk_28 (dk_at dksX7_aRule_4 4 rfl rfl)
theorem dX7_aRule_100 : decode cX7_aRule 100 = .ok (.iaload, 1) := dk_46 (dk_at dksX7_aRule_4 5 rfl rfl)
theorem dX7_aRule_101 : decode cX7_aRule 101 = .ok (.if_icmp .ge 21, 3) := dk_162 0 21 (dk_at dksX7_aRule_4 6 rfl rfl)
theorem dX7_aRule_104 : decode cX7_aRule 104 = .ok (.aload_n 0, 1) := dk_42 (dk_at dksX7_aRule_4 9 rfl rfl)
theorem dX7_aRule_105 : decode cX7_aRule 105 = .ok (.aload_n 0, 1) := dk_42 (dk_at dksX7_aRule_4 10 rfl rfl)
theorem dX7_aRule_106 : decode cX7_aRule 106 = .ok (.getfield 138, 3) := dk_180 0 138 (dk_at dksX7_aRule_4 11 rfl rfl)
theorem dX7_aRule_109 : decode cX7_aRule 109 = .ok (.iload_n 3, 1) := dk_29 (dk_at dksX7_aRule_4 14 rfl rfl)
theorem dX7_aRule_110 : decode cX7_aRule 110 = .ok (.iadd, 1) := dk_96 (dk_at dksX7_aRule_4 15 rfl rfl)
theorem dX7_aRule_111 : decode cX7_aRule 111 = .ok (.invokevirtual 134, 3) := dk_182 0 134 (dk_at dksX7_aRule_4 16 rfl rfl)
theorem dX7_aRule_114 : decode cX7_aRule 114 = .ok (.bipush 97, 2) := dk_16 97 (dk_at dksX7_aRule_4 19 rfl rfl)
theorem dX7_aRule_116 : decode cX7_aRule 116 = .ok (.isub, 1) := dk_100 (dk_at dksX7_aRule_4 21 rfl rfl)
theorem dX7_aRule_117 : decode cX7_aRule 117 = .ok (.iconst 1, 1) := dk_4 (dk_at dksX7_aRule_4 22 rfl rfl)
theorem dX7_aRule_118 : decode cX7_aRule 118 = .ok (.iadd, 1) := dk_96 (dk_at dksX7_aRule_4 23 rfl rfl)
theorem dX7_aRule_119 : decode cX7_aRule 119 = .ok (.goto 4, 3) := dk_167 0 4 (dk_at dksX7_aRule_5 0 rfl rfl)
theorem dX7_aRule_122 : decode cX7_aRule 122 = .ok (.iconst 0, 1) := dk_3 (dk_at dksX7_aRule_5 3 rfl rfl)
theorem dX7_aRule_123 : decode cX7_aRule 123 = .ok (.iastore, 1) := dk_79 (dk_at dksX7_aRule_5 4 rfl rfl)
theorem dX7_aRule_124 : decode cX7_aRule 124 = .ok (.iinc 3 1, 3) := dk_132 3 1 (dk_at dksX7_aRule_5 5 rfl rfl)
theorem dX7_aRule_127 : decode cX7_aRule 127 = .ok (.goto (-48), 3) := dk_167 255 208 (dk_at dksX7_aRule_5 8 rfl rfl)
theorem dX7_aRule_130 : decode cX7_aRule 130 = .ok (.aload_n 0, 1) := dk_42 (dk_at dksX7_aRule_5 11 rfl rfl)
theorem dX7_aRule_131 : decode cX7_aRule 131 = .ok (.invokevirtual 175, 3) := dk_182 0 175 (dk_at dksX7_aRule_5 12 rfl rfl)
theorem dX7_aRule_134 : decode cX7_aRule 134 = .ok (.aload_n 0, 1) := dk_42 (dk_at dksX7_aRule_5 15 rfl rfl)
theorem dX7_aRule_135 : decode cX7_aRule 135 = .ok (.ldc 197, 2) := dk_18 197 (dk_at dksX7_aRule_5 16 rfl rfl)
theorem dX7_aRule_137 : decode cX7_aRule 137 = .ok (.bipush 6, 2) := dk_16 6 (dk_at dksX7_aRule_5 18 rfl rfl)
theorem dX7_aRule_139 : decode cX7_aRule 139 = .ok (.invokevirtual 199, 3) := dk_182 0 199 (dk_at dksX7_aRule_5 20 rfl rfl)
theorem dX7_aRule_142 : decode cX7_aRule 142 = .ok (.ifCond .ne 5, 3) := dk_154 0 5 (dk_at dksX7_aRule_6 0 rfl rfl)
theorem dX7_aRule_145 : decode cX7_aRule 145 = .ok (.iconst 0, 1) := dk_3 (dk_at dksX7_aRule_6 3 rfl rfl)
theorem dX7_aRule_146 : decode cX7_aRule 146 = .ok (.ireturn, 1) := dk_172 (dk_at dksX7_aRule_6 4 rfl rfl)
theorem dX7_aRule_147 : decode cX7_aRule 147 = .ok (.aload_n 0, 1) := dk_42 (dk_at dksX7_aRule_6 5 rfl rfl)
theorem dX7_aRule_148 : decode cX7_aRule 148 = .ok (.getfield 144, 3) := dk_180 0 144 (dk_at dksX7_aRule_6 6 rfl rfl)
theorem dX7_aRule_151 : decode cX7_aRule 151 = .ok (.iconst 3, 1) := dk_6 (dk_at dksX7_aRule_6 9 rfl rfl)
theorem dX7_aRule_152 : decode cX7_aRule 152 = .ok (.if_icmp .eq 9, 3) := dk_159 0 9 (dk_at dksX7_aRule_6 10 rfl rfl)
theorem dX7_aRule_155 : decode cX7_aRule 155 = .ok (.aload_n 0, 1) := dk_42 (dk_at dksX7_aRule_6 13 rfl rfl)
theorem dX7_aRule_156 : decode cX7_aRule 156 = .ok (.iconst 2, 1) := dk_5 (dk_at dksX7_aRule_6 14 rfl rfl)
theorem dX7_aRule_157 : decode cX7_aRule 157 = .ok (.invokevirtual 181, 3) := dk_182 0 181 (dk_at dksX7_aRule_6 15 rfl rfl)
theorem dX7_aRule_160 : decode cX7_aRule 160 = .ok (.ireturn, 1) := dk_172 (dk_at dksX7_aRule_6 18 rfl rfl)
theorem dX7_aRule_161 : decode cX7_aRule 161 = .ok (.aload_n 0, 1) := dk_42 (dk_at dksX7_aRule_6 19 rfl rfl)
theorem dX7_aRule_162 : decode cX7_aRule 162 = .ok (.getfield 7, 3) := dk_180 0 7 (dk_at dksX7_aRule_6 20 rfl rfl)
theorem dX7_aRule_165 : decode cX7_aRule 165 = .ok (.iload_n 2, 1) := dk_28 (dk_at dksX7_aRule_6 23 rfl rfl)
theorem dX7_aRule_166 : decode cX7_aRule 166 = .ok (.bipush 7, 2) := dk_16 7 (dk_at dksX7_aRule_7 0 rfl rfl)
theorem dX7_aRule_168 : decode cX7_aRule 168 = .ok (.iadd, 1) := dk_96 (dk_at dksX7_aRule_7 2 rfl rfl)
theorem dX7_aRule_169 : decode cX7_aRule 169 = .ok (.iconst 0, 1) := dk_3 (dk_at dksX7_aRule_7 3 rfl rfl)
theorem dX7_aRule_170 : decode cX7_aRule 170 = .ok (.iastore, 1) := dk_79 (dk_at dksX7_aRule_7 4 rfl rfl)
theorem dX7_aRule_171 : decode cX7_aRule 171 = .ok (.aload_n 0, 1) := dk_42 (dk_at dksX7_aRule_7 5 rfl rfl)
theorem dX7_aRule_172 : decode cX7_aRule 172 = .ok (.getfield 144, 3) := dk_180 0 144 (dk_at dksX7_aRule_7 6 rfl rfl)
theorem dX7_aRule_175 : decode cX7_aRule 175 = .ok (.iconst 3, 1) := dk_6 (dk_at dksX7_aRule_7 9 rfl rfl)
theorem dX7_aRule_176 : decode cX7_aRule 176 = .ok (.if_icmp .ne 90, 3) := dk_160 0 90 (dk_at dksX7_aRule_7 10 rfl rfl)
theorem dX7_aRule_179 : decode cX7_aRule 179 = .ok (.aload_n 0, 1) := dk_42 (dk_at dksX7_aRule_7 13 rfl rfl)
theorem dX7_aRule_180 : decode cX7_aRule 180 = .ok (.getfield 141, 3) := dk_180 0 141 (dk_at dksX7_aRule_7 14 rfl rfl)
theorem dX7_aRule_183 : decode cX7_aRule 183 = .ok (.iconst 1, 1) := dk_4 (dk_at dksX7_aRule_7 17 rfl rfl)
theorem dX7_aRule_184 : decode cX7_aRule 184 = .ok (.if_icmp .lt 12, 3) := dk_161 0 12 (dk_at dksX7_aRule_7 18 rfl rfl)
theorem dX7_aRule_187 : decode cX7_aRule 187 = .ok (.aload_n 0, 1) := dk_42 (dk_at dksX7_aRule_7 21 rfl rfl)
theorem dX7_aRule_188 : decode cX7_aRule 188 = .ok (.getfield 141, 3) := dk_180 0 141 (dk_at dksX7_aRule_8 0 rfl rfl)
theorem dX7_aRule_191 : decode cX7_aRule 191 = .ok (.bipush 63, 2) := dk_16 63 (dk_at dksX7_aRule_8 3 rfl rfl)
theorem dX7_aRule_193 : decode cX7_aRule 193 = .ok (.if_icmp .le 9, 3) := dk_164 0 9 (dk_at dksX7_aRule_8 5 rfl rfl)
theorem dX7_aRule_196 : decode cX7_aRule 196 = .ok (.aload_n 0, 1) := dk_42 (dk_at dksX7_aRule_8 8 rfl rfl)
theorem dX7_aRule_197 : decode cX7_aRule 197 = .ok (.iconst 4, 1) := dk_7 (dk_at dksX7_aRule_8 9 rfl rfl)
theorem dX7_aRule_198 : decode cX7_aRule 198 = .ok (.invokevirtual 181, 3) := dk_182 0 181 (dk_at dksX7_aRule_8 10 rfl rfl)
theorem dX7_aRule_201 : decode cX7_aRule 201 = .ok (.ireturn, 1) := dk_172 (dk_at dksX7_aRule_8 13 rfl rfl)
theorem dX7_aRule_202 : decode cX7_aRule 202 = .ok (.aload_n 0, 1) := dk_42 (dk_at dksX7_aRule_8 14 rfl rfl)
theorem dX7_aRule_203 : decode cX7_aRule 203 = .ok (.getfield 7, 3) := dk_180 0 7 (dk_at dksX7_aRule_8 15 rfl rfl)
theorem dX7_aRule_206 : decode cX7_aRule 206 = .ok (.iload_n 2, 1) := dk_28 (dk_at dksX7_aRule_8 18 rfl rfl)
theorem dX7_aRule_207 : decode cX7_aRule 207 = .ok (.bipush 7, 2) := dk_16 7 (dk_at dksX7_aRule_8 19 rfl rfl)
theorem dX7_aRule_209 : decode cX7_aRule 209 = .ok (.iadd, 1) := dk_96 (dk_at dksX7_aRule_8 21 rfl rfl)
theorem dX7_aRule_210 : decode cX7_aRule 210 = .ok (.iaload, 1) := dk_46 (dk_at dksX7_aRule_8 22 rfl rfl)
theorem dX7_aRule_211 : decode cX7_aRule 211 = .ok (.iconst 3, 1) := dk_6 (dk_at dksX7_aRule_8 23 rfl rfl)
theorem dX7_aRule_212 : decode cX7_aRule 212 = .ok (.if_icmp .ne 9, 3) := dk_160 0 9 (dk_at dksX7_aRule_9 0 rfl rfl)
theorem dX7_aRule_215 : decode cX7_aRule 215 = .ok (.aload_n 0, 1) := dk_42 (dk_at dksX7_aRule_9 3 rfl rfl)
theorem dX7_aRule_216 : decode cX7_aRule 216 = .ok (.iconst 5, 1) := dk_8 (dk_at dksX7_aRule_9 4 rfl rfl)
theorem dX7_aRule_217 : decode cX7_aRule 217 = .ok (.invokevirtual 181, 3) := dk_182 0 181 (dk_at dksX7_aRule_9 5 rfl rfl)
theorem dX7_aRule_220 : decode cX7_aRule 220 = .ok (.ireturn, 1) := dk_172 (dk_at dksX7_aRule_9 8 rfl rfl)
theorem dX7_aRule_221 : decode cX7_aRule 221 = .ok (.aload_n 0, 1) := dk_42 (dk_at dksX7_aRule_9 9 rfl rfl)
theorem dX7_aRule_222 : decode cX7_aRule 222 = .ok (.getfield 7, 3) := dk_180 0 7 (dk_at dksX7_aRule_9 10 rfl rfl)
theorem dX7_aRule_225 : decode cX7_aRule 225 = .ok (.iload_n 2, 1) := dk_28 (dk_at dksX7_aRule_9 13 rfl rfl)
theorem dX7_aRule_226 : decode cX7_aRule 226 = .ok (.bipush 7, 2) := dk_16 7 (dk_at dksX7_aRule_9 14 rfl rfl)
theorem dX7_aRule_228 : decode cX7_aRule 228 = .ok (.iadd, 1) := dk_96 (dk_at dksX7_aRule_9 16 rfl rfl)
theorem dX7_aRule_229 : decode cX7_aRule 229 = .ok (.iconst 1, 1) := dk_4 (dk_at dksX7_aRule_9 17 rfl rfl)
theorem dX7_aRule_230 : decode cX7_aRule 230 = .ok (.iadd, 1) := dk_96 (dk_at dksX7_aRule_9 18 rfl rfl)
theorem dX7_aRule_231 : decode cX7_aRule 231 = .ok (.aload_n 0, 1) := dk_42 (dk_at dksX7_aRule_9 19 rfl rfl)
theorem dX7_aRule_232 : decode cX7_aRule 232 = .ok (.getfield 7, 3) := dk_180 0 7 (dk_at dksX7_aRule_9 20 rfl rfl)
theorem dX7_aRule_235 : decode cX7_aRule 235 = .ok (.iload_n 2, 1) := dk_28 (dk_at dksX7_aRule_9 23 rfl rfl)
theorem dX7_aRule_236 : decode cX7_aRule 236 = .ok (.bipush 7, 2) := dk_16 7 (dk_at dksX7_aRule_10 0 rfl rfl)
theorem dX7_aRule_238 : decode cX7_aRule 238 = .ok (.iadd, 1) := dk_96 (dk_at dksX7_aRule_10 2 rfl rfl)
theorem dX7_aRule_239 : decode cX7_aRule 239 = .ok (.iaload, 1) := dk_46 (dk_at dksX7_aRule_10 3 rfl rfl)
theorem dX7_aRule_240 : decode cX7_aRule 240 = .ok (.iadd, 1) := dk_96 (dk_at dksX7_aRule_10 4 rfl rfl)
theorem dX7_aRule_241 : decode cX7_aRule 241 = .ok (.aload_n 0, 1) := dk_42 (dk_at dksX7_aRule_10 5 rfl rfl)
theorem dX7_aRule_242 : decode cX7_aRule 242 = .ok (.getfield 141, 3) := dk_180 0 141 (dk_at dksX7_aRule_10 6 rfl rfl)
theorem dX7_aRule_245 : decode cX7_aRule 245 = .ok (.iastore, 1) := dk_79 (dk_at dksX7_aRule_10 9 rfl rfl)
theorem dX7_aRule_246 : decode cX7_aRule 246 = .ok (.aload_n 0, 1) := dk_42 (dk_at dksX7_aRule_10 10 rfl rfl)
theorem dX7_aRule_247 : decode cX7_aRule 247 = .ok (.getfield 7, 3) := dk_180 0 7 (dk_at dksX7_aRule_10 11 rfl rfl)
theorem dX7_aRule_250 : decode cX7_aRule 250 = .ok (.iload_n 2, 1) := dk_28 (dk_at dksX7_aRule_10 14 rfl rfl)
theorem dX7_aRule_251 : decode cX7_aRule 251 = .ok (.bipush 7, 2) := dk_16 7 (dk_at dksX7_aRule_10 15 rfl rfl)
theorem dX7_aRule_253 : decode cX7_aRule 253 = .ok (.iadd, 1) := dk_96 (dk_at dksX7_aRule_10 17 rfl rfl)
theorem dX7_aRule_254 : decode cX7_aRule 254 = .ok (.dup2, 1) := dk_92 (dk_at dksX7_aRule_10 18 rfl rfl)
theorem dX7_aRule_255 : decode cX7_aRule 255 = .ok (.iaload, 1) := dk_46 (dk_at dksX7_aRule_10 19 rfl rfl)
theorem dX7_aRule_256 : decode cX7_aRule 256 = .ok (.iconst 1, 1) := dk_4 (dk_at dksX7_aRule_10 20 rfl rfl)
theorem dX7_aRule_257 : decode cX7_aRule 257 = .ok (.iadd, 1) := dk_96 (dk_at dksX7_aRule_10 21 rfl rfl)
theorem dX7_aRule_258 : decode cX7_aRule 258 = .ok (.iastore, 1) := dk_79 (dk_at dksX7_aRule_10 22 rfl rfl)
theorem dX7_aRule_259 : decode cX7_aRule 259 = .ok (.aload_n 0, 1) := dk_42 (dk_at dksX7_aRule_10 23 rfl rfl)
theorem dX7_aRule_260 : decode cX7_aRule 260 = .ok (.invokevirtual 175, 3) := dk_182 0 175 (dk_at dksX7_aRule_11 0 rfl rfl)
theorem dX7_aRule_263 : decode cX7_aRule 263 = .ok (.goto (-92), 3) := dk_167 255 164 (dk_at dksX7_aRule_11 3 rfl rfl)
theorem dX7_aRule_266 : decode cX7_aRule 266 = .ok (.aload_n 0, 1) := dk_42 (dk_at dksX7_aRule_11 6 rfl rfl)
theorem dX7_aRule_267 : decode cX7_aRule 267 = .ok (.ldc 197, 2) := dk_18 197 (dk_at dksX7_aRule_11 7 rfl rfl)
theorem dX7_aRule_269 : decode cX7_aRule 269 = .ok (.invokevirtual 184, 3) := dk_182 0 184 (dk_at dksX7_aRule_11 9 rfl rfl)
theorem dX7_aRule_272 : decode cX7_aRule 272 = .ok (.istore_n 3, 1) := dk_62 (dk_at dksX7_aRule_11 12 rfl rfl)
theorem dX7_aRule_273 : decode cX7_aRule 273 = .ok (.aload_n 0, 1) := dk_42 (dk_at dksX7_aRule_11 13 rfl rfl)
theorem dX7_aRule_274 : decode cX7_aRule 274 = .ok (.getfield 7, 3) := dk_180 0 7 (dk_at dksX7_aRule_11 14 rfl rfl)
theorem dX7_aRule_277 : decode cX7_aRule 277 = .ok (.iload_n 2, 1) := dk_28 (dk_at dksX7_aRule_11 17 rfl rfl)
theorem dX7_aRule_278 : decode cX7_aRule 278 = .ok (.bipush 11, 2) := dk_16 11 (dk_at dksX7_aRule_11 18 rfl rfl)
theorem dX7_aRule_280 : decode cX7_aRule 280 = .ok (.iadd, 1) := dk_96 (dk_at dksX7_aRule_11 20 rfl rfl)
theorem dX7_aRule_281 : decode cX7_aRule 281 = .ok (.iload_n 3, 1) := dk_29 (dk_at dksX7_aRule_11 21 rfl rfl)
theorem dX7_aRule_282 : decode cX7_aRule 282 = .ok (.bipush 7, 2) := dk_16 7 (dk_at dksX7_aRule_11 22 rfl rfl)
theorem dX7_aRule_284 : decode cX7_aRule 284 = .ok (.if_icmp .lt 18, 3) := dk_161 0 18 (dk_at dksX7_aRule_12 0 rfl rfl)
theorem dX7_aRule_287 : decode cX7_aRule 287 = .ok (.iload_n 3, 1) := dk_29 (dk_at dksX7_aRule_12 3 rfl rfl)
theorem dX7_aRule_288 : decode cX7_aRule 288 = .ok (.bipush 10, 2) := dk_16 10 (dk_at dksX7_aRule_12 4 rfl rfl)
theorem dX7_aRule_290 : decode cX7_aRule 290 = .ok (.if_icmp .gt 12, 3) := dk_163 0 12 (dk_at dksX7_aRule_12 6 rfl rfl)
theorem dX7_aRule_293 : decode cX7_aRule 293 = .ok (.iload_n 3, 1) := dk_29 (dk_at dksX7_aRule_12 9 rfl rfl)
theorem dX7_aRule_294 : decode cX7_aRule 294 = .ok (.bipush 7, 2) := dk_16 7 (dk_at dksX7_aRule_12 10 rfl rfl)
theorem dX7_aRule_296 : decode cX7_aRule 296 = .ok (.isub, 1) := dk_100 (dk_at dksX7_aRule_12 12 rfl rfl)
theorem dX7_aRule_297 : decode cX7_aRule 297 = .ok (.iconst 1, 1) := dk_4 (dk_at dksX7_aRule_12 13 rfl rfl)
theorem dX7_aRule_298 : decode cX7_aRule 298 = .ok (.iadd, 1) := dk_96 (dk_at dksX7_aRule_12 14 rfl rfl)
theorem dX7_aRule_299 : decode cX7_aRule 299 = .ok (.goto 4, 3) := dk_167 0 4 (dk_at dksX7_aRule_12 15 rfl rfl)
theorem dX7_aRule_302 : decode cX7_aRule 302 = .ok (.iconst 0, 1) := dk_3 (dk_at dksX7_aRule_12 18 rfl rfl)
theorem dX7_aRule_303 : decode cX7_aRule 303 = .ok (.iastore, 1) := dk_79 (dk_at dksX7_aRule_12 19 rfl rfl)
theorem dX7_aRule_304 : decode cX7_aRule 304 = .ok (.aload_n 0, 1) := dk_42 (dk_at dksX7_aRule_12 20 rfl rfl)
theorem dX7_aRule_305 : decode cX7_aRule 305 = .ok (.getfield 7, 3) := dk_180 0 7 (dk_at dksX7_aRule_12 21 rfl rfl)
theorem dX7_aRule_308 : decode cX7_aRule 308 = .ok (.iload_n 2, 1) := dk_28 (dk_at dksX7_aRule_13 0 rfl rfl)
theorem dX7_aRule_309 : decode cX7_aRule 309 = .ok (.bipush 11, 2) := dk_16 11 (dk_at dksX7_aRule_13 1 rfl rfl)
theorem dX7_aRule_311 : decode cX7_aRule 311 = .ok (.iadd, 1) := dk_96 (dk_at dksX7_aRule_13 3 rfl rfl)
theorem dX7_aRule_312 : decode cX7_aRule 312 = .ok (.iaload, 1) := dk_46 (dk_at dksX7_aRule_13 4 rfl rfl)
theorem dX7_aRule_313 : decode cX7_aRule 313 = .ok (.ifCond .le 7, 3) := dk_158 0 7 (dk_at dksX7_aRule_13 5 rfl rfl)
theorem dX7_aRule_316 : decode cX7_aRule 316 = .ok (.aload_n 0, 1) := dk_42 (dk_at dksX7_aRule_13 8 rfl rfl)
theorem dX7_aRule_317 : decode cX7_aRule 317 = .ok (.invokevirtual 175, 3) := dk_182 0 175 (dk_at dksX7_aRule_13 9 rfl rfl)
theorem dX7_aRule_320 : decode cX7_aRule 320 = .ok (.aload_n 0, 1) := dk_42 (dk_at dksX7_aRule_13 12 rfl rfl)
theorem dX7_aRule_321 : decode cX7_aRule 321 = .ok (.bipush 59, 2) := dk_16 59 (dk_at dksX7_aRule_13 13 rfl rfl)
theorem dX7_aRule_323 : decode cX7_aRule 323 = .ok (.invokevirtual 178, 3) := dk_182 0 178 (dk_at dksX7_aRule_13 15 rfl rfl)
theorem dX7_aRule_326 : decode cX7_aRule 326 = .ok (.ifCond .ne 9, 3) := dk_154 0 9 (dk_at dksX7_aRule_13 18 rfl rfl)
theorem dX7_aRule_329 : decode cX7_aRule 329 = .ok (.aload_n 0, 1) := dk_42 (dk_at dksX7_aRule_13 21 rfl rfl)
theorem dX7_aRule_330 : decode cX7_aRule 330 = .ok (.iconst 2, 1) := dk_5 (dk_at dksX7_aRule_13 22 rfl rfl)
theorem dX7_aRule_331 : decode cX7_aRule 331 = .ok (.invokevirtual 181, 3) := dk_182 0 181 (dk_at dksX7_aRule_14 0 rfl rfl)
theorem dX7_aRule_334 : decode cX7_aRule 334 = .ok (.ireturn, 1) := dk_172 (dk_at dksX7_aRule_14 3 rfl rfl)
theorem dX7_aRule_335 : decode cX7_aRule 335 = .ok (.iconst 0, 1) := dk_3 (dk_at dksX7_aRule_14 4 rfl rfl)
theorem dX7_aRule_336 : decode cX7_aRule 336 = .ok (.istore 4, 2) := dk_54 4 (dk_at dksX7_aRule_14 5 rfl rfl)
theorem dX7_aRule_338 : decode cX7_aRule 338 = .ok (.iload 4, 2) := dk_21 4 (dk_at dksX7_aRule_14 7 rfl rfl)
theorem dX7_aRule_340 : decode cX7_aRule 340 = .ok (.iload_n 1, 1) := dk_27 (dk_at dksX7_aRule_14 9 rfl rfl)
theorem dX7_aRule_341 : decode cX7_aRule 341 = .ok (.if_icmp .ge 31, 3) := dk_162 0 31 (dk_at dksX7_aRule_14 10 rfl rfl)
theorem dX7_aRule_344 : decode cX7_aRule 344 = .ok (.aload_n 0, 1) := dk_42 (dk_at dksX7_aRule_14 13 rfl rfl)
theorem dX7_aRule_345 : decode cX7_aRule 345 = .ok (.sipush 13200, 3) := dk_17 51 144 (dk_at dksX7_aRule_14 14 rfl rfl)
theorem dX7_aRule_348 : decode cX7_aRule 348 = .ok (.iload 4, 2) := dk_21 4 (dk_at dksX7_aRule_14 17 rfl rfl)
theorem dX7_aRule_350 : decode cX7_aRule 350 = .ok (.invokestatic 194, 3) := dk_184 0 194 (dk_at dksX7_aRule_14 19 rfl rfl)
theorem dX7_aRule_353 : decode cX7_aRule 353 = .ok (.iload_n 2, 1) := dk_28 (dk_at dksX7_aRule_14 22 rfl rfl)
theorem dX7_aRule_354 : decode cX7_aRule 354 = .ok (.invokevirtual 203, 3) := dk_182 0 203 (dk_at dksX7_aRule_15 0 rfl rfl)
theorem dX7_aRule_357 : decode cX7_aRule 357 = .ok (.ifCond .eq 9, 3) := dk_153 0 9 (dk_at dksX7_aRule_15 3 rfl rfl)
theorem dX7_aRule_360 : decode cX7_aRule 360 = .ok (.aload_n 0, 1) := dk_42 (dk_at dksX7_aRule_15 6 rfl rfl)
theorem dX7_aRule_361 : decode cX7_aRule 361 = .ok (.iconst 3, 1) := dk_6 (dk_at dksX7_aRule_15 7 rfl rfl)
theorem dX7_aRule_362 : decode cX7_aRule 362 = .ok (.invokevirtual 181, 3) := dk_182 0 181 (dk_at dksX7_aRule_15 8 rfl rfl)
theorem dX7_aRule_365 : decode cX7_aRule 365 = .ok (.ireturn, 1) := dk_172 (dk_at dksX7_aRule_15 11 rfl rfl)
theorem dX7_aRule_366 : decode cX7_aRule 366 = .ok (.iinc 4 1, 3) := dk_132 4 1 (dk_at dksX7_aRule_15 12 rfl rfl)
theorem dX7_aRule_369 : decode cX7_aRule 369 = .ok (.goto (-31), 3) := dk_167 255 225 (dk_at dksX7_aRule_15 15 rfl rfl)
theorem dX7_aRule_372 : decode cX7_aRule 372 = .ok (.aload_n 0, 1) := dk_42 (dk_at dksX7_aRule_15 18 rfl rfl)
theorem dX7_aRule_373 : decode cX7_aRule 373 = .ok (.getfield 7, 3) := dk_180 0 7 (dk_at dksX7_aRule_15 19 rfl rfl)
theorem dX7_aRule_376 : decode cX7_aRule 376 = .ok (.sipush 13200, 3) := dk_17 51 144 (dk_at dksX7_aRule_16 0 rfl rfl)
theorem dX7_aRule_379 : decode cX7_aRule 379 = .ok (.dup2, 1) := dk_92 (dk_at dksX7_aRule_16 3 rfl rfl)
theorem dX7_aRule_380 : decode cX7_aRule 380 = .ok (.iaload, 1) := dk_46 (dk_at dksX7_aRule_16 4 rfl rfl)
theorem dX7_aRule_381 : decode cX7_aRule 381 = .ok (.iconst 1, 1) := dk_4 (dk_at dksX7_aRule_16 5 rfl rfl)
theorem dX7_aRule_382 : decode cX7_aRule 382 = .ok (.iadd, 1) := dk_96 (dk_at dksX7_aRule_16 6 rfl rfl)
theorem dX7_aRule_383 : decode cX7_aRule 383 = .ok (.iastore, 1) := dk_79 (dk_at dksX7_aRule_16 7 rfl rfl)
theorem dX7_aRule_384 : decode cX7_aRule 384 = .ok (.aload_n 0, 1) := dk_42 (dk_at dksX7_aRule_16 8 rfl rfl)
theorem dX7_aRule_385 : decode cX7_aRule 385 = .ok (.bipush 59, 2) := dk_16 59 (dk_at dksX7_aRule_16 9 rfl rfl)
theorem dX7_aRule_387 : decode cX7_aRule 387 = .ok (.invokevirtual 207, 3) := dk_182 0 207 (dk_at dksX7_aRule_16 11 rfl rfl)
theorem dX7_aRule_390 : decode cX7_aRule 390 = .ok (.ireturn, 1) := dk_172 (dk_at dksX7_aRule_16 14 rfl rfl)
abbrev cX7_ruleAt : ByteArray := prog_17_method_33_code
def yX7_ruleAt : MethodName := ⟨RX7, "ruleAt", "(II)I"⟩
def dkwX7_ruleAt_0 : List UInt8 := [26, 16, 12, 96, 16, 12, 27, 104, 96, 172]
abbrev dktX7_ruleAt_0 : List UInt8 := dkwX7_ruleAt_0 ++ []
theorem dksX7_ruleAt_0 : cX7_ruleAt.data.toList.drop 0 = dktX7_ruleAt_0 := by decide +kernel
theorem dX7_ruleAt_0 : decode cX7_ruleAt 0 = .ok (.iload_n 0, 1) := dk_26 (dk_at dksX7_ruleAt_0 0 rfl rfl)
theorem dX7_ruleAt_1 : decode cX7_ruleAt 1 = .ok (.bipush 12, 2) := dk_16 12 (dk_at dksX7_ruleAt_0 1 rfl rfl)
theorem dX7_ruleAt_3 : decode cX7_ruleAt 3 = .ok (.iadd, 1) := dk_96 (dk_at dksX7_ruleAt_0 3 rfl rfl)
theorem dX7_ruleAt_4 : decode cX7_ruleAt 4 = .ok (.bipush 12, 2) := dk_16 12 (dk_at dksX7_ruleAt_0 4 rfl rfl)
theorem dX7_ruleAt_6 : decode cX7_ruleAt 6 = .ok (.iload_n 1, 1) := dk_27 (dk_at dksX7_ruleAt_0 6 rfl rfl)
theorem dX7_ruleAt_7 : decode cX7_ruleAt 7 = .ok (.imul, 1) := dk_104 (dk_at dksX7_ruleAt_0 7 rfl rfl)
theorem dX7_ruleAt_8 : decode cX7_ruleAt 8 = .ok (.iadd, 1) := dk_96 (dk_at dksX7_ruleAt_0 8 rfl rfl)
theorem dX7_ruleAt_9 : decode cX7_ruleAt 9 = .ok (.ireturn, 1) := dk_172 (dk_at dksX7_ruleAt_0 9 rfl rfl)
abbrev cX7_fails : ByteArray := prog_17_method_26_code
def yX7_fails : MethodName := ⟨RX7, "fails", "(I)Z"⟩
def dkwX7_fails_1 : List UInt8 := [42, 42, 180, 0, 138, 181, 0, 38, 3, 172]
abbrev dktX7_fails_1 : List UInt8 := dkwX7_fails_1 ++ []
def dkwX7_fails_0 : List UInt8 := [42, 180, 0, 169, 154, 0, 28, 42, 42, 180, 0, 144, 4, 160, 0, 7, 4, 167, 0, 4, 27, 181, 0, 169]
abbrev dktX7_fails_0 : List UInt8 := dkwX7_fails_0 ++ dktX7_fails_1
theorem dksX7_fails_0 : cX7_fails.data.toList.drop 0 = dktX7_fails_0 := by decide +kernel
theorem dksX7_fails_1 : cX7_fails.data.toList.drop 24 = dktX7_fails_1 := dk_seg dksX7_fails_0 24 rfl rfl
theorem dX7_fails_0 : decode cX7_fails 0 = .ok (.aload_n 0, 1) := dk_42 (dk_at dksX7_fails_0 0 rfl rfl)
theorem dX7_fails_1 : decode cX7_fails 1 = .ok (.getfield 169, 3) := dk_180 0 169 (dk_at dksX7_fails_0 1 rfl rfl)
theorem dX7_fails_4 : decode cX7_fails 4 = .ok (.ifCond .ne 28, 3) := dk_154 0 28 (dk_at dksX7_fails_0 4 rfl rfl)
theorem dX7_fails_7 : decode cX7_fails 7 = .ok (.aload_n 0, 1) := dk_42 (dk_at dksX7_fails_0 7 rfl rfl)
theorem dX7_fails_8 : decode cX7_fails 8 = .ok (.aload_n 0, 1) := dk_42 (dk_at dksX7_fails_0 8 rfl rfl)
theorem dX7_fails_9 : decode cX7_fails 9 = .ok (.getfield 144, 3) := dk_180 0 144 (dk_at dksX7_fails_0 9 rfl rfl)
theorem dX7_fails_12 : decode cX7_fails 12 = .ok (.iconst 1, 1) := dk_4 (dk_at dksX7_fails_0 12 rfl rfl)
theorem dX7_fails_13 : decode cX7_fails 13 = .ok (.if_icmp .ne 7, 3) := dk_160 0 7 (dk_at dksX7_fails_0 13 rfl rfl)
theorem dX7_fails_16 : decode cX7_fails 16 = .ok (.iconst 1, 1) := dk_4 (dk_at dksX7_fails_0 16 rfl rfl)
theorem dX7_fails_17 : decode cX7_fails 17 = .ok (.goto 4, 3) := dk_167 0 4 (dk_at dksX7_fails_0 17 rfl rfl)
theorem dX7_fails_20 : decode cX7_fails 20 = .ok (.iload_n 1, 1) := dk_27 (dk_at dksX7_fails_0 20 rfl rfl)
theorem dX7_fails_21 : decode cX7_fails 21 = .ok (.putfield 169, 3) := dk_181 0 169 (dk_at dksX7_fails_0 21 rfl rfl)
theorem dX7_fails_24 : decode cX7_fails 24 = .ok (.aload_n 0, 1) := dk_42 (dk_at dksX7_fails_1 0 rfl rfl)
theorem dX7_fails_25 : decode cX7_fails 25 = .ok (.aload_n 0, 1) := dk_42 (dk_at dksX7_fails_1 1 rfl rfl)
theorem dX7_fails_26 : decode cX7_fails 26 = .ok (.getfield 138, 3) := dk_180 0 138 (dk_at dksX7_fails_1 2 rfl rfl)
theorem dX7_fails_29 : decode cX7_fails 29 = .ok (.putfield 38, 3) := dk_181 0 38 (dk_at dksX7_fails_1 5 rfl rfl)
theorem dX7_fails_32 : decode cX7_fails 32 = .ok (.iconst 0, 1) := dk_3 (dk_at dksX7_fails_1 8 rfl rfl)
theorem dX7_fails_33 : decode cX7_fails 33 = .ok (.ireturn, 1) := dk_172 (dk_at dksX7_fails_1 9 rfl rfl)
abbrev cX7_wantWord : ByteArray := prog_17_method_29_code
def yX7_wantWord : MethodName := ⟨RX7, "wantWord", "(Ljava/lang/String;I)Z"⟩
def dkwX7_wantWord_0 : List UInt8 := [42, 43, 182, 0, 184, 28, 159, 0, 9, 42, 5, 182, 0, 181, 172, 42, 182, 0, 175, 4, 172]
abbrev dktX7_wantWord_0 : List UInt8 := dkwX7_wantWord_0 ++ []
theorem dksX7_wantWord_0 : cX7_wantWord.data.toList.drop 0 = dktX7_wantWord_0 := by decide +kernel
theorem dX7_wantWord_0 : decode cX7_wantWord 0 = .ok (.aload_n 0, 1) := dk_42 (dk_at dksX7_wantWord_0 0 rfl rfl)
theorem dX7_wantWord_1 : decode cX7_wantWord 1 = .ok (.aload_n 1, 1) := dk_43 (dk_at dksX7_wantWord_0 1 rfl rfl)
theorem dX7_wantWord_2 : decode cX7_wantWord 2 = .ok (.invokevirtual 184, 3) := dk_182 0 184 (dk_at dksX7_wantWord_0 2 rfl rfl)
theorem dX7_wantWord_5 : decode cX7_wantWord 5 = .ok (.iload_n 2, 1) := dk_28 (dk_at dksX7_wantWord_0 5 rfl rfl)
theorem dX7_wantWord_6 : decode cX7_wantWord 6 = .ok (.if_icmp .eq 9, 3) := dk_159 0 9 (dk_at dksX7_wantWord_0 6 rfl rfl)
theorem dX7_wantWord_9 : decode cX7_wantWord 9 = .ok (.aload_n 0, 1) := dk_42 (dk_at dksX7_wantWord_0 9 rfl rfl)
theorem dX7_wantWord_10 : decode cX7_wantWord 10 = .ok (.iconst 2, 1) := dk_5 (dk_at dksX7_wantWord_0 10 rfl rfl)
theorem dX7_wantWord_11 : decode cX7_wantWord 11 = .ok (.invokevirtual 181, 3) := dk_182 0 181 (dk_at dksX7_wantWord_0 11 rfl rfl)
theorem dX7_wantWord_14 : decode cX7_wantWord 14 = .ok (.ireturn, 1) := dk_172 (dk_at dksX7_wantWord_0 14 rfl rfl)
theorem dX7_wantWord_15 : decode cX7_wantWord 15 = .ok (.aload_n 0, 1) := dk_42 (dk_at dksX7_wantWord_0 15 rfl rfl)
theorem dX7_wantWord_16 : decode cX7_wantWord 16 = .ok (.invokevirtual 175, 3) := dk_182 0 175 (dk_at dksX7_wantWord_0 16 rfl rfl)
theorem dX7_wantWord_19 : decode cX7_wantWord 19 = .ok (.iconst 1, 1) := dk_4 (dk_at dksX7_wantWord_0 19 rfl rfl)
theorem dX7_wantWord_20 : decode cX7_wantWord 20 = .ok (.ireturn, 1) := dk_172 (dk_at dksX7_wantWord_0 20 rfl rfl)
abbrev cX7_isSign : ByteArray := prog_17_method_24_code
def yX7_isSign : MethodName := ⟨RX7, "isSign", "(I)Z"⟩
def dkwX7_isSign_0 : List UInt8 := [42, 180, 0, 144, 7, 160, 0, 15, 42, 180, 0, 141, 27, 160, 0, 7, 4, 167, 0, 4, 3, 172]
abbrev dktX7_isSign_0 : List UInt8 := dkwX7_isSign_0 ++ []
theorem dksX7_isSign_0 : cX7_isSign.data.toList.drop 0 = dktX7_isSign_0 := by decide +kernel
theorem dX7_isSign_0 : decode cX7_isSign 0 = .ok (.aload_n 0, 1) := dk_42 (dk_at dksX7_isSign_0 0 rfl rfl)
theorem dX7_isSign_1 : decode cX7_isSign 1 = .ok (.getfield 144, 3) := dk_180 0 144 (dk_at dksX7_isSign_0 1 rfl rfl)
theorem dX7_isSign_4 : decode cX7_isSign 4 = .ok (.iconst 4, 1) := dk_7 (dk_at dksX7_isSign_0 4 rfl rfl)
theorem dX7_isSign_5 : decode cX7_isSign 5 = .ok (.if_icmp .ne 15, 3) := dk_160 0 15 (dk_at dksX7_isSign_0 5 rfl rfl)
theorem dX7_isSign_8 : decode cX7_isSign 8 = .ok (.aload_n 0, 1) := dk_42 (dk_at dksX7_isSign_0 8 rfl rfl)
theorem dX7_isSign_9 : decode cX7_isSign 9 = .ok (.getfield 141, 3) := dk_180 0 141 (dk_at dksX7_isSign_0 9 rfl rfl)
theorem dX7_isSign_12 : decode cX7_isSign 12 = .ok (.iload_n 1, 1) := dk_27 (dk_at dksX7_isSign_0 12 rfl rfl)
theorem dX7_isSign_13 : decode cX7_isSign 13 = .ok (.if_icmp .ne 7, 3) := dk_160 0 7 (dk_at dksX7_isSign_0 13 rfl rfl)
theorem dX7_isSign_16 : decode cX7_isSign 16 = .ok (.iconst 1, 1) := dk_4 (dk_at dksX7_isSign_0 16 rfl rfl)
theorem dX7_isSign_17 : decode cX7_isSign 17 = .ok (.goto 4, 3) := dk_167 0 4 (dk_at dksX7_isSign_0 17 rfl rfl)
theorem dX7_isSign_20 : decode cX7_isSign 20 = .ok (.iconst 0, 1) := dk_3 (dk_at dksX7_isSign_0 20 rfl rfl)
theorem dX7_isSign_21 : decode cX7_isSign 21 = .ok (.ireturn, 1) := dk_172 (dk_at dksX7_isSign_0 21 rfl rfl)
abbrev cX7_likeRule : ByteArray := prog_17_method_34_code
def yX7_likeRule : MethodName := ⟨RX7, "likeRule", "(II)Z"⟩
def dkwX7_likeRule_4 : List UInt8 := [167, 255, 207, 29, 172]
abbrev dktX7_likeRule_4 : List UInt8 := dkwX7_likeRule_4 ++ []
def dkwX7_likeRule_3 : List UInt8 := [180, 0, 7, 28, 4, 96, 21, 4, 96, 46, 160, 0, 7, 4, 167, 0, 4, 3, 62, 132, 4, 1]
abbrev dktX7_likeRule_3 : List UInt8 := dkwX7_likeRule_3 ++ dktX7_likeRule_4
def dkwX7_likeRule_2 : List UInt8 := [180, 0, 7, 27, 46, 162, 0, 44, 29, 153, 0, 40, 42, 180, 0, 7, 27, 4, 96, 21, 4, 96, 46, 42]
abbrev dktX7_likeRule_2 : List UInt8 := dkwX7_likeRule_2 ++ dktX7_likeRule_3
def dkwX7_likeRule_1 : List UInt8 := [42, 180, 0, 7, 28, 16, 11, 96, 46, 160, 0, 7, 4, 167, 0, 4, 3, 62, 3, 54, 4, 21, 4, 42]
abbrev dktX7_likeRule_1 : List UInt8 := dkwX7_likeRule_1 ++ dktX7_likeRule_2
def dkwX7_likeRule_0 : List UInt8 := [42, 180, 0, 7, 27, 46, 42, 180, 0, 7, 28, 46, 160, 0, 28, 42, 180, 0, 7, 27, 16, 11, 96, 46]
abbrev dktX7_likeRule_0 : List UInt8 := dkwX7_likeRule_0 ++ dktX7_likeRule_1
theorem dksX7_likeRule_0 : cX7_likeRule.data.toList.drop 0 = dktX7_likeRule_0 := by decide +kernel
theorem dksX7_likeRule_1 : cX7_likeRule.data.toList.drop 24 = dktX7_likeRule_1 := dk_seg dksX7_likeRule_0 24 rfl rfl
theorem dksX7_likeRule_2 : cX7_likeRule.data.toList.drop 48 = dktX7_likeRule_2 := dk_seg dksX7_likeRule_1 24 rfl rfl
theorem dksX7_likeRule_3 : cX7_likeRule.data.toList.drop 72 = dktX7_likeRule_3 := dk_seg dksX7_likeRule_2 24 rfl rfl
theorem dksX7_likeRule_4 : cX7_likeRule.data.toList.drop 94 = dktX7_likeRule_4 := dk_seg dksX7_likeRule_3 22 rfl rfl
theorem dX7_likeRule_0 : decode cX7_likeRule 0 = .ok (.aload_n 0, 1) := dk_42 (dk_at dksX7_likeRule_0 0 rfl rfl)
theorem dX7_likeRule_1 : decode cX7_likeRule 1 = .ok (.getfield 7, 3) := dk_180 0 7 (dk_at dksX7_likeRule_0 1 rfl rfl)
theorem dX7_likeRule_4 : decode cX7_likeRule 4 = .ok (.iload_n 1, 1) := dk_27 (dk_at dksX7_likeRule_0 4 rfl rfl)
theorem dX7_likeRule_5 : decode cX7_likeRule 5 = .ok (.iaload, 1) := dk_46 (dk_at dksX7_likeRule_0 5 rfl rfl)
theorem dX7_likeRule_6 : decode cX7_likeRule 6 = .ok (.aload_n 0, 1) := dk_42 (dk_at dksX7_likeRule_0 6 rfl rfl)
theorem dX7_likeRule_7 : decode cX7_likeRule 7 = .ok (.getfield 7, 3) := dk_180 0 7 (dk_at dksX7_likeRule_0 7 rfl rfl)
theorem dX7_likeRule_10 : decode cX7_likeRule 10 = .ok (.iload_n 2, 1) := dk_28 (dk_at dksX7_likeRule_0 10 rfl rfl)
theorem dX7_likeRule_11 : decode cX7_likeRule 11 = .ok (.iaload, 1) := dk_46 (dk_at dksX7_likeRule_0 11 rfl rfl)
theorem dX7_likeRule_12 : decode cX7_likeRule 12 = .ok (.if_icmp .ne 28, 3) := dk_160 0 28 (dk_at dksX7_likeRule_0 12 rfl rfl)
theorem dX7_likeRule_15 : decode cX7_likeRule 15 = .ok (.aload_n 0, 1) := dk_42 (dk_at dksX7_likeRule_0 15 rfl rfl)
theorem dX7_likeRule_16 : decode cX7_likeRule 16 = .ok (.getfield 7, 3) := dk_180 0 7 (dk_at dksX7_likeRule_0 16 rfl rfl)
theorem dX7_likeRule_19 : decode cX7_likeRule 19 = .ok (.iload_n 1, 1) := dk_27 (dk_at dksX7_likeRule_0 19 rfl rfl)
theorem dX7_likeRule_20 : decode cX7_likeRule 20 = .ok (.bipush 11, 2) := dk_16 11 (dk_at dksX7_likeRule_0 20 rfl rfl)
theorem dX7_likeRule_22 : decode cX7_likeRule 22 = .ok (.iadd, 1) := dk_96 (dk_at dksX7_likeRule_0 22 rfl rfl)
theorem dX7_likeRule_23 : decode cX7_likeRule 23 = .ok (.iaload, 1) := dk_46 (dk_at dksX7_likeRule_0 23 rfl rfl)
theorem dX7_likeRule_24 : decode cX7_likeRule 24 = .ok (.aload_n 0, 1) := dk_42 (dk_at dksX7_likeRule_1 0 rfl rfl)
theorem dX7_likeRule_25 : decode cX7_likeRule 25 = .ok (.getfield 7, 3) := dk_180 0 7 (dk_at dksX7_likeRule_1 1 rfl rfl)
theorem dX7_likeRule_28 : decode cX7_likeRule 28 = .ok (.iload_n 2, 1) := dk_28 (dk_at dksX7_likeRule_1 4 rfl rfl)
theorem dX7_likeRule_29 : decode cX7_likeRule 29 = .ok (.bipush 11, 2) := dk_16 11 (dk_at dksX7_likeRule_1 5 rfl rfl)
theorem dX7_likeRule_31 : decode cX7_likeRule 31 = .ok (.iadd, 1) := dk_96 (dk_at dksX7_likeRule_1 7 rfl rfl)
theorem dX7_likeRule_32 : decode cX7_likeRule 32 = .ok (.iaload, 1) := dk_46 (dk_at dksX7_likeRule_1 8 rfl rfl)
theorem dX7_likeRule_33 : decode cX7_likeRule 33 = .ok (.if_icmp .ne 7, 3) := dk_160 0 7 (dk_at dksX7_likeRule_1 9 rfl rfl)
theorem dX7_likeRule_36 : decode cX7_likeRule 36 = .ok (.iconst 1, 1) := dk_4 (dk_at dksX7_likeRule_1 12 rfl rfl)
theorem dX7_likeRule_37 : decode cX7_likeRule 37 = .ok (.goto 4, 3) := dk_167 0 4 (dk_at dksX7_likeRule_1 13 rfl rfl)
theorem dX7_likeRule_40 : decode cX7_likeRule 40 = .ok (.iconst 0, 1) := dk_3 (dk_at dksX7_likeRule_1 16 rfl rfl)
theorem dX7_likeRule_41 : decode cX7_likeRule 41 = .ok (.istore_n 3, 1) := dk_62 (dk_at dksX7_likeRule_1 17 rfl rfl)
theorem dX7_likeRule_42 : decode cX7_likeRule 42 = .ok (.iconst 0, 1) := dk_3 (dk_at dksX7_likeRule_1 18 rfl rfl)
theorem dX7_likeRule_43 : decode cX7_likeRule 43 = .ok (.istore 4, 2) := dk_54 4 (dk_at dksX7_likeRule_1 19 rfl rfl)
theorem dX7_likeRule_45 : decode cX7_likeRule 45 = .ok (.iload 4, 2) := dk_21 4 (dk_at dksX7_likeRule_1 21 rfl rfl)
theorem dX7_likeRule_47 : decode cX7_likeRule 47 = .ok (.aload_n 0, 1) := dk_42 (dk_at dksX7_likeRule_1 23 rfl rfl)
theorem dX7_likeRule_48 : decode cX7_likeRule 48 = .ok (.getfield 7, 3) := dk_180 0 7 (dk_at dksX7_likeRule_2 0 rfl rfl)
theorem dX7_likeRule_51 : decode cX7_likeRule 51 = .ok (.iload_n 1, 1) := dk_27 (dk_at dksX7_likeRule_2 3 rfl rfl)
theorem dX7_likeRule_52 : decode cX7_likeRule 52 = .ok (.iaload, 1) := dk_46 (dk_at dksX7_likeRule_2 4 rfl rfl)
theorem dX7_likeRule_53 : decode cX7_likeRule 53 = .ok (.if_icmp .ge 44, 3) := dk_162 0 44 (dk_at dksX7_likeRule_2 5 rfl rfl)
theorem dX7_likeRule_56 : decode cX7_likeRule 56 = .ok (.iload_n 3, 1) := dk_29 (dk_at dksX7_likeRule_2 8 rfl rfl)
theorem dX7_likeRule_57 : decode cX7_likeRule 57 = .ok (.ifCond .eq 40, 3) := dk_153 0 40 (dk_at dksX7_likeRule_2 9 rfl rfl)
theorem dX7_likeRule_60 : decode cX7_likeRule 60 = .ok (.aload_n 0, 1) := dk_42 (dk_at dksX7_likeRule_2 12 rfl rfl)
theorem dX7_likeRule_61 : decode cX7_likeRule 61 = .ok (.getfield 7, 3) := dk_180 0 7 (dk_at dksX7_likeRule_2 13 rfl rfl)
theorem dX7_likeRule_64 : decode cX7_likeRule 64 = .ok (.iload_n 1, 1) := dk_27 (dk_at dksX7_likeRule_2 16 rfl rfl)
theorem dX7_likeRule_65 : decode cX7_likeRule 65 = .ok (.iconst 1, 1) := dk_4 (dk_at dksX7_likeRule_2 17 rfl rfl)
theorem dX7_likeRule_66 : decode cX7_likeRule 66 = .ok (.iadd, 1) := dk_96 (dk_at dksX7_likeRule_2 18 rfl rfl)
theorem dX7_likeRule_67 : decode cX7_likeRule 67 = .ok (.iload 4, 2) := dk_21 4 (dk_at dksX7_likeRule_2 19 rfl rfl)
theorem dX7_likeRule_69 : decode cX7_likeRule 69 = .ok (.iadd, 1) := dk_96 (dk_at dksX7_likeRule_2 21 rfl rfl)
theorem dX7_likeRule_70 : decode cX7_likeRule 70 = .ok (.iaload, 1) := dk_46 (dk_at dksX7_likeRule_2 22 rfl rfl)
theorem dX7_likeRule_71 : decode cX7_likeRule 71 = .ok (.aload_n 0, 1) := dk_42 (dk_at dksX7_likeRule_2 23 rfl rfl)
theorem dX7_likeRule_72 : decode cX7_likeRule 72 = .ok (.getfield 7, 3) := dk_180 0 7 (dk_at dksX7_likeRule_3 0 rfl rfl)
theorem dX7_likeRule_75 : decode cX7_likeRule 75 = .ok (.iload_n 2, 1) := dk_28 (dk_at dksX7_likeRule_3 3 rfl rfl)
theorem dX7_likeRule_76 : decode cX7_likeRule 76 = .ok (.iconst 1, 1) := dk_4 (dk_at dksX7_likeRule_3 4 rfl rfl)
theorem dX7_likeRule_77 : decode cX7_likeRule 77 = .ok (.iadd, 1) := dk_96 (dk_at dksX7_likeRule_3 5 rfl rfl)
theorem dX7_likeRule_78 : decode cX7_likeRule 78 = .ok (.iload 4, 2) := dk_21 4 (dk_at dksX7_likeRule_3 6 rfl rfl)
theorem dX7_likeRule_80 : decode cX7_likeRule 80 = .ok (.iadd, 1) := dk_96 (dk_at dksX7_likeRule_3 8 rfl rfl)
theorem dX7_likeRule_81 : decode cX7_likeRule 81 = .ok (.iaload, 1) := dk_46 (dk_at dksX7_likeRule_3 9 rfl rfl)
theorem dX7_likeRule_82 : decode cX7_likeRule 82 = .ok (.if_icmp .ne 7, 3) := dk_160 0 7 (dk_at dksX7_likeRule_3 10 rfl rfl)
theorem dX7_likeRule_85 : decode cX7_likeRule 85 = .ok (.iconst 1, 1) := dk_4 (dk_at dksX7_likeRule_3 13 rfl rfl)
theorem dX7_likeRule_86 : decode cX7_likeRule 86 = .ok (.goto 4, 3) := dk_167 0 4 (dk_at dksX7_likeRule_3 14 rfl rfl)
theorem dX7_likeRule_89 : decode cX7_likeRule 89 = .ok (.iconst 0, 1) := dk_3 (dk_at dksX7_likeRule_3 17 rfl rfl)
theorem dX7_likeRule_90 : decode cX7_likeRule 90 = .ok (.istore_n 3, 1) := dk_62 (dk_at dksX7_likeRule_3 18 rfl rfl)
theorem dX7_likeRule_91 : decode cX7_likeRule 91 = .ok (.iinc 4 1, 3) := dk_132 4 1 (dk_at dksX7_likeRule_3 19 rfl rfl)
theorem dX7_likeRule_94 : decode cX7_likeRule 94 = .ok (.goto (-49), 3) := dk_167 255 207 (dk_at dksX7_likeRule_4 0 rfl rfl)
theorem dX7_likeRule_97 : decode cX7_likeRule 97 = .ok (.iload_n 3, 1) := dk_29 (dk_at dksX7_likeRule_4 3 rfl rfl)
theorem dX7_likeRule_98 : decode cX7_likeRule 98 = .ok (.ireturn, 1) := dk_172 (dk_at dksX7_likeRule_4 4 rfl rfl)
abbrev cX7_wantSign : ByteArray := prog_17_method_28_code
def yX7_wantSign : MethodName := ⟨RX7, "wantSign", "(I)Z"⟩
def dkwX7_wantSign_0 : List UInt8 := [42, 27, 182, 0, 178, 154, 0, 9, 42, 5, 182, 0, 181, 172, 42, 182, 0, 175, 4, 172]
abbrev dktX7_wantSign_0 : List UInt8 := dkwX7_wantSign_0 ++ []
theorem dksX7_wantSign_0 : cX7_wantSign.data.toList.drop 0 = dktX7_wantSign_0 := by decide +kernel
theorem dX7_wantSign_0 : decode cX7_wantSign 0 = .ok (.aload_n 0, 1) := dk_42 (dk_at dksX7_wantSign_0 0 rfl rfl)
theorem dX7_wantSign_1 : decode cX7_wantSign 1 = .ok (.iload_n 1, 1) := dk_27 (dk_at dksX7_wantSign_0 1 rfl rfl)
theorem dX7_wantSign_2 : decode cX7_wantSign 2 = .ok (.invokevirtual 178, 3) := dk_182 0 178 (dk_at dksX7_wantSign_0 2 rfl rfl)
theorem dX7_wantSign_5 : decode cX7_wantSign 5 = .ok (.ifCond .ne 9, 3) := dk_154 0 9 (dk_at dksX7_wantSign_0 5 rfl rfl)
theorem dX7_wantSign_8 : decode cX7_wantSign 8 = .ok (.aload_n 0, 1) := dk_42 (dk_at dksX7_wantSign_0 8 rfl rfl)
theorem dX7_wantSign_9 : decode cX7_wantSign 9 = .ok (.iconst 2, 1) := dk_5 (dk_at dksX7_wantSign_0 9 rfl rfl)
theorem dX7_wantSign_10 : decode cX7_wantSign 10 = .ok (.invokevirtual 181, 3) := dk_182 0 181 (dk_at dksX7_wantSign_0 10 rfl rfl)
theorem dX7_wantSign_13 : decode cX7_wantSign 13 = .ok (.ireturn, 1) := dk_172 (dk_at dksX7_wantSign_0 13 rfl rfl)
theorem dX7_wantSign_14 : decode cX7_wantSign 14 = .ok (.aload_n 0, 1) := dk_42 (dk_at dksX7_wantSign_0 14 rfl rfl)
theorem dX7_wantSign_15 : decode cX7_wantSign 15 = .ok (.invokevirtual 175, 3) := dk_182 0 175 (dk_at dksX7_wantSign_0 15 rfl rfl)
theorem dX7_wantSign_18 : decode cX7_wantSign 18 = .ok (.iconst 1, 1) := dk_4 (dk_at dksX7_wantSign_0 18 rfl rfl)
theorem dX7_wantSign_19 : decode cX7_wantSign 19 = .ok (.ireturn, 1) := dk_172 (dk_at dksX7_wantSign_0 19 rfl rfl)
abbrev cX7_number : ByteArray := prog_17_method_30_code
def yX7_number : MethodName := ⟨RX7, "number", "(III)Z"⟩
def dkwX7_number_2 : List UInt8 := [182, 0, 175, 4, 172]
abbrev dktX7_number_2 : List UInt8 := dkwX7_number_2 ++ []
def dkwX7_number_1 : List UInt8 := [180, 0, 141, 29, 164, 0, 9, 42, 7, 182, 0, 181, 172, 42, 180, 0, 7, 27, 42, 180, 0, 141, 79, 42]
abbrev dktX7_number_1 : List UInt8 := dkwX7_number_1 ++ dktX7_number_2
def dkwX7_number_0 : List UInt8 := [42, 180, 0, 144, 6, 159, 0, 9, 42, 5, 182, 0, 181, 172, 42, 180, 0, 141, 28, 161, 0, 11, 42]
abbrev dktX7_number_0 : List UInt8 := dkwX7_number_0 ++ dktX7_number_1
theorem dksX7_number_0 : cX7_number.data.toList.drop 0 = dktX7_number_0 := by decide +kernel
theorem dksX7_number_1 : cX7_number.data.toList.drop 23 = dktX7_number_1 := dk_seg dksX7_number_0 23 rfl rfl
theorem dksX7_number_2 : cX7_number.data.toList.drop 47 = dktX7_number_2 := dk_seg dksX7_number_1 24 rfl rfl
theorem dX7_number_0 : decode cX7_number 0 = .ok (.aload_n 0, 1) := dk_42 (dk_at dksX7_number_0 0 rfl rfl)
theorem dX7_number_1 : decode cX7_number 1 = .ok (.getfield 144, 3) := dk_180 0 144 (dk_at dksX7_number_0 1 rfl rfl)
theorem dX7_number_4 : decode cX7_number 4 = .ok (.iconst 3, 1) := dk_6 (dk_at dksX7_number_0 4 rfl rfl)
theorem dX7_number_5 : decode cX7_number 5 = .ok (.if_icmp .eq 9, 3) := dk_159 0 9 (dk_at dksX7_number_0 5 rfl rfl)
theorem dX7_number_8 : decode cX7_number 8 = .ok (.aload_n 0, 1) := dk_42 (dk_at dksX7_number_0 8 rfl rfl)
theorem dX7_number_9 : decode cX7_number 9 = .ok (.iconst 2, 1) := dk_5 (dk_at dksX7_number_0 9 rfl rfl)
theorem dX7_number_10 : decode cX7_number 10 = .ok (.invokevirtual 181, 3) := dk_182 0 181 (dk_at dksX7_number_0 10 rfl rfl)
theorem dX7_number_13 : decode cX7_number 13 = .ok (.ireturn, 1) := dk_172 (dk_at dksX7_number_0 13 rfl rfl)
theorem dX7_number_14 : decode cX7_number 14 = .ok (.aload_n 0, 1) := dk_42 (dk_at dksX7_number_0 14 rfl rfl)
theorem dX7_number_15 : decode cX7_number 15 = .ok (.getfield 141, 3) := dk_180 0 141 (dk_at dksX7_number_0 15 rfl rfl)
theorem dX7_number_18 : decode cX7_number 18 = .ok (.iload_n 2, 1) := dk_28 (dk_at dksX7_number_0 18 rfl rfl)
theorem dX7_number_19 : decode cX7_number 19 = .ok (.if_icmp .lt 11, 3) := dk_161 0 11 (dk_at dksX7_number_0 19 rfl rfl)
theorem dX7_number_22 : decode cX7_number 22 = .ok (.aload_n 0, 1) := dk_42 (dk_at dksX7_number_0 22 rfl rfl)
theorem dX7_number_23 : decode cX7_number 23 = .ok (.getfield 141, 3) := dk_180 0 141 (dk_at dksX7_number_1 0 rfl rfl)
theorem dX7_number_26 : decode cX7_number 26 = .ok (.iload_n 3, 1) := dk_29 (dk_at dksX7_number_1 3 rfl rfl)
theorem dX7_number_27 : decode cX7_number 27 = .ok (.if_icmp .le 9, 3) := dk_164 0 9 (dk_at dksX7_number_1 4 rfl rfl)
theorem dX7_number_30 : decode cX7_number 30 = .ok (.aload_n 0, 1) := dk_42 (dk_at dksX7_number_1 7 rfl rfl)
theorem dX7_number_31 : decode cX7_number 31 = .ok (.iconst 4, 1) := dk_7 (dk_at dksX7_number_1 8 rfl rfl)
theorem dX7_number_32 : decode cX7_number 32 = .ok (.invokevirtual 181, 3) := dk_182 0 181 (dk_at dksX7_number_1 9 rfl rfl)
theorem dX7_number_35 : decode cX7_number 35 = .ok (.ireturn, 1) := dk_172 (dk_at dksX7_number_1 12 rfl rfl)
theorem dX7_number_36 : decode cX7_number 36 = .ok (.aload_n 0, 1) := dk_42 (dk_at dksX7_number_1 13 rfl rfl)
theorem dX7_number_37 : decode cX7_number 37 = .ok (.getfield 7, 3) := dk_180 0 7 (dk_at dksX7_number_1 14 rfl rfl)
theorem dX7_number_40 : decode cX7_number 40 = .ok (.iload_n 1, 1) := dk_27 (dk_at dksX7_number_1 17 rfl rfl)
theorem dX7_number_41 : decode cX7_number 41 = .ok (.aload_n 0, 1) := dk_42 (dk_at dksX7_number_1 18 rfl rfl)
theorem dX7_number_42 : decode cX7_number 42 = .ok (.getfield 141, 3) := dk_180 0 141 (dk_at dksX7_number_1 19 rfl rfl)
theorem dX7_number_45 : decode cX7_number 45 = .ok (.iastore, 1) := dk_79 (dk_at dksX7_number_1 22 rfl rfl)
theorem dX7_number_46 : decode cX7_number 46 = .ok (.aload_n 0, 1) := dk_42 (dk_at dksX7_number_1 23 rfl rfl)
theorem dX7_number_47 : decode cX7_number 47 = .ok (.invokevirtual 175, 3) := dk_182 0 175 (dk_at dksX7_number_2 0 rfl rfl)
theorem dX7_number_50 : decode cX7_number 50 = .ok (.iconst 1, 1) := dk_4 (dk_at dksX7_number_2 3 rfl rfl)
theorem dX7_number_51 : decode cX7_number 51 = .ok (.ireturn, 1) := dk_172 (dk_at dksX7_number_2 4 rfl rfl)
abbrev cX7_taken : ByteArray := prog_17_method_32_code
def yX7_taken : MethodName := ⟨RX7, "taken", "(I)I"⟩
def dkwX7_taken_1 : List UInt8 := [42, 27, 182, 0, 191, 172]
abbrev dktX7_taken_1 : List UInt8 := dkwX7_taken_1 ++ []
def dkwX7_taken_0 : List UInt8 := [42, 42, 180, 0, 169, 181, 0, 34, 42, 180, 0, 169, 158, 0, 12, 42, 16, 9, 182, 0, 188, 167, 0, 8]
abbrev dktX7_taken_0 : List UInt8 := dkwX7_taken_0 ++ dktX7_taken_1
theorem dksX7_taken_0 : cX7_taken.data.toList.drop 0 = dktX7_taken_0 := by decide +kernel
theorem dksX7_taken_1 : cX7_taken.data.toList.drop 24 = dktX7_taken_1 := dk_seg dksX7_taken_0 24 rfl rfl
theorem dX7_taken_0 : decode cX7_taken 0 = .ok (.aload_n 0, 1) := dk_42 (dk_at dksX7_taken_0 0 rfl rfl)
theorem dX7_taken_1 : decode cX7_taken 1 = .ok (.aload_n 0, 1) := dk_42 (dk_at dksX7_taken_0 1 rfl rfl)
theorem dX7_taken_2 : decode cX7_taken 2 = .ok (.getfield 169, 3) := dk_180 0 169 (dk_at dksX7_taken_0 2 rfl rfl)
theorem dX7_taken_5 : decode cX7_taken 5 = .ok (.putfield 34, 3) := dk_181 0 34 (dk_at dksX7_taken_0 5 rfl rfl)
theorem dX7_taken_8 : decode cX7_taken 8 = .ok (.aload_n 0, 1) := dk_42 (dk_at dksX7_taken_0 8 rfl rfl)
theorem dX7_taken_9 : decode cX7_taken 9 = .ok (.getfield 169, 3) := dk_180 0 169 (dk_at dksX7_taken_0 9 rfl rfl)
theorem dX7_taken_12 : decode cX7_taken 12 = .ok (.ifCond .le 12, 3) := dk_158 0 12 (dk_at dksX7_taken_0 12 rfl rfl)
theorem dX7_taken_15 : decode cX7_taken 15 = .ok (.aload_n 0, 1) := dk_42 (dk_at dksX7_taken_0 15 rfl rfl)
theorem dX7_taken_16 : decode cX7_taken 16 = .ok (.bipush 9, 2) := dk_16 9 (dk_at dksX7_taken_0 16 rfl rfl)
theorem dX7_taken_18 : decode cX7_taken 18 = .ok (.invokevirtual 188, 3) := dk_182 0 188 (dk_at dksX7_taken_0 18 rfl rfl)
theorem dX7_taken_21 : decode cX7_taken 21 = .ok (.goto 8, 3) := dk_167 0 8 (dk_at dksX7_taken_0 21 rfl rfl)
theorem dX7_taken_24 : decode cX7_taken 24 = .ok (.aload_n 0, 1) := dk_42 (dk_at dksX7_taken_1 0 rfl rfl)
theorem dX7_taken_25 : decode cX7_taken 25 = .ok (.iload_n 1, 1) := dk_27 (dk_at dksX7_taken_1 1 rfl rfl)
theorem dX7_taken_26 : decode cX7_taken 26 = .ok (.invokevirtual 191, 3) := dk_182 0 191 (dk_at dksX7_taken_1 2 rfl rfl)
theorem dX7_taken_29 : decode cX7_taken 29 = .ok (.ireturn, 1) := dk_172 (dk_at dksX7_taken_1 5 rfl rfl)
abbrev cX7_gives : ByteArray := prog_17_method_8_code
def yX7_gives : MethodName := ⟨RX7, "gives", "(I)I"⟩
def dkwX7_gives_0 : List UInt8 := [42, 3, 181, 0, 99, 27, 172]
abbrev dktX7_gives_0 : List UInt8 := dkwX7_gives_0 ++ []
theorem dksX7_gives_0 : cX7_gives.data.toList.drop 0 = dktX7_gives_0 := by decide +kernel
theorem dX7_gives_0 : decode cX7_gives 0 = .ok (.aload_n 0, 1) := dk_42 (dk_at dksX7_gives_0 0 rfl rfl)
theorem dX7_gives_1 : decode cX7_gives 1 = .ok (.iconst 0, 1) := dk_3 (dk_at dksX7_gives_0 1 rfl rfl)
theorem dX7_gives_2 : decode cX7_gives 2 = .ok (.putfield 99, 3) := dk_181 0 99 (dk_at dksX7_gives_0 2 rfl rfl)
theorem dX7_gives_5 : decode cX7_gives 5 = .ok (.iload_n 1, 1) := dk_27 (dk_at dksX7_gives_0 5 rfl rfl)
theorem dX7_gives_6 : decode cX7_gives 6 = .ok (.ireturn, 1) := dk_172 (dk_at dksX7_gives_0 6 rfl rfl)
abbrev cX7_writing : ByteArray := prog_17_method_58_code
def yX7_writing : MethodName := ⟨RX7, "writing", "(I)I"⟩
def dkwX7_writing_5 : List UInt8 := [182, 1, 38, 42, 42, 180, 0, 7, 16, 8, 46, 182, 0, 191, 172]
abbrev dktX7_writing_5 : List UInt8 := dkwX7_writing_5 ++ []
def dkwX7_writing_4 : List UInt8 := [42, 42, 180, 0, 230, 181, 0, 34, 42, 42, 180, 0, 233, 181, 0, 38, 42, 16, 9, 182, 0, 188, 172, 42]
abbrev dktX7_writing_4 : List UInt8 := dkwX7_writing_4 ++ dktX7_writing_5
def dkwX7_writing_3 : List UInt8 := [42, 3, 181, 0, 34, 42, 2, 181, 0, 38, 42, 42, 180, 0, 7, 16, 6, 46, 182, 1, 35, 154, 0, 26]
abbrev dktX7_writing_3 : List UInt8 := dkwX7_writing_3 ++ dktX7_writing_4
def dkwX7_writing_2 : List UInt8 := [28, 96, 42, 180, 0, 27, 28, 51, 17, 0, 255, 126, 79, 132, 2, 1, 167, 255, 228, 42, 3, 181, 0, 122]
abbrev dktX7_writing_2 : List UInt8 := dkwX7_writing_2 ++ dktX7_writing_3
def dkwX7_writing_1 : List UInt8 := [172, 42, 180, 0, 7, 17, 64, 123, 27, 79, 3, 61, 28, 27, 162, 0, 29, 42, 180, 0, 7, 17, 65, 160]
abbrev dktX7_writing_1 : List UInt8 := dkwX7_writing_1 ++ dktX7_writing_2
def dkwX7_writing_0 : List UInt8 := [27, 155, 0, 18, 27, 42, 180, 0, 122, 163, 0, 10, 27, 17, 1, 44, 164, 0, 9, 42, 4, 182, 0, 188]
abbrev dktX7_writing_0 : List UInt8 := dkwX7_writing_0 ++ dktX7_writing_1
theorem dksX7_writing_0 : cX7_writing.data.toList.drop 0 = dktX7_writing_0 := by decide +kernel
theorem dksX7_writing_1 : cX7_writing.data.toList.drop 24 = dktX7_writing_1 := dk_seg dksX7_writing_0 24 rfl rfl
theorem dksX7_writing_2 : cX7_writing.data.toList.drop 48 = dktX7_writing_2 := dk_seg dksX7_writing_1 24 rfl rfl
theorem dksX7_writing_3 : cX7_writing.data.toList.drop 72 = dktX7_writing_3 := dk_seg dksX7_writing_2 24 rfl rfl
theorem dksX7_writing_4 : cX7_writing.data.toList.drop 96 = dktX7_writing_4 := dk_seg dksX7_writing_3 24 rfl rfl
theorem dksX7_writing_5 : cX7_writing.data.toList.drop 120 = dktX7_writing_5 := dk_seg dksX7_writing_4 24 rfl rfl
theorem dX7_writing_0 : decode cX7_writing 0 = .ok (.iload_n 1, 1) := dk_27 (dk_at dksX7_writing_0 0 rfl rfl)
theorem dX7_writing_1 : decode cX7_writing 1 = .ok (.ifCond .lt 18, 3) := dk_155 0 18 (dk_at dksX7_writing_0 1 rfl rfl)
theorem dX7_writing_4 : decode cX7_writing 4 = .ok (.iload_n 1, 1) := dk_27 (dk_at dksX7_writing_0 4 rfl rfl)
theorem dX7_writing_5 : decode cX7_writing 5 = .ok (.aload_n 0, 1) := dk_42 (dk_at dksX7_writing_0 5 rfl rfl)
theorem dX7_writing_6 : decode cX7_writing 6 = .ok (.getfield 122, 3) := dk_180 0 122 (dk_at dksX7_writing_0 6 rfl rfl)
theorem dX7_writing_9 : decode cX7_writing 9 = .ok (.if_icmp .gt 10, 3) := dk_163 0 10 (dk_at dksX7_writing_0 9 rfl rfl)
theorem dX7_writing_12 : decode cX7_writing 12 = .ok (.iload_n 1, 1) := dk_27 (dk_at dksX7_writing_0 12 rfl rfl)
theorem dX7_writing_13 : decode cX7_writing 13 = .ok (.sipush 300, 3) := dk_17 1 44 (dk_at dksX7_writing_0 13 rfl rfl)
theorem dX7_writing_16 : decode cX7_writing 16 = .ok (.if_icmp .le 9, 3) := dk_164 0 9 (dk_at dksX7_writing_0 16 rfl rfl)
theorem dX7_writing_19 : decode cX7_writing 19 = .ok (.aload_n 0, 1) := dk_42 (dk_at dksX7_writing_0 19 rfl rfl)
theorem dX7_writing_20 : decode cX7_writing 20 = .ok (.iconst 1, 1) := dk_4 (dk_at dksX7_writing_0 20 rfl rfl)
theorem dX7_writing_21 : decode cX7_writing 21 = .ok (.invokevirtual 188, 3) := dk_182 0 188 (dk_at dksX7_writing_0 21 rfl rfl)
theorem dX7_writing_24 : decode cX7_writing 24 = .ok (.ireturn, 1) := dk_172 (dk_at dksX7_writing_1 0 rfl rfl)
theorem dX7_writing_25 : decode cX7_writing 25 = .ok (.aload_n 0, 1) := dk_42 (dk_at dksX7_writing_1 1 rfl rfl)
theorem dX7_writing_26 : decode cX7_writing 26 = .ok (.getfield 7, 3) := dk_180 0 7 (dk_at dksX7_writing_1 2 rfl rfl)
theorem dX7_writing_29 : decode cX7_writing 29 = .ok (.sipush 16507, 3) := dk_17 64 123 (dk_at dksX7_writing_1 5 rfl rfl)
theorem dX7_writing_32 : decode cX7_writing 32 = .ok (.iload_n 1, 1) := dk_27 (dk_at dksX7_writing_1 8 rfl rfl)
theorem dX7_writing_33 : decode cX7_writing 33 = .ok (.iastore, 1) := dk_79 (dk_at dksX7_writing_1 9 rfl rfl)
theorem dX7_writing_34 : decode cX7_writing 34 = .ok (.iconst 0, 1) := dk_3 (dk_at dksX7_writing_1 10 rfl rfl)
theorem dX7_writing_35 : decode cX7_writing 35 = .ok (.istore_n 2, 1) := dk_61 (dk_at dksX7_writing_1 11 rfl rfl)
theorem dX7_writing_36 : decode cX7_writing 36 = .ok (.iload_n 2, 1) := dk_28 (dk_at dksX7_writing_1 12 rfl rfl)
theorem dX7_writing_37 : decode cX7_writing 37 = .ok (.iload_n 1, 1) := dk_27 (dk_at dksX7_writing_1 13 rfl rfl)
theorem dX7_writing_38 : decode cX7_writing 38 = .ok (.if_icmp .ge 29, 3) := dk_162 0 29 (dk_at dksX7_writing_1 14 rfl rfl)
theorem dX7_writing_41 : decode cX7_writing 41 = .ok (.aload_n 0, 1) := dk_42 (dk_at dksX7_writing_1 17 rfl rfl)
theorem dX7_writing_42 : decode cX7_writing 42 = .ok (.getfield 7, 3) := dk_180 0 7 (dk_at dksX7_writing_1 18 rfl rfl)
theorem dX7_writing_45 : decode cX7_writing 45 = .ok (.sipush 16800, 3) := dk_17 65 160 (dk_at dksX7_writing_1 21 rfl rfl)
theorem dX7_writing_48 : decode cX7_writing 48 = .ok (.iload_n 2, 1) := dk_28 (dk_at dksX7_writing_2 0 rfl rfl)
theorem dX7_writing_49 : decode cX7_writing 49 = .ok (.iadd, 1) := dk_96 (dk_at dksX7_writing_2 1 rfl rfl)
theorem dX7_writing_50 : decode cX7_writing 50 = .ok (.aload_n 0, 1) := dk_42 (dk_at dksX7_writing_2 2 rfl rfl)
theorem dX7_writing_51 : decode cX7_writing 51 = .ok (.getfield 27, 3) := dk_180 0 27 (dk_at dksX7_writing_2 3 rfl rfl)
theorem dX7_writing_54 : decode cX7_writing 54 = .ok (.iload_n 2, 1) := dk_28 (dk_at dksX7_writing_2 6 rfl rfl)
theorem dX7_writing_55 : decode cX7_writing 55 = .ok (.baload, 1) := dk_51 (dk_at dksX7_writing_2 7 rfl rfl)
theorem dX7_writing_56 : decode cX7_writing 56 = .ok (.sipush 255, 3) := dk_17 0 255 (dk_at dksX7_writing_2 8 rfl rfl)
theorem dX7_writing_59 : decode cX7_writing 59 = .ok (.iand, 1) := dk_126 (dk_at dksX7_writing_2 11 rfl rfl)
theorem dX7_writing_60 : decode cX7_writing 60 = .ok (.iastore, 1) := dk_79 (dk_at dksX7_writing_2 12 rfl rfl)
theorem dX7_writing_61 : decode cX7_writing 61 = .ok (.iinc 2 1, 3) := dk_132 2 1 (dk_at dksX7_writing_2 13 rfl rfl)
theorem dX7_writing_64 : decode cX7_writing 64 = .ok (.goto (-28), 3) := dk_167 255 228 (dk_at dksX7_writing_2 16 rfl rfl)
theorem dX7_writing_67 : decode cX7_writing 67 = .ok (.aload_n 0, 1) := dk_42 (dk_at dksX7_writing_2 19 rfl rfl)
theorem dX7_writing_68 : decode cX7_writing 68 = .ok (.iconst 0, 1) := dk_3 (dk_at dksX7_writing_2 20 rfl rfl)
theorem dX7_writing_69 : decode cX7_writing 69 = .ok (.putfield 122, 3) := dk_181 0 122 (dk_at dksX7_writing_2 21 rfl rfl)
theorem dX7_writing_72 : decode cX7_writing 72 = .ok (.aload_n 0, 1) := dk_42 (dk_at dksX7_writing_3 0 rfl rfl)
theorem dX7_writing_73 : decode cX7_writing 73 = .ok (.iconst 0, 1) := dk_3 (dk_at dksX7_writing_3 1 rfl rfl)
theorem dX7_writing_74 : decode cX7_writing 74 = .ok (.putfield 34, 3) := dk_181 0 34 (dk_at dksX7_writing_3 2 rfl rfl)
theorem dX7_writing_77 : decode cX7_writing 77 = .ok (.aload_n 0, 1) := dk_42 (dk_at dksX7_writing_3 5 rfl rfl)
theorem dX7_writing_78 : decode cX7_writing 78 = .ok (.iconst (-1), 1) := dk_2 (dk_at dksX7_writing_3 6 rfl rfl)
theorem dX7_writing_79 : decode cX7_writing 79 = .ok (.putfield 38, 3) := dk_181 0 38 (dk_at dksX7_writing_3 7 rfl rfl)
theorem dX7_writing_82 : decode cX7_writing 82 = .ok (.aload_n 0, 1) := dk_42 (dk_at dksX7_writing_3 10 rfl rfl)
theorem dX7_writing_83 : decode cX7_writing 83 = .ok (.aload_n 0, 1) := dk_42 (dk_at dksX7_writing_3 11 rfl rfl)
theorem dX7_writing_84 : decode cX7_writing 84 = .ok (.getfield 7, 3) := dk_180 0 7 (dk_at dksX7_writing_3 12 rfl rfl)
theorem dX7_writing_87 : decode cX7_writing 87 = .ok (.bipush 6, 2) := dk_16 6 (dk_at dksX7_writing_3 15 rfl rfl)
theorem dX7_writing_89 : decode cX7_writing 89 = .ok (.iaload, 1) := dk_46 (dk_at dksX7_writing_3 17 rfl rfl)
theorem dX7_writing_90 : decode cX7_writing 90 = .ok (.invokevirtual 291, 3) := dk_182 1 35 (dk_at dksX7_writing_3 18 rfl rfl)
theorem dX7_writing_93 : decode cX7_writing 93 = .ok (.ifCond .ne 26, 3) := dk_154 0 26 (dk_at dksX7_writing_3 21 rfl rfl)
theorem dX7_writing_96 : decode cX7_writing 96 = .ok (.aload_n 0, 1) := dk_42 (dk_at dksX7_writing_4 0 rfl rfl)
theorem dX7_writing_97 : decode cX7_writing 97 = .ok (.aload_n 0, 1) := dk_42 (dk_at dksX7_writing_4 1 rfl rfl)
theorem dX7_writing_98 : decode cX7_writing 98 = .ok (.getfield 230, 3) := dk_180 0 230 (dk_at dksX7_writing_4 2 rfl rfl)
theorem dX7_writing_101 : decode cX7_writing 101 = .ok (.putfield 34, 3) := dk_181 0 34 (dk_at dksX7_writing_4 5 rfl rfl)
theorem dX7_writing_104 : decode cX7_writing 104 = .ok (.aload_n 0, 1) := dk_42 (dk_at dksX7_writing_4 8 rfl rfl)
theorem dX7_writing_105 : decode cX7_writing 105 = .ok (.aload_n 0, 1) := dk_42 (dk_at dksX7_writing_4 9 rfl rfl)
theorem dX7_writing_106 : decode cX7_writing 106 = .ok (.getfield 233, 3) := dk_180 0 233 (dk_at dksX7_writing_4 10 rfl rfl)
theorem dX7_writing_109 : decode cX7_writing 109 = .ok (.putfield 38, 3) := dk_181 0 38 (dk_at dksX7_writing_4 13 rfl rfl)
theorem dX7_writing_112 : decode cX7_writing 112 = .ok (.aload_n 0, 1) := dk_42 (dk_at dksX7_writing_4 16 rfl rfl)
theorem dX7_writing_113 : decode cX7_writing 113 = .ok (.bipush 9, 2) := dk_16 9 (dk_at dksX7_writing_4 17 rfl rfl)
theorem dX7_writing_115 : decode cX7_writing 115 = .ok (.invokevirtual 188, 3) := dk_182 0 188 (dk_at dksX7_writing_4 19 rfl rfl)
theorem dX7_writing_118 : decode cX7_writing 118 = .ok (.ireturn, 1) := dk_172 (dk_at dksX7_writing_4 22 rfl rfl)
theorem dX7_writing_119 : decode cX7_writing 119 = .ok (.aload_n 0, 1) := dk_42 (dk_at dksX7_writing_4 23 rfl rfl)
theorem dX7_writing_120 : decode cX7_writing 120 = .ok (.invokevirtual 294, 3) := dk_182 1 38 (dk_at dksX7_writing_5 0 rfl rfl)
theorem dX7_writing_123 : decode cX7_writing 123 = .ok (.aload_n 0, 1) := dk_42 (dk_at dksX7_writing_5 3 rfl rfl)
theorem dX7_writing_124 : decode cX7_writing 124 = .ok (.aload_n 0, 1) := dk_42 (dk_at dksX7_writing_5 4 rfl rfl)
theorem dX7_writing_125 : decode cX7_writing 125 = .ok (.getfield 7, 3) := dk_180 0 7 (dk_at dksX7_writing_5 5 rfl rfl)
theorem dX7_writing_128 : decode cX7_writing 128 = .ok (.bipush 8, 2) := dk_16 8 (dk_at dksX7_writing_5 8 rfl rfl)
theorem dX7_writing_130 : decode cX7_writing 130 = .ok (.iaload, 1) := dk_46 (dk_at dksX7_writing_5 10 rfl rfl)
theorem dX7_writing_131 : decode cX7_writing 131 = .ok (.invokevirtual 191, 3) := dk_182 0 191 (dk_at dksX7_writing_5 11 rfl rfl)
theorem dX7_writing_134 : decode cX7_writing 134 = .ok (.ireturn, 1) := dk_172 (dk_at dksX7_writing_5 14 rfl rfl)
abbrev cX7_setsAll : ByteArray := prog_17_method_55_code
def yX7_setsAll : MethodName := ⟨RX7, "setsAll", "(I)Z"⟩
def dkwX7_setsAll_12 : List UInt8 := [172, 42, 21, 4, 182, 1, 14, 87, 132, 2, 1, 167, 255, 207, 167, 255, 22, 4, 172]
abbrev dktX7_setsAll_12 : List UInt8 := dkwX7_setsAll_12 ++ []
def dkwX7_setsAll_11 : List UInt8 := [182, 0, 239, 184, 1, 29, 27, 182, 1, 32, 54, 4, 21, 4, 2, 160, 0, 10, 42, 7, 28, 182, 1, 11]
abbrev dktX7_setsAll_11 : List UInt8 := dkwX7_setsAll_11 ++ dktX7_setsAll_12
def dkwX7_setsAll_10 : List UInt8 := [42, 180, 0, 7, 5, 46, 2, 182, 1, 0, 42, 28, 182, 0, 239, 184, 1, 20, 153, 0, 44, 42, 42, 28]
abbrev dktX7_setsAll_10 : List UInt8 := dkwX7_setsAll_10 ++ dktX7_setsAll_11
def dkwX7_setsAll_9 : List UInt8 := [182, 1, 23, 61, 167, 255, 104, 42, 180, 0, 7, 5, 46, 154, 0, 10, 42, 7, 28, 182, 1, 11, 172, 42]
abbrev dktX7_setsAll_9 : List UInt8 := dkwX7_setsAll_9 ++ dktX7_setsAll_10
def dkwX7_setsAll_8 : List UInt8 := [184, 1, 4, 153, 0, 28, 42, 28, 42, 28, 182, 1, 23, 27, 182, 1, 26, 154, 0, 5, 3, 172, 42, 28]
abbrev dktX7_setsAll_8 : List UInt8 := dkwX7_setsAll_8 ++ dktX7_setsAll_9
def dkwX7_setsAll_7 : List UInt8 := [46, 96, 42, 180, 0, 7, 17, 64, 124, 46, 79, 42, 180, 0, 7, 17, 64, 125, 92, 46, 4, 96, 79, 29]
abbrev dktX7_setsAll_7 : List UInt8 := dkwX7_setsAll_7 ++ dktX7_setsAll_8
def dkwX7_setsAll_6 : List UInt8 := [46, 158, 0, 9, 42, 3, 2, 182, 1, 0, 42, 180, 0, 7, 17, 71, 174, 42, 180, 0, 7, 17, 64, 125]
abbrev dktX7_setsAll_6 : List UInt8 := dkwX7_setsAll_6 ++ dktX7_setsAll_7
def dkwX7_setsAll_5 : List UInt8 := [28, 153, 0, 16, 42, 28, 4, 100, 182, 0, 239, 184, 1, 17, 153, 0, 57, 42, 180, 0, 7, 17, 64, 125]
abbrev dktX7_setsAll_5 : List UInt8 := dkwX7_setsAll_5 ++ dktX7_setsAll_6
def dkwX7_setsAll_4 : List UInt8 := [167, 255, 228, 29, 184, 1, 4, 154, 0, 17, 29, 184, 1, 20, 154, 0, 10, 42, 4, 28, 182, 1, 11, 172]
abbrev dktX7_setsAll_4 : List UInt8 := dkwX7_setsAll_4 ++ dktX7_setsAll_5
def dkwX7_setsAll_3 : List UInt8 := [17, 64, 123, 46, 162, 0, 228, 42, 28, 182, 0, 239, 62, 29, 184, 1, 17, 153, 0, 9, 132, 2, 1]
abbrev dktX7_setsAll_3 : List UInt8 := dkwX7_setsAll_3 ++ dktX7_setsAll_4
def dkwX7_setsAll_2 : List UInt8 := [180, 0, 7, 17, 72, 78, 28, 96, 3, 79, 132, 2, 1, 167, 255, 236, 3, 61, 28, 42, 180, 0, 7]
abbrev dktX7_setsAll_2 : List UInt8 := dkwX7_setsAll_2 ++ dktX7_setsAll_3
def dkwX7_setsAll_1 : List UInt8 := [17, 64, 126, 3, 79, 42, 180, 0, 7, 17, 64, 127, 3, 79, 3, 61, 28, 16, 24, 162, 0, 20, 42]
abbrev dktX7_setsAll_1 : List UInt8 := dkwX7_setsAll_1 ++ dktX7_setsAll_2
def dkwX7_setsAll_0 : List UInt8 := [42, 180, 0, 7, 17, 64, 124, 3, 79, 42, 180, 0, 7, 17, 64, 125, 3, 79, 42, 180, 0, 7]
abbrev dktX7_setsAll_0 : List UInt8 := dkwX7_setsAll_0 ++ dktX7_setsAll_1
theorem dksX7_setsAll_0 : cX7_setsAll.data.toList.drop 0 = dktX7_setsAll_0 := by decide +kernel
theorem dksX7_setsAll_1 : cX7_setsAll.data.toList.drop 22 = dktX7_setsAll_1 := dk_seg dksX7_setsAll_0 22 rfl rfl
theorem dksX7_setsAll_2 : cX7_setsAll.data.toList.drop 45 = dktX7_setsAll_2 := dk_seg dksX7_setsAll_1 23 rfl rfl
theorem dksX7_setsAll_3 : cX7_setsAll.data.toList.drop 68 = dktX7_setsAll_3 := dk_seg dksX7_setsAll_2 23 rfl rfl
theorem dksX7_setsAll_4 : cX7_setsAll.data.toList.drop 91 = dktX7_setsAll_4 := dk_seg dksX7_setsAll_3 23 rfl rfl
theorem dksX7_setsAll_5 : cX7_setsAll.data.toList.drop 115 = dktX7_setsAll_5 := dk_seg dksX7_setsAll_4 24 rfl rfl
theorem dksX7_setsAll_6 : cX7_setsAll.data.toList.drop 139 = dktX7_setsAll_6 := dk_seg dksX7_setsAll_5 24 rfl rfl
theorem dksX7_setsAll_7 : cX7_setsAll.data.toList.drop 163 = dktX7_setsAll_7 := dk_seg dksX7_setsAll_6 24 rfl rfl
theorem dksX7_setsAll_8 : cX7_setsAll.data.toList.drop 187 = dktX7_setsAll_8 := dk_seg dksX7_setsAll_7 24 rfl rfl
theorem dksX7_setsAll_9 : cX7_setsAll.data.toList.drop 211 = dktX7_setsAll_9 := dk_seg dksX7_setsAll_8 24 rfl rfl
theorem dksX7_setsAll_10 : cX7_setsAll.data.toList.drop 235 = dktX7_setsAll_10 := dk_seg dksX7_setsAll_9 24 rfl rfl
theorem dksX7_setsAll_11 : cX7_setsAll.data.toList.drop 259 = dktX7_setsAll_11 := dk_seg dksX7_setsAll_10 24 rfl rfl
theorem dksX7_setsAll_12 : cX7_setsAll.data.toList.drop 283 = dktX7_setsAll_12 := dk_seg dksX7_setsAll_11 24 rfl rfl
theorem dX7_setsAll_0 : decode cX7_setsAll 0 = .ok (.aload_n 0, 1) := dk_42 (dk_at dksX7_setsAll_0 0 rfl rfl)
theorem dX7_setsAll_1 : decode cX7_setsAll 1 = .ok (.getfield 7, 3) := dk_180 0 7 (dk_at dksX7_setsAll_0 1 rfl rfl)
theorem dX7_setsAll_4 : decode cX7_setsAll 4 = .ok (.sipush 16508, 3) := dk_17 64 124 (dk_at dksX7_setsAll_0 4 rfl rfl)
theorem dX7_setsAll_7 : decode cX7_setsAll 7 = .ok (.iconst 0, 1) := dk_3 (dk_at dksX7_setsAll_0 7 rfl rfl)
theorem dX7_setsAll_8 : decode cX7_setsAll 8 = .ok (.iastore, 1) := dk_79 (dk_at dksX7_setsAll_0 8 rfl rfl)
theorem dX7_setsAll_9 : decode cX7_setsAll 9 = .ok (.aload_n 0, 1) := dk_42 (dk_at dksX7_setsAll_0 9 rfl rfl)
theorem dX7_setsAll_10 : decode cX7_setsAll 10 = .ok (.getfield 7, 3) := dk_180 0 7 (dk_at dksX7_setsAll_0 10 rfl rfl)
theorem dX7_setsAll_13 : decode cX7_setsAll 13 = .ok (.sipush 16509, 3) := dk_17 64 125 (dk_at dksX7_setsAll_0 13 rfl rfl)
theorem dX7_setsAll_16 : decode cX7_setsAll 16 = .ok (.iconst 0, 1) := dk_3 (dk_at dksX7_setsAll_0 16 rfl rfl)
theorem dX7_setsAll_17 : decode cX7_setsAll 17 = .ok (.iastore, 1) := dk_79 (dk_at dksX7_setsAll_0 17 rfl rfl)
theorem dX7_setsAll_18 : decode cX7_setsAll 18 = .ok (.aload_n 0, 1) := dk_42 (dk_at dksX7_setsAll_0 18 rfl rfl)
theorem dX7_setsAll_19 : decode cX7_setsAll 19 = .ok (.getfield 7, 3) := dk_180 0 7 (dk_at dksX7_setsAll_0 19 rfl rfl)
theorem dX7_setsAll_22 : decode cX7_setsAll 22 = .ok (.sipush 16510, 3) := dk_17 64 126 (dk_at dksX7_setsAll_1 0 rfl rfl)
theorem dX7_setsAll_25 : decode cX7_setsAll 25 = .ok (.iconst 0, 1) := dk_3 (dk_at dksX7_setsAll_1 3 rfl rfl)
theorem dX7_setsAll_26 : decode cX7_setsAll 26 = .ok (.iastore, 1) := dk_79 (dk_at dksX7_setsAll_1 4 rfl rfl)
theorem dX7_setsAll_27 : decode cX7_setsAll 27 = .ok (.aload_n 0, 1) := dk_42 (dk_at dksX7_setsAll_1 5 rfl rfl)
theorem dX7_setsAll_28 : decode cX7_setsAll 28 = .ok (.getfield 7, 3) := dk_180 0 7 (dk_at dksX7_setsAll_1 6 rfl rfl)
theorem dX7_setsAll_31 : decode cX7_setsAll 31 = .ok (.sipush 16511, 3) := dk_17 64 127 (dk_at dksX7_setsAll_1 9 rfl rfl)
theorem dX7_setsAll_34 : decode cX7_setsAll 34 = .ok (.iconst 0, 1) := dk_3 (dk_at dksX7_setsAll_1 12 rfl rfl)
theorem dX7_setsAll_35 : decode cX7_setsAll 35 = .ok (.iastore, 1) := dk_79 (dk_at dksX7_setsAll_1 13 rfl rfl)
theorem dX7_setsAll_36 : decode cX7_setsAll 36 = .ok (.iconst 0, 1) := dk_3 (dk_at dksX7_setsAll_1 14 rfl rfl)
theorem dX7_setsAll_37 : decode cX7_setsAll 37 = .ok (.istore_n 2, 1) := dk_61 (dk_at dksX7_setsAll_1 15 rfl rfl)
theorem dX7_setsAll_38 : decode cX7_setsAll 38 = .ok (.iload_n 2, 1) := dk_28 (dk_at dksX7_setsAll_1 16 rfl rfl)
theorem dX7_setsAll_39 : decode cX7_setsAll 39 = .ok (.bipush 24, 2) := dk_16 24 (dk_at dksX7_setsAll_1 17 rfl rfl)
theorem dX7_setsAll_41 : decode cX7_setsAll 41 = .ok (.if_icmp .ge 20, 3) := dk_162 0 20 (dk_at dksX7_setsAll_1 19 rfl rfl)
theorem dX7_setsAll_44 : decode cX7_setsAll 44 = .ok (.aload_n 0, 1) := dk_42 (dk_at dksX7_setsAll_1 22 rfl rfl)
theorem dX7_setsAll_45 : decode cX7_setsAll 45 = .ok (.getfield 7, 3) := dk_180 0 7 (dk_at dksX7_setsAll_2 0 rfl rfl)
theorem dX7_setsAll_48 : decode cX7_setsAll 48 = .ok (.sipush 18510, 3) := dk_17 72 78 (dk_at dksX7_setsAll_2 3 rfl rfl)
theorem dX7_setsAll_51 : decode cX7_setsAll 51 = .ok (.iload_n 2, 1) := dk_28 (dk_at dksX7_setsAll_2 6 rfl rfl)
theorem dX7_setsAll_52 : decode cX7_setsAll 52 = .ok (.iadd, 1) := dk_96 (dk_at dksX7_setsAll_2 7 rfl rfl)
theorem dX7_setsAll_53 : decode cX7_setsAll 53 = .ok (.iconst 0, 1) := dk_3 (dk_at dksX7_setsAll_2 8 rfl rfl)
theorem dX7_setsAll_54 : decode cX7_setsAll 54 = .ok (.iastore, 1) := dk_79 (dk_at dksX7_setsAll_2 9 rfl rfl)
theorem dX7_setsAll_55 : decode cX7_setsAll 55 = .ok (.iinc 2 1, 3) := dk_132 2 1 (dk_at dksX7_setsAll_2 10 rfl rfl)
theorem dX7_setsAll_58 : decode cX7_setsAll 58 = .ok (.goto (-20), 3) := dk_167 255 236 (dk_at dksX7_setsAll_2 13 rfl rfl)
theorem dX7_setsAll_61 : decode cX7_setsAll 61 = .ok (.iconst 0, 1) := dk_3 (dk_at dksX7_setsAll_2 16 rfl rfl)
theorem dX7_setsAll_62 : decode cX7_setsAll 62 = .ok (.istore_n 2, 1) := dk_61 (dk_at dksX7_setsAll_2 17 rfl rfl)
theorem dX7_setsAll_63 : decode cX7_setsAll 63 = .ok (.iload_n 2, 1) := dk_28 (dk_at dksX7_setsAll_2 18 rfl rfl)
theorem dX7_setsAll_64 : decode cX7_setsAll 64 = .ok (.aload_n 0, 1) := dk_42 (dk_at dksX7_setsAll_2 19 rfl rfl)
theorem dX7_setsAll_65 : decode cX7_setsAll 65 = .ok (.getfield 7, 3) := dk_180 0 7 (dk_at dksX7_setsAll_2 20 rfl rfl)
theorem dX7_setsAll_68 : decode cX7_setsAll 68 = .ok (.sipush 16507, 3) := dk_17 64 123 (dk_at dksX7_setsAll_3 0 rfl rfl)
theorem dX7_setsAll_71 : decode cX7_setsAll 71 = .ok (.iaload, 1) := dk_46 (dk_at dksX7_setsAll_3 3 rfl rfl)
theorem dX7_setsAll_72 : decode cX7_setsAll 72 = .ok (.if_icmp .ge 228, 3) := dk_162 0 228 (dk_at dksX7_setsAll_3 4 rfl rfl)
theorem dX7_setsAll_75 : decode cX7_setsAll 75 = .ok (.aload_n 0, 1) := dk_42 (dk_at dksX7_setsAll_3 7 rfl rfl)
theorem dX7_setsAll_76 : decode cX7_setsAll 76 = .ok (.iload_n 2, 1) := dk_28 (dk_at dksX7_setsAll_3 8 rfl rfl)
theorem dX7_setsAll_77 : decode cX7_setsAll 77 = .ok (.invokevirtual 239, 3) := dk_182 0 239 (dk_at dksX7_setsAll_3 9 rfl rfl)
theorem dX7_setsAll_80 : decode cX7_setsAll 80 = .ok (.istore_n 3, 1) := dk_62 (dk_at dksX7_setsAll_3 12 rfl rfl)
theorem dX7_setsAll_81 : decode cX7_setsAll 81 = .ok (.iload_n 3, 1) := dk_29 (dk_at dksX7_setsAll_3 13 rfl rfl)
theorem dX7_setsAll_82 : decode cX7_setsAll 82 = .ok (.invokestatic 273, 3) := dk_184 1 17 (dk_at dksX7_setsAll_3 14 rfl rfl)
theorem dX7_setsAll_85 : decode cX7_setsAll 85 = .ok (.ifCond .eq 9, 3) := dk_153 0 9 (dk_at dksX7_setsAll_3 17 rfl rfl)
theorem dX7_setsAll_88 : decode cX7_setsAll 88 = .ok (.iinc 2 1, 3) := dk_132 2 1 (dk_at dksX7_setsAll_3 20 rfl rfl)
theorem dX7_setsAll_91 : decode cX7_setsAll 91 = .ok (.goto (-28), 3) := dk_167 255 228 (dk_at dksX7_setsAll_4 0 rfl rfl)
theorem dX7_setsAll_94 : decode cX7_setsAll 94 = .ok (.iload_n 3, 1) := dk_29 (dk_at dksX7_setsAll_4 3 rfl rfl)
theorem dX7_setsAll_95 : decode cX7_setsAll 95 = .ok (.invokestatic 260, 3) := dk_184 1 4 (dk_at dksX7_setsAll_4 4 rfl rfl)
theorem dX7_setsAll_98 : decode cX7_setsAll 98 = .ok (.ifCond .ne 17, 3) := dk_154 0 17 (dk_at dksX7_setsAll_4 7 rfl rfl)
theorem dX7_setsAll_101 : decode cX7_setsAll 101 = .ok (.iload_n 3, 1) := dk_29 (dk_at dksX7_setsAll_4 10 rfl rfl)
theorem dX7_setsAll_102 : decode cX7_setsAll 102 = .ok (.invokestatic 276, 3) := dk_184 1 20 (dk_at dksX7_setsAll_4 11 rfl rfl)
theorem dX7_setsAll_105 : decode cX7_setsAll 105 = .ok (.ifCond .ne 10, 3) := dk_154 0 10 (dk_at dksX7_setsAll_4 14 rfl rfl)
theorem dX7_setsAll_108 : decode cX7_setsAll 108 = .ok (.aload_n 0, 1) := dk_42 (dk_at dksX7_setsAll_4 17 rfl rfl)
theorem dX7_setsAll_109 : decode cX7_setsAll 109 = .ok (.iconst 1, 1) := dk_4 (dk_at dksX7_setsAll_4 18 rfl rfl)
theorem dX7_setsAll_110 : decode cX7_setsAll 110 = .ok (.iload_n 2, 1) := dk_28 (dk_at dksX7_setsAll_4 19 rfl rfl)
theorem dX7_setsAll_111 : decode cX7_setsAll 111 = .ok (.invokevirtual 267, 3) := dk_182 1 11 (dk_at dksX7_setsAll_4 20 rfl rfl)
theorem dX7_setsAll_114 : decode cX7_setsAll 114 = .ok (.ireturn, 1) := dk_172 (dk_at dksX7_setsAll_4 23 rfl rfl)
theorem dX7_setsAll_115 : decode cX7_setsAll 115 = .ok (.iload_n 2, 1) := dk_28 (dk_at dksX7_setsAll_5 0 rfl rfl)
theorem dX7_setsAll_116 : decode cX7_setsAll 116 = .ok (.ifCond .eq 16, 3) := dk_153 0 16 (dk_at dksX7_setsAll_5 1 rfl rfl)
theorem dX7_setsAll_119 : decode cX7_setsAll 119 = .ok (.aload_n 0, 1) := dk_42 (dk_at dksX7_setsAll_5 4 rfl rfl)
theorem dX7_setsAll_120 : decode cX7_setsAll 120 = .ok (.iload_n 2, 1) := dk_28 (dk_at dksX7_setsAll_5 5 rfl rfl)
theorem dX7_setsAll_121 : decode cX7_setsAll 121 = .ok (.iconst 1, 1) := dk_4 (dk_at dksX7_setsAll_5 6 rfl rfl)
theorem dX7_setsAll_122 : decode cX7_setsAll 122 = .ok (.isub, 1) := dk_100 (dk_at dksX7_setsAll_5 7 rfl rfl)
theorem dX7_setsAll_123 : decode cX7_setsAll 123 = .ok (.invokevirtual 239, 3) := dk_182 0 239 (dk_at dksX7_setsAll_5 8 rfl rfl)
theorem dX7_setsAll_126 : decode cX7_setsAll 126 = .ok (.invokestatic 273, 3) := dk_184 1 17 (dk_at dksX7_setsAll_5 11 rfl rfl)
theorem dX7_setsAll_129 : decode cX7_setsAll 129 = .ok (.ifCond .eq 57, 3) := dk_153 0 57 (dk_at dksX7_setsAll_5 14 rfl rfl)
theorem dX7_setsAll_132 : decode cX7_setsAll 132 = .ok (.aload_n 0, 1) := dk_42 (dk_at dksX7_setsAll_5 17 rfl rfl)
theorem dX7_setsAll_133 : decode cX7_setsAll 133 = .ok (.getfield 7, 3) := dk_180 0 7 (dk_at dksX7_setsAll_5 18 rfl rfl)
theorem dX7_setsAll_136 : decode cX7_setsAll 136 = .ok (.sipush 16509, 3) := dk_17 64 125 (dk_at dksX7_setsAll_5 21 rfl rfl)
theorem dX7_setsAll_139 : decode cX7_setsAll 139 = .ok (.iaload, 1) := dk_46 (dk_at dksX7_setsAll_6 0 rfl rfl)
theorem dX7_setsAll_140 : decode cX7_setsAll 140 = .ok (.ifCond .le 9, 3) := dk_158 0 9 (dk_at dksX7_setsAll_6 1 rfl rfl)
theorem dX7_setsAll_143 : decode cX7_setsAll 143 = .ok (.aload_n 0, 1) := dk_42 (dk_at dksX7_setsAll_6 4 rfl rfl)
theorem dX7_setsAll_144 : decode cX7_setsAll 144 = .ok (.iconst 0, 1) := dk_3 (dk_at dksX7_setsAll_6 5 rfl rfl)
theorem dX7_setsAll_145 : decode cX7_setsAll 145 = .ok (.iconst (-1), 1) := dk_2 (dk_at dksX7_setsAll_6 6 rfl rfl)
theorem dX7_setsAll_146 : decode cX7_setsAll 146 = .ok (.invokevirtual 256, 3) := dk_182 1 0 (dk_at dksX7_setsAll_6 7 rfl rfl)
theorem dX7_setsAll_149 : decode cX7_setsAll 149 = .ok (.aload_n 0, 1) := dk_42 (dk_at dksX7_setsAll_6 10 rfl rfl)
theorem dX7_setsAll_150 : decode cX7_setsAll 150 = .ok (.getfield 7, 3) := dk_180 0 7 (dk_at dksX7_setsAll_6 11 rfl rfl)
theorem dX7_setsAll_153 : decode cX7_setsAll 153 = .ok (.sipush 18350, 3) := dk_17 71 174 (dk_at dksX7_setsAll_6 14 rfl rfl)
theorem dX7_setsAll_156 : decode cX7_setsAll 156 = .ok (.aload_n 0, 1) := dk_42 (dk_at dksX7_setsAll_6 17 rfl rfl)
theorem dX7_setsAll_157 : decode cX7_setsAll 157 = .ok (.getfield 7, 3) := dk_180 0 7 (dk_at dksX7_setsAll_6 18 rfl rfl)
theorem dX7_setsAll_160 : decode cX7_setsAll 160 = .ok (.sipush 16509, 3) := dk_17 64 125 (dk_at dksX7_setsAll_6 21 rfl rfl)
theorem dX7_setsAll_163 : decode cX7_setsAll 163 = .ok (.iaload, 1) := dk_46 (dk_at dksX7_setsAll_7 0 rfl rfl)
theorem dX7_setsAll_164 : decode cX7_setsAll 164 = .ok (.iadd, 1) := dk_96 (dk_at dksX7_setsAll_7 1 rfl rfl)
theorem dX7_setsAll_165 : decode cX7_setsAll 165 = .ok (.aload_n 0, 1) := dk_42 (dk_at dksX7_setsAll_7 2 rfl rfl)
theorem dX7_setsAll_166 : decode cX7_setsAll 166 = .ok (.getfield 7, 3) := dk_180 0 7 (dk_at dksX7_setsAll_7 3 rfl rfl)
theorem dX7_setsAll_169 : decode cX7_setsAll 169 = .ok (.sipush 16508, 3) := dk_17 64 124 (dk_at dksX7_setsAll_7 6 rfl rfl)
theorem dX7_setsAll_172 : decode cX7_setsAll 172 = .ok (.iaload, 1) := dk_46 (dk_at dksX7_setsAll_7 9 rfl rfl)
theorem dX7_setsAll_173 : decode cX7_setsAll 173 = .ok (.iastore, 1) := dk_79 (dk_at dksX7_setsAll_7 10 rfl rfl)
theorem dX7_setsAll_174 : decode cX7_setsAll 174 = .ok (.aload_n 0, 1) := dk_42 (dk_at dksX7_setsAll_7 11 rfl rfl)
theorem dX7_setsAll_175 : decode cX7_setsAll 175 = .ok (.getfield 7, 3) := dk_180 0 7 (dk_at dksX7_setsAll_7 12 rfl rfl)
theorem dX7_setsAll_178 : decode cX7_setsAll 178 = .ok (.sipush 16509, 3) := dk_17 64 125 (dk_at dksX7_setsAll_7 15 rfl rfl)
theorem dX7_setsAll_181 : decode cX7_setsAll 181 = .ok (.dup2, 1) := dk_92 (dk_at dksX7_setsAll_7 18 rfl rfl)
theorem dX7_setsAll_182 : decode cX7_setsAll 182 = .ok (.iaload, 1) := dk_46 (dk_at dksX7_setsAll_7 19 rfl rfl)
theorem dX7_setsAll_183 : decode cX7_setsAll 183 = .ok (.iconst 1, 1) := dk_4 (dk_at dksX7_setsAll_7 20 rfl rfl)
theorem dX7_setsAll_184 : decode cX7_setsAll 184 = .ok (.iadd, 1) := dk_96 (dk_at dksX7_setsAll_7 21 rfl rfl)
theorem dX7_setsAll_185 : decode cX7_setsAll 185 = .ok (.iastore, 1) := dk_79 (dk_at dksX7_setsAll_7 22 rfl rfl)
theorem dX7_setsAll_186 : decode cX7_setsAll 186 = .ok (.iload_n 3, 1) := dk_29 (dk_at dksX7_setsAll_7 23 rfl rfl)
theorem dX7_setsAll_187 : decode cX7_setsAll 187 = .ok (.invokestatic 260, 3) := dk_184 1 4 (dk_at dksX7_setsAll_8 0 rfl rfl)
theorem dX7_setsAll_190 : decode cX7_setsAll 190 = .ok (.ifCond .eq 28, 3) := dk_153 0 28 (dk_at dksX7_setsAll_8 3 rfl rfl)
theorem dX7_setsAll_193 : decode cX7_setsAll 193 = .ok (.aload_n 0, 1) := dk_42 (dk_at dksX7_setsAll_8 6 rfl rfl)
theorem dX7_setsAll_194 : decode cX7_setsAll 194 = .ok (.iload_n 2, 1) := dk_28 (dk_at dksX7_setsAll_8 7 rfl rfl)
theorem dX7_setsAll_195 : decode cX7_setsAll 195 = .ok (.aload_n 0, 1) := dk_42 (dk_at dksX7_setsAll_8 8 rfl rfl)
theorem dX7_setsAll_196 : decode cX7_setsAll 196 = .ok (.iload_n 2, 1) := dk_28 (dk_at dksX7_setsAll_8 9 rfl rfl)
theorem dX7_setsAll_197 : decode cX7_setsAll 197 = .ok (.invokevirtual 279, 3) := dk_182 1 23 (dk_at dksX7_setsAll_8 10 rfl rfl)
theorem dX7_setsAll_200 : decode cX7_setsAll 200 = .ok (.iload_n 1, 1) := dk_27 (dk_at dksX7_setsAll_8 13 rfl rfl)
theorem dX7_setsAll_201 : decode cX7_setsAll 201 = .ok (.invokevirtual 282, 3) := dk_182 1 26 (dk_at dksX7_setsAll_8 14 rfl rfl)
theorem dX7_setsAll_204 : decode cX7_setsAll 204 = .ok (.ifCond .ne 5, 3) := dk_154 0 5 (dk_at dksX7_setsAll_8 17 rfl rfl)
theorem dX7_setsAll_207 : decode cX7_setsAll 207 = .ok (.iconst 0, 1) := dk_3 (dk_at dksX7_setsAll_8 20 rfl rfl)
theorem dX7_setsAll_208 : decode cX7_setsAll 208 = .ok (.ireturn, 1) := dk_172 (dk_at dksX7_setsAll_8 21 rfl rfl)
theorem dX7_setsAll_209 : decode cX7_setsAll 209 = .ok (.aload_n 0, 1) := dk_42 (dk_at dksX7_setsAll_8 22 rfl rfl)
theorem dX7_setsAll_210 : decode cX7_setsAll 210 = .ok (.iload_n 2, 1) := dk_28 (dk_at dksX7_setsAll_8 23 rfl rfl)
theorem dX7_setsAll_211 : decode cX7_setsAll 211 = .ok (.invokevirtual 279, 3) := dk_182 1 23 (dk_at dksX7_setsAll_9 0 rfl rfl)
theorem dX7_setsAll_214 : decode cX7_setsAll 214 = .ok (.istore_n 2, 1) := dk_61 (dk_at dksX7_setsAll_9 3 rfl rfl)
theorem dX7_setsAll_215 : decode cX7_setsAll 215 = .ok (.goto (-152), 3) := dk_167 255 104 (dk_at dksX7_setsAll_9 4 rfl rfl)
theorem dX7_setsAll_218 : decode cX7_setsAll 218 = .ok (.aload_n 0, 1) := dk_42 (dk_at dksX7_setsAll_9 7 rfl rfl)
theorem dX7_setsAll_219 : decode cX7_setsAll 219 = .ok (.getfield 7, 3) := dk_180 0 7 (dk_at dksX7_setsAll_9 8 rfl rfl)
theorem dX7_setsAll_222 : decode cX7_setsAll 222 = .ok (.iconst 2, 1) := dk_5 (dk_at dksX7_setsAll_9 11 rfl rfl)
theorem dX7_setsAll_223 : decode cX7_setsAll 223 = .ok (.iaload, 1) := dk_46 (dk_at dksX7_setsAll_9 12 rfl rfl)
theorem dX7_setsAll_224 : decode cX7_setsAll 224 = .ok (.ifCond .ne 10, 3) := dk_154 0 10 (dk_at dksX7_setsAll_9 13 rfl rfl)
theorem dX7_setsAll_227 : decode cX7_setsAll 227 = .ok (.aload_n 0, 1) := dk_42 (dk_at dksX7_setsAll_9 16 rfl rfl)
theorem dX7_setsAll_228 : decode cX7_setsAll 228 = .ok (.iconst 4, 1) := dk_7 (dk_at dksX7_setsAll_9 17 rfl rfl)
theorem dX7_setsAll_229 : decode cX7_setsAll 229 = .ok (.iload_n 2, 1) := dk_28 (dk_at dksX7_setsAll_9 18 rfl rfl)
theorem dX7_setsAll_230 : decode cX7_setsAll 230 = .ok (.invokevirtual 267, 3) := dk_182 1 11 (dk_at dksX7_setsAll_9 19 rfl rfl)
theorem dX7_setsAll_233 : decode cX7_setsAll 233 = .ok (.ireturn, 1) := dk_172 (dk_at dksX7_setsAll_9 22 rfl rfl)
theorem dX7_setsAll_234 : decode cX7_setsAll 234 = .ok (.aload_n 0, 1) := dk_42 (dk_at dksX7_setsAll_9 23 rfl rfl)
theorem dX7_setsAll_235 : decode cX7_setsAll 235 = .ok (.aload_n 0, 1) := dk_42 (dk_at dksX7_setsAll_10 0 rfl rfl)
theorem dX7_setsAll_236 : decode cX7_setsAll 236 = .ok (.getfield 7, 3) := dk_180 0 7 (dk_at dksX7_setsAll_10 1 rfl rfl)
theorem dX7_setsAll_239 : decode cX7_setsAll 239 = .ok (.iconst 2, 1) := dk_5 (dk_at dksX7_setsAll_10 4 rfl rfl)
theorem dX7_setsAll_240 : decode cX7_setsAll 240 = .ok (.iaload, 1) := dk_46 (dk_at dksX7_setsAll_10 5 rfl rfl)
theorem dX7_setsAll_241 : decode cX7_setsAll 241 = .ok (.iconst (-1), 1) := dk_2 (dk_at dksX7_setsAll_10 6 rfl rfl)
theorem dX7_setsAll_242 : decode cX7_setsAll 242 = .ok (.invokevirtual 256, 3) := dk_182 1 0 (dk_at dksX7_setsAll_10 7 rfl rfl)
theorem dX7_setsAll_245 : decode cX7_setsAll 245 = .ok (.aload_n 0, 1) := dk_42 (dk_at dksX7_setsAll_10 10 rfl rfl)
theorem dX7_setsAll_246 : decode cX7_setsAll 246 = .ok (.iload_n 2, 1) := dk_28 (dk_at dksX7_setsAll_10 11 rfl rfl)
theorem dX7_setsAll_247 : decode cX7_setsAll 247 = .ok (.invokevirtual 239, 3) := dk_182 0 239 (dk_at dksX7_setsAll_10 12 rfl rfl)
theorem dX7_setsAll_250 : decode cX7_setsAll 250 = .ok (.invokestatic 276, 3) := dk_184 1 20 (dk_at dksX7_setsAll_10 15 rfl rfl)
theorem dX7_setsAll_253 : decode cX7_setsAll 253 = .ok (.ifCond .eq 44, 3) := dk_153 0 44 (dk_at dksX7_setsAll_10 18 rfl rfl)
theorem dX7_setsAll_256 : decode cX7_setsAll 256 = .ok (.aload_n 0, 1) := dk_42 (dk_at dksX7_setsAll_10 21 rfl rfl)
theorem dX7_setsAll_257 : decode cX7_setsAll 257 = .ok (.aload_n 0, 1) := dk_42 (dk_at dksX7_setsAll_10 22 rfl rfl)
theorem dX7_setsAll_258 : decode cX7_setsAll 258 = .ok (.iload_n 2, 1) := dk_28 (dk_at dksX7_setsAll_10 23 rfl rfl)
theorem dX7_setsAll_259 : decode cX7_setsAll 259 = .ok (.invokevirtual 239, 3) := dk_182 0 239 (dk_at dksX7_setsAll_11 0 rfl rfl)
theorem dX7_setsAll_262 : decode cX7_setsAll 262 = .ok (.invokestatic 285, 3) := dk_184 1 29 (dk_at dksX7_setsAll_11 3 rfl rfl)
theorem dX7_setsAll_265 : decode cX7_setsAll 265 = .ok (.iload_n 1, 1) := dk_27 (dk_at dksX7_setsAll_11 6 rfl rfl)
theorem dX7_setsAll_266 : decode cX7_setsAll 266 = .ok (.invokevirtual 288, 3) := dk_182 1 32 (dk_at dksX7_setsAll_11 7 rfl rfl)
theorem dX7_setsAll_269 : decode cX7_setsAll 269 = .ok (.istore 4, 2) := dk_54 4 (dk_at dksX7_setsAll_11 10 rfl rfl)
theorem dX7_setsAll_271 : decode cX7_setsAll 271 = .ok (.iload 4, 2) := dk_21 4 (dk_at dksX7_setsAll_11 12 rfl rfl)
theorem dX7_setsAll_273 : decode cX7_setsAll 273 = .ok (.iconst (-1), 1) := dk_2 (dk_at dksX7_setsAll_11 14 rfl rfl)
theorem dX7_setsAll_274 : decode cX7_setsAll 274 = .ok (.if_icmp .ne 10, 3) := dk_160 0 10 (dk_at dksX7_setsAll_11 15 rfl rfl)
theorem dX7_setsAll_277 : decode cX7_setsAll 277 = .ok (.aload_n 0, 1) := dk_42 (dk_at dksX7_setsAll_11 18 rfl rfl)
theorem dX7_setsAll_278 : decode cX7_setsAll 278 = .ok (.iconst 4, 1) := dk_7 (dk_at dksX7_setsAll_11 19 rfl rfl)
theorem dX7_setsAll_279 : decode cX7_setsAll 279 = .ok (.iload_n 2, 1) := dk_28 (dk_at dksX7_setsAll_11 20 rfl rfl)
theorem dX7_setsAll_280 : decode cX7_setsAll 280 = .ok (.invokevirtual 267, 3) := dk_182 1 11 (dk_at dksX7_setsAll_11 21 rfl rfl)
theorem dX7_setsAll_283 : decode cX7_setsAll 283 = .ok (.ireturn, 1) := dk_172 (dk_at dksX7_setsAll_12 0 rfl rfl)
theorem dX7_setsAll_284 : decode cX7_setsAll 284 = .ok (.aload_n 0, 1) := dk_42 (dk_at dksX7_setsAll_12 1 rfl rfl)
theorem dX7_setsAll_285 : decode cX7_setsAll 285 = .ok (.iload 4, 2) := dk_21 4 (dk_at dksX7_setsAll_12 2 rfl rfl)
theorem dX7_setsAll_287 : decode cX7_setsAll 287 = .ok (.invokevirtual 270, 3) := dk_182 1 14 (dk_at dksX7_setsAll_12 4 rfl rfl)
theorem dX7_setsAll_290 : decode cX7_setsAll 290 = .ok (.pop, 1) := dk_87 (dk_at dksX7_setsAll_12 7 rfl rfl)
theorem dX7_setsAll_291 : decode cX7_setsAll 291 = .ok (.iinc 2 1, 3) := dk_132 2 1 (dk_at dksX7_setsAll_12 8 rfl rfl)
theorem dX7_setsAll_294 : decode cX7_setsAll 294 = .ok (.goto (-49), 3) := dk_167 255 207 (dk_at dksX7_setsAll_12 11 rfl rfl)
theorem dX7_setsAll_297 : decode cX7_setsAll 297 = .ok (.goto (-234), 3) := dk_167 255 22 (dk_at dksX7_setsAll_12 14 rfl rfl)
theorem dX7_setsAll_300 : decode cX7_setsAll 300 = .ok (.iconst 1, 1) := dk_4 (dk_at dksX7_setsAll_12 17 rfl rfl)
theorem dX7_setsAll_301 : decode cX7_setsAll 301 = .ok (.ireturn, 1) := dk_172 (dk_at dksX7_setsAll_12 18 rfl rfl)
abbrev cX7_byteOf : ByteArray := prog_17_method_39_code
def yX7_byteOf : MethodName := ⟨RX7, "byteOf", "(I)I"⟩
def dkwX7_byteOf_1 : List UInt8 := [167, 0, 5, 16, 32, 172]
abbrev dktX7_byteOf_1 : List UInt8 := dkwX7_byteOf_1 ++ []
def dkwX7_byteOf_0 : List UInt8 := [27, 42, 180, 0, 7, 17, 64, 123, 46, 162, 0, 16, 42, 180, 0, 7, 17, 65, 160, 27, 96, 46]
abbrev dktX7_byteOf_0 : List UInt8 := dkwX7_byteOf_0 ++ dktX7_byteOf_1
theorem dksX7_byteOf_0 : cX7_byteOf.data.toList.drop 0 = dktX7_byteOf_0 := by decide +kernel
theorem dksX7_byteOf_1 : cX7_byteOf.data.toList.drop 22 = dktX7_byteOf_1 := dk_seg dksX7_byteOf_0 22 rfl rfl
theorem dX7_byteOf_0 : decode cX7_byteOf 0 = .ok (.iload_n 1, 1) := dk_27 (dk_at dksX7_byteOf_0 0 rfl rfl)
theorem dX7_byteOf_1 : decode cX7_byteOf 1 = .ok (.aload_n 0, 1) := dk_42 (dk_at dksX7_byteOf_0 1 rfl rfl)
theorem dX7_byteOf_2 : decode cX7_byteOf 2 = .ok (.getfield 7, 3) := dk_180 0 7 (dk_at dksX7_byteOf_0 2 rfl rfl)
theorem dX7_byteOf_5 : decode cX7_byteOf 5 = .ok (.sipush 16507, 3) := dk_17 64 123 (dk_at dksX7_byteOf_0 5 rfl rfl)
theorem dX7_byteOf_8 : decode cX7_byteOf 8 = .ok (.iaload, 1) := dk_46 (dk_at dksX7_byteOf_0 8 rfl rfl)
theorem dX7_byteOf_9 : decode cX7_byteOf 9 = .ok (.if_icmp .ge 16, 3) := dk_162 0 16 (dk_at dksX7_byteOf_0 9 rfl rfl)
theorem dX7_byteOf_12 : decode cX7_byteOf 12 = .ok (.aload_n 0, 1) := dk_42 (dk_at dksX7_byteOf_0 12 rfl rfl)
theorem dX7_byteOf_13 : decode cX7_byteOf 13 = .ok (.getfield 7, 3) := dk_180 0 7 (dk_at dksX7_byteOf_0 13 rfl rfl)
theorem dX7_byteOf_16 : decode cX7_byteOf 16 = .ok (.sipush 16800, 3) := dk_17 65 160 (dk_at dksX7_byteOf_0 16 rfl rfl)
theorem dX7_byteOf_19 : decode cX7_byteOf 19 = .ok (.iload_n 1, 1) := dk_27 (dk_at dksX7_byteOf_0 19 rfl rfl)
theorem dX7_byteOf_20 : decode cX7_byteOf 20 = .ok (.iadd, 1) := dk_96 (dk_at dksX7_byteOf_0 20 rfl rfl)
theorem dX7_byteOf_21 : decode cX7_byteOf 21 = .ok (.iaload, 1) := dk_46 (dk_at dksX7_byteOf_0 21 rfl rfl)
theorem dX7_byteOf_22 : decode cX7_byteOf 22 = .ok (.goto 5, 3) := dk_167 0 5 (dk_at dksX7_byteOf_1 0 rfl rfl)
theorem dX7_byteOf_25 : decode cX7_byteOf 25 = .ok (.bipush 32, 2) := dk_16 32 (dk_at dksX7_byteOf_1 3 rfl rfl)
theorem dX7_byteOf_27 : decode cX7_byteOf 27 = .ok (.ireturn, 1) := dk_172 (dk_at dksX7_byteOf_1 5 rfl rfl)
abbrev cX7_isBlank : ByteArray := prog_17_method_40_code
def yX7_isBlank : MethodName := ⟨RX7, "isBlank", "(I)Z"⟩
def dkwX7_isBlank_0 : List UInt8 := [26, 16, 10, 159, 0, 9, 26, 16, 32, 160, 0, 7, 4, 167, 0, 4, 3, 172]
abbrev dktX7_isBlank_0 : List UInt8 := dkwX7_isBlank_0 ++ []
theorem dksX7_isBlank_0 : cX7_isBlank.data.toList.drop 0 = dktX7_isBlank_0 := by decide +kernel
theorem dX7_isBlank_0 : decode cX7_isBlank 0 = .ok (.iload_n 0, 1) := dk_26 (dk_at dksX7_isBlank_0 0 rfl rfl)
theorem dX7_isBlank_1 : decode cX7_isBlank 1 = .ok (.bipush 10, 2) := dk_16 10 (dk_at dksX7_isBlank_0 1 rfl rfl)
theorem dX7_isBlank_3 : decode cX7_isBlank 3 = .ok (.if_icmp .eq 9, 3) := dk_159 0 9 (dk_at dksX7_isBlank_0 3 rfl rfl)
theorem dX7_isBlank_6 : decode cX7_isBlank 6 = .ok (.iload_n 0, 1) := dk_26 (dk_at dksX7_isBlank_0 6 rfl rfl)
theorem dX7_isBlank_7 : decode cX7_isBlank 7 = .ok (.bipush 32, 2) := dk_16 32 (dk_at dksX7_isBlank_0 7 rfl rfl)
theorem dX7_isBlank_9 : decode cX7_isBlank 9 = .ok (.if_icmp .ne 7, 3) := dk_160 0 7 (dk_at dksX7_isBlank_0 9 rfl rfl)
theorem dX7_isBlank_12 : decode cX7_isBlank 12 = .ok (.iconst 1, 1) := dk_4 (dk_at dksX7_isBlank_0 12 rfl rfl)
theorem dX7_isBlank_13 : decode cX7_isBlank 13 = .ok (.goto 4, 3) := dk_167 0 4 (dk_at dksX7_isBlank_0 13 rfl rfl)
theorem dX7_isBlank_16 : decode cX7_isBlank 16 = .ok (.iconst 0, 1) := dk_3 (dk_at dksX7_isBlank_0 16 rfl rfl)
theorem dX7_isBlank_17 : decode cX7_isBlank 17 = .ok (.ireturn, 1) := dk_172 (dk_at dksX7_isBlank_0 17 rfl rfl)
abbrev cX7_isLetter : ByteArray := prog_17_method_42_code
def yX7_isLetter : MethodName := ⟨RX7, "isLetter", "(I)Z"⟩
def dkwX7_isLetter_1 : List UInt8 := [172]
abbrev dktX7_isLetter_1 : List UInt8 := dkwX7_isLetter_1 ++ []
def dkwX7_isLetter_0 : List UInt8 := [26, 184, 0, 236, 154, 0, 15, 26, 16, 97, 161, 0, 13, 26, 16, 122, 163, 0, 7, 4, 167, 0, 4, 3]
abbrev dktX7_isLetter_0 : List UInt8 := dkwX7_isLetter_0 ++ dktX7_isLetter_1
theorem dksX7_isLetter_0 : cX7_isLetter.data.toList.drop 0 = dktX7_isLetter_0 := by decide +kernel
theorem dksX7_isLetter_1 : cX7_isLetter.data.toList.drop 24 = dktX7_isLetter_1 := dk_seg dksX7_isLetter_0 24 rfl rfl
theorem dX7_isLetter_0 : decode cX7_isLetter 0 = .ok (.iload_n 0, 1) := dk_26 (dk_at dksX7_isLetter_0 0 rfl rfl)
theorem dX7_isLetter_1 : decode cX7_isLetter 1 = .ok (.invokestatic 236, 3) := dk_184 0 236 (dk_at dksX7_isLetter_0 1 rfl rfl)
theorem dX7_isLetter_4 : decode cX7_isLetter 4 = .ok (.ifCond .ne 15, 3) := dk_154 0 15 (dk_at dksX7_isLetter_0 4 rfl rfl)
theorem dX7_isLetter_7 : decode cX7_isLetter 7 = .ok (.iload_n 0, 1) := dk_26 (dk_at dksX7_isLetter_0 7 rfl rfl)
theorem dX7_isLetter_8 : decode cX7_isLetter 8 = .ok (.bipush 97, 2) := dk_16 97 (dk_at dksX7_isLetter_0 8 rfl rfl)
theorem dX7_isLetter_10 : decode cX7_isLetter 10 = .ok (.if_icmp .lt 13, 3) := dk_161 0 13 (dk_at dksX7_isLetter_0 10 rfl rfl)
theorem dX7_isLetter_13 : decode cX7_isLetter 13 = .ok (.iload_n 0, 1) := dk_26 (dk_at dksX7_isLetter_0 13 rfl rfl)
theorem dX7_isLetter_14 : decode cX7_isLetter 14 = .ok (.bipush 122, 2) := dk_16 122 (dk_at dksX7_isLetter_0 14 rfl rfl)
theorem dX7_isLetter_16 : decode cX7_isLetter 16 = .ok (.if_icmp .gt 7, 3) := dk_163 0 7 (dk_at dksX7_isLetter_0 16 rfl rfl)
theorem dX7_isLetter_19 : decode cX7_isLetter 19 = .ok (.iconst 1, 1) := dk_4 (dk_at dksX7_isLetter_0 19 rfl rfl)
theorem dX7_isLetter_20 : decode cX7_isLetter 20 = .ok (.goto 4, 3) := dk_167 0 4 (dk_at dksX7_isLetter_0 20 rfl rfl)
theorem dX7_isLetter_23 : decode cX7_isLetter 23 = .ok (.iconst 0, 1) := dk_3 (dk_at dksX7_isLetter_0 23 rfl rfl)
theorem dX7_isLetter_24 : decode cX7_isLetter 24 = .ok (.ireturn, 1) := dk_172 (dk_at dksX7_isLetter_1 0 rfl rfl)
abbrev cX7_isGreat : ByteArray := prog_17_method_41_code
def yX7_isGreat : MethodName := ⟨RX7, "isGreat", "(I)Z"⟩
def dkwX7_isGreat_0 : List UInt8 := [26, 16, 65, 161, 0, 13, 26, 16, 90, 163, 0, 7, 4, 167, 0, 4, 3, 172]
abbrev dktX7_isGreat_0 : List UInt8 := dkwX7_isGreat_0 ++ []
theorem dksX7_isGreat_0 : cX7_isGreat.data.toList.drop 0 = dktX7_isGreat_0 := by decide +kernel
theorem dX7_isGreat_0 : decode cX7_isGreat 0 = .ok (.iload_n 0, 1) := dk_26 (dk_at dksX7_isGreat_0 0 rfl rfl)
theorem dX7_isGreat_1 : decode cX7_isGreat 1 = .ok (.bipush 65, 2) := dk_16 65 (dk_at dksX7_isGreat_0 1 rfl rfl)
theorem dX7_isGreat_3 : decode cX7_isGreat 3 = .ok (.if_icmp .lt 13, 3) := dk_161 0 13 (dk_at dksX7_isGreat_0 3 rfl rfl)
theorem dX7_isGreat_6 : decode cX7_isGreat 6 = .ok (.iload_n 0, 1) := dk_26 (dk_at dksX7_isGreat_0 6 rfl rfl)
theorem dX7_isGreat_7 : decode cX7_isGreat 7 = .ok (.bipush 90, 2) := dk_16 90 (dk_at dksX7_isGreat_0 7 rfl rfl)
theorem dX7_isGreat_9 : decode cX7_isGreat 9 = .ok (.if_icmp .gt 7, 3) := dk_163 0 7 (dk_at dksX7_isGreat_0 9 rfl rfl)
theorem dX7_isGreat_12 : decode cX7_isGreat 12 = .ok (.iconst 1, 1) := dk_4 (dk_at dksX7_isGreat_0 12 rfl rfl)
theorem dX7_isGreat_13 : decode cX7_isGreat 13 = .ok (.goto 4, 3) := dk_167 0 4 (dk_at dksX7_isGreat_0 13 rfl rfl)
theorem dX7_isGreat_16 : decode cX7_isGreat 16 = .ok (.iconst 0, 1) := dk_3 (dk_at dksX7_isGreat_0 16 rfl rfl)
theorem dX7_isGreat_17 : decode cX7_isGreat 17 = .ok (.ireturn, 1) := dk_172 (dk_at dksX7_isGreat_0 17 rfl rfl)
abbrev cX7_isDigit0 : ByteArray := prog_17_method_43_code
def yX7_isDigit0 : MethodName := ⟨RX7, "isDigit0", "(I)Z"⟩
def dkwX7_isDigit0_0 : List UInt8 := [26, 16, 48, 161, 0, 13, 26, 16, 57, 163, 0, 7, 4, 167, 0, 4, 3, 172]
abbrev dktX7_isDigit0_0 : List UInt8 := dkwX7_isDigit0_0 ++ []
theorem dksX7_isDigit0_0 : cX7_isDigit0.data.toList.drop 0 = dktX7_isDigit0_0 := by decide +kernel
theorem dX7_isDigit0_0 : decode cX7_isDigit0 0 = .ok (.iload_n 0, 1) := dk_26 (dk_at dksX7_isDigit0_0 0 rfl rfl)
theorem dX7_isDigit0_1 : decode cX7_isDigit0 1 = .ok (.bipush 48, 2) := dk_16 48 (dk_at dksX7_isDigit0_0 1 rfl rfl)
theorem dX7_isDigit0_3 : decode cX7_isDigit0 3 = .ok (.if_icmp .lt 13, 3) := dk_161 0 13 (dk_at dksX7_isDigit0_0 3 rfl rfl)
theorem dX7_isDigit0_6 : decode cX7_isDigit0 6 = .ok (.iload_n 0, 1) := dk_26 (dk_at dksX7_isDigit0_0 6 rfl rfl)
theorem dX7_isDigit0_7 : decode cX7_isDigit0 7 = .ok (.bipush 57, 2) := dk_16 57 (dk_at dksX7_isDigit0_0 7 rfl rfl)
theorem dX7_isDigit0_9 : decode cX7_isDigit0 9 = .ok (.if_icmp .gt 7, 3) := dk_163 0 7 (dk_at dksX7_isDigit0_0 9 rfl rfl)
theorem dX7_isDigit0_12 : decode cX7_isDigit0 12 = .ok (.iconst 1, 1) := dk_4 (dk_at dksX7_isDigit0_0 12 rfl rfl)
theorem dX7_isDigit0_13 : decode cX7_isDigit0 13 = .ok (.goto 4, 3) := dk_167 0 4 (dk_at dksX7_isDigit0_0 13 rfl rfl)
theorem dX7_isDigit0_16 : decode cX7_isDigit0 16 = .ok (.iconst 0, 1) := dk_3 (dk_at dksX7_isDigit0_0 16 rfl rfl)
theorem dX7_isDigit0_17 : decode cX7_isDigit0 17 = .ok (.ireturn, 1) := dk_172 (dk_at dksX7_isDigit0_0 17 rfl rfl)
abbrev cX7_isBad : ByteArray := prog_17_method_38_code
def yX7_isBad : MethodName := ⟨RX7, "isBad", "(II)Z"⟩
def dkwX7_isBad_0 : List UInt8 := [42, 27, 181, 0, 230, 42, 28, 181, 0, 233, 3, 172]
abbrev dktX7_isBad_0 : List UInt8 := dkwX7_isBad_0 ++ []
theorem dksX7_isBad_0 : cX7_isBad.data.toList.drop 0 = dktX7_isBad_0 := by decide +kernel
theorem dX7_isBad_0 : decode cX7_isBad 0 = .ok (.aload_n 0, 1) := dk_42 (dk_at dksX7_isBad_0 0 rfl rfl)
theorem dX7_isBad_1 : decode cX7_isBad 1 = .ok (.iload_n 1, 1) := dk_27 (dk_at dksX7_isBad_0 1 rfl rfl)
theorem dX7_isBad_2 : decode cX7_isBad 2 = .ok (.putfield 230, 3) := dk_181 0 230 (dk_at dksX7_isBad_0 2 rfl rfl)
theorem dX7_isBad_5 : decode cX7_isBad 5 = .ok (.aload_n 0, 1) := dk_42 (dk_at dksX7_isBad_0 5 rfl rfl)
theorem dX7_isBad_6 : decode cX7_isBad 6 = .ok (.iload_n 2, 1) := dk_28 (dk_at dksX7_isBad_0 6 rfl rfl)
theorem dX7_isBad_7 : decode cX7_isBad 7 = .ok (.putfield 233, 3) := dk_181 0 233 (dk_at dksX7_isBad_0 7 rfl rfl)
theorem dX7_isBad_10 : decode cX7_isBad 10 = .ok (.iconst 0, 1) := dk_3 (dk_at dksX7_isBad_0 10 rfl rfl)
theorem dX7_isBad_11 : decode cX7_isBad 11 = .ok (.ireturn, 1) := dk_172 (dk_at dksX7_isBad_0 11 rfl rfl)
abbrev cX7_sets : ByteArray := prog_17_method_50_code
def yX7_sets : MethodName := ⟨RX7, "sets", "(II)V"⟩
def dkwX7_sets_2 : List UInt8 := [96, 79, 177]
abbrev dktX7_sets_2 : List UInt8 := dkwX7_sets_2 ++ []
def dkwX7_sets_1 : List UInt8 := [17, 72, 108, 42, 180, 0, 7, 17, 64, 124, 46, 96, 28, 79, 42, 180, 0, 7, 17, 64, 124, 92, 46, 4]
abbrev dktX7_sets_1 : List UInt8 := dkwX7_sets_1 ++ dktX7_sets_2
def dkwX7_sets_0 : List UInt8 := [42, 180, 0, 7, 17, 66, 204, 42, 180, 0, 7, 17, 64, 124, 46, 96, 27, 79, 42, 180, 0, 7]
abbrev dktX7_sets_0 : List UInt8 := dkwX7_sets_0 ++ dktX7_sets_1
theorem dksX7_sets_0 : cX7_sets.data.toList.drop 0 = dktX7_sets_0 := by decide +kernel
theorem dksX7_sets_1 : cX7_sets.data.toList.drop 22 = dktX7_sets_1 := dk_seg dksX7_sets_0 22 rfl rfl
theorem dksX7_sets_2 : cX7_sets.data.toList.drop 46 = dktX7_sets_2 := dk_seg dksX7_sets_1 24 rfl rfl
theorem dX7_sets_0 : decode cX7_sets 0 = .ok (.aload_n 0, 1) := dk_42 (dk_at dksX7_sets_0 0 rfl rfl)
theorem dX7_sets_1 : decode cX7_sets 1 = .ok (.getfield 7, 3) := dk_180 0 7 (dk_at dksX7_sets_0 1 rfl rfl)
theorem dX7_sets_4 : decode cX7_sets 4 = .ok (.sipush 17100, 3) := dk_17 66 204 (dk_at dksX7_sets_0 4 rfl rfl)
theorem dX7_sets_7 : decode cX7_sets 7 = .ok (.aload_n 0, 1) := dk_42 (dk_at dksX7_sets_0 7 rfl rfl)
theorem dX7_sets_8 : decode cX7_sets 8 = .ok (.getfield 7, 3) := dk_180 0 7 (dk_at dksX7_sets_0 8 rfl rfl)
theorem dX7_sets_11 : decode cX7_sets 11 = .ok (.sipush 16508, 3) := dk_17 64 124 (dk_at dksX7_sets_0 11 rfl rfl)
theorem dX7_sets_14 : decode cX7_sets 14 = .ok (.iaload, 1) := dk_46 (dk_at dksX7_sets_0 14 rfl rfl)
theorem dX7_sets_15 : decode cX7_sets 15 = .ok (.iadd, 1) := dk_96 (dk_at dksX7_sets_0 15 rfl rfl)
theorem dX7_sets_16 : decode cX7_sets 16 = .ok (.iload_n 1, 1) := dk_27 (dk_at dksX7_sets_0 16 rfl rfl)
theorem dX7_sets_17 : decode cX7_sets 17 = .ok (.iastore, 1) := dk_79 (dk_at dksX7_sets_0 17 rfl rfl)
theorem dX7_sets_18 : decode cX7_sets 18 = .ok (.aload_n 0, 1) := dk_42 (dk_at dksX7_sets_0 18 rfl rfl)
theorem dX7_sets_19 : decode cX7_sets 19 = .ok (.getfield 7, 3) := dk_180 0 7 (dk_at dksX7_sets_0 19 rfl rfl)
theorem dX7_sets_22 : decode cX7_sets 22 = .ok (.sipush 18540, 3) := dk_17 72 108 (dk_at dksX7_sets_1 0 rfl rfl)
theorem dX7_sets_25 : decode cX7_sets 25 = .ok (.aload_n 0, 1) := dk_42 (dk_at dksX7_sets_1 3 rfl rfl)
theorem dX7_sets_26 : decode cX7_sets 26 = .ok (.getfield 7, 3) := dk_180 0 7 (dk_at dksX7_sets_1 4 rfl rfl)
theorem dX7_sets_29 : decode cX7_sets 29 = .ok (.sipush 16508, 3) := dk_17 64 124 (dk_at dksX7_sets_1 7 rfl rfl)
theorem dX7_sets_32 : decode cX7_sets 32 = .ok (.iaload, 1) := dk_46 (dk_at dksX7_sets_1 10 rfl rfl)
theorem dX7_sets_33 : decode cX7_sets 33 = .ok (.iadd, 1) := dk_96 (dk_at dksX7_sets_1 11 rfl rfl)
theorem dX7_sets_34 : decode cX7_sets 34 = .ok (.iload_n 2, 1) := dk_28 (dk_at dksX7_sets_1 12 rfl rfl)
theorem dX7_sets_35 : decode cX7_sets 35 = .ok (.iastore, 1) := dk_79 (dk_at dksX7_sets_1 13 rfl rfl)
theorem dX7_sets_36 : decode cX7_sets 36 = .ok (.aload_n 0, 1) := dk_42 (dk_at dksX7_sets_1 14 rfl rfl)
theorem dX7_sets_37 : decode cX7_sets 37 = .ok (.getfield 7, 3) := dk_180 0 7 (dk_at dksX7_sets_1 15 rfl rfl)
theorem dX7_sets_40 : decode cX7_sets 40 = .ok (.sipush 16508, 3) := dk_17 64 124 (dk_at dksX7_sets_1 18 rfl rfl)
theorem dX7_sets_43 : decode cX7_sets 43 = .ok (.dup2, 1) := dk_92 (dk_at dksX7_sets_1 21 rfl rfl)
theorem dX7_sets_44 : decode cX7_sets 44 = .ok (.iaload, 1) := dk_46 (dk_at dksX7_sets_1 22 rfl rfl)
theorem dX7_sets_45 : decode cX7_sets 45 = .ok (.iconst 1, 1) := dk_4 (dk_at dksX7_sets_1 23 rfl rfl)
theorem dX7_sets_46 : decode cX7_sets 46 = .ok (.iadd, 1) := dk_96 (dk_at dksX7_sets_2 0 rfl rfl)
theorem dX7_sets_47 : decode cX7_sets 47 = .ok (.iastore, 1) := dk_79 (dk_at dksX7_sets_2 1 rfl rfl)
theorem dX7_sets_48 : decode cX7_sets 48 = .ok (.return_, 1) := dk_177 (dk_at dksX7_sets_2 2 rfl rfl)
abbrev cX7_wordEnd : ByteArray := prog_17_method_52_code
def yX7_wordEnd : MethodName := ⟨RX7, "wordEnd", "(I)I"⟩
def dkwX7_wordEnd_0 : List UInt8 := [27, 61, 42, 28, 182, 0, 239, 184, 1, 4, 153, 0, 9, 132, 2, 1, 167, 255, 242, 28, 172]
abbrev dktX7_wordEnd_0 : List UInt8 := dkwX7_wordEnd_0 ++ []
theorem dksX7_wordEnd_0 : cX7_wordEnd.data.toList.drop 0 = dktX7_wordEnd_0 := by decide +kernel
theorem dX7_wordEnd_0 : decode cX7_wordEnd 0 = .ok (.iload_n 1, 1) := dk_27 (dk_at dksX7_wordEnd_0 0 rfl rfl)
theorem dX7_wordEnd_1 : decode cX7_wordEnd 1 = .ok (.istore_n 2, 1) := dk_61 (dk_at dksX7_wordEnd_0 1 rfl rfl)
theorem dX7_wordEnd_2 : decode cX7_wordEnd 2 = .ok (.aload_n 0, 1) := dk_42 (dk_at dksX7_wordEnd_0 2 rfl rfl)
theorem dX7_wordEnd_3 : decode cX7_wordEnd 3 = .ok (.iload_n 2, 1) := dk_28 (dk_at dksX7_wordEnd_0 3 rfl rfl)
theorem dX7_wordEnd_4 : decode cX7_wordEnd 4 = .ok (.invokevirtual 239, 3) := dk_182 0 239 (dk_at dksX7_wordEnd_0 4 rfl rfl)
theorem dX7_wordEnd_7 : decode cX7_wordEnd 7 = .ok (.invokestatic 260, 3) := dk_184 1 4 (dk_at dksX7_wordEnd_0 7 rfl rfl)
theorem dX7_wordEnd_10 : decode cX7_wordEnd 10 = .ok (.ifCond .eq 9, 3) := dk_153 0 9 (dk_at dksX7_wordEnd_0 10 rfl rfl)
theorem dX7_wordEnd_13 : decode cX7_wordEnd 13 = .ok (.iinc 2 1, 3) := dk_132 2 1 (dk_at dksX7_wordEnd_0 13 rfl rfl)
theorem dX7_wordEnd_16 : decode cX7_wordEnd 16 = .ok (.goto (-14), 3) := dk_167 255 242 (dk_at dksX7_wordEnd_0 16 rfl rfl)
theorem dX7_wordEnd_19 : decode cX7_wordEnd 19 = .ok (.iload_n 2, 1) := dk_28 (dk_at dksX7_wordEnd_0 19 rfl rfl)
theorem dX7_wordEnd_20 : decode cX7_wordEnd 20 = .ok (.ireturn, 1) := dk_172 (dk_at dksX7_wordEnd_0 20 rfl rfl)
abbrev cX7_setsWord : ByteArray := prog_17_method_53_code
def yX7_setsWord : MethodName := ⟨RX7, "setsWord", "(III)Z"⟩
def dkwX7_setsWord_4 : List UInt8 := [180, 0, 7, 3, 21, 5, 184, 0, 194, 46, 96, 54, 4, 167, 255, 152, 4, 172]
abbrev dktX7_setsWord_4 : List UInt8 := dkwX7_setsWord_4 ++ []
def dkwX7_setsWord_3 : List UInt8 := [182, 1, 0, 42, 180, 0, 7, 17, 64, 127, 92, 46, 42, 21, 5, 182, 1, 14, 96, 79, 21, 4, 42]
abbrev dktX7_setsWord_3 : List UInt8 := dkwX7_setsWord_3 ++ dktX7_setsWord_4
def dkwX7_setsWord_2 : List UInt8 := [180, 0, 7, 4, 46, 154, 0, 11, 42, 8, 21, 4, 182, 1, 11, 172, 42, 42, 180, 0, 7, 4, 46, 2]
abbrev dktX7_setsWord_2 : List UInt8 := dkwX7_setsWord_2 ++ dktX7_setsWord_3
def dkwX7_setsWord_1 : List UInt8 := [160, 0, 11, 42, 6, 21, 4, 182, 1, 11, 172, 42, 21, 4, 182, 0, 239, 184, 0, 236, 153, 0, 31, 42]
abbrev dktX7_setsWord_1 : List UInt8 := dkwX7_setsWord_1 ++ dktX7_setsWord_2
def dkwX7_setsWord_0 : List UInt8 := [27, 54, 4, 21, 4, 28, 162, 0, 104, 42, 21, 4, 27, 28, 29, 182, 1, 7, 54, 5, 21, 5, 2]
abbrev dktX7_setsWord_0 : List UInt8 := dkwX7_setsWord_0 ++ dktX7_setsWord_1
theorem dksX7_setsWord_0 : cX7_setsWord.data.toList.drop 0 = dktX7_setsWord_0 := by decide +kernel
theorem dksX7_setsWord_1 : cX7_setsWord.data.toList.drop 23 = dktX7_setsWord_1 := dk_seg dksX7_setsWord_0 23 rfl rfl
theorem dksX7_setsWord_2 : cX7_setsWord.data.toList.drop 47 = dktX7_setsWord_2 := dk_seg dksX7_setsWord_1 24 rfl rfl
theorem dksX7_setsWord_3 : cX7_setsWord.data.toList.drop 71 = dktX7_setsWord_3 := dk_seg dksX7_setsWord_2 24 rfl rfl
theorem dksX7_setsWord_4 : cX7_setsWord.data.toList.drop 94 = dktX7_setsWord_4 := dk_seg dksX7_setsWord_3 23 rfl rfl
theorem dX7_setsWord_0 : decode cX7_setsWord 0 = .ok (.iload_n 1, 1) := dk_27 (dk_at dksX7_setsWord_0 0 rfl rfl)
theorem dX7_setsWord_1 : decode cX7_setsWord 1 = .ok (.istore 4, 2) := dk_54 4 (dk_at dksX7_setsWord_0 1 rfl rfl)
theorem dX7_setsWord_3 : decode cX7_setsWord 3 = .ok (.iload 4, 2) := dk_21 4 (dk_at dksX7_setsWord_0 3 rfl rfl)
theorem dX7_setsWord_5 : decode cX7_setsWord 5 = .ok (.iload_n 2, 1) := dk_28 (dk_at dksX7_setsWord_0 5 rfl rfl)
theorem dX7_setsWord_6 : decode cX7_setsWord 6 = .ok (.if_icmp .ge 104, 3) := dk_162 0 104 (dk_at dksX7_setsWord_0 6 rfl rfl)
theorem dX7_setsWord_9 : decode cX7_setsWord 9 = .ok (.aload_n 0, 1) := dk_42 (dk_at dksX7_setsWord_0 9 rfl rfl)
theorem dX7_setsWord_10 : decode cX7_setsWord 10 = .ok (.iload 4, 2) := dk_21 4 (dk_at dksX7_setsWord_0 10 rfl rfl)
theorem dX7_setsWord_12 : decode cX7_setsWord 12 = .ok (.iload_n 1, 1) := dk_27 (dk_at dksX7_setsWord_0 12 rfl rfl)
theorem dX7_setsWord_13 : decode cX7_setsWord 13 = .ok (.iload_n 2, 1) := dk_28 (dk_at dksX7_setsWord_0 13 rfl rfl)
theorem dX7_setsWord_14 : decode cX7_setsWord 14 = .ok (.iload_n 3, 1) := dk_29 (dk_at dksX7_setsWord_0 14 rfl rfl)
theorem dX7_setsWord_15 : decode cX7_setsWord 15 = .ok (.invokevirtual 263, 3) := dk_182 1 7 (dk_at dksX7_setsWord_0 15 rfl rfl)
theorem dX7_setsWord_18 : decode cX7_setsWord 18 = .ok (.istore 5, 2) := dk_54 5 (dk_at dksX7_setsWord_0 18 rfl rfl)
theorem dX7_setsWord_20 : decode cX7_setsWord 20 = .ok (.iload 5, 2) := dk_21 5 (dk_at dksX7_setsWord_0 20 rfl rfl)
theorem dX7_setsWord_22 : decode cX7_setsWord 22 = .ok (.iconst (-1), 1) := dk_2 (dk_at dksX7_setsWord_0 22 rfl rfl)
theorem dX7_setsWord_23 : decode cX7_setsWord 23 = .ok (.if_icmp .ne 11, 3) := dk_160 0 11 (dk_at dksX7_setsWord_1 0 rfl rfl)
theorem dX7_setsWord_26 : decode cX7_setsWord 26 = .ok (.aload_n 0, 1) := dk_42 (dk_at dksX7_setsWord_1 3 rfl rfl)
theorem dX7_setsWord_27 : decode cX7_setsWord 27 = .ok (.iconst 3, 1) := dk_6 (dk_at dksX7_setsWord_1 4 rfl rfl)
theorem dX7_setsWord_28 : decode cX7_setsWord 28 = .ok (.iload 4, 2) := dk_21 4 (dk_at dksX7_setsWord_1 5 rfl rfl)
theorem dX7_setsWord_30 : decode cX7_setsWord 30 = .ok (.invokevirtual 267, 3) := dk_182 1 11 (dk_at dksX7_setsWord_1 7 rfl rfl)
theorem dX7_setsWord_33 : decode cX7_setsWord 33 = .ok (.ireturn, 1) := dk_172 (dk_at dksX7_setsWord_1 10 rfl rfl)
theorem dX7_setsWord_34 : decode cX7_setsWord 34 = .ok (.aload_n 0, 1) := dk_42 (dk_at dksX7_setsWord_1 11 rfl rfl)
theorem dX7_setsWord_35 : decode cX7_setsWord 35 = .ok (.iload 4, 2) := dk_21 4 (dk_at dksX7_setsWord_1 12 rfl rfl)
theorem dX7_setsWord_37 : decode cX7_setsWord 37 = .ok (.invokevirtual 239, 3) := dk_182 0 239 (dk_at dksX7_setsWord_1 14 rfl rfl)
theorem dX7_setsWord_40 : decode cX7_setsWord 40 = .ok (.invokestatic 236, 3) := dk_184 0 236 (dk_at dksX7_setsWord_1 17 rfl rfl)
theorem dX7_setsWord_43 : decode cX7_setsWord 43 = .ok (.ifCond .eq 31, 3) := dk_153 0 31 (dk_at dksX7_setsWord_1 20 rfl rfl)
theorem dX7_setsWord_46 : decode cX7_setsWord 46 = .ok (.aload_n 0, 1) := dk_42 (dk_at dksX7_setsWord_1 23 rfl rfl)
theorem dX7_setsWord_47 : decode cX7_setsWord 47 = .ok (.getfield 7, 3) := dk_180 0 7 (dk_at dksX7_setsWord_2 0 rfl rfl)
theorem dX7_setsWord_50 : decode cX7_setsWord 50 = .ok (.iconst 1, 1) := dk_4 (dk_at dksX7_setsWord_2 3 rfl rfl)
theorem dX7_setsWord_51 : decode cX7_setsWord 51 = .ok (.iaload, 1) := dk_46 (dk_at dksX7_setsWord_2 4 rfl rfl)
theorem dX7_setsWord_52 : decode cX7_setsWord 52 = .ok (.ifCond .ne 11, 3) := dk_154 0 11 (dk_at dksX7_setsWord_2 5 rfl rfl)
theorem dX7_setsWord_55 : decode cX7_setsWord 55 = .ok (.aload_n 0, 1) := dk_42 (dk_at dksX7_setsWord_2 8 rfl rfl)
theorem dX7_setsWord_56 : decode cX7_setsWord 56 = .ok (.iconst 5, 1) := dk_8 (dk_at dksX7_setsWord_2 9 rfl rfl)
theorem dX7_setsWord_57 : decode cX7_setsWord 57 = .ok (.iload 4, 2) := dk_21 4 (dk_at dksX7_setsWord_2 10 rfl rfl)
theorem dX7_setsWord_59 : decode cX7_setsWord 59 = .ok (.invokevirtual 267, 3) := dk_182 1 11 (dk_at dksX7_setsWord_2 12 rfl rfl)
theorem dX7_setsWord_62 : decode cX7_setsWord 62 = .ok (.ireturn, 1) := dk_172 (dk_at dksX7_setsWord_2 15 rfl rfl)
theorem dX7_setsWord_63 : decode cX7_setsWord 63 = .ok (.aload_n 0, 1) := dk_42 (dk_at dksX7_setsWord_2 16 rfl rfl)
theorem dX7_setsWord_64 : decode cX7_setsWord 64 = .ok (.aload_n 0, 1) := dk_42 (dk_at dksX7_setsWord_2 17 rfl rfl)
theorem dX7_setsWord_65 : decode cX7_setsWord 65 = .ok (.getfield 7, 3) := dk_180 0 7 (dk_at dksX7_setsWord_2 18 rfl rfl)
theorem dX7_setsWord_68 : decode cX7_setsWord 68 = .ok (.iconst 1, 1) := dk_4 (dk_at dksX7_setsWord_2 21 rfl rfl)
theorem dX7_setsWord_69 : decode cX7_setsWord 69 = .ok (.iaload, 1) := dk_46 (dk_at dksX7_setsWord_2 22 rfl rfl)
theorem dX7_setsWord_70 : decode cX7_setsWord 70 = .ok (.iconst (-1), 1) := dk_2 (dk_at dksX7_setsWord_2 23 rfl rfl)
theorem dX7_setsWord_71 : decode cX7_setsWord 71 = .ok (.invokevirtual 256, 3) := dk_182 1 0 (dk_at dksX7_setsWord_3 0 rfl rfl)
theorem dX7_setsWord_74 : decode cX7_setsWord 74 = .ok (.aload_n 0, 1) := dk_42 (dk_at dksX7_setsWord_3 3 rfl rfl)
theorem dX7_setsWord_75 : decode cX7_setsWord 75 = .ok (.getfield 7, 3) := dk_180 0 7 (dk_at dksX7_setsWord_3 4 rfl rfl)
theorem dX7_setsWord_78 : decode cX7_setsWord 78 = .ok (.sipush 16511, 3) := dk_17 64 127 (dk_at dksX7_setsWord_3 7 rfl rfl)
theorem dX7_setsWord_81 : decode cX7_setsWord 81 = .ok (.dup2, 1) := dk_92 (dk_at dksX7_setsWord_3 10 rfl rfl)
theorem dX7_setsWord_82 : decode cX7_setsWord 82 = .ok (.iaload, 1) := dk_46 (dk_at dksX7_setsWord_3 11 rfl rfl)
theorem dX7_setsWord_83 : decode cX7_setsWord 83 = .ok (.aload_n 0, 1) := dk_42 (dk_at dksX7_setsWord_3 12 rfl rfl)
theorem dX7_setsWord_84 : decode cX7_setsWord 84 = .ok (.iload 5, 2) := dk_21 5 (dk_at dksX7_setsWord_3 13 rfl rfl)
theorem dX7_setsWord_86 : decode cX7_setsWord 86 = .ok (.invokevirtual 270, 3) := dk_182 1 14 (dk_at dksX7_setsWord_3 15 rfl rfl)
theorem dX7_setsWord_89 : decode cX7_setsWord 89 = .ok (.iadd, 1) := dk_96 (dk_at dksX7_setsWord_3 18 rfl rfl)
theorem dX7_setsWord_90 : decode cX7_setsWord 90 = .ok (.iastore, 1) := dk_79 (dk_at dksX7_setsWord_3 19 rfl rfl)
theorem dX7_setsWord_91 : decode cX7_setsWord 91 = .ok (.iload 4, 2) := dk_21 4 (dk_at dksX7_setsWord_3 20 rfl rfl)
theorem dX7_setsWord_93 : decode cX7_setsWord 93 = .ok (.aload_n 0, 1) := dk_42 (dk_at dksX7_setsWord_3 22 rfl rfl)
theorem dX7_setsWord_94 : decode cX7_setsWord 94 = .ok (.getfield 7, 3) := dk_180 0 7 (dk_at dksX7_setsWord_4 0 rfl rfl)
theorem dX7_setsWord_97 : decode cX7_setsWord 97 = .ok (.iconst 0, 1) := dk_3 (dk_at dksX7_setsWord_4 3 rfl rfl)
theorem dX7_setsWord_98 : decode cX7_setsWord 98 = .ok (.iload 5, 2) := dk_21 5 (dk_at dksX7_setsWord_4 4 rfl rfl)
theorem dX7_setsWord_100 : decode cX7_setsWord 100 = .ok (.invokestatic 194, 3) := dk_184 0 194 (dk_at dksX7_setsWord_4 6 rfl rfl)
theorem dX7_setsWord_103 : decode cX7_setsWord 103 = .ok (.iaload, 1) := dk_46 (dk_at dksX7_setsWord_4 9 rfl rfl)
theorem dX7_setsWord_104 : decode cX7_setsWord 104 = .ok (.iadd, 1) := dk_96 (dk_at dksX7_setsWord_4 10 rfl rfl)
theorem dX7_setsWord_105 : decode cX7_setsWord 105 = .ok (.istore 4, 2) := dk_54 4 (dk_at dksX7_setsWord_4 11 rfl rfl)
theorem dX7_setsWord_107 : decode cX7_setsWord 107 = .ok (.goto (-104), 3) := dk_167 255 152 (dk_at dksX7_setsWord_4 13 rfl rfl)
theorem dX7_setsWord_110 : decode cX7_setsWord 110 = .ok (.iconst 1, 1) := dk_4 (dk_at dksX7_setsWord_4 16 rfl rfl)
theorem dX7_setsWord_111 : decode cX7_setsWord 111 = .ok (.ireturn, 1) := dk_172 (dk_at dksX7_setsWord_4 17 rfl rfl)
abbrev cX7_taking : ByteArray := prog_17_method_48_code
def yX7_taking : MethodName := ⟨RX7, "taking", "(IIII)I"⟩
def dkwX7_taking_3 : List UInt8 := [21, 6, 54, 5, 132, 6, 1, 167, 255, 185, 21, 5, 172]
abbrev dktX7_taking_3 : List UInt8 := dkwX7_taking_3 ++ []
def dkwX7_taking_2 : List UInt8 := [180, 0, 7, 3, 21, 6, 184, 0, 194, 46, 42, 180, 0, 7, 3, 21, 5, 184, 0, 194, 46, 164, 0, 7]
abbrev dktX7_taking_2 : List UInt8 := dkwX7_taking_2 ++ dktX7_taking_3
def dkwX7_taking_1 : List UInt8 := [154, 0, 50, 42, 21, 6, 27, 28, 29, 182, 0, 252, 153, 0, 38, 21, 5, 2, 159, 0, 28, 42]
abbrev dktX7_taking_1 : List UInt8 := dkwX7_taking_1 ++ dktX7_taking_2
def dkwX7_taking_0 : List UInt8 := [2, 54, 5, 3, 54, 6, 21, 6, 42, 180, 0, 7, 3, 46, 162, 0, 66, 21, 4, 21, 6, 184, 0, 249]
abbrev dktX7_taking_0 : List UInt8 := dkwX7_taking_0 ++ dktX7_taking_1
theorem dksX7_taking_0 : cX7_taking.data.toList.drop 0 = dktX7_taking_0 := by decide +kernel
theorem dksX7_taking_1 : cX7_taking.data.toList.drop 24 = dktX7_taking_1 := dk_seg dksX7_taking_0 24 rfl rfl
theorem dksX7_taking_2 : cX7_taking.data.toList.drop 46 = dktX7_taking_2 := dk_seg dksX7_taking_1 22 rfl rfl
theorem dksX7_taking_3 : cX7_taking.data.toList.drop 70 = dktX7_taking_3 := dk_seg dksX7_taking_2 24 rfl rfl
theorem dX7_taking_0 : decode cX7_taking 0 = .ok (.iconst (-1), 1) := dk_2 (dk_at dksX7_taking_0 0 rfl rfl)
theorem dX7_taking_1 : decode cX7_taking 1 = .ok (.istore 5, 2) := dk_54 5 (dk_at dksX7_taking_0 1 rfl rfl)
theorem dX7_taking_3 : decode cX7_taking 3 = .ok (.iconst 0, 1) := dk_3 (dk_at dksX7_taking_0 3 rfl rfl)
theorem dX7_taking_4 : decode cX7_taking 4 = .ok (.istore 6, 2) := dk_54 6 (dk_at dksX7_taking_0 4 rfl rfl)
theorem dX7_taking_6 : decode cX7_taking 6 = .ok (.iload 6, 2) := dk_21 6 (dk_at dksX7_taking_0 6 rfl rfl)
theorem dX7_taking_8 : decode cX7_taking 8 = .ok (.aload_n 0, 1) := dk_42 (dk_at dksX7_taking_0 8 rfl rfl)
theorem dX7_taking_9 : decode cX7_taking 9 = .ok (.getfield 7, 3) := dk_180 0 7 (dk_at dksX7_taking_0 9 rfl rfl)
theorem dX7_taking_12 : decode cX7_taking 12 = .ok (.iconst 0, 1) := dk_3 (dk_at dksX7_taking_0 12 rfl rfl)
theorem dX7_taking_13 : decode cX7_taking 13 = .ok (.iaload, 1) := dk_46 (dk_at dksX7_taking_0 13 rfl rfl)
theorem dX7_taking_14 : decode cX7_taking 14 = .ok (.if_icmp .ge 66, 3) := dk_162 0 66 (dk_at dksX7_taking_0 14 rfl rfl)
theorem dX7_taking_17 : decode cX7_taking 17 = .ok (.iload 4, 2) := dk_21 4 (dk_at dksX7_taking_0 17 rfl rfl)
theorem dX7_taking_19 : decode cX7_taking 19 = .ok (.iload 6, 2) := dk_21 6 (dk_at dksX7_taking_0 19 rfl rfl)
theorem dX7_taking_21 : decode cX7_taking 21 = .ok (.invokestatic 249, 3) := dk_184 0 249 (dk_at dksX7_taking_0 21 rfl rfl)
theorem dX7_taking_24 : decode cX7_taking 24 = .ok (.ifCond .ne 50, 3) := dk_154 0 50 (dk_at dksX7_taking_1 0 rfl rfl)
theorem dX7_taking_27 : decode cX7_taking 27 = .ok (.aload_n 0, 1) := dk_42 (dk_at dksX7_taking_1 3 rfl rfl)
theorem dX7_taking_28 : decode cX7_taking 28 = .ok (.iload 6, 2) := dk_21 6 (dk_at dksX7_taking_1 4 rfl rfl)
theorem dX7_taking_30 : decode cX7_taking 30 = .ok (.iload_n 1, 1) := dk_27 (dk_at dksX7_taking_1 6 rfl rfl)
theorem dX7_taking_31 : decode cX7_taking 31 = .ok (.iload_n 2, 1) := dk_28 (dk_at dksX7_taking_1 7 rfl rfl)
theorem dX7_taking_32 : decode cX7_taking 32 = .ok (.iload_n 3, 1) := dk_29 (dk_at dksX7_taking_1 8 rfl rfl)
theorem dX7_taking_33 : decode cX7_taking 33 = .ok (.invokevirtual 252, 3) := dk_182 0 252 (dk_at dksX7_taking_1 9 rfl rfl)
theorem dX7_taking_36 : decode cX7_taking 36 = .ok (.ifCond .eq 38, 3) := dk_153 0 38 (dk_at dksX7_taking_1 12 rfl rfl)
theorem dX7_taking_39 : decode cX7_taking 39 = .ok (.iload 5, 2) := dk_21 5 (dk_at dksX7_taking_1 15 rfl rfl)
theorem dX7_taking_41 : decode cX7_taking 41 = .ok (.iconst (-1), 1) := dk_2 (dk_at dksX7_taking_1 17 rfl rfl)
theorem dX7_taking_42 : decode cX7_taking 42 = .ok (.if_icmp .eq 28, 3) := dk_159 0 28 (dk_at dksX7_taking_1 18 rfl rfl)
theorem dX7_taking_45 : decode cX7_taking 45 = .ok (.aload_n 0, 1) := dk_42 (dk_at dksX7_taking_1 21 rfl rfl)
theorem dX7_taking_46 : decode cX7_taking 46 = .ok (.getfield 7, 3) := dk_180 0 7 (dk_at dksX7_taking_2 0 rfl rfl)
theorem dX7_taking_49 : decode cX7_taking 49 = .ok (.iconst 0, 1) := dk_3 (dk_at dksX7_taking_2 3 rfl rfl)
theorem dX7_taking_50 : decode cX7_taking 50 = .ok (.iload 6, 2) := dk_21 6 (dk_at dksX7_taking_2 4 rfl rfl)
theorem dX7_taking_52 : decode cX7_taking 52 = .ok (.invokestatic 194, 3) := dk_184 0 194 (dk_at dksX7_taking_2 6 rfl rfl)
theorem dX7_taking_55 : decode cX7_taking 55 = .ok (.iaload, 1) := dk_46 (dk_at dksX7_taking_2 9 rfl rfl)
theorem dX7_taking_56 : decode cX7_taking 56 = .ok (.aload_n 0, 1) := dk_42 (dk_at dksX7_taking_2 10 rfl rfl)
theorem dX7_taking_57 : decode cX7_taking 57 = .ok (.getfield 7, 3) := dk_180 0 7 (dk_at dksX7_taking_2 11 rfl rfl)
theorem dX7_taking_60 : decode cX7_taking 60 = .ok (.iconst 0, 1) := dk_3 (dk_at dksX7_taking_2 14 rfl rfl)
theorem dX7_taking_61 : decode cX7_taking 61 = .ok (.iload 5, 2) := dk_21 5 (dk_at dksX7_taking_2 15 rfl rfl)
theorem dX7_taking_63 : decode cX7_taking 63 = .ok (.invokestatic 194, 3) := dk_184 0 194 (dk_at dksX7_taking_2 17 rfl rfl)
theorem dX7_taking_66 : decode cX7_taking 66 = .ok (.iaload, 1) := dk_46 (dk_at dksX7_taking_2 20 rfl rfl)
theorem dX7_taking_67 : decode cX7_taking 67 = .ok (.if_icmp .le 7, 3) := dk_164 0 7 (dk_at dksX7_taking_2 21 rfl rfl)
theorem dX7_taking_70 : decode cX7_taking 70 = .ok (.iload 6, 2) := dk_21 6 (dk_at dksX7_taking_3 0 rfl rfl)
theorem dX7_taking_72 : decode cX7_taking 72 = .ok (.istore 5, 2) := dk_54 5 (dk_at dksX7_taking_3 2 rfl rfl)
theorem dX7_taking_74 : decode cX7_taking 74 = .ok (.iinc 6 1, 3) := dk_132 6 1 (dk_at dksX7_taking_3 4 rfl rfl)
theorem dX7_taking_77 : decode cX7_taking 77 = .ok (.goto (-71), 3) := dk_167 255 185 (dk_at dksX7_taking_3 7 rfl rfl)
theorem dX7_taking_80 : decode cX7_taking 80 = .ok (.iload 5, 2) := dk_21 5 (dk_at dksX7_taking_3 10 rfl rfl)
theorem dX7_taking_82 : decode cX7_taking 82 = .ok (.ireturn, 1) := dk_172 (dk_at dksX7_taking_3 12 rfl rfl)
abbrev cX7_isOut : ByteArray := prog_17_method_47_code
def yX7_isOut : MethodName := ⟨RX7, "isOut", "(II)Z"⟩
def dkwX7_isOut_0 : List UInt8 := [26, 27, 122, 4, 126, 4, 160, 0, 7, 4, 167, 0, 4, 3, 172]
abbrev dktX7_isOut_0 : List UInt8 := dkwX7_isOut_0 ++ []
theorem dksX7_isOut_0 : cX7_isOut.data.toList.drop 0 = dktX7_isOut_0 := by decide +kernel
theorem dX7_isOut_0 : decode cX7_isOut 0 = .ok (.iload_n 0, 1) := dk_26 (dk_at dksX7_isOut_0 0 rfl rfl)
theorem dX7_isOut_1 : decode cX7_isOut 1 = .ok (.iload_n 1, 1) := dk_27 (dk_at dksX7_isOut_0 1 rfl rfl)
theorem dX7_isOut_2 : decode cX7_isOut 2 = .ok (.ishr, 1) := dk_122 (dk_at dksX7_isOut_0 2 rfl rfl)
theorem dX7_isOut_3 : decode cX7_isOut 3 = .ok (.iconst 1, 1) := dk_4 (dk_at dksX7_isOut_0 3 rfl rfl)
theorem dX7_isOut_4 : decode cX7_isOut 4 = .ok (.iand, 1) := dk_126 (dk_at dksX7_isOut_0 4 rfl rfl)
theorem dX7_isOut_5 : decode cX7_isOut 5 = .ok (.iconst 1, 1) := dk_4 (dk_at dksX7_isOut_0 5 rfl rfl)
theorem dX7_isOut_6 : decode cX7_isOut 6 = .ok (.if_icmp .ne 7, 3) := dk_160 0 7 (dk_at dksX7_isOut_0 6 rfl rfl)
theorem dX7_isOut_9 : decode cX7_isOut 9 = .ok (.iconst 1, 1) := dk_4 (dk_at dksX7_isOut_0 9 rfl rfl)
theorem dX7_isOut_10 : decode cX7_isOut 10 = .ok (.goto 4, 3) := dk_167 0 4 (dk_at dksX7_isOut_0 10 rfl rfl)
theorem dX7_isOut_13 : decode cX7_isOut 13 = .ok (.iconst 0, 1) := dk_3 (dk_at dksX7_isOut_0 13 rfl rfl)
theorem dX7_isOut_14 : decode cX7_isOut 14 = .ok (.ireturn, 1) := dk_172 (dk_at dksX7_isOut_0 14 rfl rfl)
abbrev cX7_stands : ByteArray := prog_17_method_46_code
def yX7_stands : MethodName := ⟨RX7, "stands", "(IIII)Z"⟩
def dkwX7_stands_5 : List UInt8 := [21, 5, 46, 96, 21, 4, 160, 0, 7, 4, 167, 0, 4, 3, 184, 0, 245, 172]
abbrev dktX7_stands_5 : List UInt8 := dkwX7_stands_5 ++ []
def dkwX7_stands_4 : List UInt8 := [180, 0, 7, 21, 5, 16, 11, 96, 46, 28, 29, 160, 0, 7, 4, 167, 0, 4, 3, 28, 42, 180, 0, 7]
abbrev dktX7_stands_4 : List UInt8 := dkwX7_stands_4 ++ dktX7_stands_5
def dkwX7_stands_3 : List UInt8 := [28, 21, 6, 96, 182, 0, 239, 184, 0, 236, 153, 0, 5, 3, 172, 132, 6, 1, 167, 255, 194, 42]
abbrev dktX7_stands_3 : List UInt8 := dkwX7_stands_3 ++ dktX7_stands_4
def dkwX7_stands_2 : List UInt8 := [184, 0, 242, 42, 180, 0, 7, 21, 5, 4, 96, 21, 6, 96, 46, 160, 0, 22, 21, 6, 158, 0, 19, 42]
abbrev dktX7_stands_2 : List UInt8 := dkwX7_stands_2 ++ dktX7_stands_3
def dkwX7_stands_1 : List UInt8 := [54, 6, 21, 6, 42, 180, 0, 7, 21, 5, 46, 162, 0, 56, 42, 28, 21, 6, 96, 182, 0, 239]
abbrev dktX7_stands_1 : List UInt8 := dkwX7_stands_1 ++ dktX7_stands_2
def dkwX7_stands_0 : List UInt8 := [3, 27, 184, 0, 194, 54, 5, 28, 42, 180, 0, 7, 21, 5, 46, 96, 21, 4, 164, 0, 5, 3, 172, 3]
abbrev dktX7_stands_0 : List UInt8 := dkwX7_stands_0 ++ dktX7_stands_1
theorem dksX7_stands_0 : cX7_stands.data.toList.drop 0 = dktX7_stands_0 := by decide +kernel
theorem dksX7_stands_1 : cX7_stands.data.toList.drop 24 = dktX7_stands_1 := dk_seg dksX7_stands_0 24 rfl rfl
theorem dksX7_stands_2 : cX7_stands.data.toList.drop 46 = dktX7_stands_2 := dk_seg dksX7_stands_1 22 rfl rfl
theorem dksX7_stands_3 : cX7_stands.data.toList.drop 70 = dktX7_stands_3 := dk_seg dksX7_stands_2 24 rfl rfl
theorem dksX7_stands_4 : cX7_stands.data.toList.drop 92 = dktX7_stands_4 := dk_seg dksX7_stands_3 22 rfl rfl
theorem dksX7_stands_5 : cX7_stands.data.toList.drop 116 = dktX7_stands_5 := dk_seg dksX7_stands_4 24 rfl rfl
theorem dX7_stands_0 : decode cX7_stands 0 = .ok (.iconst 0, 1) := dk_3 (dk_at dksX7_stands_0 0 rfl rfl)
theorem dX7_stands_1 : decode cX7_stands 1 = .ok (.iload_n 1, 1) := dk_27 (dk_at dksX7_stands_0 1 rfl rfl)
theorem dX7_stands_2 : decode cX7_stands 2 = .ok (.invokestatic 194, 3) := dk_184 0 194 (dk_at dksX7_stands_0 2 rfl rfl)
theorem dX7_stands_5 : decode cX7_stands 5 = .ok (.istore 5, 2) := dk_54 5 (dk_at dksX7_stands_0 5 rfl rfl)
theorem dX7_stands_7 : decode cX7_stands 7 = .ok (.iload_n 2, 1) := dk_28 (dk_at dksX7_stands_0 7 rfl rfl)
theorem dX7_stands_8 : decode cX7_stands 8 = .ok (.aload_n 0, 1) := dk_42 (dk_at dksX7_stands_0 8 rfl rfl)
theorem dX7_stands_9 : decode cX7_stands 9 = .ok (.getfield 7, 3) := dk_180 0 7 (dk_at dksX7_stands_0 9 rfl rfl)
theorem dX7_stands_12 : decode cX7_stands 12 = .ok (.iload 5, 2) := dk_21 5 (dk_at dksX7_stands_0 12 rfl rfl)
theorem dX7_stands_14 : decode cX7_stands 14 = .ok (.iaload, 1) := dk_46 (dk_at dksX7_stands_0 14 rfl rfl)
theorem dX7_stands_15 : decode cX7_stands 15 = .ok (.iadd, 1) := dk_96 (dk_at dksX7_stands_0 15 rfl rfl)
theorem dX7_stands_16 : decode cX7_stands 16 = .ok (.iload 4, 2) := dk_21 4 (dk_at dksX7_stands_0 16 rfl rfl)
theorem dX7_stands_18 : decode cX7_stands 18 = .ok (.if_icmp .le 5, 3) := dk_164 0 5 (dk_at dksX7_stands_0 18 rfl rfl)
theorem dX7_stands_21 : decode cX7_stands 21 = .ok (.iconst 0, 1) := dk_3 (dk_at dksX7_stands_0 21 rfl rfl)
theorem dX7_stands_22 : decode cX7_stands 22 = .ok (.ireturn, 1) := dk_172 (dk_at dksX7_stands_0 22 rfl rfl)
theorem dX7_stands_23 : decode cX7_stands 23 = .ok (.iconst 0, 1) := dk_3 (dk_at dksX7_stands_0 23 rfl rfl)
theorem dX7_stands_24 : decode cX7_stands 24 = .ok (.istore 6, 2) := dk_54 6 (dk_at dksX7_stands_1 0 rfl rfl)
theorem dX7_stands_26 : decode cX7_stands 26 = .ok (.iload 6, 2) := dk_21 6 (dk_at dksX7_stands_1 2 rfl rfl)
theorem dX7_stands_28 : decode cX7_stands 28 = .ok (.aload_n 0, 1) := dk_42 (dk_at dksX7_stands_1 4 rfl rfl)
theorem dX7_stands_29 : decode cX7_stands 29 = .ok (.getfield 7, 3) := dk_180 0 7 (dk_at dksX7_stands_1 5 rfl rfl)
theorem dX7_stands_32 : decode cX7_stands 32 = .ok (.iload 5, 2) := dk_21 5 (dk_at dksX7_stands_1 8 rfl rfl)
theorem dX7_stands_34 : decode cX7_stands 34 = .ok (.iaload, 1) := dk_46 (dk_at dksX7_stands_1 10 rfl rfl)
theorem dX7_stands_35 : decode cX7_stands 35 = .ok (.if_icmp .ge 56, 3) := dk_162 0 56 (dk_at dksX7_stands_1 11 rfl rfl)
theorem dX7_stands_38 : decode cX7_stands 38 = .ok (.aload_n 0, 1) := dk_42 (dk_at dksX7_stands_1 14 rfl rfl)
theorem dX7_stands_39 : decode cX7_stands 39 = .ok (.iload_n 2, 1) := dk_28 (dk_at dksX7_stands_1 15 rfl rfl)
theorem dX7_stands_40 : decode cX7_stands 40 = .ok (.iload 6, 2) := dk_21 6 (dk_at dksX7_stands_1 16 rfl rfl)
theorem dX7_stands_42 : decode cX7_stands 42 = .ok (.iadd, 1) := dk_96 (dk_at dksX7_stands_1 18 rfl rfl)
theorem dX7_stands_43 : decode cX7_stands 43 = .ok (.invokevirtual 239, 3) := dk_182 0 239 (dk_at dksX7_stands_1 19 rfl rfl)
theorem dX7_stands_46 : decode cX7_stands 46 = .ok (.invokestatic 242, 3) := dk_184 0 242 (dk_at dksX7_stands_2 0 rfl rfl)
theorem dX7_stands_49 : decode cX7_stands 49 = .ok (.aload_n 0, 1) := dk_42 (dk_at dksX7_stands_2 3 rfl rfl)
theorem dX7_stands_50 : decode cX7_stands 50 = .ok (.getfield 7, 3) := dk_180 0 7 (dk_at dksX7_stands_2 4 rfl rfl)
theorem dX7_stands_53 : decode cX7_stands 53 = .ok (.iload 5, 2) := dk_21 5 (dk_at dksX7_stands_2 7 rfl rfl)
theorem dX7_stands_55 : decode cX7_stands 55 = .ok (.iconst 1, 1) := dk_4 (dk_at dksX7_stands_2 9 rfl rfl)
theorem dX7_stands_56 : decode cX7_stands 56 = .ok (.iadd, 1) := dk_96 (dk_at dksX7_stands_2 10 rfl rfl)
theorem dX7_stands_57 : decode cX7_stands 57 = .ok (.iload 6, 2) := dk_21 6 (dk_at dksX7_stands_2 11 rfl rfl)
theorem dX7_stands_59 : decode cX7_stands 59 = .ok (.iadd, 1) := dk_96 (dk_at dksX7_stands_2 13 rfl rfl)
theorem dX7_stands_60 : decode cX7_stands 60 = .ok (.iaload, 1) := dk_46 (dk_at dksX7_stands_2 14 rfl rfl)
theorem dX7_stands_61 : decode cX7_stands 61 = .ok (.if_icmp .ne 22, 3) := dk_160 0 22 (dk_at dksX7_stands_2 15 rfl rfl)
theorem dX7_stands_64 : decode cX7_stands 64 = .ok (.iload 6, 2) := dk_21 6 (dk_at dksX7_stands_2 18 rfl rfl)
theorem dX7_stands_66 : decode cX7_stands 66 = .ok (.ifCond .le 19, 3) := dk_158 0 19 (dk_at dksX7_stands_2 20 rfl rfl)
theorem dX7_stands_69 : decode cX7_stands 69 = .ok (.aload_n 0, 1) := dk_42 (dk_at dksX7_stands_2 23 rfl rfl)
theorem dX7_stands_70 : decode cX7_stands 70 = .ok (.iload_n 2, 1) := dk_28 (dk_at dksX7_stands_3 0 rfl rfl)
theorem dX7_stands_71 : decode cX7_stands 71 = .ok (.iload 6, 2) := dk_21 6 (dk_at dksX7_stands_3 1 rfl rfl)
theorem dX7_stands_73 : decode cX7_stands 73 = .ok (.iadd, 1) := dk_96 (dk_at dksX7_stands_3 3 rfl rfl)
theorem dX7_stands_74 : decode cX7_stands 74 = .ok (.invokevirtual 239, 3) := dk_182 0 239 (dk_at dksX7_stands_3 4 rfl rfl)
theorem dX7_stands_77 : decode cX7_stands 77 = .ok (.invokestatic 236, 3) := dk_184 0 236 (dk_at dksX7_stands_3 7 rfl rfl)
theorem dX7_stands_80 : decode cX7_stands 80 = .ok (.ifCond .eq 5, 3) := dk_153 0 5 (dk_at dksX7_stands_3 10 rfl rfl)
theorem dX7_stands_83 : decode cX7_stands 83 = .ok (.iconst 0, 1) := dk_3 (dk_at dksX7_stands_3 13 rfl rfl)
theorem dX7_stands_84 : decode cX7_stands 84 = .ok (.ireturn, 1) := dk_172 (dk_at dksX7_stands_3 14 rfl rfl)
theorem dX7_stands_85 : decode cX7_stands 85 = .ok (.iinc 6 1, 3) := dk_132 6 1 (dk_at dksX7_stands_3 15 rfl rfl)
theorem dX7_stands_88 : decode cX7_stands 88 = .ok (.goto (-62), 3) := dk_167 255 194 (dk_at dksX7_stands_3 18 rfl rfl)
theorem dX7_stands_91 : decode cX7_stands 91 = .ok (.aload_n 0, 1) := dk_42 (dk_at dksX7_stands_3 21 rfl rfl)
theorem dX7_stands_92 : decode cX7_stands 92 = .ok (.getfield 7, 3) := dk_180 0 7 (dk_at dksX7_stands_4 0 rfl rfl)
theorem dX7_stands_95 : decode cX7_stands 95 = .ok (.iload 5, 2) := dk_21 5 (dk_at dksX7_stands_4 3 rfl rfl)
theorem dX7_stands_97 : decode cX7_stands 97 = .ok (.bipush 11, 2) := dk_16 11 (dk_at dksX7_stands_4 5 rfl rfl)
theorem dX7_stands_99 : decode cX7_stands 99 = .ok (.iadd, 1) := dk_96 (dk_at dksX7_stands_4 7 rfl rfl)
theorem dX7_stands_100 : decode cX7_stands 100 = .ok (.iaload, 1) := dk_46 (dk_at dksX7_stands_4 8 rfl rfl)
theorem dX7_stands_101 : decode cX7_stands 101 = .ok (.iload_n 2, 1) := dk_28 (dk_at dksX7_stands_4 9 rfl rfl)
theorem dX7_stands_102 : decode cX7_stands 102 = .ok (.iload_n 3, 1) := dk_29 (dk_at dksX7_stands_4 10 rfl rfl)
theorem dX7_stands_103 : decode cX7_stands 103 = .ok (.if_icmp .ne 7, 3) := dk_160 0 7 (dk_at dksX7_stands_4 11 rfl rfl)
theorem dX7_stands_106 : decode cX7_stands 106 = .ok (.iconst 1, 1) := dk_4 (dk_at dksX7_stands_4 14 rfl rfl)
theorem dX7_stands_107 : decode cX7_stands 107 = .ok (.goto 4, 3) := dk_167 0 4 (dk_at dksX7_stands_4 15 rfl rfl)
theorem dX7_stands_110 : decode cX7_stands 110 = .ok (.iconst 0, 1) := dk_3 (dk_at dksX7_stands_4 18 rfl rfl)
theorem dX7_stands_111 : decode cX7_stands 111 = .ok (.iload_n 2, 1) := dk_28 (dk_at dksX7_stands_4 19 rfl rfl)
theorem dX7_stands_112 : decode cX7_stands 112 = .ok (.aload_n 0, 1) := dk_42 (dk_at dksX7_stands_4 20 rfl rfl)
theorem dX7_stands_113 : decode cX7_stands 113 = .ok (.getfield 7, 3) := dk_180 0 7 (dk_at dksX7_stands_4 21 rfl rfl)
theorem dX7_stands_116 : decode cX7_stands 116 = .ok (.iload 5, 2) := dk_21 5 (dk_at dksX7_stands_5 0 rfl rfl)
theorem dX7_stands_118 : decode cX7_stands 118 = .ok (.iaload, 1) := dk_46 (dk_at dksX7_stands_5 2 rfl rfl)
theorem dX7_stands_119 : decode cX7_stands 119 = .ok (.iadd, 1) := dk_96 (dk_at dksX7_stands_5 3 rfl rfl)
theorem dX7_stands_120 : decode cX7_stands 120 = .ok (.iload 4, 2) := dk_21 4 (dk_at dksX7_stands_5 4 rfl rfl)
theorem dX7_stands_122 : decode cX7_stands 122 = .ok (.if_icmp .ne 7, 3) := dk_160 0 7 (dk_at dksX7_stands_5 6 rfl rfl)
theorem dX7_stands_125 : decode cX7_stands 125 = .ok (.iconst 1, 1) := dk_4 (dk_at dksX7_stands_5 9 rfl rfl)
theorem dX7_stands_126 : decode cX7_stands 126 = .ok (.goto 4, 3) := dk_167 0 4 (dk_at dksX7_stands_5 10 rfl rfl)
theorem dX7_stands_129 : decode cX7_stands 129 = .ok (.iconst 0, 1) := dk_3 (dk_at dksX7_stands_5 13 rfl rfl)
theorem dX7_stands_130 : decode cX7_stands 130 = .ok (.invokestatic 245, 3) := dk_184 0 245 (dk_at dksX7_stands_5 14 rfl rfl)
theorem dX7_stands_133 : decode cX7_stands 133 = .ok (.ireturn, 1) := dk_172 (dk_at dksX7_stands_5 17 rfl rfl)
abbrev cX7_letterOf : ByteArray := prog_17_method_44_code
def yX7_letterOf : MethodName := ⟨RX7, "letterOf", "(I)I"⟩
def dkwX7_letterOf_0 : List UInt8 := [26, 184, 0, 236, 153, 0, 12, 26, 16, 65, 100, 4, 96, 167, 0, 9, 26, 16, 97, 100, 4, 96, 172]
abbrev dktX7_letterOf_0 : List UInt8 := dkwX7_letterOf_0 ++ []
theorem dksX7_letterOf_0 : cX7_letterOf.data.toList.drop 0 = dktX7_letterOf_0 := by decide +kernel
theorem dX7_letterOf_0 : decode cX7_letterOf 0 = .ok (.iload_n 0, 1) := dk_26 (dk_at dksX7_letterOf_0 0 rfl rfl)
theorem dX7_letterOf_1 : decode cX7_letterOf 1 = .ok (.invokestatic 236, 3) := dk_184 0 236 (dk_at dksX7_letterOf_0 1 rfl rfl)
theorem dX7_letterOf_4 : decode cX7_letterOf 4 = .ok (.ifCond .eq 12, 3) := dk_153 0 12 (dk_at dksX7_letterOf_0 4 rfl rfl)
theorem dX7_letterOf_7 : decode cX7_letterOf 7 = .ok (.iload_n 0, 1) := dk_26 (dk_at dksX7_letterOf_0 7 rfl rfl)
theorem dX7_letterOf_8 : decode cX7_letterOf 8 = .ok (.bipush 65, 2) := dk_16 65 (dk_at dksX7_letterOf_0 8 rfl rfl)
theorem dX7_letterOf_10 : decode cX7_letterOf 10 = .ok (.isub, 1) := dk_100 (dk_at dksX7_letterOf_0 10 rfl rfl)
theorem dX7_letterOf_11 : decode cX7_letterOf 11 = .ok (.iconst 1, 1) := dk_4 (dk_at dksX7_letterOf_0 11 rfl rfl)
theorem dX7_letterOf_12 : decode cX7_letterOf 12 = .ok (.iadd, 1) := dk_96 (dk_at dksX7_letterOf_0 12 rfl rfl)
theorem dX7_letterOf_13 : decode cX7_letterOf 13 = .ok (.goto 9, 3) := dk_167 0 9 (dk_at dksX7_letterOf_0 13 rfl rfl)
theorem dX7_letterOf_16 : decode cX7_letterOf 16 = .ok (.iload_n 0, 1) := dk_26 (dk_at dksX7_letterOf_0 16 rfl rfl)
theorem dX7_letterOf_17 : decode cX7_letterOf 17 = .ok (.bipush 97, 2) := dk_16 97 (dk_at dksX7_letterOf_0 17 rfl rfl)
theorem dX7_letterOf_19 : decode cX7_letterOf 19 = .ok (.isub, 1) := dk_100 (dk_at dksX7_letterOf_0 19 rfl rfl)
theorem dX7_letterOf_20 : decode cX7_letterOf 20 = .ok (.iconst 1, 1) := dk_4 (dk_at dksX7_letterOf_0 20 rfl rfl)
theorem dX7_letterOf_21 : decode cX7_letterOf 21 = .ok (.iadd, 1) := dk_96 (dk_at dksX7_letterOf_0 21 rfl rfl)
theorem dX7_letterOf_22 : decode cX7_letterOf 22 = .ok (.ireturn, 1) := dk_172 (dk_at dksX7_letterOf_0 22 rfl rfl)
abbrev cX7_holds : ByteArray := prog_17_method_45_code
def yX7_holds : MethodName := ⟨RX7, "holds", "(IZZ)Z"⟩
def dkwX7_holds_1 : List UInt8 := [167, 0, 12, 28, 153, 0, 7, 6, 167, 0, 4, 5, 160, 0, 7, 4, 167, 0, 4, 3, 172]
abbrev dktX7_holds_1 : List UInt8 := dkwX7_holds_1 ++ []
def dkwX7_holds_0 : List UInt8 := [26, 153, 0, 36, 26, 27, 153, 0, 11, 28, 153, 0, 7, 7, 167, 0, 20, 27, 153, 0, 7, 4]
abbrev dktX7_holds_0 : List UInt8 := dkwX7_holds_0 ++ dktX7_holds_1
theorem dksX7_holds_0 : cX7_holds.data.toList.drop 0 = dktX7_holds_0 := by decide +kernel
theorem dksX7_holds_1 : cX7_holds.data.toList.drop 22 = dktX7_holds_1 := dk_seg dksX7_holds_0 22 rfl rfl
theorem dX7_holds_0 : decode cX7_holds 0 = .ok (.iload_n 0, 1) := dk_26 (dk_at dksX7_holds_0 0 rfl rfl)
theorem dX7_holds_1 : decode cX7_holds 1 = .ok (.ifCond .eq 36, 3) := dk_153 0 36 (dk_at dksX7_holds_0 1 rfl rfl)
theorem dX7_holds_4 : decode cX7_holds 4 = .ok (.iload_n 0, 1) := dk_26 (dk_at dksX7_holds_0 4 rfl rfl)
theorem dX7_holds_5 : decode cX7_holds 5 = .ok (.iload_n 1, 1) := dk_27 (dk_at dksX7_holds_0 5 rfl rfl)
theorem dX7_holds_6 : decode cX7_holds 6 = .ok (.ifCond .eq 11, 3) := dk_153 0 11 (dk_at dksX7_holds_0 6 rfl rfl)
theorem dX7_holds_9 : decode cX7_holds 9 = .ok (.iload_n 2, 1) := dk_28 (dk_at dksX7_holds_0 9 rfl rfl)
theorem dX7_holds_10 : decode cX7_holds 10 = .ok (.ifCond .eq 7, 3) := dk_153 0 7 (dk_at dksX7_holds_0 10 rfl rfl)
theorem dX7_holds_13 : decode cX7_holds 13 = .ok (.iconst 4, 1) := dk_7 (dk_at dksX7_holds_0 13 rfl rfl)
theorem dX7_holds_14 : decode cX7_holds 14 = .ok (.goto 20, 3) := dk_167 0 20 (dk_at dksX7_holds_0 14 rfl rfl)
theorem dX7_holds_17 : decode cX7_holds 17 = .ok (.iload_n 1, 1) := dk_27 (dk_at dksX7_holds_0 17 rfl rfl)
theorem dX7_holds_18 : decode cX7_holds 18 = .ok (.ifCond .eq 7, 3) := dk_153 0 7 (dk_at dksX7_holds_0 18 rfl rfl)
theorem dX7_holds_21 : decode cX7_holds 21 = .ok (.iconst 1, 1) := dk_4 (dk_at dksX7_holds_0 21 rfl rfl)
theorem dX7_holds_22 : decode cX7_holds 22 = .ok (.goto 12, 3) := dk_167 0 12 (dk_at dksX7_holds_1 0 rfl rfl)
theorem dX7_holds_25 : decode cX7_holds 25 = .ok (.iload_n 2, 1) := dk_28 (dk_at dksX7_holds_1 3 rfl rfl)
theorem dX7_holds_26 : decode cX7_holds 26 = .ok (.ifCond .eq 7, 3) := dk_153 0 7 (dk_at dksX7_holds_1 4 rfl rfl)
theorem dX7_holds_29 : decode cX7_holds 29 = .ok (.iconst 3, 1) := dk_6 (dk_at dksX7_holds_1 7 rfl rfl)
theorem dX7_holds_30 : decode cX7_holds 30 = .ok (.goto 4, 3) := dk_167 0 4 (dk_at dksX7_holds_1 8 rfl rfl)
theorem dX7_holds_33 : decode cX7_holds 33 = .ok (.iconst 2, 1) := dk_5 (dk_at dksX7_holds_1 11 rfl rfl)
theorem dX7_holds_34 : decode cX7_holds 34 = .ok (.if_icmp .ne 7, 3) := dk_160 0 7 (dk_at dksX7_holds_1 12 rfl rfl)
theorem dX7_holds_37 : decode cX7_holds 37 = .ok (.iconst 1, 1) := dk_4 (dk_at dksX7_holds_1 15 rfl rfl)
theorem dX7_holds_38 : decode cX7_holds 38 = .ok (.goto 4, 3) := dk_167 0 4 (dk_at dksX7_holds_1 16 rfl rfl)
theorem dX7_holds_41 : decode cX7_holds 41 = .ok (.iconst 0, 1) := dk_3 (dk_at dksX7_holds_1 19 rfl rfl)
theorem dX7_holds_42 : decode cX7_holds 42 = .ok (.ireturn, 1) := dk_172 (dk_at dksX7_holds_1 20 rfl rfl)
abbrev cX7_setsRule : ByteArray := prog_17_method_51_code
def yX7_setsRule : MethodName := ⟨RX7, "setsRule", "(I)I"⟩
def dkwX7_setsRule_3 : List UInt8 := [79, 42, 180, 0, 7, 28, 16, 7, 96, 46, 172]
abbrev dktX7_setsRule_3 : List UInt8 := dkwX7_setsRule_3 ++ []
def dkwX7_setsRule_2 : List UInt8 := [180, 0, 7, 17, 72, 78, 27, 96, 92, 46, 4, 96, 79, 42, 180, 0, 7, 17, 64, 126, 92, 46, 4, 96]
abbrev dktX7_setsRule_2 : List UInt8 := dkwX7_setsRule_2 ++ dktX7_setsRule_3
def dkwX7_setsRule_1 : List UInt8 := [180, 0, 7, 28, 16, 7, 96, 4, 96, 29, 96, 46, 27, 182, 1, 0, 132, 3, 1, 167, 255, 222, 42]
abbrev dktX7_setsRule_1 : List UInt8 := dkwX7_setsRule_1 ++ dktX7_setsRule_2
def dkwX7_setsRule_0 : List UInt8 := [3, 27, 184, 0, 194, 61, 3, 62, 29, 42, 180, 0, 7, 28, 16, 7, 96, 46, 162, 0, 27, 42, 42]
abbrev dktX7_setsRule_0 : List UInt8 := dkwX7_setsRule_0 ++ dktX7_setsRule_1
theorem dksX7_setsRule_0 : cX7_setsRule.data.toList.drop 0 = dktX7_setsRule_0 := by decide +kernel
theorem dksX7_setsRule_1 : cX7_setsRule.data.toList.drop 23 = dktX7_setsRule_1 := dk_seg dksX7_setsRule_0 23 rfl rfl
theorem dksX7_setsRule_2 : cX7_setsRule.data.toList.drop 46 = dktX7_setsRule_2 := dk_seg dksX7_setsRule_1 23 rfl rfl
theorem dksX7_setsRule_3 : cX7_setsRule.data.toList.drop 70 = dktX7_setsRule_3 := dk_seg dksX7_setsRule_2 24 rfl rfl
theorem dX7_setsRule_0 : decode cX7_setsRule 0 = .ok (.iconst 0, 1) := dk_3 (dk_at dksX7_setsRule_0 0 rfl rfl)
theorem dX7_setsRule_1 : decode cX7_setsRule 1 = .ok (.iload_n 1, 1) := dk_27 (dk_at dksX7_setsRule_0 1 rfl rfl)
theorem dX7_setsRule_2 : decode cX7_setsRule 2 = .ok (.invokestatic 194, 3) := dk_184 0 194 (dk_at dksX7_setsRule_0 2 rfl rfl)
theorem dX7_setsRule_5 : decode cX7_setsRule 5 = .ok (.istore_n 2, 1) := dk_61 (dk_at dksX7_setsRule_0 5 rfl rfl)
theorem dX7_setsRule_6 : decode cX7_setsRule 6 = .ok (.iconst 0, 1) := dk_3 (dk_at dksX7_setsRule_0 6 rfl rfl)
theorem dX7_setsRule_7 : decode cX7_setsRule 7 = .ok (.istore_n 3, 1) := dk_62 (dk_at dksX7_setsRule_0 7 rfl rfl)
theorem dX7_setsRule_8 : decode cX7_setsRule 8 = .ok (.iload_n 3, 1) := dk_29 (dk_at dksX7_setsRule_0 8 rfl rfl)
theorem dX7_setsRule_9 : decode cX7_setsRule 9 = .ok (.aload_n 0, 1) := dk_42 (dk_at dksX7_setsRule_0 9 rfl rfl)
theorem dX7_setsRule_10 : decode cX7_setsRule 10 = .ok (.getfield 7, 3) := dk_180 0 7 (dk_at dksX7_setsRule_0 10 rfl rfl)
theorem dX7_setsRule_13 : decode cX7_setsRule 13 = .ok (.iload_n 2, 1) := dk_28 (dk_at dksX7_setsRule_0 13 rfl rfl)
theorem dX7_setsRule_14 : decode cX7_setsRule 14 = .ok (.bipush 7, 2) := dk_16 7 (dk_at dksX7_setsRule_0 14 rfl rfl)
theorem dX7_setsRule_16 : decode cX7_setsRule 16 = .ok (.iadd, 1) := dk_96 (dk_at dksX7_setsRule_0 16 rfl rfl)
theorem dX7_setsRule_17 : decode cX7_setsRule 17 = .ok (.iaload, 1) := dk_46 (dk_at dksX7_setsRule_0 17 rfl rfl)
theorem dX7_setsRule_18 : decode cX7_setsRule 18 = .ok (.if_icmp .ge 27, 3) := dk_162 0 27 (dk_at dksX7_setsRule_0 18 rfl rfl)
theorem dX7_setsRule_21 : decode cX7_setsRule 21 = .ok (.aload_n 0, 1) := dk_42 (dk_at dksX7_setsRule_0 21 rfl rfl)
theorem dX7_setsRule_22 : decode cX7_setsRule 22 = .ok (.aload_n 0, 1) := dk_42 (dk_at dksX7_setsRule_0 22 rfl rfl)
theorem dX7_setsRule_23 : decode cX7_setsRule 23 = .ok (.getfield 7, 3) := dk_180 0 7 (dk_at dksX7_setsRule_1 0 rfl rfl)
theorem dX7_setsRule_26 : decode cX7_setsRule 26 = .ok (.iload_n 2, 1) := dk_28 (dk_at dksX7_setsRule_1 3 rfl rfl)
theorem dX7_setsRule_27 : decode cX7_setsRule 27 = .ok (.bipush 7, 2) := dk_16 7 (dk_at dksX7_setsRule_1 4 rfl rfl)
theorem dX7_setsRule_29 : decode cX7_setsRule 29 = .ok (.iadd, 1) := dk_96 (dk_at dksX7_setsRule_1 6 rfl rfl)
theorem dX7_setsRule_30 : decode cX7_setsRule 30 = .ok (.iconst 1, 1) := dk_4 (dk_at dksX7_setsRule_1 7 rfl rfl)
theorem dX7_setsRule_31 : decode cX7_setsRule 31 = .ok (.iadd, 1) := dk_96 (dk_at dksX7_setsRule_1 8 rfl rfl)
theorem dX7_setsRule_32 : decode cX7_setsRule 32 = .ok (.iload_n 3, 1) := dk_29 (dk_at dksX7_setsRule_1 9 rfl rfl)
theorem dX7_setsRule_33 : decode cX7_setsRule 33 = .ok (.iadd, 1) := dk_96 (dk_at dksX7_setsRule_1 10 rfl rfl)
theorem dX7_setsRule_34 : decode cX7_setsRule 34 = .ok (.iaload, 1) := dk_46 (dk_at dksX7_setsRule_1 11 rfl rfl)
theorem dX7_setsRule_35 : decode cX7_setsRule 35 = .ok (.iload_n 1, 1) := dk_27 (dk_at dksX7_setsRule_1 12 rfl rfl)
theorem dX7_setsRule_36 : decode cX7_setsRule 36 = .ok (.invokevirtual 256, 3) := dk_182 1 0 (dk_at dksX7_setsRule_1 13 rfl rfl)
theorem dX7_setsRule_39 : decode cX7_setsRule 39 = .ok (.iinc 3 1, 3) := dk_132 3 1 (dk_at dksX7_setsRule_1 16 rfl rfl)
theorem dX7_setsRule_42 : decode cX7_setsRule 42 = .ok (.goto (-34), 3) := dk_167 255 222 (dk_at dksX7_setsRule_1 19 rfl rfl)
theorem dX7_setsRule_45 : decode cX7_setsRule 45 = .ok (.aload_n 0, 1) := dk_42 (dk_at dksX7_setsRule_1 22 rfl rfl)
theorem dX7_setsRule_46 : decode cX7_setsRule 46 = .ok (.getfield 7, 3) := dk_180 0 7 (dk_at dksX7_setsRule_2 0 rfl rfl)
theorem dX7_setsRule_49 : decode cX7_setsRule 49 = .ok (.sipush 18510, 3) := dk_17 72 78 (dk_at dksX7_setsRule_2 3 rfl rfl)
theorem dX7_setsRule_52 : decode cX7_setsRule 52 = .ok (.iload_n 1, 1) := dk_27 (dk_at dksX7_setsRule_2 6 rfl rfl)
theorem dX7_setsRule_53 : decode cX7_setsRule 53 = .ok (.iadd, 1) := dk_96 (dk_at dksX7_setsRule_2 7 rfl rfl)
theorem dX7_setsRule_54 : decode cX7_setsRule 54 = .ok (.dup2, 1) := dk_92 (dk_at dksX7_setsRule_2 8 rfl rfl)
theorem dX7_setsRule_55 : decode cX7_setsRule 55 = .ok (.iaload, 1) := dk_46 (dk_at dksX7_setsRule_2 9 rfl rfl)
theorem dX7_setsRule_56 : decode cX7_setsRule 56 = .ok (.iconst 1, 1) := dk_4 (dk_at dksX7_setsRule_2 10 rfl rfl)
theorem dX7_setsRule_57 : decode cX7_setsRule 57 = .ok (.iadd, 1) := dk_96 (dk_at dksX7_setsRule_2 11 rfl rfl)
theorem dX7_setsRule_58 : decode cX7_setsRule 58 = .ok (.iastore, 1) := dk_79 (dk_at dksX7_setsRule_2 12 rfl rfl)
theorem dX7_setsRule_59 : decode cX7_setsRule 59 = .ok (.aload_n 0, 1) := dk_42 (dk_at dksX7_setsRule_2 13 rfl rfl)
theorem dX7_setsRule_60 : decode cX7_setsRule 60 = .ok (.getfield 7, 3) := dk_180 0 7 (dk_at dksX7_setsRule_2 14 rfl rfl)
theorem dX7_setsRule_63 : decode cX7_setsRule 63 = .ok (.sipush 16510, 3) := dk_17 64 126 (dk_at dksX7_setsRule_2 17 rfl rfl)
theorem dX7_setsRule_66 : decode cX7_setsRule 66 = .ok (.dup2, 1) := dk_92 (dk_at dksX7_setsRule_2 20 rfl rfl)
theorem dX7_setsRule_67 : decode cX7_setsRule 67 = .ok (.iaload, 1) := dk_46 (dk_at dksX7_setsRule_2 21 rfl rfl)
theorem dX7_setsRule_68 : decode cX7_setsRule 68 = .ok (.iconst 1, 1) := dk_4 (dk_at dksX7_setsRule_2 22 rfl rfl)
theorem dX7_setsRule_69 : decode cX7_setsRule 69 = .ok (.iadd, 1) := dk_96 (dk_at dksX7_setsRule_2 23 rfl rfl)
theorem dX7_setsRule_70 : decode cX7_setsRule 70 = .ok (.iastore, 1) := dk_79 (dk_at dksX7_setsRule_3 0 rfl rfl)
theorem dX7_setsRule_71 : decode cX7_setsRule 71 = .ok (.aload_n 0, 1) := dk_42 (dk_at dksX7_setsRule_3 1 rfl rfl)
theorem dX7_setsRule_72 : decode cX7_setsRule 72 = .ok (.getfield 7, 3) := dk_180 0 7 (dk_at dksX7_setsRule_3 2 rfl rfl)
theorem dX7_setsRule_75 : decode cX7_setsRule 75 = .ok (.iload_n 2, 1) := dk_28 (dk_at dksX7_setsRule_3 5 rfl rfl)
theorem dX7_setsRule_76 : decode cX7_setsRule 76 = .ok (.bipush 7, 2) := dk_16 7 (dk_at dksX7_setsRule_3 6 rfl rfl)
theorem dX7_setsRule_78 : decode cX7_setsRule 78 = .ok (.iadd, 1) := dk_96 (dk_at dksX7_setsRule_3 8 rfl rfl)
theorem dX7_setsRule_79 : decode cX7_setsRule 79 = .ok (.iaload, 1) := dk_46 (dk_at dksX7_setsRule_3 9 rfl rfl)
theorem dX7_setsRule_80 : decode cX7_setsRule 80 = .ok (.ireturn, 1) := dk_172 (dk_at dksX7_setsRule_3 10 rfl rfl)
abbrev cX7_figureLetter : ByteArray := prog_17_method_54_code
def yX7_figureLetter : MethodName := ⟨RX7, "figureLetter", "(I)I"⟩
def dkwX7_figureLetter_0 : List UInt8 := [26, 16, 48, 160, 0, 8, 16, 10, 167, 0, 7, 26, 16, 48, 100, 172]
abbrev dktX7_figureLetter_0 : List UInt8 := dkwX7_figureLetter_0 ++ []
theorem dksX7_figureLetter_0 : cX7_figureLetter.data.toList.drop 0 = dktX7_figureLetter_0 := by decide +kernel
theorem dX7_figureLetter_0 : decode cX7_figureLetter 0 = .ok (.iload_n 0, 1) := dk_26 (dk_at dksX7_figureLetter_0 0 rfl rfl)
theorem dX7_figureLetter_1 : decode cX7_figureLetter 1 = .ok (.bipush 48, 2) := dk_16 48 (dk_at dksX7_figureLetter_0 1 rfl rfl)
theorem dX7_figureLetter_3 : decode cX7_figureLetter 3 = .ok (.if_icmp .ne 8, 3) := dk_160 0 8 (dk_at dksX7_figureLetter_0 3 rfl rfl)
theorem dX7_figureLetter_6 : decode cX7_figureLetter 6 = .ok (.bipush 10, 2) := dk_16 10 (dk_at dksX7_figureLetter_0 6 rfl rfl)
theorem dX7_figureLetter_8 : decode cX7_figureLetter 8 = .ok (.goto 7, 3) := dk_167 0 7 (dk_at dksX7_figureLetter_0 8 rfl rfl)
theorem dX7_figureLetter_11 : decode cX7_figureLetter 11 = .ok (.iload_n 0, 1) := dk_26 (dk_at dksX7_figureLetter_0 11 rfl rfl)
theorem dX7_figureLetter_12 : decode cX7_figureLetter 12 = .ok (.bipush 48, 2) := dk_16 48 (dk_at dksX7_figureLetter_0 12 rfl rfl)
theorem dX7_figureLetter_14 : decode cX7_figureLetter 14 = .ok (.isub, 1) := dk_100 (dk_at dksX7_figureLetter_0 14 rfl rfl)
theorem dX7_figureLetter_15 : decode cX7_figureLetter 15 = .ok (.ireturn, 1) := dk_172 (dk_at dksX7_figureLetter_0 15 rfl rfl)
abbrev cX7_justOf : ByteArray := prog_17_method_49_code
def yX7_justOf : MethodName := ⟨RX7, "justOf", "(II)I"⟩
def dkwX7_justOf_3 : List UInt8 := [2, 172]
abbrev dktX7_justOf_3 : List UInt8 := dkwX7_justOf_3 ++ []
def dkwX7_justOf_2 : List UInt8 := [160, 0, 18, 42, 180, 0, 7, 21, 4, 16, 11, 96, 46, 154, 0, 5, 29, 172, 132, 3, 1, 167, 255, 189]
abbrev dktX7_justOf_2 : List UInt8 := dkwX7_justOf_2 ++ dktX7_justOf_3
def dkwX7_justOf_1 : List UInt8 := [154, 0, 42, 42, 180, 0, 7, 21, 4, 46, 4, 160, 0, 31, 42, 180, 0, 7, 21, 4, 4, 96, 46, 27]
abbrev dktX7_justOf_1 : List UInt8 := dkwX7_justOf_1 ++ dktX7_justOf_2
def dkwX7_justOf_0 : List UInt8 := [3, 62, 29, 42, 180, 0, 7, 3, 46, 162, 0, 63, 3, 29, 184, 0, 194, 54, 4, 28, 29, 184, 0, 249]
abbrev dktX7_justOf_0 : List UInt8 := dkwX7_justOf_0 ++ dktX7_justOf_1
theorem dksX7_justOf_0 : cX7_justOf.data.toList.drop 0 = dktX7_justOf_0 := by decide +kernel
theorem dksX7_justOf_1 : cX7_justOf.data.toList.drop 24 = dktX7_justOf_1 := dk_seg dksX7_justOf_0 24 rfl rfl
theorem dksX7_justOf_2 : cX7_justOf.data.toList.drop 48 = dktX7_justOf_2 := dk_seg dksX7_justOf_1 24 rfl rfl
theorem dksX7_justOf_3 : cX7_justOf.data.toList.drop 72 = dktX7_justOf_3 := dk_seg dksX7_justOf_2 24 rfl rfl
theorem dX7_justOf_0 : decode cX7_justOf 0 = .ok (.iconst 0, 1) := dk_3 (dk_at dksX7_justOf_0 0 rfl rfl)
theorem dX7_justOf_1 : decode cX7_justOf 1 = .ok (.istore_n 3, 1) := dk_62 (dk_at dksX7_justOf_0 1 rfl rfl)
theorem dX7_justOf_2 : decode cX7_justOf 2 = .ok (.iload_n 3, 1) := dk_29 (dk_at dksX7_justOf_0 2 rfl rfl)
theorem dX7_justOf_3 : decode cX7_justOf 3 = .ok (.aload_n 0, 1) := dk_42 (dk_at dksX7_justOf_0 3 rfl rfl)
theorem dX7_justOf_4 : decode cX7_justOf 4 = .ok (.getfield 7, 3) := dk_180 0 7 (dk_at dksX7_justOf_0 4 rfl rfl)
theorem dX7_justOf_7 : decode cX7_justOf 7 = .ok (.iconst 0, 1) := dk_3 (dk_at dksX7_justOf_0 7 rfl rfl)
theorem dX7_justOf_8 : decode cX7_justOf 8 = .ok (.iaload, 1) := dk_46 (dk_at dksX7_justOf_0 8 rfl rfl)
theorem dX7_justOf_9 : decode cX7_justOf 9 = .ok (.if_icmp .ge 63, 3) := dk_162 0 63 (dk_at dksX7_justOf_0 9 rfl rfl)
theorem dX7_justOf_12 : decode cX7_justOf 12 = .ok (.iconst 0, 1) := dk_3 (dk_at dksX7_justOf_0 12 rfl rfl)
theorem dX7_justOf_13 : decode cX7_justOf 13 = .ok (.iload_n 3, 1) := dk_29 (dk_at dksX7_justOf_0 13 rfl rfl)
theorem dX7_justOf_14 : decode cX7_justOf 14 = .ok (.invokestatic 194, 3) := dk_184 0 194 (dk_at dksX7_justOf_0 14 rfl rfl)
theorem dX7_justOf_17 : decode cX7_justOf 17 = .ok (.istore 4, 2) := dk_54 4 (dk_at dksX7_justOf_0 17 rfl rfl)
theorem dX7_justOf_19 : decode cX7_justOf 19 = .ok (.iload_n 2, 1) := dk_28 (dk_at dksX7_justOf_0 19 rfl rfl)
theorem dX7_justOf_20 : decode cX7_justOf 20 = .ok (.iload_n 3, 1) := dk_29 (dk_at dksX7_justOf_0 20 rfl rfl)
theorem dX7_justOf_21 : decode cX7_justOf 21 = .ok (.invokestatic 249, 3) := dk_184 0 249 (dk_at dksX7_justOf_0 21 rfl rfl)
theorem dX7_justOf_24 : decode cX7_justOf 24 = .ok (.ifCond .ne 42, 3) := dk_154 0 42 (dk_at dksX7_justOf_1 0 rfl rfl)
theorem dX7_justOf_27 : decode cX7_justOf 27 = .ok (.aload_n 0, 1) := dk_42 (dk_at dksX7_justOf_1 3 rfl rfl)
theorem dX7_justOf_28 : decode cX7_justOf 28 = .ok (.getfield 7, 3) := dk_180 0 7 (dk_at dksX7_justOf_1 4 rfl rfl)
theorem dX7_justOf_31 : decode cX7_justOf 31 = .ok (.iload 4, 2) := dk_21 4 (dk_at dksX7_justOf_1 7 rfl rfl)
theorem dX7_justOf_33 : decode cX7_justOf 33 = .ok (.iaload, 1) := dk_46 (dk_at dksX7_justOf_1 9 rfl rfl)
theorem dX7_justOf_34 : decode cX7_justOf 34 = .ok (.iconst 1, 1) := dk_4 (dk_at dksX7_justOf_1 10 rfl rfl)
theorem dX7_justOf_35 : decode cX7_justOf 35 = .ok (.if_icmp .ne 31, 3) := dk_160 0 31 (dk_at dksX7_justOf_1 11 rfl rfl)
theorem dX7_justOf_38 : decode cX7_justOf 38 = .ok (.aload_n 0, 1) := dk_42 (dk_at dksX7_justOf_1 14 rfl rfl)
theorem dX7_justOf_39 : decode cX7_justOf 39 = .ok (.getfield 7, 3) := dk_180 0 7 (dk_at dksX7_justOf_1 15 rfl rfl)
theorem dX7_justOf_42 : decode cX7_justOf 42 = .ok (.iload 4, 2) := dk_21 4 (dk_at dksX7_justOf_1 18 rfl rfl)
theorem dX7_justOf_44 : decode cX7_justOf 44 = .ok (.iconst 1, 1) := dk_4 (dk_at dksX7_justOf_1 20 rfl rfl)
theorem dX7_justOf_45 : decode cX7_justOf 45 = .ok (.iadd, 1) := dk_96 (dk_at dksX7_justOf_1 21 rfl rfl)
theorem dX7_justOf_46 : decode cX7_justOf 46 = .ok (.iaload, 1) := dk_46 (dk_at dksX7_justOf_1 22 rfl rfl)
theorem dX7_justOf_47 : decode cX7_justOf 47 = .ok (.iload_n 1, 1) := dk_27 (dk_at dksX7_justOf_1 23 rfl rfl)
theorem dX7_justOf_48 : decode cX7_justOf 48 = .ok (.if_icmp .ne 18, 3) := dk_160 0 18 (dk_at dksX7_justOf_2 0 rfl rfl)
theorem dX7_justOf_51 : decode cX7_justOf 51 = .ok (.aload_n 0, 1) := dk_42 (dk_at dksX7_justOf_2 3 rfl rfl)
theorem dX7_justOf_52 : decode cX7_justOf 52 = .ok (.getfield 7, 3) := dk_180 0 7 (dk_at dksX7_justOf_2 4 rfl rfl)
theorem dX7_justOf_55 : decode cX7_justOf 55 = .ok (.iload 4, 2) := dk_21 4 (dk_at dksX7_justOf_2 7 rfl rfl)
theorem dX7_justOf_57 : decode cX7_justOf 57 = .ok (.bipush 11, 2) := dk_16 11 (dk_at dksX7_justOf_2 9 rfl rfl)
theorem dX7_justOf_59 : decode cX7_justOf 59 = .ok (.iadd, 1) := dk_96 (dk_at dksX7_justOf_2 11 rfl rfl)
theorem dX7_justOf_60 : decode cX7_justOf 60 = .ok (.iaload, 1) := dk_46 (dk_at dksX7_justOf_2 12 rfl rfl)
theorem dX7_justOf_61 : decode cX7_justOf 61 = .ok (.ifCond .ne 5, 3) := dk_154 0 5 (dk_at dksX7_justOf_2 13 rfl rfl)
theorem dX7_justOf_64 : decode cX7_justOf 64 = .ok (.iload_n 3, 1) := dk_29 (dk_at dksX7_justOf_2 16 rfl rfl)
theorem dX7_justOf_65 : decode cX7_justOf 65 = .ok (.ireturn, 1) := dk_172 (dk_at dksX7_justOf_2 17 rfl rfl)
theorem dX7_justOf_66 : decode cX7_justOf 66 = .ok (.iinc 3 1, 3) := dk_132 3 1 (dk_at dksX7_justOf_2 18 rfl rfl)
theorem dX7_justOf_69 : decode cX7_justOf 69 = .ok (.goto (-67), 3) := dk_167 255 189 (dk_at dksX7_justOf_2 21 rfl rfl)
theorem dX7_justOf_72 : decode cX7_justOf 72 = .ok (.iconst (-1), 1) := dk_2 (dk_at dksX7_justOf_3 0 rfl rfl)
theorem dX7_justOf_73 : decode cX7_justOf 73 = .ok (.ireturn, 1) := dk_172 (dk_at dksX7_justOf_3 1 rfl rfl)
abbrev cX7_takesSet : ByteArray := prog_17_method_56_code
def yX7_takesSet : MethodName := ⟨RX7, "takesSet", "()V"⟩
def dkwX7_takesSet_2 : List UInt8 := [180, 0, 7, 17, 64, 116, 27, 96, 46, 79, 132, 1, 1, 167, 255, 230, 177]
abbrev dktX7_takesSet_2 : List UInt8 := dkwX7_takesSet_2 ++ []
def dkwX7_takesSet_1 : List UInt8 := [79, 132, 1, 1, 167, 255, 231, 17, 1, 44, 60, 27, 17, 12, 228, 162, 0, 25, 42, 180, 0, 7, 27, 42]
abbrev dktX7_takesSet_1 : List UInt8 := dkwX7_takesSet_1 ++ dktX7_takesSet_2
def dkwX7_takesSet_0 : List UInt8 := [16, 7, 60, 27, 16, 12, 162, 0, 25, 42, 180, 0, 7, 27, 42, 180, 0, 7, 17, 64, 116, 27, 96, 46]
abbrev dktX7_takesSet_0 : List UInt8 := dkwX7_takesSet_0 ++ dktX7_takesSet_1
theorem dksX7_takesSet_0 : cX7_takesSet.data.toList.drop 0 = dktX7_takesSet_0 := by decide +kernel
theorem dksX7_takesSet_1 : cX7_takesSet.data.toList.drop 24 = dktX7_takesSet_1 := dk_seg dksX7_takesSet_0 24 rfl rfl
theorem dksX7_takesSet_2 : cX7_takesSet.data.toList.drop 48 = dktX7_takesSet_2 := dk_seg dksX7_takesSet_1 24 rfl rfl
theorem dX7_takesSet_0 : decode cX7_takesSet 0 = .ok (.bipush 7, 2) := dk_16 7 (dk_at dksX7_takesSet_0 0 rfl rfl)
theorem dX7_takesSet_2 : decode cX7_takesSet 2 = .ok (.istore_n 1, 1) := dk_60 (dk_at dksX7_takesSet_0 2 rfl rfl)
theorem dX7_takesSet_3 : decode cX7_takesSet 3 = .ok (.iload_n 1, 1) := dk_27 (dk_at dksX7_takesSet_0 3 rfl rfl)
theorem dX7_takesSet_4 : decode cX7_takesSet 4 = .ok (.bipush 12, 2) := dk_16 12 (dk_at dksX7_takesSet_0 4 rfl rfl)
theorem dX7_takesSet_6 : decode cX7_takesSet 6 = .ok (.if_icmp .ge 25, 3) := dk_162 0 25 (dk_at dksX7_takesSet_0 6 rfl rfl)
theorem dX7_takesSet_9 : decode cX7_takesSet 9 = .ok (.aload_n 0, 1) := dk_42 (dk_at dksX7_takesSet_0 9 rfl rfl)
theorem dX7_takesSet_10 : decode cX7_takesSet 10 = .ok (.getfield 7, 3) := dk_180 0 7 (dk_at dksX7_takesSet_0 10 rfl rfl)
theorem dX7_takesSet_13 : decode cX7_takesSet 13 = .ok (.iload_n 1, 1) := dk_27 (dk_at dksX7_takesSet_0 13 rfl rfl)
theorem dX7_takesSet_14 : decode cX7_takesSet 14 = .ok (.aload_n 0, 1) := dk_42 (dk_at dksX7_takesSet_0 14 rfl rfl)
theorem dX7_takesSet_15 : decode cX7_takesSet 15 = .ok (.getfield 7, 3) := dk_180 0 7 (dk_at dksX7_takesSet_0 15 rfl rfl)
theorem dX7_takesSet_18 : decode cX7_takesSet 18 = .ok (.sipush 16500, 3) := dk_17 64 116 (dk_at dksX7_takesSet_0 18 rfl rfl)
theorem dX7_takesSet_21 : decode cX7_takesSet 21 = .ok (.iload_n 1, 1) := dk_27 (dk_at dksX7_takesSet_0 21 rfl rfl)
theorem dX7_takesSet_22 : decode cX7_takesSet 22 = .ok (.iadd, 1) := dk_96 (dk_at dksX7_takesSet_0 22 rfl rfl)
theorem dX7_takesSet_23 : decode cX7_takesSet 23 = .ok (.iaload, 1) := dk_46 (dk_at dksX7_takesSet_0 23 rfl rfl)
theorem dX7_takesSet_24 : decode cX7_takesSet 24 = .ok (.iastore, 1) := dk_79 (dk_at dksX7_takesSet_1 0 rfl rfl)
theorem dX7_takesSet_25 : decode cX7_takesSet 25 = .ok (.iinc 1 1, 3) := dk_132 1 1 (dk_at dksX7_takesSet_1 1 rfl rfl)
theorem dX7_takesSet_28 : decode cX7_takesSet 28 = .ok (.goto (-25), 3) := dk_167 255 231 (dk_at dksX7_takesSet_1 4 rfl rfl)
theorem dX7_takesSet_31 : decode cX7_takesSet 31 = .ok (.sipush 300, 3) := dk_17 1 44 (dk_at dksX7_takesSet_1 7 rfl rfl)
theorem dX7_takesSet_34 : decode cX7_takesSet 34 = .ok (.istore_n 1, 1) := dk_60 (dk_at dksX7_takesSet_1 10 rfl rfl)
theorem dX7_takesSet_35 : decode cX7_takesSet 35 = .ok (.iload_n 1, 1) := dk_27 (dk_at dksX7_takesSet_1 11 rfl rfl)
theorem dX7_takesSet_36 : decode cX7_takesSet 36 = .ok (.sipush 3300, 3) := dk_17 12 228 (dk_at dksX7_takesSet_1 12 rfl rfl)
theorem dX7_takesSet_39 : decode cX7_takesSet 39 = .ok (.if_icmp .ge 25, 3) := dk_162 0 25 (dk_at dksX7_takesSet_1 15 rfl rfl)
theorem dX7_takesSet_42 : decode cX7_takesSet 42 = .ok (.aload_n 0, 1) := dk_42 (dk_at dksX7_takesSet_1 18 rfl rfl)
theorem dX7_takesSet_43 : decode cX7_takesSet 43 = .ok (.getfield 7, 3) := dk_180 0 7 (dk_at dksX7_takesSet_1 19 rfl rfl)
theorem dX7_takesSet_46 : decode cX7_takesSet 46 = .ok (.iload_n 1, 1) := dk_27 (dk_at dksX7_takesSet_1 22 rfl rfl)
theorem dX7_takesSet_47 : decode cX7_takesSet 47 = .ok (.aload_n 0, 1) := dk_42 (dk_at dksX7_takesSet_1 23 rfl rfl)
theorem dX7_takesSet_48 : decode cX7_takesSet 48 = .ok (.getfield 7, 3) := dk_180 0 7 (dk_at dksX7_takesSet_2 0 rfl rfl)
theorem dX7_takesSet_51 : decode cX7_takesSet 51 = .ok (.sipush 16500, 3) := dk_17 64 116 (dk_at dksX7_takesSet_2 3 rfl rfl)
theorem dX7_takesSet_54 : decode cX7_takesSet 54 = .ok (.iload_n 1, 1) := dk_27 (dk_at dksX7_takesSet_2 6 rfl rfl)
theorem dX7_takesSet_55 : decode cX7_takesSet 55 = .ok (.iadd, 1) := dk_96 (dk_at dksX7_takesSet_2 7 rfl rfl)
theorem dX7_takesSet_56 : decode cX7_takesSet 56 = .ok (.iaload, 1) := dk_46 (dk_at dksX7_takesSet_2 8 rfl rfl)
theorem dX7_takesSet_57 : decode cX7_takesSet 57 = .ok (.iastore, 1) := dk_79 (dk_at dksX7_takesSet_2 9 rfl rfl)
theorem dX7_takesSet_58 : decode cX7_takesSet 58 = .ok (.iinc 1 1, 3) := dk_132 1 1 (dk_at dksX7_takesSet_2 10 rfl rfl)
theorem dX7_takesSet_61 : decode cX7_takesSet 61 = .ok (.goto (-26), 3) := dk_167 255 230 (dk_at dksX7_takesSet_2 13 rfl rfl)
theorem dX7_takesSet_64 : decode cX7_takesSet 64 = .ok (.return_, 1) := dk_177 (dk_at dksX7_takesSet_2 16 rfl rfl)
abbrev cX7_told : ByteArray := prog_17_method_60_code
def yX7_told : MethodName := ⟨RX7, "told", "(I)I"⟩
def dkwX7_told_2 : List UInt8 := [180, 0, 7, 27, 46, 182, 0, 191, 172]
abbrev dktX7_told_2 : List UInt8 := dkwX7_told_2 ++ []
def dkwX7_told_1 : List UInt8 := [163, 0, 21, 42, 180, 0, 7, 27, 46, 154, 0, 12, 42, 16, 6, 182, 0, 188, 167, 0, 13, 42, 42]
abbrev dktX7_told_1 : List UInt8 := dkwX7_told_1 ++ dktX7_told_2
def dkwX7_told_0 : List UInt8 := [27, 155, 0, 9, 27, 16, 6, 164, 0, 9, 42, 4, 182, 0, 188, 172, 27, 4, 161, 0, 26, 27, 6]
abbrev dktX7_told_0 : List UInt8 := dkwX7_told_0 ++ dktX7_told_1
theorem dksX7_told_0 : cX7_told.data.toList.drop 0 = dktX7_told_0 := by decide +kernel
theorem dksX7_told_1 : cX7_told.data.toList.drop 23 = dktX7_told_1 := dk_seg dksX7_told_0 23 rfl rfl
theorem dksX7_told_2 : cX7_told.data.toList.drop 46 = dktX7_told_2 := dk_seg dksX7_told_1 23 rfl rfl
theorem dX7_told_0 : decode cX7_told 0 = .ok (.iload_n 1, 1) := dk_27 (dk_at dksX7_told_0 0 rfl rfl)
theorem dX7_told_1 : decode cX7_told 1 = .ok (.ifCond .lt 9, 3) := dk_155 0 9 (dk_at dksX7_told_0 1 rfl rfl)
theorem dX7_told_4 : decode cX7_told 4 = .ok (.iload_n 1, 1) := dk_27 (dk_at dksX7_told_0 4 rfl rfl)
theorem dX7_told_5 : decode cX7_told 5 = .ok (.bipush 6, 2) := dk_16 6 (dk_at dksX7_told_0 5 rfl rfl)
theorem dX7_told_7 : decode cX7_told 7 = .ok (.if_icmp .le 9, 3) := dk_164 0 9 (dk_at dksX7_told_0 7 rfl rfl)
theorem dX7_told_10 : decode cX7_told 10 = .ok (.aload_n 0, 1) := dk_42 (dk_at dksX7_told_0 10 rfl rfl)
theorem dX7_told_11 : decode cX7_told 11 = .ok (.iconst 1, 1) := dk_4 (dk_at dksX7_told_0 11 rfl rfl)
theorem dX7_told_12 : decode cX7_told 12 = .ok (.invokevirtual 188, 3) := dk_182 0 188 (dk_at dksX7_told_0 12 rfl rfl)
theorem dX7_told_15 : decode cX7_told 15 = .ok (.ireturn, 1) := dk_172 (dk_at dksX7_told_0 15 rfl rfl)
theorem dX7_told_16 : decode cX7_told 16 = .ok (.iload_n 1, 1) := dk_27 (dk_at dksX7_told_0 16 rfl rfl)
theorem dX7_told_17 : decode cX7_told 17 = .ok (.iconst 1, 1) := dk_4 (dk_at dksX7_told_0 17 rfl rfl)
theorem dX7_told_18 : decode cX7_told 18 = .ok (.if_icmp .lt 26, 3) := dk_161 0 26 (dk_at dksX7_told_0 18 rfl rfl)
theorem dX7_told_21 : decode cX7_told 21 = .ok (.iload_n 1, 1) := dk_27 (dk_at dksX7_told_0 21 rfl rfl)
theorem dX7_told_22 : decode cX7_told 22 = .ok (.iconst 3, 1) := dk_6 (dk_at dksX7_told_0 22 rfl rfl)
theorem dX7_told_23 : decode cX7_told 23 = .ok (.if_icmp .gt 21, 3) := dk_163 0 21 (dk_at dksX7_told_1 0 rfl rfl)
theorem dX7_told_26 : decode cX7_told 26 = .ok (.aload_n 0, 1) := dk_42 (dk_at dksX7_told_1 3 rfl rfl)
theorem dX7_told_27 : decode cX7_told 27 = .ok (.getfield 7, 3) := dk_180 0 7 (dk_at dksX7_told_1 4 rfl rfl)
theorem dX7_told_30 : decode cX7_told 30 = .ok (.iload_n 1, 1) := dk_27 (dk_at dksX7_told_1 7 rfl rfl)
theorem dX7_told_31 : decode cX7_told 31 = .ok (.iaload, 1) := dk_46 (dk_at dksX7_told_1 8 rfl rfl)
theorem dX7_told_32 : decode cX7_told 32 = .ok (.ifCond .ne 12, 3) := dk_154 0 12 (dk_at dksX7_told_1 9 rfl rfl)
theorem dX7_told_35 : decode cX7_told 35 = .ok (.aload_n 0, 1) := dk_42 (dk_at dksX7_told_1 12 rfl rfl)
theorem dX7_told_36 : decode cX7_told 36 = .ok (.bipush 6, 2) := dk_16 6 (dk_at dksX7_told_1 13 rfl rfl)
theorem dX7_told_38 : decode cX7_told 38 = .ok (.invokevirtual 188, 3) := dk_182 0 188 (dk_at dksX7_told_1 15 rfl rfl)
theorem dX7_told_41 : decode cX7_told 41 = .ok (.goto 13, 3) := dk_167 0 13 (dk_at dksX7_told_1 18 rfl rfl)
theorem dX7_told_44 : decode cX7_told 44 = .ok (.aload_n 0, 1) := dk_42 (dk_at dksX7_told_1 21 rfl rfl)
theorem dX7_told_45 : decode cX7_told 45 = .ok (.aload_n 0, 1) := dk_42 (dk_at dksX7_told_1 22 rfl rfl)
theorem dX7_told_46 : decode cX7_told 46 = .ok (.getfield 7, 3) := dk_180 0 7 (dk_at dksX7_told_2 0 rfl rfl)
theorem dX7_told_49 : decode cX7_told 49 = .ok (.iload_n 1, 1) := dk_27 (dk_at dksX7_told_2 3 rfl rfl)
theorem dX7_told_50 : decode cX7_told 50 = .ok (.iaload, 1) := dk_46 (dk_at dksX7_told_2 4 rfl rfl)
theorem dX7_told_51 : decode cX7_told 51 = .ok (.invokevirtual 191, 3) := dk_182 0 191 (dk_at dksX7_told_2 5 rfl rfl)
theorem dX7_told_54 : decode cX7_told 54 = .ok (.ireturn, 1) := dk_172 (dk_at dksX7_told_2 8 rfl rfl)
abbrev cX7_rule : ByteArray := prog_17_method_61_code
def yX7_rule : MethodName := ⟨RX7, "rule", "(II)I"⟩
def dkwX7_rule_2 : List UInt8 := [167, 0, 5, 16, 11, 96, 46, 182, 0, 191, 172]
abbrev dktX7_rule_2 : List UInt8 := dkwX7_rule_2 ++ []
def dkwX7_rule_1 : List UInt8 := [42, 180, 0, 7, 3, 27, 184, 0, 194, 28, 154, 0, 7, 3, 167, 0, 15, 28, 4, 160, 0, 8, 16, 7]
abbrev dktX7_rule_1 : List UInt8 := dkwX7_rule_1 ++ dktX7_rule_2
def dkwX7_rule_0 : List UInt8 := [42, 27, 182, 1, 41, 153, 0, 12, 28, 155, 0, 8, 28, 5, 164, 0, 9, 42, 4, 182, 0, 188, 172, 42]
abbrev dktX7_rule_0 : List UInt8 := dkwX7_rule_0 ++ dktX7_rule_1
theorem dksX7_rule_0 : cX7_rule.data.toList.drop 0 = dktX7_rule_0 := by decide +kernel
theorem dksX7_rule_1 : cX7_rule.data.toList.drop 24 = dktX7_rule_1 := dk_seg dksX7_rule_0 24 rfl rfl
theorem dksX7_rule_2 : cX7_rule.data.toList.drop 48 = dktX7_rule_2 := dk_seg dksX7_rule_1 24 rfl rfl
theorem dX7_rule_0 : decode cX7_rule 0 = .ok (.aload_n 0, 1) := dk_42 (dk_at dksX7_rule_0 0 rfl rfl)
theorem dX7_rule_1 : decode cX7_rule 1 = .ok (.iload_n 1, 1) := dk_27 (dk_at dksX7_rule_0 1 rfl rfl)
theorem dX7_rule_2 : decode cX7_rule 2 = .ok (.invokevirtual 297, 3) := dk_182 1 41 (dk_at dksX7_rule_0 2 rfl rfl)
theorem dX7_rule_5 : decode cX7_rule 5 = .ok (.ifCond .eq 12, 3) := dk_153 0 12 (dk_at dksX7_rule_0 5 rfl rfl)
theorem dX7_rule_8 : decode cX7_rule 8 = .ok (.iload_n 2, 1) := dk_28 (dk_at dksX7_rule_0 8 rfl rfl)
theorem dX7_rule_9 : decode cX7_rule 9 = .ok (.ifCond .lt 8, 3) := dk_155 0 8 (dk_at dksX7_rule_0 9 rfl rfl)
theorem dX7_rule_12 : decode cX7_rule 12 = .ok (.iload_n 2, 1) := dk_28 (dk_at dksX7_rule_0 12 rfl rfl)
theorem dX7_rule_13 : decode cX7_rule 13 = .ok (.iconst 2, 1) := dk_5 (dk_at dksX7_rule_0 13 rfl rfl)
theorem dX7_rule_14 : decode cX7_rule 14 = .ok (.if_icmp .le 9, 3) := dk_164 0 9 (dk_at dksX7_rule_0 14 rfl rfl)
theorem dX7_rule_17 : decode cX7_rule 17 = .ok (.aload_n 0, 1) := dk_42 (dk_at dksX7_rule_0 17 rfl rfl)
theorem dX7_rule_18 : decode cX7_rule 18 = .ok (.iconst 1, 1) := dk_4 (dk_at dksX7_rule_0 18 rfl rfl)
theorem dX7_rule_19 : decode cX7_rule 19 = .ok (.invokevirtual 188, 3) := dk_182 0 188 (dk_at dksX7_rule_0 19 rfl rfl)
theorem dX7_rule_22 : decode cX7_rule 22 = .ok (.ireturn, 1) := dk_172 (dk_at dksX7_rule_0 22 rfl rfl)
theorem dX7_rule_23 : decode cX7_rule 23 = .ok (.aload_n 0, 1) := dk_42 (dk_at dksX7_rule_0 23 rfl rfl)
theorem dX7_rule_24 : decode cX7_rule 24 = .ok (.aload_n 0, 1) := dk_42 (dk_at dksX7_rule_1 0 rfl rfl)
theorem dX7_rule_25 : decode cX7_rule 25 = .ok (.getfield 7, 3) := dk_180 0 7 (dk_at dksX7_rule_1 1 rfl rfl)
theorem dX7_rule_28 : decode cX7_rule 28 = .ok (.iconst 0, 1) := dk_3 (dk_at dksX7_rule_1 4 rfl rfl)
theorem dX7_rule_29 : decode cX7_rule 29 = .ok (.iload_n 1, 1) := dk_27 (dk_at dksX7_rule_1 5 rfl rfl)
theorem dX7_rule_30 : decode cX7_rule 30 = .ok (.invokestatic 194, 3) := dk_184 0 194 (dk_at dksX7_rule_1 6 rfl rfl)
theorem dX7_rule_33 : decode cX7_rule 33 = .ok (.iload_n 2, 1) := dk_28 (dk_at dksX7_rule_1 9 rfl rfl)
theorem dX7_rule_34 : decode cX7_rule 34 = .ok (.ifCond .ne 7, 3) := dk_154 0 7 (dk_at dksX7_rule_1 10 rfl rfl)
theorem dX7_rule_37 : decode cX7_rule 37 = .ok (.iconst 0, 1) := dk_3 (dk_at dksX7_rule_1 13 rfl rfl)
theorem dX7_rule_38 : decode cX7_rule 38 = .ok (.goto 15, 3) := dk_167 0 15 (dk_at dksX7_rule_1 14 rfl rfl)
theorem dX7_rule_41 : decode cX7_rule 41 = .ok (.iload_n 2, 1) := dk_28 (dk_at dksX7_rule_1 17 rfl rfl)
theorem dX7_rule_42 : decode cX7_rule 42 = .ok (.iconst 1, 1) := dk_4 (dk_at dksX7_rule_1 18 rfl rfl)
theorem dX7_rule_43 : decode cX7_rule 43 = .ok (.if_icmp .ne 8, 3) := dk_160 0 8 (dk_at dksX7_rule_1 19 rfl rfl)
theorem dX7_rule_46 : decode cX7_rule 46 = .ok (.bipush 7, 2) := dk_16 7 (dk_at dksX7_rule_1 22 rfl rfl)
theorem dX7_rule_48 : decode cX7_rule 48 = .ok (.goto 5, 3) := dk_167 0 5 (dk_at dksX7_rule_2 0 rfl rfl)
theorem dX7_rule_51 : decode cX7_rule 51 = .ok (.bipush 11, 2) := dk_16 11 (dk_at dksX7_rule_2 3 rfl rfl)
theorem dX7_rule_53 : decode cX7_rule 53 = .ok (.iadd, 1) := dk_96 (dk_at dksX7_rule_2 5 rfl rfl)
theorem dX7_rule_54 : decode cX7_rule 54 = .ok (.iaload, 1) := dk_46 (dk_at dksX7_rule_2 6 rfl rfl)
theorem dX7_rule_55 : decode cX7_rule 55 = .ok (.invokevirtual 191, 3) := dk_182 0 191 (dk_at dksX7_rule_2 7 rfl rfl)
theorem dX7_rule_58 : decode cX7_rule 58 = .ok (.ireturn, 1) := dk_172 (dk_at dksX7_rule_2 10 rfl rfl)
abbrev cX7_isRule : ByteArray := prog_17_method_59_code
def yX7_isRule : MethodName := ⟨RX7, "isRule", "(I)Z"⟩
def dkwX7_isRule_0 : List UInt8 := [27, 155, 0, 17, 27, 42, 180, 0, 7, 3, 46, 162, 0, 7, 4, 167, 0, 4, 3, 172]
abbrev dktX7_isRule_0 : List UInt8 := dkwX7_isRule_0 ++ []
theorem dksX7_isRule_0 : cX7_isRule.data.toList.drop 0 = dktX7_isRule_0 := by decide +kernel
theorem dX7_isRule_0 : decode cX7_isRule 0 = .ok (.iload_n 1, 1) := dk_27 (dk_at dksX7_isRule_0 0 rfl rfl)
theorem dX7_isRule_1 : decode cX7_isRule 1 = .ok (.ifCond .lt 17, 3) := dk_155 0 17 (dk_at dksX7_isRule_0 1 rfl rfl)
theorem dX7_isRule_4 : decode cX7_isRule 4 = .ok (.iload_n 1, 1) := dk_27 (dk_at dksX7_isRule_0 4 rfl rfl)
theorem dX7_isRule_5 : decode cX7_isRule 5 = .ok (.aload_n 0, 1) := dk_42 (dk_at dksX7_isRule_0 5 rfl rfl)
theorem dX7_isRule_6 : decode cX7_isRule 6 = .ok (.getfield 7, 3) := dk_180 0 7 (dk_at dksX7_isRule_0 6 rfl rfl)
theorem dX7_isRule_9 : decode cX7_isRule 9 = .ok (.iconst 0, 1) := dk_3 (dk_at dksX7_isRule_0 9 rfl rfl)
theorem dX7_isRule_10 : decode cX7_isRule 10 = .ok (.iaload, 1) := dk_46 (dk_at dksX7_isRule_0 10 rfl rfl)
theorem dX7_isRule_11 : decode cX7_isRule 11 = .ok (.if_icmp .ge 7, 3) := dk_162 0 7 (dk_at dksX7_isRule_0 11 rfl rfl)
theorem dX7_isRule_14 : decode cX7_isRule 14 = .ok (.iconst 1, 1) := dk_4 (dk_at dksX7_isRule_0 14 rfl rfl)
theorem dX7_isRule_15 : decode cX7_isRule 15 = .ok (.goto 4, 3) := dk_167 0 4 (dk_at dksX7_isRule_0 15 rfl rfl)
theorem dX7_isRule_18 : decode cX7_isRule 18 = .ok (.iconst 0, 1) := dk_3 (dk_at dksX7_isRule_0 18 rfl rfl)
theorem dX7_isRule_19 : decode cX7_isRule 19 = .ok (.ireturn, 1) := dk_172 (dk_at dksX7_isRule_0 19 rfl rfl)
abbrev cX7_letter : ByteArray := prog_17_method_62_code
def yX7_letter : MethodName := ⟨RX7, "letter", "(II)I"⟩
def dkwX7_letter_2 : List UInt8 := [184, 0, 194, 4, 96, 28, 96, 46, 182, 0, 191, 172]
abbrev dktX7_letter_2 : List UInt8 := dkwX7_letter_2 ++ []
def dkwX7_letter_1 : List UInt8 := [27, 184, 0, 194, 46, 161, 0, 12, 42, 16, 6, 182, 0, 188, 167, 0, 21, 42, 42, 180, 0, 7, 3, 27]
abbrev dktX7_letter_1 : List UInt8 := dkwX7_letter_1 ++ dktX7_letter_2
def dkwX7_letter_0 : List UInt8 := [42, 27, 182, 1, 41, 154, 0, 9, 42, 4, 182, 0, 188, 172, 28, 155, 0, 17, 28, 42, 180, 0, 7, 3]
abbrev dktX7_letter_0 : List UInt8 := dkwX7_letter_0 ++ dktX7_letter_1
theorem dksX7_letter_0 : cX7_letter.data.toList.drop 0 = dktX7_letter_0 := by decide +kernel
theorem dksX7_letter_1 : cX7_letter.data.toList.drop 24 = dktX7_letter_1 := dk_seg dksX7_letter_0 24 rfl rfl
theorem dksX7_letter_2 : cX7_letter.data.toList.drop 48 = dktX7_letter_2 := dk_seg dksX7_letter_1 24 rfl rfl
theorem dX7_letter_0 : decode cX7_letter 0 = .ok (.aload_n 0, 1) := dk_42 (dk_at dksX7_letter_0 0 rfl rfl)
theorem dX7_letter_1 : decode cX7_letter 1 = .ok (.iload_n 1, 1) := dk_27 (dk_at dksX7_letter_0 1 rfl rfl)
theorem dX7_letter_2 : decode cX7_letter 2 = .ok (.invokevirtual 297, 3) := dk_182 1 41 (dk_at dksX7_letter_0 2 rfl rfl)
theorem dX7_letter_5 : decode cX7_letter 5 = .ok (.ifCond .ne 9, 3) := dk_154 0 9 (dk_at dksX7_letter_0 5 rfl rfl)
theorem dX7_letter_8 : decode cX7_letter 8 = .ok (.aload_n 0, 1) := dk_42 (dk_at dksX7_letter_0 8 rfl rfl)
theorem dX7_letter_9 : decode cX7_letter 9 = .ok (.iconst 1, 1) := dk_4 (dk_at dksX7_letter_0 9 rfl rfl)
theorem dX7_letter_10 : decode cX7_letter 10 = .ok (.invokevirtual 188, 3) := dk_182 0 188 (dk_at dksX7_letter_0 10 rfl rfl)
theorem dX7_letter_13 : decode cX7_letter 13 = .ok (.ireturn, 1) := dk_172 (dk_at dksX7_letter_0 13 rfl rfl)
theorem dX7_letter_14 : decode cX7_letter 14 = .ok (.iload_n 2, 1) := dk_28 (dk_at dksX7_letter_0 14 rfl rfl)
theorem dX7_letter_15 : decode cX7_letter 15 = .ok (.ifCond .lt 17, 3) := dk_155 0 17 (dk_at dksX7_letter_0 15 rfl rfl)
theorem dX7_letter_18 : decode cX7_letter 18 = .ok (.iload_n 2, 1) := dk_28 (dk_at dksX7_letter_0 18 rfl rfl)
theorem dX7_letter_19 : decode cX7_letter 19 = .ok (.aload_n 0, 1) := dk_42 (dk_at dksX7_letter_0 19 rfl rfl)
theorem dX7_letter_20 : decode cX7_letter 20 = .ok (.getfield 7, 3) := dk_180 0 7 (dk_at dksX7_letter_0 20 rfl rfl)
theorem dX7_letter_23 : decode cX7_letter 23 = .ok (.iconst 0, 1) := dk_3 (dk_at dksX7_letter_0 23 rfl rfl)
theorem dX7_letter_24 : decode cX7_letter 24 = .ok (.iload_n 1, 1) := dk_27 (dk_at dksX7_letter_1 0 rfl rfl)
theorem dX7_letter_25 : decode cX7_letter 25 = .ok (.invokestatic 194, 3) := dk_184 0 194 (dk_at dksX7_letter_1 1 rfl rfl)
theorem dX7_letter_28 : decode cX7_letter 28 = .ok (.iaload, 1) := dk_46 (dk_at dksX7_letter_1 4 rfl rfl)
theorem dX7_letter_29 : decode cX7_letter 29 = .ok (.if_icmp .lt 12, 3) := dk_161 0 12 (dk_at dksX7_letter_1 5 rfl rfl)
theorem dX7_letter_32 : decode cX7_letter 32 = .ok (.aload_n 0, 1) := dk_42 (dk_at dksX7_letter_1 8 rfl rfl)
theorem dX7_letter_33 : decode cX7_letter 33 = .ok (.bipush 6, 2) := dk_16 6 (dk_at dksX7_letter_1 9 rfl rfl)
theorem dX7_letter_35 : decode cX7_letter 35 = .ok (.invokevirtual 188, 3) := dk_182 0 188 (dk_at dksX7_letter_1 11 rfl rfl)
theorem dX7_letter_38 : decode cX7_letter 38 = .ok (.goto 21, 3) := dk_167 0 21 (dk_at dksX7_letter_1 14 rfl rfl)
theorem dX7_letter_41 : decode cX7_letter 41 = .ok (.aload_n 0, 1) := dk_42 (dk_at dksX7_letter_1 17 rfl rfl)
theorem dX7_letter_42 : decode cX7_letter 42 = .ok (.aload_n 0, 1) := dk_42 (dk_at dksX7_letter_1 18 rfl rfl)
theorem dX7_letter_43 : decode cX7_letter 43 = .ok (.getfield 7, 3) := dk_180 0 7 (dk_at dksX7_letter_1 19 rfl rfl)
theorem dX7_letter_46 : decode cX7_letter 46 = .ok (.iconst 0, 1) := dk_3 (dk_at dksX7_letter_1 22 rfl rfl)
theorem dX7_letter_47 : decode cX7_letter 47 = .ok (.iload_n 1, 1) := dk_27 (dk_at dksX7_letter_1 23 rfl rfl)
theorem dX7_letter_48 : decode cX7_letter 48 = .ok (.invokestatic 194, 3) := dk_184 0 194 (dk_at dksX7_letter_2 0 rfl rfl)
theorem dX7_letter_51 : decode cX7_letter 51 = .ok (.iconst 1, 1) := dk_4 (dk_at dksX7_letter_2 3 rfl rfl)
theorem dX7_letter_52 : decode cX7_letter 52 = .ok (.iadd, 1) := dk_96 (dk_at dksX7_letter_2 4 rfl rfl)
theorem dX7_letter_53 : decode cX7_letter 53 = .ok (.iload_n 2, 1) := dk_28 (dk_at dksX7_letter_2 5 rfl rfl)
theorem dX7_letter_54 : decode cX7_letter 54 = .ok (.iadd, 1) := dk_96 (dk_at dksX7_letter_2 6 rfl rfl)
theorem dX7_letter_55 : decode cX7_letter 55 = .ok (.iaload, 1) := dk_46 (dk_at dksX7_letter_2 7 rfl rfl)
theorem dX7_letter_56 : decode cX7_letter 56 = .ok (.invokevirtual 191, 3) := dk_182 0 191 (dk_at dksX7_letter_2 8 rfl rfl)
theorem dX7_letter_59 : decode cX7_letter 59 = .ok (.ireturn, 1) := dk_172 (dk_at dksX7_letter_2 11 rfl rfl)
abbrev cX7_cellOf : ByteArray := prog_17_method_65_code
def yX7_cellOf : MethodName := ⟨RX7, "cellOf", "(II)I"⟩
def dkwX7_cellOf_1 : List UInt8 := [161, 0, 12, 42, 16, 6, 182, 0, 188, 167, 0, 13, 42, 42, 27, 28, 182, 1, 47, 182, 0, 191, 172]
abbrev dktX7_cellOf_1 : List UInt8 := dkwX7_cellOf_1 ++ []
def dkwX7_cellOf_0 : List UInt8 := [42, 27, 182, 1, 41, 154, 0, 9, 42, 4, 182, 0, 188, 172, 28, 155, 0, 12, 28, 42, 27, 182, 1, 44]
abbrev dktX7_cellOf_0 : List UInt8 := dkwX7_cellOf_0 ++ dktX7_cellOf_1
theorem dksX7_cellOf_0 : cX7_cellOf.data.toList.drop 0 = dktX7_cellOf_0 := by decide +kernel
theorem dksX7_cellOf_1 : cX7_cellOf.data.toList.drop 24 = dktX7_cellOf_1 := dk_seg dksX7_cellOf_0 24 rfl rfl
theorem dX7_cellOf_0 : decode cX7_cellOf 0 = .ok (.aload_n 0, 1) := dk_42 (dk_at dksX7_cellOf_0 0 rfl rfl)
theorem dX7_cellOf_1 : decode cX7_cellOf 1 = .ok (.iload_n 1, 1) := dk_27 (dk_at dksX7_cellOf_0 1 rfl rfl)
theorem dX7_cellOf_2 : decode cX7_cellOf 2 = .ok (.invokevirtual 297, 3) := dk_182 1 41 (dk_at dksX7_cellOf_0 2 rfl rfl)
theorem dX7_cellOf_5 : decode cX7_cellOf 5 = .ok (.ifCond .ne 9, 3) := dk_154 0 9 (dk_at dksX7_cellOf_0 5 rfl rfl)
theorem dX7_cellOf_8 : decode cX7_cellOf 8 = .ok (.aload_n 0, 1) := dk_42 (dk_at dksX7_cellOf_0 8 rfl rfl)
theorem dX7_cellOf_9 : decode cX7_cellOf 9 = .ok (.iconst 1, 1) := dk_4 (dk_at dksX7_cellOf_0 9 rfl rfl)
theorem dX7_cellOf_10 : decode cX7_cellOf 10 = .ok (.invokevirtual 188, 3) := dk_182 0 188 (dk_at dksX7_cellOf_0 10 rfl rfl)
theorem dX7_cellOf_13 : decode cX7_cellOf 13 = .ok (.ireturn, 1) := dk_172 (dk_at dksX7_cellOf_0 13 rfl rfl)
theorem dX7_cellOf_14 : decode cX7_cellOf 14 = .ok (.iload_n 2, 1) := dk_28 (dk_at dksX7_cellOf_0 14 rfl rfl)
theorem dX7_cellOf_15 : decode cX7_cellOf 15 = .ok (.ifCond .lt 12, 3) := dk_155 0 12 (dk_at dksX7_cellOf_0 15 rfl rfl)
theorem dX7_cellOf_18 : decode cX7_cellOf 18 = .ok (.iload_n 2, 1) := dk_28 (dk_at dksX7_cellOf_0 18 rfl rfl)
theorem dX7_cellOf_19 : decode cX7_cellOf 19 = .ok (.aload_n 0, 1) := dk_42 (dk_at dksX7_cellOf_0 19 rfl rfl)
theorem dX7_cellOf_20 : decode cX7_cellOf 20 = .ok (.iload_n 1, 1) := dk_27 (dk_at dksX7_cellOf_0 20 rfl rfl)
theorem dX7_cellOf_21 : decode cX7_cellOf 21 = .ok (.invokevirtual 300, 3) := dk_182 1 44 (dk_at dksX7_cellOf_0 21 rfl rfl)
theorem dX7_cellOf_24 : decode cX7_cellOf 24 = .ok (.if_icmp .lt 12, 3) := dk_161 0 12 (dk_at dksX7_cellOf_1 0 rfl rfl)
theorem dX7_cellOf_27 : decode cX7_cellOf 27 = .ok (.aload_n 0, 1) := dk_42 (dk_at dksX7_cellOf_1 3 rfl rfl)
theorem dX7_cellOf_28 : decode cX7_cellOf 28 = .ok (.bipush 6, 2) := dk_16 6 (dk_at dksX7_cellOf_1 4 rfl rfl)
theorem dX7_cellOf_30 : decode cX7_cellOf 30 = .ok (.invokevirtual 188, 3) := dk_182 0 188 (dk_at dksX7_cellOf_1 6 rfl rfl)
theorem dX7_cellOf_33 : decode cX7_cellOf 33 = .ok (.goto 13, 3) := dk_167 0 13 (dk_at dksX7_cellOf_1 9 rfl rfl)
theorem dX7_cellOf_36 : decode cX7_cellOf 36 = .ok (.aload_n 0, 1) := dk_42 (dk_at dksX7_cellOf_1 12 rfl rfl)
theorem dX7_cellOf_37 : decode cX7_cellOf 37 = .ok (.aload_n 0, 1) := dk_42 (dk_at dksX7_cellOf_1 13 rfl rfl)
theorem dX7_cellOf_38 : decode cX7_cellOf 38 = .ok (.iload_n 1, 1) := dk_27 (dk_at dksX7_cellOf_1 14 rfl rfl)
theorem dX7_cellOf_39 : decode cX7_cellOf 39 = .ok (.iload_n 2, 1) := dk_28 (dk_at dksX7_cellOf_1 15 rfl rfl)
theorem dX7_cellOf_40 : decode cX7_cellOf 40 = .ok (.invokevirtual 303, 3) := dk_182 1 47 (dk_at dksX7_cellOf_1 16 rfl rfl)
theorem dX7_cellOf_43 : decode cX7_cellOf 43 = .ok (.invokevirtual 191, 3) := dk_182 0 191 (dk_at dksX7_cellOf_1 19 rfl rfl)
theorem dX7_cellOf_46 : decode cX7_cellOf 46 = .ok (.ireturn, 1) := dk_172 (dk_at dksX7_cellOf_1 22 rfl rfl)
abbrev cX7_cellsOf : ByteArray := prog_17_method_63_code
def yX7_cellsOf : MethodName := ⟨RX7, "cellsOf", "(I)I"⟩
def dkwX7_cellsOf_0 : List UInt8 := [42, 180, 0, 7, 3, 27, 184, 0, 194, 16, 7, 96, 46, 172]
abbrev dktX7_cellsOf_0 : List UInt8 := dkwX7_cellsOf_0 ++ []
theorem dksX7_cellsOf_0 : cX7_cellsOf.data.toList.drop 0 = dktX7_cellsOf_0 := by decide +kernel
theorem dX7_cellsOf_0 : decode cX7_cellsOf 0 = .ok (.aload_n 0, 1) := dk_42 (dk_at dksX7_cellsOf_0 0 rfl rfl)
theorem dX7_cellsOf_1 : decode cX7_cellsOf 1 = .ok (.getfield 7, 3) := dk_180 0 7 (dk_at dksX7_cellsOf_0 1 rfl rfl)
theorem dX7_cellsOf_4 : decode cX7_cellsOf 4 = .ok (.iconst 0, 1) := dk_3 (dk_at dksX7_cellsOf_0 4 rfl rfl)
theorem dX7_cellsOf_5 : decode cX7_cellsOf 5 = .ok (.iload_n 1, 1) := dk_27 (dk_at dksX7_cellsOf_0 5 rfl rfl)
theorem dX7_cellsOf_6 : decode cX7_cellsOf 6 = .ok (.invokestatic 194, 3) := dk_184 0 194 (dk_at dksX7_cellsOf_0 6 rfl rfl)
theorem dX7_cellsOf_9 : decode cX7_cellsOf 9 = .ok (.bipush 7, 2) := dk_16 7 (dk_at dksX7_cellsOf_0 9 rfl rfl)
theorem dX7_cellsOf_11 : decode cX7_cellsOf 11 = .ok (.iadd, 1) := dk_96 (dk_at dksX7_cellsOf_0 11 rfl rfl)
theorem dX7_cellsOf_12 : decode cX7_cellsOf 12 = .ok (.iaload, 1) := dk_46 (dk_at dksX7_cellsOf_0 12 rfl rfl)
theorem dX7_cellsOf_13 : decode cX7_cellsOf 13 = .ok (.ireturn, 1) := dk_172 (dk_at dksX7_cellsOf_0 13 rfl rfl)
abbrev cX7_cellAt : ByteArray := prog_17_method_64_code
def yX7_cellAt : MethodName := ⟨RX7, "cellAt", "(II)I"⟩
def dkwX7_cellAt_0 : List UInt8 := [42, 180, 0, 7, 3, 27, 184, 0, 194, 16, 7, 96, 4, 96, 28, 96, 46, 172]
abbrev dktX7_cellAt_0 : List UInt8 := dkwX7_cellAt_0 ++ []
theorem dksX7_cellAt_0 : cX7_cellAt.data.toList.drop 0 = dktX7_cellAt_0 := by decide +kernel
theorem dX7_cellAt_0 : decode cX7_cellAt 0 = .ok (.aload_n 0, 1) := dk_42 (dk_at dksX7_cellAt_0 0 rfl rfl)
theorem dX7_cellAt_1 : decode cX7_cellAt 1 = .ok (.getfield 7, 3) := dk_180 0 7 (dk_at dksX7_cellAt_0 1 rfl rfl)
theorem dX7_cellAt_4 : decode cX7_cellAt 4 = .ok (.iconst 0, 1) := dk_3 (dk_at dksX7_cellAt_0 4 rfl rfl)
theorem dX7_cellAt_5 : decode cX7_cellAt 5 = .ok (.iload_n 1, 1) := dk_27 (dk_at dksX7_cellAt_0 5 rfl rfl)
theorem dX7_cellAt_6 : decode cX7_cellAt 6 = .ok (.invokestatic 194, 3) := dk_184 0 194 (dk_at dksX7_cellAt_0 6 rfl rfl)
theorem dX7_cellAt_9 : decode cX7_cellAt 9 = .ok (.bipush 7, 2) := dk_16 7 (dk_at dksX7_cellAt_0 9 rfl rfl)
theorem dX7_cellAt_11 : decode cX7_cellAt 11 = .ok (.iadd, 1) := dk_96 (dk_at dksX7_cellAt_0 11 rfl rfl)
theorem dX7_cellAt_12 : decode cX7_cellAt 12 = .ok (.iconst 1, 1) := dk_4 (dk_at dksX7_cellAt_0 12 rfl rfl)
theorem dX7_cellAt_13 : decode cX7_cellAt 13 = .ok (.iadd, 1) := dk_96 (dk_at dksX7_cellAt_0 13 rfl rfl)
theorem dX7_cellAt_14 : decode cX7_cellAt 14 = .ok (.iload_n 2, 1) := dk_28 (dk_at dksX7_cellAt_0 14 rfl rfl)
theorem dX7_cellAt_15 : decode cX7_cellAt 15 = .ok (.iadd, 1) := dk_96 (dk_at dksX7_cellAt_0 15 rfl rfl)
theorem dX7_cellAt_16 : decode cX7_cellAt 16 = .ok (.iaload, 1) := dk_46 (dk_at dksX7_cellAt_0 16 rfl rfl)
theorem dX7_cellAt_17 : decode cX7_cellAt 17 = .ok (.ireturn, 1) := dk_172 (dk_at dksX7_cellAt_0 17 rfl rfl)
abbrev cX7_drop : ByteArray := prog_17_method_66_code
def yX7_drop : MethodName := ⟨RX7, "drop", "(IZ)Z"⟩
def dkwX7_drop_2 : List UInt8 := [182, 0, 105, 172]
abbrev dktX7_drop_2 : List UInt8 := dkwX7_drop_2 ++ []
def dkwX7_drop_1 : List UInt8 := [16, 6, 46, 4, 27, 120, 2, 130, 126, 28, 153, 0, 9, 4, 27, 120, 167, 0, 4, 3, 128, 79, 42, 3]
abbrev dktX7_drop_1 : List UInt8 := dkwX7_drop_1 ++ dktX7_drop_2
def dkwX7_drop_0 : List UInt8 := [42, 27, 182, 1, 41, 154, 0, 9, 42, 4, 182, 0, 105, 172, 42, 180, 0, 7, 16, 6, 42, 180, 0, 7]
abbrev dktX7_drop_0 : List UInt8 := dkwX7_drop_0 ++ dktX7_drop_1
theorem dksX7_drop_0 : cX7_drop.data.toList.drop 0 = dktX7_drop_0 := by decide +kernel
theorem dksX7_drop_1 : cX7_drop.data.toList.drop 24 = dktX7_drop_1 := dk_seg dksX7_drop_0 24 rfl rfl
theorem dksX7_drop_2 : cX7_drop.data.toList.drop 48 = dktX7_drop_2 := dk_seg dksX7_drop_1 24 rfl rfl
theorem dX7_drop_0 : decode cX7_drop 0 = .ok (.aload_n 0, 1) := dk_42 (dk_at dksX7_drop_0 0 rfl rfl)
theorem dX7_drop_1 : decode cX7_drop 1 = .ok (.iload_n 1, 1) := dk_27 (dk_at dksX7_drop_0 1 rfl rfl)
theorem dX7_drop_2 : decode cX7_drop 2 = .ok (.invokevirtual 297, 3) := dk_182 1 41 (dk_at dksX7_drop_0 2 rfl rfl)
theorem dX7_drop_5 : decode cX7_drop 5 = .ok (.ifCond .ne 9, 3) := dk_154 0 9 (dk_at dksX7_drop_0 5 rfl rfl)
theorem dX7_drop_8 : decode cX7_drop 8 = .ok (.aload_n 0, 1) := dk_42 (dk_at dksX7_drop_0 8 rfl rfl)
theorem dX7_drop_9 : decode cX7_drop 9 = .ok (.iconst 1, 1) := dk_4 (dk_at dksX7_drop_0 9 rfl rfl)
theorem dX7_drop_10 : decode cX7_drop 10 = .ok (.invokevirtual 105, 3) := dk_182 0 105 (dk_at dksX7_drop_0 10 rfl rfl)
theorem dX7_drop_13 : decode cX7_drop 13 = .ok (.ireturn, 1) := dk_172 (dk_at dksX7_drop_0 13 rfl rfl)
theorem dX7_drop_14 : decode cX7_drop 14 = .ok (.aload_n 0, 1) := dk_42 (dk_at dksX7_drop_0 14 rfl rfl)
theorem dX7_drop_15 : decode cX7_drop 15 = .ok (.getfield 7, 3) := dk_180 0 7 (dk_at dksX7_drop_0 15 rfl rfl)
theorem dX7_drop_18 : decode cX7_drop 18 = .ok (.bipush 6, 2) := dk_16 6 (dk_at dksX7_drop_0 18 rfl rfl)
theorem dX7_drop_20 : decode cX7_drop 20 = .ok (.aload_n 0, 1) := dk_42 (dk_at dksX7_drop_0 20 rfl rfl)
theorem dX7_drop_21 : decode cX7_drop 21 = .ok (.getfield 7, 3) := dk_180 0 7 (dk_at dksX7_drop_0 21 rfl rfl)
theorem dX7_drop_24 : decode cX7_drop 24 = .ok (.bipush 6, 2) := dk_16 6 (dk_at dksX7_drop_1 0 rfl rfl)
theorem dX7_drop_26 : decode cX7_drop 26 = .ok (.iaload, 1) := dk_46 (dk_at dksX7_drop_1 2 rfl rfl)
theorem dX7_drop_27 : decode cX7_drop 27 = .ok (.iconst 1, 1) := dk_4 (dk_at dksX7_drop_1 3 rfl rfl)
theorem dX7_drop_28 : decode cX7_drop 28 = .ok (.iload_n 1, 1) := dk_27 (dk_at dksX7_drop_1 4 rfl rfl)
theorem dX7_drop_29 : decode cX7_drop 29 = .ok (.ishl, 1) := dk_120 (dk_at dksX7_drop_1 5 rfl rfl)
theorem dX7_drop_30 : decode cX7_drop 30 = .ok (.iconst (-1), 1) := dk_2 (dk_at dksX7_drop_1 6 rfl rfl)
theorem dX7_drop_31 : decode cX7_drop 31 = .ok (.ixor, 1) := dk_130 (dk_at dksX7_drop_1 7 rfl rfl)
theorem dX7_drop_32 : decode cX7_drop 32 = .ok (.iand, 1) := dk_126 (dk_at dksX7_drop_1 8 rfl rfl)
theorem dX7_drop_33 : decode cX7_drop 33 = .ok (.iload_n 2, 1) := dk_28 (dk_at dksX7_drop_1 9 rfl rfl)
theorem dX7_drop_34 : decode cX7_drop 34 = .ok (.ifCond .eq 9, 3) := dk_153 0 9 (dk_at dksX7_drop_1 10 rfl rfl)
theorem dX7_drop_37 : decode cX7_drop 37 = .ok (.iconst 1, 1) := dk_4 (dk_at dksX7_drop_1 13 rfl rfl)
theorem dX7_drop_38 : decode cX7_drop 38 = .ok (.iload_n 1, 1) := dk_27 (dk_at dksX7_drop_1 14 rfl rfl)
theorem dX7_drop_39 : decode cX7_drop 39 = .ok (.ishl, 1) := dk_120 (dk_at dksX7_drop_1 15 rfl rfl)
theorem dX7_drop_40 : decode cX7_drop 40 = .ok (.goto 4, 3) := dk_167 0 4 (dk_at dksX7_drop_1 16 rfl rfl)
theorem dX7_drop_43 : decode cX7_drop 43 = .ok (.iconst 0, 1) := dk_3 (dk_at dksX7_drop_1 19 rfl rfl)
theorem dX7_drop_44 : decode cX7_drop 44 = .ok (.ior, 1) := dk_128 (dk_at dksX7_drop_1 20 rfl rfl)
theorem dX7_drop_45 : decode cX7_drop 45 = .ok (.iastore, 1) := dk_79 (dk_at dksX7_drop_1 21 rfl rfl)
theorem dX7_drop_46 : decode cX7_drop 46 = .ok (.aload_n 0, 1) := dk_42 (dk_at dksX7_drop_1 22 rfl rfl)
theorem dX7_drop_47 : decode cX7_drop 47 = .ok (.iconst 0, 1) := dk_3 (dk_at dksX7_drop_1 23 rfl rfl)
theorem dX7_drop_48 : decode cX7_drop 48 = .ok (.invokevirtual 105, 3) := dk_182 0 105 (dk_at dksX7_drop_2 0 rfl rfl)
theorem dX7_drop_51 : decode cX7_drop 51 = .ok (.ireturn, 1) := dk_172 (dk_at dksX7_drop_2 3 rfl rfl)
abbrev cX7_reset : ByteArray := prog_17_method_68_code
def yX7_reset : MethodName := ⟨RX7, "reset", "()I"⟩
def dkwX7_reset_2 : List UInt8 := [180, 0, 7, 16, 8, 46, 182, 0, 191, 172]
abbrev dktX7_reset_2 : List UInt8 := dkwX7_reset_2 ++ []
def dkwX7_reset_1 : List UInt8 := [16, 6, 46, 182, 1, 35, 154, 0, 10, 42, 16, 7, 182, 0, 188, 172, 42, 182, 1, 38, 42, 42]
abbrev dktX7_reset_1 : List UInt8 := dkwX7_reset_1 ++ dktX7_reset_2
def dkwX7_reset_0 : List UInt8 := [42, 182, 1, 50, 154, 0, 10, 42, 16, 6, 182, 0, 188, 172, 42, 182, 1, 53, 42, 42, 180, 0, 7]
abbrev dktX7_reset_0 : List UInt8 := dkwX7_reset_0 ++ dktX7_reset_1
theorem dksX7_reset_0 : cX7_reset.data.toList.drop 0 = dktX7_reset_0 := by decide +kernel
theorem dksX7_reset_1 : cX7_reset.data.toList.drop 23 = dktX7_reset_1 := dk_seg dksX7_reset_0 23 rfl rfl
theorem dksX7_reset_2 : cX7_reset.data.toList.drop 45 = dktX7_reset_2 := dk_seg dksX7_reset_1 22 rfl rfl
theorem dX7_reset_0 : decode cX7_reset 0 = .ok (.aload_n 0, 1) := dk_42 (dk_at dksX7_reset_0 0 rfl rfl)
theorem dX7_reset_1 : decode cX7_reset 1 = .ok (.invokevirtual 306, 3) := dk_182 1 50 (dk_at dksX7_reset_0 1 rfl rfl)
theorem dX7_reset_4 : decode cX7_reset 4 = .ok (.ifCond .ne 10, 3) := dk_154 0 10 (dk_at dksX7_reset_0 4 rfl rfl)
theorem dX7_reset_7 : decode cX7_reset 7 = .ok (.aload_n 0, 1) := dk_42 (dk_at dksX7_reset_0 7 rfl rfl)
theorem dX7_reset_8 : decode cX7_reset 8 = .ok (.bipush 6, 2) := dk_16 6 (dk_at dksX7_reset_0 8 rfl rfl)
theorem dX7_reset_10 : decode cX7_reset 10 = .ok (.invokevirtual 188, 3) := dk_182 0 188 (dk_at dksX7_reset_0 10 rfl rfl)
theorem dX7_reset_13 : decode cX7_reset 13 = .ok (.ireturn, 1) := dk_172 (dk_at dksX7_reset_0 13 rfl rfl)
theorem dX7_reset_14 : decode cX7_reset 14 = .ok (.aload_n 0, 1) := dk_42 (dk_at dksX7_reset_0 14 rfl rfl)
theorem dX7_reset_15 : decode cX7_reset 15 = .ok (.invokevirtual 309, 3) := dk_182 1 53 (dk_at dksX7_reset_0 15 rfl rfl)
theorem dX7_reset_18 : decode cX7_reset 18 = .ok (.aload_n 0, 1) := dk_42 (dk_at dksX7_reset_0 18 rfl rfl)
theorem dX7_reset_19 : decode cX7_reset 19 = .ok (.aload_n 0, 1) := dk_42 (dk_at dksX7_reset_0 19 rfl rfl)
theorem dX7_reset_20 : decode cX7_reset 20 = .ok (.getfield 7, 3) := dk_180 0 7 (dk_at dksX7_reset_0 20 rfl rfl)
theorem dX7_reset_23 : decode cX7_reset 23 = .ok (.bipush 6, 2) := dk_16 6 (dk_at dksX7_reset_1 0 rfl rfl)
theorem dX7_reset_25 : decode cX7_reset 25 = .ok (.iaload, 1) := dk_46 (dk_at dksX7_reset_1 2 rfl rfl)
theorem dX7_reset_26 : decode cX7_reset 26 = .ok (.invokevirtual 291, 3) := dk_182 1 35 (dk_at dksX7_reset_1 3 rfl rfl)
theorem dX7_reset_29 : decode cX7_reset 29 = .ok (.ifCond .ne 10, 3) := dk_154 0 10 (dk_at dksX7_reset_1 6 rfl rfl)
theorem dX7_reset_32 : decode cX7_reset 32 = .ok (.aload_n 0, 1) := dk_42 (dk_at dksX7_reset_1 9 rfl rfl)
theorem dX7_reset_33 : decode cX7_reset 33 = .ok (.bipush 7, 2) := dk_16 7 (dk_at dksX7_reset_1 10 rfl rfl)
theorem dX7_reset_35 : decode cX7_reset 35 = .ok (.invokevirtual 188, 3) := dk_182 0 188 (dk_at dksX7_reset_1 12 rfl rfl)
theorem dX7_reset_38 : decode cX7_reset 38 = .ok (.ireturn, 1) := dk_172 (dk_at dksX7_reset_1 15 rfl rfl)
theorem dX7_reset_39 : decode cX7_reset 39 = .ok (.aload_n 0, 1) := dk_42 (dk_at dksX7_reset_1 16 rfl rfl)
theorem dX7_reset_40 : decode cX7_reset 40 = .ok (.invokevirtual 294, 3) := dk_182 1 38 (dk_at dksX7_reset_1 17 rfl rfl)
theorem dX7_reset_43 : decode cX7_reset 43 = .ok (.aload_n 0, 1) := dk_42 (dk_at dksX7_reset_1 20 rfl rfl)
theorem dX7_reset_44 : decode cX7_reset 44 = .ok (.aload_n 0, 1) := dk_42 (dk_at dksX7_reset_1 21 rfl rfl)
theorem dX7_reset_45 : decode cX7_reset 45 = .ok (.getfield 7, 3) := dk_180 0 7 (dk_at dksX7_reset_2 0 rfl rfl)
theorem dX7_reset_48 : decode cX7_reset 48 = .ok (.bipush 8, 2) := dk_16 8 (dk_at dksX7_reset_2 3 rfl rfl)
theorem dX7_reset_50 : decode cX7_reset 50 = .ok (.iaload, 1) := dk_46 (dk_at dksX7_reset_2 5 rfl rfl)
theorem dX7_reset_51 : decode cX7_reset 51 = .ok (.invokevirtual 191, 3) := dk_182 0 191 (dk_at dksX7_reset_2 6 rfl rfl)
theorem dX7_reset_54 : decode cX7_reset 54 = .ok (.ireturn, 1) := dk_172 (dk_at dksX7_reset_2 9 rfl rfl)
abbrev cX7_isSet : ByteArray := prog_17_method_67_code
def yX7_isSet : MethodName := ⟨RX7, "isSet", "()Z"⟩
def dkwX7_isSet_0 : List UInt8 := [42, 180, 0, 7, 16, 7, 46, 2, 159, 0, 7, 4, 167, 0, 4, 3, 172]
abbrev dktX7_isSet_0 : List UInt8 := dkwX7_isSet_0 ++ []
theorem dksX7_isSet_0 : cX7_isSet.data.toList.drop 0 = dktX7_isSet_0 := by decide +kernel
theorem dX7_isSet_0 : decode cX7_isSet 0 = .ok (.aload_n 0, 1) := dk_42 (dk_at dksX7_isSet_0 0 rfl rfl)
theorem dX7_isSet_1 : decode cX7_isSet 1 = .ok (.getfield 7, 3) := dk_180 0 7 (dk_at dksX7_isSet_0 1 rfl rfl)
theorem dX7_isSet_4 : decode cX7_isSet 4 = .ok (.bipush 7, 2) := dk_16 7 (dk_at dksX7_isSet_0 4 rfl rfl)
theorem dX7_isSet_6 : decode cX7_isSet 6 = .ok (.iaload, 1) := dk_46 (dk_at dksX7_isSet_0 6 rfl rfl)
theorem dX7_isSet_7 : decode cX7_isSet 7 = .ok (.iconst (-1), 1) := dk_2 (dk_at dksX7_isSet_0 7 rfl rfl)
theorem dX7_isSet_8 : decode cX7_isSet 8 = .ok (.if_icmp .eq 7, 3) := dk_159 0 7 (dk_at dksX7_isSet_0 8 rfl rfl)
theorem dX7_isSet_11 : decode cX7_isSet 11 = .ok (.iconst 1, 1) := dk_4 (dk_at dksX7_isSet_0 11 rfl rfl)
theorem dX7_isSet_12 : decode cX7_isSet 12 = .ok (.goto 4, 3) := dk_167 0 4 (dk_at dksX7_isSet_0 12 rfl rfl)
theorem dX7_isSet_15 : decode cX7_isSet 15 = .ok (.iconst 0, 1) := dk_3 (dk_at dksX7_isSet_0 15 rfl rfl)
theorem dX7_isSet_16 : decode cX7_isSet 16 = .ok (.ireturn, 1) := dk_172 (dk_at dksX7_isSet_0 16 rfl rfl)
abbrev cX7_laysBytes : ByteArray := prog_17_method_57_code
def yX7_laysBytes : MethodName := ⟨RX7, "laysBytes", "()V"⟩
def dkwX7_laysBytes_2 : List UInt8 := [132, 1, 1, 167, 255, 222, 177]
abbrev dktX7_laysBytes_2 : List UInt8 := dkwX7_laysBytes_2 ++ []
def dkwX7_laysBytes_1 : List UInt8 := [46, 162, 0, 29, 42, 180, 0, 7, 17, 65, 160, 27, 96, 42, 180, 0, 7, 17, 1, 44, 27, 96, 46, 79]
abbrev dktX7_laysBytes_1 : List UInt8 := dkwX7_laysBytes_1 ++ dktX7_laysBytes_2
def dkwX7_laysBytes_0 : List UInt8 := [42, 180, 0, 7, 17, 64, 123, 42, 180, 0, 7, 16, 7, 46, 79, 3, 60, 27, 42, 180, 0, 7, 16, 7]
abbrev dktX7_laysBytes_0 : List UInt8 := dkwX7_laysBytes_0 ++ dktX7_laysBytes_1
theorem dksX7_laysBytes_0 : cX7_laysBytes.data.toList.drop 0 = dktX7_laysBytes_0 := by decide +kernel
theorem dksX7_laysBytes_1 : cX7_laysBytes.data.toList.drop 24 = dktX7_laysBytes_1 := dk_seg dksX7_laysBytes_0 24 rfl rfl
theorem dksX7_laysBytes_2 : cX7_laysBytes.data.toList.drop 48 = dktX7_laysBytes_2 := dk_seg dksX7_laysBytes_1 24 rfl rfl
theorem dX7_laysBytes_0 : decode cX7_laysBytes 0 = .ok (.aload_n 0, 1) := dk_42 (dk_at dksX7_laysBytes_0 0 rfl rfl)
theorem dX7_laysBytes_1 : decode cX7_laysBytes 1 = .ok (.getfield 7, 3) := dk_180 0 7 (dk_at dksX7_laysBytes_0 1 rfl rfl)
theorem dX7_laysBytes_4 : decode cX7_laysBytes 4 = .ok (.sipush 16507, 3) := dk_17 64 123 (dk_at dksX7_laysBytes_0 4 rfl rfl)
theorem dX7_laysBytes_7 : decode cX7_laysBytes 7 = .ok (.aload_n 0, 1) := dk_42 (dk_at dksX7_laysBytes_0 7 rfl rfl)
theorem dX7_laysBytes_8 : decode cX7_laysBytes 8 = .ok (.getfield 7, 3) := dk_180 0 7 (dk_at dksX7_laysBytes_0 8 rfl rfl)
theorem dX7_laysBytes_11 : decode cX7_laysBytes 11 = .ok (.bipush 7, 2) := dk_16 7 (dk_at dksX7_laysBytes_0 11 rfl rfl)
theorem dX7_laysBytes_13 : decode cX7_laysBytes 13 = .ok (.iaload, 1) := dk_46 (dk_at dksX7_laysBytes_0 13 rfl rfl)
theorem dX7_laysBytes_14 : decode cX7_laysBytes 14 = .ok (.iastore, 1) := dk_79 (dk_at dksX7_laysBytes_0 14 rfl rfl)
theorem dX7_laysBytes_15 : decode cX7_laysBytes 15 = .ok (.iconst 0, 1) := dk_3 (dk_at dksX7_laysBytes_0 15 rfl rfl)
theorem dX7_laysBytes_16 : decode cX7_laysBytes 16 = .ok (.istore_n 1, 1) := dk_60 (dk_at dksX7_laysBytes_0 16 rfl rfl)
theorem dX7_laysBytes_17 : decode cX7_laysBytes 17 = .ok (.iload_n 1, 1) := dk_27 (dk_at dksX7_laysBytes_0 17 rfl rfl)
theorem dX7_laysBytes_18 : decode cX7_laysBytes 18 = .ok (.aload_n 0, 1) := dk_42 (dk_at dksX7_laysBytes_0 18 rfl rfl)
theorem dX7_laysBytes_19 : decode cX7_laysBytes 19 = .ok (.getfield 7, 3) := dk_180 0 7 (dk_at dksX7_laysBytes_0 19 rfl rfl)
theorem dX7_laysBytes_22 : decode cX7_laysBytes 22 = .ok (.bipush 7, 2) := dk_16 7 (dk_at dksX7_laysBytes_0 22 rfl rfl)
theorem dX7_laysBytes_24 : decode cX7_laysBytes 24 = .ok (.iaload, 1) := dk_46 (dk_at dksX7_laysBytes_1 0 rfl rfl)
theorem dX7_laysBytes_25 : decode cX7_laysBytes 25 = .ok (.if_icmp .ge 29, 3) := dk_162 0 29 (dk_at dksX7_laysBytes_1 1 rfl rfl)
theorem dX7_laysBytes_28 : decode cX7_laysBytes 28 = .ok (.aload_n 0, 1) := dk_42 (dk_at dksX7_laysBytes_1 4 rfl rfl)
theorem dX7_laysBytes_29 : decode cX7_laysBytes 29 = .ok (.getfield 7, 3) := dk_180 0 7 (dk_at dksX7_laysBytes_1 5 rfl rfl)
theorem dX7_laysBytes_32 : decode cX7_laysBytes 32 = .ok (.sipush 16800, 3) := dk_17 65 160 (dk_at dksX7_laysBytes_1 8 rfl rfl)
theorem dX7_laysBytes_35 : decode cX7_laysBytes 35 = .ok (.iload_n 1, 1) := dk_27 (dk_at dksX7_laysBytes_1 11 rfl rfl)
theorem dX7_laysBytes_36 : decode cX7_laysBytes 36 = .ok (.iadd, 1) := dk_96 (dk_at dksX7_laysBytes_1 12 rfl rfl)
theorem dX7_laysBytes_37 : decode cX7_laysBytes 37 = .ok (.aload_n 0, 1) := dk_42 (dk_at dksX7_laysBytes_1 13 rfl rfl)
theorem dX7_laysBytes_38 : decode cX7_laysBytes 38 = .ok (.getfield 7, 3) := dk_180 0 7 (dk_at dksX7_laysBytes_1 14 rfl rfl)
theorem dX7_laysBytes_41 : decode cX7_laysBytes 41 = .ok (.sipush 300, 3) := dk_17 1 44 (dk_at dksX7_laysBytes_1 17 rfl rfl)
theorem dX7_laysBytes_44 : decode cX7_laysBytes 44 = .ok (.iload_n 1, 1) := dk_27 (dk_at dksX7_laysBytes_1 20 rfl rfl)
theorem dX7_laysBytes_45 : decode cX7_laysBytes 45 = .ok (.iadd, 1) := dk_96 (dk_at dksX7_laysBytes_1 21 rfl rfl)
theorem dX7_laysBytes_46 : decode cX7_laysBytes 46 = .ok (.iaload, 1) := dk_46 (dk_at dksX7_laysBytes_1 22 rfl rfl)
theorem dX7_laysBytes_47 : decode cX7_laysBytes 47 = .ok (.iastore, 1) := dk_79 (dk_at dksX7_laysBytes_1 23 rfl rfl)
theorem dX7_laysBytes_48 : decode cX7_laysBytes 48 = .ok (.iinc 1 1, 3) := dk_132 1 1 (dk_at dksX7_laysBytes_2 0 rfl rfl)
theorem dX7_laysBytes_51 : decode cX7_laysBytes 51 = .ok (.goto (-34), 3) := dk_167 255 222 (dk_at dksX7_laysBytes_2 3 rfl rfl)
theorem dX7_laysBytes_54 : decode cX7_laysBytes 54 = .ok (.return_, 1) := dk_177 (dk_at dksX7_laysBytes_2 6 rfl rfl)
abbrev cX7_size : ByteArray := prog_17_method_73_code
def yX7_size : MethodName := ⟨RX7, "size", "(I)I"⟩
def dkwX7_size_4 : List UInt8 := [42, 180, 0, 7, 16, 9, 46, 167, 0, 10, 42, 180, 0, 7, 16, 10, 46, 182, 0, 191, 172]
abbrev dktX7_size_4 : List UInt8 := dkwX7_size_4 ++ []
def dkwX7_size_3 : List UInt8 := [42, 180, 0, 7, 8, 46, 96, 4, 100, 42, 180, 0, 7, 8, 46, 108, 167, 0, 25, 27, 6, 160, 0, 13]
abbrev dktX7_size_3 : List UInt8 := dkwX7_size_3 ++ dktX7_size_4
def dkwX7_size_2 : List UInt8 := [167, 0, 65, 27, 4, 160, 0, 10, 42, 180, 1, 59, 167, 0, 53, 27, 5, 160, 0, 26, 42, 180, 1, 59]
abbrev dktX7_size_2 : List UInt8 := dkwX7_size_2 ++ dktX7_size_3
def dkwX7_size_1 : List UInt8 := [16, 6, 182, 0, 188, 172, 42, 182, 1, 74, 42, 27, 154, 0, 13, 42, 180, 0, 7, 16, 8, 46]
abbrev dktX7_size_1 : List UInt8 := dkwX7_size_1 ++ dktX7_size_2
def dkwX7_size_0 : List UInt8 := [27, 155, 0, 8, 27, 7, 164, 0, 9, 42, 4, 182, 0, 188, 172, 42, 182, 1, 50, 154, 0, 10, 42]
abbrev dktX7_size_0 : List UInt8 := dkwX7_size_0 ++ dktX7_size_1
theorem dksX7_size_0 : cX7_size.data.toList.drop 0 = dktX7_size_0 := by decide +kernel
theorem dksX7_size_1 : cX7_size.data.toList.drop 23 = dktX7_size_1 := dk_seg dksX7_size_0 23 rfl rfl
theorem dksX7_size_2 : cX7_size.data.toList.drop 45 = dktX7_size_2 := dk_seg dksX7_size_1 22 rfl rfl
theorem dksX7_size_3 : cX7_size.data.toList.drop 69 = dktX7_size_3 := dk_seg dksX7_size_2 24 rfl rfl
theorem dksX7_size_4 : cX7_size.data.toList.drop 93 = dktX7_size_4 := dk_seg dksX7_size_3 24 rfl rfl
theorem dX7_size_0 : decode cX7_size 0 = .ok (.iload_n 1, 1) := dk_27 (dk_at dksX7_size_0 0 rfl rfl)
theorem dX7_size_1 : decode cX7_size 1 = .ok (.ifCond .lt 8, 3) := dk_155 0 8 (dk_at dksX7_size_0 1 rfl rfl)
theorem dX7_size_4 : decode cX7_size 4 = .ok (.iload_n 1, 1) := dk_27 (dk_at dksX7_size_0 4 rfl rfl)
theorem dX7_size_5 : decode cX7_size 5 = .ok (.iconst 4, 1) := dk_7 (dk_at dksX7_size_0 5 rfl rfl)
theorem dX7_size_6 : decode cX7_size 6 = .ok (.if_icmp .le 9, 3) := dk_164 0 9 (dk_at dksX7_size_0 6 rfl rfl)
theorem dX7_size_9 : decode cX7_size 9 = .ok (.aload_n 0, 1) := dk_42 (dk_at dksX7_size_0 9 rfl rfl)
theorem dX7_size_10 : decode cX7_size 10 = .ok (.iconst 1, 1) := dk_4 (dk_at dksX7_size_0 10 rfl rfl)
theorem dX7_size_11 : decode cX7_size 11 = .ok (.invokevirtual 188, 3) := dk_182 0 188 (dk_at dksX7_size_0 11 rfl rfl)
theorem dX7_size_14 : decode cX7_size 14 = .ok (.ireturn, 1) := dk_172 (dk_at dksX7_size_0 14 rfl rfl)
theorem dX7_size_15 : decode cX7_size 15 = .ok (.aload_n 0, 1) := dk_42 (dk_at dksX7_size_0 15 rfl rfl)
theorem dX7_size_16 : decode cX7_size 16 = .ok (.invokevirtual 306, 3) := dk_182 1 50 (dk_at dksX7_size_0 16 rfl rfl)
theorem dX7_size_19 : decode cX7_size 19 = .ok (.ifCond .ne 10, 3) := dk_154 0 10 (dk_at dksX7_size_0 19 rfl rfl)
theorem dX7_size_22 : decode cX7_size 22 = .ok (.aload_n 0, 1) := dk_42 (dk_at dksX7_size_0 22 rfl rfl)
theorem dX7_size_23 : decode cX7_size 23 = .ok (.bipush 6, 2) := dk_16 6 (dk_at dksX7_size_1 0 rfl rfl)
theorem dX7_size_25 : decode cX7_size 25 = .ok (.invokevirtual 188, 3) := dk_182 0 188 (dk_at dksX7_size_1 2 rfl rfl)
theorem dX7_size_28 : decode cX7_size 28 = .ok (.ireturn, 1) := dk_172 (dk_at dksX7_size_1 5 rfl rfl)
theorem dX7_size_29 : decode cX7_size 29 = .ok (.aload_n 0, 1) := dk_42 (dk_at dksX7_size_1 6 rfl rfl)
theorem dX7_size_30 : decode cX7_size 30 = .ok (.invokevirtual 330, 3) := dk_182 1 74 (dk_at dksX7_size_1 7 rfl rfl)
theorem dX7_size_33 : decode cX7_size 33 = .ok (.aload_n 0, 1) := dk_42 (dk_at dksX7_size_1 10 rfl rfl)
theorem dX7_size_34 : decode cX7_size 34 = .ok (.iload_n 1, 1) := dk_27 (dk_at dksX7_size_1 11 rfl rfl)
theorem dX7_size_35 : decode cX7_size 35 = .ok (.ifCond .ne 13, 3) := dk_154 0 13 (dk_at dksX7_size_1 12 rfl rfl)
theorem dX7_size_38 : decode cX7_size 38 = .ok (.aload_n 0, 1) := dk_42 (dk_at dksX7_size_1 15 rfl rfl)
theorem dX7_size_39 : decode cX7_size 39 = .ok (.getfield 7, 3) := dk_180 0 7 (dk_at dksX7_size_1 16 rfl rfl)
theorem dX7_size_42 : decode cX7_size 42 = .ok (.bipush 8, 2) := dk_16 8 (dk_at dksX7_size_1 19 rfl rfl)
theorem dX7_size_44 : decode cX7_size 44 = .ok (.iaload, 1) := dk_46 (dk_at dksX7_size_1 21 rfl rfl)
theorem dX7_size_45 : decode cX7_size 45 = .ok (.goto 65, 3) := dk_167 0 65 (dk_at dksX7_size_2 0 rfl rfl)
theorem dX7_size_48 : decode cX7_size 48 = .ok (.iload_n 1, 1) := dk_27 (dk_at dksX7_size_2 3 rfl rfl)
theorem dX7_size_49 : decode cX7_size 49 = .ok (.iconst 1, 1) := dk_4 (dk_at dksX7_size_2 4 rfl rfl)
theorem dX7_size_50 : decode cX7_size 50 = .ok (.if_icmp .ne 10, 3) := dk_160 0 10 (dk_at dksX7_size_2 5 rfl rfl)
theorem dX7_size_53 : decode cX7_size 53 = .ok (.aload_n 0, 1) := dk_42 (dk_at dksX7_size_2 8 rfl rfl)
theorem dX7_size_54 : decode cX7_size 54 = .ok (.getfield 315, 3) := dk_180 1 59 (dk_at dksX7_size_2 9 rfl rfl)
theorem dX7_size_57 : decode cX7_size 57 = .ok (.goto 53, 3) := dk_167 0 53 (dk_at dksX7_size_2 12 rfl rfl)
theorem dX7_size_60 : decode cX7_size 60 = .ok (.iload_n 1, 1) := dk_27 (dk_at dksX7_size_2 15 rfl rfl)
theorem dX7_size_61 : decode cX7_size 61 = .ok (.iconst 2, 1) := dk_5 (dk_at dksX7_size_2 16 rfl rfl)
theorem dX7_size_62 : decode cX7_size 62 = .ok (.if_icmp .ne 26, 3) := dk_160 0 26 (dk_at dksX7_size_2 17 rfl rfl)
theorem dX7_size_65 : decode cX7_size 65 = .ok (.aload_n 0, 1) := dk_42 (dk_at dksX7_size_2 20 rfl rfl)
theorem dX7_size_66 : decode cX7_size 66 = .ok (.getfield 315, 3) := dk_180 1 59 (dk_at dksX7_size_2 21 rfl rfl)
theorem dX7_size_69 : decode cX7_size 69 = .ok (.aload_n 0, 1) := dk_42 (dk_at dksX7_size_3 0 rfl rfl)
theorem dX7_size_70 : decode cX7_size 70 = .ok (.getfield 7, 3) := dk_180 0 7 (dk_at dksX7_size_3 1 rfl rfl)
theorem dX7_size_73 : decode cX7_size 73 = .ok (.iconst 5, 1) := dk_8 (dk_at dksX7_size_3 4 rfl rfl)
theorem dX7_size_74 : decode cX7_size 74 = .ok (.iaload, 1) := dk_46 (dk_at dksX7_size_3 5 rfl rfl)
theorem dX7_size_75 : decode cX7_size 75 = .ok (.iadd, 1) := dk_96 (dk_at dksX7_size_3 6 rfl rfl)
theorem dX7_size_76 : decode cX7_size 76 = .ok (.iconst 1, 1) := dk_4 (dk_at dksX7_size_3 7 rfl rfl)
theorem dX7_size_77 : decode cX7_size 77 = .ok (.isub, 1) := dk_100 (dk_at dksX7_size_3 8 rfl rfl)
theorem dX7_size_78 : decode cX7_size 78 = .ok (.aload_n 0, 1) := dk_42 (dk_at dksX7_size_3 9 rfl rfl)
theorem dX7_size_79 : decode cX7_size 79 = .ok (.getfield 7, 3) := dk_180 0 7 (dk_at dksX7_size_3 10 rfl rfl)
theorem dX7_size_82 : decode cX7_size 82 = .ok (.iconst 5, 1) := dk_8 (dk_at dksX7_size_3 13 rfl rfl)
theorem dX7_size_83 : decode cX7_size 83 = .ok (.iaload, 1) := dk_46 (dk_at dksX7_size_3 14 rfl rfl)
theorem dX7_size_84 : decode cX7_size 84 = .ok (.idiv, 1) := dk_108 (dk_at dksX7_size_3 15 rfl rfl)
theorem dX7_size_85 : decode cX7_size 85 = .ok (.goto 25, 3) := dk_167 0 25 (dk_at dksX7_size_3 16 rfl rfl)
theorem dX7_size_88 : decode cX7_size 88 = .ok (.iload_n 1, 1) := dk_27 (dk_at dksX7_size_3 19 rfl rfl)
theorem dX7_size_89 : decode cX7_size 89 = .ok (.iconst 3, 1) := dk_6 (dk_at dksX7_size_3 20 rfl rfl)
theorem dX7_size_90 : decode cX7_size 90 = .ok (.if_icmp .ne 13, 3) := dk_160 0 13 (dk_at dksX7_size_3 21 rfl rfl)
theorem dX7_size_93 : decode cX7_size 93 = .ok (.aload_n 0, 1) := dk_42 (dk_at dksX7_size_4 0 rfl rfl)
theorem dX7_size_94 : decode cX7_size 94 = .ok (.getfield 7, 3) := dk_180 0 7 (dk_at dksX7_size_4 1 rfl rfl)
theorem dX7_size_97 : decode cX7_size 97 = .ok (.bipush 9, 2) := dk_16 9 (dk_at dksX7_size_4 4 rfl rfl)
theorem dX7_size_99 : decode cX7_size 99 = .ok (.iaload, 1) := dk_46 (dk_at dksX7_size_4 6 rfl rfl)
theorem dX7_size_100 : decode cX7_size 100 = .ok (.goto 10, 3) := dk_167 0 10 (dk_at dksX7_size_4 7 rfl rfl)
theorem dX7_size_103 : decode cX7_size 103 = .ok (.aload_n 0, 1) := dk_42 (dk_at dksX7_size_4 10 rfl rfl)
theorem dX7_size_104 : decode cX7_size 104 = .ok (.getfield 7, 3) := dk_180 0 7 (dk_at dksX7_size_4 11 rfl rfl)
theorem dX7_size_107 : decode cX7_size 107 = .ok (.bipush 10, 2) := dk_16 10 (dk_at dksX7_size_4 14 rfl rfl)
theorem dX7_size_109 : decode cX7_size 109 = .ok (.iaload, 1) := dk_46 (dk_at dksX7_size_4 16 rfl rfl)
theorem dX7_size_110 : decode cX7_size 110 = .ok (.invokevirtual 191, 3) := dk_182 0 191 (dk_at dksX7_size_4 17 rfl rfl)
theorem dX7_size_113 : decode cX7_size 113 = .ok (.ireturn, 1) := dk_172 (dk_at dksX7_size_4 20 rfl rfl)
abbrev cX7_laysLines : ByteArray := prog_17_method_72_code
def yX7_laysLines : MethodName := ⟨RX7, "laysLines", "()V"⟩
def dkwX7_laysLines_11 : List UInt8 := [79, 132, 2, 1, 167, 255, 15, 177]
abbrev dktX7_laysLines_11 : List UInt8 := dkwX7_laysLines_11 ++ []
def dkwX7_laysLines_10 : List UInt8 := [21, 5, 96, 46, 182, 1, 71, 132, 5, 1, 167, 255, 221, 42, 180, 0, 53, 28, 42, 180, 1, 59, 4, 100]
abbrev dktX7_laysLines_10 : List UInt8 := dkwX7_laysLines_10 ++ dktX7_laysLines_11
def dkwX7_laysLines_9 : List UInt8 := [29, 162, 0, 35, 42, 42, 180, 0, 7, 17, 2, 88, 42, 180, 0, 7, 17, 7, 58, 28, 96, 46, 96]
abbrev dktX7_laysLines_9 : List UInt8 := dkwX7_laysLines_9 ++ dktX7_laysLines_10
def dkwX7_laysLines_8 : List UInt8 := [96, 181, 1, 62, 21, 4, 21, 5, 96, 54, 4, 42, 182, 1, 68, 167, 255, 145, 21, 4, 54, 5, 21, 5]
abbrev dktX7_laysLines_8 : List UInt8 := dkwX7_laysLines_8 ++ dktX7_laysLines_9
def dkwX7_laysLines_7 : List UInt8 := [180, 0, 7, 6, 46, 153, 0, 23, 42, 42, 180, 0, 7, 6, 46, 182, 1, 71, 42, 89, 180, 1, 62, 4]
abbrev dktX7_laysLines_7 : List UInt8 := dkwX7_laysLines_7 ++ dktX7_laysLines_8
def dkwX7_laysLines_6 : List UInt8 := [17, 7, 58, 28, 96, 46, 96, 21, 4, 96, 21, 6, 96, 46, 182, 1, 71, 132, 6, 1, 167, 255, 217, 42]
abbrev dktX7_laysLines_6 : List UInt8 := dkwX7_laysLines_6 ++ dktX7_laysLines_7
def dkwX7_laysLines_5 : List UInt8 := [54, 5, 3, 54, 6, 21, 6, 21, 5, 162, 0, 38, 42, 42, 180, 0, 7, 17, 2, 88, 42, 180, 0, 7]
abbrev dktX7_laysLines_5 : List UInt8 := dkwX7_laysLines_5 ++ dktX7_laysLines_6
def dkwX7_laysLines_4 : List UInt8 := [21, 4, 100, 27, 164, 0, 109, 42, 180, 0, 7, 6, 46, 154, 0, 7, 27, 167, 0, 6, 27, 4, 100]
abbrev dktX7_laysLines_4 : List UInt8 := dkwX7_laysLines_4 ++ dktX7_laysLines_5
def dkwX7_laysLines_3 : List UInt8 := [167, 0, 8, 42, 3, 182, 1, 71, 42, 180, 0, 50, 28, 42, 180, 1, 59, 4, 100, 79, 3, 54, 4, 29]
abbrev dktX7_laysLines_3 : List UInt8 := dkwX7_laysLines_3 ++ dktX7_laysLines_4
def dkwX7_laysLines_2 : List UInt8 := [42, 180, 0, 47, 42, 180, 1, 59, 4, 100, 46, 4, 96, 29, 96, 27, 164, 0, 10, 42, 182, 1, 68]
abbrev dktX7_laysLines_2 : List UInt8 := dkwX7_laysLines_2 ++ dktX7_laysLines_3
def dkwX7_laysLines_1 : List UInt8 := [28, 42, 180, 0, 7, 16, 9, 46, 162, 0, 236, 42, 28, 182, 1, 65, 62, 42, 180, 1, 59, 153, 0, 22]
abbrev dktX7_laysLines_1 : List UInt8 := dkwX7_laysLines_1 ++ dktX7_laysLines_2
def dkwX7_laysLines_0 : List UInt8 := [42, 3, 181, 1, 59, 42, 3, 181, 1, 56, 42, 3, 181, 1, 62, 42, 180, 0, 7, 7, 46, 60, 3, 61]
abbrev dktX7_laysLines_0 : List UInt8 := dkwX7_laysLines_0 ++ dktX7_laysLines_1
theorem dksX7_laysLines_0 : cX7_laysLines.data.toList.drop 0 = dktX7_laysLines_0 := by decide +kernel
theorem dksX7_laysLines_1 : cX7_laysLines.data.toList.drop 24 = dktX7_laysLines_1 := dk_seg dksX7_laysLines_0 24 rfl rfl
theorem dksX7_laysLines_2 : cX7_laysLines.data.toList.drop 48 = dktX7_laysLines_2 := dk_seg dksX7_laysLines_1 24 rfl rfl
theorem dksX7_laysLines_3 : cX7_laysLines.data.toList.drop 71 = dktX7_laysLines_3 := dk_seg dksX7_laysLines_2 23 rfl rfl
theorem dksX7_laysLines_4 : cX7_laysLines.data.toList.drop 95 = dktX7_laysLines_4 := dk_seg dksX7_laysLines_3 24 rfl rfl
theorem dksX7_laysLines_5 : cX7_laysLines.data.toList.drop 118 = dktX7_laysLines_5 := dk_seg dksX7_laysLines_4 23 rfl rfl
theorem dksX7_laysLines_6 : cX7_laysLines.data.toList.drop 142 = dktX7_laysLines_6 := dk_seg dksX7_laysLines_5 24 rfl rfl
theorem dksX7_laysLines_7 : cX7_laysLines.data.toList.drop 166 = dktX7_laysLines_7 := dk_seg dksX7_laysLines_6 24 rfl rfl
theorem dksX7_laysLines_8 : cX7_laysLines.data.toList.drop 190 = dktX7_laysLines_8 := dk_seg dksX7_laysLines_7 24 rfl rfl
theorem dksX7_laysLines_9 : cX7_laysLines.data.toList.drop 214 = dktX7_laysLines_9 := dk_seg dksX7_laysLines_8 24 rfl rfl
theorem dksX7_laysLines_10 : cX7_laysLines.data.toList.drop 237 = dktX7_laysLines_10 := dk_seg dksX7_laysLines_9 23 rfl rfl
theorem dksX7_laysLines_11 : cX7_laysLines.data.toList.drop 261 = dktX7_laysLines_11 := dk_seg dksX7_laysLines_10 24 rfl rfl
theorem dX7_laysLines_0 : decode cX7_laysLines 0 = .ok (.aload_n 0, 1) := dk_42 (dk_at dksX7_laysLines_0 0 rfl rfl)
theorem dX7_laysLines_1 : decode cX7_laysLines 1 = .ok (.iconst 0, 1) := dk_3 (dk_at dksX7_laysLines_0 1 rfl rfl)
theorem dX7_laysLines_2 : decode cX7_laysLines 2 = .ok (.putfield 315, 3) := dk_181 1 59 (dk_at dksX7_laysLines_0 2 rfl rfl)
theorem dX7_laysLines_5 : decode cX7_laysLines 5 = .ok (.aload_n 0, 1) := dk_42 (dk_at dksX7_laysLines_0 5 rfl rfl)
theorem dX7_laysLines_6 : decode cX7_laysLines 6 = .ok (.iconst 0, 1) := dk_3 (dk_at dksX7_laysLines_0 6 rfl rfl)
theorem dX7_laysLines_7 : decode cX7_laysLines 7 = .ok (.putfield 312, 3) := dk_181 1 56 (dk_at dksX7_laysLines_0 7 rfl rfl)
theorem dX7_laysLines_10 : decode cX7_laysLines 10 = .ok (.aload_n 0, 1) := dk_42 (dk_at dksX7_laysLines_0 10 rfl rfl)
theorem dX7_laysLines_11 : decode cX7_laysLines 11 = .ok (.iconst 0, 1) := dk_3 (dk_at dksX7_laysLines_0 11 rfl rfl)
theorem dX7_laysLines_12 : decode cX7_laysLines 12 = .ok (.putfield 318, 3) := dk_181 1 62 (dk_at dksX7_laysLines_0 12 rfl rfl)
theorem dX7_laysLines_15 : decode cX7_laysLines 15 = .ok (.aload_n 0, 1) := dk_42 (dk_at dksX7_laysLines_0 15 rfl rfl)
theorem dX7_laysLines_16 : decode cX7_laysLines 16 = .ok (.getfield 7, 3) := dk_180 0 7 (dk_at dksX7_laysLines_0 16 rfl rfl)
theorem dX7_laysLines_19 : decode cX7_laysLines 19 = .ok (.iconst 4, 1) := dk_7 (dk_at dksX7_laysLines_0 19 rfl rfl)
theorem dX7_laysLines_20 : decode cX7_laysLines 20 = .ok (.iaload, 1) := dk_46 (dk_at dksX7_laysLines_0 20 rfl rfl)
theorem dX7_laysLines_21 : decode cX7_laysLines 21 = .ok (.istore_n 1, 1) := dk_60 (dk_at dksX7_laysLines_0 21 rfl rfl)
theorem dX7_laysLines_22 : decode cX7_laysLines 22 = .ok (.iconst 0, 1) := dk_3 (dk_at dksX7_laysLines_0 22 rfl rfl)
theorem dX7_laysLines_23 : decode cX7_laysLines 23 = .ok (.istore_n 2, 1) := dk_61 (dk_at dksX7_laysLines_0 23 rfl rfl)
theorem dX7_laysLines_24 : decode cX7_laysLines 24 = .ok (.iload_n 2, 1) := dk_28 (dk_at dksX7_laysLines_1 0 rfl rfl)
theorem dX7_laysLines_25 : decode cX7_laysLines 25 = .ok (.aload_n 0, 1) := dk_42 (dk_at dksX7_laysLines_1 1 rfl rfl)
theorem dX7_laysLines_26 : decode cX7_laysLines 26 = .ok (.getfield 7, 3) := dk_180 0 7 (dk_at dksX7_laysLines_1 2 rfl rfl)
theorem dX7_laysLines_29 : decode cX7_laysLines 29 = .ok (.bipush 9, 2) := dk_16 9 (dk_at dksX7_laysLines_1 5 rfl rfl)
theorem dX7_laysLines_31 : decode cX7_laysLines 31 = .ok (.iaload, 1) := dk_46 (dk_at dksX7_laysLines_1 7 rfl rfl)
theorem dX7_laysLines_32 : decode cX7_laysLines 32 = .ok (.if_icmp .ge 236, 3) := dk_162 0 236 (dk_at dksX7_laysLines_1 8 rfl rfl)
theorem dX7_laysLines_35 : decode cX7_laysLines 35 = .ok (.aload_n 0, 1) := dk_42 (dk_at dksX7_laysLines_1 11 rfl rfl)
theorem dX7_laysLines_36 : decode cX7_laysLines 36 = .ok (.iload_n 2, 1) := dk_28 (dk_at dksX7_laysLines_1 12 rfl rfl)
theorem dX7_laysLines_37 : decode cX7_laysLines 37 = .ok (.invokevirtual 321, 3) := dk_182 1 65 (dk_at dksX7_laysLines_1 13 rfl rfl)
theorem dX7_laysLines_40 : decode cX7_laysLines 40 = .ok (.istore_n 3, 1) := dk_62 (dk_at dksX7_laysLines_1 16 rfl rfl)
theorem dX7_laysLines_41 : decode cX7_laysLines 41 = .ok (.aload_n 0, 1) := dk_42 (dk_at dksX7_laysLines_1 17 rfl rfl)
theorem dX7_laysLines_42 : decode cX7_laysLines 42 = .ok (.getfield 315, 3) := dk_180 1 59 (dk_at dksX7_laysLines_1 18 rfl rfl)
theorem dX7_laysLines_45 : decode cX7_laysLines 45 = .ok (.ifCond .eq 22, 3) := dk_153 0 22 (dk_at dksX7_laysLines_1 21 rfl rfl)
theorem dX7_laysLines_48 : decode cX7_laysLines 48 = .ok (.aload_n 0, 1) := dk_42 (dk_at dksX7_laysLines_2 0 rfl rfl)
theorem dX7_laysLines_49 : decode cX7_laysLines 49 = .ok (.getfield 47, 3) := dk_180 0 47 (dk_at dksX7_laysLines_2 1 rfl rfl)
theorem dX7_laysLines_52 : decode cX7_laysLines 52 = .ok (.aload_n 0, 1) := dk_42 (dk_at dksX7_laysLines_2 4 rfl rfl)
theorem dX7_laysLines_53 : decode cX7_laysLines 53 = .ok (.getfield 315, 3) := dk_180 1 59 (dk_at dksX7_laysLines_2 5 rfl rfl)
theorem dX7_laysLines_56 : decode cX7_laysLines 56 = .ok (.iconst 1, 1) := dk_4 (dk_at dksX7_laysLines_2 8 rfl rfl)
theorem dX7_laysLines_57 : decode cX7_laysLines 57 = .ok (.isub, 1) := dk_100 (dk_at dksX7_laysLines_2 9 rfl rfl)
theorem dX7_laysLines_58 : decode cX7_laysLines 58 = .ok (.iaload, 1) := dk_46 (dk_at dksX7_laysLines_2 10 rfl rfl)
theorem dX7_laysLines_59 : decode cX7_laysLines 59 = .ok (.iconst 1, 1) := dk_4 (dk_at dksX7_laysLines_2 11 rfl rfl)
theorem dX7_laysLines_60 : decode cX7_laysLines 60 = .ok (.iadd, 1) := dk_96 (dk_at dksX7_laysLines_2 12 rfl rfl)
theorem dX7_laysLines_61 : decode cX7_laysLines 61 = .ok (.iload_n 3, 1) := dk_29 (dk_at dksX7_laysLines_2 13 rfl rfl)
theorem dX7_laysLines_62 : decode cX7_laysLines 62 = .ok (.iadd, 1) := dk_96 (dk_at dksX7_laysLines_2 14 rfl rfl)
theorem dX7_laysLines_63 : decode cX7_laysLines 63 = .ok (.iload_n 1, 1) := dk_27 (dk_at dksX7_laysLines_2 15 rfl rfl)
theorem dX7_laysLines_64 : decode cX7_laysLines 64 = .ok (.if_icmp .le 10, 3) := dk_164 0 10 (dk_at dksX7_laysLines_2 16 rfl rfl)
theorem dX7_laysLines_67 : decode cX7_laysLines 67 = .ok (.aload_n 0, 1) := dk_42 (dk_at dksX7_laysLines_2 19 rfl rfl)
theorem dX7_laysLines_68 : decode cX7_laysLines 68 = .ok (.invokevirtual 324, 3) := dk_182 1 68 (dk_at dksX7_laysLines_2 20 rfl rfl)
theorem dX7_laysLines_71 : decode cX7_laysLines 71 = .ok (.goto 8, 3) := dk_167 0 8 (dk_at dksX7_laysLines_3 0 rfl rfl)
theorem dX7_laysLines_74 : decode cX7_laysLines 74 = .ok (.aload_n 0, 1) := dk_42 (dk_at dksX7_laysLines_3 3 rfl rfl)
theorem dX7_laysLines_75 : decode cX7_laysLines 75 = .ok (.iconst 0, 1) := dk_3 (dk_at dksX7_laysLines_3 4 rfl rfl)
theorem dX7_laysLines_76 : decode cX7_laysLines 76 = .ok (.invokevirtual 327, 3) := dk_182 1 71 (dk_at dksX7_laysLines_3 5 rfl rfl)
theorem dX7_laysLines_79 : decode cX7_laysLines 79 = .ok (.aload_n 0, 1) := dk_42 (dk_at dksX7_laysLines_3 8 rfl rfl)
theorem dX7_laysLines_80 : decode cX7_laysLines 80 = .ok (.getfield 50, 3) := dk_180 0 50 (dk_at dksX7_laysLines_3 9 rfl rfl)
theorem dX7_laysLines_83 : decode cX7_laysLines 83 = .ok (.iload_n 2, 1) := dk_28 (dk_at dksX7_laysLines_3 12 rfl rfl)
theorem dX7_laysLines_84 : decode cX7_laysLines 84 = .ok (.aload_n 0, 1) := dk_42 (dk_at dksX7_laysLines_3 13 rfl rfl)
theorem dX7_laysLines_85 : decode cX7_laysLines 85 = .ok (.getfield 315, 3) := dk_180 1 59 (dk_at dksX7_laysLines_3 14 rfl rfl)
theorem dX7_laysLines_88 : decode cX7_laysLines 88 = .ok (.iconst 1, 1) := dk_4 (dk_at dksX7_laysLines_3 17 rfl rfl)
theorem dX7_laysLines_89 : decode cX7_laysLines 89 = .ok (.isub, 1) := dk_100 (dk_at dksX7_laysLines_3 18 rfl rfl)
theorem dX7_laysLines_90 : decode cX7_laysLines 90 = .ok (.iastore, 1) := dk_79 (dk_at dksX7_laysLines_3 19 rfl rfl)
theorem dX7_laysLines_91 : decode cX7_laysLines 91 = .ok (.iconst 0, 1) := dk_3 (dk_at dksX7_laysLines_3 20 rfl rfl)
theorem dX7_laysLines_92 : decode cX7_laysLines 92 = .ok (.istore 4, 2) := dk_54 4 (dk_at dksX7_laysLines_3 21 rfl rfl)
theorem dX7_laysLines_94 : decode cX7_laysLines 94 = .ok (.iload_n 3, 1) := dk_29 (dk_at dksX7_laysLines_3 23 rfl rfl)
theorem dX7_laysLines_95 : decode cX7_laysLines 95 = .ok (.iload 4, 2) := dk_21 4 (dk_at dksX7_laysLines_4 0 rfl rfl)
theorem dX7_laysLines_97 : decode cX7_laysLines 97 = .ok (.isub, 1) := dk_100 (dk_at dksX7_laysLines_4 2 rfl rfl)
theorem dX7_laysLines_98 : decode cX7_laysLines 98 = .ok (.iload_n 1, 1) := dk_27 (dk_at dksX7_laysLines_4 3 rfl rfl)
theorem dX7_laysLines_99 : decode cX7_laysLines 99 = .ok (.if_icmp .le 109, 3) := dk_164 0 109 (dk_at dksX7_laysLines_4 4 rfl rfl)
theorem dX7_laysLines_102 : decode cX7_laysLines 102 = .ok (.aload_n 0, 1) := dk_42 (dk_at dksX7_laysLines_4 7 rfl rfl)
theorem dX7_laysLines_103 : decode cX7_laysLines 103 = .ok (.getfield 7, 3) := dk_180 0 7 (dk_at dksX7_laysLines_4 8 rfl rfl)
theorem dX7_laysLines_106 : decode cX7_laysLines 106 = .ok (.iconst 3, 1) := dk_6 (dk_at dksX7_laysLines_4 11 rfl rfl)
theorem dX7_laysLines_107 : decode cX7_laysLines 107 = .ok (.iaload, 1) := dk_46 (dk_at dksX7_laysLines_4 12 rfl rfl)
theorem dX7_laysLines_108 : decode cX7_laysLines 108 = .ok (.ifCond .ne 7, 3) := dk_154 0 7 (dk_at dksX7_laysLines_4 13 rfl rfl)
theorem dX7_laysLines_111 : decode cX7_laysLines 111 = .ok (.iload_n 1, 1) := dk_27 (dk_at dksX7_laysLines_4 16 rfl rfl)
theorem dX7_laysLines_112 : decode cX7_laysLines 112 = .ok (.goto 6, 3) := dk_167 0 6 (dk_at dksX7_laysLines_4 17 rfl rfl)
theorem dX7_laysLines_115 : decode cX7_laysLines 115 = .ok (.iload_n 1, 1) := dk_27 (dk_at dksX7_laysLines_4 20 rfl rfl)
theorem dX7_laysLines_116 : decode cX7_laysLines 116 = .ok (.iconst 1, 1) := dk_4 (dk_at dksX7_laysLines_4 21 rfl rfl)
theorem dX7_laysLines_117 : decode cX7_laysLines 117 = .ok (.isub, 1) := dk_100 (dk_at dksX7_laysLines_4 22 rfl rfl)
theorem dX7_laysLines_118 : decode cX7_laysLines 118 = .ok (.istore 5, 2) := dk_54 5 (dk_at dksX7_laysLines_5 0 rfl rfl)
theorem dX7_laysLines_120 : decode cX7_laysLines 120 = .ok (.iconst 0, 1) := dk_3 (dk_at dksX7_laysLines_5 2 rfl rfl)
theorem dX7_laysLines_121 : decode cX7_laysLines 121 = .ok (.istore 6, 2) := dk_54 6 (dk_at dksX7_laysLines_5 3 rfl rfl)
theorem dX7_laysLines_123 : decode cX7_laysLines 123 = .ok (.iload 6, 2) := dk_21 6 (dk_at dksX7_laysLines_5 5 rfl rfl)
theorem dX7_laysLines_125 : decode cX7_laysLines 125 = .ok (.iload 5, 2) := dk_21 5 (dk_at dksX7_laysLines_5 7 rfl rfl)
theorem dX7_laysLines_127 : decode cX7_laysLines 127 = .ok (.if_icmp .ge 38, 3) := dk_162 0 38 (dk_at dksX7_laysLines_5 9 rfl rfl)
theorem dX7_laysLines_130 : decode cX7_laysLines 130 = .ok (.aload_n 0, 1) := dk_42 (dk_at dksX7_laysLines_5 12 rfl rfl)
theorem dX7_laysLines_131 : decode cX7_laysLines 131 = .ok (.aload_n 0, 1) := dk_42 (dk_at dksX7_laysLines_5 13 rfl rfl)
theorem dX7_laysLines_132 : decode cX7_laysLines 132 = .ok (.getfield 7, 3) := dk_180 0 7 (dk_at dksX7_laysLines_5 14 rfl rfl)
theorem dX7_laysLines_135 : decode cX7_laysLines 135 = .ok (.sipush 600, 3) := dk_17 2 88 (dk_at dksX7_laysLines_5 17 rfl rfl)
theorem dX7_laysLines_138 : decode cX7_laysLines 138 = .ok (.aload_n 0, 1) := dk_42 (dk_at dksX7_laysLines_5 20 rfl rfl)
theorem dX7_laysLines_139 : decode cX7_laysLines 139 = .ok (.getfield 7, 3) := dk_180 0 7 (dk_at dksX7_laysLines_5 21 rfl rfl)
theorem dX7_laysLines_142 : decode cX7_laysLines 142 = .ok (.sipush 1850, 3) := dk_17 7 58 (dk_at dksX7_laysLines_6 0 rfl rfl)
theorem dX7_laysLines_145 : decode cX7_laysLines 145 = .ok (.iload_n 2, 1) := dk_28 (dk_at dksX7_laysLines_6 3 rfl rfl)
theorem dX7_laysLines_146 : decode cX7_laysLines 146 = .ok (.iadd, 1) := dk_96 (dk_at dksX7_laysLines_6 4 rfl rfl)
theorem dX7_laysLines_147 : decode cX7_laysLines 147 = .ok (.iaload, 1) := dk_46 (dk_at dksX7_laysLines_6 5 rfl rfl)
theorem dX7_laysLines_148 : decode cX7_laysLines 148 = .ok (.iadd, 1) := dk_96 (dk_at dksX7_laysLines_6 6 rfl rfl)
theorem dX7_laysLines_149 : decode cX7_laysLines 149 = .ok (.iload 4, 2) := dk_21 4 (dk_at dksX7_laysLines_6 7 rfl rfl)
theorem dX7_laysLines_151 : decode cX7_laysLines 151 = .ok (.iadd, 1) := dk_96 (dk_at dksX7_laysLines_6 9 rfl rfl)
theorem dX7_laysLines_152 : decode cX7_laysLines 152 = .ok (.iload 6, 2) := dk_21 6 (dk_at dksX7_laysLines_6 10 rfl rfl)
theorem dX7_laysLines_154 : decode cX7_laysLines 154 = .ok (.iadd, 1) := dk_96 (dk_at dksX7_laysLines_6 12 rfl rfl)
theorem dX7_laysLines_155 : decode cX7_laysLines 155 = .ok (.iaload, 1) := dk_46 (dk_at dksX7_laysLines_6 13 rfl rfl)
theorem dX7_laysLines_156 : decode cX7_laysLines 156 = .ok (.invokevirtual 327, 3) := dk_182 1 71 (dk_at dksX7_laysLines_6 14 rfl rfl)
theorem dX7_laysLines_159 : decode cX7_laysLines 159 = .ok (.iinc 6 1, 3) := dk_132 6 1 (dk_at dksX7_laysLines_6 17 rfl rfl)
theorem dX7_laysLines_162 : decode cX7_laysLines 162 = .ok (.goto (-39), 3) := dk_167 255 217 (dk_at dksX7_laysLines_6 20 rfl rfl)
theorem dX7_laysLines_165 : decode cX7_laysLines 165 = .ok (.aload_n 0, 1) := dk_42 (dk_at dksX7_laysLines_6 23 rfl rfl)
theorem dX7_laysLines_166 : decode cX7_laysLines 166 = .ok (.getfield 7, 3) := dk_180 0 7 (dk_at dksX7_laysLines_7 0 rfl rfl)
theorem dX7_laysLines_169 : decode cX7_laysLines 169 = .ok (.iconst 3, 1) := dk_6 (dk_at dksX7_laysLines_7 3 rfl rfl)
theorem dX7_laysLines_170 : decode cX7_laysLines 170 = .ok (.iaload, 1) := dk_46 (dk_at dksX7_laysLines_7 4 rfl rfl)
theorem dX7_laysLines_171 : decode cX7_laysLines 171 = .ok (.ifCond .eq 23, 3) := dk_153 0 23 (dk_at dksX7_laysLines_7 5 rfl rfl)
theorem dX7_laysLines_174 : decode cX7_laysLines 174 = .ok (.aload_n 0, 1) := dk_42 (dk_at dksX7_laysLines_7 8 rfl rfl)
theorem dX7_laysLines_175 : decode cX7_laysLines 175 = .ok (.aload_n 0, 1) := dk_42 (dk_at dksX7_laysLines_7 9 rfl rfl)
theorem dX7_laysLines_176 : decode cX7_laysLines 176 = .ok (.getfield 7, 3) := dk_180 0 7 (dk_at dksX7_laysLines_7 10 rfl rfl)
theorem dX7_laysLines_179 : decode cX7_laysLines 179 = .ok (.iconst 3, 1) := dk_6 (dk_at dksX7_laysLines_7 13 rfl rfl)
theorem dX7_laysLines_180 : decode cX7_laysLines 180 = .ok (.iaload, 1) := dk_46 (dk_at dksX7_laysLines_7 14 rfl rfl)
theorem dX7_laysLines_181 : decode cX7_laysLines 181 = .ok (.invokevirtual 327, 3) := dk_182 1 71 (dk_at dksX7_laysLines_7 15 rfl rfl)
theorem dX7_laysLines_184 : decode cX7_laysLines 184 = .ok (.aload_n 0, 1) := dk_42 (dk_at dksX7_laysLines_7 18 rfl rfl)
theorem dX7_laysLines_185 : decode cX7_laysLines 185 = .ok (.dup, 1) := dk_89 (dk_at dksX7_laysLines_7 19 rfl rfl)
theorem dX7_laysLines_186 : decode cX7_laysLines 186 = .ok (.getfield 318, 3) := dk_180 1 62 (dk_at dksX7_laysLines_7 20 rfl rfl)
theorem dX7_laysLines_189 : decode cX7_laysLines 189 = .ok (.iconst 1, 1) := dk_4 (dk_at dksX7_laysLines_7 23 rfl rfl)
theorem dX7_laysLines_190 : decode cX7_laysLines 190 = .ok (.iadd, 1) := dk_96 (dk_at dksX7_laysLines_8 0 rfl rfl)
theorem dX7_laysLines_191 : decode cX7_laysLines 191 = .ok (.putfield 318, 3) := dk_181 1 62 (dk_at dksX7_laysLines_8 1 rfl rfl)
theorem dX7_laysLines_194 : decode cX7_laysLines 194 = .ok (.iload 4, 2) := dk_21 4 (dk_at dksX7_laysLines_8 4 rfl rfl)
theorem dX7_laysLines_196 : decode cX7_laysLines 196 = .ok (.iload 5, 2) := dk_21 5 (dk_at dksX7_laysLines_8 6 rfl rfl)
theorem dX7_laysLines_198 : decode cX7_laysLines 198 = .ok (.iadd, 1) := dk_96 (dk_at dksX7_laysLines_8 8 rfl rfl)
theorem dX7_laysLines_199 : decode cX7_laysLines 199 = .ok (.istore 4, 2) := dk_54 4 (dk_at dksX7_laysLines_8 9 rfl rfl)
theorem dX7_laysLines_201 : decode cX7_laysLines 201 = .ok (.aload_n 0, 1) := dk_42 (dk_at dksX7_laysLines_8 11 rfl rfl)
theorem dX7_laysLines_202 : decode cX7_laysLines 202 = .ok (.invokevirtual 324, 3) := dk_182 1 68 (dk_at dksX7_laysLines_8 12 rfl rfl)
theorem dX7_laysLines_205 : decode cX7_laysLines 205 = .ok (.goto (-111), 3) := dk_167 255 145 (dk_at dksX7_laysLines_8 15 rfl rfl)
theorem dX7_laysLines_208 : decode cX7_laysLines 208 = .ok (.iload 4, 2) := dk_21 4 (dk_at dksX7_laysLines_8 18 rfl rfl)
theorem dX7_laysLines_210 : decode cX7_laysLines 210 = .ok (.istore 5, 2) := dk_54 5 (dk_at dksX7_laysLines_8 20 rfl rfl)
theorem dX7_laysLines_212 : decode cX7_laysLines 212 = .ok (.iload 5, 2) := dk_21 5 (dk_at dksX7_laysLines_8 22 rfl rfl)
theorem dX7_laysLines_214 : decode cX7_laysLines 214 = .ok (.iload_n 3, 1) := dk_29 (dk_at dksX7_laysLines_9 0 rfl rfl)
theorem dX7_laysLines_215 : decode cX7_laysLines 215 = .ok (.if_icmp .ge 35, 3) := dk_162 0 35 (dk_at dksX7_laysLines_9 1 rfl rfl)
theorem dX7_laysLines_218 : decode cX7_laysLines 218 = .ok (.aload_n 0, 1) := dk_42 (dk_at dksX7_laysLines_9 4 rfl rfl)
theorem dX7_laysLines_219 : decode cX7_laysLines 219 = .ok (.aload_n 0, 1) := dk_42 (dk_at dksX7_laysLines_9 5 rfl rfl)
theorem dX7_laysLines_220 : decode cX7_laysLines 220 = .ok (.getfield 7, 3) := dk_180 0 7 (dk_at dksX7_laysLines_9 6 rfl rfl)
theorem dX7_laysLines_223 : decode cX7_laysLines 223 = .ok (.sipush 600, 3) := dk_17 2 88 (dk_at dksX7_laysLines_9 9 rfl rfl)
theorem dX7_laysLines_226 : decode cX7_laysLines 226 = .ok (.aload_n 0, 1) := dk_42 (dk_at dksX7_laysLines_9 12 rfl rfl)
theorem dX7_laysLines_227 : decode cX7_laysLines 227 = .ok (.getfield 7, 3) := dk_180 0 7 (dk_at dksX7_laysLines_9 13 rfl rfl)
theorem dX7_laysLines_230 : decode cX7_laysLines 230 = .ok (.sipush 1850, 3) := dk_17 7 58 (dk_at dksX7_laysLines_9 16 rfl rfl)
theorem dX7_laysLines_233 : decode cX7_laysLines 233 = .ok (.iload_n 2, 1) := dk_28 (dk_at dksX7_laysLines_9 19 rfl rfl)
theorem dX7_laysLines_234 : decode cX7_laysLines 234 = .ok (.iadd, 1) := dk_96 (dk_at dksX7_laysLines_9 20 rfl rfl)
theorem dX7_laysLines_235 : decode cX7_laysLines 235 = .ok (.iaload, 1) := dk_46 (dk_at dksX7_laysLines_9 21 rfl rfl)
theorem dX7_laysLines_236 : decode cX7_laysLines 236 = .ok (.iadd, 1) := dk_96 (dk_at dksX7_laysLines_9 22 rfl rfl)
theorem dX7_laysLines_237 : decode cX7_laysLines 237 = .ok (.iload 5, 2) := dk_21 5 (dk_at dksX7_laysLines_10 0 rfl rfl)
theorem dX7_laysLines_239 : decode cX7_laysLines 239 = .ok (.iadd, 1) := dk_96 (dk_at dksX7_laysLines_10 2 rfl rfl)
theorem dX7_laysLines_240 : decode cX7_laysLines 240 = .ok (.iaload, 1) := dk_46 (dk_at dksX7_laysLines_10 3 rfl rfl)
theorem dX7_laysLines_241 : decode cX7_laysLines 241 = .ok (.invokevirtual 327, 3) := dk_182 1 71 (dk_at dksX7_laysLines_10 4 rfl rfl)
theorem dX7_laysLines_244 : decode cX7_laysLines 244 = .ok (.iinc 5 1, 3) := dk_132 5 1 (dk_at dksX7_laysLines_10 7 rfl rfl)
theorem dX7_laysLines_247 : decode cX7_laysLines 247 = .ok (.goto (-35), 3) := dk_167 255 221 (dk_at dksX7_laysLines_10 10 rfl rfl)
theorem dX7_laysLines_250 : decode cX7_laysLines 250 = .ok (.aload_n 0, 1) := dk_42 (dk_at dksX7_laysLines_10 13 rfl rfl)
theorem dX7_laysLines_251 : decode cX7_laysLines 251 = .ok (.getfield 53, 3) := dk_180 0 53 (dk_at dksX7_laysLines_10 14 rfl rfl)
theorem dX7_laysLines_254 : decode cX7_laysLines 254 = .ok (.iload_n 2, 1) := dk_28 (dk_at dksX7_laysLines_10 17 rfl rfl)
theorem dX7_laysLines_255 : decode cX7_laysLines 255 = .ok (.aload_n 0, 1) := dk_42 (dk_at dksX7_laysLines_10 18 rfl rfl)
theorem dX7_laysLines_256 : decode cX7_laysLines 256 = .ok (.getfield 315, 3) := dk_180 1 59 (dk_at dksX7_laysLines_10 19 rfl rfl)
theorem dX7_laysLines_259 : decode cX7_laysLines 259 = .ok (.iconst 1, 1) := dk_4 (dk_at dksX7_laysLines_10 22 rfl rfl)
theorem dX7_laysLines_260 : decode cX7_laysLines 260 = .ok (.isub, 1) := dk_100 (dk_at dksX7_laysLines_10 23 rfl rfl)
theorem dX7_laysLines_261 : decode cX7_laysLines 261 = .ok (.iastore, 1) := dk_79 (dk_at dksX7_laysLines_11 0 rfl rfl)
theorem dX7_laysLines_262 : decode cX7_laysLines 262 = .ok (.iinc 2 1, 3) := dk_132 2 1 (dk_at dksX7_laysLines_11 1 rfl rfl)
theorem dX7_laysLines_265 : decode cX7_laysLines 265 = .ok (.goto (-241), 3) := dk_167 255 15 (dk_at dksX7_laysLines_11 4 rfl rfl)
theorem dX7_laysLines_268 : decode cX7_laysLines 268 = .ok (.return_, 1) := dk_177 (dk_at dksX7_laysLines_11 7 rfl rfl)
abbrev cX7_pieceMany : ByteArray := prog_17_method_69_code
def yX7_pieceMany : MethodName := ⟨RX7, "pieceMany", "(I)I"⟩
def dkwX7_pieceMany_2 : List UInt8 := [172]
abbrev dktX7_pieceMany_2 : List UInt8 := dkwX7_pieceMany_2 ++ []
def dkwX7_pieceMany_1 : List UInt8 := [46, 4, 100, 167, 0, 10, 42, 180, 0, 7, 16, 8, 46, 42, 180, 0, 7, 17, 7, 58, 27, 96, 46, 100]
abbrev dktX7_pieceMany_1 : List UInt8 := dkwX7_pieceMany_1 ++ dktX7_pieceMany_2
def dkwX7_pieceMany_0 : List UInt8 := [27, 4, 96, 42, 180, 0, 7, 16, 9, 46, 162, 0, 20, 42, 180, 0, 7, 17, 7, 58, 27, 96, 4, 96]
abbrev dktX7_pieceMany_0 : List UInt8 := dkwX7_pieceMany_0 ++ dktX7_pieceMany_1
theorem dksX7_pieceMany_0 : cX7_pieceMany.data.toList.drop 0 = dktX7_pieceMany_0 := by decide +kernel
theorem dksX7_pieceMany_1 : cX7_pieceMany.data.toList.drop 24 = dktX7_pieceMany_1 := dk_seg dksX7_pieceMany_0 24 rfl rfl
theorem dksX7_pieceMany_2 : cX7_pieceMany.data.toList.drop 48 = dktX7_pieceMany_2 := dk_seg dksX7_pieceMany_1 24 rfl rfl
theorem dX7_pieceMany_0 : decode cX7_pieceMany 0 = .ok (.iload_n 1, 1) := dk_27 (dk_at dksX7_pieceMany_0 0 rfl rfl)
theorem dX7_pieceMany_1 : decode cX7_pieceMany 1 = .ok (.iconst 1, 1) := dk_4 (dk_at dksX7_pieceMany_0 1 rfl rfl)
theorem dX7_pieceMany_2 : decode cX7_pieceMany 2 = .ok (.iadd, 1) := dk_96 (dk_at dksX7_pieceMany_0 2 rfl rfl)
theorem dX7_pieceMany_3 : decode cX7_pieceMany 3 = .ok (.aload_n 0, 1) := dk_42 (dk_at dksX7_pieceMany_0 3 rfl rfl)
theorem dX7_pieceMany_4 : decode cX7_pieceMany 4 = .ok (.getfield 7, 3) := dk_180 0 7 (dk_at dksX7_pieceMany_0 4 rfl rfl)
theorem dX7_pieceMany_7 : decode cX7_pieceMany 7 = .ok (.bipush 9, 2) := dk_16 9 (dk_at dksX7_pieceMany_0 7 rfl rfl)
theorem dX7_pieceMany_9 : decode cX7_pieceMany 9 = .ok (.iaload, 1) := dk_46 (dk_at dksX7_pieceMany_0 9 rfl rfl)
theorem dX7_pieceMany_10 : decode cX7_pieceMany 10 = .ok (.if_icmp .ge 20, 3) := dk_162 0 20 (dk_at dksX7_pieceMany_0 10 rfl rfl)
theorem dX7_pieceMany_13 : decode cX7_pieceMany 13 = .ok (.aload_n 0, 1) := dk_42 (dk_at dksX7_pieceMany_0 13 rfl rfl)
theorem dX7_pieceMany_14 : decode cX7_pieceMany 14 = .ok (.getfield 7, 3) := dk_180 0 7 (dk_at dksX7_pieceMany_0 14 rfl rfl)
theorem dX7_pieceMany_17 : decode cX7_pieceMany 17 = .ok (.sipush 1850, 3) := dk_17 7 58 (dk_at dksX7_pieceMany_0 17 rfl rfl)
theorem dX7_pieceMany_20 : decode cX7_pieceMany 20 = .ok (.iload_n 1, 1) := dk_27 (dk_at dksX7_pieceMany_0 20 rfl rfl)
theorem dX7_pieceMany_21 : decode cX7_pieceMany 21 = .ok (.iadd, 1) := dk_96 (dk_at dksX7_pieceMany_0 21 rfl rfl)
theorem dX7_pieceMany_22 : decode cX7_pieceMany 22 = .ok (.iconst 1, 1) := dk_4 (dk_at dksX7_pieceMany_0 22 rfl rfl)
theorem dX7_pieceMany_23 : decode cX7_pieceMany 23 = .ok (.iadd, 1) := dk_96 (dk_at dksX7_pieceMany_0 23 rfl rfl)
theorem dX7_pieceMany_24 : decode cX7_pieceMany 24 = .ok (.iaload, 1) := dk_46 (dk_at dksX7_pieceMany_1 0 rfl rfl)
theorem dX7_pieceMany_25 : decode cX7_pieceMany 25 = .ok (.iconst 1, 1) := dk_4 (dk_at dksX7_pieceMany_1 1 rfl rfl)
theorem dX7_pieceMany_26 : decode cX7_pieceMany 26 = .ok (.isub, 1) := dk_100 (dk_at dksX7_pieceMany_1 2 rfl rfl)
theorem dX7_pieceMany_27 : decode cX7_pieceMany 27 = .ok (.goto 10, 3) := dk_167 0 10 (dk_at dksX7_pieceMany_1 3 rfl rfl)
theorem dX7_pieceMany_30 : decode cX7_pieceMany 30 = .ok (.aload_n 0, 1) := dk_42 (dk_at dksX7_pieceMany_1 6 rfl rfl)
theorem dX7_pieceMany_31 : decode cX7_pieceMany 31 = .ok (.getfield 7, 3) := dk_180 0 7 (dk_at dksX7_pieceMany_1 7 rfl rfl)
theorem dX7_pieceMany_34 : decode cX7_pieceMany 34 = .ok (.bipush 8, 2) := dk_16 8 (dk_at dksX7_pieceMany_1 10 rfl rfl)
theorem dX7_pieceMany_36 : decode cX7_pieceMany 36 = .ok (.iaload, 1) := dk_46 (dk_at dksX7_pieceMany_1 12 rfl rfl)
theorem dX7_pieceMany_37 : decode cX7_pieceMany 37 = .ok (.aload_n 0, 1) := dk_42 (dk_at dksX7_pieceMany_1 13 rfl rfl)
theorem dX7_pieceMany_38 : decode cX7_pieceMany 38 = .ok (.getfield 7, 3) := dk_180 0 7 (dk_at dksX7_pieceMany_1 14 rfl rfl)
theorem dX7_pieceMany_41 : decode cX7_pieceMany 41 = .ok (.sipush 1850, 3) := dk_17 7 58 (dk_at dksX7_pieceMany_1 17 rfl rfl)
theorem dX7_pieceMany_44 : decode cX7_pieceMany 44 = .ok (.iload_n 1, 1) := dk_27 (dk_at dksX7_pieceMany_1 20 rfl rfl)
theorem dX7_pieceMany_45 : decode cX7_pieceMany 45 = .ok (.iadd, 1) := dk_96 (dk_at dksX7_pieceMany_1 21 rfl rfl)
theorem dX7_pieceMany_46 : decode cX7_pieceMany 46 = .ok (.iaload, 1) := dk_46 (dk_at dksX7_pieceMany_1 22 rfl rfl)
theorem dX7_pieceMany_47 : decode cX7_pieceMany 47 = .ok (.isub, 1) := dk_100 (dk_at dksX7_pieceMany_1 23 rfl rfl)
theorem dX7_pieceMany_48 : decode cX7_pieceMany 48 = .ok (.ireturn, 1) := dk_172 (dk_at dksX7_pieceMany_2 0 rfl rfl)
abbrev cX7_newLine : ByteArray := prog_17_method_71_code
def yX7_newLine : MethodName := ⟨RX7, "newLine", "()V"⟩
def dkwX7_newLine_1 : List UInt8 := [89, 180, 1, 59, 4, 96, 181, 1, 59, 177]
abbrev dktX7_newLine_1 : List UInt8 := dkwX7_newLine_1 ++ []
def dkwX7_newLine_0 : List UInt8 := [42, 180, 0, 44, 42, 180, 1, 59, 42, 180, 1, 56, 79, 42, 180, 0, 47, 42, 180, 1, 59, 3, 79, 42]
abbrev dktX7_newLine_0 : List UInt8 := dkwX7_newLine_0 ++ dktX7_newLine_1
theorem dksX7_newLine_0 : cX7_newLine.data.toList.drop 0 = dktX7_newLine_0 := by decide +kernel
theorem dksX7_newLine_1 : cX7_newLine.data.toList.drop 24 = dktX7_newLine_1 := dk_seg dksX7_newLine_0 24 rfl rfl
theorem dX7_newLine_0 : decode cX7_newLine 0 = .ok (.aload_n 0, 1) := dk_42 (dk_at dksX7_newLine_0 0 rfl rfl)
theorem dX7_newLine_1 : decode cX7_newLine 1 = .ok (.getfield 44, 3) := dk_180 0 44 (dk_at dksX7_newLine_0 1 rfl rfl)
theorem dX7_newLine_4 : decode cX7_newLine 4 = .ok (.aload_n 0, 1) := dk_42 (dk_at dksX7_newLine_0 4 rfl rfl)
theorem dX7_newLine_5 : decode cX7_newLine 5 = .ok (.getfield 315, 3) := dk_180 1 59 (dk_at dksX7_newLine_0 5 rfl rfl)
theorem dX7_newLine_8 : decode cX7_newLine 8 = .ok (.aload_n 0, 1) := dk_42 (dk_at dksX7_newLine_0 8 rfl rfl)
theorem dX7_newLine_9 : decode cX7_newLine 9 = .ok (.getfield 312, 3) := dk_180 1 56 (dk_at dksX7_newLine_0 9 rfl rfl)
theorem dX7_newLine_12 : decode cX7_newLine 12 = .ok (.iastore, 1) := dk_79 (dk_at dksX7_newLine_0 12 rfl rfl)
theorem dX7_newLine_13 : decode cX7_newLine 13 = .ok (.aload_n 0, 1) := dk_42 (dk_at dksX7_newLine_0 13 rfl rfl)
theorem dX7_newLine_14 : decode cX7_newLine 14 = .ok (.getfield 47, 3) := dk_180 0 47 (dk_at dksX7_newLine_0 14 rfl rfl)
theorem dX7_newLine_17 : decode cX7_newLine 17 = .ok (.aload_n 0, 1) := dk_42 (dk_at dksX7_newLine_0 17 rfl rfl)
theorem dX7_newLine_18 : decode cX7_newLine 18 = .ok (.getfield 315, 3) := dk_180 1 59 (dk_at dksX7_newLine_0 18 rfl rfl)
theorem dX7_newLine_21 : decode cX7_newLine 21 = .ok (.iconst 0, 1) := dk_3 (dk_at dksX7_newLine_0 21 rfl rfl)
theorem dX7_newLine_22 : decode cX7_newLine 22 = .ok (.iastore, 1) := dk_79 (dk_at dksX7_newLine_0 22 rfl rfl)
theorem dX7_newLine_23 : decode cX7_newLine 23 = .ok (.aload_n 0, 1) := dk_42 (dk_at dksX7_newLine_0 23 rfl rfl)
theorem dX7_newLine_24 : decode cX7_newLine 24 = .ok (.dup, 1) := dk_89 (dk_at dksX7_newLine_1 0 rfl rfl)
theorem dX7_newLine_25 : decode cX7_newLine 25 = .ok (.getfield 315, 3) := dk_180 1 59 (dk_at dksX7_newLine_1 1 rfl rfl)
theorem dX7_newLine_28 : decode cX7_newLine 28 = .ok (.iconst 1, 1) := dk_4 (dk_at dksX7_newLine_1 4 rfl rfl)
theorem dX7_newLine_29 : decode cX7_newLine 29 = .ok (.iadd, 1) := dk_96 (dk_at dksX7_newLine_1 5 rfl rfl)
theorem dX7_newLine_30 : decode cX7_newLine 30 = .ok (.putfield 315, 3) := dk_181 1 59 (dk_at dksX7_newLine_1 6 rfl rfl)
theorem dX7_newLine_33 : decode cX7_newLine 33 = .ok (.return_, 1) := dk_177 (dk_at dksX7_newLine_1 9 rfl rfl)
abbrev cX7_laysCell : ByteArray := prog_17_method_70_code
def yX7_laysCell : MethodName := ⟨RX7, "laysCell", "(I)V"⟩
def dkwX7_laysCell_1 : List UInt8 := [42, 180, 1, 59, 4, 100, 92, 46, 4, 96, 79, 177]
abbrev dktX7_laysCell_1 : List UInt8 := dkwX7_laysCell_1 ++ []
def dkwX7_laysCell_0 : List UInt8 := [42, 180, 0, 41, 42, 180, 1, 56, 27, 79, 42, 89, 180, 1, 56, 4, 96, 181, 1, 56, 42, 180, 0, 47]
abbrev dktX7_laysCell_0 : List UInt8 := dkwX7_laysCell_0 ++ dktX7_laysCell_1
theorem dksX7_laysCell_0 : cX7_laysCell.data.toList.drop 0 = dktX7_laysCell_0 := by decide +kernel
theorem dksX7_laysCell_1 : cX7_laysCell.data.toList.drop 24 = dktX7_laysCell_1 := dk_seg dksX7_laysCell_0 24 rfl rfl
theorem dX7_laysCell_0 : decode cX7_laysCell 0 = .ok (.aload_n 0, 1) := dk_42 (dk_at dksX7_laysCell_0 0 rfl rfl)
theorem dX7_laysCell_1 : decode cX7_laysCell 1 = .ok (.getfield 41, 3) := dk_180 0 41 (dk_at dksX7_laysCell_0 1 rfl rfl)
theorem dX7_laysCell_4 : decode cX7_laysCell 4 = .ok (.aload_n 0, 1) := dk_42 (dk_at dksX7_laysCell_0 4 rfl rfl)
theorem dX7_laysCell_5 : decode cX7_laysCell 5 = .ok (.getfield 312, 3) := dk_180 1 56 (dk_at dksX7_laysCell_0 5 rfl rfl)
theorem dX7_laysCell_8 : decode cX7_laysCell 8 = .ok (.iload_n 1, 1) := dk_27 (dk_at dksX7_laysCell_0 8 rfl rfl)
theorem dX7_laysCell_9 : decode cX7_laysCell 9 = .ok (.iastore, 1) := dk_79 (dk_at dksX7_laysCell_0 9 rfl rfl)
theorem dX7_laysCell_10 : decode cX7_laysCell 10 = .ok (.aload_n 0, 1) := dk_42 (dk_at dksX7_laysCell_0 10 rfl rfl)
theorem dX7_laysCell_11 : decode cX7_laysCell 11 = .ok (.dup, 1) := dk_89 (dk_at dksX7_laysCell_0 11 rfl rfl)
theorem dX7_laysCell_12 : decode cX7_laysCell 12 = .ok (.getfield 312, 3) := dk_180 1 56 (dk_at dksX7_laysCell_0 12 rfl rfl)
theorem dX7_laysCell_15 : decode cX7_laysCell 15 = .ok (.iconst 1, 1) := dk_4 (dk_at dksX7_laysCell_0 15 rfl rfl)
theorem dX7_laysCell_16 : decode cX7_laysCell 16 = .ok (.iadd, 1) := dk_96 (dk_at dksX7_laysCell_0 16 rfl rfl)
theorem dX7_laysCell_17 : decode cX7_laysCell 17 = .ok (.putfield 312, 3) := dk_181 1 56 (dk_at dksX7_laysCell_0 17 rfl rfl)
theorem dX7_laysCell_20 : decode cX7_laysCell 20 = .ok (.aload_n 0, 1) := dk_42 (dk_at dksX7_laysCell_0 20 rfl rfl)
theorem dX7_laysCell_21 : decode cX7_laysCell 21 = .ok (.getfield 47, 3) := dk_180 0 47 (dk_at dksX7_laysCell_0 21 rfl rfl)
theorem dX7_laysCell_24 : decode cX7_laysCell 24 = .ok (.aload_n 0, 1) := dk_42 (dk_at dksX7_laysCell_1 0 rfl rfl)
theorem dX7_laysCell_25 : decode cX7_laysCell 25 = .ok (.getfield 315, 3) := dk_180 1 59 (dk_at dksX7_laysCell_1 1 rfl rfl)
theorem dX7_laysCell_28 : decode cX7_laysCell 28 = .ok (.iconst 1, 1) := dk_4 (dk_at dksX7_laysCell_1 4 rfl rfl)
theorem dX7_laysCell_29 : decode cX7_laysCell 29 = .ok (.isub, 1) := dk_100 (dk_at dksX7_laysCell_1 5 rfl rfl)
theorem dX7_laysCell_30 : decode cX7_laysCell 30 = .ok (.dup2, 1) := dk_92 (dk_at dksX7_laysCell_1 6 rfl rfl)
theorem dX7_laysCell_31 : decode cX7_laysCell 31 = .ok (.iaload, 1) := dk_46 (dk_at dksX7_laysCell_1 7 rfl rfl)
theorem dX7_laysCell_32 : decode cX7_laysCell 32 = .ok (.iconst 1, 1) := dk_4 (dk_at dksX7_laysCell_1 8 rfl rfl)
theorem dX7_laysCell_33 : decode cX7_laysCell 33 = .ok (.iadd, 1) := dk_96 (dk_at dksX7_laysCell_1 9 rfl rfl)
theorem dX7_laysCell_34 : decode cX7_laysCell 34 = .ok (.iastore, 1) := dk_79 (dk_at dksX7_laysCell_1 10 rfl rfl)
theorem dX7_laysCell_35 : decode cX7_laysCell 35 = .ok (.return_, 1) := dk_177 (dk_at dksX7_laysCell_1 11 rfl rfl)
abbrev cX7_cell : ByteArray := prog_17_method_74_code
def yX7_cell : MethodName := ⟨RX7, "cell", "(I)I"⟩
def dkwX7_cell_1 : List UInt8 := [16, 6, 182, 0, 188, 167, 0, 17, 42, 42, 180, 0, 7, 17, 2, 88, 27, 96, 46, 182, 0, 191, 172]
abbrev dktX7_cell_1 : List UInt8 := dkwX7_cell_1 ++ []
def dkwX7_cell_0 : List UInt8 := [42, 182, 1, 50, 153, 0, 18, 27, 155, 0, 14, 27, 42, 180, 0, 7, 16, 8, 46, 161, 0, 12, 42]
abbrev dktX7_cell_0 : List UInt8 := dkwX7_cell_0 ++ dktX7_cell_1
theorem dksX7_cell_0 : cX7_cell.data.toList.drop 0 = dktX7_cell_0 := by decide +kernel
theorem dksX7_cell_1 : cX7_cell.data.toList.drop 23 = dktX7_cell_1 := dk_seg dksX7_cell_0 23 rfl rfl
theorem dX7_cell_0 : decode cX7_cell 0 = .ok (.aload_n 0, 1) := dk_42 (dk_at dksX7_cell_0 0 rfl rfl)
theorem dX7_cell_1 : decode cX7_cell 1 = .ok (.invokevirtual 306, 3) := dk_182 1 50 (dk_at dksX7_cell_0 1 rfl rfl)
theorem dX7_cell_4 : decode cX7_cell 4 = .ok (.ifCond .eq 18, 3) := dk_153 0 18 (dk_at dksX7_cell_0 4 rfl rfl)
theorem dX7_cell_7 : decode cX7_cell 7 = .ok (.iload_n 1, 1) := dk_27 (dk_at dksX7_cell_0 7 rfl rfl)
theorem dX7_cell_8 : decode cX7_cell 8 = .ok (.ifCond .lt 14, 3) := dk_155 0 14 (dk_at dksX7_cell_0 8 rfl rfl)
theorem dX7_cell_11 : decode cX7_cell 11 = .ok (.iload_n 1, 1) := dk_27 (dk_at dksX7_cell_0 11 rfl rfl)
theorem dX7_cell_12 : decode cX7_cell 12 = .ok (.aload_n 0, 1) := dk_42 (dk_at dksX7_cell_0 12 rfl rfl)
theorem dX7_cell_13 : decode cX7_cell 13 = .ok (.getfield 7, 3) := dk_180 0 7 (dk_at dksX7_cell_0 13 rfl rfl)
theorem dX7_cell_16 : decode cX7_cell 16 = .ok (.bipush 8, 2) := dk_16 8 (dk_at dksX7_cell_0 16 rfl rfl)
theorem dX7_cell_18 : decode cX7_cell 18 = .ok (.iaload, 1) := dk_46 (dk_at dksX7_cell_0 18 rfl rfl)
theorem dX7_cell_19 : decode cX7_cell 19 = .ok (.if_icmp .lt 12, 3) := dk_161 0 12 (dk_at dksX7_cell_0 19 rfl rfl)
theorem dX7_cell_22 : decode cX7_cell 22 = .ok (.aload_n 0, 1) := dk_42 (dk_at dksX7_cell_0 22 rfl rfl)
theorem dX7_cell_23 : decode cX7_cell 23 = .ok (.bipush 6, 2) := dk_16 6 (dk_at dksX7_cell_1 0 rfl rfl)
theorem dX7_cell_25 : decode cX7_cell 25 = .ok (.invokevirtual 188, 3) := dk_182 0 188 (dk_at dksX7_cell_1 2 rfl rfl)
theorem dX7_cell_28 : decode cX7_cell 28 = .ok (.goto 17, 3) := dk_167 0 17 (dk_at dksX7_cell_1 5 rfl rfl)
theorem dX7_cell_31 : decode cX7_cell 31 = .ok (.aload_n 0, 1) := dk_42 (dk_at dksX7_cell_1 8 rfl rfl)
theorem dX7_cell_32 : decode cX7_cell 32 = .ok (.aload_n 0, 1) := dk_42 (dk_at dksX7_cell_1 9 rfl rfl)
theorem dX7_cell_33 : decode cX7_cell 33 = .ok (.getfield 7, 3) := dk_180 0 7 (dk_at dksX7_cell_1 10 rfl rfl)
theorem dX7_cell_36 : decode cX7_cell 36 = .ok (.sipush 600, 3) := dk_17 2 88 (dk_at dksX7_cell_1 13 rfl rfl)
theorem dX7_cell_39 : decode cX7_cell 39 = .ok (.iload_n 1, 1) := dk_27 (dk_at dksX7_cell_1 16 rfl rfl)
theorem dX7_cell_40 : decode cX7_cell 40 = .ok (.iadd, 1) := dk_96 (dk_at dksX7_cell_1 17 rfl rfl)
theorem dX7_cell_41 : decode cX7_cell 41 = .ok (.iaload, 1) := dk_46 (dk_at dksX7_cell_1 18 rfl rfl)
theorem dX7_cell_42 : decode cX7_cell 42 = .ok (.invokevirtual 191, 3) := dk_182 0 191 (dk_at dksX7_cell_1 19 rfl rfl)
theorem dX7_cell_45 : decode cX7_cell 45 = .ok (.ireturn, 1) := dk_172 (dk_at dksX7_cell_1 22 rfl rfl)
abbrev cX7_line : ByteArray := prog_17_method_76_code
def yX7_line : MethodName := ⟨RX7, "line", "(I)I"⟩
def dkwX7_line_1 : List UInt8 := [182, 0, 188, 172]
abbrev dktX7_line_1 : List UInt8 := dkwX7_line_1 ++ []
def dkwX7_line_0 : List UInt8 := [42, 27, 182, 1, 77, 153, 0, 16, 42, 42, 180, 0, 47, 27, 46, 182, 0, 191, 167, 0, 9, 42, 16, 6]
abbrev dktX7_line_0 : List UInt8 := dkwX7_line_0 ++ dktX7_line_1
theorem dksX7_line_0 : cX7_line.data.toList.drop 0 = dktX7_line_0 := by decide +kernel
theorem dksX7_line_1 : cX7_line.data.toList.drop 24 = dktX7_line_1 := dk_seg dksX7_line_0 24 rfl rfl
theorem dX7_line_0 : decode cX7_line 0 = .ok (.aload_n 0, 1) := dk_42 (dk_at dksX7_line_0 0 rfl rfl)
theorem dX7_line_1 : decode cX7_line 1 = .ok (.iload_n 1, 1) := dk_27 (dk_at dksX7_line_0 1 rfl rfl)
theorem dX7_line_2 : decode cX7_line 2 = .ok (.invokevirtual 333, 3) := dk_182 1 77 (dk_at dksX7_line_0 2 rfl rfl)
theorem dX7_line_5 : decode cX7_line 5 = .ok (.ifCond .eq 16, 3) := dk_153 0 16 (dk_at dksX7_line_0 5 rfl rfl)
theorem dX7_line_8 : decode cX7_line 8 = .ok (.aload_n 0, 1) := dk_42 (dk_at dksX7_line_0 8 rfl rfl)
theorem dX7_line_9 : decode cX7_line 9 = .ok (.aload_n 0, 1) := dk_42 (dk_at dksX7_line_0 9 rfl rfl)
theorem dX7_line_10 : decode cX7_line 10 = .ok (.getfield 47, 3) := dk_180 0 47 (dk_at dksX7_line_0 10 rfl rfl)
theorem dX7_line_13 : decode cX7_line 13 = .ok (.iload_n 1, 1) := dk_27 (dk_at dksX7_line_0 13 rfl rfl)
theorem dX7_line_14 : decode cX7_line 14 = .ok (.iaload, 1) := dk_46 (dk_at dksX7_line_0 14 rfl rfl)
theorem dX7_line_15 : decode cX7_line 15 = .ok (.invokevirtual 191, 3) := dk_182 0 191 (dk_at dksX7_line_0 15 rfl rfl)
theorem dX7_line_18 : decode cX7_line 18 = .ok (.goto 9, 3) := dk_167 0 9 (dk_at dksX7_line_0 18 rfl rfl)
theorem dX7_line_21 : decode cX7_line 21 = .ok (.aload_n 0, 1) := dk_42 (dk_at dksX7_line_0 21 rfl rfl)
theorem dX7_line_22 : decode cX7_line 22 = .ok (.bipush 6, 2) := dk_16 6 (dk_at dksX7_line_0 22 rfl rfl)
theorem dX7_line_24 : decode cX7_line 24 = .ok (.invokevirtual 188, 3) := dk_182 0 188 (dk_at dksX7_line_1 0 rfl rfl)
theorem dX7_line_27 : decode cX7_line 27 = .ok (.ireturn, 1) := dk_172 (dk_at dksX7_line_1 3 rfl rfl)
abbrev cX7_isLine : ByteArray := prog_17_method_75_code
def yX7_isLine : MethodName := ⟨RX7, "isLine", "(I)Z"⟩
def dkwX7_isLine_1 : List UInt8 := [162, 0, 7, 4, 167, 0, 4, 3, 172]
abbrev dktX7_isLine_1 : List UInt8 := dkwX7_isLine_1 ++ []
def dkwX7_isLine_0 : List UInt8 := [42, 182, 1, 50, 154, 0, 5, 3, 172, 42, 182, 1, 74, 27, 155, 0, 15, 27, 42, 180, 1, 59]
abbrev dktX7_isLine_0 : List UInt8 := dkwX7_isLine_0 ++ dktX7_isLine_1
theorem dksX7_isLine_0 : cX7_isLine.data.toList.drop 0 = dktX7_isLine_0 := by decide +kernel
theorem dksX7_isLine_1 : cX7_isLine.data.toList.drop 22 = dktX7_isLine_1 := dk_seg dksX7_isLine_0 22 rfl rfl
theorem dX7_isLine_0 : decode cX7_isLine 0 = .ok (.aload_n 0, 1) := dk_42 (dk_at dksX7_isLine_0 0 rfl rfl)
theorem dX7_isLine_1 : decode cX7_isLine 1 = .ok (.invokevirtual 306, 3) := dk_182 1 50 (dk_at dksX7_isLine_0 1 rfl rfl)
theorem dX7_isLine_4 : decode cX7_isLine 4 = .ok (.ifCond .ne 5, 3) := dk_154 0 5 (dk_at dksX7_isLine_0 4 rfl rfl)
theorem dX7_isLine_7 : decode cX7_isLine 7 = .ok (.iconst 0, 1) := dk_3 (dk_at dksX7_isLine_0 7 rfl rfl)
theorem dX7_isLine_8 : decode cX7_isLine 8 = .ok (.ireturn, 1) := dk_172 (dk_at dksX7_isLine_0 8 rfl rfl)
theorem dX7_isLine_9 : decode cX7_isLine 9 = .ok (.aload_n 0, 1) := dk_42 (dk_at dksX7_isLine_0 9 rfl rfl)
theorem dX7_isLine_10 : decode cX7_isLine 10 = .ok (.invokevirtual 330, 3) := dk_182 1 74 (dk_at dksX7_isLine_0 10 rfl rfl)
theorem dX7_isLine_13 : decode cX7_isLine 13 = .ok (.iload_n 1, 1) := dk_27 (dk_at dksX7_isLine_0 13 rfl rfl)
theorem dX7_isLine_14 : decode cX7_isLine 14 = .ok (.ifCond .lt 15, 3) := dk_155 0 15 (dk_at dksX7_isLine_0 14 rfl rfl)
theorem dX7_isLine_17 : decode cX7_isLine 17 = .ok (.iload_n 1, 1) := dk_27 (dk_at dksX7_isLine_0 17 rfl rfl)
theorem dX7_isLine_18 : decode cX7_isLine 18 = .ok (.aload_n 0, 1) := dk_42 (dk_at dksX7_isLine_0 18 rfl rfl)
theorem dX7_isLine_19 : decode cX7_isLine 19 = .ok (.getfield 315, 3) := dk_180 1 59 (dk_at dksX7_isLine_0 19 rfl rfl)
theorem dX7_isLine_22 : decode cX7_isLine 22 = .ok (.if_icmp .ge 7, 3) := dk_162 0 7 (dk_at dksX7_isLine_1 0 rfl rfl)
theorem dX7_isLine_25 : decode cX7_isLine 25 = .ok (.iconst 1, 1) := dk_4 (dk_at dksX7_isLine_1 3 rfl rfl)
theorem dX7_isLine_26 : decode cX7_isLine 26 = .ok (.goto 4, 3) := dk_167 0 4 (dk_at dksX7_isLine_1 4 rfl rfl)
theorem dX7_isLine_29 : decode cX7_isLine 29 = .ok (.iconst 0, 1) := dk_3 (dk_at dksX7_isLine_1 7 rfl rfl)
theorem dX7_isLine_30 : decode cX7_isLine 30 = .ok (.ireturn, 1) := dk_172 (dk_at dksX7_isLine_1 8 rfl rfl)
abbrev cX7_lineAt : ByteArray := prog_17_method_77_code
def yX7_lineAt : MethodName := ⟨RX7, "lineAt", "(II)I"⟩
def dkwX7_lineAt_2 : List UInt8 := [172]
abbrev dktX7_lineAt_2 : List UInt8 := dkwX7_lineAt_2 ++ []
def dkwX7_lineAt_1 : List UInt8 := [180, 0, 41, 42, 180, 0, 44, 27, 46, 28, 96, 46, 182, 0, 191, 167, 0, 9, 42, 16, 6, 182, 0, 188]
abbrev dktX7_lineAt_1 : List UInt8 := dkwX7_lineAt_1 ++ dktX7_lineAt_2
def dkwX7_lineAt_0 : List UInt8 := [42, 27, 182, 1, 77, 153, 0, 37, 28, 155, 0, 33, 28, 42, 180, 0, 47, 27, 46, 162, 0, 23, 42, 42]
abbrev dktX7_lineAt_0 : List UInt8 := dkwX7_lineAt_0 ++ dktX7_lineAt_1
theorem dksX7_lineAt_0 : cX7_lineAt.data.toList.drop 0 = dktX7_lineAt_0 := by decide +kernel
theorem dksX7_lineAt_1 : cX7_lineAt.data.toList.drop 24 = dktX7_lineAt_1 := dk_seg dksX7_lineAt_0 24 rfl rfl
theorem dksX7_lineAt_2 : cX7_lineAt.data.toList.drop 48 = dktX7_lineAt_2 := dk_seg dksX7_lineAt_1 24 rfl rfl
theorem dX7_lineAt_0 : decode cX7_lineAt 0 = .ok (.aload_n 0, 1) := dk_42 (dk_at dksX7_lineAt_0 0 rfl rfl)
theorem dX7_lineAt_1 : decode cX7_lineAt 1 = .ok (.iload_n 1, 1) := dk_27 (dk_at dksX7_lineAt_0 1 rfl rfl)
theorem dX7_lineAt_2 : decode cX7_lineAt 2 = .ok (.invokevirtual 333, 3) := dk_182 1 77 (dk_at dksX7_lineAt_0 2 rfl rfl)
theorem dX7_lineAt_5 : decode cX7_lineAt 5 = .ok (.ifCond .eq 37, 3) := dk_153 0 37 (dk_at dksX7_lineAt_0 5 rfl rfl)
theorem dX7_lineAt_8 : decode cX7_lineAt 8 = .ok (.iload_n 2, 1) := dk_28 (dk_at dksX7_lineAt_0 8 rfl rfl)
theorem dX7_lineAt_9 : decode cX7_lineAt 9 = .ok (.ifCond .lt 33, 3) := dk_155 0 33 (dk_at dksX7_lineAt_0 9 rfl rfl)
theorem dX7_lineAt_12 : decode cX7_lineAt 12 = .ok (.iload_n 2, 1) := dk_28 (dk_at dksX7_lineAt_0 12 rfl rfl)
theorem dX7_lineAt_13 : decode cX7_lineAt 13 = .ok (.aload_n 0, 1) := dk_42 (dk_at dksX7_lineAt_0 13 rfl rfl)
theorem dX7_lineAt_14 : decode cX7_lineAt 14 = .ok (.getfield 47, 3) := dk_180 0 47 (dk_at dksX7_lineAt_0 14 rfl rfl)
theorem dX7_lineAt_17 : decode cX7_lineAt 17 = .ok (.iload_n 1, 1) := dk_27 (dk_at dksX7_lineAt_0 17 rfl rfl)
theorem dX7_lineAt_18 : decode cX7_lineAt 18 = .ok (.iaload, 1) := dk_46 (dk_at dksX7_lineAt_0 18 rfl rfl)
theorem dX7_lineAt_19 : decode cX7_lineAt 19 = .ok (.if_icmp .ge 23, 3) := dk_162 0 23 (dk_at dksX7_lineAt_0 19 rfl rfl)
theorem dX7_lineAt_22 : decode cX7_lineAt 22 = .ok (.aload_n 0, 1) := dk_42 (dk_at dksX7_lineAt_0 22 rfl rfl)
theorem dX7_lineAt_23 : decode cX7_lineAt 23 = .ok (.aload_n 0, 1) := dk_42 (dk_at dksX7_lineAt_0 23 rfl rfl)
theorem dX7_lineAt_24 : decode cX7_lineAt 24 = .ok (.getfield 41, 3) := dk_180 0 41 (dk_at dksX7_lineAt_1 0 rfl rfl)
theorem dX7_lineAt_27 : decode cX7_lineAt 27 = .ok (.aload_n 0, 1) := dk_42 (dk_at dksX7_lineAt_1 3 rfl rfl)
theorem dX7_lineAt_28 : decode cX7_lineAt 28 = .ok (.getfield 44, 3) := dk_180 0 44 (dk_at dksX7_lineAt_1 4 rfl rfl)
theorem dX7_lineAt_31 : decode cX7_lineAt 31 = .ok (.iload_n 1, 1) := dk_27 (dk_at dksX7_lineAt_1 7 rfl rfl)
theorem dX7_lineAt_32 : decode cX7_lineAt 32 = .ok (.iaload, 1) := dk_46 (dk_at dksX7_lineAt_1 8 rfl rfl)
theorem dX7_lineAt_33 : decode cX7_lineAt 33 = .ok (.iload_n 2, 1) := dk_28 (dk_at dksX7_lineAt_1 9 rfl rfl)
theorem dX7_lineAt_34 : decode cX7_lineAt 34 = .ok (.iadd, 1) := dk_96 (dk_at dksX7_lineAt_1 10 rfl rfl)
theorem dX7_lineAt_35 : decode cX7_lineAt 35 = .ok (.iaload, 1) := dk_46 (dk_at dksX7_lineAt_1 11 rfl rfl)
theorem dX7_lineAt_36 : decode cX7_lineAt 36 = .ok (.invokevirtual 191, 3) := dk_182 0 191 (dk_at dksX7_lineAt_1 12 rfl rfl)
theorem dX7_lineAt_39 : decode cX7_lineAt 39 = .ok (.goto 9, 3) := dk_167 0 9 (dk_at dksX7_lineAt_1 15 rfl rfl)
theorem dX7_lineAt_42 : decode cX7_lineAt 42 = .ok (.aload_n 0, 1) := dk_42 (dk_at dksX7_lineAt_1 18 rfl rfl)
theorem dX7_lineAt_43 : decode cX7_lineAt 43 = .ok (.bipush 6, 2) := dk_16 6 (dk_at dksX7_lineAt_1 19 rfl rfl)
theorem dX7_lineAt_45 : decode cX7_lineAt 45 = .ok (.invokevirtual 188, 3) := dk_182 0 188 (dk_at dksX7_lineAt_1 21 rfl rfl)
theorem dX7_lineAt_48 : decode cX7_lineAt 48 = .ok (.ireturn, 1) := dk_172 (dk_at dksX7_lineAt_2 0 rfl rfl)
abbrev cX7_onPage : ByteArray := prog_17_method_78_code
def yX7_onPage : MethodName := ⟨RX7, "onPage", "(III)I"⟩
def dkwX7_onPage_4 : List UInt8 := [180, 0, 44, 21, 4, 46, 29, 96, 46, 167, 0, 4, 3, 182, 0, 191, 172]
abbrev dktX7_onPage_4 : List UInt8 := dkwX7_onPage_4 ++ []
def dkwX7_onPage_3 : List UInt8 := [42, 16, 6, 182, 0, 188, 172, 42, 29, 42, 180, 0, 47, 21, 4, 46, 162, 0, 20, 42, 180, 0, 41, 42]
abbrev dktX7_onPage_3 : List UInt8 := dkwX7_onPage_3 ++ dktX7_onPage_4
def dkwX7_onPage_2 : List UInt8 := [167, 0, 13, 27, 42, 180, 0, 7, 8, 46, 104, 28, 96, 54, 4, 42, 21, 4, 182, 1, 77, 154, 0, 10]
abbrev dktX7_onPage_2 : List UInt8 := dkwX7_onPage_2 ++ dktX7_onPage_3
def dkwX7_onPage_1 : List UInt8 := [46, 161, 0, 9, 42, 4, 182, 0, 188, 172, 27, 155, 0, 10, 27, 17, 7, 208, 164, 0, 7, 2]
abbrev dktX7_onPage_1 : List UInt8 := dkwX7_onPage_1 ++ dktX7_onPage_2
def dkwX7_onPage_0 : List UInt8 := [29, 155, 0, 27, 29, 42, 180, 0, 7, 7, 46, 162, 0, 17, 28, 155, 0, 13, 28, 42, 180, 0, 7, 8]
abbrev dktX7_onPage_0 : List UInt8 := dkwX7_onPage_0 ++ dktX7_onPage_1
theorem dksX7_onPage_0 : cX7_onPage.data.toList.drop 0 = dktX7_onPage_0 := by decide +kernel
theorem dksX7_onPage_1 : cX7_onPage.data.toList.drop 24 = dktX7_onPage_1 := dk_seg dksX7_onPage_0 24 rfl rfl
theorem dksX7_onPage_2 : cX7_onPage.data.toList.drop 46 = dktX7_onPage_2 := dk_seg dksX7_onPage_1 22 rfl rfl
theorem dksX7_onPage_3 : cX7_onPage.data.toList.drop 70 = dktX7_onPage_3 := dk_seg dksX7_onPage_2 24 rfl rfl
theorem dksX7_onPage_4 : cX7_onPage.data.toList.drop 94 = dktX7_onPage_4 := dk_seg dksX7_onPage_3 24 rfl rfl
theorem dX7_onPage_0 : decode cX7_onPage 0 = .ok (.iload_n 3, 1) := dk_29 (dk_at dksX7_onPage_0 0 rfl rfl)
theorem dX7_onPage_1 : decode cX7_onPage 1 = .ok (.ifCond .lt 27, 3) := dk_155 0 27 (dk_at dksX7_onPage_0 1 rfl rfl)
theorem dX7_onPage_4 : decode cX7_onPage 4 = .ok (.iload_n 3, 1) := dk_29 (dk_at dksX7_onPage_0 4 rfl rfl)
theorem dX7_onPage_5 : decode cX7_onPage 5 = .ok (.aload_n 0, 1) := dk_42 (dk_at dksX7_onPage_0 5 rfl rfl)
theorem dX7_onPage_6 : decode cX7_onPage 6 = .ok (.getfield 7, 3) := dk_180 0 7 (dk_at dksX7_onPage_0 6 rfl rfl)
theorem dX7_onPage_9 : decode cX7_onPage 9 = .ok (.iconst 4, 1) := dk_7 (dk_at dksX7_onPage_0 9 rfl rfl)
theorem dX7_onPage_10 : decode cX7_onPage 10 = .ok (.iaload, 1) := dk_46 (dk_at dksX7_onPage_0 10 rfl rfl)
theorem dX7_onPage_11 : decode cX7_onPage 11 = .ok (.if_icmp .ge 17, 3) := dk_162 0 17 (dk_at dksX7_onPage_0 11 rfl rfl)
theorem dX7_onPage_14 : decode cX7_onPage 14 = .ok (.iload_n 2, 1) := dk_28 (dk_at dksX7_onPage_0 14 rfl rfl)
theorem dX7_onPage_15 : decode cX7_onPage 15 = .ok (.ifCond .lt 13, 3) := dk_155 0 13 (dk_at dksX7_onPage_0 15 rfl rfl)
theorem dX7_onPage_18 : decode cX7_onPage 18 = .ok (.iload_n 2, 1) := dk_28 (dk_at dksX7_onPage_0 18 rfl rfl)
theorem dX7_onPage_19 : decode cX7_onPage 19 = .ok (.aload_n 0, 1) := dk_42 (dk_at dksX7_onPage_0 19 rfl rfl)
theorem dX7_onPage_20 : decode cX7_onPage 20 = .ok (.getfield 7, 3) := dk_180 0 7 (dk_at dksX7_onPage_0 20 rfl rfl)
theorem dX7_onPage_23 : decode cX7_onPage 23 = .ok (.iconst 5, 1) := dk_8 (dk_at dksX7_onPage_0 23 rfl rfl)
theorem dX7_onPage_24 : decode cX7_onPage 24 = .ok (.iaload, 1) := dk_46 (dk_at dksX7_onPage_1 0 rfl rfl)
theorem dX7_onPage_25 : decode cX7_onPage 25 = .ok (.if_icmp .lt 9, 3) := dk_161 0 9 (dk_at dksX7_onPage_1 1 rfl rfl)
theorem dX7_onPage_28 : decode cX7_onPage 28 = .ok (.aload_n 0, 1) := dk_42 (dk_at dksX7_onPage_1 4 rfl rfl)
theorem dX7_onPage_29 : decode cX7_onPage 29 = .ok (.iconst 1, 1) := dk_4 (dk_at dksX7_onPage_1 5 rfl rfl)
theorem dX7_onPage_30 : decode cX7_onPage 30 = .ok (.invokevirtual 188, 3) := dk_182 0 188 (dk_at dksX7_onPage_1 6 rfl rfl)
theorem dX7_onPage_33 : decode cX7_onPage 33 = .ok (.ireturn, 1) := dk_172 (dk_at dksX7_onPage_1 9 rfl rfl)
theorem dX7_onPage_34 : decode cX7_onPage 34 = .ok (.iload_n 1, 1) := dk_27 (dk_at dksX7_onPage_1 10 rfl rfl)
theorem dX7_onPage_35 : decode cX7_onPage 35 = .ok (.ifCond .lt 10, 3) := dk_155 0 10 (dk_at dksX7_onPage_1 11 rfl rfl)
theorem dX7_onPage_38 : decode cX7_onPage 38 = .ok (.iload_n 1, 1) := dk_27 (dk_at dksX7_onPage_1 14 rfl rfl)
theorem dX7_onPage_39 : decode cX7_onPage 39 = .ok (.sipush 2000, 3) := dk_17 7 208 (dk_at dksX7_onPage_1 15 rfl rfl)
theorem dX7_onPage_42 : decode cX7_onPage 42 = .ok (.if_icmp .le 7, 3) := dk_164 0 7 (dk_at dksX7_onPage_1 18 rfl rfl)
theorem dX7_onPage_45 : decode cX7_onPage 45 = .ok (.iconst (-1), 1) := dk_2 (dk_at dksX7_onPage_1 21 rfl rfl)
theorem dX7_onPage_46 : decode cX7_onPage 46 = .ok (.goto 13, 3) := dk_167 0 13 (dk_at dksX7_onPage_2 0 rfl rfl)
theorem dX7_onPage_49 : decode cX7_onPage 49 = .ok (.iload_n 1, 1) := dk_27 (dk_at dksX7_onPage_2 3 rfl rfl)
theorem dX7_onPage_50 : decode cX7_onPage 50 = .ok (.aload_n 0, 1) := dk_42 (dk_at dksX7_onPage_2 4 rfl rfl)
theorem dX7_onPage_51 : decode cX7_onPage 51 = .ok (.getfield 7, 3) := dk_180 0 7 (dk_at dksX7_onPage_2 5 rfl rfl)
theorem dX7_onPage_54 : decode cX7_onPage 54 = .ok (.iconst 5, 1) := dk_8 (dk_at dksX7_onPage_2 8 rfl rfl)
theorem dX7_onPage_55 : decode cX7_onPage 55 = .ok (.iaload, 1) := dk_46 (dk_at dksX7_onPage_2 9 rfl rfl)
theorem dX7_onPage_56 : decode cX7_onPage 56 = .ok (.imul, 1) := dk_104 (dk_at dksX7_onPage_2 10 rfl rfl)
theorem dX7_onPage_57 : decode cX7_onPage 57 = .ok (.iload_n 2, 1) := dk_28 (dk_at dksX7_onPage_2 11 rfl rfl)
theorem dX7_onPage_58 : decode cX7_onPage 58 = .ok (.iadd, 1) := dk_96 (dk_at dksX7_onPage_2 12 rfl rfl)
theorem dX7_onPage_59 : decode cX7_onPage 59 = .ok (.istore 4, 2) := dk_54 4 (dk_at dksX7_onPage_2 13 rfl rfl)
theorem dX7_onPage_61 : decode cX7_onPage 61 = .ok (.aload_n 0, 1) := dk_42 (dk_at dksX7_onPage_2 15 rfl rfl)
theorem dX7_onPage_62 : decode cX7_onPage 62 = .ok (.iload 4, 2) := dk_21 4 (dk_at dksX7_onPage_2 16 rfl rfl)
theorem dX7_onPage_64 : decode cX7_onPage 64 = .ok (.invokevirtual 333, 3) := dk_182 1 77 (dk_at dksX7_onPage_2 18 rfl rfl)
theorem dX7_onPage_67 : decode cX7_onPage 67 = .ok (.ifCond .ne 10, 3) := dk_154 0 10 (dk_at dksX7_onPage_2 21 rfl rfl)
theorem dX7_onPage_70 : decode cX7_onPage 70 = .ok (.aload_n 0, 1) := dk_42 (dk_at dksX7_onPage_3 0 rfl rfl)
theorem dX7_onPage_71 : decode cX7_onPage 71 = .ok (.bipush 6, 2) := dk_16 6 (dk_at dksX7_onPage_3 1 rfl rfl)
theorem dX7_onPage_73 : decode cX7_onPage 73 = .ok (.invokevirtual 188, 3) := dk_182 0 188 (dk_at dksX7_onPage_3 3 rfl rfl)
theorem dX7_onPage_76 : decode cX7_onPage 76 = .ok (.ireturn, 1) := dk_172 (dk_at dksX7_onPage_3 6 rfl rfl)
theorem dX7_onPage_77 : decode cX7_onPage 77 = .ok (.aload_n 0, 1) := dk_42 (dk_at dksX7_onPage_3 7 rfl rfl)
theorem dX7_onPage_78 : decode cX7_onPage 78 = .ok (.iload_n 3, 1) := dk_29 (dk_at dksX7_onPage_3 8 rfl rfl)
theorem dX7_onPage_79 : decode cX7_onPage 79 = .ok (.aload_n 0, 1) := dk_42 (dk_at dksX7_onPage_3 9 rfl rfl)
theorem dX7_onPage_80 : decode cX7_onPage 80 = .ok (.getfield 47, 3) := dk_180 0 47 (dk_at dksX7_onPage_3 10 rfl rfl)
theorem dX7_onPage_83 : decode cX7_onPage 83 = .ok (.iload 4, 2) := dk_21 4 (dk_at dksX7_onPage_3 13 rfl rfl)
theorem dX7_onPage_85 : decode cX7_onPage 85 = .ok (.iaload, 1) := dk_46 (dk_at dksX7_onPage_3 15 rfl rfl)
theorem dX7_onPage_86 : decode cX7_onPage 86 = .ok (.if_icmp .ge 20, 3) := dk_162 0 20 (dk_at dksX7_onPage_3 16 rfl rfl)
theorem dX7_onPage_89 : decode cX7_onPage 89 = .ok (.aload_n 0, 1) := dk_42 (dk_at dksX7_onPage_3 19 rfl rfl)
theorem dX7_onPage_90 : decode cX7_onPage 90 = .ok (.getfield 41, 3) := dk_180 0 41 (dk_at dksX7_onPage_3 20 rfl rfl)
theorem dX7_onPage_93 : decode cX7_onPage 93 = .ok (.aload_n 0, 1) := dk_42 (dk_at dksX7_onPage_3 23 rfl rfl)
theorem dX7_onPage_94 : decode cX7_onPage 94 = .ok (.getfield 44, 3) := dk_180 0 44 (dk_at dksX7_onPage_4 0 rfl rfl)
theorem dX7_onPage_97 : decode cX7_onPage 97 = .ok (.iload 4, 2) := dk_21 4 (dk_at dksX7_onPage_4 3 rfl rfl)
theorem dX7_onPage_99 : decode cX7_onPage 99 = .ok (.iaload, 1) := dk_46 (dk_at dksX7_onPage_4 5 rfl rfl)
theorem dX7_onPage_100 : decode cX7_onPage 100 = .ok (.iload_n 3, 1) := dk_29 (dk_at dksX7_onPage_4 6 rfl rfl)
theorem dX7_onPage_101 : decode cX7_onPage 101 = .ok (.iadd, 1) := dk_96 (dk_at dksX7_onPage_4 7 rfl rfl)
theorem dX7_onPage_102 : decode cX7_onPage 102 = .ok (.iaload, 1) := dk_46 (dk_at dksX7_onPage_4 8 rfl rfl)
theorem dX7_onPage_103 : decode cX7_onPage 103 = .ok (.goto 4, 3) := dk_167 0 4 (dk_at dksX7_onPage_4 9 rfl rfl)
theorem dX7_onPage_106 : decode cX7_onPage 106 = .ok (.iconst 0, 1) := dk_3 (dk_at dksX7_onPage_4 12 rfl rfl)
theorem dX7_onPage_107 : decode cX7_onPage 107 = .ok (.invokevirtual 191, 3) := dk_182 0 191 (dk_at dksX7_onPage_4 13 rfl rfl)
theorem dX7_onPage_110 : decode cX7_onPage 110 = .ok (.ireturn, 1) := dk_172 (dk_at dksX7_onPage_4 16 rfl rfl)
abbrev cX7_hyphens : ByteArray := prog_17_method_79_code
def yX7_hyphens : MethodName := ⟨RX7, "hyphens", "()I"⟩
def dkwX7_hyphens_1 : List UInt8 := [182, 0, 191, 172]
abbrev dktX7_hyphens_1 : List UInt8 := dkwX7_hyphens_1 ++ []
def dkwX7_hyphens_0 : List UInt8 := [42, 182, 1, 50, 154, 0, 10, 42, 16, 6, 182, 0, 188, 172, 42, 182, 1, 74, 42, 42, 180, 1, 62]
abbrev dktX7_hyphens_0 : List UInt8 := dkwX7_hyphens_0 ++ dktX7_hyphens_1
theorem dksX7_hyphens_0 : cX7_hyphens.data.toList.drop 0 = dktX7_hyphens_0 := by decide +kernel
theorem dksX7_hyphens_1 : cX7_hyphens.data.toList.drop 23 = dktX7_hyphens_1 := dk_seg dksX7_hyphens_0 23 rfl rfl
theorem dX7_hyphens_0 : decode cX7_hyphens 0 = .ok (.aload_n 0, 1) := dk_42 (dk_at dksX7_hyphens_0 0 rfl rfl)
theorem dX7_hyphens_1 : decode cX7_hyphens 1 = .ok (.invokevirtual 306, 3) := dk_182 1 50 (dk_at dksX7_hyphens_0 1 rfl rfl)
theorem dX7_hyphens_4 : decode cX7_hyphens 4 = .ok (.ifCond .ne 10, 3) := dk_154 0 10 (dk_at dksX7_hyphens_0 4 rfl rfl)
theorem dX7_hyphens_7 : decode cX7_hyphens 7 = .ok (.aload_n 0, 1) := dk_42 (dk_at dksX7_hyphens_0 7 rfl rfl)
theorem dX7_hyphens_8 : decode cX7_hyphens 8 = .ok (.bipush 6, 2) := dk_16 6 (dk_at dksX7_hyphens_0 8 rfl rfl)
theorem dX7_hyphens_10 : decode cX7_hyphens 10 = .ok (.invokevirtual 188, 3) := dk_182 0 188 (dk_at dksX7_hyphens_0 10 rfl rfl)
theorem dX7_hyphens_13 : decode cX7_hyphens 13 = .ok (.ireturn, 1) := dk_172 (dk_at dksX7_hyphens_0 13 rfl rfl)
theorem dX7_hyphens_14 : decode cX7_hyphens 14 = .ok (.aload_n 0, 1) := dk_42 (dk_at dksX7_hyphens_0 14 rfl rfl)
theorem dX7_hyphens_15 : decode cX7_hyphens 15 = .ok (.invokevirtual 330, 3) := dk_182 1 74 (dk_at dksX7_hyphens_0 15 rfl rfl)
theorem dX7_hyphens_18 : decode cX7_hyphens 18 = .ok (.aload_n 0, 1) := dk_42 (dk_at dksX7_hyphens_0 18 rfl rfl)
theorem dX7_hyphens_19 : decode cX7_hyphens 19 = .ok (.aload_n 0, 1) := dk_42 (dk_at dksX7_hyphens_0 19 rfl rfl)
theorem dX7_hyphens_20 : decode cX7_hyphens 20 = .ok (.getfield 318, 3) := dk_180 1 62 (dk_at dksX7_hyphens_0 20 rfl rfl)
theorem dX7_hyphens_23 : decode cX7_hyphens 23 = .ok (.invokevirtual 191, 3) := dk_182 0 191 (dk_at dksX7_hyphens_1 0 rfl rfl)
theorem dX7_hyphens_26 : decode cX7_hyphens 26 = .ok (.ireturn, 1) := dk_172 (dk_at dksX7_hyphens_1 3 rfl rfl)
abbrev cX7_used : ByteArray := prog_17_method_80_code
def yX7_used : MethodName := ⟨RX7, "used", "(I)I"⟩
def dkwX7_used_1 : List UInt8 := [42, 180, 0, 7, 17, 7, 218, 27, 96, 46, 182, 0, 191, 167, 0, 9, 42, 16, 6, 182, 0, 188, 172]
abbrev dktX7_used_1 : List UInt8 := dkwX7_used_1 ++ []
def dkwX7_used_0 : List UInt8 := [42, 27, 182, 1, 41, 154, 0, 11, 42, 4, 182, 0, 188, 167, 0, 33, 42, 182, 1, 50, 153, 0, 20, 42]
abbrev dktX7_used_0 : List UInt8 := dkwX7_used_0 ++ dktX7_used_1
theorem dksX7_used_0 : cX7_used.data.toList.drop 0 = dktX7_used_0 := by decide +kernel
theorem dksX7_used_1 : cX7_used.data.toList.drop 24 = dktX7_used_1 := dk_seg dksX7_used_0 24 rfl rfl
theorem dX7_used_0 : decode cX7_used 0 = .ok (.aload_n 0, 1) := dk_42 (dk_at dksX7_used_0 0 rfl rfl)
theorem dX7_used_1 : decode cX7_used 1 = .ok (.iload_n 1, 1) := dk_27 (dk_at dksX7_used_0 1 rfl rfl)
theorem dX7_used_2 : decode cX7_used 2 = .ok (.invokevirtual 297, 3) := dk_182 1 41 (dk_at dksX7_used_0 2 rfl rfl)
theorem dX7_used_5 : decode cX7_used 5 = .ok (.ifCond .ne 11, 3) := dk_154 0 11 (dk_at dksX7_used_0 5 rfl rfl)
theorem dX7_used_8 : decode cX7_used 8 = .ok (.aload_n 0, 1) := dk_42 (dk_at dksX7_used_0 8 rfl rfl)
theorem dX7_used_9 : decode cX7_used 9 = .ok (.iconst 1, 1) := dk_4 (dk_at dksX7_used_0 9 rfl rfl)
theorem dX7_used_10 : decode cX7_used 10 = .ok (.invokevirtual 188, 3) := dk_182 0 188 (dk_at dksX7_used_0 10 rfl rfl)
theorem dX7_used_13 : decode cX7_used 13 = .ok (.goto 33, 3) := dk_167 0 33 (dk_at dksX7_used_0 13 rfl rfl)
theorem dX7_used_16 : decode cX7_used 16 = .ok (.aload_n 0, 1) := dk_42 (dk_at dksX7_used_0 16 rfl rfl)
theorem dX7_used_17 : decode cX7_used 17 = .ok (.invokevirtual 306, 3) := dk_182 1 50 (dk_at dksX7_used_0 17 rfl rfl)
theorem dX7_used_20 : decode cX7_used 20 = .ok (.ifCond .eq 20, 3) := dk_153 0 20 (dk_at dksX7_used_0 20 rfl rfl)
theorem dX7_used_23 : decode cX7_used 23 = .ok (.aload_n 0, 1) := dk_42 (dk_at dksX7_used_0 23 rfl rfl)
theorem dX7_used_24 : decode cX7_used 24 = .ok (.aload_n 0, 1) := dk_42 (dk_at dksX7_used_1 0 rfl rfl)
theorem dX7_used_25 : decode cX7_used 25 = .ok (.getfield 7, 3) := dk_180 0 7 (dk_at dksX7_used_1 1 rfl rfl)
theorem dX7_used_28 : decode cX7_used 28 = .ok (.sipush 2010, 3) := dk_17 7 218 (dk_at dksX7_used_1 4 rfl rfl)
theorem dX7_used_31 : decode cX7_used 31 = .ok (.iload_n 1, 1) := dk_27 (dk_at dksX7_used_1 7 rfl rfl)
theorem dX7_used_32 : decode cX7_used 32 = .ok (.iadd, 1) := dk_96 (dk_at dksX7_used_1 8 rfl rfl)
theorem dX7_used_33 : decode cX7_used 33 = .ok (.iaload, 1) := dk_46 (dk_at dksX7_used_1 9 rfl rfl)
theorem dX7_used_34 : decode cX7_used 34 = .ok (.invokevirtual 191, 3) := dk_182 0 191 (dk_at dksX7_used_1 10 rfl rfl)
theorem dX7_used_37 : decode cX7_used 37 = .ok (.goto 9, 3) := dk_167 0 9 (dk_at dksX7_used_1 13 rfl rfl)
theorem dX7_used_40 : decode cX7_used 40 = .ok (.aload_n 0, 1) := dk_42 (dk_at dksX7_used_1 16 rfl rfl)
theorem dX7_used_41 : decode cX7_used 41 = .ok (.bipush 6, 2) := dk_16 6 (dk_at dksX7_used_1 17 rfl rfl)
theorem dX7_used_43 : decode cX7_used 43 = .ok (.invokevirtual 188, 3) := dk_182 0 188 (dk_at dksX7_used_1 19 rfl rfl)
theorem dX7_used_46 : decode cX7_used 46 = .ok (.ireturn, 1) := dk_172 (dk_at dksX7_used_1 22 rfl rfl)
abbrev cX7_useless : ByteArray := prog_17_method_81_code
def yX7_useless : MethodName := ⟨RX7, "useless", "()I"⟩
def dkwX7_useless_3 : List UInt8 := [42, 27, 182, 0, 191, 172]
abbrev dktX7_useless_3 : List UInt8 := dkwX7_useless_3 ++ []
def dkwX7_useless_2 : List UInt8 := [17, 7, 218, 28, 96, 46, 154, 0, 9, 4, 28, 120, 167, 0, 4, 3, 128, 60, 132, 2, 1, 167, 255, 206]
abbrev dktX7_useless_2 : List UInt8 := dkwX7_useless_2 ++ dktX7_useless_3
def dkwX7_useless_1 : List UInt8 := [46, 162, 0, 46, 27, 42, 180, 0, 7, 16, 6, 46, 28, 184, 0, 249, 154, 0, 22, 42, 180, 0, 7]
abbrev dktX7_useless_1 : List UInt8 := dkwX7_useless_1 ++ dktX7_useless_2
def dkwX7_useless_0 : List UInt8 := [42, 182, 1, 50, 154, 0, 10, 42, 16, 6, 182, 0, 188, 172, 3, 60, 3, 61, 28, 42, 180, 0, 7, 3]
abbrev dktX7_useless_0 : List UInt8 := dkwX7_useless_0 ++ dktX7_useless_1
theorem dksX7_useless_0 : cX7_useless.data.toList.drop 0 = dktX7_useless_0 := by decide +kernel
theorem dksX7_useless_1 : cX7_useless.data.toList.drop 24 = dktX7_useless_1 := dk_seg dksX7_useless_0 24 rfl rfl
theorem dksX7_useless_2 : cX7_useless.data.toList.drop 47 = dktX7_useless_2 := dk_seg dksX7_useless_1 23 rfl rfl
theorem dksX7_useless_3 : cX7_useless.data.toList.drop 71 = dktX7_useless_3 := dk_seg dksX7_useless_2 24 rfl rfl
theorem dX7_useless_0 : decode cX7_useless 0 = .ok (.aload_n 0, 1) := dk_42 (dk_at dksX7_useless_0 0 rfl rfl)
theorem dX7_useless_1 : decode cX7_useless 1 = .ok (.invokevirtual 306, 3) := dk_182 1 50 (dk_at dksX7_useless_0 1 rfl rfl)
theorem dX7_useless_4 : decode cX7_useless 4 = .ok (.ifCond .ne 10, 3) := dk_154 0 10 (dk_at dksX7_useless_0 4 rfl rfl)
theorem dX7_useless_7 : decode cX7_useless 7 = .ok (.aload_n 0, 1) := dk_42 (dk_at dksX7_useless_0 7 rfl rfl)
theorem dX7_useless_8 : decode cX7_useless 8 = .ok (.bipush 6, 2) := dk_16 6 (dk_at dksX7_useless_0 8 rfl rfl)
theorem dX7_useless_10 : decode cX7_useless 10 = .ok (.invokevirtual 188, 3) := dk_182 0 188 (dk_at dksX7_useless_0 10 rfl rfl)
theorem dX7_useless_13 : decode cX7_useless 13 = .ok (.ireturn, 1) := dk_172 (dk_at dksX7_useless_0 13 rfl rfl)
theorem dX7_useless_14 : decode cX7_useless 14 = .ok (.iconst 0, 1) := dk_3 (dk_at dksX7_useless_0 14 rfl rfl)
theorem dX7_useless_15 : decode cX7_useless 15 = .ok (.istore_n 1, 1) := dk_60 (dk_at dksX7_useless_0 15 rfl rfl)
theorem dX7_useless_16 : decode cX7_useless 16 = .ok (.iconst 0, 1) := dk_3 (dk_at dksX7_useless_0 16 rfl rfl)
theorem dX7_useless_17 : decode cX7_useless 17 = .ok (.istore_n 2, 1) := dk_61 (dk_at dksX7_useless_0 17 rfl rfl)
theorem dX7_useless_18 : decode cX7_useless 18 = .ok (.iload_n 2, 1) := dk_28 (dk_at dksX7_useless_0 18 rfl rfl)
theorem dX7_useless_19 : decode cX7_useless 19 = .ok (.aload_n 0, 1) := dk_42 (dk_at dksX7_useless_0 19 rfl rfl)
theorem dX7_useless_20 : decode cX7_useless 20 = .ok (.getfield 7, 3) := dk_180 0 7 (dk_at dksX7_useless_0 20 rfl rfl)
theorem dX7_useless_23 : decode cX7_useless 23 = .ok (.iconst 0, 1) := dk_3 (dk_at dksX7_useless_0 23 rfl rfl)
theorem dX7_useless_24 : decode cX7_useless 24 = .ok (.iaload, 1) := dk_46 (dk_at dksX7_useless_1 0 rfl rfl)
theorem dX7_useless_25 : decode cX7_useless 25 = .ok (.if_icmp .ge 46, 3) := dk_162 0 46 (dk_at dksX7_useless_1 1 rfl rfl)
theorem dX7_useless_28 : decode cX7_useless 28 = .ok (.iload_n 1, 1) := dk_27 (dk_at dksX7_useless_1 4 rfl rfl)
theorem dX7_useless_29 : decode cX7_useless 29 = .ok (.aload_n 0, 1) := dk_42 (dk_at dksX7_useless_1 5 rfl rfl)
theorem dX7_useless_30 : decode cX7_useless 30 = .ok (.getfield 7, 3) := dk_180 0 7 (dk_at dksX7_useless_1 6 rfl rfl)
theorem dX7_useless_33 : decode cX7_useless 33 = .ok (.bipush 6, 2) := dk_16 6 (dk_at dksX7_useless_1 9 rfl rfl)
theorem dX7_useless_35 : decode cX7_useless 35 = .ok (.iaload, 1) := dk_46 (dk_at dksX7_useless_1 11 rfl rfl)
theorem dX7_useless_36 : decode cX7_useless 36 = .ok (.iload_n 2, 1) := dk_28 (dk_at dksX7_useless_1 12 rfl rfl)
theorem dX7_useless_37 : decode cX7_useless 37 = .ok (.invokestatic 249, 3) := dk_184 0 249 (dk_at dksX7_useless_1 13 rfl rfl)
theorem dX7_useless_40 : decode cX7_useless 40 = .ok (.ifCond .ne 22, 3) := dk_154 0 22 (dk_at dksX7_useless_1 16 rfl rfl)
theorem dX7_useless_43 : decode cX7_useless 43 = .ok (.aload_n 0, 1) := dk_42 (dk_at dksX7_useless_1 19 rfl rfl)
theorem dX7_useless_44 : decode cX7_useless 44 = .ok (.getfield 7, 3) := dk_180 0 7 (dk_at dksX7_useless_1 20 rfl rfl)
theorem dX7_useless_47 : decode cX7_useless 47 = .ok (.sipush 2010, 3) := dk_17 7 218 (dk_at dksX7_useless_2 0 rfl rfl)
theorem dX7_useless_50 : decode cX7_useless 50 = .ok (.iload_n 2, 1) := dk_28 (dk_at dksX7_useless_2 3 rfl rfl)
theorem dX7_useless_51 : decode cX7_useless 51 = .ok (.iadd, 1) := dk_96 (dk_at dksX7_useless_2 4 rfl rfl)
theorem dX7_useless_52 : decode cX7_useless 52 = .ok (.iaload, 1) := dk_46 (dk_at dksX7_useless_2 5 rfl rfl)
theorem dX7_useless_53 : decode cX7_useless 53 = .ok (.ifCond .ne 9, 3) := dk_154 0 9 (dk_at dksX7_useless_2 6 rfl rfl)
theorem dX7_useless_56 : decode cX7_useless 56 = .ok (.iconst 1, 1) := dk_4 (dk_at dksX7_useless_2 9 rfl rfl)
theorem dX7_useless_57 : decode cX7_useless 57 = .ok (.iload_n 2, 1) := dk_28 (dk_at dksX7_useless_2 10 rfl rfl)
theorem dX7_useless_58 : decode cX7_useless 58 = .ok (.ishl, 1) := dk_120 (dk_at dksX7_useless_2 11 rfl rfl)
theorem dX7_useless_59 : decode cX7_useless 59 = .ok (.goto 4, 3) := dk_167 0 4 (dk_at dksX7_useless_2 12 rfl rfl)
theorem dX7_useless_62 : decode cX7_useless 62 = .ok (.iconst 0, 1) := dk_3 (dk_at dksX7_useless_2 15 rfl rfl)
theorem dX7_useless_63 : decode cX7_useless 63 = .ok (.ior, 1) := dk_128 (dk_at dksX7_useless_2 16 rfl rfl)
theorem dX7_useless_64 : decode cX7_useless 64 = .ok (.istore_n 1, 1) := dk_60 (dk_at dksX7_useless_2 17 rfl rfl)
theorem dX7_useless_65 : decode cX7_useless 65 = .ok (.iinc 2 1, 3) := dk_132 2 1 (dk_at dksX7_useless_2 18 rfl rfl)
theorem dX7_useless_68 : decode cX7_useless 68 = .ok (.goto (-50), 3) := dk_167 255 206 (dk_at dksX7_useless_2 21 rfl rfl)
theorem dX7_useless_71 : decode cX7_useless 71 = .ok (.aload_n 0, 1) := dk_42 (dk_at dksX7_useless_3 0 rfl rfl)
theorem dX7_useless_72 : decode cX7_useless 72 = .ok (.iload_n 1, 1) := dk_27 (dk_at dksX7_useless_3 1 rfl rfl)
theorem dX7_useless_73 : decode cX7_useless 73 = .ok (.invokevirtual 191, 3) := dk_182 0 191 (dk_at dksX7_useless_3 2 rfl rfl)
theorem dX7_useless_76 : decode cX7_useless 76 = .ok (.ireturn, 1) := dk_172 (dk_at dksX7_useless_3 5 rfl rfl)
abbrev cX7_dots : ByteArray := prog_17_method_83_code
def yX7_dots : MethodName := ⟨RX7, "dots", "()I"⟩
def dkwX7_dots_2 : List UInt8 := [132, 2, 1, 167, 255, 226, 42, 27, 182, 0, 191, 172]
abbrev dktX7_dots_2 : List UInt8 := dkwX7_dots_2 ++ []
def dkwX7_dots_1 : List UInt8 := [16, 8, 46, 162, 0, 25, 27, 42, 180, 0, 7, 17, 2, 88, 28, 96, 46, 184, 1, 80, 96, 60]
abbrev dktX7_dots_1 : List UInt8 := dkwX7_dots_1 ++ dktX7_dots_2
def dkwX7_dots_0 : List UInt8 := [42, 182, 1, 50, 154, 0, 10, 42, 16, 6, 182, 0, 188, 172, 3, 60, 3, 61, 28, 42, 180, 0, 7]
abbrev dktX7_dots_0 : List UInt8 := dkwX7_dots_0 ++ dktX7_dots_1
theorem dksX7_dots_0 : cX7_dots.data.toList.drop 0 = dktX7_dots_0 := by decide +kernel
theorem dksX7_dots_1 : cX7_dots.data.toList.drop 23 = dktX7_dots_1 := dk_seg dksX7_dots_0 23 rfl rfl
theorem dksX7_dots_2 : cX7_dots.data.toList.drop 45 = dktX7_dots_2 := dk_seg dksX7_dots_1 22 rfl rfl
theorem dX7_dots_0 : decode cX7_dots 0 = .ok (.aload_n 0, 1) := dk_42 (dk_at dksX7_dots_0 0 rfl rfl)
theorem dX7_dots_1 : decode cX7_dots 1 = .ok (.invokevirtual 306, 3) := dk_182 1 50 (dk_at dksX7_dots_0 1 rfl rfl)
theorem dX7_dots_4 : decode cX7_dots 4 = .ok (.ifCond .ne 10, 3) := dk_154 0 10 (dk_at dksX7_dots_0 4 rfl rfl)
theorem dX7_dots_7 : decode cX7_dots 7 = .ok (.aload_n 0, 1) := dk_42 (dk_at dksX7_dots_0 7 rfl rfl)
theorem dX7_dots_8 : decode cX7_dots 8 = .ok (.bipush 6, 2) := dk_16 6 (dk_at dksX7_dots_0 8 rfl rfl)
theorem dX7_dots_10 : decode cX7_dots 10 = .ok (.invokevirtual 188, 3) := dk_182 0 188 (dk_at dksX7_dots_0 10 rfl rfl)
theorem dX7_dots_13 : decode cX7_dots 13 = .ok (.ireturn, 1) := dk_172 (dk_at dksX7_dots_0 13 rfl rfl)
theorem dX7_dots_14 : decode cX7_dots 14 = .ok (.iconst 0, 1) := dk_3 (dk_at dksX7_dots_0 14 rfl rfl)
theorem dX7_dots_15 : decode cX7_dots 15 = .ok (.istore_n 1, 1) := dk_60 (dk_at dksX7_dots_0 15 rfl rfl)
theorem dX7_dots_16 : decode cX7_dots 16 = .ok (.iconst 0, 1) := dk_3 (dk_at dksX7_dots_0 16 rfl rfl)
theorem dX7_dots_17 : decode cX7_dots 17 = .ok (.istore_n 2, 1) := dk_61 (dk_at dksX7_dots_0 17 rfl rfl)
theorem dX7_dots_18 : decode cX7_dots 18 = .ok (.iload_n 2, 1) := dk_28 (dk_at dksX7_dots_0 18 rfl rfl)
theorem dX7_dots_19 : decode cX7_dots 19 = .ok (.aload_n 0, 1) := dk_42 (dk_at dksX7_dots_0 19 rfl rfl)
theorem dX7_dots_20 : decode cX7_dots 20 = .ok (.getfield 7, 3) := dk_180 0 7 (dk_at dksX7_dots_0 20 rfl rfl)
theorem dX7_dots_23 : decode cX7_dots 23 = .ok (.bipush 8, 2) := dk_16 8 (dk_at dksX7_dots_1 0 rfl rfl)
theorem dX7_dots_25 : decode cX7_dots 25 = .ok (.iaload, 1) := dk_46 (dk_at dksX7_dots_1 2 rfl rfl)
theorem dX7_dots_26 : decode cX7_dots 26 = .ok (.if_icmp .ge 25, 3) := dk_162 0 25 (dk_at dksX7_dots_1 3 rfl rfl)
theorem dX7_dots_29 : decode cX7_dots 29 = .ok (.iload_n 1, 1) := dk_27 (dk_at dksX7_dots_1 6 rfl rfl)
theorem dX7_dots_30 : decode cX7_dots 30 = .ok (.aload_n 0, 1) := dk_42 (dk_at dksX7_dots_1 7 rfl rfl)
theorem dX7_dots_31 : decode cX7_dots 31 = .ok (.getfield 7, 3) := dk_180 0 7 (dk_at dksX7_dots_1 8 rfl rfl)
theorem dX7_dots_34 : decode cX7_dots 34 = .ok (.sipush 600, 3) := dk_17 2 88 (dk_at dksX7_dots_1 11 rfl rfl)
theorem dX7_dots_37 : decode cX7_dots 37 = .ok (.iload_n 2, 1) := dk_28 (dk_at dksX7_dots_1 14 rfl rfl)
theorem dX7_dots_38 : decode cX7_dots 38 = .ok (.iadd, 1) := dk_96 (dk_at dksX7_dots_1 15 rfl rfl)
theorem dX7_dots_39 : decode cX7_dots 39 = .ok (.iaload, 1) := dk_46 (dk_at dksX7_dots_1 16 rfl rfl)
theorem dX7_dots_40 : decode cX7_dots 40 = .ok (.invokestatic 336, 3) := dk_184 1 80 (dk_at dksX7_dots_1 17 rfl rfl)
theorem dX7_dots_43 : decode cX7_dots 43 = .ok (.iadd, 1) := dk_96 (dk_at dksX7_dots_1 20 rfl rfl)
theorem dX7_dots_44 : decode cX7_dots 44 = .ok (.istore_n 1, 1) := dk_60 (dk_at dksX7_dots_1 21 rfl rfl)
theorem dX7_dots_45 : decode cX7_dots 45 = .ok (.iinc 2 1, 3) := dk_132 2 1 (dk_at dksX7_dots_2 0 rfl rfl)
theorem dX7_dots_48 : decode cX7_dots 48 = .ok (.goto (-30), 3) := dk_167 255 226 (dk_at dksX7_dots_2 3 rfl rfl)
theorem dX7_dots_51 : decode cX7_dots 51 = .ok (.aload_n 0, 1) := dk_42 (dk_at dksX7_dots_2 6 rfl rfl)
theorem dX7_dots_52 : decode cX7_dots 52 = .ok (.iload_n 1, 1) := dk_27 (dk_at dksX7_dots_2 7 rfl rfl)
theorem dX7_dots_53 : decode cX7_dots 53 = .ok (.invokevirtual 191, 3) := dk_182 0 191 (dk_at dksX7_dots_2 8 rfl rfl)
theorem dX7_dots_56 : decode cX7_dots 56 = .ok (.ireturn, 1) := dk_172 (dk_at dksX7_dots_2 11 rfl rfl)
abbrev cX7_bits : ByteArray := prog_17_method_82_code
def yX7_bits : MethodName := ⟨RX7, "bits", "(I)I"⟩
def dkwX7_bits_0 : List UInt8 := [3, 60, 26, 61, 28, 153, 0, 15, 132, 1, 1, 28, 28, 4, 100, 126, 61, 167, 255, 243, 27, 172]
abbrev dktX7_bits_0 : List UInt8 := dkwX7_bits_0 ++ []
theorem dksX7_bits_0 : cX7_bits.data.toList.drop 0 = dktX7_bits_0 := by decide +kernel
theorem dX7_bits_0 : decode cX7_bits 0 = .ok (.iconst 0, 1) := dk_3 (dk_at dksX7_bits_0 0 rfl rfl)
theorem dX7_bits_1 : decode cX7_bits 1 = .ok (.istore_n 1, 1) := dk_60 (dk_at dksX7_bits_0 1 rfl rfl)
theorem dX7_bits_2 : decode cX7_bits 2 = .ok (.iload_n 0, 1) := dk_26 (dk_at dksX7_bits_0 2 rfl rfl)
theorem dX7_bits_3 : decode cX7_bits 3 = .ok (.istore_n 2, 1) := dk_61 (dk_at dksX7_bits_0 3 rfl rfl)
theorem dX7_bits_4 : decode cX7_bits 4 = .ok (.iload_n 2, 1) := dk_28 (dk_at dksX7_bits_0 4 rfl rfl)
theorem dX7_bits_5 : decode cX7_bits 5 = .ok (.ifCond .eq 15, 3) := dk_153 0 15 (dk_at dksX7_bits_0 5 rfl rfl)
theorem dX7_bits_8 : decode cX7_bits 8 = .ok (.iinc 1 1, 3) := dk_132 1 1 (dk_at dksX7_bits_0 8 rfl rfl)
theorem dX7_bits_11 : decode cX7_bits 11 = .ok (.iload_n 2, 1) := dk_28 (dk_at dksX7_bits_0 11 rfl rfl)
theorem dX7_bits_12 : decode cX7_bits 12 = .ok (.iload_n 2, 1) := dk_28 (dk_at dksX7_bits_0 12 rfl rfl)
theorem dX7_bits_13 : decode cX7_bits 13 = .ok (.iconst 1, 1) := dk_4 (dk_at dksX7_bits_0 13 rfl rfl)
theorem dX7_bits_14 : decode cX7_bits 14 = .ok (.isub, 1) := dk_100 (dk_at dksX7_bits_0 14 rfl rfl)
theorem dX7_bits_15 : decode cX7_bits 15 = .ok (.iand, 1) := dk_126 (dk_at dksX7_bits_0 15 rfl rfl)
theorem dX7_bits_16 : decode cX7_bits 16 = .ok (.istore_n 2, 1) := dk_61 (dk_at dksX7_bits_0 16 rfl rfl)
theorem dX7_bits_17 : decode cX7_bits 17 = .ok (.goto (-13), 3) := dk_167 255 243 (dk_at dksX7_bits_0 17 rfl rfl)
theorem dX7_bits_20 : decode cX7_bits 20 = .ok (.iload_n 1, 1) := dk_27 (dk_at dksX7_bits_0 20 rfl rfl)
theorem dX7_bits_21 : decode cX7_bits 21 = .ok (.ireturn, 1) := dk_172 (dk_at dksX7_bits_0 21 rfl rfl)
abbrev cX7_piece : ByteArray := prog_17_method_84_code
def yX7_piece : MethodName := ⟨RX7, "piece", "(II)I"⟩
def dkwX7_piece_3 : List UInt8 := [182, 0, 191, 172]
abbrev dktX7_piece_3 : List UInt8 := dkwX7_piece_3 ++ []
def dkwX7_piece_2 : List UInt8 := [182, 1, 74, 42, 28, 154, 0, 11, 42, 27, 182, 1, 65, 167, 0, 9, 42, 180, 0, 50, 27, 46]
abbrev dktX7_piece_2 : List UInt8 := dkwX7_piece_2 ++ dktX7_piece_3
def dkwX7_piece_1 : List UInt8 := [155, 0, 14, 27, 42, 180, 0, 7, 16, 9, 46, 161, 0, 10, 42, 16, 6, 182, 0, 188, 172, 42]
abbrev dktX7_piece_1 : List UInt8 := dkwX7_piece_1 ++ dktX7_piece_2
def dkwX7_piece_0 : List UInt8 := [28, 155, 0, 8, 28, 4, 164, 0, 9, 42, 4, 182, 0, 188, 172, 42, 182, 1, 50, 153, 0, 18, 27]
abbrev dktX7_piece_0 : List UInt8 := dkwX7_piece_0 ++ dktX7_piece_1
theorem dksX7_piece_0 : cX7_piece.data.toList.drop 0 = dktX7_piece_0 := by decide +kernel
theorem dksX7_piece_1 : cX7_piece.data.toList.drop 23 = dktX7_piece_1 := dk_seg dksX7_piece_0 23 rfl rfl
theorem dksX7_piece_2 : cX7_piece.data.toList.drop 45 = dktX7_piece_2 := dk_seg dksX7_piece_1 22 rfl rfl
theorem dksX7_piece_3 : cX7_piece.data.toList.drop 67 = dktX7_piece_3 := dk_seg dksX7_piece_2 22 rfl rfl
theorem dX7_piece_0 : decode cX7_piece 0 = .ok (.iload_n 2, 1) := dk_28 (dk_at dksX7_piece_0 0 rfl rfl)
theorem dX7_piece_1 : decode cX7_piece 1 = .ok (.ifCond .lt 8, 3) := dk_155 0 8 (dk_at dksX7_piece_0 1 rfl rfl)
theorem dX7_piece_4 : decode cX7_piece 4 = .ok (.iload_n 2, 1) := dk_28 (dk_at dksX7_piece_0 4 rfl rfl)
theorem dX7_piece_5 : decode cX7_piece 5 = .ok (.iconst 1, 1) := dk_4 (dk_at dksX7_piece_0 5 rfl rfl)
theorem dX7_piece_6 : decode cX7_piece 6 = .ok (.if_icmp .le 9, 3) := dk_164 0 9 (dk_at dksX7_piece_0 6 rfl rfl)
theorem dX7_piece_9 : decode cX7_piece 9 = .ok (.aload_n 0, 1) := dk_42 (dk_at dksX7_piece_0 9 rfl rfl)
theorem dX7_piece_10 : decode cX7_piece 10 = .ok (.iconst 1, 1) := dk_4 (dk_at dksX7_piece_0 10 rfl rfl)
theorem dX7_piece_11 : decode cX7_piece 11 = .ok (.invokevirtual 188, 3) := dk_182 0 188 (dk_at dksX7_piece_0 11 rfl rfl)
theorem dX7_piece_14 : decode cX7_piece 14 = .ok (.ireturn, 1) := dk_172 (dk_at dksX7_piece_0 14 rfl rfl)
theorem dX7_piece_15 : decode cX7_piece 15 = .ok (.aload_n 0, 1) := dk_42 (dk_at dksX7_piece_0 15 rfl rfl)
theorem dX7_piece_16 : decode cX7_piece 16 = .ok (.invokevirtual 306, 3) := dk_182 1 50 (dk_at dksX7_piece_0 16 rfl rfl)
theorem dX7_piece_19 : decode cX7_piece 19 = .ok (.ifCond .eq 18, 3) := dk_153 0 18 (dk_at dksX7_piece_0 19 rfl rfl)
theorem dX7_piece_22 : decode cX7_piece 22 = .ok (.iload_n 1, 1) := dk_27 (dk_at dksX7_piece_0 22 rfl rfl)
theorem dX7_piece_23 : decode cX7_piece 23 = .ok (.ifCond .lt 14, 3) := dk_155 0 14 (dk_at dksX7_piece_1 0 rfl rfl)
theorem dX7_piece_26 : decode cX7_piece 26 = .ok (.iload_n 1, 1) := dk_27 (dk_at dksX7_piece_1 3 rfl rfl)
theorem dX7_piece_27 : decode cX7_piece 27 = .ok (.aload_n 0, 1) := dk_42 (dk_at dksX7_piece_1 4 rfl rfl)
theorem dX7_piece_28 : decode cX7_piece 28 = .ok (.getfield 7, 3) := dk_180 0 7 (dk_at dksX7_piece_1 5 rfl rfl)
theorem dX7_piece_31 : decode cX7_piece 31 = .ok (.bipush 9, 2) := dk_16 9 (dk_at dksX7_piece_1 8 rfl rfl)
theorem dX7_piece_33 : decode cX7_piece 33 = .ok (.iaload, 1) := dk_46 (dk_at dksX7_piece_1 10 rfl rfl)
theorem dX7_piece_34 : decode cX7_piece 34 = .ok (.if_icmp .lt 10, 3) := dk_161 0 10 (dk_at dksX7_piece_1 11 rfl rfl)
theorem dX7_piece_37 : decode cX7_piece 37 = .ok (.aload_n 0, 1) := dk_42 (dk_at dksX7_piece_1 14 rfl rfl)
theorem dX7_piece_38 : decode cX7_piece 38 = .ok (.bipush 6, 2) := dk_16 6 (dk_at dksX7_piece_1 15 rfl rfl)
theorem dX7_piece_40 : decode cX7_piece 40 = .ok (.invokevirtual 188, 3) := dk_182 0 188 (dk_at dksX7_piece_1 17 rfl rfl)
theorem dX7_piece_43 : decode cX7_piece 43 = .ok (.ireturn, 1) := dk_172 (dk_at dksX7_piece_1 20 rfl rfl)
theorem dX7_piece_44 : decode cX7_piece 44 = .ok (.aload_n 0, 1) := dk_42 (dk_at dksX7_piece_1 21 rfl rfl)
theorem dX7_piece_45 : decode cX7_piece 45 = .ok (.invokevirtual 330, 3) := dk_182 1 74 (dk_at dksX7_piece_2 0 rfl rfl)
theorem dX7_piece_48 : decode cX7_piece 48 = .ok (.aload_n 0, 1) := dk_42 (dk_at dksX7_piece_2 3 rfl rfl)
theorem dX7_piece_49 : decode cX7_piece 49 = .ok (.iload_n 2, 1) := dk_28 (dk_at dksX7_piece_2 4 rfl rfl)
theorem dX7_piece_50 : decode cX7_piece 50 = .ok (.ifCond .ne 11, 3) := dk_154 0 11 (dk_at dksX7_piece_2 5 rfl rfl)
theorem dX7_piece_53 : decode cX7_piece 53 = .ok (.aload_n 0, 1) := dk_42 (dk_at dksX7_piece_2 8 rfl rfl)
theorem dX7_piece_54 : decode cX7_piece 54 = .ok (.iload_n 1, 1) := dk_27 (dk_at dksX7_piece_2 9 rfl rfl)
theorem dX7_piece_55 : decode cX7_piece 55 = .ok (.invokevirtual 321, 3) := dk_182 1 65 (dk_at dksX7_piece_2 10 rfl rfl)
theorem dX7_piece_58 : decode cX7_piece 58 = .ok (.goto 9, 3) := dk_167 0 9 (dk_at dksX7_piece_2 13 rfl rfl)
theorem dX7_piece_61 : decode cX7_piece 61 = .ok (.aload_n 0, 1) := dk_42 (dk_at dksX7_piece_2 16 rfl rfl)
theorem dX7_piece_62 : decode cX7_piece 62 = .ok (.getfield 50, 3) := dk_180 0 50 (dk_at dksX7_piece_2 17 rfl rfl)
theorem dX7_piece_65 : decode cX7_piece 65 = .ok (.iload_n 1, 1) := dk_27 (dk_at dksX7_piece_2 20 rfl rfl)
theorem dX7_piece_66 : decode cX7_piece 66 = .ok (.iaload, 1) := dk_46 (dk_at dksX7_piece_2 21 rfl rfl)
theorem dX7_piece_67 : decode cX7_piece 67 = .ok (.invokevirtual 191, 3) := dk_182 0 191 (dk_at dksX7_piece_3 0 rfl rfl)
theorem dX7_piece_70 : decode cX7_piece 70 = .ok (.ireturn, 1) := dk_172 (dk_at dksX7_piece_3 3 rfl rfl)
abbrev cX7_by : ByteArray := prog_17_method_85_code
def yX7_by : MethodName := ⟨RX7, "by", "(I)I"⟩
def dkwX7_by_2 : List UInt8 := [180, 0, 7, 17, 7, 248, 27, 96, 46, 182, 0, 191, 172]
abbrev dktX7_by_2 : List UInt8 := dkwX7_by_2 ++ []
def dkwX7_by_1 : List UInt8 := [180, 0, 7, 17, 7, 248, 27, 96, 46, 2, 160, 0, 12, 42, 16, 6, 182, 0, 188, 167, 0, 17, 42, 42]
abbrev dktX7_by_1 : List UInt8 := dkwX7_by_1 ++ dktX7_by_2
def dkwX7_by_0 : List UInt8 := [42, 182, 1, 50, 153, 0, 32, 27, 155, 0, 28, 27, 42, 180, 0, 7, 16, 8, 46, 162, 0, 17, 42]
abbrev dktX7_by_0 : List UInt8 := dkwX7_by_0 ++ dktX7_by_1
theorem dksX7_by_0 : cX7_by.data.toList.drop 0 = dktX7_by_0 := by decide +kernel
theorem dksX7_by_1 : cX7_by.data.toList.drop 23 = dktX7_by_1 := dk_seg dksX7_by_0 23 rfl rfl
theorem dksX7_by_2 : cX7_by.data.toList.drop 47 = dktX7_by_2 := dk_seg dksX7_by_1 24 rfl rfl
theorem dX7_by_0 : decode cX7_by 0 = .ok (.aload_n 0, 1) := dk_42 (dk_at dksX7_by_0 0 rfl rfl)
theorem dX7_by_1 : decode cX7_by 1 = .ok (.invokevirtual 306, 3) := dk_182 1 50 (dk_at dksX7_by_0 1 rfl rfl)
theorem dX7_by_4 : decode cX7_by 4 = .ok (.ifCond .eq 32, 3) := dk_153 0 32 (dk_at dksX7_by_0 4 rfl rfl)
theorem dX7_by_7 : decode cX7_by 7 = .ok (.iload_n 1, 1) := dk_27 (dk_at dksX7_by_0 7 rfl rfl)
theorem dX7_by_8 : decode cX7_by 8 = .ok (.ifCond .lt 28, 3) := dk_155 0 28 (dk_at dksX7_by_0 8 rfl rfl)
theorem dX7_by_11 : decode cX7_by 11 = .ok (.iload_n 1, 1) := dk_27 (dk_at dksX7_by_0 11 rfl rfl)
theorem dX7_by_12 : decode cX7_by 12 = .ok (.aload_n 0, 1) := dk_42 (dk_at dksX7_by_0 12 rfl rfl)
theorem dX7_by_13 : decode cX7_by 13 = .ok (.getfield 7, 3) := dk_180 0 7 (dk_at dksX7_by_0 13 rfl rfl)
theorem dX7_by_16 : decode cX7_by 16 = .ok (.bipush 8, 2) := dk_16 8 (dk_at dksX7_by_0 16 rfl rfl)
theorem dX7_by_18 : decode cX7_by 18 = .ok (.iaload, 1) := dk_46 (dk_at dksX7_by_0 18 rfl rfl)
theorem dX7_by_19 : decode cX7_by 19 = .ok (.if_icmp .ge 17, 3) := dk_162 0 17 (dk_at dksX7_by_0 19 rfl rfl)
theorem dX7_by_22 : decode cX7_by 22 = .ok (.aload_n 0, 1) := dk_42 (dk_at dksX7_by_0 22 rfl rfl)
theorem dX7_by_23 : decode cX7_by 23 = .ok (.getfield 7, 3) := dk_180 0 7 (dk_at dksX7_by_1 0 rfl rfl)
theorem dX7_by_26 : decode cX7_by 26 = .ok (.sipush 2040, 3) := dk_17 7 248 (dk_at dksX7_by_1 3 rfl rfl)
theorem dX7_by_29 : decode cX7_by 29 = .ok (.iload_n 1, 1) := dk_27 (dk_at dksX7_by_1 6 rfl rfl)
theorem dX7_by_30 : decode cX7_by 30 = .ok (.iadd, 1) := dk_96 (dk_at dksX7_by_1 7 rfl rfl)
theorem dX7_by_31 : decode cX7_by 31 = .ok (.iaload, 1) := dk_46 (dk_at dksX7_by_1 8 rfl rfl)
theorem dX7_by_32 : decode cX7_by 32 = .ok (.iconst (-1), 1) := dk_2 (dk_at dksX7_by_1 9 rfl rfl)
theorem dX7_by_33 : decode cX7_by 33 = .ok (.if_icmp .ne 12, 3) := dk_160 0 12 (dk_at dksX7_by_1 10 rfl rfl)
theorem dX7_by_36 : decode cX7_by 36 = .ok (.aload_n 0, 1) := dk_42 (dk_at dksX7_by_1 13 rfl rfl)
theorem dX7_by_37 : decode cX7_by 37 = .ok (.bipush 6, 2) := dk_16 6 (dk_at dksX7_by_1 14 rfl rfl)
theorem dX7_by_39 : decode cX7_by 39 = .ok (.invokevirtual 188, 3) := dk_182 0 188 (dk_at dksX7_by_1 16 rfl rfl)
theorem dX7_by_42 : decode cX7_by 42 = .ok (.goto 17, 3) := dk_167 0 17 (dk_at dksX7_by_1 19 rfl rfl)
theorem dX7_by_45 : decode cX7_by 45 = .ok (.aload_n 0, 1) := dk_42 (dk_at dksX7_by_1 22 rfl rfl)
theorem dX7_by_46 : decode cX7_by 46 = .ok (.aload_n 0, 1) := dk_42 (dk_at dksX7_by_1 23 rfl rfl)
theorem dX7_by_47 : decode cX7_by 47 = .ok (.getfield 7, 3) := dk_180 0 7 (dk_at dksX7_by_2 0 rfl rfl)
theorem dX7_by_50 : decode cX7_by 50 = .ok (.sipush 2040, 3) := dk_17 7 248 (dk_at dksX7_by_2 3 rfl rfl)
theorem dX7_by_53 : decode cX7_by 53 = .ok (.iload_n 1, 1) := dk_27 (dk_at dksX7_by_2 6 rfl rfl)
theorem dX7_by_54 : decode cX7_by 54 = .ok (.iadd, 1) := dk_96 (dk_at dksX7_by_2 7 rfl rfl)
theorem dX7_by_55 : decode cX7_by 55 = .ok (.iaload, 1) := dk_46 (dk_at dksX7_by_2 8 rfl rfl)
theorem dX7_by_56 : decode cX7_by 56 = .ok (.invokevirtual 191, 3) := dk_182 0 191 (dk_at dksX7_by_2 9 rfl rfl)
theorem dX7_by_59 : decode cX7_by 59 = .ok (.ireturn, 1) := dk_172 (dk_at dksX7_by_2 12 rfl rfl)
abbrev cX7_dense : ByteArray := prog_17_method_86_code
def yX7_dense : MethodName := ⟨RX7, "dense", "(I)I"⟩
def dkwX7_dense_5 : List UInt8 := [161, 0, 9, 28, 29, 184, 1, 89, 61, 132, 4, 1, 167, 255, 183, 42, 28, 182, 0, 191, 172]
abbrev dktX7_dense_5 : List UInt8 := dkwX7_dense_5 ++ []
def dkwX7_dense_4 : List UInt8 := [17, 2, 88, 21, 4, 96, 27, 100, 46, 184, 1, 80, 167, 0, 4, 3, 100, 96, 62, 21, 4, 4, 96, 27]
abbrev dktX7_dense_4 : List UInt8 := dkwX7_dense_4 ++ dktX7_dense_5
def dkwX7_dense_3 : List UInt8 := [42, 180, 0, 7, 17, 2, 88, 21, 4, 96, 46, 184, 1, 80, 21, 4, 27, 161, 0, 22, 42, 180, 0, 7]
abbrev dktX7_dense_3 : List UInt8 := dkwX7_dense_3 ++ dktX7_dense_4
def dkwX7_dense_2 : List UInt8 := [182, 0, 188, 172, 3, 61, 3, 62, 3, 54, 4, 21, 4, 42, 180, 0, 7, 16, 8, 46, 162, 0, 67, 29]
abbrev dktX7_dense_2 : List UInt8 := dkwX7_dense_2 ++ dktX7_dense_3
def dkwX7_dense_1 : List UInt8 := [154, 0, 10, 42, 16, 6, 182, 0, 188, 172, 27, 42, 180, 0, 7, 16, 8, 46, 164, 0, 10, 42, 16, 7]
abbrev dktX7_dense_1 : List UInt8 := dkwX7_dense_1 ++ dktX7_dense_2
def dkwX7_dense_0 : List UInt8 := [27, 133, 10, 20, 1, 83, 184, 1, 85, 154, 0, 9, 42, 4, 182, 0, 188, 172, 42, 182, 1, 50]
abbrev dktX7_dense_0 : List UInt8 := dkwX7_dense_0 ++ dktX7_dense_1
theorem dksX7_dense_0 : cX7_dense.data.toList.drop 0 = dktX7_dense_0 := by decide +kernel
theorem dksX7_dense_1 : cX7_dense.data.toList.drop 22 = dktX7_dense_1 := dk_seg dksX7_dense_0 22 rfl rfl
theorem dksX7_dense_2 : cX7_dense.data.toList.drop 46 = dktX7_dense_2 := dk_seg dksX7_dense_1 24 rfl rfl
theorem dksX7_dense_3 : cX7_dense.data.toList.drop 70 = dktX7_dense_3 := dk_seg dksX7_dense_2 24 rfl rfl
theorem dksX7_dense_4 : cX7_dense.data.toList.drop 94 = dktX7_dense_4 := dk_seg dksX7_dense_3 24 rfl rfl
theorem dksX7_dense_5 : cX7_dense.data.toList.drop 118 = dktX7_dense_5 := dk_seg dksX7_dense_4 24 rfl rfl
theorem dX7_dense_0 : decode cX7_dense 0 = .ok (.iload_n 1, 1) := dk_27 (dk_at dksX7_dense_0 0 rfl rfl)
theorem dX7_dense_1 : decode cX7_dense 1 = .ok (.i2l, 1) := dk_133 (dk_at dksX7_dense_0 1 rfl rfl)
theorem dX7_dense_2 : decode cX7_dense 2 = .ok (.lconst 1, 1) := dk_10 (dk_at dksX7_dense_0 2 rfl rfl)
theorem dX7_dense_3 : decode cX7_dense 3 = .ok (.ldc2_w 339, 3) := dk_20 1 83 (dk_at dksX7_dense_0 3 rfl rfl)
theorem dX7_dense_6 : decode cX7_dense 6 = .ok (.invokestatic 341, 3) := dk_184 1 85 (dk_at dksX7_dense_0 6 rfl rfl)
theorem dX7_dense_9 : decode cX7_dense 9 = .ok (.ifCond .ne 9, 3) := dk_154 0 9 (dk_at dksX7_dense_0 9 rfl rfl)
theorem dX7_dense_12 : decode cX7_dense 12 = .ok (.aload_n 0, 1) := dk_42 (dk_at dksX7_dense_0 12 rfl rfl)
theorem dX7_dense_13 : decode cX7_dense 13 = .ok (.iconst 1, 1) := dk_4 (dk_at dksX7_dense_0 13 rfl rfl)
theorem dX7_dense_14 : decode cX7_dense 14 = .ok (.invokevirtual 188, 3) := dk_182 0 188 (dk_at dksX7_dense_0 14 rfl rfl)
theorem dX7_dense_17 : decode cX7_dense 17 = .ok (.ireturn, 1) := dk_172 (dk_at dksX7_dense_0 17 rfl rfl)
theorem dX7_dense_18 : decode cX7_dense 18 = .ok (.aload_n 0, 1) := dk_42 (dk_at dksX7_dense_0 18 rfl rfl)
theorem dX7_dense_19 : decode cX7_dense 19 = .ok (.invokevirtual 306, 3) := dk_182 1 50 (dk_at dksX7_dense_0 19 rfl rfl)
theorem dX7_dense_22 : decode cX7_dense 22 = .ok (.ifCond .ne 10, 3) := dk_154 0 10 (dk_at dksX7_dense_1 0 rfl rfl)
theorem dX7_dense_25 : decode cX7_dense 25 = .ok (.aload_n 0, 1) := dk_42 (dk_at dksX7_dense_1 3 rfl rfl)
theorem dX7_dense_26 : decode cX7_dense 26 = .ok (.bipush 6, 2) := dk_16 6 (dk_at dksX7_dense_1 4 rfl rfl)
theorem dX7_dense_28 : decode cX7_dense 28 = .ok (.invokevirtual 188, 3) := dk_182 0 188 (dk_at dksX7_dense_1 6 rfl rfl)
theorem dX7_dense_31 : decode cX7_dense 31 = .ok (.ireturn, 1) := dk_172 (dk_at dksX7_dense_1 9 rfl rfl)
theorem dX7_dense_32 : decode cX7_dense 32 = .ok (.iload_n 1, 1) := dk_27 (dk_at dksX7_dense_1 10 rfl rfl)
theorem dX7_dense_33 : decode cX7_dense 33 = .ok (.aload_n 0, 1) := dk_42 (dk_at dksX7_dense_1 11 rfl rfl)
theorem dX7_dense_34 : decode cX7_dense 34 = .ok (.getfield 7, 3) := dk_180 0 7 (dk_at dksX7_dense_1 12 rfl rfl)
theorem dX7_dense_37 : decode cX7_dense 37 = .ok (.bipush 8, 2) := dk_16 8 (dk_at dksX7_dense_1 15 rfl rfl)
theorem dX7_dense_39 : decode cX7_dense 39 = .ok (.iaload, 1) := dk_46 (dk_at dksX7_dense_1 17 rfl rfl)
theorem dX7_dense_40 : decode cX7_dense 40 = .ok (.if_icmp .le 10, 3) := dk_164 0 10 (dk_at dksX7_dense_1 18 rfl rfl)
theorem dX7_dense_43 : decode cX7_dense 43 = .ok (.aload_n 0, 1) := dk_42 (dk_at dksX7_dense_1 21 rfl rfl)
theorem dX7_dense_44 : decode cX7_dense 44 = .ok (.bipush 7, 2) := dk_16 7 (dk_at dksX7_dense_1 22 rfl rfl)
theorem dX7_dense_46 : decode cX7_dense 46 = .ok (.invokevirtual 188, 3) := dk_182 0 188 (dk_at dksX7_dense_2 0 rfl rfl)
theorem dX7_dense_49 : decode cX7_dense 49 = .ok (.ireturn, 1) := dk_172 (dk_at dksX7_dense_2 3 rfl rfl)
theorem dX7_dense_50 : decode cX7_dense 50 = .ok (.iconst 0, 1) := dk_3 (dk_at dksX7_dense_2 4 rfl rfl)
theorem dX7_dense_51 : decode cX7_dense 51 = .ok (.istore_n 2, 1) := dk_61 (dk_at dksX7_dense_2 5 rfl rfl)
theorem dX7_dense_52 : decode cX7_dense 52 = .ok (.iconst 0, 1) := dk_3 (dk_at dksX7_dense_2 6 rfl rfl)
theorem dX7_dense_53 : decode cX7_dense 53 = .ok (.istore_n 3, 1) := dk_62 (dk_at dksX7_dense_2 7 rfl rfl)
theorem dX7_dense_54 : decode cX7_dense 54 = .ok (.iconst 0, 1) := dk_3 (dk_at dksX7_dense_2 8 rfl rfl)
theorem dX7_dense_55 : decode cX7_dense 55 = .ok (.istore 4, 2) := dk_54 4 (dk_at dksX7_dense_2 9 rfl rfl)
theorem dX7_dense_57 : decode cX7_dense 57 = .ok (.iload 4, 2) := dk_21 4 (dk_at dksX7_dense_2 11 rfl rfl)
theorem dX7_dense_59 : decode cX7_dense 59 = .ok (.aload_n 0, 1) := dk_42 (dk_at dksX7_dense_2 13 rfl rfl)
theorem dX7_dense_60 : decode cX7_dense 60 = .ok (.getfield 7, 3) := dk_180 0 7 (dk_at dksX7_dense_2 14 rfl rfl)
theorem dX7_dense_63 : decode cX7_dense 63 = .ok (.bipush 8, 2) := dk_16 8 (dk_at dksX7_dense_2 17 rfl rfl)
theorem dX7_dense_65 : decode cX7_dense 65 = .ok (.iaload, 1) := dk_46 (dk_at dksX7_dense_2 19 rfl rfl)
theorem dX7_dense_66 : decode cX7_dense 66 = .ok (.if_icmp .ge 67, 3) := dk_162 0 67 (dk_at dksX7_dense_2 20 rfl rfl)
theorem dX7_dense_69 : decode cX7_dense 69 = .ok (.iload_n 3, 1) := dk_29 (dk_at dksX7_dense_2 23 rfl rfl)
theorem dX7_dense_70 : decode cX7_dense 70 = .ok (.aload_n 0, 1) := dk_42 (dk_at dksX7_dense_3 0 rfl rfl)
theorem dX7_dense_71 : decode cX7_dense 71 = .ok (.getfield 7, 3) := dk_180 0 7 (dk_at dksX7_dense_3 1 rfl rfl)
theorem dX7_dense_74 : decode cX7_dense 74 = .ok (.sipush 600, 3) := dk_17 2 88 (dk_at dksX7_dense_3 4 rfl rfl)
theorem dX7_dense_77 : decode cX7_dense 77 = .ok (.iload 4, 2) := dk_21 4 (dk_at dksX7_dense_3 7 rfl rfl)
theorem dX7_dense_79 : decode cX7_dense 79 = .ok (.iadd, 1) := dk_96 (dk_at dksX7_dense_3 9 rfl rfl)
theorem dX7_dense_80 : decode cX7_dense 80 = .ok (.iaload, 1) := dk_46 (dk_at dksX7_dense_3 10 rfl rfl)
theorem dX7_dense_81 : decode cX7_dense 81 = .ok (.invokestatic 336, 3) := dk_184 1 80 (dk_at dksX7_dense_3 11 rfl rfl)
theorem dX7_dense_84 : decode cX7_dense 84 = .ok (.iload 4, 2) := dk_21 4 (dk_at dksX7_dense_3 14 rfl rfl)
theorem dX7_dense_86 : decode cX7_dense 86 = .ok (.iload_n 1, 1) := dk_27 (dk_at dksX7_dense_3 16 rfl rfl)
theorem dX7_dense_87 : decode cX7_dense 87 = .ok (.if_icmp .lt 22, 3) := dk_161 0 22 (dk_at dksX7_dense_3 17 rfl rfl)
theorem dX7_dense_90 : decode cX7_dense 90 = .ok (.aload_n 0, 1) := dk_42 (dk_at dksX7_dense_3 20 rfl rfl)
theorem dX7_dense_91 : decode cX7_dense 91 = .ok (.getfield 7, 3) := dk_180 0 7 (dk_at dksX7_dense_3 21 rfl rfl)
theorem dX7_dense_94 : decode cX7_dense 94 = .ok (.sipush 600, 3) := dk_17 2 88 (dk_at dksX7_dense_4 0 rfl rfl)
theorem dX7_dense_97 : decode cX7_dense 97 = .ok (.iload 4, 2) := dk_21 4 (dk_at dksX7_dense_4 3 rfl rfl)
theorem dX7_dense_99 : decode cX7_dense 99 = .ok (.iadd, 1) := dk_96 (dk_at dksX7_dense_4 5 rfl rfl)
theorem dX7_dense_100 : decode cX7_dense 100 = .ok (.iload_n 1, 1) := dk_27 (dk_at dksX7_dense_4 6 rfl rfl)
theorem dX7_dense_101 : decode cX7_dense 101 = .ok (.isub, 1) := dk_100 (dk_at dksX7_dense_4 7 rfl rfl)
theorem dX7_dense_102 : decode cX7_dense 102 = .ok (.iaload, 1) := dk_46 (dk_at dksX7_dense_4 8 rfl rfl)
theorem dX7_dense_103 : decode cX7_dense 103 = .ok (.invokestatic 336, 3) := dk_184 1 80 (dk_at dksX7_dense_4 9 rfl rfl)
theorem dX7_dense_106 : decode cX7_dense 106 = .ok (.goto 4, 3) := dk_167 0 4 (dk_at dksX7_dense_4 12 rfl rfl)
theorem dX7_dense_109 : decode cX7_dense 109 = .ok (.iconst 0, 1) := dk_3 (dk_at dksX7_dense_4 15 rfl rfl)
theorem dX7_dense_110 : decode cX7_dense 110 = .ok (.isub, 1) := dk_100 (dk_at dksX7_dense_4 16 rfl rfl)
theorem dX7_dense_111 : decode cX7_dense 111 = .ok (.iadd, 1) := dk_96 (dk_at dksX7_dense_4 17 rfl rfl)
theorem dX7_dense_112 : decode cX7_dense 112 = .ok (.istore_n 3, 1) := dk_62 (dk_at dksX7_dense_4 18 rfl rfl)
theorem dX7_dense_113 : decode cX7_dense 113 = .ok (.iload 4, 2) := dk_21 4 (dk_at dksX7_dense_4 19 rfl rfl)
theorem dX7_dense_115 : decode cX7_dense 115 = .ok (.iconst 1, 1) := dk_4 (dk_at dksX7_dense_4 21 rfl rfl)
theorem dX7_dense_116 : decode cX7_dense 116 = .ok (.iadd, 1) := dk_96 (dk_at dksX7_dense_4 22 rfl rfl)
theorem dX7_dense_117 : decode cX7_dense 117 = .ok (.iload_n 1, 1) := dk_27 (dk_at dksX7_dense_4 23 rfl rfl)
theorem dX7_dense_118 : decode cX7_dense 118 = .ok (.if_icmp .lt 9, 3) := dk_161 0 9 (dk_at dksX7_dense_5 0 rfl rfl)
theorem dX7_dense_121 : decode cX7_dense 121 = .ok (.iload_n 2, 1) := dk_28 (dk_at dksX7_dense_5 3 rfl rfl)
theorem dX7_dense_122 : decode cX7_dense 122 = .ok (.iload_n 3, 1) := dk_29 (dk_at dksX7_dense_5 4 rfl rfl)
theorem dX7_dense_123 : decode cX7_dense 123 = .ok (.invokestatic 345, 3) := dk_184 1 89 (dk_at dksX7_dense_5 5 rfl rfl)
theorem dX7_dense_126 : decode cX7_dense 126 = .ok (.istore_n 2, 1) := dk_61 (dk_at dksX7_dense_5 8 rfl rfl)
theorem dX7_dense_127 : decode cX7_dense 127 = .ok (.iinc 4 1, 3) := dk_132 4 1 (dk_at dksX7_dense_5 9 rfl rfl)
theorem dX7_dense_130 : decode cX7_dense 130 = .ok (.goto (-73), 3) := dk_167 255 183 (dk_at dksX7_dense_5 12 rfl rfl)
theorem dX7_dense_133 : decode cX7_dense 133 = .ok (.aload_n 0, 1) := dk_42 (dk_at dksX7_dense_5 15 rfl rfl)
theorem dX7_dense_134 : decode cX7_dense 134 = .ok (.iload_n 2, 1) := dk_28 (dk_at dksX7_dense_5 16 rfl rfl)
theorem dX7_dense_135 : decode cX7_dense 135 = .ok (.invokevirtual 191, 3) := dk_182 0 191 (dk_at dksX7_dense_5 17 rfl rfl)
theorem dX7_dense_138 : decode cX7_dense 138 = .ok (.ireturn, 1) := dk_172 (dk_at dksX7_dense_5 20 rfl rfl)
abbrev cX7_isFrom : ByteArray := prog_17_method_17_code
def yX7_isFrom : MethodName := ⟨RX7, "isFrom", "(JJJ)Z"⟩
def dkwX7_isFrom_0 : List UInt8 := [30, 32, 148, 155, 0, 14, 30, 22, 4, 148, 157, 0, 7, 4, 167, 0, 4, 3, 172]
abbrev dktX7_isFrom_0 : List UInt8 := dkwX7_isFrom_0 ++ []
theorem dksX7_isFrom_0 : cX7_isFrom.data.toList.drop 0 = dktX7_isFrom_0 := by decide +kernel
theorem dX7_isFrom_0 : decode cX7_isFrom 0 = .ok (.lload_n 0, 1) := dk_30 (dk_at dksX7_isFrom_0 0 rfl rfl)
theorem dX7_isFrom_1 : decode cX7_isFrom 1 = .ok (.lload_n 2, 1) := dk_32 (dk_at dksX7_isFrom_0 1 rfl rfl)
theorem dX7_isFrom_2 : decode cX7_isFrom 2 = .ok (.lcmp, 1) := dk_148 (dk_at dksX7_isFrom_0 2 rfl rfl)
theorem dX7_isFrom_3 : decode cX7_isFrom 3 = .ok (.ifCond .lt 14, 3) := dk_155 0 14 (dk_at dksX7_isFrom_0 3 rfl rfl)
theorem dX7_isFrom_6 : decode cX7_isFrom 6 = .ok (.lload_n 0, 1) := dk_30 (dk_at dksX7_isFrom_0 6 rfl rfl)
theorem dX7_isFrom_7 : decode cX7_isFrom 7 = .ok (.lload 4, 2) := dk_22 4 (dk_at dksX7_isFrom_0 7 rfl rfl)
theorem dX7_isFrom_9 : decode cX7_isFrom 9 = .ok (.lcmp, 1) := dk_148 (dk_at dksX7_isFrom_0 9 rfl rfl)
theorem dX7_isFrom_10 : decode cX7_isFrom 10 = .ok (.ifCond .gt 7, 3) := dk_157 0 7 (dk_at dksX7_isFrom_0 10 rfl rfl)
theorem dX7_isFrom_13 : decode cX7_isFrom 13 = .ok (.iconst 1, 1) := dk_4 (dk_at dksX7_isFrom_0 13 rfl rfl)
theorem dX7_isFrom_14 : decode cX7_isFrom 14 = .ok (.goto 4, 3) := dk_167 0 4 (dk_at dksX7_isFrom_0 14 rfl rfl)
theorem dX7_isFrom_17 : decode cX7_isFrom 17 = .ok (.iconst 0, 1) := dk_3 (dk_at dksX7_isFrom_0 17 rfl rfl)
theorem dX7_isFrom_18 : decode cX7_isFrom 18 = .ok (.ireturn, 1) := dk_172 (dk_at dksX7_isFrom_0 18 rfl rfl)
abbrev cX7_alike : ByteArray := prog_17_method_87_code
def yX7_alike : MethodName := ⟨RX7, "alike", "(II)I"⟩
def dkwX7_alike_4 : List UInt8 := [167, 255, 192, 42, 29, 182, 0, 191, 172]
abbrev dktX7_alike_4 : List UInt8 := dkwX7_alike_4 ++ []
def dkwX7_alike_3 : List UInt8 := [180, 0, 44, 28, 46, 21, 4, 96, 46, 160, 0, 7, 4, 167, 0, 4, 3, 96, 62, 132, 4, 1]
abbrev dktX7_alike_3 : List UInt8 := dkwX7_alike_3 ++ dktX7_alike_4
def dkwX7_alike_2 : List UInt8 := [162, 0, 48, 29, 42, 180, 0, 41, 42, 180, 0, 44, 27, 46, 21, 4, 96, 46, 42, 180, 0, 41, 42]
abbrev dktX7_alike_2 : List UInt8 := dkwX7_alike_2 ++ dktX7_alike_3
def dkwX7_alike_1 : List UInt8 := [62, 3, 54, 4, 21, 4, 42, 180, 0, 47, 27, 46, 162, 0, 59, 21, 4, 42, 180, 0, 47, 28, 46]
abbrev dktX7_alike_1 : List UInt8 := dkwX7_alike_1 ++ dktX7_alike_2
def dkwX7_alike_0 : List UInt8 := [42, 27, 182, 1, 77, 153, 0, 11, 42, 28, 182, 1, 77, 154, 0, 10, 42, 16, 6, 182, 0, 188, 172, 3]
abbrev dktX7_alike_0 : List UInt8 := dkwX7_alike_0 ++ dktX7_alike_1
theorem dksX7_alike_0 : cX7_alike.data.toList.drop 0 = dktX7_alike_0 := by decide +kernel
theorem dksX7_alike_1 : cX7_alike.data.toList.drop 24 = dktX7_alike_1 := dk_seg dksX7_alike_0 24 rfl rfl
theorem dksX7_alike_2 : cX7_alike.data.toList.drop 47 = dktX7_alike_2 := dk_seg dksX7_alike_1 23 rfl rfl
theorem dksX7_alike_3 : cX7_alike.data.toList.drop 70 = dktX7_alike_3 := dk_seg dksX7_alike_2 23 rfl rfl
theorem dksX7_alike_4 : cX7_alike.data.toList.drop 92 = dktX7_alike_4 := dk_seg dksX7_alike_3 22 rfl rfl
theorem dX7_alike_0 : decode cX7_alike 0 = .ok (.aload_n 0, 1) := dk_42 (dk_at dksX7_alike_0 0 rfl rfl)
theorem dX7_alike_1 : decode cX7_alike 1 = .ok (.iload_n 1, 1) := dk_27 (dk_at dksX7_alike_0 1 rfl rfl)
theorem dX7_alike_2 : decode cX7_alike 2 = .ok (.invokevirtual 333, 3) := dk_182 1 77 (dk_at dksX7_alike_0 2 rfl rfl)
theorem dX7_alike_5 : decode cX7_alike 5 = .ok (.ifCond .eq 11, 3) := dk_153 0 11 (dk_at dksX7_alike_0 5 rfl rfl)
theorem dX7_alike_8 : decode cX7_alike 8 = .ok (.aload_n 0, 1) := dk_42 (dk_at dksX7_alike_0 8 rfl rfl)
theorem dX7_alike_9 : decode cX7_alike 9 = .ok (.iload_n 2, 1) := dk_28 (dk_at dksX7_alike_0 9 rfl rfl)
theorem dX7_alike_10 : decode cX7_alike 10 = .ok (.invokevirtual 333, 3) := dk_182 1 77 (dk_at dksX7_alike_0 10 rfl rfl)
theorem dX7_alike_13 : decode cX7_alike 13 = .ok (.ifCond .ne 10, 3) := dk_154 0 10 (dk_at dksX7_alike_0 13 rfl rfl)
theorem dX7_alike_16 : decode cX7_alike 16 = .ok (.aload_n 0, 1) := dk_42 (dk_at dksX7_alike_0 16 rfl rfl)
theorem dX7_alike_17 : decode cX7_alike 17 = .ok (.bipush 6, 2) := dk_16 6 (dk_at dksX7_alike_0 17 rfl rfl)
theorem dX7_alike_19 : decode cX7_alike 19 = .ok (.invokevirtual 188, 3) := dk_182 0 188 (dk_at dksX7_alike_0 19 rfl rfl)
theorem dX7_alike_22 : decode cX7_alike 22 = .ok (.ireturn, 1) := dk_172 (dk_at dksX7_alike_0 22 rfl rfl)
theorem dX7_alike_23 : decode cX7_alike 23 = .ok (.iconst 0, 1) := dk_3 (dk_at dksX7_alike_0 23 rfl rfl)
theorem dX7_alike_24 : decode cX7_alike 24 = .ok (.istore_n 3, 1) := dk_62 (dk_at dksX7_alike_1 0 rfl rfl)
theorem dX7_alike_25 : decode cX7_alike 25 = .ok (.iconst 0, 1) := dk_3 (dk_at dksX7_alike_1 1 rfl rfl)
theorem dX7_alike_26 : decode cX7_alike 26 = .ok (.istore 4, 2) := dk_54 4 (dk_at dksX7_alike_1 2 rfl rfl)
theorem dX7_alike_28 : decode cX7_alike 28 = .ok (.iload 4, 2) := dk_21 4 (dk_at dksX7_alike_1 4 rfl rfl)
theorem dX7_alike_30 : decode cX7_alike 30 = .ok (.aload_n 0, 1) := dk_42 (dk_at dksX7_alike_1 6 rfl rfl)
theorem dX7_alike_31 : decode cX7_alike 31 = .ok (.getfield 47, 3) := dk_180 0 47 (dk_at dksX7_alike_1 7 rfl rfl)
theorem dX7_alike_34 : decode cX7_alike 34 = .ok (.iload_n 1, 1) := dk_27 (dk_at dksX7_alike_1 10 rfl rfl)
theorem dX7_alike_35 : decode cX7_alike 35 = .ok (.iaload, 1) := dk_46 (dk_at dksX7_alike_1 11 rfl rfl)
theorem dX7_alike_36 : decode cX7_alike 36 = .ok (.if_icmp .ge 59, 3) := dk_162 0 59 (dk_at dksX7_alike_1 12 rfl rfl)
theorem dX7_alike_39 : decode cX7_alike 39 = .ok (.iload 4, 2) := dk_21 4 (dk_at dksX7_alike_1 15 rfl rfl)
theorem dX7_alike_41 : decode cX7_alike 41 = .ok (.aload_n 0, 1) := dk_42 (dk_at dksX7_alike_1 17 rfl rfl)
theorem dX7_alike_42 : decode cX7_alike 42 = .ok (.getfield 47, 3) := dk_180 0 47 (dk_at dksX7_alike_1 18 rfl rfl)
theorem dX7_alike_45 : decode cX7_alike 45 = .ok (.iload_n 2, 1) := dk_28 (dk_at dksX7_alike_1 21 rfl rfl)
theorem dX7_alike_46 : decode cX7_alike 46 = .ok (.iaload, 1) := dk_46 (dk_at dksX7_alike_1 22 rfl rfl)
theorem dX7_alike_47 : decode cX7_alike 47 = .ok (.if_icmp .ge 48, 3) := dk_162 0 48 (dk_at dksX7_alike_2 0 rfl rfl)
theorem dX7_alike_50 : decode cX7_alike 50 = .ok (.iload_n 3, 1) := dk_29 (dk_at dksX7_alike_2 3 rfl rfl)
theorem dX7_alike_51 : decode cX7_alike 51 = .ok (.aload_n 0, 1) := dk_42 (dk_at dksX7_alike_2 4 rfl rfl)
theorem dX7_alike_52 : decode cX7_alike 52 = .ok (.getfield 41, 3) := dk_180 0 41 (dk_at dksX7_alike_2 5 rfl rfl)
theorem dX7_alike_55 : decode cX7_alike 55 = .ok (.aload_n 0, 1) := dk_42 (dk_at dksX7_alike_2 8 rfl rfl)
theorem dX7_alike_56 : decode cX7_alike 56 = .ok (.getfield 44, 3) := dk_180 0 44 (dk_at dksX7_alike_2 9 rfl rfl)
theorem dX7_alike_59 : decode cX7_alike 59 = .ok (.iload_n 1, 1) := dk_27 (dk_at dksX7_alike_2 12 rfl rfl)
theorem dX7_alike_60 : decode cX7_alike 60 = .ok (.iaload, 1) := dk_46 (dk_at dksX7_alike_2 13 rfl rfl)
theorem dX7_alike_61 : decode cX7_alike 61 = .ok (.iload 4, 2) := dk_21 4 (dk_at dksX7_alike_2 14 rfl rfl)
theorem dX7_alike_63 : decode cX7_alike 63 = .ok (.iadd, 1) := dk_96 (dk_at dksX7_alike_2 16 rfl rfl)
theorem dX7_alike_64 : decode cX7_alike 64 = .ok (.iaload, 1) := dk_46 (dk_at dksX7_alike_2 17 rfl rfl)
theorem dX7_alike_65 : decode cX7_alike 65 = .ok (.aload_n 0, 1) := dk_42 (dk_at dksX7_alike_2 18 rfl rfl)
theorem dX7_alike_66 : decode cX7_alike 66 = .ok (.getfield 41, 3) := dk_180 0 41 (dk_at dksX7_alike_2 19 rfl rfl)
theorem dX7_alike_69 : decode cX7_alike 69 = .ok (.aload_n 0, 1) := dk_42 (dk_at dksX7_alike_2 22 rfl rfl)
theorem dX7_alike_70 : decode cX7_alike 70 = .ok (.getfield 44, 3) := dk_180 0 44 (dk_at dksX7_alike_3 0 rfl rfl)
theorem dX7_alike_73 : decode cX7_alike 73 = .ok (.iload_n 2, 1) := dk_28 (dk_at dksX7_alike_3 3 rfl rfl)
theorem dX7_alike_74 : decode cX7_alike 74 = .ok (.iaload, 1) := dk_46 (dk_at dksX7_alike_3 4 rfl rfl)
theorem dX7_alike_75 : decode cX7_alike 75 = .ok (.iload 4, 2) := dk_21 4 (dk_at dksX7_alike_3 5 rfl rfl)
theorem dX7_alike_77 : decode cX7_alike 77 = .ok (.iadd, 1) := dk_96 (dk_at dksX7_alike_3 7 rfl rfl)
theorem dX7_alike_78 : decode cX7_alike 78 = .ok (.iaload, 1) := dk_46 (dk_at dksX7_alike_3 8 rfl rfl)
theorem dX7_alike_79 : decode cX7_alike 79 = .ok (.if_icmp .ne 7, 3) := dk_160 0 7 (dk_at dksX7_alike_3 9 rfl rfl)
theorem dX7_alike_82 : decode cX7_alike 82 = .ok (.iconst 1, 1) := dk_4 (dk_at dksX7_alike_3 12 rfl rfl)
theorem dX7_alike_83 : decode cX7_alike 83 = .ok (.goto 4, 3) := dk_167 0 4 (dk_at dksX7_alike_3 13 rfl rfl)
theorem dX7_alike_86 : decode cX7_alike 86 = .ok (.iconst 0, 1) := dk_3 (dk_at dksX7_alike_3 16 rfl rfl)
theorem dX7_alike_87 : decode cX7_alike 87 = .ok (.iadd, 1) := dk_96 (dk_at dksX7_alike_3 17 rfl rfl)
theorem dX7_alike_88 : decode cX7_alike 88 = .ok (.istore_n 3, 1) := dk_62 (dk_at dksX7_alike_3 18 rfl rfl)
theorem dX7_alike_89 : decode cX7_alike 89 = .ok (.iinc 4 1, 3) := dk_132 4 1 (dk_at dksX7_alike_3 19 rfl rfl)
theorem dX7_alike_92 : decode cX7_alike 92 = .ok (.goto (-64), 3) := dk_167 255 192 (dk_at dksX7_alike_4 0 rfl rfl)
theorem dX7_alike_95 : decode cX7_alike 95 = .ok (.aload_n 0, 1) := dk_42 (dk_at dksX7_alike_4 3 rfl rfl)
theorem dX7_alike_96 : decode cX7_alike 96 = .ok (.iload_n 3, 1) := dk_29 (dk_at dksX7_alike_4 4 rfl rfl)
theorem dX7_alike_97 : decode cX7_alike 97 = .ok (.invokevirtual 191, 3) := dk_182 0 191 (dk_at dksX7_alike_4 5 rfl rfl)
theorem dX7_alike_100 : decode cX7_alike 100 = .ok (.ireturn, 1) := dk_172 (dk_at dksX7_alike_4 8 rfl rfl)
abbrev cX7_longest : ByteArray := prog_17_method_88_code
def yX7_longest : MethodName := ⟨RX7, "longest", "()I"⟩
def dkwX7_longest_2 : List UInt8 := [182, 1, 65, 164, 0, 5, 28, 60, 132, 2, 1, 167, 255, 227, 42, 27, 182, 0, 191, 172]
abbrev dktX7_longest_2 : List UInt8 := dkwX7_longest_2 ++ []
def dkwX7_longest_1 : List UInt8 := [3, 60, 4, 61, 28, 42, 180, 0, 7, 16, 9, 46, 162, 0, 24, 42, 28, 182, 1, 65, 42, 27]
abbrev dktX7_longest_1 : List UInt8 := dkwX7_longest_1 ++ dktX7_longest_2
def dkwX7_longest_0 : List UInt8 := [42, 182, 1, 50, 153, 0, 13, 42, 180, 0, 7, 16, 9, 46, 154, 0, 10, 42, 16, 6, 182, 0, 188, 172]
abbrev dktX7_longest_0 : List UInt8 := dkwX7_longest_0 ++ dktX7_longest_1
theorem dksX7_longest_0 : cX7_longest.data.toList.drop 0 = dktX7_longest_0 := by decide +kernel
theorem dksX7_longest_1 : cX7_longest.data.toList.drop 24 = dktX7_longest_1 := dk_seg dksX7_longest_0 24 rfl rfl
theorem dksX7_longest_2 : cX7_longest.data.toList.drop 46 = dktX7_longest_2 := dk_seg dksX7_longest_1 22 rfl rfl
theorem dX7_longest_0 : decode cX7_longest 0 = .ok (.aload_n 0, 1) := dk_42 (dk_at dksX7_longest_0 0 rfl rfl)
theorem dX7_longest_1 : decode cX7_longest 1 = .ok (.invokevirtual 306, 3) := dk_182 1 50 (dk_at dksX7_longest_0 1 rfl rfl)
theorem dX7_longest_4 : decode cX7_longest 4 = .ok (.ifCond .eq 13, 3) := dk_153 0 13 (dk_at dksX7_longest_0 4 rfl rfl)
theorem dX7_longest_7 : decode cX7_longest 7 = .ok (.aload_n 0, 1) := dk_42 (dk_at dksX7_longest_0 7 rfl rfl)
theorem dX7_longest_8 : decode cX7_longest 8 = .ok (.getfield 7, 3) := dk_180 0 7 (dk_at dksX7_longest_0 8 rfl rfl)
theorem dX7_longest_11 : decode cX7_longest 11 = .ok (.bipush 9, 2) := dk_16 9 (dk_at dksX7_longest_0 11 rfl rfl)
theorem dX7_longest_13 : decode cX7_longest 13 = .ok (.iaload, 1) := dk_46 (dk_at dksX7_longest_0 13 rfl rfl)
theorem dX7_longest_14 : decode cX7_longest 14 = .ok (.ifCond .ne 10, 3) := dk_154 0 10 (dk_at dksX7_longest_0 14 rfl rfl)
theorem dX7_longest_17 : decode cX7_longest 17 = .ok (.aload_n 0, 1) := dk_42 (dk_at dksX7_longest_0 17 rfl rfl)
theorem dX7_longest_18 : decode cX7_longest 18 = .ok (.bipush 6, 2) := dk_16 6 (dk_at dksX7_longest_0 18 rfl rfl)
theorem dX7_longest_20 : decode cX7_longest 20 = .ok (.invokevirtual 188, 3) := dk_182 0 188 (dk_at dksX7_longest_0 20 rfl rfl)
theorem dX7_longest_23 : decode cX7_longest 23 = .ok (.ireturn, 1) := dk_172 (dk_at dksX7_longest_0 23 rfl rfl)
theorem dX7_longest_24 : decode cX7_longest 24 = .ok (.iconst 0, 1) := dk_3 (dk_at dksX7_longest_1 0 rfl rfl)
theorem dX7_longest_25 : decode cX7_longest 25 = .ok (.istore_n 1, 1) := dk_60 (dk_at dksX7_longest_1 1 rfl rfl)
theorem dX7_longest_26 : decode cX7_longest 26 = .ok (.iconst 1, 1) := dk_4 (dk_at dksX7_longest_1 2 rfl rfl)
theorem dX7_longest_27 : decode cX7_longest 27 = .ok (.istore_n 2, 1) := dk_61 (dk_at dksX7_longest_1 3 rfl rfl)
theorem dX7_longest_28 : decode cX7_longest 28 = .ok (.iload_n 2, 1) := dk_28 (dk_at dksX7_longest_1 4 rfl rfl)
theorem dX7_longest_29 : decode cX7_longest 29 = .ok (.aload_n 0, 1) := dk_42 (dk_at dksX7_longest_1 5 rfl rfl)
theorem dX7_longest_30 : decode cX7_longest 30 = .ok (.getfield 7, 3) := dk_180 0 7 (dk_at dksX7_longest_1 6 rfl rfl)
theorem dX7_longest_33 : decode cX7_longest 33 = .ok (.bipush 9, 2) := dk_16 9 (dk_at dksX7_longest_1 9 rfl rfl)
theorem dX7_longest_35 : decode cX7_longest 35 = .ok (.iaload, 1) := dk_46 (dk_at dksX7_longest_1 11 rfl rfl)
theorem dX7_longest_36 : decode cX7_longest 36 = .ok (.if_icmp .ge 24, 3) := dk_162 0 24 (dk_at dksX7_longest_1 12 rfl rfl)
theorem dX7_longest_39 : decode cX7_longest 39 = .ok (.aload_n 0, 1) := dk_42 (dk_at dksX7_longest_1 15 rfl rfl)
theorem dX7_longest_40 : decode cX7_longest 40 = .ok (.iload_n 2, 1) := dk_28 (dk_at dksX7_longest_1 16 rfl rfl)
theorem dX7_longest_41 : decode cX7_longest 41 = .ok (.invokevirtual 321, 3) := dk_182 1 65 (dk_at dksX7_longest_1 17 rfl rfl)
theorem dX7_longest_44 : decode cX7_longest 44 = .ok (.aload_n 0, 1) := dk_42 (dk_at dksX7_longest_1 20 rfl rfl)
theorem dX7_longest_45 : decode cX7_longest 45 = .ok (.iload_n 1, 1) := dk_27 (dk_at dksX7_longest_1 21 rfl rfl)
theorem dX7_longest_46 : decode cX7_longest 46 = .ok (.invokevirtual 321, 3) := dk_182 1 65 (dk_at dksX7_longest_2 0 rfl rfl)
theorem dX7_longest_49 : decode cX7_longest 49 = .ok (.if_icmp .le 5, 3) := dk_164 0 5 (dk_at dksX7_longest_2 3 rfl rfl)
theorem dX7_longest_52 : decode cX7_longest 52 = .ok (.iload_n 2, 1) := dk_28 (dk_at dksX7_longest_2 6 rfl rfl)
theorem dX7_longest_53 : decode cX7_longest 53 = .ok (.istore_n 1, 1) := dk_60 (dk_at dksX7_longest_2 7 rfl rfl)
theorem dX7_longest_54 : decode cX7_longest 54 = .ok (.iinc 2 1, 3) := dk_132 2 1 (dk_at dksX7_longest_2 8 rfl rfl)
theorem dX7_longest_57 : decode cX7_longest 57 = .ok (.goto (-29), 3) := dk_167 255 227 (dk_at dksX7_longest_2 11 rfl rfl)
theorem dX7_longest_60 : decode cX7_longest 60 = .ok (.aload_n 0, 1) := dk_42 (dk_at dksX7_longest_2 14 rfl rfl)
theorem dX7_longest_61 : decode cX7_longest 61 = .ok (.iload_n 1, 1) := dk_27 (dk_at dksX7_longest_2 15 rfl rfl)
theorem dX7_longest_62 : decode cX7_longest 62 = .ok (.invokevirtual 191, 3) := dk_182 0 191 (dk_at dksX7_longest_2 16 rfl rfl)
theorem dX7_longest_65 : decode cX7_longest 65 = .ok (.ireturn, 1) := dk_172 (dk_at dksX7_longest_2 19 rfl rfl)
abbrev cX7_inLine : ByteArray := prog_17_method_89_code
def yX7_inLine : MethodName := ⟨RX7, "inLine", "(I)I"⟩
def dkwX7_inLine_2 : List UInt8 := [161, 0, 7, 4, 167, 0, 4, 3, 96, 61, 132, 3, 1, 167, 255, 214, 42, 28, 182, 0, 191, 172]
abbrev dktX7_inLine_2 : List UInt8 := dkwX7_inLine_2 ++ []
def dkwX7_inLine_1 : List UInt8 := [16, 9, 46, 162, 0, 37, 28, 42, 180, 0, 50, 29, 46, 27, 163, 0, 17, 42, 180, 0, 53, 29, 46, 27]
abbrev dktX7_inLine_1 : List UInt8 := dkwX7_inLine_1 ++ dktX7_inLine_2
def dkwX7_inLine_0 : List UInt8 := [42, 27, 182, 1, 77, 154, 0, 10, 42, 16, 6, 182, 0, 188, 172, 3, 61, 3, 62, 29, 42, 180, 0, 7]
abbrev dktX7_inLine_0 : List UInt8 := dkwX7_inLine_0 ++ dktX7_inLine_1
theorem dksX7_inLine_0 : cX7_inLine.data.toList.drop 0 = dktX7_inLine_0 := by decide +kernel
theorem dksX7_inLine_1 : cX7_inLine.data.toList.drop 24 = dktX7_inLine_1 := dk_seg dksX7_inLine_0 24 rfl rfl
theorem dksX7_inLine_2 : cX7_inLine.data.toList.drop 48 = dktX7_inLine_2 := dk_seg dksX7_inLine_1 24 rfl rfl
theorem dX7_inLine_0 : decode cX7_inLine 0 = .ok (.aload_n 0, 1) := dk_42 (dk_at dksX7_inLine_0 0 rfl rfl)
theorem dX7_inLine_1 : decode cX7_inLine 1 = .ok (.iload_n 1, 1) := dk_27 (dk_at dksX7_inLine_0 1 rfl rfl)
theorem dX7_inLine_2 : decode cX7_inLine 2 = .ok (.invokevirtual 333, 3) := dk_182 1 77 (dk_at dksX7_inLine_0 2 rfl rfl)
theorem dX7_inLine_5 : decode cX7_inLine 5 = .ok (.ifCond .ne 10, 3) := dk_154 0 10 (dk_at dksX7_inLine_0 5 rfl rfl)
theorem dX7_inLine_8 : decode cX7_inLine 8 = .ok (.aload_n 0, 1) := dk_42 (dk_at dksX7_inLine_0 8 rfl rfl)
theorem dX7_inLine_9 : decode cX7_inLine 9 = .ok (.bipush 6, 2) := dk_16 6 (dk_at dksX7_inLine_0 9 rfl rfl)
theorem dX7_inLine_11 : decode cX7_inLine 11 = .ok (.invokevirtual 188, 3) := dk_182 0 188 (dk_at dksX7_inLine_0 11 rfl rfl)
theorem dX7_inLine_14 : decode cX7_inLine 14 = .ok (.ireturn, 1) := dk_172 (dk_at dksX7_inLine_0 14 rfl rfl)
theorem dX7_inLine_15 : decode cX7_inLine 15 = .ok (.iconst 0, 1) := dk_3 (dk_at dksX7_inLine_0 15 rfl rfl)
theorem dX7_inLine_16 : decode cX7_inLine 16 = .ok (.istore_n 2, 1) := dk_61 (dk_at dksX7_inLine_0 16 rfl rfl)
theorem dX7_inLine_17 : decode cX7_inLine 17 = .ok (.iconst 0, 1) := dk_3 (dk_at dksX7_inLine_0 17 rfl rfl)
theorem dX7_inLine_18 : decode cX7_inLine 18 = .ok (.istore_n 3, 1) := dk_62 (dk_at dksX7_inLine_0 18 rfl rfl)
theorem dX7_inLine_19 : decode cX7_inLine 19 = .ok (.iload_n 3, 1) := dk_29 (dk_at dksX7_inLine_0 19 rfl rfl)
theorem dX7_inLine_20 : decode cX7_inLine 20 = .ok (.aload_n 0, 1) := dk_42 (dk_at dksX7_inLine_0 20 rfl rfl)
theorem dX7_inLine_21 : decode cX7_inLine 21 = .ok (.getfield 7, 3) := dk_180 0 7 (dk_at dksX7_inLine_0 21 rfl rfl)
theorem dX7_inLine_24 : decode cX7_inLine 24 = .ok (.bipush 9, 2) := dk_16 9 (dk_at dksX7_inLine_1 0 rfl rfl)
theorem dX7_inLine_26 : decode cX7_inLine 26 = .ok (.iaload, 1) := dk_46 (dk_at dksX7_inLine_1 2 rfl rfl)
theorem dX7_inLine_27 : decode cX7_inLine 27 = .ok (.if_icmp .ge 37, 3) := dk_162 0 37 (dk_at dksX7_inLine_1 3 rfl rfl)
theorem dX7_inLine_30 : decode cX7_inLine 30 = .ok (.iload_n 2, 1) := dk_28 (dk_at dksX7_inLine_1 6 rfl rfl)
theorem dX7_inLine_31 : decode cX7_inLine 31 = .ok (.aload_n 0, 1) := dk_42 (dk_at dksX7_inLine_1 7 rfl rfl)
theorem dX7_inLine_32 : decode cX7_inLine 32 = .ok (.getfield 50, 3) := dk_180 0 50 (dk_at dksX7_inLine_1 8 rfl rfl)
theorem dX7_inLine_35 : decode cX7_inLine 35 = .ok (.iload_n 3, 1) := dk_29 (dk_at dksX7_inLine_1 11 rfl rfl)
theorem dX7_inLine_36 : decode cX7_inLine 36 = .ok (.iaload, 1) := dk_46 (dk_at dksX7_inLine_1 12 rfl rfl)
theorem dX7_inLine_37 : decode cX7_inLine 37 = .ok (.iload_n 1, 1) := dk_27 (dk_at dksX7_inLine_1 13 rfl rfl)
theorem dX7_inLine_38 : decode cX7_inLine 38 = .ok (.if_icmp .gt 17, 3) := dk_163 0 17 (dk_at dksX7_inLine_1 14 rfl rfl)
theorem dX7_inLine_41 : decode cX7_inLine 41 = .ok (.aload_n 0, 1) := dk_42 (dk_at dksX7_inLine_1 17 rfl rfl)
theorem dX7_inLine_42 : decode cX7_inLine 42 = .ok (.getfield 53, 3) := dk_180 0 53 (dk_at dksX7_inLine_1 18 rfl rfl)
theorem dX7_inLine_45 : decode cX7_inLine 45 = .ok (.iload_n 3, 1) := dk_29 (dk_at dksX7_inLine_1 21 rfl rfl)
theorem dX7_inLine_46 : decode cX7_inLine 46 = .ok (.iaload, 1) := dk_46 (dk_at dksX7_inLine_1 22 rfl rfl)
theorem dX7_inLine_47 : decode cX7_inLine 47 = .ok (.iload_n 1, 1) := dk_27 (dk_at dksX7_inLine_1 23 rfl rfl)
theorem dX7_inLine_48 : decode cX7_inLine 48 = .ok (.if_icmp .lt 7, 3) := dk_161 0 7 (dk_at dksX7_inLine_2 0 rfl rfl)
theorem dX7_inLine_51 : decode cX7_inLine 51 = .ok (.iconst 1, 1) := dk_4 (dk_at dksX7_inLine_2 3 rfl rfl)
theorem dX7_inLine_52 : decode cX7_inLine 52 = .ok (.goto 4, 3) := dk_167 0 4 (dk_at dksX7_inLine_2 4 rfl rfl)
theorem dX7_inLine_55 : decode cX7_inLine 55 = .ok (.iconst 0, 1) := dk_3 (dk_at dksX7_inLine_2 7 rfl rfl)
theorem dX7_inLine_56 : decode cX7_inLine 56 = .ok (.iadd, 1) := dk_96 (dk_at dksX7_inLine_2 8 rfl rfl)
theorem dX7_inLine_57 : decode cX7_inLine 57 = .ok (.istore_n 2, 1) := dk_61 (dk_at dksX7_inLine_2 9 rfl rfl)
theorem dX7_inLine_58 : decode cX7_inLine 58 = .ok (.iinc 3 1, 3) := dk_132 3 1 (dk_at dksX7_inLine_2 10 rfl rfl)
theorem dX7_inLine_61 : decode cX7_inLine 61 = .ok (.goto (-42), 3) := dk_167 255 214 (dk_at dksX7_inLine_2 13 rfl rfl)
theorem dX7_inLine_64 : decode cX7_inLine 64 = .ok (.aload_n 0, 1) := dk_42 (dk_at dksX7_inLine_2 16 rfl rfl)
theorem dX7_inLine_65 : decode cX7_inLine 65 = .ok (.iload_n 2, 1) := dk_28 (dk_at dksX7_inLine_2 17 rfl rfl)
theorem dX7_inLine_66 : decode cX7_inLine 66 = .ok (.invokevirtual 191, 3) := dk_182 0 191 (dk_at dksX7_inLine_2 18 rfl rfl)
theorem dX7_inLine_69 : decode cX7_inLine 69 = .ok (.ireturn, 1) := dk_172 (dk_at dksX7_inLine_2 21 rfl rfl)
abbrev cX7_covers : ByteArray := prog_17_method_90_code
def yX7_covers : MethodName := ⟨RX7, "covers", "(I)I"⟩
def dkwX7_covers_5 : List UInt8 := [132, 4, 1, 167, 255, 177, 42, 28, 182, 0, 191, 172]
abbrev dktX7_covers_5 : List UInt8 := dkwX7_covers_5 ++ []
def dkwX7_covers_4 : List UInt8 := [21, 4, 29, 42, 21, 4, 182, 1, 23, 182, 0, 252, 153, 0, 7, 4, 167, 0, 4, 3, 96, 61]
abbrev dktX7_covers_4 : List UInt8 := dkwX7_covers_4 ++ dktX7_covers_5
def dkwX7_covers_3 : List UInt8 := [160, 0, 6, 21, 4, 62, 28, 42, 180, 0, 7, 16, 6, 46, 27, 184, 0, 249, 154, 0, 24, 42, 27]
abbrev dktX7_covers_3 : List UInt8 := dkwX7_covers_3 ++ dktX7_covers_4
def dkwX7_covers_2 : List UInt8 := [162, 0, 73, 42, 21, 4, 182, 0, 239, 184, 1, 4, 154, 0, 8, 2, 62, 167, 0, 50, 29, 2]
abbrev dktX7_covers_2 : List UInt8 := dkwX7_covers_2 ++ dktX7_covers_3
def dkwX7_covers_1 : List UInt8 := [182, 0, 188, 172, 42, 182, 1, 53, 3, 61, 2, 62, 3, 54, 4, 21, 4, 42, 180, 0, 7, 16, 7, 46]
abbrev dktX7_covers_1 : List UInt8 := dkwX7_covers_1 ++ dktX7_covers_2
def dkwX7_covers_0 : List UInt8 := [42, 27, 182, 1, 41, 154, 0, 9, 42, 4, 182, 0, 188, 172, 42, 182, 1, 50, 154, 0, 10, 42, 16, 6]
abbrev dktX7_covers_0 : List UInt8 := dkwX7_covers_0 ++ dktX7_covers_1
theorem dksX7_covers_0 : cX7_covers.data.toList.drop 0 = dktX7_covers_0 := by decide +kernel
theorem dksX7_covers_1 : cX7_covers.data.toList.drop 24 = dktX7_covers_1 := dk_seg dksX7_covers_0 24 rfl rfl
theorem dksX7_covers_2 : cX7_covers.data.toList.drop 48 = dktX7_covers_2 := dk_seg dksX7_covers_1 24 rfl rfl
theorem dksX7_covers_3 : cX7_covers.data.toList.drop 70 = dktX7_covers_3 := dk_seg dksX7_covers_2 22 rfl rfl
theorem dksX7_covers_4 : cX7_covers.data.toList.drop 93 = dktX7_covers_4 := dk_seg dksX7_covers_3 23 rfl rfl
theorem dksX7_covers_5 : cX7_covers.data.toList.drop 115 = dktX7_covers_5 := dk_seg dksX7_covers_4 22 rfl rfl
theorem dX7_covers_0 : decode cX7_covers 0 = .ok (.aload_n 0, 1) := dk_42 (dk_at dksX7_covers_0 0 rfl rfl)
theorem dX7_covers_1 : decode cX7_covers 1 = .ok (.iload_n 1, 1) := dk_27 (dk_at dksX7_covers_0 1 rfl rfl)
theorem dX7_covers_2 : decode cX7_covers 2 = .ok (.invokevirtual 297, 3) := dk_182 1 41 (dk_at dksX7_covers_0 2 rfl rfl)
theorem dX7_covers_5 : decode cX7_covers 5 = .ok (.ifCond .ne 9, 3) := dk_154 0 9 (dk_at dksX7_covers_0 5 rfl rfl)
theorem dX7_covers_8 : decode cX7_covers 8 = .ok (.aload_n 0, 1) := dk_42 (dk_at dksX7_covers_0 8 rfl rfl)
theorem dX7_covers_9 : decode cX7_covers 9 = .ok (.iconst 1, 1) := dk_4 (dk_at dksX7_covers_0 9 rfl rfl)
theorem dX7_covers_10 : decode cX7_covers 10 = .ok (.invokevirtual 188, 3) := dk_182 0 188 (dk_at dksX7_covers_0 10 rfl rfl)
theorem dX7_covers_13 : decode cX7_covers 13 = .ok (.ireturn, 1) := dk_172 (dk_at dksX7_covers_0 13 rfl rfl)
theorem dX7_covers_14 : decode cX7_covers 14 = .ok (.aload_n 0, 1) := dk_42 (dk_at dksX7_covers_0 14 rfl rfl)
theorem dX7_covers_15 : decode cX7_covers 15 = .ok (.invokevirtual 306, 3) := dk_182 1 50 (dk_at dksX7_covers_0 15 rfl rfl)
theorem dX7_covers_18 : decode cX7_covers 18 = .ok (.ifCond .ne 10, 3) := dk_154 0 10 (dk_at dksX7_covers_0 18 rfl rfl)
theorem dX7_covers_21 : decode cX7_covers 21 = .ok (.aload_n 0, 1) := dk_42 (dk_at dksX7_covers_0 21 rfl rfl)
theorem dX7_covers_22 : decode cX7_covers 22 = .ok (.bipush 6, 2) := dk_16 6 (dk_at dksX7_covers_0 22 rfl rfl)
theorem dX7_covers_24 : decode cX7_covers 24 = .ok (.invokevirtual 188, 3) := dk_182 0 188 (dk_at dksX7_covers_1 0 rfl rfl)
theorem dX7_covers_27 : decode cX7_covers 27 = .ok (.ireturn, 1) := dk_172 (dk_at dksX7_covers_1 3 rfl rfl)
theorem dX7_covers_28 : decode cX7_covers 28 = .ok (.aload_n 0, 1) := dk_42 (dk_at dksX7_covers_1 4 rfl rfl)
theorem dX7_covers_29 : decode cX7_covers 29 = .ok (.invokevirtual 309, 3) := dk_182 1 53 (dk_at dksX7_covers_1 5 rfl rfl)
theorem dX7_covers_32 : decode cX7_covers 32 = .ok (.iconst 0, 1) := dk_3 (dk_at dksX7_covers_1 8 rfl rfl)
theorem dX7_covers_33 : decode cX7_covers 33 = .ok (.istore_n 2, 1) := dk_61 (dk_at dksX7_covers_1 9 rfl rfl)
theorem dX7_covers_34 : decode cX7_covers 34 = .ok (.iconst (-1), 1) := dk_2 (dk_at dksX7_covers_1 10 rfl rfl)
theorem dX7_covers_35 : decode cX7_covers 35 = .ok (.istore_n 3, 1) := dk_62 (dk_at dksX7_covers_1 11 rfl rfl)
theorem dX7_covers_36 : decode cX7_covers 36 = .ok (.iconst 0, 1) := dk_3 (dk_at dksX7_covers_1 12 rfl rfl)
theorem dX7_covers_37 : decode cX7_covers 37 = .ok (.istore 4, 2) := dk_54 4 (dk_at dksX7_covers_1 13 rfl rfl)
theorem dX7_covers_39 : decode cX7_covers 39 = .ok (.iload 4, 2) := dk_21 4 (dk_at dksX7_covers_1 15 rfl rfl)
theorem dX7_covers_41 : decode cX7_covers 41 = .ok (.aload_n 0, 1) := dk_42 (dk_at dksX7_covers_1 17 rfl rfl)
theorem dX7_covers_42 : decode cX7_covers 42 = .ok (.getfield 7, 3) := dk_180 0 7 (dk_at dksX7_covers_1 18 rfl rfl)
theorem dX7_covers_45 : decode cX7_covers 45 = .ok (.bipush 7, 2) := dk_16 7 (dk_at dksX7_covers_1 21 rfl rfl)
theorem dX7_covers_47 : decode cX7_covers 47 = .ok (.iaload, 1) := dk_46 (dk_at dksX7_covers_1 23 rfl rfl)
theorem dX7_covers_48 : decode cX7_covers 48 = .ok (.if_icmp .ge 73, 3) := dk_162 0 73 (dk_at dksX7_covers_2 0 rfl rfl)
theorem dX7_covers_51 : decode cX7_covers 51 = .ok (.aload_n 0, 1) := dk_42 (dk_at dksX7_covers_2 3 rfl rfl)
theorem dX7_covers_52 : decode cX7_covers 52 = .ok (.iload 4, 2) := dk_21 4 (dk_at dksX7_covers_2 4 rfl rfl)
theorem dX7_covers_54 : decode cX7_covers 54 = .ok (.invokevirtual 239, 3) := dk_182 0 239 (dk_at dksX7_covers_2 6 rfl rfl)
theorem dX7_covers_57 : decode cX7_covers 57 = .ok (.invokestatic 260, 3) := dk_184 1 4 (dk_at dksX7_covers_2 9 rfl rfl)
theorem dX7_covers_60 : decode cX7_covers 60 = .ok (.ifCond .ne 8, 3) := dk_154 0 8 (dk_at dksX7_covers_2 12 rfl rfl)
theorem dX7_covers_63 : decode cX7_covers 63 = .ok (.iconst (-1), 1) := dk_2 (dk_at dksX7_covers_2 15 rfl rfl)
theorem dX7_covers_64 : decode cX7_covers 64 = .ok (.istore_n 3, 1) := dk_62 (dk_at dksX7_covers_2 16 rfl rfl)
theorem dX7_covers_65 : decode cX7_covers 65 = .ok (.goto 50, 3) := dk_167 0 50 (dk_at dksX7_covers_2 17 rfl rfl)
theorem dX7_covers_68 : decode cX7_covers 68 = .ok (.iload_n 3, 1) := dk_29 (dk_at dksX7_covers_2 20 rfl rfl)
theorem dX7_covers_69 : decode cX7_covers 69 = .ok (.iconst (-1), 1) := dk_2 (dk_at dksX7_covers_2 21 rfl rfl)
theorem dX7_covers_70 : decode cX7_covers 70 = .ok (.if_icmp .ne 6, 3) := dk_160 0 6 (dk_at dksX7_covers_3 0 rfl rfl)
theorem dX7_covers_73 : decode cX7_covers 73 = .ok (.iload 4, 2) := dk_21 4 (dk_at dksX7_covers_3 3 rfl rfl)
theorem dX7_covers_75 : decode cX7_covers 75 = .ok (.istore_n 3, 1) := dk_62 (dk_at dksX7_covers_3 5 rfl rfl)
theorem dX7_covers_76 : decode cX7_covers 76 = .ok (.iload_n 2, 1) := dk_28 (dk_at dksX7_covers_3 6 rfl rfl)
theorem dX7_covers_77 : decode cX7_covers 77 = .ok (.aload_n 0, 1) := dk_42 (dk_at dksX7_covers_3 7 rfl rfl)
theorem dX7_covers_78 : decode cX7_covers 78 = .ok (.getfield 7, 3) := dk_180 0 7 (dk_at dksX7_covers_3 8 rfl rfl)
theorem dX7_covers_81 : decode cX7_covers 81 = .ok (.bipush 6, 2) := dk_16 6 (dk_at dksX7_covers_3 11 rfl rfl)
theorem dX7_covers_83 : decode cX7_covers 83 = .ok (.iaload, 1) := dk_46 (dk_at dksX7_covers_3 13 rfl rfl)
theorem dX7_covers_84 : decode cX7_covers 84 = .ok (.iload_n 1, 1) := dk_27 (dk_at dksX7_covers_3 14 rfl rfl)
theorem dX7_covers_85 : decode cX7_covers 85 = .ok (.invokestatic 249, 3) := dk_184 0 249 (dk_at dksX7_covers_3 15 rfl rfl)
theorem dX7_covers_88 : decode cX7_covers 88 = .ok (.ifCond .ne 24, 3) := dk_154 0 24 (dk_at dksX7_covers_3 18 rfl rfl)
theorem dX7_covers_91 : decode cX7_covers 91 = .ok (.aload_n 0, 1) := dk_42 (dk_at dksX7_covers_3 21 rfl rfl)
theorem dX7_covers_92 : decode cX7_covers 92 = .ok (.iload_n 1, 1) := dk_27 (dk_at dksX7_covers_3 22 rfl rfl)
theorem dX7_covers_93 : decode cX7_covers 93 = .ok (.iload 4, 2) := dk_21 4 (dk_at dksX7_covers_4 0 rfl rfl)
theorem dX7_covers_95 : decode cX7_covers 95 = .ok (.iload_n 3, 1) := dk_29 (dk_at dksX7_covers_4 2 rfl rfl)
theorem dX7_covers_96 : decode cX7_covers 96 = .ok (.aload_n 0, 1) := dk_42 (dk_at dksX7_covers_4 3 rfl rfl)
theorem dX7_covers_97 : decode cX7_covers 97 = .ok (.iload 4, 2) := dk_21 4 (dk_at dksX7_covers_4 4 rfl rfl)
theorem dX7_covers_99 : decode cX7_covers 99 = .ok (.invokevirtual 279, 3) := dk_182 1 23 (dk_at dksX7_covers_4 6 rfl rfl)
theorem dX7_covers_102 : decode cX7_covers 102 = .ok (.invokevirtual 252, 3) := dk_182 0 252 (dk_at dksX7_covers_4 9 rfl rfl)
theorem dX7_covers_105 : decode cX7_covers 105 = .ok (.ifCond .eq 7, 3) := dk_153 0 7 (dk_at dksX7_covers_4 12 rfl rfl)
theorem dX7_covers_108 : decode cX7_covers 108 = .ok (.iconst 1, 1) := dk_4 (dk_at dksX7_covers_4 15 rfl rfl)
theorem dX7_covers_109 : decode cX7_covers 109 = .ok (.goto 4, 3) := dk_167 0 4 (dk_at dksX7_covers_4 16 rfl rfl)
theorem dX7_covers_112 : decode cX7_covers 112 = .ok (.iconst 0, 1) := dk_3 (dk_at dksX7_covers_4 19 rfl rfl)
theorem dX7_covers_113 : decode cX7_covers 113 = .ok (.iadd, 1) := dk_96 (dk_at dksX7_covers_4 20 rfl rfl)
theorem dX7_covers_114 : decode cX7_covers 114 = .ok (.istore_n 2, 1) := dk_61 (dk_at dksX7_covers_4 21 rfl rfl)
theorem dX7_covers_115 : decode cX7_covers 115 = .ok (.iinc 4 1, 3) := dk_132 4 1 (dk_at dksX7_covers_5 0 rfl rfl)
theorem dX7_covers_118 : decode cX7_covers 118 = .ok (.goto (-79), 3) := dk_167 255 177 (dk_at dksX7_covers_5 3 rfl rfl)
theorem dX7_covers_121 : decode cX7_covers 121 = .ok (.aload_n 0, 1) := dk_42 (dk_at dksX7_covers_5 6 rfl rfl)
theorem dX7_covers_122 : decode cX7_covers 122 = .ok (.iload_n 2, 1) := dk_28 (dk_at dksX7_covers_5 7 rfl rfl)
theorem dX7_covers_123 : decode cX7_covers 123 = .ok (.invokevirtual 191, 3) := dk_182 0 191 (dk_at dksX7_covers_5 8 rfl rfl)
theorem dX7_covers_126 : decode cX7_covers 126 = .ok (.ireturn, 1) := dk_172 (dk_at dksX7_covers_5 11 rfl rfl)
abbrev cX7_often : ByteArray := prog_17_method_92_code
def yX7_often : MethodName := ⟨RX7, "often", "(I)I"⟩
def dkwX7_often_1 : List UInt8 := [153, 0, 15, 42, 42, 27, 182, 1, 94, 182, 0, 191, 167, 0, 9, 42, 16, 6, 182, 0, 188, 172]
abbrev dktX7_often_1 : List UInt8 := dkwX7_often_1 ++ []
def dkwX7_often_0 : List UInt8 := [27, 133, 9, 20, 1, 92, 184, 1, 85, 154, 0, 11, 42, 4, 182, 0, 188, 167, 0, 28, 42, 182, 1, 50]
abbrev dktX7_often_0 : List UInt8 := dkwX7_often_0 ++ dktX7_often_1
theorem dksX7_often_0 : cX7_often.data.toList.drop 0 = dktX7_often_0 := by decide +kernel
theorem dksX7_often_1 : cX7_often.data.toList.drop 24 = dktX7_often_1 := dk_seg dksX7_often_0 24 rfl rfl
theorem dX7_often_0 : decode cX7_often 0 = .ok (.iload_n 1, 1) := dk_27 (dk_at dksX7_often_0 0 rfl rfl)
theorem dX7_often_1 : decode cX7_often 1 = .ok (.i2l, 1) := dk_133 (dk_at dksX7_often_0 1 rfl rfl)
theorem dX7_often_2 : decode cX7_often 2 = .ok (.lconst 0, 1) := dk_9 (dk_at dksX7_often_0 2 rfl rfl)
theorem dX7_often_3 : decode cX7_often 3 = .ok (.ldc2_w 348, 3) := dk_20 1 92 (dk_at dksX7_often_0 3 rfl rfl)
theorem dX7_often_6 : decode cX7_often 6 = .ok (.invokestatic 341, 3) := dk_184 1 85 (dk_at dksX7_often_0 6 rfl rfl)
theorem dX7_often_9 : decode cX7_often 9 = .ok (.ifCond .ne 11, 3) := dk_154 0 11 (dk_at dksX7_often_0 9 rfl rfl)
theorem dX7_often_12 : decode cX7_often 12 = .ok (.aload_n 0, 1) := dk_42 (dk_at dksX7_often_0 12 rfl rfl)
theorem dX7_often_13 : decode cX7_often 13 = .ok (.iconst 1, 1) := dk_4 (dk_at dksX7_often_0 13 rfl rfl)
theorem dX7_often_14 : decode cX7_often 14 = .ok (.invokevirtual 188, 3) := dk_182 0 188 (dk_at dksX7_often_0 14 rfl rfl)
theorem dX7_often_17 : decode cX7_often 17 = .ok (.goto 28, 3) := dk_167 0 28 (dk_at dksX7_often_0 17 rfl rfl)
theorem dX7_often_20 : decode cX7_often 20 = .ok (.aload_n 0, 1) := dk_42 (dk_at dksX7_often_0 20 rfl rfl)
theorem dX7_often_21 : decode cX7_often 21 = .ok (.invokevirtual 306, 3) := dk_182 1 50 (dk_at dksX7_often_0 21 rfl rfl)
theorem dX7_often_24 : decode cX7_often 24 = .ok (.ifCond .eq 15, 3) := dk_153 0 15 (dk_at dksX7_often_1 0 rfl rfl)
theorem dX7_often_27 : decode cX7_often 27 = .ok (.aload_n 0, 1) := dk_42 (dk_at dksX7_often_1 3 rfl rfl)
theorem dX7_often_28 : decode cX7_often 28 = .ok (.aload_n 0, 1) := dk_42 (dk_at dksX7_often_1 4 rfl rfl)
theorem dX7_often_29 : decode cX7_often 29 = .ok (.iload_n 1, 1) := dk_27 (dk_at dksX7_often_1 5 rfl rfl)
theorem dX7_often_30 : decode cX7_often 30 = .ok (.invokevirtual 350, 3) := dk_182 1 94 (dk_at dksX7_often_1 6 rfl rfl)
theorem dX7_often_33 : decode cX7_often 33 = .ok (.invokevirtual 191, 3) := dk_182 0 191 (dk_at dksX7_often_1 9 rfl rfl)
theorem dX7_often_36 : decode cX7_often 36 = .ok (.goto 9, 3) := dk_167 0 9 (dk_at dksX7_often_1 12 rfl rfl)
theorem dX7_often_39 : decode cX7_often 39 = .ok (.aload_n 0, 1) := dk_42 (dk_at dksX7_often_1 15 rfl rfl)
theorem dX7_often_40 : decode cX7_often 40 = .ok (.bipush 6, 2) := dk_16 6 (dk_at dksX7_often_1 16 rfl rfl)
theorem dX7_often_42 : decode cX7_often 42 = .ok (.invokevirtual 188, 3) := dk_182 0 188 (dk_at dksX7_often_1 18 rfl rfl)
theorem dX7_often_45 : decode cX7_often 45 = .ok (.ireturn, 1) := dk_172 (dk_at dksX7_often_1 21 rfl rfl)
abbrev cX7_oftenOf : ByteArray := prog_17_method_91_code
def yX7_oftenOf : MethodName := ⟨RX7, "oftenOf", "(I)I"⟩
def dkwX7_oftenOf_1 : List UInt8 := [96, 46, 27, 160, 0, 7, 4, 167, 0, 4, 3, 96, 61, 132, 3, 1, 167, 255, 220, 28, 172]
abbrev dktX7_oftenOf_1 : List UInt8 := dkwX7_oftenOf_1 ++ []
def dkwX7_oftenOf_0 : List UInt8 := [3, 61, 3, 62, 29, 42, 180, 0, 7, 16, 8, 46, 162, 0, 31, 28, 42, 180, 0, 7, 17, 2, 88, 29]
abbrev dktX7_oftenOf_0 : List UInt8 := dkwX7_oftenOf_0 ++ dktX7_oftenOf_1
theorem dksX7_oftenOf_0 : cX7_oftenOf.data.toList.drop 0 = dktX7_oftenOf_0 := by decide +kernel
theorem dksX7_oftenOf_1 : cX7_oftenOf.data.toList.drop 24 = dktX7_oftenOf_1 := dk_seg dksX7_oftenOf_0 24 rfl rfl
theorem dX7_oftenOf_0 : decode cX7_oftenOf 0 = .ok (.iconst 0, 1) := dk_3 (dk_at dksX7_oftenOf_0 0 rfl rfl)
theorem dX7_oftenOf_1 : decode cX7_oftenOf 1 = .ok (.istore_n 2, 1) := dk_61 (dk_at dksX7_oftenOf_0 1 rfl rfl)
theorem dX7_oftenOf_2 : decode cX7_oftenOf 2 = .ok (.iconst 0, 1) := dk_3 (dk_at dksX7_oftenOf_0 2 rfl rfl)
theorem dX7_oftenOf_3 : decode cX7_oftenOf 3 = .ok (.istore_n 3, 1) := dk_62 (dk_at dksX7_oftenOf_0 3 rfl rfl)
theorem dX7_oftenOf_4 : decode cX7_oftenOf 4 = .ok (.iload_n 3, 1) := dk_29 (dk_at dksX7_oftenOf_0 4 rfl rfl)
theorem dX7_oftenOf_5 : decode cX7_oftenOf 5 = .ok (.aload_n 0, 1) := dk_42 (dk_at dksX7_oftenOf_0 5 rfl rfl)
theorem dX7_oftenOf_6 : decode cX7_oftenOf 6 = .ok (.getfield 7, 3) := dk_180 0 7 (dk_at dksX7_oftenOf_0 6 rfl rfl)
theorem dX7_oftenOf_9 : decode cX7_oftenOf 9 = .ok (.bipush 8, 2) := dk_16 8 (dk_at dksX7_oftenOf_0 9 rfl rfl)
theorem dX7_oftenOf_11 : decode cX7_oftenOf 11 = .ok (.iaload, 1) := dk_46 (dk_at dksX7_oftenOf_0 11 rfl rfl)
theorem dX7_oftenOf_12 : decode cX7_oftenOf 12 = .ok (.if_icmp .ge 31, 3) := dk_162 0 31 (dk_at dksX7_oftenOf_0 12 rfl rfl)
theorem dX7_oftenOf_15 : decode cX7_oftenOf 15 = .ok (.iload_n 2, 1) := dk_28 (dk_at dksX7_oftenOf_0 15 rfl rfl)
theorem dX7_oftenOf_16 : decode cX7_oftenOf 16 = .ok (.aload_n 0, 1) := dk_42 (dk_at dksX7_oftenOf_0 16 rfl rfl)
theorem dX7_oftenOf_17 : decode cX7_oftenOf 17 = .ok (.getfield 7, 3) := dk_180 0 7 (dk_at dksX7_oftenOf_0 17 rfl rfl)
theorem dX7_oftenOf_20 : decode cX7_oftenOf 20 = .ok (.sipush 600, 3) := dk_17 2 88 (dk_at dksX7_oftenOf_0 20 rfl rfl)
theorem dX7_oftenOf_23 : decode cX7_oftenOf 23 = .ok (.iload_n 3, 1) := dk_29 (dk_at dksX7_oftenOf_0 23 rfl rfl)
theorem dX7_oftenOf_24 : decode cX7_oftenOf 24 = .ok (.iadd, 1) := dk_96 (dk_at dksX7_oftenOf_1 0 rfl rfl)
theorem dX7_oftenOf_25 : decode cX7_oftenOf 25 = .ok (.iaload, 1) := dk_46 (dk_at dksX7_oftenOf_1 1 rfl rfl)
theorem dX7_oftenOf_26 : decode cX7_oftenOf 26 = .ok (.iload_n 1, 1) := dk_27 (dk_at dksX7_oftenOf_1 2 rfl rfl)
theorem dX7_oftenOf_27 : decode cX7_oftenOf 27 = .ok (.if_icmp .ne 7, 3) := dk_160 0 7 (dk_at dksX7_oftenOf_1 3 rfl rfl)
theorem dX7_oftenOf_30 : decode cX7_oftenOf 30 = .ok (.iconst 1, 1) := dk_4 (dk_at dksX7_oftenOf_1 6 rfl rfl)
theorem dX7_oftenOf_31 : decode cX7_oftenOf 31 = .ok (.goto 4, 3) := dk_167 0 4 (dk_at dksX7_oftenOf_1 7 rfl rfl)
theorem dX7_oftenOf_34 : decode cX7_oftenOf 34 = .ok (.iconst 0, 1) := dk_3 (dk_at dksX7_oftenOf_1 10 rfl rfl)
theorem dX7_oftenOf_35 : decode cX7_oftenOf 35 = .ok (.iadd, 1) := dk_96 (dk_at dksX7_oftenOf_1 11 rfl rfl)
theorem dX7_oftenOf_36 : decode cX7_oftenOf 36 = .ok (.istore_n 2, 1) := dk_61 (dk_at dksX7_oftenOf_1 12 rfl rfl)
theorem dX7_oftenOf_37 : decode cX7_oftenOf 37 = .ok (.iinc 3 1, 3) := dk_132 3 1 (dk_at dksX7_oftenOf_1 13 rfl rfl)
theorem dX7_oftenOf_40 : decode cX7_oftenOf 40 = .ok (.goto (-36), 3) := dk_167 255 220 (dk_at dksX7_oftenOf_1 16 rfl rfl)
theorem dX7_oftenOf_43 : decode cX7_oftenOf 43 = .ok (.iload_n 2, 1) := dk_28 (dk_at dksX7_oftenOf_1 19 rfl rfl)
theorem dX7_oftenOf_44 : decode cX7_oftenOf 44 = .ok (.ireturn, 1) := dk_172 (dk_at dksX7_oftenOf_1 20 rfl rfl)
abbrev cX7_commonest : ByteArray := prog_17_method_93_code
def yX7_commonest : MethodName := ⟨RX7, "commonest", "()I"⟩
def dkwX7_commonest_3 : List UInt8 := [172]
abbrev dktX7_commonest_3 : List UInt8 := dkwX7_commonest_3 ++ []
def dkwX7_commonest_2 : List UInt8 := [132, 3, 1, 167, 255, 227, 27, 154, 0, 12, 42, 16, 6, 182, 0, 188, 167, 0, 8, 42, 27, 182, 0, 191]
abbrev dktX7_commonest_2 : List UInt8 := dkwX7_commonest_2 ++ dktX7_commonest_3
def dkwX7_commonest_1 : List UInt8 := [163, 0, 29, 42, 29, 182, 1, 94, 28, 163, 0, 6, 167, 0, 11, 42, 29, 182, 1, 94, 61, 29, 60]
abbrev dktX7_commonest_1 : List UInt8 := dkwX7_commonest_1 ++ dktX7_commonest_2
def dkwX7_commonest_0 : List UInt8 := [42, 182, 1, 50, 154, 0, 10, 42, 16, 6, 182, 0, 188, 172, 3, 60, 3, 61, 4, 62, 29, 16, 63]
abbrev dktX7_commonest_0 : List UInt8 := dkwX7_commonest_0 ++ dktX7_commonest_1
theorem dksX7_commonest_0 : cX7_commonest.data.toList.drop 0 = dktX7_commonest_0 := by decide +kernel
theorem dksX7_commonest_1 : cX7_commonest.data.toList.drop 23 = dktX7_commonest_1 := dk_seg dksX7_commonest_0 23 rfl rfl
theorem dksX7_commonest_2 : cX7_commonest.data.toList.drop 46 = dktX7_commonest_2 := dk_seg dksX7_commonest_1 23 rfl rfl
theorem dksX7_commonest_3 : cX7_commonest.data.toList.drop 70 = dktX7_commonest_3 := dk_seg dksX7_commonest_2 24 rfl rfl
theorem dX7_commonest_0 : decode cX7_commonest 0 = .ok (.aload_n 0, 1) := dk_42 (dk_at dksX7_commonest_0 0 rfl rfl)
theorem dX7_commonest_1 : decode cX7_commonest 1 = .ok (.invokevirtual 306, 3) := dk_182 1 50 (dk_at dksX7_commonest_0 1 rfl rfl)
theorem dX7_commonest_4 : decode cX7_commonest 4 = .ok (.ifCond .ne 10, 3) := dk_154 0 10 (dk_at dksX7_commonest_0 4 rfl rfl)
theorem dX7_commonest_7 : decode cX7_commonest 7 = .ok (.aload_n 0, 1) := dk_42 (dk_at dksX7_commonest_0 7 rfl rfl)
theorem dX7_commonest_8 : decode cX7_commonest 8 = .ok (.bipush 6, 2) := dk_16 6 (dk_at dksX7_commonest_0 8 rfl rfl)
theorem dX7_commonest_10 : decode cX7_commonest 10 = .ok (.invokevirtual 188, 3) := dk_182 0 188 (dk_at dksX7_commonest_0 10 rfl rfl)
theorem dX7_commonest_13 : decode cX7_commonest 13 = .ok (.ireturn, 1) := dk_172 (dk_at dksX7_commonest_0 13 rfl rfl)
theorem dX7_commonest_14 : decode cX7_commonest 14 = .ok (.iconst 0, 1) := dk_3 (dk_at dksX7_commonest_0 14 rfl rfl)
theorem dX7_commonest_15 : decode cX7_commonest 15 = .ok (.istore_n 1, 1) := dk_60 (dk_at dksX7_commonest_0 15 rfl rfl)
theorem dX7_commonest_16 : decode cX7_commonest 16 = .ok (.iconst 0, 1) := dk_3 (dk_at dksX7_commonest_0 16 rfl rfl)
theorem dX7_commonest_17 : decode cX7_commonest 17 = .ok (.istore_n 2, 1) := dk_61 (dk_at dksX7_commonest_0 17 rfl rfl)
theorem dX7_commonest_18 : decode cX7_commonest 18 = .ok (.iconst 1, 1) := dk_4 (dk_at dksX7_commonest_0 18 rfl rfl)
theorem dX7_commonest_19 : decode cX7_commonest 19 = .ok (.istore_n 3, 1) := dk_62 (dk_at dksX7_commonest_0 19 rfl rfl)
theorem dX7_commonest_20 : decode cX7_commonest 20 = .ok (.iload_n 3, 1) := dk_29 (dk_at dksX7_commonest_0 20 rfl rfl)
theorem dX7_commonest_21 : decode cX7_commonest 21 = .ok (.bipush 63, 2) := dk_16 63 (dk_at dksX7_commonest_0 21 rfl rfl)
theorem dX7_commonest_23 : decode cX7_commonest 23 = .ok (.if_icmp .gt 29, 3) := dk_163 0 29 (dk_at dksX7_commonest_1 0 rfl rfl)
theorem dX7_commonest_26 : decode cX7_commonest 26 = .ok (.aload_n 0, 1) := dk_42 (dk_at dksX7_commonest_1 3 rfl rfl)
theorem dX7_commonest_27 : decode cX7_commonest 27 = .ok (.iload_n 3, 1) := dk_29 (dk_at dksX7_commonest_1 4 rfl rfl)
theorem dX7_commonest_28 : decode cX7_commonest 28 = .ok (.invokevirtual 350, 3) := dk_182 1 94 (dk_at dksX7_commonest_1 5 rfl rfl)
theorem dX7_commonest_31 : decode cX7_commonest 31 = .ok (.iload_n 2, 1) := dk_28 (dk_at dksX7_commonest_1 8 rfl rfl)
theorem dX7_commonest_32 : decode cX7_commonest 32 = .ok (.if_icmp .gt 6, 3) := dk_163 0 6 (dk_at dksX7_commonest_1 9 rfl rfl)
theorem dX7_commonest_35 : decode cX7_commonest 35 = .ok (.goto 11, 3) := dk_167 0 11 (dk_at dksX7_commonest_1 12 rfl rfl)
theorem dX7_commonest_38 : decode cX7_commonest 38 = .ok (.aload_n 0, 1) := dk_42 (dk_at dksX7_commonest_1 15 rfl rfl)
theorem dX7_commonest_39 : decode cX7_commonest 39 = .ok (.iload_n 3, 1) := dk_29 (dk_at dksX7_commonest_1 16 rfl rfl)
theorem dX7_commonest_40 : decode cX7_commonest 40 = .ok (.invokevirtual 350, 3) := dk_182 1 94 (dk_at dksX7_commonest_1 17 rfl rfl)
theorem dX7_commonest_43 : decode cX7_commonest 43 = .ok (.istore_n 2, 1) := dk_61 (dk_at dksX7_commonest_1 20 rfl rfl)
theorem dX7_commonest_44 : decode cX7_commonest 44 = .ok (.iload_n 3, 1) := dk_29 (dk_at dksX7_commonest_1 21 rfl rfl)
theorem dX7_commonest_45 : decode cX7_commonest 45 = .ok (.istore_n 1, 1) := dk_60 (dk_at dksX7_commonest_1 22 rfl rfl)
theorem dX7_commonest_46 : decode cX7_commonest 46 = .ok (.iinc 3 1, 3) := dk_132 3 1 (dk_at dksX7_commonest_2 0 rfl rfl)
theorem dX7_commonest_49 : decode cX7_commonest 49 = .ok (.goto (-29), 3) := dk_167 255 227 (dk_at dksX7_commonest_2 3 rfl rfl)
theorem dX7_commonest_52 : decode cX7_commonest 52 = .ok (.iload_n 1, 1) := dk_27 (dk_at dksX7_commonest_2 6 rfl rfl)
theorem dX7_commonest_53 : decode cX7_commonest 53 = .ok (.ifCond .ne 12, 3) := dk_154 0 12 (dk_at dksX7_commonest_2 7 rfl rfl)
theorem dX7_commonest_56 : decode cX7_commonest 56 = .ok (.aload_n 0, 1) := dk_42 (dk_at dksX7_commonest_2 10 rfl rfl)
theorem dX7_commonest_57 : decode cX7_commonest 57 = .ok (.bipush 6, 2) := dk_16 6 (dk_at dksX7_commonest_2 11 rfl rfl)
theorem dX7_commonest_59 : decode cX7_commonest 59 = .ok (.invokevirtual 188, 3) := dk_182 0 188 (dk_at dksX7_commonest_2 13 rfl rfl)
theorem dX7_commonest_62 : decode cX7_commonest 62 = .ok (.goto 8, 3) := dk_167 0 8 (dk_at dksX7_commonest_2 16 rfl rfl)
theorem dX7_commonest_65 : decode cX7_commonest 65 = .ok (.aload_n 0, 1) := dk_42 (dk_at dksX7_commonest_2 19 rfl rfl)
theorem dX7_commonest_66 : decode cX7_commonest 66 = .ok (.iload_n 1, 1) := dk_27 (dk_at dksX7_commonest_2 20 rfl rfl)
theorem dX7_commonest_67 : decode cX7_commonest 67 = .ok (.invokevirtual 191, 3) := dk_182 0 191 (dk_at dksX7_commonest_2 21 rfl rfl)
theorem dX7_commonest_70 : decode cX7_commonest 70 = .ok (.ireturn, 1) := dk_172 (dk_at dksX7_commonest_3 0 rfl rfl)
abbrev cX7_ragged : ByteArray := prog_17_method_95_code
def yX7_ragged : MethodName := ⟨RX7, "ragged", "()I"⟩
def dkwX7_ragged_2 : List UInt8 := [167, 255, 230, 42, 27, 182, 0, 191, 172]
abbrev dktX7_ragged_2 : List UInt8 := dkwX7_ragged_2 ++ []
def dkwX7_ragged_1 : List UInt8 := [180, 1, 59, 4, 100, 162, 0, 22, 27, 42, 42, 180, 0, 47, 28, 46, 182, 1, 97, 96, 60, 132, 2, 1]
abbrev dktX7_ragged_1 : List UInt8 := dkwX7_ragged_1 ++ dktX7_ragged_2
def dkwX7_ragged_0 : List UInt8 := [42, 182, 1, 50, 154, 0, 10, 42, 16, 6, 182, 0, 188, 172, 42, 182, 1, 74, 3, 60, 3, 61, 28, 42]
abbrev dktX7_ragged_0 : List UInt8 := dkwX7_ragged_0 ++ dktX7_ragged_1
theorem dksX7_ragged_0 : cX7_ragged.data.toList.drop 0 = dktX7_ragged_0 := by decide +kernel
theorem dksX7_ragged_1 : cX7_ragged.data.toList.drop 24 = dktX7_ragged_1 := dk_seg dksX7_ragged_0 24 rfl rfl
theorem dksX7_ragged_2 : cX7_ragged.data.toList.drop 48 = dktX7_ragged_2 := dk_seg dksX7_ragged_1 24 rfl rfl
theorem dX7_ragged_0 : decode cX7_ragged 0 = .ok (.aload_n 0, 1) := dk_42 (dk_at dksX7_ragged_0 0 rfl rfl)
theorem dX7_ragged_1 : decode cX7_ragged 1 = .ok (.invokevirtual 306, 3) := dk_182 1 50 (dk_at dksX7_ragged_0 1 rfl rfl)
theorem dX7_ragged_4 : decode cX7_ragged 4 = .ok (.ifCond .ne 10, 3) := dk_154 0 10 (dk_at dksX7_ragged_0 4 rfl rfl)
theorem dX7_ragged_7 : decode cX7_ragged 7 = .ok (.aload_n 0, 1) := dk_42 (dk_at dksX7_ragged_0 7 rfl rfl)
theorem dX7_ragged_8 : decode cX7_ragged 8 = .ok (.bipush 6, 2) := dk_16 6 (dk_at dksX7_ragged_0 8 rfl rfl)
theorem dX7_ragged_10 : decode cX7_ragged 10 = .ok (.invokevirtual 188, 3) := dk_182 0 188 (dk_at dksX7_ragged_0 10 rfl rfl)
theorem dX7_ragged_13 : decode cX7_ragged 13 = .ok (.ireturn, 1) := dk_172 (dk_at dksX7_ragged_0 13 rfl rfl)
theorem dX7_ragged_14 : decode cX7_ragged 14 = .ok (.aload_n 0, 1) := dk_42 (dk_at dksX7_ragged_0 14 rfl rfl)
theorem dX7_ragged_15 : decode cX7_ragged 15 = .ok (.invokevirtual 330, 3) := dk_182 1 74 (dk_at dksX7_ragged_0 15 rfl rfl)
theorem dX7_ragged_18 : decode cX7_ragged 18 = .ok (.iconst 0, 1) := dk_3 (dk_at dksX7_ragged_0 18 rfl rfl)
theorem dX7_ragged_19 : decode cX7_ragged 19 = .ok (.istore_n 1, 1) := dk_60 (dk_at dksX7_ragged_0 19 rfl rfl)
theorem dX7_ragged_20 : decode cX7_ragged 20 = .ok (.iconst 0, 1) := dk_3 (dk_at dksX7_ragged_0 20 rfl rfl)
theorem dX7_ragged_21 : decode cX7_ragged 21 = .ok (.istore_n 2, 1) := dk_61 (dk_at dksX7_ragged_0 21 rfl rfl)
theorem dX7_ragged_22 : decode cX7_ragged 22 = .ok (.iload_n 2, 1) := dk_28 (dk_at dksX7_ragged_0 22 rfl rfl)
theorem dX7_ragged_23 : decode cX7_ragged 23 = .ok (.aload_n 0, 1) := dk_42 (dk_at dksX7_ragged_0 23 rfl rfl)
theorem dX7_ragged_24 : decode cX7_ragged 24 = .ok (.getfield 315, 3) := dk_180 1 59 (dk_at dksX7_ragged_1 0 rfl rfl)
theorem dX7_ragged_27 : decode cX7_ragged 27 = .ok (.iconst 1, 1) := dk_4 (dk_at dksX7_ragged_1 3 rfl rfl)
theorem dX7_ragged_28 : decode cX7_ragged 28 = .ok (.isub, 1) := dk_100 (dk_at dksX7_ragged_1 4 rfl rfl)
theorem dX7_ragged_29 : decode cX7_ragged 29 = .ok (.if_icmp .ge 22, 3) := dk_162 0 22 (dk_at dksX7_ragged_1 5 rfl rfl)
theorem dX7_ragged_32 : decode cX7_ragged 32 = .ok (.iload_n 1, 1) := dk_27 (dk_at dksX7_ragged_1 8 rfl rfl)
theorem dX7_ragged_33 : decode cX7_ragged 33 = .ok (.aload_n 0, 1) := dk_42 (dk_at dksX7_ragged_1 9 rfl rfl)
theorem dX7_ragged_34 : decode cX7_ragged 34 = .ok (.aload_n 0, 1) := dk_42 (dk_at dksX7_ragged_1 10 rfl rfl)
theorem dX7_ragged_35 : decode cX7_ragged 35 = .ok (.getfield 47, 3) := dk_180 0 47 (dk_at dksX7_ragged_1 11 rfl rfl)
theorem dX7_ragged_38 : decode cX7_ragged 38 = .ok (.iload_n 2, 1) := dk_28 (dk_at dksX7_ragged_1 14 rfl rfl)
theorem dX7_ragged_39 : decode cX7_ragged 39 = .ok (.iaload, 1) := dk_46 (dk_at dksX7_ragged_1 15 rfl rfl)
theorem dX7_ragged_40 : decode cX7_ragged 40 = .ok (.invokevirtual 353, 3) := dk_182 1 97 (dk_at dksX7_ragged_1 16 rfl rfl)
theorem dX7_ragged_43 : decode cX7_ragged 43 = .ok (.iadd, 1) := dk_96 (dk_at dksX7_ragged_1 19 rfl rfl)
theorem dX7_ragged_44 : decode cX7_ragged 44 = .ok (.istore_n 1, 1) := dk_60 (dk_at dksX7_ragged_1 20 rfl rfl)
theorem dX7_ragged_45 : decode cX7_ragged 45 = .ok (.iinc 2 1, 3) := dk_132 2 1 (dk_at dksX7_ragged_1 21 rfl rfl)
theorem dX7_ragged_48 : decode cX7_ragged 48 = .ok (.goto (-26), 3) := dk_167 255 230 (dk_at dksX7_ragged_2 0 rfl rfl)
theorem dX7_ragged_51 : decode cX7_ragged 51 = .ok (.aload_n 0, 1) := dk_42 (dk_at dksX7_ragged_2 3 rfl rfl)
theorem dX7_ragged_52 : decode cX7_ragged 52 = .ok (.iload_n 1, 1) := dk_27 (dk_at dksX7_ragged_2 4 rfl rfl)
theorem dX7_ragged_53 : decode cX7_ragged 53 = .ok (.invokevirtual 191, 3) := dk_182 0 191 (dk_at dksX7_ragged_2 5 rfl rfl)
theorem dX7_ragged_56 : decode cX7_ragged 56 = .ok (.ireturn, 1) := dk_172 (dk_at dksX7_ragged_2 8 rfl rfl)
abbrev cX7_shorter : ByteArray := prog_17_method_94_code
def yX7_shorter : MethodName := ⟨RX7, "shorter", "(I)I"⟩
def dkwX7_shorter_0 : List UInt8 := [42, 180, 0, 7, 7, 46, 27, 100, 42, 180, 0, 7, 7, 46, 27, 100, 104, 172]
abbrev dktX7_shorter_0 : List UInt8 := dkwX7_shorter_0 ++ []
theorem dksX7_shorter_0 : cX7_shorter.data.toList.drop 0 = dktX7_shorter_0 := by decide +kernel
theorem dX7_shorter_0 : decode cX7_shorter 0 = .ok (.aload_n 0, 1) := dk_42 (dk_at dksX7_shorter_0 0 rfl rfl)
theorem dX7_shorter_1 : decode cX7_shorter 1 = .ok (.getfield 7, 3) := dk_180 0 7 (dk_at dksX7_shorter_0 1 rfl rfl)
theorem dX7_shorter_4 : decode cX7_shorter 4 = .ok (.iconst 4, 1) := dk_7 (dk_at dksX7_shorter_0 4 rfl rfl)
theorem dX7_shorter_5 : decode cX7_shorter 5 = .ok (.iaload, 1) := dk_46 (dk_at dksX7_shorter_0 5 rfl rfl)
theorem dX7_shorter_6 : decode cX7_shorter 6 = .ok (.iload_n 1, 1) := dk_27 (dk_at dksX7_shorter_0 6 rfl rfl)
theorem dX7_shorter_7 : decode cX7_shorter 7 = .ok (.isub, 1) := dk_100 (dk_at dksX7_shorter_0 7 rfl rfl)
theorem dX7_shorter_8 : decode cX7_shorter 8 = .ok (.aload_n 0, 1) := dk_42 (dk_at dksX7_shorter_0 8 rfl rfl)
theorem dX7_shorter_9 : decode cX7_shorter 9 = .ok (.getfield 7, 3) := dk_180 0 7 (dk_at dksX7_shorter_0 9 rfl rfl)
theorem dX7_shorter_12 : decode cX7_shorter 12 = .ok (.iconst 4, 1) := dk_7 (dk_at dksX7_shorter_0 12 rfl rfl)
theorem dX7_shorter_13 : decode cX7_shorter 13 = .ok (.iaload, 1) := dk_46 (dk_at dksX7_shorter_0 13 rfl rfl)
theorem dX7_shorter_14 : decode cX7_shorter 14 = .ok (.iload_n 1, 1) := dk_27 (dk_at dksX7_shorter_0 14 rfl rfl)
theorem dX7_shorter_15 : decode cX7_shorter 15 = .ok (.isub, 1) := dk_100 (dk_at dksX7_shorter_0 15 rfl rfl)
theorem dX7_shorter_16 : decode cX7_shorter 16 = .ok (.imul, 1) := dk_104 (dk_at dksX7_shorter_0 16 rfl rfl)
theorem dX7_shorter_17 : decode cX7_shorter 17 = .ok (.ireturn, 1) := dk_172 (dk_at dksX7_shorter_0 17 rfl rfl)
abbrev cX7_leastRagged : ByteArray := prog_17_method_96_code
def yX7_leastRagged : MethodName := ⟨RX7, "leastRagged", "()I"⟩
def dkwX7_leastRagged_7 : List UInt8 := [167, 255, 161, 42, 42, 180, 0, 56, 3, 46, 182, 0, 191, 172]
abbrev dktX7_leastRagged_7 : List UInt8 := dkwX7_leastRagged_7 ++ []
def dkwX7_leastRagged_6 : List UInt8 := [184, 0, 154, 54, 4, 132, 5, 1, 167, 255, 189, 42, 180, 0, 56, 28, 21, 4, 79, 132, 2, 255]
abbrev dktX7_leastRagged_6 : List UInt8 := dkwX7_leastRagged_6 ++ dktX7_leastRagged_7
def dkwX7_leastRagged_5 : List UInt8 := [96, 27, 160, 0, 7, 3, 167, 0, 18, 42, 29, 182, 1, 97, 42, 180, 0, 56, 21, 5, 4, 96, 46, 96]
abbrev dktX7_leastRagged_5 : List UInt8 := dkwX7_leastRagged_5 ++ dktX7_leastRagged_6
def dkwX7_leastRagged_4 : List UInt8 := [182, 1, 65, 96, 96, 62, 29, 42, 180, 0, 7, 7, 46, 164, 0, 6, 167, 0, 43, 21, 4, 21, 5, 4]
abbrev dktX7_leastRagged_4 : List UInt8 := dkwX7_leastRagged_4 ++ dktX7_leastRagged_5
def dkwX7_leastRagged_3 : List UInt8 := [155, 0, 97, 2, 62, 19, 1, 102, 54, 4, 28, 54, 5, 21, 5, 27, 162, 0, 67, 29, 4, 42, 21, 5]
abbrev dktX7_leastRagged_3 : List UInt8 := dkwX7_leastRagged_3 ++ dktX7_leastRagged_4
def dkwX7_leastRagged_2 : List UInt8 := [182, 0, 188, 172, 132, 2, 1, 167, 255, 227, 42, 180, 0, 56, 27, 3, 79, 27, 4, 100, 61, 28]
abbrev dktX7_leastRagged_2 : List UInt8 := dkwX7_leastRagged_2 ++ dktX7_leastRagged_3
def dkwX7_leastRagged_1 : List UInt8 := [28, 27, 162, 0, 30, 42, 28, 182, 1, 65, 42, 180, 0, 7, 7, 46, 164, 0, 10, 42, 16, 7]
abbrev dktX7_leastRagged_1 : List UInt8 := dkwX7_leastRagged_1 ++ dktX7_leastRagged_2
def dkwX7_leastRagged_0 : List UInt8 := [42, 182, 1, 50, 154, 0, 10, 42, 16, 6, 182, 0, 188, 172, 42, 180, 0, 7, 16, 9, 46, 60, 3, 61]
abbrev dktX7_leastRagged_0 : List UInt8 := dkwX7_leastRagged_0 ++ dktX7_leastRagged_1
theorem dksX7_leastRagged_0 : cX7_leastRagged.data.toList.drop 0 = dktX7_leastRagged_0 := by decide +kernel
theorem dksX7_leastRagged_1 : cX7_leastRagged.data.toList.drop 24 = dktX7_leastRagged_1 := dk_seg dksX7_leastRagged_0 24 rfl rfl
theorem dksX7_leastRagged_2 : cX7_leastRagged.data.toList.drop 46 = dktX7_leastRagged_2 := dk_seg dksX7_leastRagged_1 22 rfl rfl
theorem dksX7_leastRagged_3 : cX7_leastRagged.data.toList.drop 68 = dktX7_leastRagged_3 := dk_seg dksX7_leastRagged_2 22 rfl rfl
theorem dksX7_leastRagged_4 : cX7_leastRagged.data.toList.drop 92 = dktX7_leastRagged_4 := dk_seg dksX7_leastRagged_3 24 rfl rfl
theorem dksX7_leastRagged_5 : cX7_leastRagged.data.toList.drop 116 = dktX7_leastRagged_5 := dk_seg dksX7_leastRagged_4 24 rfl rfl
theorem dksX7_leastRagged_6 : cX7_leastRagged.data.toList.drop 140 = dktX7_leastRagged_6 := dk_seg dksX7_leastRagged_5 24 rfl rfl
theorem dksX7_leastRagged_7 : cX7_leastRagged.data.toList.drop 162 = dktX7_leastRagged_7 := dk_seg dksX7_leastRagged_6 22 rfl rfl
theorem dX7_leastRagged_0 : decode cX7_leastRagged 0 = .ok (.aload_n 0, 1) := dk_42 (dk_at dksX7_leastRagged_0 0 rfl rfl)
theorem dX7_leastRagged_1 : decode cX7_leastRagged 1 = .ok (.invokevirtual 306, 3) := dk_182 1 50 (dk_at dksX7_leastRagged_0 1 rfl rfl)
theorem dX7_leastRagged_4 : decode cX7_leastRagged 4 = .ok (.ifCond .ne 10, 3) := dk_154 0 10 (dk_at dksX7_leastRagged_0 4 rfl rfl)
theorem dX7_leastRagged_7 : decode cX7_leastRagged 7 = .ok (.aload_n 0, 1) := dk_42 (dk_at dksX7_leastRagged_0 7 rfl rfl)
theorem dX7_leastRagged_8 : decode cX7_leastRagged 8 = .ok (.bipush 6, 2) := dk_16 6 (dk_at dksX7_leastRagged_0 8 rfl rfl)
theorem dX7_leastRagged_10 : decode cX7_leastRagged 10 = .ok (.invokevirtual 188, 3) := dk_182 0 188 (dk_at dksX7_leastRagged_0 10 rfl rfl)
theorem dX7_leastRagged_13 : decode cX7_leastRagged 13 = .ok (.ireturn, 1) := dk_172 (dk_at dksX7_leastRagged_0 13 rfl rfl)
theorem dX7_leastRagged_14 : decode cX7_leastRagged 14 = .ok (.aload_n 0, 1) := dk_42 (dk_at dksX7_leastRagged_0 14 rfl rfl)
theorem dX7_leastRagged_15 : decode cX7_leastRagged 15 = .ok (.getfield 7, 3) := dk_180 0 7 (dk_at dksX7_leastRagged_0 15 rfl rfl)
theorem dX7_leastRagged_18 : decode cX7_leastRagged 18 = .ok (.bipush 9, 2) := dk_16 9 (dk_at dksX7_leastRagged_0 18 rfl rfl)
theorem dX7_leastRagged_20 : decode cX7_leastRagged 20 = .ok (.iaload, 1) := dk_46 (dk_at dksX7_leastRagged_0 20 rfl rfl)
theorem dX7_leastRagged_21 : decode cX7_leastRagged 21 = .ok (.istore_n 1, 1) := dk_60 (dk_at dksX7_leastRagged_0 21 rfl rfl)
theorem dX7_leastRagged_22 : decode cX7_leastRagged 22 = .ok (.iconst 0, 1) := dk_3 (dk_at dksX7_leastRagged_0 22 rfl rfl)
theorem dX7_leastRagged_23 : decode cX7_leastRagged 23 = .ok (.istore_n 2, 1) := dk_61 (dk_at dksX7_leastRagged_0 23 rfl rfl)
theorem dX7_leastRagged_24 : decode cX7_leastRagged 24 = .ok (.iload_n 2, 1) := dk_28 (dk_at dksX7_leastRagged_1 0 rfl rfl)
theorem dX7_leastRagged_25 : decode cX7_leastRagged 25 = .ok (.iload_n 1, 1) := dk_27 (dk_at dksX7_leastRagged_1 1 rfl rfl)
theorem dX7_leastRagged_26 : decode cX7_leastRagged 26 = .ok (.if_icmp .ge 30, 3) := dk_162 0 30 (dk_at dksX7_leastRagged_1 2 rfl rfl)
theorem dX7_leastRagged_29 : decode cX7_leastRagged 29 = .ok (.aload_n 0, 1) := dk_42 (dk_at dksX7_leastRagged_1 5 rfl rfl)
theorem dX7_leastRagged_30 : decode cX7_leastRagged 30 = .ok (.iload_n 2, 1) := dk_28 (dk_at dksX7_leastRagged_1 6 rfl rfl)
theorem dX7_leastRagged_31 : decode cX7_leastRagged 31 = .ok (.invokevirtual 321, 3) := dk_182 1 65 (dk_at dksX7_leastRagged_1 7 rfl rfl)
theorem dX7_leastRagged_34 : decode cX7_leastRagged 34 = .ok (.aload_n 0, 1) := dk_42 (dk_at dksX7_leastRagged_1 10 rfl rfl)
theorem dX7_leastRagged_35 : decode cX7_leastRagged 35 = .ok (.getfield 7, 3) := dk_180 0 7 (dk_at dksX7_leastRagged_1 11 rfl rfl)
theorem dX7_leastRagged_38 : decode cX7_leastRagged 38 = .ok (.iconst 4, 1) := dk_7 (dk_at dksX7_leastRagged_1 14 rfl rfl)
theorem dX7_leastRagged_39 : decode cX7_leastRagged 39 = .ok (.iaload, 1) := dk_46 (dk_at dksX7_leastRagged_1 15 rfl rfl)
theorem dX7_leastRagged_40 : decode cX7_leastRagged 40 = .ok (.if_icmp .le 10, 3) := dk_164 0 10 (dk_at dksX7_leastRagged_1 16 rfl rfl)
theorem dX7_leastRagged_43 : decode cX7_leastRagged 43 = .ok (.aload_n 0, 1) := dk_42 (dk_at dksX7_leastRagged_1 19 rfl rfl)
theorem dX7_leastRagged_44 : decode cX7_leastRagged 44 = .ok (.bipush 7, 2) := dk_16 7 (dk_at dksX7_leastRagged_1 20 rfl rfl)
theorem dX7_leastRagged_46 : decode cX7_leastRagged 46 = .ok (.invokevirtual 188, 3) := dk_182 0 188 (dk_at dksX7_leastRagged_2 0 rfl rfl)
theorem dX7_leastRagged_49 : decode cX7_leastRagged 49 = .ok (.ireturn, 1) := dk_172 (dk_at dksX7_leastRagged_2 3 rfl rfl)
theorem dX7_leastRagged_50 : decode cX7_leastRagged 50 = .ok (.iinc 2 1, 3) := dk_132 2 1 (dk_at dksX7_leastRagged_2 4 rfl rfl)
theorem dX7_leastRagged_53 : decode cX7_leastRagged 53 = .ok (.goto (-29), 3) := dk_167 255 227 (dk_at dksX7_leastRagged_2 7 rfl rfl)
theorem dX7_leastRagged_56 : decode cX7_leastRagged 56 = .ok (.aload_n 0, 1) := dk_42 (dk_at dksX7_leastRagged_2 10 rfl rfl)
theorem dX7_leastRagged_57 : decode cX7_leastRagged 57 = .ok (.getfield 56, 3) := dk_180 0 56 (dk_at dksX7_leastRagged_2 11 rfl rfl)
theorem dX7_leastRagged_60 : decode cX7_leastRagged 60 = .ok (.iload_n 1, 1) := dk_27 (dk_at dksX7_leastRagged_2 14 rfl rfl)
theorem dX7_leastRagged_61 : decode cX7_leastRagged 61 = .ok (.iconst 0, 1) := dk_3 (dk_at dksX7_leastRagged_2 15 rfl rfl)
theorem dX7_leastRagged_62 : decode cX7_leastRagged 62 = .ok (.iastore, 1) := dk_79 (dk_at dksX7_leastRagged_2 16 rfl rfl)
theorem dX7_leastRagged_63 : decode cX7_leastRagged 63 = .ok (.iload_n 1, 1) := dk_27 (dk_at dksX7_leastRagged_2 17 rfl rfl)
theorem dX7_leastRagged_64 : decode cX7_leastRagged 64 = .ok (.iconst 1, 1) := dk_4 (dk_at dksX7_leastRagged_2 18 rfl rfl)
theorem dX7_leastRagged_65 : decode cX7_leastRagged 65 = .ok (.isub, 1) := dk_100 (dk_at dksX7_leastRagged_2 19 rfl rfl)
theorem dX7_leastRagged_66 : decode cX7_leastRagged 66 = .ok (.istore_n 2, 1) := dk_61 (dk_at dksX7_leastRagged_2 20 rfl rfl)
theorem dX7_leastRagged_67 : decode cX7_leastRagged 67 = .ok (.iload_n 2, 1) := dk_28 (dk_at dksX7_leastRagged_2 21 rfl rfl)
theorem dX7_leastRagged_68 : decode cX7_leastRagged 68 = .ok (.ifCond .lt 97, 3) := dk_155 0 97 (dk_at dksX7_leastRagged_3 0 rfl rfl)
theorem dX7_leastRagged_71 : decode cX7_leastRagged 71 = .ok (.iconst (-1), 1) := dk_2 (dk_at dksX7_leastRagged_3 3 rfl rfl)
theorem dX7_leastRagged_72 : decode cX7_leastRagged 72 = .ok (.istore_n 3, 1) := dk_62 (dk_at dksX7_leastRagged_3 4 rfl rfl)
theorem dX7_leastRagged_73 : decode cX7_leastRagged 73 = .ok (.ldc_w 358, 3) := dk_19 1 102 (dk_at dksX7_leastRagged_3 5 rfl rfl)
theorem dX7_leastRagged_76 : decode cX7_leastRagged 76 = .ok (.istore 4, 2) := dk_54 4 (dk_at dksX7_leastRagged_3 8 rfl rfl)
theorem dX7_leastRagged_78 : decode cX7_leastRagged 78 = .ok (.iload_n 2, 1) := dk_28 (dk_at dksX7_leastRagged_3 10 rfl rfl)
theorem dX7_leastRagged_79 : decode cX7_leastRagged 79 = .ok (.istore 5, 2) := dk_54 5 (dk_at dksX7_leastRagged_3 11 rfl rfl)
theorem dX7_leastRagged_81 : decode cX7_leastRagged 81 = .ok (.iload 5, 2) := dk_21 5 (dk_at dksX7_leastRagged_3 13 rfl rfl)
theorem dX7_leastRagged_83 : decode cX7_leastRagged 83 = .ok (.iload_n 1, 1) := dk_27 (dk_at dksX7_leastRagged_3 15 rfl rfl)
theorem dX7_leastRagged_84 : decode cX7_leastRagged 84 = .ok (.if_icmp .ge 67, 3) := dk_162 0 67 (dk_at dksX7_leastRagged_3 16 rfl rfl)
theorem dX7_leastRagged_87 : decode cX7_leastRagged 87 = .ok (.iload_n 3, 1) := dk_29 (dk_at dksX7_leastRagged_3 19 rfl rfl)
theorem dX7_leastRagged_88 : decode cX7_leastRagged 88 = .ok (.iconst 1, 1) := dk_4 (dk_at dksX7_leastRagged_3 20 rfl rfl)
theorem dX7_leastRagged_89 : decode cX7_leastRagged 89 = .ok (.aload_n 0, 1) := dk_42 (dk_at dksX7_leastRagged_3 21 rfl rfl)
theorem dX7_leastRagged_90 : decode cX7_leastRagged 90 = .ok (.iload 5, 2) := dk_21 5 (dk_at dksX7_leastRagged_3 22 rfl rfl)
theorem dX7_leastRagged_92 : decode cX7_leastRagged 92 = .ok (.invokevirtual 321, 3) := dk_182 1 65 (dk_at dksX7_leastRagged_4 0 rfl rfl)
theorem dX7_leastRagged_95 : decode cX7_leastRagged 95 = .ok (.iadd, 1) := dk_96 (dk_at dksX7_leastRagged_4 3 rfl rfl)
theorem dX7_leastRagged_96 : decode cX7_leastRagged 96 = .ok (.iadd, 1) := dk_96 (dk_at dksX7_leastRagged_4 4 rfl rfl)
theorem dX7_leastRagged_97 : decode cX7_leastRagged 97 = .ok (.istore_n 3, 1) := dk_62 (dk_at dksX7_leastRagged_4 5 rfl rfl)
theorem dX7_leastRagged_98 : decode cX7_leastRagged 98 = .ok (.iload_n 3, 1) := dk_29 (dk_at dksX7_leastRagged_4 6 rfl rfl)
theorem dX7_leastRagged_99 : decode cX7_leastRagged 99 = .ok (.aload_n 0, 1) := dk_42 (dk_at dksX7_leastRagged_4 7 rfl rfl)
theorem dX7_leastRagged_100 : decode cX7_leastRagged 100 = .ok (.getfield 7, 3) := dk_180 0 7 (dk_at dksX7_leastRagged_4 8 rfl rfl)
theorem dX7_leastRagged_103 : decode cX7_leastRagged 103 = .ok (.iconst 4, 1) := dk_7 (dk_at dksX7_leastRagged_4 11 rfl rfl)
theorem dX7_leastRagged_104 : decode cX7_leastRagged 104 = .ok (.iaload, 1) := dk_46 (dk_at dksX7_leastRagged_4 12 rfl rfl)
theorem dX7_leastRagged_105 : decode cX7_leastRagged 105 = .ok (.if_icmp .le 6, 3) := dk_164 0 6 (dk_at dksX7_leastRagged_4 13 rfl rfl)
theorem dX7_leastRagged_108 : decode cX7_leastRagged 108 = .ok (.goto 43, 3) := dk_167 0 43 (dk_at dksX7_leastRagged_4 16 rfl rfl)
theorem dX7_leastRagged_111 : decode cX7_leastRagged 111 = .ok (.iload 4, 2) := dk_21 4 (dk_at dksX7_leastRagged_4 19 rfl rfl)
theorem dX7_leastRagged_113 : decode cX7_leastRagged 113 = .ok (.iload 5, 2) := dk_21 5 (dk_at dksX7_leastRagged_4 21 rfl rfl)
theorem dX7_leastRagged_115 : decode cX7_leastRagged 115 = .ok (.iconst 1, 1) := dk_4 (dk_at dksX7_leastRagged_4 23 rfl rfl)
theorem dX7_leastRagged_116 : decode cX7_leastRagged 116 = .ok (.iadd, 1) := dk_96 (dk_at dksX7_leastRagged_5 0 rfl rfl)
theorem dX7_leastRagged_117 : decode cX7_leastRagged 117 = .ok (.iload_n 1, 1) := dk_27 (dk_at dksX7_leastRagged_5 1 rfl rfl)
theorem dX7_leastRagged_118 : decode cX7_leastRagged 118 = .ok (.if_icmp .ne 7, 3) := dk_160 0 7 (dk_at dksX7_leastRagged_5 2 rfl rfl)
theorem dX7_leastRagged_121 : decode cX7_leastRagged 121 = .ok (.iconst 0, 1) := dk_3 (dk_at dksX7_leastRagged_5 5 rfl rfl)
theorem dX7_leastRagged_122 : decode cX7_leastRagged 122 = .ok (.goto 18, 3) := dk_167 0 18 (dk_at dksX7_leastRagged_5 6 rfl rfl)
theorem dX7_leastRagged_125 : decode cX7_leastRagged 125 = .ok (.aload_n 0, 1) := dk_42 (dk_at dksX7_leastRagged_5 9 rfl rfl)
theorem dX7_leastRagged_126 : decode cX7_leastRagged 126 = .ok (.iload_n 3, 1) := dk_29 (dk_at dksX7_leastRagged_5 10 rfl rfl)
theorem dX7_leastRagged_127 : decode cX7_leastRagged 127 = .ok (.invokevirtual 353, 3) := dk_182 1 97 (dk_at dksX7_leastRagged_5 11 rfl rfl)
theorem dX7_leastRagged_130 : decode cX7_leastRagged 130 = .ok (.aload_n 0, 1) := dk_42 (dk_at dksX7_leastRagged_5 14 rfl rfl)
theorem dX7_leastRagged_131 : decode cX7_leastRagged 131 = .ok (.getfield 56, 3) := dk_180 0 56 (dk_at dksX7_leastRagged_5 15 rfl rfl)
theorem dX7_leastRagged_134 : decode cX7_leastRagged 134 = .ok (.iload 5, 2) := dk_21 5 (dk_at dksX7_leastRagged_5 18 rfl rfl)
theorem dX7_leastRagged_136 : decode cX7_leastRagged 136 = .ok (.iconst 1, 1) := dk_4 (dk_at dksX7_leastRagged_5 20 rfl rfl)
theorem dX7_leastRagged_137 : decode cX7_leastRagged 137 = .ok (.iadd, 1) := dk_96 (dk_at dksX7_leastRagged_5 21 rfl rfl)
theorem dX7_leastRagged_138 : decode cX7_leastRagged 138 = .ok (.iaload, 1) := dk_46 (dk_at dksX7_leastRagged_5 22 rfl rfl)
theorem dX7_leastRagged_139 : decode cX7_leastRagged 139 = .ok (.iadd, 1) := dk_96 (dk_at dksX7_leastRagged_5 23 rfl rfl)
theorem dX7_leastRagged_140 : decode cX7_leastRagged 140 = .ok (.invokestatic 154, 3) := dk_184 0 154 (dk_at dksX7_leastRagged_6 0 rfl rfl)
theorem dX7_leastRagged_143 : decode cX7_leastRagged 143 = .ok (.istore 4, 2) := dk_54 4 (dk_at dksX7_leastRagged_6 3 rfl rfl)
theorem dX7_leastRagged_145 : decode cX7_leastRagged 145 = .ok (.iinc 5 1, 3) := dk_132 5 1 (dk_at dksX7_leastRagged_6 5 rfl rfl)
theorem dX7_leastRagged_148 : decode cX7_leastRagged 148 = .ok (.goto (-67), 3) := dk_167 255 189 (dk_at dksX7_leastRagged_6 8 rfl rfl)
theorem dX7_leastRagged_151 : decode cX7_leastRagged 151 = .ok (.aload_n 0, 1) := dk_42 (dk_at dksX7_leastRagged_6 11 rfl rfl)
theorem dX7_leastRagged_152 : decode cX7_leastRagged 152 = .ok (.getfield 56, 3) := dk_180 0 56 (dk_at dksX7_leastRagged_6 12 rfl rfl)
theorem dX7_leastRagged_155 : decode cX7_leastRagged 155 = .ok (.iload_n 2, 1) := dk_28 (dk_at dksX7_leastRagged_6 15 rfl rfl)
theorem dX7_leastRagged_156 : decode cX7_leastRagged 156 = .ok (.iload 4, 2) := dk_21 4 (dk_at dksX7_leastRagged_6 16 rfl rfl)
theorem dX7_leastRagged_158 : decode cX7_leastRagged 158 = .ok (.iastore, 1) := dk_79 (dk_at dksX7_leastRagged_6 18 rfl rfl)
theorem dX7_leastRagged_159 : decode cX7_leastRagged 159 = .ok (.iinc 2 (-1), 3) := dk_132 2 255 (dk_at dksX7_leastRagged_6 19 rfl rfl)
theorem dX7_leastRagged_162 : decode cX7_leastRagged 162 = .ok (.goto (-95), 3) := dk_167 255 161 (dk_at dksX7_leastRagged_7 0 rfl rfl)
theorem dX7_leastRagged_165 : decode cX7_leastRagged 165 = .ok (.aload_n 0, 1) := dk_42 (dk_at dksX7_leastRagged_7 3 rfl rfl)
theorem dX7_leastRagged_166 : decode cX7_leastRagged 166 = .ok (.aload_n 0, 1) := dk_42 (dk_at dksX7_leastRagged_7 4 rfl rfl)
theorem dX7_leastRagged_167 : decode cX7_leastRagged 167 = .ok (.getfield 56, 3) := dk_180 0 56 (dk_at dksX7_leastRagged_7 5 rfl rfl)
theorem dX7_leastRagged_170 : decode cX7_leastRagged 170 = .ok (.iconst 0, 1) := dk_3 (dk_at dksX7_leastRagged_7 8 rfl rfl)
theorem dX7_leastRagged_171 : decode cX7_leastRagged 171 = .ok (.iaload, 1) := dk_46 (dk_at dksX7_leastRagged_7 9 rfl rfl)
theorem dX7_leastRagged_172 : decode cX7_leastRagged 172 = .ok (.invokevirtual 191, 3) := dk_182 0 191 (dk_at dksX7_leastRagged_7 10 rfl rfl)
theorem dX7_leastRagged_175 : decode cX7_leastRagged 175 = .ok (.ireturn, 1) := dk_172 (dk_at dksX7_leastRagged_7 13 rfl rfl)
abbrev cX7_wasted : ByteArray := prog_17_method_97_code
def yX7_wasted : MethodName := ⟨RX7, "wasted", "(I)I"⟩
def dkwX7_wasted_1 : List UInt8 := [182, 0, 191, 167, 0, 9, 42, 16, 6, 182, 0, 188, 172]
abbrev dktX7_wasted_1 : List UInt8 := dkwX7_wasted_1 ++ []
def dkwX7_wasted_0 : List UInt8 := [42, 27, 182, 1, 77, 153, 0, 23, 42, 42, 180, 0, 7, 7, 46, 42, 180, 0, 47, 27, 46, 100]
abbrev dktX7_wasted_0 : List UInt8 := dkwX7_wasted_0 ++ dktX7_wasted_1
theorem dksX7_wasted_0 : cX7_wasted.data.toList.drop 0 = dktX7_wasted_0 := by decide +kernel
theorem dksX7_wasted_1 : cX7_wasted.data.toList.drop 22 = dktX7_wasted_1 := dk_seg dksX7_wasted_0 22 rfl rfl
theorem dX7_wasted_0 : decode cX7_wasted 0 = .ok (.aload_n 0, 1) := dk_42 (dk_at dksX7_wasted_0 0 rfl rfl)
theorem dX7_wasted_1 : decode cX7_wasted 1 = .ok (.iload_n 1, 1) := dk_27 (dk_at dksX7_wasted_0 1 rfl rfl)
theorem dX7_wasted_2 : decode cX7_wasted 2 = .ok (.invokevirtual 333, 3) := dk_182 1 77 (dk_at dksX7_wasted_0 2 rfl rfl)
theorem dX7_wasted_5 : decode cX7_wasted 5 = .ok (.ifCond .eq 23, 3) := dk_153 0 23 (dk_at dksX7_wasted_0 5 rfl rfl)
theorem dX7_wasted_8 : decode cX7_wasted 8 = .ok (.aload_n 0, 1) := dk_42 (dk_at dksX7_wasted_0 8 rfl rfl)
theorem dX7_wasted_9 : decode cX7_wasted 9 = .ok (.aload_n 0, 1) := dk_42 (dk_at dksX7_wasted_0 9 rfl rfl)
theorem dX7_wasted_10 : decode cX7_wasted 10 = .ok (.getfield 7, 3) := dk_180 0 7 (dk_at dksX7_wasted_0 10 rfl rfl)
theorem dX7_wasted_13 : decode cX7_wasted 13 = .ok (.iconst 4, 1) := dk_7 (dk_at dksX7_wasted_0 13 rfl rfl)
theorem dX7_wasted_14 : decode cX7_wasted 14 = .ok (.iaload, 1) := dk_46 (dk_at dksX7_wasted_0 14 rfl rfl)
theorem dX7_wasted_15 : decode cX7_wasted 15 = .ok (.aload_n 0, 1) := dk_42 (dk_at dksX7_wasted_0 15 rfl rfl)
theorem dX7_wasted_16 : decode cX7_wasted 16 = .ok (.getfield 47, 3) := dk_180 0 47 (dk_at dksX7_wasted_0 16 rfl rfl)
theorem dX7_wasted_19 : decode cX7_wasted 19 = .ok (.iload_n 1, 1) := dk_27 (dk_at dksX7_wasted_0 19 rfl rfl)
theorem dX7_wasted_20 : decode cX7_wasted 20 = .ok (.iaload, 1) := dk_46 (dk_at dksX7_wasted_0 20 rfl rfl)
theorem dX7_wasted_21 : decode cX7_wasted 21 = .ok (.isub, 1) := dk_100 (dk_at dksX7_wasted_0 21 rfl rfl)
theorem dX7_wasted_22 : decode cX7_wasted 22 = .ok (.invokevirtual 191, 3) := dk_182 0 191 (dk_at dksX7_wasted_1 0 rfl rfl)
theorem dX7_wasted_25 : decode cX7_wasted 25 = .ok (.goto 9, 3) := dk_167 0 9 (dk_at dksX7_wasted_1 3 rfl rfl)
theorem dX7_wasted_28 : decode cX7_wasted 28 = .ok (.aload_n 0, 1) := dk_42 (dk_at dksX7_wasted_1 6 rfl rfl)
theorem dX7_wasted_29 : decode cX7_wasted 29 = .ok (.bipush 6, 2) := dk_16 6 (dk_at dksX7_wasted_1 7 rfl rfl)
theorem dX7_wasted_31 : decode cX7_wasted 31 = .ok (.invokevirtual 188, 3) := dk_182 0 188 (dk_at dksX7_wasted_1 9 rfl rfl)
theorem dX7_wasted_34 : decode cX7_wasted 34 = .ok (.ireturn, 1) := dk_172 (dk_at dksX7_wasted_1 12 rfl rfl)
abbrev cX7_frequent : ByteArray := prog_17_method_98_code
def yX7_frequent : MethodName := ⟨RX7, "frequent", "()I"⟩
def dkwX7_frequent_5 : List UInt8 := [2, 160, 0, 12, 42, 16, 6, 182, 0, 188, 167, 0, 8, 42, 27, 182, 0, 191, 172]
abbrev dktX7_frequent_5 : List UInt8 := dkwX7_frequent_5 ++ []
def dkwX7_frequent_4 : List UInt8 := [167, 255, 196, 21, 4, 28, 163, 0, 6, 167, 0, 8, 21, 4, 61, 29, 60, 132, 3, 1, 167, 255, 164, 27]
abbrev dktX7_frequent_4 : List UInt8 := dkwX7_frequent_4 ++ dktX7_frequent_5
def dkwX7_frequent_3 : List UInt8 := [21, 5, 96, 46, 184, 0, 242, 29, 160, 0, 7, 4, 167, 0, 4, 3, 96, 54, 4, 132, 5, 1]
abbrev dktX7_frequent_3 : List UInt8 := dkwX7_frequent_3 ++ dktX7_frequent_4
def dkwX7_frequent_2 : List UInt8 := [180, 0, 7, 17, 1, 44, 21, 5, 96, 46, 184, 1, 4, 153, 0, 25, 42, 180, 0, 7, 17, 1, 44]
abbrev dktX7_frequent_2 : List UInt8 := dkwX7_frequent_2 ++ dktX7_frequent_3
def dkwX7_frequent_1 : List UInt8 := [163, 0, 92, 3, 54, 4, 3, 54, 5, 21, 5, 42, 180, 0, 7, 16, 7, 46, 162, 0, 54, 21, 4, 42]
abbrev dktX7_frequent_1 : List UInt8 := dkwX7_frequent_1 ++ dktX7_frequent_2
def dkwX7_frequent_0 : List UInt8 := [42, 182, 1, 50, 154, 0, 10, 42, 16, 6, 182, 0, 188, 172, 2, 60, 3, 61, 4, 62, 29, 16, 26]
abbrev dktX7_frequent_0 : List UInt8 := dkwX7_frequent_0 ++ dktX7_frequent_1
theorem dksX7_frequent_0 : cX7_frequent.data.toList.drop 0 = dktX7_frequent_0 := by decide +kernel
theorem dksX7_frequent_1 : cX7_frequent.data.toList.drop 23 = dktX7_frequent_1 := dk_seg dksX7_frequent_0 23 rfl rfl
theorem dksX7_frequent_2 : cX7_frequent.data.toList.drop 47 = dktX7_frequent_2 := dk_seg dksX7_frequent_1 24 rfl rfl
theorem dksX7_frequent_3 : cX7_frequent.data.toList.drop 70 = dktX7_frequent_3 := dk_seg dksX7_frequent_2 23 rfl rfl
theorem dksX7_frequent_4 : cX7_frequent.data.toList.drop 92 = dktX7_frequent_4 := dk_seg dksX7_frequent_3 22 rfl rfl
theorem dksX7_frequent_5 : cX7_frequent.data.toList.drop 116 = dktX7_frequent_5 := dk_seg dksX7_frequent_4 24 rfl rfl
theorem dX7_frequent_0 : decode cX7_frequent 0 = .ok (.aload_n 0, 1) := dk_42 (dk_at dksX7_frequent_0 0 rfl rfl)
theorem dX7_frequent_1 : decode cX7_frequent 1 = .ok (.invokevirtual 306, 3) := dk_182 1 50 (dk_at dksX7_frequent_0 1 rfl rfl)
theorem dX7_frequent_4 : decode cX7_frequent 4 = .ok (.ifCond .ne 10, 3) := dk_154 0 10 (dk_at dksX7_frequent_0 4 rfl rfl)
theorem dX7_frequent_7 : decode cX7_frequent 7 = .ok (.aload_n 0, 1) := dk_42 (dk_at dksX7_frequent_0 7 rfl rfl)
theorem dX7_frequent_8 : decode cX7_frequent 8 = .ok (.bipush 6, 2) := dk_16 6 (dk_at dksX7_frequent_0 8 rfl rfl)
theorem dX7_frequent_10 : decode cX7_frequent 10 = .ok (.invokevirtual 188, 3) := dk_182 0 188 (dk_at dksX7_frequent_0 10 rfl rfl)
theorem dX7_frequent_13 : decode cX7_frequent 13 = .ok (.ireturn, 1) := dk_172 (dk_at dksX7_frequent_0 13 rfl rfl)
theorem dX7_frequent_14 : decode cX7_frequent 14 = .ok (.iconst (-1), 1) := dk_2 (dk_at dksX7_frequent_0 14 rfl rfl)
theorem dX7_frequent_15 : decode cX7_frequent 15 = .ok (.istore_n 1, 1) := dk_60 (dk_at dksX7_frequent_0 15 rfl rfl)
theorem dX7_frequent_16 : decode cX7_frequent 16 = .ok (.iconst 0, 1) := dk_3 (dk_at dksX7_frequent_0 16 rfl rfl)
theorem dX7_frequent_17 : decode cX7_frequent 17 = .ok (.istore_n 2, 1) := dk_61 (dk_at dksX7_frequent_0 17 rfl rfl)
theorem dX7_frequent_18 : decode cX7_frequent 18 = .ok (.iconst 1, 1) := dk_4 (dk_at dksX7_frequent_0 18 rfl rfl)
theorem dX7_frequent_19 : decode cX7_frequent 19 = .ok (.istore_n 3, 1) := dk_62 (dk_at dksX7_frequent_0 19 rfl rfl)
theorem dX7_frequent_20 : decode cX7_frequent 20 = .ok (.iload_n 3, 1) := dk_29 (dk_at dksX7_frequent_0 20 rfl rfl)
theorem dX7_frequent_21 : decode cX7_frequent 21 = .ok (.bipush 26, 2) := dk_16 26 (dk_at dksX7_frequent_0 21 rfl rfl)
theorem dX7_frequent_23 : decode cX7_frequent 23 = .ok (.if_icmp .gt 92, 3) := dk_163 0 92 (dk_at dksX7_frequent_1 0 rfl rfl)
theorem dX7_frequent_26 : decode cX7_frequent 26 = .ok (.iconst 0, 1) := dk_3 (dk_at dksX7_frequent_1 3 rfl rfl)
theorem dX7_frequent_27 : decode cX7_frequent 27 = .ok (.istore 4, 2) := dk_54 4 (dk_at dksX7_frequent_1 4 rfl rfl)
theorem dX7_frequent_29 : decode cX7_frequent 29 = .ok (.iconst 0, 1) := dk_3 (dk_at dksX7_frequent_1 6 rfl rfl)
theorem dX7_frequent_30 : decode cX7_frequent 30 = .ok (.istore 5, 2) := dk_54 5 (dk_at dksX7_frequent_1 7 rfl rfl)
theorem dX7_frequent_32 : decode cX7_frequent 32 = .ok (.iload 5, 2) := dk_21 5 (dk_at dksX7_frequent_1 9 rfl rfl)
theorem dX7_frequent_34 : decode cX7_frequent 34 = .ok (.aload_n 0, 1) := dk_42 (dk_at dksX7_frequent_1 11 rfl rfl)
theorem dX7_frequent_35 : decode cX7_frequent 35 = .ok (.getfield 7, 3) := dk_180 0 7 (dk_at dksX7_frequent_1 12 rfl rfl)
theorem dX7_frequent_38 : decode cX7_frequent 38 = .ok (.bipush 7, 2) := dk_16 7 (dk_at dksX7_frequent_1 15 rfl rfl)
theorem dX7_frequent_40 : decode cX7_frequent 40 = .ok (.iaload, 1) := dk_46 (dk_at dksX7_frequent_1 17 rfl rfl)
theorem dX7_frequent_41 : decode cX7_frequent 41 = .ok (.if_icmp .ge 54, 3) := dk_162 0 54 (dk_at dksX7_frequent_1 18 rfl rfl)
theorem dX7_frequent_44 : decode cX7_frequent 44 = .ok (.iload 4, 2) := dk_21 4 (dk_at dksX7_frequent_1 21 rfl rfl)
theorem dX7_frequent_46 : decode cX7_frequent 46 = .ok (.aload_n 0, 1) := dk_42 (dk_at dksX7_frequent_1 23 rfl rfl)
theorem dX7_frequent_47 : decode cX7_frequent 47 = .ok (.getfield 7, 3) := dk_180 0 7 (dk_at dksX7_frequent_2 0 rfl rfl)
theorem dX7_frequent_50 : decode cX7_frequent 50 = .ok (.sipush 300, 3) := dk_17 1 44 (dk_at dksX7_frequent_2 3 rfl rfl)
theorem dX7_frequent_53 : decode cX7_frequent 53 = .ok (.iload 5, 2) := dk_21 5 (dk_at dksX7_frequent_2 6 rfl rfl)
theorem dX7_frequent_55 : decode cX7_frequent 55 = .ok (.iadd, 1) := dk_96 (dk_at dksX7_frequent_2 8 rfl rfl)
theorem dX7_frequent_56 : decode cX7_frequent 56 = .ok (.iaload, 1) := dk_46 (dk_at dksX7_frequent_2 9 rfl rfl)
theorem dX7_frequent_57 : decode cX7_frequent 57 = .ok (.invokestatic 260, 3) := dk_184 1 4 (dk_at dksX7_frequent_2 10 rfl rfl)
theorem dX7_frequent_60 : decode cX7_frequent 60 = .ok (.ifCond .eq 25, 3) := dk_153 0 25 (dk_at dksX7_frequent_2 13 rfl rfl)
theorem dX7_frequent_63 : decode cX7_frequent 63 = .ok (.aload_n 0, 1) := dk_42 (dk_at dksX7_frequent_2 16 rfl rfl)
theorem dX7_frequent_64 : decode cX7_frequent 64 = .ok (.getfield 7, 3) := dk_180 0 7 (dk_at dksX7_frequent_2 17 rfl rfl)
theorem dX7_frequent_67 : decode cX7_frequent 67 = .ok (.sipush 300, 3) := dk_17 1 44 (dk_at dksX7_frequent_2 20 rfl rfl)
theorem dX7_frequent_70 : decode cX7_frequent 70 = .ok (.iload 5, 2) := dk_21 5 (dk_at dksX7_frequent_3 0 rfl rfl)
theorem dX7_frequent_72 : decode cX7_frequent 72 = .ok (.iadd, 1) := dk_96 (dk_at dksX7_frequent_3 2 rfl rfl)
theorem dX7_frequent_73 : decode cX7_frequent 73 = .ok (.iaload, 1) := dk_46 (dk_at dksX7_frequent_3 3 rfl rfl)
theorem dX7_frequent_74 : decode cX7_frequent 74 = .ok (.invokestatic 242, 3) := dk_184 0 242 (dk_at dksX7_frequent_3 4 rfl rfl)
theorem dX7_frequent_77 : decode cX7_frequent 77 = .ok (.iload_n 3, 1) := dk_29 (dk_at dksX7_frequent_3 7 rfl rfl)
theorem dX7_frequent_78 : decode cX7_frequent 78 = .ok (.if_icmp .ne 7, 3) := dk_160 0 7 (dk_at dksX7_frequent_3 8 rfl rfl)
theorem dX7_frequent_81 : decode cX7_frequent 81 = .ok (.iconst 1, 1) := dk_4 (dk_at dksX7_frequent_3 11 rfl rfl)
theorem dX7_frequent_82 : decode cX7_frequent 82 = .ok (.goto 4, 3) := dk_167 0 4 (dk_at dksX7_frequent_3 12 rfl rfl)
theorem dX7_frequent_85 : decode cX7_frequent 85 = .ok (.iconst 0, 1) := dk_3 (dk_at dksX7_frequent_3 15 rfl rfl)
theorem dX7_frequent_86 : decode cX7_frequent 86 = .ok (.iadd, 1) := dk_96 (dk_at dksX7_frequent_3 16 rfl rfl)
theorem dX7_frequent_87 : decode cX7_frequent 87 = .ok (.istore 4, 2) := dk_54 4 (dk_at dksX7_frequent_3 17 rfl rfl)
theorem dX7_frequent_89 : decode cX7_frequent 89 = .ok (.iinc 5 1, 3) := dk_132 5 1 (dk_at dksX7_frequent_3 19 rfl rfl)
theorem dX7_frequent_92 : decode cX7_frequent 92 = .ok (.goto (-60), 3) := dk_167 255 196 (dk_at dksX7_frequent_4 0 rfl rfl)
theorem dX7_frequent_95 : decode cX7_frequent 95 = .ok (.iload 4, 2) := dk_21 4 (dk_at dksX7_frequent_4 3 rfl rfl)
theorem dX7_frequent_97 : decode cX7_frequent 97 = .ok (.iload_n 2, 1) := dk_28 (dk_at dksX7_frequent_4 5 rfl rfl)
theorem dX7_frequent_98 : decode cX7_frequent 98 = .ok (.if_icmp .gt 6, 3) := dk_163 0 6 (dk_at dksX7_frequent_4 6 rfl rfl)
theorem dX7_frequent_101 : decode cX7_frequent 101 = .ok (.goto 8, 3) := dk_167 0 8 (dk_at dksX7_frequent_4 9 rfl rfl)
theorem dX7_frequent_104 : decode cX7_frequent 104 = .ok (.iload 4, 2) := dk_21 4 (dk_at dksX7_frequent_4 12 rfl rfl)
theorem dX7_frequent_106 : decode cX7_frequent 106 = .ok (.istore_n 2, 1) := dk_61 (dk_at dksX7_frequent_4 14 rfl rfl)
theorem dX7_frequent_107 : decode cX7_frequent 107 = .ok (.iload_n 3, 1) := dk_29 (dk_at dksX7_frequent_4 15 rfl rfl)
theorem dX7_frequent_108 : decode cX7_frequent 108 = .ok (.istore_n 1, 1) := dk_60 (dk_at dksX7_frequent_4 16 rfl rfl)
theorem dX7_frequent_109 : decode cX7_frequent 109 = .ok (.iinc 3 1, 3) := dk_132 3 1 (dk_at dksX7_frequent_4 17 rfl rfl)
theorem dX7_frequent_112 : decode cX7_frequent 112 = .ok (.goto (-92), 3) := dk_167 255 164 (dk_at dksX7_frequent_4 20 rfl rfl)
theorem dX7_frequent_115 : decode cX7_frequent 115 = .ok (.iload_n 1, 1) := dk_27 (dk_at dksX7_frequent_4 23 rfl rfl)
theorem dX7_frequent_116 : decode cX7_frequent 116 = .ok (.iconst (-1), 1) := dk_2 (dk_at dksX7_frequent_5 0 rfl rfl)
theorem dX7_frequent_117 : decode cX7_frequent 117 = .ok (.if_icmp .ne 12, 3) := dk_160 0 12 (dk_at dksX7_frequent_5 1 rfl rfl)
theorem dX7_frequent_120 : decode cX7_frequent 120 = .ok (.aload_n 0, 1) := dk_42 (dk_at dksX7_frequent_5 4 rfl rfl)
theorem dX7_frequent_121 : decode cX7_frequent 121 = .ok (.bipush 6, 2) := dk_16 6 (dk_at dksX7_frequent_5 5 rfl rfl)
theorem dX7_frequent_123 : decode cX7_frequent 123 = .ok (.invokevirtual 188, 3) := dk_182 0 188 (dk_at dksX7_frequent_5 7 rfl rfl)
theorem dX7_frequent_126 : decode cX7_frequent 126 = .ok (.goto 8, 3) := dk_167 0 8 (dk_at dksX7_frequent_5 10 rfl rfl)
theorem dX7_frequent_129 : decode cX7_frequent 129 = .ok (.aload_n 0, 1) := dk_42 (dk_at dksX7_frequent_5 13 rfl rfl)
theorem dX7_frequent_130 : decode cX7_frequent 130 = .ok (.iload_n 1, 1) := dk_27 (dk_at dksX7_frequent_5 14 rfl rfl)
theorem dX7_frequent_131 : decode cX7_frequent 131 = .ok (.invokevirtual 191, 3) := dk_182 0 191 (dk_at dksX7_frequent_5 15 rfl rfl)
theorem dX7_frequent_134 : decode cX7_frequent 134 = .ok (.ireturn, 1) := dk_172 (dk_at dksX7_frequent_5 18 rfl rfl)
abbrev cX7_signs : ByteArray := prog_17_method_99_code
def yX7_signs : MethodName := ⟨RX7, "signs", "(I)I"⟩
def dkwX7_signs_5 : List UInt8 := [4, 167, 0, 4, 3, 96, 61, 132, 3, 1, 167, 255, 163, 42, 28, 182, 0, 191, 172]
abbrev dktX7_signs_5 : List UInt8 := dkwX7_signs_5 ++ []
def dkwX7_signs_4 : List UInt8 := [184, 0, 236, 154, 0, 21, 27, 4, 160, 0, 20, 21, 4, 184, 1, 20, 153, 0, 12, 21, 5, 153, 0, 7]
abbrev dktX7_signs_4 : List UInt8 := dkwX7_signs_4 ++ dktX7_signs_5
def dkwX7_signs_3 : List UInt8 := [4, 100, 46, 184, 1, 20, 154, 0, 7, 4, 167, 0, 4, 3, 54, 5, 28, 27, 154, 0, 11, 21, 4]
abbrev dktX7_signs_3 : List UInt8 := dkwX7_signs_3 ++ dktX7_signs_4
def dkwX7_signs_2 : List UInt8 := [180, 0, 7, 17, 1, 44, 29, 96, 46, 54, 4, 29, 153, 0, 21, 42, 180, 0, 7, 17, 1, 44, 29, 96]
abbrev dktX7_signs_2 : List UInt8 := dkwX7_signs_2 ++ dktX7_signs_3
def dkwX7_signs_1 : List UInt8 := [16, 6, 182, 0, 188, 172, 3, 61, 3, 62, 29, 42, 180, 0, 7, 16, 7, 46, 162, 0, 88, 42]
abbrev dktX7_signs_1 : List UInt8 := dkwX7_signs_1 ++ dktX7_signs_2
def dkwX7_signs_0 : List UInt8 := [27, 155, 0, 8, 27, 4, 164, 0, 9, 42, 4, 182, 0, 188, 172, 42, 182, 1, 50, 154, 0, 10, 42]
abbrev dktX7_signs_0 : List UInt8 := dkwX7_signs_0 ++ dktX7_signs_1
theorem dksX7_signs_0 : cX7_signs.data.toList.drop 0 = dktX7_signs_0 := by decide +kernel
theorem dksX7_signs_1 : cX7_signs.data.toList.drop 23 = dktX7_signs_1 := dk_seg dksX7_signs_0 23 rfl rfl
theorem dksX7_signs_2 : cX7_signs.data.toList.drop 45 = dktX7_signs_2 := dk_seg dksX7_signs_1 22 rfl rfl
theorem dksX7_signs_3 : cX7_signs.data.toList.drop 69 = dktX7_signs_3 := dk_seg dksX7_signs_2 24 rfl rfl
theorem dksX7_signs_4 : cX7_signs.data.toList.drop 92 = dktX7_signs_4 := dk_seg dksX7_signs_3 23 rfl rfl
theorem dksX7_signs_5 : cX7_signs.data.toList.drop 116 = dktX7_signs_5 := dk_seg dksX7_signs_4 24 rfl rfl
theorem dX7_signs_0 : decode cX7_signs 0 = .ok (.iload_n 1, 1) := dk_27 (dk_at dksX7_signs_0 0 rfl rfl)
theorem dX7_signs_1 : decode cX7_signs 1 = .ok (.ifCond .lt 8, 3) := dk_155 0 8 (dk_at dksX7_signs_0 1 rfl rfl)
theorem dX7_signs_4 : decode cX7_signs 4 = .ok (.iload_n 1, 1) := dk_27 (dk_at dksX7_signs_0 4 rfl rfl)
theorem dX7_signs_5 : decode cX7_signs 5 = .ok (.iconst 1, 1) := dk_4 (dk_at dksX7_signs_0 5 rfl rfl)
theorem dX7_signs_6 : decode cX7_signs 6 = .ok (.if_icmp .le 9, 3) := dk_164 0 9 (dk_at dksX7_signs_0 6 rfl rfl)
theorem dX7_signs_9 : decode cX7_signs 9 = .ok (.aload_n 0, 1) := dk_42 (dk_at dksX7_signs_0 9 rfl rfl)
theorem dX7_signs_10 : decode cX7_signs 10 = .ok (.iconst 1, 1) := dk_4 (dk_at dksX7_signs_0 10 rfl rfl)
theorem dX7_signs_11 : decode cX7_signs 11 = .ok (.invokevirtual 188, 3) := dk_182 0 188 (dk_at dksX7_signs_0 11 rfl rfl)
theorem dX7_signs_14 : decode cX7_signs 14 = .ok (.ireturn, 1) := dk_172 (dk_at dksX7_signs_0 14 rfl rfl)
theorem dX7_signs_15 : decode cX7_signs 15 = .ok (.aload_n 0, 1) := dk_42 (dk_at dksX7_signs_0 15 rfl rfl)
theorem dX7_signs_16 : decode cX7_signs 16 = .ok (.invokevirtual 306, 3) := dk_182 1 50 (dk_at dksX7_signs_0 16 rfl rfl)
theorem dX7_signs_19 : decode cX7_signs 19 = .ok (.ifCond .ne 10, 3) := dk_154 0 10 (dk_at dksX7_signs_0 19 rfl rfl)
theorem dX7_signs_22 : decode cX7_signs 22 = .ok (.aload_n 0, 1) := dk_42 (dk_at dksX7_signs_0 22 rfl rfl)
theorem dX7_signs_23 : decode cX7_signs 23 = .ok (.bipush 6, 2) := dk_16 6 (dk_at dksX7_signs_1 0 rfl rfl)
theorem dX7_signs_25 : decode cX7_signs 25 = .ok (.invokevirtual 188, 3) := dk_182 0 188 (dk_at dksX7_signs_1 2 rfl rfl)
theorem dX7_signs_28 : decode cX7_signs 28 = .ok (.ireturn, 1) := dk_172 (dk_at dksX7_signs_1 5 rfl rfl)
theorem dX7_signs_29 : decode cX7_signs 29 = .ok (.iconst 0, 1) := dk_3 (dk_at dksX7_signs_1 6 rfl rfl)
theorem dX7_signs_30 : decode cX7_signs 30 = .ok (.istore_n 2, 1) := dk_61 (dk_at dksX7_signs_1 7 rfl rfl)
theorem dX7_signs_31 : decode cX7_signs 31 = .ok (.iconst 0, 1) := dk_3 (dk_at dksX7_signs_1 8 rfl rfl)
theorem dX7_signs_32 : decode cX7_signs 32 = .ok (.istore_n 3, 1) := dk_62 (dk_at dksX7_signs_1 9 rfl rfl)
theorem dX7_signs_33 : decode cX7_signs 33 = .ok (.iload_n 3, 1) := dk_29 (dk_at dksX7_signs_1 10 rfl rfl)
theorem dX7_signs_34 : decode cX7_signs 34 = .ok (.aload_n 0, 1) := dk_42 (dk_at dksX7_signs_1 11 rfl rfl)
theorem dX7_signs_35 : decode cX7_signs 35 = .ok (.getfield 7, 3) := dk_180 0 7 (dk_at dksX7_signs_1 12 rfl rfl)
theorem dX7_signs_38 : decode cX7_signs 38 = .ok (.bipush 7, 2) := dk_16 7 (dk_at dksX7_signs_1 15 rfl rfl)
theorem dX7_signs_40 : decode cX7_signs 40 = .ok (.iaload, 1) := dk_46 (dk_at dksX7_signs_1 17 rfl rfl)
theorem dX7_signs_41 : decode cX7_signs 41 = .ok (.if_icmp .ge 88, 3) := dk_162 0 88 (dk_at dksX7_signs_1 18 rfl rfl)
theorem dX7_signs_44 : decode cX7_signs 44 = .ok (.aload_n 0, 1) := dk_42 (dk_at dksX7_signs_1 21 rfl rfl)
theorem dX7_signs_45 : decode cX7_signs 45 = .ok (.getfield 7, 3) := dk_180 0 7 (dk_at dksX7_signs_2 0 rfl rfl)
theorem dX7_signs_48 : decode cX7_signs 48 = .ok (.sipush 300, 3) := dk_17 1 44 (dk_at dksX7_signs_2 3 rfl rfl)
theorem dX7_signs_51 : decode cX7_signs 51 = .ok (.iload_n 3, 1) := dk_29 (dk_at dksX7_signs_2 6 rfl rfl)
theorem dX7_signs_52 : decode cX7_signs 52 = .ok (.iadd, 1) := dk_96 (dk_at dksX7_signs_2 7 rfl rfl)
theorem dX7_signs_53 : decode cX7_signs 53 = .ok (.iaload, 1) := dk_46 (dk_at dksX7_signs_2 8 rfl rfl)
theorem dX7_signs_54 : decode cX7_signs 54 = .ok (.istore 4, 2) := dk_54 4 (dk_at dksX7_signs_2 9 rfl rfl)
theorem dX7_signs_56 : decode cX7_signs 56 = .ok (.iload_n 3, 1) := dk_29 (dk_at dksX7_signs_2 11 rfl rfl)
theorem dX7_signs_57 : decode cX7_signs 57 = .ok (.ifCond .eq 21, 3) := dk_153 0 21 (dk_at dksX7_signs_2 12 rfl rfl)
theorem dX7_signs_60 : decode cX7_signs 60 = .ok (.aload_n 0, 1) := dk_42 (dk_at dksX7_signs_2 15 rfl rfl)
theorem dX7_signs_61 : decode cX7_signs 61 = .ok (.getfield 7, 3) := dk_180 0 7 (dk_at dksX7_signs_2 16 rfl rfl)
theorem dX7_signs_64 : decode cX7_signs 64 = .ok (.sipush 300, 3) := dk_17 1 44 (dk_at dksX7_signs_2 19 rfl rfl)
theorem dX7_signs_67 : decode cX7_signs 67 = .ok (.iload_n 3, 1) := dk_29 (dk_at dksX7_signs_2 22 rfl rfl)
theorem dX7_signs_68 : decode cX7_signs 68 = .ok (.iadd, 1) := dk_96 (dk_at dksX7_signs_2 23 rfl rfl)
theorem dX7_signs_69 : decode cX7_signs 69 = .ok (.iconst 1, 1) := dk_4 (dk_at dksX7_signs_3 0 rfl rfl)
theorem dX7_signs_70 : decode cX7_signs 70 = .ok (.isub, 1) := dk_100 (dk_at dksX7_signs_3 1 rfl rfl)
theorem dX7_signs_71 : decode cX7_signs 71 = .ok (.iaload, 1) := dk_46 (dk_at dksX7_signs_3 2 rfl rfl)
theorem dX7_signs_72 : decode cX7_signs 72 = .ok (.invokestatic 276, 3) := dk_184 1 20 (dk_at dksX7_signs_3 3 rfl rfl)
theorem dX7_signs_75 : decode cX7_signs 75 = .ok (.ifCond .ne 7, 3) := dk_154 0 7 (dk_at dksX7_signs_3 6 rfl rfl)
theorem dX7_signs_78 : decode cX7_signs 78 = .ok (.iconst 1, 1) := dk_4 (dk_at dksX7_signs_3 9 rfl rfl)
theorem dX7_signs_79 : decode cX7_signs 79 = .ok (.goto 4, 3) := dk_167 0 4 (dk_at dksX7_signs_3 10 rfl rfl)
theorem dX7_signs_82 : decode cX7_signs 82 = .ok (.iconst 0, 1) := dk_3 (dk_at dksX7_signs_3 13 rfl rfl)
theorem dX7_signs_83 : decode cX7_signs 83 = .ok (.istore 5, 2) := dk_54 5 (dk_at dksX7_signs_3 14 rfl rfl)
theorem dX7_signs_85 : decode cX7_signs 85 = .ok (.iload_n 2, 1) := dk_28 (dk_at dksX7_signs_3 16 rfl rfl)
theorem dX7_signs_86 : decode cX7_signs 86 = .ok (.iload_n 1, 1) := dk_27 (dk_at dksX7_signs_3 17 rfl rfl)
theorem dX7_signs_87 : decode cX7_signs 87 = .ok (.ifCond .ne 11, 3) := dk_154 0 11 (dk_at dksX7_signs_3 18 rfl rfl)
theorem dX7_signs_90 : decode cX7_signs 90 = .ok (.iload 4, 2) := dk_21 4 (dk_at dksX7_signs_3 21 rfl rfl)
theorem dX7_signs_92 : decode cX7_signs 92 = .ok (.invokestatic 236, 3) := dk_184 0 236 (dk_at dksX7_signs_4 0 rfl rfl)
theorem dX7_signs_95 : decode cX7_signs 95 = .ok (.ifCond .ne 21, 3) := dk_154 0 21 (dk_at dksX7_signs_4 3 rfl rfl)
theorem dX7_signs_98 : decode cX7_signs 98 = .ok (.iload_n 1, 1) := dk_27 (dk_at dksX7_signs_4 6 rfl rfl)
theorem dX7_signs_99 : decode cX7_signs 99 = .ok (.iconst 1, 1) := dk_4 (dk_at dksX7_signs_4 7 rfl rfl)
theorem dX7_signs_100 : decode cX7_signs 100 = .ok (.if_icmp .ne 20, 3) := dk_160 0 20 (dk_at dksX7_signs_4 8 rfl rfl)
theorem dX7_signs_103 : decode cX7_signs 103 = .ok (.iload 4, 2) := dk_21 4 (dk_at dksX7_signs_4 11 rfl rfl)
theorem dX7_signs_105 : decode cX7_signs 105 = .ok (.invokestatic 276, 3) := dk_184 1 20 (dk_at dksX7_signs_4 13 rfl rfl)
theorem dX7_signs_108 : decode cX7_signs 108 = .ok (.ifCond .eq 12, 3) := dk_153 0 12 (dk_at dksX7_signs_4 16 rfl rfl)
theorem dX7_signs_111 : decode cX7_signs 111 = .ok (.iload 5, 2) := dk_21 5 (dk_at dksX7_signs_4 19 rfl rfl)
theorem dX7_signs_113 : decode cX7_signs 113 = .ok (.ifCond .eq 7, 3) := dk_153 0 7 (dk_at dksX7_signs_4 21 rfl rfl)
theorem dX7_signs_116 : decode cX7_signs 116 = .ok (.iconst 1, 1) := dk_4 (dk_at dksX7_signs_5 0 rfl rfl)
theorem dX7_signs_117 : decode cX7_signs 117 = .ok (.goto 4, 3) := dk_167 0 4 (dk_at dksX7_signs_5 1 rfl rfl)
theorem dX7_signs_120 : decode cX7_signs 120 = .ok (.iconst 0, 1) := dk_3 (dk_at dksX7_signs_5 4 rfl rfl)
theorem dX7_signs_121 : decode cX7_signs 121 = .ok (.iadd, 1) := dk_96 (dk_at dksX7_signs_5 5 rfl rfl)
theorem dX7_signs_122 : decode cX7_signs 122 = .ok (.istore_n 2, 1) := dk_61 (dk_at dksX7_signs_5 6 rfl rfl)
theorem dX7_signs_123 : decode cX7_signs 123 = .ok (.iinc 3 1, 3) := dk_132 3 1 (dk_at dksX7_signs_5 7 rfl rfl)
theorem dX7_signs_126 : decode cX7_signs 126 = .ok (.goto (-93), 3) := dk_167 255 163 (dk_at dksX7_signs_5 10 rfl rfl)
theorem dX7_signs_129 : decode cX7_signs 129 = .ok (.aload_n 0, 1) := dk_42 (dk_at dksX7_signs_5 13 rfl rfl)
theorem dX7_signs_130 : decode cX7_signs 130 = .ok (.iload_n 2, 1) := dk_28 (dk_at dksX7_signs_5 14 rfl rfl)
theorem dX7_signs_131 : decode cX7_signs 131 = .ok (.invokevirtual 191, 3) := dk_182 0 191 (dk_at dksX7_signs_5 15 rfl rfl)
theorem dX7_signs_134 : decode cX7_signs 134 = .ok (.ireturn, 1) := dk_172 (dk_at dksX7_signs_5 18 rfl rfl)
abbrev cX7_pieceOf : ByteArray := prog_17_method_100_code
def yX7_pieceOf : MethodName := ⟨RX7, "pieceOf", "(I)I"⟩
def dkwX7_pieceOf_4 : List UInt8 := [182, 0, 188, 172]
abbrev dktX7_pieceOf_4 : List UInt8 := dkwX7_pieceOf_4 ++ []
def dkwX7_pieceOf_3 : List UInt8 := [182, 1, 65, 96, 162, 0, 9, 42, 28, 182, 0, 191, 172, 132, 2, 1, 167, 255, 202, 42, 16, 6]
abbrev dktX7_pieceOf_3 : List UInt8 := dkwX7_pieceOf_3 ++ dktX7_pieceOf_4
def dkwX7_pieceOf_2 : List UInt8 := [17, 7, 58, 28, 96, 46, 161, 0, 29, 27, 42, 180, 0, 7, 17, 7, 58, 28, 96, 46, 42, 28]
abbrev dktX7_pieceOf_2 : List UInt8 := dkwX7_pieceOf_2 ++ dktX7_pieceOf_3
def dkwX7_pieceOf_1 : List UInt8 := [16, 6, 182, 0, 188, 172, 3, 61, 28, 42, 180, 0, 7, 16, 9, 46, 162, 0, 49, 27, 42, 180, 0, 7]
abbrev dktX7_pieceOf_1 : List UInt8 := dkwX7_pieceOf_1 ++ dktX7_pieceOf_2
def dkwX7_pieceOf_0 : List UInt8 := [42, 182, 1, 50, 153, 0, 18, 27, 155, 0, 14, 27, 42, 180, 0, 7, 16, 8, 46, 161, 0, 10, 42]
abbrev dktX7_pieceOf_0 : List UInt8 := dkwX7_pieceOf_0 ++ dktX7_pieceOf_1
theorem dksX7_pieceOf_0 : cX7_pieceOf.data.toList.drop 0 = dktX7_pieceOf_0 := by decide +kernel
theorem dksX7_pieceOf_1 : cX7_pieceOf.data.toList.drop 23 = dktX7_pieceOf_1 := dk_seg dksX7_pieceOf_0 23 rfl rfl
theorem dksX7_pieceOf_2 : cX7_pieceOf.data.toList.drop 47 = dktX7_pieceOf_2 := dk_seg dksX7_pieceOf_1 24 rfl rfl
theorem dksX7_pieceOf_3 : cX7_pieceOf.data.toList.drop 69 = dktX7_pieceOf_3 := dk_seg dksX7_pieceOf_2 22 rfl rfl
theorem dksX7_pieceOf_4 : cX7_pieceOf.data.toList.drop 91 = dktX7_pieceOf_4 := dk_seg dksX7_pieceOf_3 22 rfl rfl
theorem dX7_pieceOf_0 : decode cX7_pieceOf 0 = .ok (.aload_n 0, 1) := dk_42 (dk_at dksX7_pieceOf_0 0 rfl rfl)
theorem dX7_pieceOf_1 : decode cX7_pieceOf 1 = .ok (.invokevirtual 306, 3) := dk_182 1 50 (dk_at dksX7_pieceOf_0 1 rfl rfl)
theorem dX7_pieceOf_4 : decode cX7_pieceOf 4 = .ok (.ifCond .eq 18, 3) := dk_153 0 18 (dk_at dksX7_pieceOf_0 4 rfl rfl)
theorem dX7_pieceOf_7 : decode cX7_pieceOf 7 = .ok (.iload_n 1, 1) := dk_27 (dk_at dksX7_pieceOf_0 7 rfl rfl)
theorem dX7_pieceOf_8 : decode cX7_pieceOf 8 = .ok (.ifCond .lt 14, 3) := dk_155 0 14 (dk_at dksX7_pieceOf_0 8 rfl rfl)
theorem dX7_pieceOf_11 : decode cX7_pieceOf 11 = .ok (.iload_n 1, 1) := dk_27 (dk_at dksX7_pieceOf_0 11 rfl rfl)
theorem dX7_pieceOf_12 : decode cX7_pieceOf 12 = .ok (.aload_n 0, 1) := dk_42 (dk_at dksX7_pieceOf_0 12 rfl rfl)
theorem dX7_pieceOf_13 : decode cX7_pieceOf 13 = .ok (.getfield 7, 3) := dk_180 0 7 (dk_at dksX7_pieceOf_0 13 rfl rfl)
theorem dX7_pieceOf_16 : decode cX7_pieceOf 16 = .ok (.bipush 8, 2) := dk_16 8 (dk_at dksX7_pieceOf_0 16 rfl rfl)
theorem dX7_pieceOf_18 : decode cX7_pieceOf 18 = .ok (.iaload, 1) := dk_46 (dk_at dksX7_pieceOf_0 18 rfl rfl)
theorem dX7_pieceOf_19 : decode cX7_pieceOf 19 = .ok (.if_icmp .lt 10, 3) := dk_161 0 10 (dk_at dksX7_pieceOf_0 19 rfl rfl)
theorem dX7_pieceOf_22 : decode cX7_pieceOf 22 = .ok (.aload_n 0, 1) := dk_42 (dk_at dksX7_pieceOf_0 22 rfl rfl)
theorem dX7_pieceOf_23 : decode cX7_pieceOf 23 = .ok (.bipush 6, 2) := dk_16 6 (dk_at dksX7_pieceOf_1 0 rfl rfl)
theorem dX7_pieceOf_25 : decode cX7_pieceOf 25 = .ok (.invokevirtual 188, 3) := dk_182 0 188 (dk_at dksX7_pieceOf_1 2 rfl rfl)
theorem dX7_pieceOf_28 : decode cX7_pieceOf 28 = .ok (.ireturn, 1) := dk_172 (dk_at dksX7_pieceOf_1 5 rfl rfl)
theorem dX7_pieceOf_29 : decode cX7_pieceOf 29 = .ok (.iconst 0, 1) := dk_3 (dk_at dksX7_pieceOf_1 6 rfl rfl)
theorem dX7_pieceOf_30 : decode cX7_pieceOf 30 = .ok (.istore_n 2, 1) := dk_61 (dk_at dksX7_pieceOf_1 7 rfl rfl)
theorem dX7_pieceOf_31 : decode cX7_pieceOf 31 = .ok (.iload_n 2, 1) := dk_28 (dk_at dksX7_pieceOf_1 8 rfl rfl)
theorem dX7_pieceOf_32 : decode cX7_pieceOf 32 = .ok (.aload_n 0, 1) := dk_42 (dk_at dksX7_pieceOf_1 9 rfl rfl)
theorem dX7_pieceOf_33 : decode cX7_pieceOf 33 = .ok (.getfield 7, 3) := dk_180 0 7 (dk_at dksX7_pieceOf_1 10 rfl rfl)
theorem dX7_pieceOf_36 : decode cX7_pieceOf 36 = .ok (.bipush 9, 2) := dk_16 9 (dk_at dksX7_pieceOf_1 13 rfl rfl)
theorem dX7_pieceOf_38 : decode cX7_pieceOf 38 = .ok (.iaload, 1) := dk_46 (dk_at dksX7_pieceOf_1 15 rfl rfl)
theorem dX7_pieceOf_39 : decode cX7_pieceOf 39 = .ok (.if_icmp .ge 49, 3) := dk_162 0 49 (dk_at dksX7_pieceOf_1 16 rfl rfl)
theorem dX7_pieceOf_42 : decode cX7_pieceOf 42 = .ok (.iload_n 1, 1) := dk_27 (dk_at dksX7_pieceOf_1 19 rfl rfl)
theorem dX7_pieceOf_43 : decode cX7_pieceOf 43 = .ok (.aload_n 0, 1) := dk_42 (dk_at dksX7_pieceOf_1 20 rfl rfl)
theorem dX7_pieceOf_44 : decode cX7_pieceOf 44 = .ok (.getfield 7, 3) := dk_180 0 7 (dk_at dksX7_pieceOf_1 21 rfl rfl)
theorem dX7_pieceOf_47 : decode cX7_pieceOf 47 = .ok (.sipush 1850, 3) := dk_17 7 58 (dk_at dksX7_pieceOf_2 0 rfl rfl)
theorem dX7_pieceOf_50 : decode cX7_pieceOf 50 = .ok (.iload_n 2, 1) := dk_28 (dk_at dksX7_pieceOf_2 3 rfl rfl)
theorem dX7_pieceOf_51 : decode cX7_pieceOf 51 = .ok (.iadd, 1) := dk_96 (dk_at dksX7_pieceOf_2 4 rfl rfl)
theorem dX7_pieceOf_52 : decode cX7_pieceOf 52 = .ok (.iaload, 1) := dk_46 (dk_at dksX7_pieceOf_2 5 rfl rfl)
theorem dX7_pieceOf_53 : decode cX7_pieceOf 53 = .ok (.if_icmp .lt 29, 3) := dk_161 0 29 (dk_at dksX7_pieceOf_2 6 rfl rfl)
theorem dX7_pieceOf_56 : decode cX7_pieceOf 56 = .ok (.iload_n 1, 1) := dk_27 (dk_at dksX7_pieceOf_2 9 rfl rfl)
theorem dX7_pieceOf_57 : decode cX7_pieceOf 57 = .ok (.aload_n 0, 1) := dk_42 (dk_at dksX7_pieceOf_2 10 rfl rfl)
theorem dX7_pieceOf_58 : decode cX7_pieceOf 58 = .ok (.getfield 7, 3) := dk_180 0 7 (dk_at dksX7_pieceOf_2 11 rfl rfl)
theorem dX7_pieceOf_61 : decode cX7_pieceOf 61 = .ok (.sipush 1850, 3) := dk_17 7 58 (dk_at dksX7_pieceOf_2 14 rfl rfl)
theorem dX7_pieceOf_64 : decode cX7_pieceOf 64 = .ok (.iload_n 2, 1) := dk_28 (dk_at dksX7_pieceOf_2 17 rfl rfl)
theorem dX7_pieceOf_65 : decode cX7_pieceOf 65 = .ok (.iadd, 1) := dk_96 (dk_at dksX7_pieceOf_2 18 rfl rfl)
theorem dX7_pieceOf_66 : decode cX7_pieceOf 66 = .ok (.iaload, 1) := dk_46 (dk_at dksX7_pieceOf_2 19 rfl rfl)
theorem dX7_pieceOf_67 : decode cX7_pieceOf 67 = .ok (.aload_n 0, 1) := dk_42 (dk_at dksX7_pieceOf_2 20 rfl rfl)
theorem dX7_pieceOf_68 : decode cX7_pieceOf 68 = .ok (.iload_n 2, 1) := dk_28 (dk_at dksX7_pieceOf_2 21 rfl rfl)
theorem dX7_pieceOf_69 : decode cX7_pieceOf 69 = .ok (.invokevirtual 321, 3) := dk_182 1 65 (dk_at dksX7_pieceOf_3 0 rfl rfl)
theorem dX7_pieceOf_72 : decode cX7_pieceOf 72 = .ok (.iadd, 1) := dk_96 (dk_at dksX7_pieceOf_3 3 rfl rfl)
theorem dX7_pieceOf_73 : decode cX7_pieceOf 73 = .ok (.if_icmp .ge 9, 3) := dk_162 0 9 (dk_at dksX7_pieceOf_3 4 rfl rfl)
theorem dX7_pieceOf_76 : decode cX7_pieceOf 76 = .ok (.aload_n 0, 1) := dk_42 (dk_at dksX7_pieceOf_3 7 rfl rfl)
theorem dX7_pieceOf_77 : decode cX7_pieceOf 77 = .ok (.iload_n 2, 1) := dk_28 (dk_at dksX7_pieceOf_3 8 rfl rfl)
theorem dX7_pieceOf_78 : decode cX7_pieceOf 78 = .ok (.invokevirtual 191, 3) := dk_182 0 191 (dk_at dksX7_pieceOf_3 9 rfl rfl)
theorem dX7_pieceOf_81 : decode cX7_pieceOf 81 = .ok (.ireturn, 1) := dk_172 (dk_at dksX7_pieceOf_3 12 rfl rfl)
theorem dX7_pieceOf_82 : decode cX7_pieceOf 82 = .ok (.iinc 2 1, 3) := dk_132 2 1 (dk_at dksX7_pieceOf_3 13 rfl rfl)
theorem dX7_pieceOf_85 : decode cX7_pieceOf 85 = .ok (.goto (-54), 3) := dk_167 255 202 (dk_at dksX7_pieceOf_3 16 rfl rfl)
theorem dX7_pieceOf_88 : decode cX7_pieceOf 88 = .ok (.aload_n 0, 1) := dk_42 (dk_at dksX7_pieceOf_3 19 rfl rfl)
theorem dX7_pieceOf_89 : decode cX7_pieceOf 89 = .ok (.bipush 6, 2) := dk_16 6 (dk_at dksX7_pieceOf_3 20 rfl rfl)
theorem dX7_pieceOf_91 : decode cX7_pieceOf 91 = .ok (.invokevirtual 188, 3) := dk_182 0 188 (dk_at dksX7_pieceOf_4 0 rfl rfl)
theorem dX7_pieceOf_94 : decode cX7_pieceOf 94 = .ok (.ireturn, 1) := dk_172 (dk_at dksX7_pieceOf_4 3 rfl rfl)
abbrev cX7_saved : ByteArray := prog_17_method_102_code
def yX7_saved : MethodName := ⟨RX7, "saved", "()I"⟩
def dkwX7_saved_2 : List UInt8 := [172]
abbrev dktX7_saved_2 : List UInt8 := dkwX7_saved_2 ++ []
def dkwX7_saved_1 : List UInt8 := [16, 7, 182, 0, 188, 167, 0, 19, 42, 42, 182, 1, 103, 42, 180, 0, 7, 16, 8, 46, 100, 182, 0, 191]
abbrev dktX7_saved_1 : List UInt8 := dkwX7_saved_1 ++ dktX7_saved_2
def dkwX7_saved_0 : List UInt8 := [42, 182, 1, 50, 154, 0, 10, 42, 16, 6, 182, 0, 188, 172, 42, 182, 1, 103, 2, 160, 0, 12, 42]
abbrev dktX7_saved_0 : List UInt8 := dkwX7_saved_0 ++ dktX7_saved_1
theorem dksX7_saved_0 : cX7_saved.data.toList.drop 0 = dktX7_saved_0 := by decide +kernel
theorem dksX7_saved_1 : cX7_saved.data.toList.drop 23 = dktX7_saved_1 := dk_seg dksX7_saved_0 23 rfl rfl
theorem dksX7_saved_2 : cX7_saved.data.toList.drop 47 = dktX7_saved_2 := dk_seg dksX7_saved_1 24 rfl rfl
theorem dX7_saved_0 : decode cX7_saved 0 = .ok (.aload_n 0, 1) := dk_42 (dk_at dksX7_saved_0 0 rfl rfl)
theorem dX7_saved_1 : decode cX7_saved 1 = .ok (.invokevirtual 306, 3) := dk_182 1 50 (dk_at dksX7_saved_0 1 rfl rfl)
theorem dX7_saved_4 : decode cX7_saved 4 = .ok (.ifCond .ne 10, 3) := dk_154 0 10 (dk_at dksX7_saved_0 4 rfl rfl)
theorem dX7_saved_7 : decode cX7_saved 7 = .ok (.aload_n 0, 1) := dk_42 (dk_at dksX7_saved_0 7 rfl rfl)
theorem dX7_saved_8 : decode cX7_saved 8 = .ok (.bipush 6, 2) := dk_16 6 (dk_at dksX7_saved_0 8 rfl rfl)
theorem dX7_saved_10 : decode cX7_saved 10 = .ok (.invokevirtual 188, 3) := dk_182 0 188 (dk_at dksX7_saved_0 10 rfl rfl)
theorem dX7_saved_13 : decode cX7_saved 13 = .ok (.ireturn, 1) := dk_172 (dk_at dksX7_saved_0 13 rfl rfl)
theorem dX7_saved_14 : decode cX7_saved 14 = .ok (.aload_n 0, 1) := dk_42 (dk_at dksX7_saved_0 14 rfl rfl)
theorem dX7_saved_15 : decode cX7_saved 15 = .ok (.invokevirtual 359, 3) := dk_182 1 103 (dk_at dksX7_saved_0 15 rfl rfl)
theorem dX7_saved_18 : decode cX7_saved 18 = .ok (.iconst (-1), 1) := dk_2 (dk_at dksX7_saved_0 18 rfl rfl)
theorem dX7_saved_19 : decode cX7_saved 19 = .ok (.if_icmp .ne 12, 3) := dk_160 0 12 (dk_at dksX7_saved_0 19 rfl rfl)
theorem dX7_saved_22 : decode cX7_saved 22 = .ok (.aload_n 0, 1) := dk_42 (dk_at dksX7_saved_0 22 rfl rfl)
theorem dX7_saved_23 : decode cX7_saved 23 = .ok (.bipush 7, 2) := dk_16 7 (dk_at dksX7_saved_1 0 rfl rfl)
theorem dX7_saved_25 : decode cX7_saved 25 = .ok (.invokevirtual 188, 3) := dk_182 0 188 (dk_at dksX7_saved_1 2 rfl rfl)
theorem dX7_saved_28 : decode cX7_saved 28 = .ok (.goto 19, 3) := dk_167 0 19 (dk_at dksX7_saved_1 5 rfl rfl)
theorem dX7_saved_31 : decode cX7_saved 31 = .ok (.aload_n 0, 1) := dk_42 (dk_at dksX7_saved_1 8 rfl rfl)
theorem dX7_saved_32 : decode cX7_saved 32 = .ok (.aload_n 0, 1) := dk_42 (dk_at dksX7_saved_1 9 rfl rfl)
theorem dX7_saved_33 : decode cX7_saved 33 = .ok (.invokevirtual 359, 3) := dk_182 1 103 (dk_at dksX7_saved_1 10 rfl rfl)
theorem dX7_saved_36 : decode cX7_saved 36 = .ok (.aload_n 0, 1) := dk_42 (dk_at dksX7_saved_1 13 rfl rfl)
theorem dX7_saved_37 : decode cX7_saved 37 = .ok (.getfield 7, 3) := dk_180 0 7 (dk_at dksX7_saved_1 14 rfl rfl)
theorem dX7_saved_40 : decode cX7_saved 40 = .ok (.bipush 8, 2) := dk_16 8 (dk_at dksX7_saved_1 17 rfl rfl)
theorem dX7_saved_42 : decode cX7_saved 42 = .ok (.iaload, 1) := dk_46 (dk_at dksX7_saved_1 19 rfl rfl)
theorem dX7_saved_43 : decode cX7_saved 43 = .ok (.isub, 1) := dk_100 (dk_at dksX7_saved_1 20 rfl rfl)
theorem dX7_saved_44 : decode cX7_saved 44 = .ok (.invokevirtual 191, 3) := dk_182 0 191 (dk_at dksX7_saved_1 21 rfl rfl)
theorem dX7_saved_47 : decode cX7_saved 47 = .ok (.ireturn, 1) := dk_172 (dk_at dksX7_saved_2 0 rfl rfl)
abbrev cX7_plainOf : ByteArray := prog_17_method_101_code
def yX7_plainOf : MethodName := ⟨RX7, "plainOf", "()I"⟩
def dkwX7_plainOf_4 : List UInt8 := [167, 255, 183, 27, 172]
abbrev dktX7_plainOf_4 : List UInt8 := dkwX7_plainOf_4 ++ []
def dkwX7_plainOf_3 : List UInt8 := [182, 1, 32, 62, 29, 2, 160, 0, 5, 2, 172, 27, 42, 29, 182, 1, 44, 96, 60, 132, 2, 1]
abbrev dktX7_plainOf_3 : List UInt8 := dkwX7_plainOf_3 ++ dktX7_plainOf_4
def dkwX7_plainOf_2 : List UInt8 := [167, 0, 43, 42, 42, 180, 0, 7, 17, 1, 44, 28, 96, 46, 184, 0, 242, 42, 180, 0, 7, 16, 6, 46]
abbrev dktX7_plainOf_2 : List UInt8 := dkwX7_plainOf_2 ++ dktX7_plainOf_3
def dkwX7_plainOf_1 : List UInt8 := [16, 7, 46, 162, 0, 68, 42, 180, 0, 7, 17, 1, 44, 28, 96, 46, 184, 1, 4, 154, 0, 6]
abbrev dktX7_plainOf_1 : List UInt8 := dkwX7_plainOf_1 ++ dktX7_plainOf_2
def dkwX7_plainOf_0 : List UInt8 := [42, 180, 0, 7, 16, 8, 46, 42, 180, 0, 7, 16, 11, 46, 100, 60, 3, 61, 28, 42, 180, 0, 7]
abbrev dktX7_plainOf_0 : List UInt8 := dkwX7_plainOf_0 ++ dktX7_plainOf_1
theorem dksX7_plainOf_0 : cX7_plainOf.data.toList.drop 0 = dktX7_plainOf_0 := by decide +kernel
theorem dksX7_plainOf_1 : cX7_plainOf.data.toList.drop 23 = dktX7_plainOf_1 := dk_seg dksX7_plainOf_0 23 rfl rfl
theorem dksX7_plainOf_2 : cX7_plainOf.data.toList.drop 45 = dktX7_plainOf_2 := dk_seg dksX7_plainOf_1 22 rfl rfl
theorem dksX7_plainOf_3 : cX7_plainOf.data.toList.drop 69 = dktX7_plainOf_3 := dk_seg dksX7_plainOf_2 24 rfl rfl
theorem dksX7_plainOf_4 : cX7_plainOf.data.toList.drop 91 = dktX7_plainOf_4 := dk_seg dksX7_plainOf_3 22 rfl rfl
theorem dX7_plainOf_0 : decode cX7_plainOf 0 = .ok (.aload_n 0, 1) := dk_42 (dk_at dksX7_plainOf_0 0 rfl rfl)
theorem dX7_plainOf_1 : decode cX7_plainOf 1 = .ok (.getfield 7, 3) := dk_180 0 7 (dk_at dksX7_plainOf_0 1 rfl rfl)
theorem dX7_plainOf_4 : decode cX7_plainOf 4 = .ok (.bipush 8, 2) := dk_16 8 (dk_at dksX7_plainOf_0 4 rfl rfl)
theorem dX7_plainOf_6 : decode cX7_plainOf 6 = .ok (.iaload, 1) := dk_46 (dk_at dksX7_plainOf_0 6 rfl rfl)
theorem dX7_plainOf_7 : decode cX7_plainOf 7 = .ok (.aload_n 0, 1) := dk_42 (dk_at dksX7_plainOf_0 7 rfl rfl)
theorem dX7_plainOf_8 : decode cX7_plainOf 8 = .ok (.getfield 7, 3) := dk_180 0 7 (dk_at dksX7_plainOf_0 8 rfl rfl)
theorem dX7_plainOf_11 : decode cX7_plainOf 11 = .ok (.bipush 11, 2) := dk_16 11 (dk_at dksX7_plainOf_0 11 rfl rfl)
theorem dX7_plainOf_13 : decode cX7_plainOf 13 = .ok (.iaload, 1) := dk_46 (dk_at dksX7_plainOf_0 13 rfl rfl)
theorem dX7_plainOf_14 : decode cX7_plainOf 14 = .ok (.isub, 1) := dk_100 (dk_at dksX7_plainOf_0 14 rfl rfl)
theorem dX7_plainOf_15 : decode cX7_plainOf 15 = .ok (.istore_n 1, 1) := dk_60 (dk_at dksX7_plainOf_0 15 rfl rfl)
theorem dX7_plainOf_16 : decode cX7_plainOf 16 = .ok (.iconst 0, 1) := dk_3 (dk_at dksX7_plainOf_0 16 rfl rfl)
theorem dX7_plainOf_17 : decode cX7_plainOf 17 = .ok (.istore_n 2, 1) := dk_61 (dk_at dksX7_plainOf_0 17 rfl rfl)
theorem dX7_plainOf_18 : decode cX7_plainOf 18 = .ok (.iload_n 2, 1) := dk_28 (dk_at dksX7_plainOf_0 18 rfl rfl)
theorem dX7_plainOf_19 : decode cX7_plainOf 19 = .ok (.aload_n 0, 1) := dk_42 (dk_at dksX7_plainOf_0 19 rfl rfl)
theorem dX7_plainOf_20 : decode cX7_plainOf 20 = .ok (.getfield 7, 3) := dk_180 0 7 (dk_at dksX7_plainOf_0 20 rfl rfl)
theorem dX7_plainOf_23 : decode cX7_plainOf 23 = .ok (.bipush 7, 2) := dk_16 7 (dk_at dksX7_plainOf_1 0 rfl rfl)
theorem dX7_plainOf_25 : decode cX7_plainOf 25 = .ok (.iaload, 1) := dk_46 (dk_at dksX7_plainOf_1 2 rfl rfl)
theorem dX7_plainOf_26 : decode cX7_plainOf 26 = .ok (.if_icmp .ge 68, 3) := dk_162 0 68 (dk_at dksX7_plainOf_1 3 rfl rfl)
theorem dX7_plainOf_29 : decode cX7_plainOf 29 = .ok (.aload_n 0, 1) := dk_42 (dk_at dksX7_plainOf_1 6 rfl rfl)
theorem dX7_plainOf_30 : decode cX7_plainOf 30 = .ok (.getfield 7, 3) := dk_180 0 7 (dk_at dksX7_plainOf_1 7 rfl rfl)
theorem dX7_plainOf_33 : decode cX7_plainOf 33 = .ok (.sipush 300, 3) := dk_17 1 44 (dk_at dksX7_plainOf_1 10 rfl rfl)
theorem dX7_plainOf_36 : decode cX7_plainOf 36 = .ok (.iload_n 2, 1) := dk_28 (dk_at dksX7_plainOf_1 13 rfl rfl)
theorem dX7_plainOf_37 : decode cX7_plainOf 37 = .ok (.iadd, 1) := dk_96 (dk_at dksX7_plainOf_1 14 rfl rfl)
theorem dX7_plainOf_38 : decode cX7_plainOf 38 = .ok (.iaload, 1) := dk_46 (dk_at dksX7_plainOf_1 15 rfl rfl)
theorem dX7_plainOf_39 : decode cX7_plainOf 39 = .ok (.invokestatic 260, 3) := dk_184 1 4 (dk_at dksX7_plainOf_1 16 rfl rfl)
theorem dX7_plainOf_42 : decode cX7_plainOf 42 = .ok (.ifCond .ne 6, 3) := dk_154 0 6 (dk_at dksX7_plainOf_1 19 rfl rfl)
theorem dX7_plainOf_45 : decode cX7_plainOf 45 = .ok (.goto 43, 3) := dk_167 0 43 (dk_at dksX7_plainOf_2 0 rfl rfl)
theorem dX7_plainOf_48 : decode cX7_plainOf 48 = .ok (.aload_n 0, 1) := dk_42 (dk_at dksX7_plainOf_2 3 rfl rfl)
theorem dX7_plainOf_49 : decode cX7_plainOf 49 = .ok (.aload_n 0, 1) := dk_42 (dk_at dksX7_plainOf_2 4 rfl rfl)
theorem dX7_plainOf_50 : decode cX7_plainOf 50 = .ok (.getfield 7, 3) := dk_180 0 7 (dk_at dksX7_plainOf_2 5 rfl rfl)
theorem dX7_plainOf_53 : decode cX7_plainOf 53 = .ok (.sipush 300, 3) := dk_17 1 44 (dk_at dksX7_plainOf_2 8 rfl rfl)
theorem dX7_plainOf_56 : decode cX7_plainOf 56 = .ok (.iload_n 2, 1) := dk_28 (dk_at dksX7_plainOf_2 11 rfl rfl)
theorem dX7_plainOf_57 : decode cX7_plainOf 57 = .ok (.iadd, 1) := dk_96 (dk_at dksX7_plainOf_2 12 rfl rfl)
theorem dX7_plainOf_58 : decode cX7_plainOf 58 = .ok (.iaload, 1) := dk_46 (dk_at dksX7_plainOf_2 13 rfl rfl)
theorem dX7_plainOf_59 : decode cX7_plainOf 59 = .ok (.invokestatic 242, 3) := dk_184 0 242 (dk_at dksX7_plainOf_2 14 rfl rfl)
theorem dX7_plainOf_62 : decode cX7_plainOf 62 = .ok (.aload_n 0, 1) := dk_42 (dk_at dksX7_plainOf_2 17 rfl rfl)
theorem dX7_plainOf_63 : decode cX7_plainOf 63 = .ok (.getfield 7, 3) := dk_180 0 7 (dk_at dksX7_plainOf_2 18 rfl rfl)
theorem dX7_plainOf_66 : decode cX7_plainOf 66 = .ok (.bipush 6, 2) := dk_16 6 (dk_at dksX7_plainOf_2 21 rfl rfl)
theorem dX7_plainOf_68 : decode cX7_plainOf 68 = .ok (.iaload, 1) := dk_46 (dk_at dksX7_plainOf_2 23 rfl rfl)
theorem dX7_plainOf_69 : decode cX7_plainOf 69 = .ok (.invokevirtual 288, 3) := dk_182 1 32 (dk_at dksX7_plainOf_3 0 rfl rfl)
theorem dX7_plainOf_72 : decode cX7_plainOf 72 = .ok (.istore_n 3, 1) := dk_62 (dk_at dksX7_plainOf_3 3 rfl rfl)
theorem dX7_plainOf_73 : decode cX7_plainOf 73 = .ok (.iload_n 3, 1) := dk_29 (dk_at dksX7_plainOf_3 4 rfl rfl)
theorem dX7_plainOf_74 : decode cX7_plainOf 74 = .ok (.iconst (-1), 1) := dk_2 (dk_at dksX7_plainOf_3 5 rfl rfl)
theorem dX7_plainOf_75 : decode cX7_plainOf 75 = .ok (.if_icmp .ne 5, 3) := dk_160 0 5 (dk_at dksX7_plainOf_3 6 rfl rfl)
theorem dX7_plainOf_78 : decode cX7_plainOf 78 = .ok (.iconst (-1), 1) := dk_2 (dk_at dksX7_plainOf_3 9 rfl rfl)
theorem dX7_plainOf_79 : decode cX7_plainOf 79 = .ok (.ireturn, 1) := dk_172 (dk_at dksX7_plainOf_3 10 rfl rfl)
theorem dX7_plainOf_80 : decode cX7_plainOf 80 = .ok (.iload_n 1, 1) := dk_27 (dk_at dksX7_plainOf_3 11 rfl rfl)
theorem dX7_plainOf_81 : decode cX7_plainOf 81 = .ok (.aload_n 0, 1) := dk_42 (dk_at dksX7_plainOf_3 12 rfl rfl)
theorem dX7_plainOf_82 : decode cX7_plainOf 82 = .ok (.iload_n 3, 1) := dk_29 (dk_at dksX7_plainOf_3 13 rfl rfl)
theorem dX7_plainOf_83 : decode cX7_plainOf 83 = .ok (.invokevirtual 300, 3) := dk_182 1 44 (dk_at dksX7_plainOf_3 14 rfl rfl)
theorem dX7_plainOf_86 : decode cX7_plainOf 86 = .ok (.iadd, 1) := dk_96 (dk_at dksX7_plainOf_3 17 rfl rfl)
theorem dX7_plainOf_87 : decode cX7_plainOf 87 = .ok (.istore_n 1, 1) := dk_60 (dk_at dksX7_plainOf_3 18 rfl rfl)
theorem dX7_plainOf_88 : decode cX7_plainOf 88 = .ok (.iinc 2 1, 3) := dk_132 2 1 (dk_at dksX7_plainOf_3 19 rfl rfl)
theorem dX7_plainOf_91 : decode cX7_plainOf 91 = .ok (.goto (-73), 3) := dk_167 255 183 (dk_at dksX7_plainOf_4 0 rfl rfl)
theorem dX7_plainOf_94 : decode cX7_plainOf 94 = .ok (.iload_n 1, 1) := dk_27 (dk_at dksX7_plainOf_4 3 rfl rfl)
theorem dX7_plainOf_95 : decode cX7_plainOf 95 = .ok (.ireturn, 1) := dk_172 (dk_at dksX7_plainOf_4 4 rfl rfl)
abbrev cX7_plain : ByteArray := prog_17_method_103_code
def yX7_plain : MethodName := ⟨RX7, "plain", "()I"⟩
def dkwX7_plain_1 : List UInt8 := [16, 7, 182, 0, 188, 167, 0, 11, 42, 42, 182, 1, 103, 182, 0, 191, 172]
abbrev dktX7_plain_1 : List UInt8 := dkwX7_plain_1 ++ []
def dkwX7_plain_0 : List UInt8 := [42, 182, 1, 50, 154, 0, 10, 42, 16, 6, 182, 0, 188, 172, 42, 182, 1, 103, 2, 160, 0, 12, 42]
abbrev dktX7_plain_0 : List UInt8 := dkwX7_plain_0 ++ dktX7_plain_1
theorem dksX7_plain_0 : cX7_plain.data.toList.drop 0 = dktX7_plain_0 := by decide +kernel
theorem dksX7_plain_1 : cX7_plain.data.toList.drop 23 = dktX7_plain_1 := dk_seg dksX7_plain_0 23 rfl rfl
theorem dX7_plain_0 : decode cX7_plain 0 = .ok (.aload_n 0, 1) := dk_42 (dk_at dksX7_plain_0 0 rfl rfl)
theorem dX7_plain_1 : decode cX7_plain 1 = .ok (.invokevirtual 306, 3) := dk_182 1 50 (dk_at dksX7_plain_0 1 rfl rfl)
theorem dX7_plain_4 : decode cX7_plain 4 = .ok (.ifCond .ne 10, 3) := dk_154 0 10 (dk_at dksX7_plain_0 4 rfl rfl)
theorem dX7_plain_7 : decode cX7_plain 7 = .ok (.aload_n 0, 1) := dk_42 (dk_at dksX7_plain_0 7 rfl rfl)
theorem dX7_plain_8 : decode cX7_plain 8 = .ok (.bipush 6, 2) := dk_16 6 (dk_at dksX7_plain_0 8 rfl rfl)
theorem dX7_plain_10 : decode cX7_plain 10 = .ok (.invokevirtual 188, 3) := dk_182 0 188 (dk_at dksX7_plain_0 10 rfl rfl)
theorem dX7_plain_13 : decode cX7_plain 13 = .ok (.ireturn, 1) := dk_172 (dk_at dksX7_plain_0 13 rfl rfl)
theorem dX7_plain_14 : decode cX7_plain 14 = .ok (.aload_n 0, 1) := dk_42 (dk_at dksX7_plain_0 14 rfl rfl)
theorem dX7_plain_15 : decode cX7_plain 15 = .ok (.invokevirtual 359, 3) := dk_182 1 103 (dk_at dksX7_plain_0 15 rfl rfl)
theorem dX7_plain_18 : decode cX7_plain 18 = .ok (.iconst (-1), 1) := dk_2 (dk_at dksX7_plain_0 18 rfl rfl)
theorem dX7_plain_19 : decode cX7_plain 19 = .ok (.if_icmp .ne 12, 3) := dk_160 0 12 (dk_at dksX7_plain_0 19 rfl rfl)
theorem dX7_plain_22 : decode cX7_plain 22 = .ok (.aload_n 0, 1) := dk_42 (dk_at dksX7_plain_0 22 rfl rfl)
theorem dX7_plain_23 : decode cX7_plain 23 = .ok (.bipush 7, 2) := dk_16 7 (dk_at dksX7_plain_1 0 rfl rfl)
theorem dX7_plain_25 : decode cX7_plain 25 = .ok (.invokevirtual 188, 3) := dk_182 0 188 (dk_at dksX7_plain_1 2 rfl rfl)
theorem dX7_plain_28 : decode cX7_plain 28 = .ok (.goto 11, 3) := dk_167 0 11 (dk_at dksX7_plain_1 5 rfl rfl)
theorem dX7_plain_31 : decode cX7_plain 31 = .ok (.aload_n 0, 1) := dk_42 (dk_at dksX7_plain_1 8 rfl rfl)
theorem dX7_plain_32 : decode cX7_plain 32 = .ok (.aload_n 0, 1) := dk_42 (dk_at dksX7_plain_1 9 rfl rfl)
theorem dX7_plain_33 : decode cX7_plain 33 = .ok (.invokevirtual 359, 3) := dk_182 1 103 (dk_at dksX7_plain_1 10 rfl rfl)
theorem dX7_plain_36 : decode cX7_plain 36 = .ok (.invokevirtual 191, 3) := dk_182 0 191 (dk_at dksX7_plain_1 13 rfl rfl)
theorem dX7_plain_39 : decode cX7_plain 39 = .ok (.ireturn, 1) := dk_172 (dk_at dksX7_plain_1 16 rfl rfl)
abbrev cX7_fewest : ByteArray := prog_17_method_105_code
def yX7_fewest : MethodName := ⟨RX7, "fewest", "()I"⟩
def dkwX7_fewest_7 : List UInt8 := [167, 0, 4, 3, 96, 96, 60, 132, 2, 1, 167, 255, 149, 42, 27, 182, 0, 191, 172]
abbrev dktX7_fewest_7 : List UInt8 := dkwX7_fewest_7 ++ []
def dkwX7_fewest_6 : List UInt8 := [182, 1, 32, 182, 1, 44, 28, 153, 0, 16, 42, 28, 4, 100, 182, 0, 239, 184, 1, 20, 154, 0, 7, 4]
abbrev dktX7_fewest_6 : List UInt8 := dkwX7_fewest_6 ++ dktX7_fewest_7
def dkwX7_fewest_5 : List UInt8 := [184, 1, 20, 153, 0, 52, 27, 42, 42, 42, 28, 182, 0, 239, 184, 1, 29, 42, 180, 0, 7, 16, 6, 46]
abbrev dktX7_fewest_5 : List UInt8 := dkwX7_fewest_5 ++ dktX7_fewest_6
def dkwX7_fewest_4 : List UInt8 := [28, 182, 1, 23, 182, 1, 107, 96, 60, 42, 28, 182, 1, 23, 61, 167, 255, 215, 42, 28, 182, 0, 239]
abbrev dktX7_fewest_4 : List UInt8 := dkwX7_fewest_4 ++ dktX7_fewest_5
def dkwX7_fewest_3 : List UInt8 := [180, 0, 7, 16, 7, 46, 162, 0, 102, 42, 28, 182, 0, 239, 184, 1, 4, 153, 0, 25, 27, 42, 28, 42]
abbrev dktX7_fewest_3 : List UInt8 := dkwX7_fewest_3 ++ dktX7_fewest_4
def dkwX7_fewest_2 : List UInt8 := [158, 0, 16, 42, 180, 0, 7, 17, 64, 125, 46, 4, 100, 167, 0, 4, 3, 60, 3, 61, 28, 42]
abbrev dktX7_fewest_2 : List UInt8 := dkwX7_fewest_2 ++ dktX7_fewest_3
def dkwX7_fewest_1 : List UInt8 := [16, 6, 46, 182, 1, 35, 154, 0, 10, 42, 16, 7, 182, 0, 188, 172, 42, 180, 0, 7, 17, 64, 125, 46]
abbrev dktX7_fewest_1 : List UInt8 := dkwX7_fewest_1 ++ dktX7_fewest_2
def dkwX7_fewest_0 : List UInt8 := [42, 182, 1, 50, 154, 0, 10, 42, 16, 6, 182, 0, 188, 172, 42, 182, 1, 53, 42, 42, 180, 0, 7]
abbrev dktX7_fewest_0 : List UInt8 := dkwX7_fewest_0 ++ dktX7_fewest_1
theorem dksX7_fewest_0 : cX7_fewest.data.toList.drop 0 = dktX7_fewest_0 := by decide +kernel
theorem dksX7_fewest_1 : cX7_fewest.data.toList.drop 23 = dktX7_fewest_1 := dk_seg dksX7_fewest_0 23 rfl rfl
theorem dksX7_fewest_2 : cX7_fewest.data.toList.drop 47 = dktX7_fewest_2 := dk_seg dksX7_fewest_1 24 rfl rfl
theorem dksX7_fewest_3 : cX7_fewest.data.toList.drop 69 = dktX7_fewest_3 := dk_seg dksX7_fewest_2 22 rfl rfl
theorem dksX7_fewest_4 : cX7_fewest.data.toList.drop 93 = dktX7_fewest_4 := dk_seg dksX7_fewest_3 24 rfl rfl
theorem dksX7_fewest_5 : cX7_fewest.data.toList.drop 116 = dktX7_fewest_5 := dk_seg dksX7_fewest_4 23 rfl rfl
theorem dksX7_fewest_6 : cX7_fewest.data.toList.drop 140 = dktX7_fewest_6 := dk_seg dksX7_fewest_5 24 rfl rfl
theorem dksX7_fewest_7 : cX7_fewest.data.toList.drop 164 = dktX7_fewest_7 := dk_seg dksX7_fewest_6 24 rfl rfl
theorem dX7_fewest_0 : decode cX7_fewest 0 = .ok (.aload_n 0, 1) := dk_42 (dk_at dksX7_fewest_0 0 rfl rfl)
theorem dX7_fewest_1 : decode cX7_fewest 1 = .ok (.invokevirtual 306, 3) := dk_182 1 50 (dk_at dksX7_fewest_0 1 rfl rfl)
theorem dX7_fewest_4 : decode cX7_fewest 4 = .ok (.ifCond .ne 10, 3) := dk_154 0 10 (dk_at dksX7_fewest_0 4 rfl rfl)
theorem dX7_fewest_7 : decode cX7_fewest 7 = .ok (.aload_n 0, 1) := dk_42 (dk_at dksX7_fewest_0 7 rfl rfl)
theorem dX7_fewest_8 : decode cX7_fewest 8 = .ok (.bipush 6, 2) := dk_16 6 (dk_at dksX7_fewest_0 8 rfl rfl)
theorem dX7_fewest_10 : decode cX7_fewest 10 = .ok (.invokevirtual 188, 3) := dk_182 0 188 (dk_at dksX7_fewest_0 10 rfl rfl)
theorem dX7_fewest_13 : decode cX7_fewest 13 = .ok (.ireturn, 1) := dk_172 (dk_at dksX7_fewest_0 13 rfl rfl)
theorem dX7_fewest_14 : decode cX7_fewest 14 = .ok (.aload_n 0, 1) := dk_42 (dk_at dksX7_fewest_0 14 rfl rfl)
theorem dX7_fewest_15 : decode cX7_fewest 15 = .ok (.invokevirtual 309, 3) := dk_182 1 53 (dk_at dksX7_fewest_0 15 rfl rfl)
theorem dX7_fewest_18 : decode cX7_fewest 18 = .ok (.aload_n 0, 1) := dk_42 (dk_at dksX7_fewest_0 18 rfl rfl)
theorem dX7_fewest_19 : decode cX7_fewest 19 = .ok (.aload_n 0, 1) := dk_42 (dk_at dksX7_fewest_0 19 rfl rfl)
theorem dX7_fewest_20 : decode cX7_fewest 20 = .ok (.getfield 7, 3) := dk_180 0 7 (dk_at dksX7_fewest_0 20 rfl rfl)
theorem dX7_fewest_23 : decode cX7_fewest 23 = .ok (.bipush 6, 2) := dk_16 6 (dk_at dksX7_fewest_1 0 rfl rfl)
theorem dX7_fewest_25 : decode cX7_fewest 25 = .ok (.iaload, 1) := dk_46 (dk_at dksX7_fewest_1 2 rfl rfl)
theorem dX7_fewest_26 : decode cX7_fewest 26 = .ok (.invokevirtual 291, 3) := dk_182 1 35 (dk_at dksX7_fewest_1 3 rfl rfl)
theorem dX7_fewest_29 : decode cX7_fewest 29 = .ok (.ifCond .ne 10, 3) := dk_154 0 10 (dk_at dksX7_fewest_1 6 rfl rfl)
theorem dX7_fewest_32 : decode cX7_fewest 32 = .ok (.aload_n 0, 1) := dk_42 (dk_at dksX7_fewest_1 9 rfl rfl)
theorem dX7_fewest_33 : decode cX7_fewest 33 = .ok (.bipush 7, 2) := dk_16 7 (dk_at dksX7_fewest_1 10 rfl rfl)
theorem dX7_fewest_35 : decode cX7_fewest 35 = .ok (.invokevirtual 188, 3) := dk_182 0 188 (dk_at dksX7_fewest_1 12 rfl rfl)
theorem dX7_fewest_38 : decode cX7_fewest 38 = .ok (.ireturn, 1) := dk_172 (dk_at dksX7_fewest_1 15 rfl rfl)
theorem dX7_fewest_39 : decode cX7_fewest 39 = .ok (.aload_n 0, 1) := dk_42 (dk_at dksX7_fewest_1 16 rfl rfl)
theorem dX7_fewest_40 : decode cX7_fewest 40 = .ok (.getfield 7, 3) := dk_180 0 7 (dk_at dksX7_fewest_1 17 rfl rfl)
theorem dX7_fewest_43 : decode cX7_fewest 43 = .ok (.sipush 16509, 3) := dk_17 64 125 (dk_at dksX7_fewest_1 20 rfl rfl)
theorem dX7_fewest_46 : decode cX7_fewest 46 = .ok (.iaload, 1) := dk_46 (dk_at dksX7_fewest_1 23 rfl rfl)
theorem dX7_fewest_47 : decode cX7_fewest 47 = .ok (.ifCond .le 16, 3) := dk_158 0 16 (dk_at dksX7_fewest_2 0 rfl rfl)
theorem dX7_fewest_50 : decode cX7_fewest 50 = .ok (.aload_n 0, 1) := dk_42 (dk_at dksX7_fewest_2 3 rfl rfl)
theorem dX7_fewest_51 : decode cX7_fewest 51 = .ok (.getfield 7, 3) := dk_180 0 7 (dk_at dksX7_fewest_2 4 rfl rfl)
theorem dX7_fewest_54 : decode cX7_fewest 54 = .ok (.sipush 16509, 3) := dk_17 64 125 (dk_at dksX7_fewest_2 7 rfl rfl)
theorem dX7_fewest_57 : decode cX7_fewest 57 = .ok (.iaload, 1) := dk_46 (dk_at dksX7_fewest_2 10 rfl rfl)
theorem dX7_fewest_58 : decode cX7_fewest 58 = .ok (.iconst 1, 1) := dk_4 (dk_at dksX7_fewest_2 11 rfl rfl)
theorem dX7_fewest_59 : decode cX7_fewest 59 = .ok (.isub, 1) := dk_100 (dk_at dksX7_fewest_2 12 rfl rfl)
theorem dX7_fewest_60 : decode cX7_fewest 60 = .ok (.goto 4, 3) := dk_167 0 4 (dk_at dksX7_fewest_2 13 rfl rfl)
theorem dX7_fewest_63 : decode cX7_fewest 63 = .ok (.iconst 0, 1) := dk_3 (dk_at dksX7_fewest_2 16 rfl rfl)
theorem dX7_fewest_64 : decode cX7_fewest 64 = .ok (.istore_n 1, 1) := dk_60 (dk_at dksX7_fewest_2 17 rfl rfl)
theorem dX7_fewest_65 : decode cX7_fewest 65 = .ok (.iconst 0, 1) := dk_3 (dk_at dksX7_fewest_2 18 rfl rfl)
theorem dX7_fewest_66 : decode cX7_fewest 66 = .ok (.istore_n 2, 1) := dk_61 (dk_at dksX7_fewest_2 19 rfl rfl)
theorem dX7_fewest_67 : decode cX7_fewest 67 = .ok (.iload_n 2, 1) := dk_28 (dk_at dksX7_fewest_2 20 rfl rfl)
theorem dX7_fewest_68 : decode cX7_fewest 68 = .ok (.aload_n 0, 1) := dk_42 (dk_at dksX7_fewest_2 21 rfl rfl)
theorem dX7_fewest_69 : decode cX7_fewest 69 = .ok (.getfield 7, 3) := dk_180 0 7 (dk_at dksX7_fewest_3 0 rfl rfl)
theorem dX7_fewest_72 : decode cX7_fewest 72 = .ok (.bipush 7, 2) := dk_16 7 (dk_at dksX7_fewest_3 3 rfl rfl)
theorem dX7_fewest_74 : decode cX7_fewest 74 = .ok (.iaload, 1) := dk_46 (dk_at dksX7_fewest_3 5 rfl rfl)
theorem dX7_fewest_75 : decode cX7_fewest 75 = .ok (.if_icmp .ge 102, 3) := dk_162 0 102 (dk_at dksX7_fewest_3 6 rfl rfl)
theorem dX7_fewest_78 : decode cX7_fewest 78 = .ok (.aload_n 0, 1) := dk_42 (dk_at dksX7_fewest_3 9 rfl rfl)
theorem dX7_fewest_79 : decode cX7_fewest 79 = .ok (.iload_n 2, 1) := dk_28 (dk_at dksX7_fewest_3 10 rfl rfl)
theorem dX7_fewest_80 : decode cX7_fewest 80 = .ok (.invokevirtual 239, 3) := dk_182 0 239 (dk_at dksX7_fewest_3 11 rfl rfl)
theorem dX7_fewest_83 : decode cX7_fewest 83 = .ok (.invokestatic 260, 3) := dk_184 1 4 (dk_at dksX7_fewest_3 14 rfl rfl)
theorem dX7_fewest_86 : decode cX7_fewest 86 = .ok (.ifCond .eq 25, 3) := dk_153 0 25 (dk_at dksX7_fewest_3 17 rfl rfl)
theorem dX7_fewest_89 : decode cX7_fewest 89 = .ok (.iload_n 1, 1) := dk_27 (dk_at dksX7_fewest_3 20 rfl rfl)
theorem dX7_fewest_90 : decode cX7_fewest 90 = .ok (.aload_n 0, 1) := dk_42 (dk_at dksX7_fewest_3 21 rfl rfl)
theorem dX7_fewest_91 : decode cX7_fewest 91 = .ok (.iload_n 2, 1) := dk_28 (dk_at dksX7_fewest_3 22 rfl rfl)
theorem dX7_fewest_92 : decode cX7_fewest 92 = .ok (.aload_n 0, 1) := dk_42 (dk_at dksX7_fewest_3 23 rfl rfl)
theorem dX7_fewest_93 : decode cX7_fewest 93 = .ok (.iload_n 2, 1) := dk_28 (dk_at dksX7_fewest_4 0 rfl rfl)
theorem dX7_fewest_94 : decode cX7_fewest 94 = .ok (.invokevirtual 279, 3) := dk_182 1 23 (dk_at dksX7_fewest_4 1 rfl rfl)
theorem dX7_fewest_97 : decode cX7_fewest 97 = .ok (.invokevirtual 363, 3) := dk_182 1 107 (dk_at dksX7_fewest_4 4 rfl rfl)
theorem dX7_fewest_100 : decode cX7_fewest 100 = .ok (.iadd, 1) := dk_96 (dk_at dksX7_fewest_4 7 rfl rfl)
theorem dX7_fewest_101 : decode cX7_fewest 101 = .ok (.istore_n 1, 1) := dk_60 (dk_at dksX7_fewest_4 8 rfl rfl)
theorem dX7_fewest_102 : decode cX7_fewest 102 = .ok (.aload_n 0, 1) := dk_42 (dk_at dksX7_fewest_4 9 rfl rfl)
theorem dX7_fewest_103 : decode cX7_fewest 103 = .ok (.iload_n 2, 1) := dk_28 (dk_at dksX7_fewest_4 10 rfl rfl)
theorem dX7_fewest_104 : decode cX7_fewest 104 = .ok (.invokevirtual 279, 3) := dk_182 1 23 (dk_at dksX7_fewest_4 11 rfl rfl)
theorem dX7_fewest_107 : decode cX7_fewest 107 = .ok (.istore_n 2, 1) := dk_61 (dk_at dksX7_fewest_4 14 rfl rfl)
theorem dX7_fewest_108 : decode cX7_fewest 108 = .ok (.goto (-41), 3) := dk_167 255 215 (dk_at dksX7_fewest_4 15 rfl rfl)
theorem dX7_fewest_111 : decode cX7_fewest 111 = .ok (.aload_n 0, 1) := dk_42 (dk_at dksX7_fewest_4 18 rfl rfl)
theorem dX7_fewest_112 : decode cX7_fewest 112 = .ok (.iload_n 2, 1) := dk_28 (dk_at dksX7_fewest_4 19 rfl rfl)
theorem dX7_fewest_113 : decode cX7_fewest 113 = .ok (.invokevirtual 239, 3) := dk_182 0 239 (dk_at dksX7_fewest_4 20 rfl rfl)
theorem dX7_fewest_116 : decode cX7_fewest 116 = .ok (.invokestatic 276, 3) := dk_184 1 20 (dk_at dksX7_fewest_5 0 rfl rfl)
theorem dX7_fewest_119 : decode cX7_fewest 119 = .ok (.ifCond .eq 52, 3) := dk_153 0 52 (dk_at dksX7_fewest_5 3 rfl rfl)
theorem dX7_fewest_122 : decode cX7_fewest 122 = .ok (.iload_n 1, 1) := dk_27 (dk_at dksX7_fewest_5 6 rfl rfl)
theorem dX7_fewest_123 : decode cX7_fewest 123 = .ok (.aload_n 0, 1) := dk_42 (dk_at dksX7_fewest_5 7 rfl rfl)
theorem dX7_fewest_124 : decode cX7_fewest 124 = .ok (.aload_n 0, 1) := dk_42 (dk_at dksX7_fewest_5 8 rfl rfl)
theorem dX7_fewest_125 : decode cX7_fewest 125 = .ok (.aload_n 0, 1) := dk_42 (dk_at dksX7_fewest_5 9 rfl rfl)
theorem dX7_fewest_126 : decode cX7_fewest 126 = .ok (.iload_n 2, 1) := dk_28 (dk_at dksX7_fewest_5 10 rfl rfl)
theorem dX7_fewest_127 : decode cX7_fewest 127 = .ok (.invokevirtual 239, 3) := dk_182 0 239 (dk_at dksX7_fewest_5 11 rfl rfl)
theorem dX7_fewest_130 : decode cX7_fewest 130 = .ok (.invokestatic 285, 3) := dk_184 1 29 (dk_at dksX7_fewest_5 14 rfl rfl)
theorem dX7_fewest_133 : decode cX7_fewest 133 = .ok (.aload_n 0, 1) := dk_42 (dk_at dksX7_fewest_5 17 rfl rfl)
theorem dX7_fewest_134 : decode cX7_fewest 134 = .ok (.getfield 7, 3) := dk_180 0 7 (dk_at dksX7_fewest_5 18 rfl rfl)
theorem dX7_fewest_137 : decode cX7_fewest 137 = .ok (.bipush 6, 2) := dk_16 6 (dk_at dksX7_fewest_5 21 rfl rfl)
theorem dX7_fewest_139 : decode cX7_fewest 139 = .ok (.iaload, 1) := dk_46 (dk_at dksX7_fewest_5 23 rfl rfl)
theorem dX7_fewest_140 : decode cX7_fewest 140 = .ok (.invokevirtual 288, 3) := dk_182 1 32 (dk_at dksX7_fewest_6 0 rfl rfl)
theorem dX7_fewest_143 : decode cX7_fewest 143 = .ok (.invokevirtual 300, 3) := dk_182 1 44 (dk_at dksX7_fewest_6 3 rfl rfl)
theorem dX7_fewest_146 : decode cX7_fewest 146 = .ok (.iload_n 2, 1) := dk_28 (dk_at dksX7_fewest_6 6 rfl rfl)
theorem dX7_fewest_147 : decode cX7_fewest 147 = .ok (.ifCond .eq 16, 3) := dk_153 0 16 (dk_at dksX7_fewest_6 7 rfl rfl)
theorem dX7_fewest_150 : decode cX7_fewest 150 = .ok (.aload_n 0, 1) := dk_42 (dk_at dksX7_fewest_6 10 rfl rfl)
theorem dX7_fewest_151 : decode cX7_fewest 151 = .ok (.iload_n 2, 1) := dk_28 (dk_at dksX7_fewest_6 11 rfl rfl)
theorem dX7_fewest_152 : decode cX7_fewest 152 = .ok (.iconst 1, 1) := dk_4 (dk_at dksX7_fewest_6 12 rfl rfl)
theorem dX7_fewest_153 : decode cX7_fewest 153 = .ok (.isub, 1) := dk_100 (dk_at dksX7_fewest_6 13 rfl rfl)
theorem dX7_fewest_154 : decode cX7_fewest 154 = .ok (.invokevirtual 239, 3) := dk_182 0 239 (dk_at dksX7_fewest_6 14 rfl rfl)
theorem dX7_fewest_157 : decode cX7_fewest 157 = .ok (.invokestatic 276, 3) := dk_184 1 20 (dk_at dksX7_fewest_6 17 rfl rfl)
theorem dX7_fewest_160 : decode cX7_fewest 160 = .ok (.ifCond .ne 7, 3) := dk_154 0 7 (dk_at dksX7_fewest_6 20 rfl rfl)
theorem dX7_fewest_163 : decode cX7_fewest 163 = .ok (.iconst 1, 1) := dk_4 (dk_at dksX7_fewest_6 23 rfl rfl)
theorem dX7_fewest_164 : decode cX7_fewest 164 = .ok (.goto 4, 3) := dk_167 0 4 (dk_at dksX7_fewest_7 0 rfl rfl)
theorem dX7_fewest_167 : decode cX7_fewest 167 = .ok (.iconst 0, 1) := dk_3 (dk_at dksX7_fewest_7 3 rfl rfl)
theorem dX7_fewest_168 : decode cX7_fewest 168 = .ok (.iadd, 1) := dk_96 (dk_at dksX7_fewest_7 4 rfl rfl)
theorem dX7_fewest_169 : decode cX7_fewest 169 = .ok (.iadd, 1) := dk_96 (dk_at dksX7_fewest_7 5 rfl rfl)
theorem dX7_fewest_170 : decode cX7_fewest 170 = .ok (.istore_n 1, 1) := dk_60 (dk_at dksX7_fewest_7 6 rfl rfl)
theorem dX7_fewest_171 : decode cX7_fewest 171 = .ok (.iinc 2 1, 3) := dk_132 2 1 (dk_at dksX7_fewest_7 7 rfl rfl)
theorem dX7_fewest_174 : decode cX7_fewest 174 = .ok (.goto (-107), 3) := dk_167 255 149 (dk_at dksX7_fewest_7 10 rfl rfl)
theorem dX7_fewest_177 : decode cX7_fewest 177 = .ok (.aload_n 0, 1) := dk_42 (dk_at dksX7_fewest_7 13 rfl rfl)
theorem dX7_fewest_178 : decode cX7_fewest 178 = .ok (.iload_n 1, 1) := dk_27 (dk_at dksX7_fewest_7 14 rfl rfl)
theorem dX7_fewest_179 : decode cX7_fewest 179 = .ok (.invokevirtual 191, 3) := dk_182 0 191 (dk_at dksX7_fewest_7 15 rfl rfl)
theorem dX7_fewest_182 : decode cX7_fewest 182 = .ok (.ireturn, 1) := dk_172 (dk_at dksX7_fewest_7 18 rfl rfl)
abbrev cX7_leastOf : ByteArray := prog_17_method_104_code
def yX7_leastOf : MethodName := ⟨RX7, "leastOf", "(II)I"⟩
def dkwX7_leastOf_5 : List UInt8 := [184, 0, 154, 79, 132, 4, 1, 167, 255, 158, 132, 3, 255, 167, 255, 135, 42, 180, 0, 59, 27, 46, 172]
abbrev dktX7_leastOf_5 : List UInt8 := dkwX7_leastOf_5 ++ []
def dkwX7_leastOf_4 : List UInt8 := [167, 0, 4, 3, 96, 42, 180, 0, 59, 29, 42, 180, 0, 7, 3, 21, 4, 184, 0, 194, 46, 96, 46, 96]
abbrev dktX7_leastOf_4 : List UInt8 := dkwX7_leastOf_4 ++ dktX7_leastOf_5
def dkwX7_leastOf_3 : List UInt8 := [180, 0, 59, 29, 46, 42, 21, 4, 182, 1, 44, 42, 29, 182, 0, 239, 184, 0, 236, 153, 0, 7, 4]
abbrev dktX7_leastOf_3 : List UInt8 := dkwX7_leastOf_3 ++ dktX7_leastOf_4
def dkwX7_leastOf_2 : List UInt8 := [184, 0, 249, 154, 0, 72, 42, 21, 4, 29, 27, 28, 182, 0, 252, 153, 0, 60, 42, 180, 0, 59, 29, 42]
abbrev dktX7_leastOf_2 : List UInt8 := dkwX7_leastOf_2 ++ dktX7_leastOf_3
def dkwX7_leastOf_1 : List UInt8 := [79, 3, 54, 4, 21, 4, 42, 180, 0, 7, 3, 46, 162, 0, 93, 42, 180, 0, 7, 16, 6, 46, 21, 4]
abbrev dktX7_leastOf_1 : List UInt8 := dkwX7_leastOf_1 ++ dktX7_leastOf_2
def dkwX7_leastOf_0 : List UInt8 := [42, 180, 0, 59, 28, 3, 79, 28, 4, 100, 62, 29, 27, 161, 0, 122, 42, 180, 0, 59, 29, 19, 1, 106]
abbrev dktX7_leastOf_0 : List UInt8 := dkwX7_leastOf_0 ++ dktX7_leastOf_1
theorem dksX7_leastOf_0 : cX7_leastOf.data.toList.drop 0 = dktX7_leastOf_0 := by decide +kernel
theorem dksX7_leastOf_1 : cX7_leastOf.data.toList.drop 24 = dktX7_leastOf_1 := dk_seg dksX7_leastOf_0 24 rfl rfl
theorem dksX7_leastOf_2 : cX7_leastOf.data.toList.drop 48 = dktX7_leastOf_2 := dk_seg dksX7_leastOf_1 24 rfl rfl
theorem dksX7_leastOf_3 : cX7_leastOf.data.toList.drop 72 = dktX7_leastOf_3 := dk_seg dksX7_leastOf_2 24 rfl rfl
theorem dksX7_leastOf_4 : cX7_leastOf.data.toList.drop 95 = dktX7_leastOf_4 := dk_seg dksX7_leastOf_3 23 rfl rfl
theorem dksX7_leastOf_5 : cX7_leastOf.data.toList.drop 119 = dktX7_leastOf_5 := dk_seg dksX7_leastOf_4 24 rfl rfl
theorem dX7_leastOf_0 : decode cX7_leastOf 0 = .ok (.aload_n 0, 1) := dk_42 (dk_at dksX7_leastOf_0 0 rfl rfl)
theorem dX7_leastOf_1 : decode cX7_leastOf 1 = .ok (.getfield 59, 3) := dk_180 0 59 (dk_at dksX7_leastOf_0 1 rfl rfl)
theorem dX7_leastOf_4 : decode cX7_leastOf 4 = .ok (.iload_n 2, 1) := dk_28 (dk_at dksX7_leastOf_0 4 rfl rfl)
theorem dX7_leastOf_5 : decode cX7_leastOf 5 = .ok (.iconst 0, 1) := dk_3 (dk_at dksX7_leastOf_0 5 rfl rfl)
theorem dX7_leastOf_6 : decode cX7_leastOf 6 = .ok (.iastore, 1) := dk_79 (dk_at dksX7_leastOf_0 6 rfl rfl)
theorem dX7_leastOf_7 : decode cX7_leastOf 7 = .ok (.iload_n 2, 1) := dk_28 (dk_at dksX7_leastOf_0 7 rfl rfl)
theorem dX7_leastOf_8 : decode cX7_leastOf 8 = .ok (.iconst 1, 1) := dk_4 (dk_at dksX7_leastOf_0 8 rfl rfl)
theorem dX7_leastOf_9 : decode cX7_leastOf 9 = .ok (.isub, 1) := dk_100 (dk_at dksX7_leastOf_0 9 rfl rfl)
theorem dX7_leastOf_10 : decode cX7_leastOf 10 = .ok (.istore_n 3, 1) := dk_62 (dk_at dksX7_leastOf_0 10 rfl rfl)
theorem dX7_leastOf_11 : decode cX7_leastOf 11 = .ok (.iload_n 3, 1) := dk_29 (dk_at dksX7_leastOf_0 11 rfl rfl)
theorem dX7_leastOf_12 : decode cX7_leastOf 12 = .ok (.iload_n 1, 1) := dk_27 (dk_at dksX7_leastOf_0 12 rfl rfl)
theorem dX7_leastOf_13 : decode cX7_leastOf 13 = .ok (.if_icmp .lt 122, 3) := dk_161 0 122 (dk_at dksX7_leastOf_0 13 rfl rfl)
theorem dX7_leastOf_16 : decode cX7_leastOf 16 = .ok (.aload_n 0, 1) := dk_42 (dk_at dksX7_leastOf_0 16 rfl rfl)
theorem dX7_leastOf_17 : decode cX7_leastOf 17 = .ok (.getfield 59, 3) := dk_180 0 59 (dk_at dksX7_leastOf_0 17 rfl rfl)
theorem dX7_leastOf_20 : decode cX7_leastOf 20 = .ok (.iload_n 3, 1) := dk_29 (dk_at dksX7_leastOf_0 20 rfl rfl)
theorem dX7_leastOf_21 : decode cX7_leastOf 21 = .ok (.ldc_w 362, 3) := dk_19 1 106 (dk_at dksX7_leastOf_0 21 rfl rfl)
theorem dX7_leastOf_24 : decode cX7_leastOf 24 = .ok (.iastore, 1) := dk_79 (dk_at dksX7_leastOf_1 0 rfl rfl)
theorem dX7_leastOf_25 : decode cX7_leastOf 25 = .ok (.iconst 0, 1) := dk_3 (dk_at dksX7_leastOf_1 1 rfl rfl)
theorem dX7_leastOf_26 : decode cX7_leastOf 26 = .ok (.istore 4, 2) := dk_54 4 (dk_at dksX7_leastOf_1 2 rfl rfl)
theorem dX7_leastOf_28 : decode cX7_leastOf 28 = .ok (.iload 4, 2) := dk_21 4 (dk_at dksX7_leastOf_1 4 rfl rfl)
theorem dX7_leastOf_30 : decode cX7_leastOf 30 = .ok (.aload_n 0, 1) := dk_42 (dk_at dksX7_leastOf_1 6 rfl rfl)
theorem dX7_leastOf_31 : decode cX7_leastOf 31 = .ok (.getfield 7, 3) := dk_180 0 7 (dk_at dksX7_leastOf_1 7 rfl rfl)
theorem dX7_leastOf_34 : decode cX7_leastOf 34 = .ok (.iconst 0, 1) := dk_3 (dk_at dksX7_leastOf_1 10 rfl rfl)
theorem dX7_leastOf_35 : decode cX7_leastOf 35 = .ok (.iaload, 1) := dk_46 (dk_at dksX7_leastOf_1 11 rfl rfl)
theorem dX7_leastOf_36 : decode cX7_leastOf 36 = .ok (.if_icmp .ge 93, 3) := dk_162 0 93 (dk_at dksX7_leastOf_1 12 rfl rfl)
theorem dX7_leastOf_39 : decode cX7_leastOf 39 = .ok (.aload_n 0, 1) := dk_42 (dk_at dksX7_leastOf_1 15 rfl rfl)
theorem dX7_leastOf_40 : decode cX7_leastOf 40 = .ok (.getfield 7, 3) := dk_180 0 7 (dk_at dksX7_leastOf_1 16 rfl rfl)
theorem dX7_leastOf_43 : decode cX7_leastOf 43 = .ok (.bipush 6, 2) := dk_16 6 (dk_at dksX7_leastOf_1 19 rfl rfl)
theorem dX7_leastOf_45 : decode cX7_leastOf 45 = .ok (.iaload, 1) := dk_46 (dk_at dksX7_leastOf_1 21 rfl rfl)
theorem dX7_leastOf_46 : decode cX7_leastOf 46 = .ok (.iload 4, 2) := dk_21 4 (dk_at dksX7_leastOf_1 22 rfl rfl)
theorem dX7_leastOf_48 : decode cX7_leastOf 48 = .ok (.invokestatic 249, 3) := dk_184 0 249 (dk_at dksX7_leastOf_2 0 rfl rfl)
theorem dX7_leastOf_51 : decode cX7_leastOf 51 = .ok (.ifCond .ne 72, 3) := dk_154 0 72 (dk_at dksX7_leastOf_2 3 rfl rfl)
theorem dX7_leastOf_54 : decode cX7_leastOf 54 = .ok (.aload_n 0, 1) := dk_42 (dk_at dksX7_leastOf_2 6 rfl rfl)
theorem dX7_leastOf_55 : decode cX7_leastOf 55 = .ok (.iload 4, 2) := dk_21 4 (dk_at dksX7_leastOf_2 7 rfl rfl)
theorem dX7_leastOf_57 : decode cX7_leastOf 57 = .ok (.iload_n 3, 1) := dk_29 (dk_at dksX7_leastOf_2 9 rfl rfl)
theorem dX7_leastOf_58 : decode cX7_leastOf 58 = .ok (.iload_n 1, 1) := dk_27 (dk_at dksX7_leastOf_2 10 rfl rfl)
theorem dX7_leastOf_59 : decode cX7_leastOf 59 = .ok (.iload_n 2, 1) := dk_28 (dk_at dksX7_leastOf_2 11 rfl rfl)
theorem dX7_leastOf_60 : decode cX7_leastOf 60 = .ok (.invokevirtual 252, 3) := dk_182 0 252 (dk_at dksX7_leastOf_2 12 rfl rfl)
theorem dX7_leastOf_63 : decode cX7_leastOf 63 = .ok (.ifCond .eq 60, 3) := dk_153 0 60 (dk_at dksX7_leastOf_2 15 rfl rfl)
theorem dX7_leastOf_66 : decode cX7_leastOf 66 = .ok (.aload_n 0, 1) := dk_42 (dk_at dksX7_leastOf_2 18 rfl rfl)
theorem dX7_leastOf_67 : decode cX7_leastOf 67 = .ok (.getfield 59, 3) := dk_180 0 59 (dk_at dksX7_leastOf_2 19 rfl rfl)
theorem dX7_leastOf_70 : decode cX7_leastOf 70 = .ok (.iload_n 3, 1) := dk_29 (dk_at dksX7_leastOf_2 22 rfl rfl)
theorem dX7_leastOf_71 : decode cX7_leastOf 71 = .ok (.aload_n 0, 1) := dk_42 (dk_at dksX7_leastOf_2 23 rfl rfl)
theorem dX7_leastOf_72 : decode cX7_leastOf 72 = .ok (.getfield 59, 3) := dk_180 0 59 (dk_at dksX7_leastOf_3 0 rfl rfl)
theorem dX7_leastOf_75 : decode cX7_leastOf 75 = .ok (.iload_n 3, 1) := dk_29 (dk_at dksX7_leastOf_3 3 rfl rfl)
theorem dX7_leastOf_76 : decode cX7_leastOf 76 = .ok (.iaload, 1) := dk_46 (dk_at dksX7_leastOf_3 4 rfl rfl)
theorem dX7_leastOf_77 : decode cX7_leastOf 77 = .ok (.aload_n 0, 1) := dk_42 (dk_at dksX7_leastOf_3 5 rfl rfl)
theorem dX7_leastOf_78 : decode cX7_leastOf 78 = .ok (.iload 4, 2) := dk_21 4 (dk_at dksX7_leastOf_3 6 rfl rfl)
theorem dX7_leastOf_80 : decode cX7_leastOf 80 = .ok (.invokevirtual 300, 3) := dk_182 1 44 (dk_at dksX7_leastOf_3 8 rfl rfl)
theorem dX7_leastOf_83 : decode cX7_leastOf 83 = .ok (.aload_n 0, 1) := dk_42 (dk_at dksX7_leastOf_3 11 rfl rfl)
theorem dX7_leastOf_84 : decode cX7_leastOf 84 = .ok (.iload_n 3, 1) := dk_29 (dk_at dksX7_leastOf_3 12 rfl rfl)
theorem dX7_leastOf_85 : decode cX7_leastOf 85 = .ok (.invokevirtual 239, 3) := dk_182 0 239 (dk_at dksX7_leastOf_3 13 rfl rfl)
theorem dX7_leastOf_88 : decode cX7_leastOf 88 = .ok (.invokestatic 236, 3) := dk_184 0 236 (dk_at dksX7_leastOf_3 16 rfl rfl)
theorem dX7_leastOf_91 : decode cX7_leastOf 91 = .ok (.ifCond .eq 7, 3) := dk_153 0 7 (dk_at dksX7_leastOf_3 19 rfl rfl)
theorem dX7_leastOf_94 : decode cX7_leastOf 94 = .ok (.iconst 1, 1) := dk_4 (dk_at dksX7_leastOf_3 22 rfl rfl)
theorem dX7_leastOf_95 : decode cX7_leastOf 95 = .ok (.goto 4, 3) := dk_167 0 4 (dk_at dksX7_leastOf_4 0 rfl rfl)
theorem dX7_leastOf_98 : decode cX7_leastOf 98 = .ok (.iconst 0, 1) := dk_3 (dk_at dksX7_leastOf_4 3 rfl rfl)
theorem dX7_leastOf_99 : decode cX7_leastOf 99 = .ok (.iadd, 1) := dk_96 (dk_at dksX7_leastOf_4 4 rfl rfl)
theorem dX7_leastOf_100 : decode cX7_leastOf 100 = .ok (.aload_n 0, 1) := dk_42 (dk_at dksX7_leastOf_4 5 rfl rfl)
theorem dX7_leastOf_101 : decode cX7_leastOf 101 = .ok (.getfield 59, 3) := dk_180 0 59 (dk_at dksX7_leastOf_4 6 rfl rfl)
theorem dX7_leastOf_104 : decode cX7_leastOf 104 = .ok (.iload_n 3, 1) := dk_29 (dk_at dksX7_leastOf_4 9 rfl rfl)
theorem dX7_leastOf_105 : decode cX7_leastOf 105 = .ok (.aload_n 0, 1) := dk_42 (dk_at dksX7_leastOf_4 10 rfl rfl)
theorem dX7_leastOf_106 : decode cX7_leastOf 106 = .ok (.getfield 7, 3) := dk_180 0 7 (dk_at dksX7_leastOf_4 11 rfl rfl)
theorem dX7_leastOf_109 : decode cX7_leastOf 109 = .ok (.iconst 0, 1) := dk_3 (dk_at dksX7_leastOf_4 14 rfl rfl)
theorem dX7_leastOf_110 : decode cX7_leastOf 110 = .ok (.iload 4, 2) := dk_21 4 (dk_at dksX7_leastOf_4 15 rfl rfl)
theorem dX7_leastOf_112 : decode cX7_leastOf 112 = .ok (.invokestatic 194, 3) := dk_184 0 194 (dk_at dksX7_leastOf_4 17 rfl rfl)
theorem dX7_leastOf_115 : decode cX7_leastOf 115 = .ok (.iaload, 1) := dk_46 (dk_at dksX7_leastOf_4 20 rfl rfl)
theorem dX7_leastOf_116 : decode cX7_leastOf 116 = .ok (.iadd, 1) := dk_96 (dk_at dksX7_leastOf_4 21 rfl rfl)
theorem dX7_leastOf_117 : decode cX7_leastOf 117 = .ok (.iaload, 1) := dk_46 (dk_at dksX7_leastOf_4 22 rfl rfl)
theorem dX7_leastOf_118 : decode cX7_leastOf 118 = .ok (.iadd, 1) := dk_96 (dk_at dksX7_leastOf_4 23 rfl rfl)
theorem dX7_leastOf_119 : decode cX7_leastOf 119 = .ok (.invokestatic 154, 3) := dk_184 0 154 (dk_at dksX7_leastOf_5 0 rfl rfl)
theorem dX7_leastOf_122 : decode cX7_leastOf 122 = .ok (.iastore, 1) := dk_79 (dk_at dksX7_leastOf_5 3 rfl rfl)
theorem dX7_leastOf_123 : decode cX7_leastOf 123 = .ok (.iinc 4 1, 3) := dk_132 4 1 (dk_at dksX7_leastOf_5 4 rfl rfl)
theorem dX7_leastOf_126 : decode cX7_leastOf 126 = .ok (.goto (-98), 3) := dk_167 255 158 (dk_at dksX7_leastOf_5 7 rfl rfl)
theorem dX7_leastOf_129 : decode cX7_leastOf 129 = .ok (.iinc 3 (-1), 3) := dk_132 3 255 (dk_at dksX7_leastOf_5 10 rfl rfl)
theorem dX7_leastOf_132 : decode cX7_leastOf 132 = .ok (.goto (-121), 3) := dk_167 255 135 (dk_at dksX7_leastOf_5 13 rfl rfl)
theorem dX7_leastOf_135 : decode cX7_leastOf 135 = .ok (.aload_n 0, 1) := dk_42 (dk_at dksX7_leastOf_5 16 rfl rfl)
theorem dX7_leastOf_136 : decode cX7_leastOf 136 = .ok (.getfield 59, 3) := dk_180 0 59 (dk_at dksX7_leastOf_5 17 rfl rfl)
theorem dX7_leastOf_139 : decode cX7_leastOf 139 = .ok (.iload_n 1, 1) := dk_27 (dk_at dksX7_leastOf_5 20 rfl rfl)
theorem dX7_leastOf_140 : decode cX7_leastOf 140 = .ok (.iaload, 1) := dk_46 (dk_at dksX7_leastOf_5 21 rfl rfl)
theorem dX7_leastOf_141 : decode cX7_leastOf 141 = .ok (.ireturn, 1) := dk_172 (dk_at dksX7_leastOf_5 22 rfl rfl)
abbrev cX7_saving : ByteArray := prog_17_method_107_code
def yX7_saving : MethodName := ⟨RX7, "saving", "(I)I"⟩
def dkwX7_saving_3 : List UInt8 := [167, 0, 10, 42, 29, 28, 100, 182, 0, 191, 172]
abbrev dktX7_saving_3 : List UInt8 := dkwX7_saving_3 ++ []
def dkwX7_saving_2 : List UInt8 := [4, 27, 120, 128, 182, 1, 110, 62, 28, 2, 159, 0, 8, 29, 2, 160, 0, 12, 42, 16, 7, 182, 0, 188]
abbrev dktX7_saving_2 : List UInt8 := dkwX7_saving_2 ++ dktX7_saving_3
def dkwX7_saving_1 : List UInt8 := [182, 0, 188, 172, 42, 42, 180, 0, 7, 16, 6, 46, 182, 1, 110, 61, 42, 42, 180, 0, 7, 16, 6, 46]
abbrev dktX7_saving_1 : List UInt8 := dkwX7_saving_1 ++ dktX7_saving_2
def dkwX7_saving_0 : List UInt8 := [42, 27, 182, 1, 41, 154, 0, 9, 42, 4, 182, 0, 188, 172, 42, 182, 1, 50, 154, 0, 10, 42, 16, 6]
abbrev dktX7_saving_0 : List UInt8 := dkwX7_saving_0 ++ dktX7_saving_1
theorem dksX7_saving_0 : cX7_saving.data.toList.drop 0 = dktX7_saving_0 := by decide +kernel
theorem dksX7_saving_1 : cX7_saving.data.toList.drop 24 = dktX7_saving_1 := dk_seg dksX7_saving_0 24 rfl rfl
theorem dksX7_saving_2 : cX7_saving.data.toList.drop 48 = dktX7_saving_2 := dk_seg dksX7_saving_1 24 rfl rfl
theorem dksX7_saving_3 : cX7_saving.data.toList.drop 72 = dktX7_saving_3 := dk_seg dksX7_saving_2 24 rfl rfl
theorem dX7_saving_0 : decode cX7_saving 0 = .ok (.aload_n 0, 1) := dk_42 (dk_at dksX7_saving_0 0 rfl rfl)
theorem dX7_saving_1 : decode cX7_saving 1 = .ok (.iload_n 1, 1) := dk_27 (dk_at dksX7_saving_0 1 rfl rfl)
theorem dX7_saving_2 : decode cX7_saving 2 = .ok (.invokevirtual 297, 3) := dk_182 1 41 (dk_at dksX7_saving_0 2 rfl rfl)
theorem dX7_saving_5 : decode cX7_saving 5 = .ok (.ifCond .ne 9, 3) := dk_154 0 9 (dk_at dksX7_saving_0 5 rfl rfl)
theorem dX7_saving_8 : decode cX7_saving 8 = .ok (.aload_n 0, 1) := dk_42 (dk_at dksX7_saving_0 8 rfl rfl)
theorem dX7_saving_9 : decode cX7_saving 9 = .ok (.iconst 1, 1) := dk_4 (dk_at dksX7_saving_0 9 rfl rfl)
theorem dX7_saving_10 : decode cX7_saving 10 = .ok (.invokevirtual 188, 3) := dk_182 0 188 (dk_at dksX7_saving_0 10 rfl rfl)
theorem dX7_saving_13 : decode cX7_saving 13 = .ok (.ireturn, 1) := dk_172 (dk_at dksX7_saving_0 13 rfl rfl)
theorem dX7_saving_14 : decode cX7_saving 14 = .ok (.aload_n 0, 1) := dk_42 (dk_at dksX7_saving_0 14 rfl rfl)
theorem dX7_saving_15 : decode cX7_saving 15 = .ok (.invokevirtual 306, 3) := dk_182 1 50 (dk_at dksX7_saving_0 15 rfl rfl)
theorem dX7_saving_18 : decode cX7_saving 18 = .ok (.ifCond .ne 10, 3) := dk_154 0 10 (dk_at dksX7_saving_0 18 rfl rfl)
theorem dX7_saving_21 : decode cX7_saving 21 = .ok (.aload_n 0, 1) := dk_42 (dk_at dksX7_saving_0 21 rfl rfl)
theorem dX7_saving_22 : decode cX7_saving 22 = .ok (.bipush 6, 2) := dk_16 6 (dk_at dksX7_saving_0 22 rfl rfl)
theorem dX7_saving_24 : decode cX7_saving 24 = .ok (.invokevirtual 188, 3) := dk_182 0 188 (dk_at dksX7_saving_1 0 rfl rfl)
theorem dX7_saving_27 : decode cX7_saving 27 = .ok (.ireturn, 1) := dk_172 (dk_at dksX7_saving_1 3 rfl rfl)
theorem dX7_saving_28 : decode cX7_saving 28 = .ok (.aload_n 0, 1) := dk_42 (dk_at dksX7_saving_1 4 rfl rfl)
theorem dX7_saving_29 : decode cX7_saving 29 = .ok (.aload_n 0, 1) := dk_42 (dk_at dksX7_saving_1 5 rfl rfl)
theorem dX7_saving_30 : decode cX7_saving 30 = .ok (.getfield 7, 3) := dk_180 0 7 (dk_at dksX7_saving_1 6 rfl rfl)
theorem dX7_saving_33 : decode cX7_saving 33 = .ok (.bipush 6, 2) := dk_16 6 (dk_at dksX7_saving_1 9 rfl rfl)
theorem dX7_saving_35 : decode cX7_saving 35 = .ok (.iaload, 1) := dk_46 (dk_at dksX7_saving_1 11 rfl rfl)
theorem dX7_saving_36 : decode cX7_saving 36 = .ok (.invokevirtual 366, 3) := dk_182 1 110 (dk_at dksX7_saving_1 12 rfl rfl)
theorem dX7_saving_39 : decode cX7_saving 39 = .ok (.istore_n 2, 1) := dk_61 (dk_at dksX7_saving_1 15 rfl rfl)
theorem dX7_saving_40 : decode cX7_saving 40 = .ok (.aload_n 0, 1) := dk_42 (dk_at dksX7_saving_1 16 rfl rfl)
theorem dX7_saving_41 : decode cX7_saving 41 = .ok (.aload_n 0, 1) := dk_42 (dk_at dksX7_saving_1 17 rfl rfl)
theorem dX7_saving_42 : decode cX7_saving 42 = .ok (.getfield 7, 3) := dk_180 0 7 (dk_at dksX7_saving_1 18 rfl rfl)
theorem dX7_saving_45 : decode cX7_saving 45 = .ok (.bipush 6, 2) := dk_16 6 (dk_at dksX7_saving_1 21 rfl rfl)
theorem dX7_saving_47 : decode cX7_saving 47 = .ok (.iaload, 1) := dk_46 (dk_at dksX7_saving_1 23 rfl rfl)
theorem dX7_saving_48 : decode cX7_saving 48 = .ok (.iconst 1, 1) := dk_4 (dk_at dksX7_saving_2 0 rfl rfl)
theorem dX7_saving_49 : decode cX7_saving 49 = .ok (.iload_n 1, 1) := dk_27 (dk_at dksX7_saving_2 1 rfl rfl)
theorem dX7_saving_50 : decode cX7_saving 50 = .ok (.ishl, 1) := dk_120 (dk_at dksX7_saving_2 2 rfl rfl)
theorem dX7_saving_51 : decode cX7_saving 51 = .ok (.ior, 1) := dk_128 (dk_at dksX7_saving_2 3 rfl rfl)
theorem dX7_saving_52 : decode cX7_saving 52 = .ok (.invokevirtual 366, 3) := dk_182 1 110 (dk_at dksX7_saving_2 4 rfl rfl)
theorem dX7_saving_55 : decode cX7_saving 55 = .ok (.istore_n 3, 1) := dk_62 (dk_at dksX7_saving_2 7 rfl rfl)
theorem dX7_saving_56 : decode cX7_saving 56 = .ok (.iload_n 2, 1) := dk_28 (dk_at dksX7_saving_2 8 rfl rfl)
theorem dX7_saving_57 : decode cX7_saving 57 = .ok (.iconst (-1), 1) := dk_2 (dk_at dksX7_saving_2 9 rfl rfl)
theorem dX7_saving_58 : decode cX7_saving 58 = .ok (.if_icmp .eq 8, 3) := dk_159 0 8 (dk_at dksX7_saving_2 10 rfl rfl)
theorem dX7_saving_61 : decode cX7_saving 61 = .ok (.iload_n 3, 1) := dk_29 (dk_at dksX7_saving_2 13 rfl rfl)
theorem dX7_saving_62 : decode cX7_saving 62 = .ok (.iconst (-1), 1) := dk_2 (dk_at dksX7_saving_2 14 rfl rfl)
theorem dX7_saving_63 : decode cX7_saving 63 = .ok (.if_icmp .ne 12, 3) := dk_160 0 12 (dk_at dksX7_saving_2 15 rfl rfl)
theorem dX7_saving_66 : decode cX7_saving 66 = .ok (.aload_n 0, 1) := dk_42 (dk_at dksX7_saving_2 18 rfl rfl)
theorem dX7_saving_67 : decode cX7_saving 67 = .ok (.bipush 7, 2) := dk_16 7 (dk_at dksX7_saving_2 19 rfl rfl)
theorem dX7_saving_69 : decode cX7_saving 69 = .ok (.invokevirtual 188, 3) := dk_182 0 188 (dk_at dksX7_saving_2 21 rfl rfl)
theorem dX7_saving_72 : decode cX7_saving 72 = .ok (.goto 10, 3) := dk_167 0 10 (dk_at dksX7_saving_3 0 rfl rfl)
theorem dX7_saving_75 : decode cX7_saving 75 = .ok (.aload_n 0, 1) := dk_42 (dk_at dksX7_saving_3 3 rfl rfl)
theorem dX7_saving_76 : decode cX7_saving 76 = .ok (.iload_n 3, 1) := dk_29 (dk_at dksX7_saving_3 4 rfl rfl)
theorem dX7_saving_77 : decode cX7_saving 77 = .ok (.iload_n 2, 1) := dk_28 (dk_at dksX7_saving_3 5 rfl rfl)
theorem dX7_saving_78 : decode cX7_saving 78 = .ok (.isub, 1) := dk_100 (dk_at dksX7_saving_3 6 rfl rfl)
theorem dX7_saving_79 : decode cX7_saving 79 = .ok (.invokevirtual 191, 3) := dk_182 0 191 (dk_at dksX7_saving_3 7 rfl rfl)
theorem dX7_saving_82 : decode cX7_saving 82 = .ok (.ireturn, 1) := dk_172 (dk_at dksX7_saving_3 10 rfl rfl)
abbrev cX7_takesBy : ByteArray := prog_17_method_106_code
def yX7_takesBy : MethodName := ⟨RX7, "takesBy", "(I)I"⟩
def dkwX7_takesBy_1 : List UInt8 := [172]
abbrev dktX7_takesBy_1 : List UInt8 := dkwX7_takesBy_1 ++ []
def dkwX7_takesBy_0 : List UInt8 := [42, 182, 1, 53, 42, 27, 182, 1, 35, 153, 0, 14, 42, 180, 0, 7, 17, 64, 124, 46, 167, 0, 4, 2]
abbrev dktX7_takesBy_0 : List UInt8 := dkwX7_takesBy_0 ++ dktX7_takesBy_1
theorem dksX7_takesBy_0 : cX7_takesBy.data.toList.drop 0 = dktX7_takesBy_0 := by decide +kernel
theorem dksX7_takesBy_1 : cX7_takesBy.data.toList.drop 24 = dktX7_takesBy_1 := dk_seg dksX7_takesBy_0 24 rfl rfl
theorem dX7_takesBy_0 : decode cX7_takesBy 0 = .ok (.aload_n 0, 1) := dk_42 (dk_at dksX7_takesBy_0 0 rfl rfl)
theorem dX7_takesBy_1 : decode cX7_takesBy 1 = .ok (.invokevirtual 309, 3) := dk_182 1 53 (dk_at dksX7_takesBy_0 1 rfl rfl)
theorem dX7_takesBy_4 : decode cX7_takesBy 4 = .ok (.aload_n 0, 1) := dk_42 (dk_at dksX7_takesBy_0 4 rfl rfl)
theorem dX7_takesBy_5 : decode cX7_takesBy 5 = .ok (.iload_n 1, 1) := dk_27 (dk_at dksX7_takesBy_0 5 rfl rfl)
theorem dX7_takesBy_6 : decode cX7_takesBy 6 = .ok (.invokevirtual 291, 3) := dk_182 1 35 (dk_at dksX7_takesBy_0 6 rfl rfl)
theorem dX7_takesBy_9 : decode cX7_takesBy 9 = .ok (.ifCond .eq 14, 3) := dk_153 0 14 (dk_at dksX7_takesBy_0 9 rfl rfl)
theorem dX7_takesBy_12 : decode cX7_takesBy 12 = .ok (.aload_n 0, 1) := dk_42 (dk_at dksX7_takesBy_0 12 rfl rfl)
theorem dX7_takesBy_13 : decode cX7_takesBy 13 = .ok (.getfield 7, 3) := dk_180 0 7 (dk_at dksX7_takesBy_0 13 rfl rfl)
theorem dX7_takesBy_16 : decode cX7_takesBy 16 = .ok (.sipush 16508, 3) := dk_17 64 124 (dk_at dksX7_takesBy_0 16 rfl rfl)
theorem dX7_takesBy_19 : decode cX7_takesBy 19 = .ok (.iaload, 1) := dk_46 (dk_at dksX7_takesBy_0 19 rfl rfl)
theorem dX7_takesBy_20 : decode cX7_takesBy 20 = .ok (.goto 4, 3) := dk_167 0 4 (dk_at dksX7_takesBy_0 20 rfl rfl)
theorem dX7_takesBy_23 : decode cX7_takesBy 23 = .ok (.iconst (-1), 1) := dk_2 (dk_at dksX7_takesBy_0 23 rfl rfl)
theorem dX7_takesBy_24 : decode cX7_takesBy 24 = .ok (.ireturn, 1) := dk_172 (dk_at dksX7_takesBy_1 0 rfl rfl)
abbrev cX7_cheapest : ByteArray := prog_17_method_108_code
def yX7_cheapest : MethodName := ⟨RX7, "cheapest", "()I"⟩
def dkwX7_cheapest_6 : List UInt8 := [182, 0, 191, 172]
abbrev dktX7_cheapest_6 : List UInt8 := dkwX7_cheapest_6 ++ []
def dkwX7_cheapest_5 : List UInt8 := [132, 3, 1, 167, 255, 184, 27, 2, 160, 0, 12, 42, 16, 6, 182, 0, 188, 167, 0, 8, 42, 27]
abbrev dktX7_cheapest_5 : List UInt8 := dkwX7_cheapest_5 ++ dktX7_cheapest_6
def dkwX7_cheapest_4 : List UInt8 := [159, 0, 22, 27, 2, 159, 0, 12, 21, 4, 28, 161, 0, 6, 167, 0, 8, 21, 4, 61, 29, 60]
abbrev dktX7_cheapest_4 : List UInt8 := dkwX7_cheapest_4 ++ dktX7_cheapest_5
def dkwX7_cheapest_3 : List UInt8 := [167, 0, 45, 42, 42, 180, 0, 7, 16, 6, 46, 4, 29, 120, 128, 182, 1, 110, 54, 4, 21, 4, 2]
abbrev dktX7_cheapest_3 : List UInt8 := dkwX7_cheapest_3 ++ dktX7_cheapest_4
def dkwX7_cheapest_2 : List UInt8 := [180, 0, 7, 3, 46, 162, 0, 68, 42, 180, 0, 7, 16, 6, 46, 29, 184, 0, 249, 153, 0, 6]
abbrev dktX7_cheapest_2 : List UInt8 := dkwX7_cheapest_2 ++ dktX7_cheapest_3
def dkwX7_cheapest_1 : List UInt8 := [182, 1, 110, 2, 160, 0, 10, 42, 16, 7, 182, 0, 188, 172, 2, 60, 3, 61, 3, 62, 29, 42]
abbrev dktX7_cheapest_1 : List UInt8 := dkwX7_cheapest_1 ++ dktX7_cheapest_2
def dkwX7_cheapest_0 : List UInt8 := [42, 182, 1, 50, 154, 0, 10, 42, 16, 6, 182, 0, 188, 172, 42, 42, 180, 0, 7, 16, 6, 46]
abbrev dktX7_cheapest_0 : List UInt8 := dkwX7_cheapest_0 ++ dktX7_cheapest_1
theorem dksX7_cheapest_0 : cX7_cheapest.data.toList.drop 0 = dktX7_cheapest_0 := by decide +kernel
theorem dksX7_cheapest_1 : cX7_cheapest.data.toList.drop 22 = dktX7_cheapest_1 := dk_seg dksX7_cheapest_0 22 rfl rfl
theorem dksX7_cheapest_2 : cX7_cheapest.data.toList.drop 44 = dktX7_cheapest_2 := dk_seg dksX7_cheapest_1 22 rfl rfl
theorem dksX7_cheapest_3 : cX7_cheapest.data.toList.drop 66 = dktX7_cheapest_3 := dk_seg dksX7_cheapest_2 22 rfl rfl
theorem dksX7_cheapest_4 : cX7_cheapest.data.toList.drop 89 = dktX7_cheapest_4 := dk_seg dksX7_cheapest_3 23 rfl rfl
theorem dksX7_cheapest_5 : cX7_cheapest.data.toList.drop 111 = dktX7_cheapest_5 := dk_seg dksX7_cheapest_4 22 rfl rfl
theorem dksX7_cheapest_6 : cX7_cheapest.data.toList.drop 133 = dktX7_cheapest_6 := dk_seg dksX7_cheapest_5 22 rfl rfl
theorem dX7_cheapest_0 : decode cX7_cheapest 0 = .ok (.aload_n 0, 1) := dk_42 (dk_at dksX7_cheapest_0 0 rfl rfl)
theorem dX7_cheapest_1 : decode cX7_cheapest 1 = .ok (.invokevirtual 306, 3) := dk_182 1 50 (dk_at dksX7_cheapest_0 1 rfl rfl)
theorem dX7_cheapest_4 : decode cX7_cheapest 4 = .ok (.ifCond .ne 10, 3) := dk_154 0 10 (dk_at dksX7_cheapest_0 4 rfl rfl)
theorem dX7_cheapest_7 : decode cX7_cheapest 7 = .ok (.aload_n 0, 1) := dk_42 (dk_at dksX7_cheapest_0 7 rfl rfl)
theorem dX7_cheapest_8 : decode cX7_cheapest 8 = .ok (.bipush 6, 2) := dk_16 6 (dk_at dksX7_cheapest_0 8 rfl rfl)
theorem dX7_cheapest_10 : decode cX7_cheapest 10 = .ok (.invokevirtual 188, 3) := dk_182 0 188 (dk_at dksX7_cheapest_0 10 rfl rfl)
theorem dX7_cheapest_13 : decode cX7_cheapest 13 = .ok (.ireturn, 1) := dk_172 (dk_at dksX7_cheapest_0 13 rfl rfl)
theorem dX7_cheapest_14 : decode cX7_cheapest 14 = .ok (.aload_n 0, 1) := dk_42 (dk_at dksX7_cheapest_0 14 rfl rfl)
theorem dX7_cheapest_15 : decode cX7_cheapest 15 = .ok (.aload_n 0, 1) := dk_42 (dk_at dksX7_cheapest_0 15 rfl rfl)
theorem dX7_cheapest_16 : decode cX7_cheapest 16 = .ok (.getfield 7, 3) := dk_180 0 7 (dk_at dksX7_cheapest_0 16 rfl rfl)
theorem dX7_cheapest_19 : decode cX7_cheapest 19 = .ok (.bipush 6, 2) := dk_16 6 (dk_at dksX7_cheapest_0 19 rfl rfl)
theorem dX7_cheapest_21 : decode cX7_cheapest 21 = .ok (.iaload, 1) := dk_46 (dk_at dksX7_cheapest_0 21 rfl rfl)
theorem dX7_cheapest_22 : decode cX7_cheapest 22 = .ok (.invokevirtual 366, 3) := dk_182 1 110 (dk_at dksX7_cheapest_1 0 rfl rfl)
theorem dX7_cheapest_25 : decode cX7_cheapest 25 = .ok (.iconst (-1), 1) := dk_2 (dk_at dksX7_cheapest_1 3 rfl rfl)
theorem dX7_cheapest_26 : decode cX7_cheapest 26 = .ok (.if_icmp .ne 10, 3) := dk_160 0 10 (dk_at dksX7_cheapest_1 4 rfl rfl)
theorem dX7_cheapest_29 : decode cX7_cheapest 29 = .ok (.aload_n 0, 1) := dk_42 (dk_at dksX7_cheapest_1 7 rfl rfl)
theorem dX7_cheapest_30 : decode cX7_cheapest 30 = .ok (.bipush 7, 2) := dk_16 7 (dk_at dksX7_cheapest_1 8 rfl rfl)
theorem dX7_cheapest_32 : decode cX7_cheapest 32 = .ok (.invokevirtual 188, 3) := dk_182 0 188 (dk_at dksX7_cheapest_1 10 rfl rfl)
theorem dX7_cheapest_35 : decode cX7_cheapest 35 = .ok (.ireturn, 1) := dk_172 (dk_at dksX7_cheapest_1 13 rfl rfl)
theorem dX7_cheapest_36 : decode cX7_cheapest 36 = .ok (.iconst (-1), 1) := dk_2 (dk_at dksX7_cheapest_1 14 rfl rfl)
theorem dX7_cheapest_37 : decode cX7_cheapest 37 = .ok (.istore_n 1, 1) := dk_60 (dk_at dksX7_cheapest_1 15 rfl rfl)
theorem dX7_cheapest_38 : decode cX7_cheapest 38 = .ok (.iconst 0, 1) := dk_3 (dk_at dksX7_cheapest_1 16 rfl rfl)
theorem dX7_cheapest_39 : decode cX7_cheapest 39 = .ok (.istore_n 2, 1) := dk_61 (dk_at dksX7_cheapest_1 17 rfl rfl)
theorem dX7_cheapest_40 : decode cX7_cheapest 40 = .ok (.iconst 0, 1) := dk_3 (dk_at dksX7_cheapest_1 18 rfl rfl)
theorem dX7_cheapest_41 : decode cX7_cheapest 41 = .ok (.istore_n 3, 1) := dk_62 (dk_at dksX7_cheapest_1 19 rfl rfl)
theorem dX7_cheapest_42 : decode cX7_cheapest 42 = .ok (.iload_n 3, 1) := dk_29 (dk_at dksX7_cheapest_1 20 rfl rfl)
theorem dX7_cheapest_43 : decode cX7_cheapest 43 = .ok (.aload_n 0, 1) := dk_42 (dk_at dksX7_cheapest_1 21 rfl rfl)
theorem dX7_cheapest_44 : decode cX7_cheapest 44 = .ok (.getfield 7, 3) := dk_180 0 7 (dk_at dksX7_cheapest_2 0 rfl rfl)
theorem dX7_cheapest_47 : decode cX7_cheapest 47 = .ok (.iconst 0, 1) := dk_3 (dk_at dksX7_cheapest_2 3 rfl rfl)
theorem dX7_cheapest_48 : decode cX7_cheapest 48 = .ok (.iaload, 1) := dk_46 (dk_at dksX7_cheapest_2 4 rfl rfl)
theorem dX7_cheapest_49 : decode cX7_cheapest 49 = .ok (.if_icmp .ge 68, 3) := dk_162 0 68 (dk_at dksX7_cheapest_2 5 rfl rfl)
theorem dX7_cheapest_52 : decode cX7_cheapest 52 = .ok (.aload_n 0, 1) := dk_42 (dk_at dksX7_cheapest_2 8 rfl rfl)
theorem dX7_cheapest_53 : decode cX7_cheapest 53 = .ok (.getfield 7, 3) := dk_180 0 7 (dk_at dksX7_cheapest_2 9 rfl rfl)
theorem dX7_cheapest_56 : decode cX7_cheapest 56 = .ok (.bipush 6, 2) := dk_16 6 (dk_at dksX7_cheapest_2 12 rfl rfl)
theorem dX7_cheapest_58 : decode cX7_cheapest 58 = .ok (.iaload, 1) := dk_46 (dk_at dksX7_cheapest_2 14 rfl rfl)
theorem dX7_cheapest_59 : decode cX7_cheapest 59 = .ok (.iload_n 3, 1) := dk_29 (dk_at dksX7_cheapest_2 15 rfl rfl)
theorem dX7_cheapest_60 : decode cX7_cheapest 60 = .ok (.invokestatic 249, 3) := dk_184 0 249 (dk_at dksX7_cheapest_2 16 rfl rfl)
theorem dX7_cheapest_63 : decode cX7_cheapest 63 = .ok (.ifCond .eq 6, 3) := dk_153 0 6 (dk_at dksX7_cheapest_2 19 rfl rfl)
theorem dX7_cheapest_66 : decode cX7_cheapest 66 = .ok (.goto 45, 3) := dk_167 0 45 (dk_at dksX7_cheapest_3 0 rfl rfl)
theorem dX7_cheapest_69 : decode cX7_cheapest 69 = .ok (.aload_n 0, 1) := dk_42 (dk_at dksX7_cheapest_3 3 rfl rfl)
theorem dX7_cheapest_70 : decode cX7_cheapest 70 = .ok (.aload_n 0, 1) := dk_42 (dk_at dksX7_cheapest_3 4 rfl rfl)
theorem dX7_cheapest_71 : decode cX7_cheapest 71 = .ok (.getfield 7, 3) := dk_180 0 7 (dk_at dksX7_cheapest_3 5 rfl rfl)
theorem dX7_cheapest_74 : decode cX7_cheapest 74 = .ok (.bipush 6, 2) := dk_16 6 (dk_at dksX7_cheapest_3 8 rfl rfl)
theorem dX7_cheapest_76 : decode cX7_cheapest 76 = .ok (.iaload, 1) := dk_46 (dk_at dksX7_cheapest_3 10 rfl rfl)
theorem dX7_cheapest_77 : decode cX7_cheapest 77 = .ok (.iconst 1, 1) := dk_4 (dk_at dksX7_cheapest_3 11 rfl rfl)
theorem dX7_cheapest_78 : decode cX7_cheapest 78 = .ok (.iload_n 3, 1) := dk_29 (dk_at dksX7_cheapest_3 12 rfl rfl)
theorem dX7_cheapest_79 : decode cX7_cheapest 79 = .ok (.ishl, 1) := dk_120 (dk_at dksX7_cheapest_3 13 rfl rfl)
theorem dX7_cheapest_80 : decode cX7_cheapest 80 = .ok (.ior, 1) := dk_128 (dk_at dksX7_cheapest_3 14 rfl rfl)
theorem dX7_cheapest_81 : decode cX7_cheapest 81 = .ok (.invokevirtual 366, 3) := dk_182 1 110 (dk_at dksX7_cheapest_3 15 rfl rfl)
theorem dX7_cheapest_84 : decode cX7_cheapest 84 = .ok (.istore 4, 2) := dk_54 4 (dk_at dksX7_cheapest_3 18 rfl rfl)
theorem dX7_cheapest_86 : decode cX7_cheapest 86 = .ok (.iload 4, 2) := dk_21 4 (dk_at dksX7_cheapest_3 20 rfl rfl)
theorem dX7_cheapest_88 : decode cX7_cheapest 88 = .ok (.iconst (-1), 1) := dk_2 (dk_at dksX7_cheapest_3 22 rfl rfl)
theorem dX7_cheapest_89 : decode cX7_cheapest 89 = .ok (.if_icmp .eq 22, 3) := dk_159 0 22 (dk_at dksX7_cheapest_4 0 rfl rfl)
theorem dX7_cheapest_92 : decode cX7_cheapest 92 = .ok (.iload_n 1, 1) := dk_27 (dk_at dksX7_cheapest_4 3 rfl rfl)
theorem dX7_cheapest_93 : decode cX7_cheapest 93 = .ok (.iconst (-1), 1) := dk_2 (dk_at dksX7_cheapest_4 4 rfl rfl)
theorem dX7_cheapest_94 : decode cX7_cheapest 94 = .ok (.if_icmp .eq 12, 3) := dk_159 0 12 (dk_at dksX7_cheapest_4 5 rfl rfl)
theorem dX7_cheapest_97 : decode cX7_cheapest 97 = .ok (.iload 4, 2) := dk_21 4 (dk_at dksX7_cheapest_4 8 rfl rfl)
theorem dX7_cheapest_99 : decode cX7_cheapest 99 = .ok (.iload_n 2, 1) := dk_28 (dk_at dksX7_cheapest_4 10 rfl rfl)
theorem dX7_cheapest_100 : decode cX7_cheapest 100 = .ok (.if_icmp .lt 6, 3) := dk_161 0 6 (dk_at dksX7_cheapest_4 11 rfl rfl)
theorem dX7_cheapest_103 : decode cX7_cheapest 103 = .ok (.goto 8, 3) := dk_167 0 8 (dk_at dksX7_cheapest_4 14 rfl rfl)
theorem dX7_cheapest_106 : decode cX7_cheapest 106 = .ok (.iload 4, 2) := dk_21 4 (dk_at dksX7_cheapest_4 17 rfl rfl)
theorem dX7_cheapest_108 : decode cX7_cheapest 108 = .ok (.istore_n 2, 1) := dk_61 (dk_at dksX7_cheapest_4 19 rfl rfl)
theorem dX7_cheapest_109 : decode cX7_cheapest 109 = .ok (.iload_n 3, 1) := dk_29 (dk_at dksX7_cheapest_4 20 rfl rfl)
theorem dX7_cheapest_110 : decode cX7_cheapest 110 = .ok (.istore_n 1, 1) := dk_60 (dk_at dksX7_cheapest_4 21 rfl rfl)
theorem dX7_cheapest_111 : decode cX7_cheapest 111 = .ok (.iinc 3 1, 3) := dk_132 3 1 (dk_at dksX7_cheapest_5 0 rfl rfl)
theorem dX7_cheapest_114 : decode cX7_cheapest 114 = .ok (.goto (-72), 3) := dk_167 255 184 (dk_at dksX7_cheapest_5 3 rfl rfl)
theorem dX7_cheapest_117 : decode cX7_cheapest 117 = .ok (.iload_n 1, 1) := dk_27 (dk_at dksX7_cheapest_5 6 rfl rfl)
theorem dX7_cheapest_118 : decode cX7_cheapest 118 = .ok (.iconst (-1), 1) := dk_2 (dk_at dksX7_cheapest_5 7 rfl rfl)
theorem dX7_cheapest_119 : decode cX7_cheapest 119 = .ok (.if_icmp .ne 12, 3) := dk_160 0 12 (dk_at dksX7_cheapest_5 8 rfl rfl)
theorem dX7_cheapest_122 : decode cX7_cheapest 122 = .ok (.aload_n 0, 1) := dk_42 (dk_at dksX7_cheapest_5 11 rfl rfl)
theorem dX7_cheapest_123 : decode cX7_cheapest 123 = .ok (.bipush 6, 2) := dk_16 6 (dk_at dksX7_cheapest_5 12 rfl rfl)
theorem dX7_cheapest_125 : decode cX7_cheapest 125 = .ok (.invokevirtual 188, 3) := dk_182 0 188 (dk_at dksX7_cheapest_5 14 rfl rfl)
theorem dX7_cheapest_128 : decode cX7_cheapest 128 = .ok (.goto 8, 3) := dk_167 0 8 (dk_at dksX7_cheapest_5 17 rfl rfl)
theorem dX7_cheapest_131 : decode cX7_cheapest 131 = .ok (.aload_n 0, 1) := dk_42 (dk_at dksX7_cheapest_5 20 rfl rfl)
theorem dX7_cheapest_132 : decode cX7_cheapest 132 = .ok (.iload_n 1, 1) := dk_27 (dk_at dksX7_cheapest_5 21 rfl rfl)
theorem dX7_cheapest_133 : decode cX7_cheapest 133 = .ok (.invokevirtual 191, 3) := dk_182 0 191 (dk_at dksX7_cheapest_6 0 rfl rfl)
theorem dX7_cheapest_136 : decode cX7_cheapest 136 = .ok (.ireturn, 1) := dk_172 (dk_at dksX7_cheapest_6 3 rfl rfl)
abbrev cX7_ways : ByteArray := prog_17_method_113_code
def yX7_ways : MethodName := ⟨RX7, "ways", "(II)I"⟩
def dkwX7_ways_1 : List UInt8 := [42, 42, 28, 182, 1, 124, 182, 0, 191, 172]
abbrev dktX7_ways_1 : List UInt8 := dkwX7_ways_1 ++ []
def dkwX7_ways_0 : List UInt8 := [42, 27, 28, 4, 182, 1, 117, 62, 29, 158, 0, 9, 42, 29, 182, 0, 188, 172, 42, 27, 28, 182, 1, 121]
abbrev dktX7_ways_0 : List UInt8 := dkwX7_ways_0 ++ dktX7_ways_1
theorem dksX7_ways_0 : cX7_ways.data.toList.drop 0 = dktX7_ways_0 := by decide +kernel
theorem dksX7_ways_1 : cX7_ways.data.toList.drop 24 = dktX7_ways_1 := dk_seg dksX7_ways_0 24 rfl rfl
theorem dX7_ways_0 : decode cX7_ways 0 = .ok (.aload_n 0, 1) := dk_42 (dk_at dksX7_ways_0 0 rfl rfl)
theorem dX7_ways_1 : decode cX7_ways 1 = .ok (.iload_n 1, 1) := dk_27 (dk_at dksX7_ways_0 1 rfl rfl)
theorem dX7_ways_2 : decode cX7_ways 2 = .ok (.iload_n 2, 1) := dk_28 (dk_at dksX7_ways_0 2 rfl rfl)
theorem dX7_ways_3 : decode cX7_ways 3 = .ok (.iconst 1, 1) := dk_4 (dk_at dksX7_ways_0 3 rfl rfl)
theorem dX7_ways_4 : decode cX7_ways 4 = .ok (.invokevirtual 373, 3) := dk_182 1 117 (dk_at dksX7_ways_0 4 rfl rfl)
theorem dX7_ways_7 : decode cX7_ways 7 = .ok (.istore_n 3, 1) := dk_62 (dk_at dksX7_ways_0 7 rfl rfl)
theorem dX7_ways_8 : decode cX7_ways 8 = .ok (.iload_n 3, 1) := dk_29 (dk_at dksX7_ways_0 8 rfl rfl)
theorem dX7_ways_9 : decode cX7_ways 9 = .ok (.ifCond .le 9, 3) := dk_158 0 9 (dk_at dksX7_ways_0 9 rfl rfl)
theorem dX7_ways_12 : decode cX7_ways 12 = .ok (.aload_n 0, 1) := dk_42 (dk_at dksX7_ways_0 12 rfl rfl)
theorem dX7_ways_13 : decode cX7_ways 13 = .ok (.iload_n 3, 1) := dk_29 (dk_at dksX7_ways_0 13 rfl rfl)
theorem dX7_ways_14 : decode cX7_ways 14 = .ok (.invokevirtual 188, 3) := dk_182 0 188 (dk_at dksX7_ways_0 14 rfl rfl)
theorem dX7_ways_17 : decode cX7_ways 17 = .ok (.ireturn, 1) := dk_172 (dk_at dksX7_ways_0 17 rfl rfl)
theorem dX7_ways_18 : decode cX7_ways 18 = .ok (.aload_n 0, 1) := dk_42 (dk_at dksX7_ways_0 18 rfl rfl)
theorem dX7_ways_19 : decode cX7_ways 19 = .ok (.iload_n 1, 1) := dk_27 (dk_at dksX7_ways_0 19 rfl rfl)
theorem dX7_ways_20 : decode cX7_ways 20 = .ok (.iload_n 2, 1) := dk_28 (dk_at dksX7_ways_0 20 rfl rfl)
theorem dX7_ways_21 : decode cX7_ways 21 = .ok (.invokevirtual 377, 3) := dk_182 1 121 (dk_at dksX7_ways_0 21 rfl rfl)
theorem dX7_ways_24 : decode cX7_ways 24 = .ok (.aload_n 0, 1) := dk_42 (dk_at dksX7_ways_1 0 rfl rfl)
theorem dX7_ways_25 : decode cX7_ways 25 = .ok (.aload_n 0, 1) := dk_42 (dk_at dksX7_ways_1 1 rfl rfl)
theorem dX7_ways_26 : decode cX7_ways 26 = .ok (.iload_n 2, 1) := dk_28 (dk_at dksX7_ways_1 2 rfl rfl)
theorem dX7_ways_27 : decode cX7_ways 27 = .ok (.invokevirtual 380, 3) := dk_182 1 124 (dk_at dksX7_ways_1 3 rfl rfl)
theorem dX7_ways_30 : decode cX7_ways 30 = .ok (.invokevirtual 191, 3) := dk_182 0 191 (dk_at dksX7_ways_1 6 rfl rfl)
theorem dX7_ways_33 : decode cX7_ways 33 = .ok (.ireturn, 1) := dk_172 (dk_at dksX7_ways_1 9 rfl rfl)
abbrev cX7_wrongRow : ByteArray := prog_17_method_109_code
def yX7_wrongRow : MethodName := ⟨RX7, "wrongRow", "(III)I"⟩
def dkwX7_wrongRow_3 : List UInt8 := [184, 1, 85, 154, 0, 5, 8, 172, 132, 4, 1, 167, 255, 222, 3, 172]
abbrev dktX7_wrongRow_3 : List UInt8 := dkwX7_wrongRow_3 ++ []
def dkwX7_wrongRow_2 : List UInt8 := [21, 4, 28, 162, 0, 34, 42, 180, 0, 23, 16, 60, 27, 104, 21, 4, 96, 47, 29, 133, 20, 1, 92]
abbrev dktX7_wrongRow_2 : List UInt8 := dkwX7_wrongRow_2 ++ dktX7_wrongRow_3
def dkwX7_wrongRow_1 : List UInt8 := [27, 46, 2, 160, 0, 5, 5, 172, 42, 180, 0, 20, 27, 46, 28, 162, 0, 5, 6, 172, 3, 54, 4]
abbrev dktX7_wrongRow_1 : List UInt8 := dkwX7_wrongRow_1 ++ dktX7_wrongRow_2
def dkwX7_wrongRow_0 : List UInt8 := [27, 184, 0, 109, 153, 0, 14, 28, 4, 161, 0, 9, 28, 16, 20, 164, 0, 5, 4, 172, 42, 180, 0, 20]
abbrev dktX7_wrongRow_0 : List UInt8 := dkwX7_wrongRow_0 ++ dktX7_wrongRow_1
theorem dksX7_wrongRow_0 : cX7_wrongRow.data.toList.drop 0 = dktX7_wrongRow_0 := by decide +kernel
theorem dksX7_wrongRow_1 : cX7_wrongRow.data.toList.drop 24 = dktX7_wrongRow_1 := dk_seg dksX7_wrongRow_0 24 rfl rfl
theorem dksX7_wrongRow_2 : cX7_wrongRow.data.toList.drop 47 = dktX7_wrongRow_2 := dk_seg dksX7_wrongRow_1 23 rfl rfl
theorem dksX7_wrongRow_3 : cX7_wrongRow.data.toList.drop 70 = dktX7_wrongRow_3 := dk_seg dksX7_wrongRow_2 23 rfl rfl
theorem dX7_wrongRow_0 : decode cX7_wrongRow 0 = .ok (.iload_n 1, 1) := dk_27 (dk_at dksX7_wrongRow_0 0 rfl rfl)
theorem dX7_wrongRow_1 : decode cX7_wrongRow 1 = .ok (.invokestatic 109, 3) := dk_184 0 109 (dk_at dksX7_wrongRow_0 1 rfl rfl)
theorem dX7_wrongRow_4 : decode cX7_wrongRow 4 = .ok (.ifCond .eq 14, 3) := dk_153 0 14 (dk_at dksX7_wrongRow_0 4 rfl rfl)
theorem dX7_wrongRow_7 : decode cX7_wrongRow 7 = .ok (.iload_n 2, 1) := dk_28 (dk_at dksX7_wrongRow_0 7 rfl rfl)
theorem dX7_wrongRow_8 : decode cX7_wrongRow 8 = .ok (.iconst 1, 1) := dk_4 (dk_at dksX7_wrongRow_0 8 rfl rfl)
theorem dX7_wrongRow_9 : decode cX7_wrongRow 9 = .ok (.if_icmp .lt 9, 3) := dk_161 0 9 (dk_at dksX7_wrongRow_0 9 rfl rfl)
theorem dX7_wrongRow_12 : decode cX7_wrongRow 12 = .ok (.iload_n 2, 1) := dk_28 (dk_at dksX7_wrongRow_0 12 rfl rfl)
theorem dX7_wrongRow_13 : decode cX7_wrongRow 13 = .ok (.bipush 20, 2) := dk_16 20 (dk_at dksX7_wrongRow_0 13 rfl rfl)
theorem dX7_wrongRow_15 : decode cX7_wrongRow 15 = .ok (.if_icmp .le 5, 3) := dk_164 0 5 (dk_at dksX7_wrongRow_0 15 rfl rfl)
theorem dX7_wrongRow_18 : decode cX7_wrongRow 18 = .ok (.iconst 1, 1) := dk_4 (dk_at dksX7_wrongRow_0 18 rfl rfl)
theorem dX7_wrongRow_19 : decode cX7_wrongRow 19 = .ok (.ireturn, 1) := dk_172 (dk_at dksX7_wrongRow_0 19 rfl rfl)
theorem dX7_wrongRow_20 : decode cX7_wrongRow 20 = .ok (.aload_n 0, 1) := dk_42 (dk_at dksX7_wrongRow_0 20 rfl rfl)
theorem dX7_wrongRow_21 : decode cX7_wrongRow 21 = .ok (.getfield 20, 3) := dk_180 0 20 (dk_at dksX7_wrongRow_0 21 rfl rfl)
theorem dX7_wrongRow_24 : decode cX7_wrongRow 24 = .ok (.iload_n 1, 1) := dk_27 (dk_at dksX7_wrongRow_1 0 rfl rfl)
theorem dX7_wrongRow_25 : decode cX7_wrongRow 25 = .ok (.iaload, 1) := dk_46 (dk_at dksX7_wrongRow_1 1 rfl rfl)
theorem dX7_wrongRow_26 : decode cX7_wrongRow 26 = .ok (.iconst (-1), 1) := dk_2 (dk_at dksX7_wrongRow_1 2 rfl rfl)
theorem dX7_wrongRow_27 : decode cX7_wrongRow 27 = .ok (.if_icmp .ne 5, 3) := dk_160 0 5 (dk_at dksX7_wrongRow_1 3 rfl rfl)
theorem dX7_wrongRow_30 : decode cX7_wrongRow 30 = .ok (.iconst 2, 1) := dk_5 (dk_at dksX7_wrongRow_1 6 rfl rfl)
theorem dX7_wrongRow_31 : decode cX7_wrongRow 31 = .ok (.ireturn, 1) := dk_172 (dk_at dksX7_wrongRow_1 7 rfl rfl)
theorem dX7_wrongRow_32 : decode cX7_wrongRow 32 = .ok (.aload_n 0, 1) := dk_42 (dk_at dksX7_wrongRow_1 8 rfl rfl)
theorem dX7_wrongRow_33 : decode cX7_wrongRow 33 = .ok (.getfield 20, 3) := dk_180 0 20 (dk_at dksX7_wrongRow_1 9 rfl rfl)
theorem dX7_wrongRow_36 : decode cX7_wrongRow 36 = .ok (.iload_n 1, 1) := dk_27 (dk_at dksX7_wrongRow_1 12 rfl rfl)
theorem dX7_wrongRow_37 : decode cX7_wrongRow 37 = .ok (.iaload, 1) := dk_46 (dk_at dksX7_wrongRow_1 13 rfl rfl)
theorem dX7_wrongRow_38 : decode cX7_wrongRow 38 = .ok (.iload_n 2, 1) := dk_28 (dk_at dksX7_wrongRow_1 14 rfl rfl)
theorem dX7_wrongRow_39 : decode cX7_wrongRow 39 = .ok (.if_icmp .ge 5, 3) := dk_162 0 5 (dk_at dksX7_wrongRow_1 15 rfl rfl)
theorem dX7_wrongRow_42 : decode cX7_wrongRow 42 = .ok (.iconst 3, 1) := dk_6 (dk_at dksX7_wrongRow_1 18 rfl rfl)
theorem dX7_wrongRow_43 : decode cX7_wrongRow 43 = .ok (.ireturn, 1) := dk_172 (dk_at dksX7_wrongRow_1 19 rfl rfl)
theorem dX7_wrongRow_44 : decode cX7_wrongRow 44 = .ok (.iconst 0, 1) := dk_3 (dk_at dksX7_wrongRow_1 20 rfl rfl)
theorem dX7_wrongRow_45 : decode cX7_wrongRow 45 = .ok (.istore 4, 2) := dk_54 4 (dk_at dksX7_wrongRow_1 21 rfl rfl)
theorem dX7_wrongRow_47 : decode cX7_wrongRow 47 = .ok (.iload 4, 2) := dk_21 4 (dk_at dksX7_wrongRow_2 0 rfl rfl)
theorem dX7_wrongRow_49 : decode cX7_wrongRow 49 = .ok (.iload_n 2, 1) := dk_28 (dk_at dksX7_wrongRow_2 2 rfl rfl)
theorem dX7_wrongRow_50 : decode cX7_wrongRow 50 = .ok (.if_icmp .ge 34, 3) := dk_162 0 34 (dk_at dksX7_wrongRow_2 3 rfl rfl)
theorem dX7_wrongRow_53 : decode cX7_wrongRow 53 = .ok (.aload_n 0, 1) := dk_42 (dk_at dksX7_wrongRow_2 6 rfl rfl)
theorem dX7_wrongRow_54 : decode cX7_wrongRow 54 = .ok (.getfield 23, 3) := dk_180 0 23 (dk_at dksX7_wrongRow_2 7 rfl rfl)
theorem dX7_wrongRow_57 : decode cX7_wrongRow 57 = .ok (.bipush 60, 2) := dk_16 60 (dk_at dksX7_wrongRow_2 10 rfl rfl)
theorem dX7_wrongRow_59 : decode cX7_wrongRow 59 = .ok (.iload_n 1, 1) := dk_27 (dk_at dksX7_wrongRow_2 12 rfl rfl)
theorem dX7_wrongRow_60 : decode cX7_wrongRow 60 = .ok (.imul, 1) := dk_104 (dk_at dksX7_wrongRow_2 13 rfl rfl)
theorem dX7_wrongRow_61 : decode cX7_wrongRow 61 = .ok (.iload 4, 2) := dk_21 4 (dk_at dksX7_wrongRow_2 14 rfl rfl)
theorem dX7_wrongRow_63 : decode cX7_wrongRow 63 = .ok (.iadd, 1) := dk_96 (dk_at dksX7_wrongRow_2 16 rfl rfl)
theorem dX7_wrongRow_64 : decode cX7_wrongRow 64 = .ok (.laload, 1) := dk_47 (dk_at dksX7_wrongRow_2 17 rfl rfl)
theorem dX7_wrongRow_65 : decode cX7_wrongRow 65 = .ok (.iload_n 3, 1) := dk_29 (dk_at dksX7_wrongRow_2 18 rfl rfl)
theorem dX7_wrongRow_66 : decode cX7_wrongRow 66 = .ok (.i2l, 1) := dk_133 (dk_at dksX7_wrongRow_2 19 rfl rfl)
theorem dX7_wrongRow_67 : decode cX7_wrongRow 67 = .ok (.ldc2_w 348, 3) := dk_20 1 92 (dk_at dksX7_wrongRow_2 20 rfl rfl)
theorem dX7_wrongRow_70 : decode cX7_wrongRow 70 = .ok (.invokestatic 341, 3) := dk_184 1 85 (dk_at dksX7_wrongRow_3 0 rfl rfl)
theorem dX7_wrongRow_73 : decode cX7_wrongRow 73 = .ok (.ifCond .ne 5, 3) := dk_154 0 5 (dk_at dksX7_wrongRow_3 3 rfl rfl)
theorem dX7_wrongRow_76 : decode cX7_wrongRow 76 = .ok (.iconst 5, 1) := dk_8 (dk_at dksX7_wrongRow_3 6 rfl rfl)
theorem dX7_wrongRow_77 : decode cX7_wrongRow 77 = .ok (.ireturn, 1) := dk_172 (dk_at dksX7_wrongRow_3 7 rfl rfl)
theorem dX7_wrongRow_78 : decode cX7_wrongRow 78 = .ok (.iinc 4 1, 3) := dk_132 4 1 (dk_at dksX7_wrongRow_3 8 rfl rfl)
theorem dX7_wrongRow_81 : decode cX7_wrongRow 81 = .ok (.goto (-34), 3) := dk_167 255 222 (dk_at dksX7_wrongRow_3 11 rfl rfl)
theorem dX7_wrongRow_84 : decode cX7_wrongRow 84 = .ok (.iconst 0, 1) := dk_3 (dk_at dksX7_wrongRow_3 14 rfl rfl)
theorem dX7_wrongRow_85 : decode cX7_wrongRow 85 = .ok (.ireturn, 1) := dk_172 (dk_at dksX7_wrongRow_3 15 rfl rfl)
abbrev cX7_laysRow : ByteArray := prog_17_method_110_code
def yX7_laysRow : MethodName := ⟨RX7, "laysRow", "(II)V"⟩
def dkwX7_laysRow_1 : List UInt8 := [79, 42, 180, 0, 65, 29, 3, 79, 132, 3, 1, 167, 255, 223, 177]
abbrev dktX7_laysRow_1 : List UInt8 := dkwX7_laysRow_1 ++ []
def dkwX7_laysRow_0 : List UInt8 := [3, 62, 29, 28, 162, 0, 34, 42, 180, 0, 62, 29, 42, 180, 0, 23, 16, 60, 27, 104, 29, 96, 47, 136]
abbrev dktX7_laysRow_0 : List UInt8 := dkwX7_laysRow_0 ++ dktX7_laysRow_1
theorem dksX7_laysRow_0 : cX7_laysRow.data.toList.drop 0 = dktX7_laysRow_0 := by decide +kernel
theorem dksX7_laysRow_1 : cX7_laysRow.data.toList.drop 24 = dktX7_laysRow_1 := dk_seg dksX7_laysRow_0 24 rfl rfl
theorem dX7_laysRow_0 : decode cX7_laysRow 0 = .ok (.iconst 0, 1) := dk_3 (dk_at dksX7_laysRow_0 0 rfl rfl)
theorem dX7_laysRow_1 : decode cX7_laysRow 1 = .ok (.istore_n 3, 1) := dk_62 (dk_at dksX7_laysRow_0 1 rfl rfl)
theorem dX7_laysRow_2 : decode cX7_laysRow 2 = .ok (.iload_n 3, 1) := dk_29 (dk_at dksX7_laysRow_0 2 rfl rfl)
theorem dX7_laysRow_3 : decode cX7_laysRow 3 = .ok (.iload_n 2, 1) := dk_28 (dk_at dksX7_laysRow_0 3 rfl rfl)
theorem dX7_laysRow_4 : decode cX7_laysRow 4 = .ok (.if_icmp .ge 34, 3) := dk_162 0 34 (dk_at dksX7_laysRow_0 4 rfl rfl)
theorem dX7_laysRow_7 : decode cX7_laysRow 7 = .ok (.aload_n 0, 1) := dk_42 (dk_at dksX7_laysRow_0 7 rfl rfl)
theorem dX7_laysRow_8 : decode cX7_laysRow 8 = .ok (.getfield 62, 3) := dk_180 0 62 (dk_at dksX7_laysRow_0 8 rfl rfl)
theorem dX7_laysRow_11 : decode cX7_laysRow 11 = .ok (.iload_n 3, 1) := dk_29 (dk_at dksX7_laysRow_0 11 rfl rfl)
theorem dX7_laysRow_12 : decode cX7_laysRow 12 = .ok (.aload_n 0, 1) := dk_42 (dk_at dksX7_laysRow_0 12 rfl rfl)
theorem dX7_laysRow_13 : decode cX7_laysRow 13 = .ok (.getfield 23, 3) := dk_180 0 23 (dk_at dksX7_laysRow_0 13 rfl rfl)
theorem dX7_laysRow_16 : decode cX7_laysRow 16 = .ok (.bipush 60, 2) := dk_16 60 (dk_at dksX7_laysRow_0 16 rfl rfl)
theorem dX7_laysRow_18 : decode cX7_laysRow 18 = .ok (.iload_n 1, 1) := dk_27 (dk_at dksX7_laysRow_0 18 rfl rfl)
theorem dX7_laysRow_19 : decode cX7_laysRow 19 = .ok (.imul, 1) := dk_104 (dk_at dksX7_laysRow_0 19 rfl rfl)
theorem dX7_laysRow_20 : decode cX7_laysRow 20 = .ok (.iload_n 3, 1) := dk_29 (dk_at dksX7_laysRow_0 20 rfl rfl)
theorem dX7_laysRow_21 : decode cX7_laysRow 21 = .ok (.iadd, 1) := dk_96 (dk_at dksX7_laysRow_0 21 rfl rfl)
theorem dX7_laysRow_22 : decode cX7_laysRow 22 = .ok (.laload, 1) := dk_47 (dk_at dksX7_laysRow_0 22 rfl rfl)
theorem dX7_laysRow_23 : decode cX7_laysRow 23 = .ok (.l2i, 1) := dk_136 (dk_at dksX7_laysRow_0 23 rfl rfl)
theorem dX7_laysRow_24 : decode cX7_laysRow 24 = .ok (.iastore, 1) := dk_79 (dk_at dksX7_laysRow_1 0 rfl rfl)
theorem dX7_laysRow_25 : decode cX7_laysRow 25 = .ok (.aload_n 0, 1) := dk_42 (dk_at dksX7_laysRow_1 1 rfl rfl)
theorem dX7_laysRow_26 : decode cX7_laysRow 26 = .ok (.getfield 65, 3) := dk_180 0 65 (dk_at dksX7_laysRow_1 2 rfl rfl)
theorem dX7_laysRow_29 : decode cX7_laysRow 29 = .ok (.iload_n 3, 1) := dk_29 (dk_at dksX7_laysRow_1 5 rfl rfl)
theorem dX7_laysRow_30 : decode cX7_laysRow 30 = .ok (.iconst 0, 1) := dk_3 (dk_at dksX7_laysRow_1 6 rfl rfl)
theorem dX7_laysRow_31 : decode cX7_laysRow 31 = .ok (.iastore, 1) := dk_79 (dk_at dksX7_laysRow_1 7 rfl rfl)
theorem dX7_laysRow_32 : decode cX7_laysRow 32 = .ok (.iinc 3 1, 3) := dk_132 3 1 (dk_at dksX7_laysRow_1 8 rfl rfl)
theorem dX7_laysRow_35 : decode cX7_laysRow 35 = .ok (.goto (-33), 3) := dk_167 255 223 (dk_at dksX7_laysRow_1 11 rfl rfl)
theorem dX7_laysRow_38 : decode cX7_laysRow 38 = .ok (.return_, 1) := dk_177 (dk_at dksX7_laysRow_1 14 rfl rfl)
abbrev cX7_countsWays : ByteArray := prog_17_method_112_code
def yX7_countsWays : MethodName := ⟨RX7, "countsWays", "(I)I"⟩
def dkwX7_countsWays_3 : List UInt8 := [180, 0, 68, 28, 29, 79, 132, 2, 255, 167, 255, 187, 42, 180, 0, 68, 3, 46, 172]
abbrev dktX7_countsWays_3 : List UInt8 := dkwX7_countsWays_3 ++ []
def dkwX7_countsWays_2 : List UInt8 := [180, 0, 68, 28, 42, 21, 4, 182, 1, 44, 96, 46, 96, 184, 0, 154, 62, 132, 4, 1, 167, 255, 209, 42]
abbrev dktX7_countsWays_2 : List UInt8 := dkwX7_countsWays_2 ++ dktX7_countsWays_3
def dkwX7_countsWays_1 : List UInt8 := [180, 0, 7, 3, 46, 162, 0, 42, 42, 21, 4, 28, 27, 182, 1, 113, 153, 0, 25, 19, 1, 116, 29, 42]
abbrev dktX7_countsWays_1 : List UInt8 := dkwX7_countsWays_1 ++ dktX7_countsWays_2
def dkwX7_countsWays_0 : List UInt8 := [42, 180, 0, 68, 27, 4, 79, 27, 4, 100, 61, 28, 155, 0, 71, 3, 62, 3, 54, 4, 21, 4, 42]
abbrev dktX7_countsWays_0 : List UInt8 := dkwX7_countsWays_0 ++ dktX7_countsWays_1
theorem dksX7_countsWays_0 : cX7_countsWays.data.toList.drop 0 = dktX7_countsWays_0 := by decide +kernel
theorem dksX7_countsWays_1 : cX7_countsWays.data.toList.drop 23 = dktX7_countsWays_1 := dk_seg dksX7_countsWays_0 23 rfl rfl
theorem dksX7_countsWays_2 : cX7_countsWays.data.toList.drop 47 = dktX7_countsWays_2 := dk_seg dksX7_countsWays_1 24 rfl rfl
theorem dksX7_countsWays_3 : cX7_countsWays.data.toList.drop 71 = dktX7_countsWays_3 := dk_seg dksX7_countsWays_2 24 rfl rfl
theorem dX7_countsWays_0 : decode cX7_countsWays 0 = .ok (.aload_n 0, 1) := dk_42 (dk_at dksX7_countsWays_0 0 rfl rfl)
theorem dX7_countsWays_1 : decode cX7_countsWays 1 = .ok (.getfield 68, 3) := dk_180 0 68 (dk_at dksX7_countsWays_0 1 rfl rfl)
theorem dX7_countsWays_4 : decode cX7_countsWays 4 = .ok (.iload_n 1, 1) := dk_27 (dk_at dksX7_countsWays_0 4 rfl rfl)
theorem dX7_countsWays_5 : decode cX7_countsWays 5 = .ok (.iconst 1, 1) := dk_4 (dk_at dksX7_countsWays_0 5 rfl rfl)
theorem dX7_countsWays_6 : decode cX7_countsWays 6 = .ok (.iastore, 1) := dk_79 (dk_at dksX7_countsWays_0 6 rfl rfl)
theorem dX7_countsWays_7 : decode cX7_countsWays 7 = .ok (.iload_n 1, 1) := dk_27 (dk_at dksX7_countsWays_0 7 rfl rfl)
theorem dX7_countsWays_8 : decode cX7_countsWays 8 = .ok (.iconst 1, 1) := dk_4 (dk_at dksX7_countsWays_0 8 rfl rfl)
theorem dX7_countsWays_9 : decode cX7_countsWays 9 = .ok (.isub, 1) := dk_100 (dk_at dksX7_countsWays_0 9 rfl rfl)
theorem dX7_countsWays_10 : decode cX7_countsWays 10 = .ok (.istore_n 2, 1) := dk_61 (dk_at dksX7_countsWays_0 10 rfl rfl)
theorem dX7_countsWays_11 : decode cX7_countsWays 11 = .ok (.iload_n 2, 1) := dk_28 (dk_at dksX7_countsWays_0 11 rfl rfl)
theorem dX7_countsWays_12 : decode cX7_countsWays 12 = .ok (.ifCond .lt 71, 3) := dk_155 0 71 (dk_at dksX7_countsWays_0 12 rfl rfl)
theorem dX7_countsWays_15 : decode cX7_countsWays 15 = .ok (.iconst 0, 1) := dk_3 (dk_at dksX7_countsWays_0 15 rfl rfl)
theorem dX7_countsWays_16 : decode cX7_countsWays 16 = .ok (.istore_n 3, 1) := dk_62 (dk_at dksX7_countsWays_0 16 rfl rfl)
theorem dX7_countsWays_17 : decode cX7_countsWays 17 = .ok (.iconst 0, 1) := dk_3 (dk_at dksX7_countsWays_0 17 rfl rfl)
theorem dX7_countsWays_18 : decode cX7_countsWays 18 = .ok (.istore 4, 2) := dk_54 4 (dk_at dksX7_countsWays_0 18 rfl rfl)
theorem dX7_countsWays_20 : decode cX7_countsWays 20 = .ok (.iload 4, 2) := dk_21 4 (dk_at dksX7_countsWays_0 20 rfl rfl)
theorem dX7_countsWays_22 : decode cX7_countsWays 22 = .ok (.aload_n 0, 1) := dk_42 (dk_at dksX7_countsWays_0 22 rfl rfl)
theorem dX7_countsWays_23 : decode cX7_countsWays 23 = .ok (.getfield 7, 3) := dk_180 0 7 (dk_at dksX7_countsWays_1 0 rfl rfl)
theorem dX7_countsWays_26 : decode cX7_countsWays 26 = .ok (.iconst 0, 1) := dk_3 (dk_at dksX7_countsWays_1 3 rfl rfl)
theorem dX7_countsWays_27 : decode cX7_countsWays 27 = .ok (.iaload, 1) := dk_46 (dk_at dksX7_countsWays_1 4 rfl rfl)
theorem dX7_countsWays_28 : decode cX7_countsWays 28 = .ok (.if_icmp .ge 42, 3) := dk_162 0 42 (dk_at dksX7_countsWays_1 5 rfl rfl)
theorem dX7_countsWays_31 : decode cX7_countsWays 31 = .ok (.aload_n 0, 1) := dk_42 (dk_at dksX7_countsWays_1 8 rfl rfl)
theorem dX7_countsWays_32 : decode cX7_countsWays 32 = .ok (.iload 4, 2) := dk_21 4 (dk_at dksX7_countsWays_1 9 rfl rfl)
theorem dX7_countsWays_34 : decode cX7_countsWays 34 = .ok (.iload_n 2, 1) := dk_28 (dk_at dksX7_countsWays_1 11 rfl rfl)
theorem dX7_countsWays_35 : decode cX7_countsWays 35 = .ok (.iload_n 1, 1) := dk_27 (dk_at dksX7_countsWays_1 12 rfl rfl)
theorem dX7_countsWays_36 : decode cX7_countsWays 36 = .ok (.invokevirtual 369, 3) := dk_182 1 113 (dk_at dksX7_countsWays_1 13 rfl rfl)
theorem dX7_countsWays_39 : decode cX7_countsWays 39 = .ok (.ifCond .eq 25, 3) := dk_153 0 25 (dk_at dksX7_countsWays_1 16 rfl rfl)
theorem dX7_countsWays_42 : decode cX7_countsWays 42 = .ok (.ldc_w 372, 3) := dk_19 1 116 (dk_at dksX7_countsWays_1 19 rfl rfl)
theorem dX7_countsWays_45 : decode cX7_countsWays 45 = .ok (.iload_n 3, 1) := dk_29 (dk_at dksX7_countsWays_1 22 rfl rfl)
theorem dX7_countsWays_46 : decode cX7_countsWays 46 = .ok (.aload_n 0, 1) := dk_42 (dk_at dksX7_countsWays_1 23 rfl rfl)
theorem dX7_countsWays_47 : decode cX7_countsWays 47 = .ok (.getfield 68, 3) := dk_180 0 68 (dk_at dksX7_countsWays_2 0 rfl rfl)
theorem dX7_countsWays_50 : decode cX7_countsWays 50 = .ok (.iload_n 2, 1) := dk_28 (dk_at dksX7_countsWays_2 3 rfl rfl)
theorem dX7_countsWays_51 : decode cX7_countsWays 51 = .ok (.aload_n 0, 1) := dk_42 (dk_at dksX7_countsWays_2 4 rfl rfl)
theorem dX7_countsWays_52 : decode cX7_countsWays 52 = .ok (.iload 4, 2) := dk_21 4 (dk_at dksX7_countsWays_2 5 rfl rfl)
theorem dX7_countsWays_54 : decode cX7_countsWays 54 = .ok (.invokevirtual 300, 3) := dk_182 1 44 (dk_at dksX7_countsWays_2 7 rfl rfl)
theorem dX7_countsWays_57 : decode cX7_countsWays 57 = .ok (.iadd, 1) := dk_96 (dk_at dksX7_countsWays_2 10 rfl rfl)
theorem dX7_countsWays_58 : decode cX7_countsWays 58 = .ok (.iaload, 1) := dk_46 (dk_at dksX7_countsWays_2 11 rfl rfl)
theorem dX7_countsWays_59 : decode cX7_countsWays 59 = .ok (.iadd, 1) := dk_96 (dk_at dksX7_countsWays_2 12 rfl rfl)
theorem dX7_countsWays_60 : decode cX7_countsWays 60 = .ok (.invokestatic 154, 3) := dk_184 0 154 (dk_at dksX7_countsWays_2 13 rfl rfl)
theorem dX7_countsWays_63 : decode cX7_countsWays 63 = .ok (.istore_n 3, 1) := dk_62 (dk_at dksX7_countsWays_2 16 rfl rfl)
theorem dX7_countsWays_64 : decode cX7_countsWays 64 = .ok (.iinc 4 1, 3) := dk_132 4 1 (dk_at dksX7_countsWays_2 17 rfl rfl)
theorem dX7_countsWays_67 : decode cX7_countsWays 67 = .ok (.goto (-47), 3) := dk_167 255 209 (dk_at dksX7_countsWays_2 20 rfl rfl)
theorem dX7_countsWays_70 : decode cX7_countsWays 70 = .ok (.aload_n 0, 1) := dk_42 (dk_at dksX7_countsWays_2 23 rfl rfl)
theorem dX7_countsWays_71 : decode cX7_countsWays 71 = .ok (.getfield 68, 3) := dk_180 0 68 (dk_at dksX7_countsWays_3 0 rfl rfl)
theorem dX7_countsWays_74 : decode cX7_countsWays 74 = .ok (.iload_n 2, 1) := dk_28 (dk_at dksX7_countsWays_3 3 rfl rfl)
theorem dX7_countsWays_75 : decode cX7_countsWays 75 = .ok (.iload_n 3, 1) := dk_29 (dk_at dksX7_countsWays_3 4 rfl rfl)
theorem dX7_countsWays_76 : decode cX7_countsWays 76 = .ok (.iastore, 1) := dk_79 (dk_at dksX7_countsWays_3 5 rfl rfl)
theorem dX7_countsWays_77 : decode cX7_countsWays 77 = .ok (.iinc 2 (-1), 3) := dk_132 2 255 (dk_at dksX7_countsWays_3 6 rfl rfl)
theorem dX7_countsWays_80 : decode cX7_countsWays 80 = .ok (.goto (-69), 3) := dk_167 255 187 (dk_at dksX7_countsWays_3 9 rfl rfl)
theorem dX7_countsWays_83 : decode cX7_countsWays 83 = .ok (.aload_n 0, 1) := dk_42 (dk_at dksX7_countsWays_3 12 rfl rfl)
theorem dX7_countsWays_84 : decode cX7_countsWays 84 = .ok (.getfield 68, 3) := dk_180 0 68 (dk_at dksX7_countsWays_3 13 rfl rfl)
theorem dX7_countsWays_87 : decode cX7_countsWays 87 = .ok (.iconst 0, 1) := dk_3 (dk_at dksX7_countsWays_3 16 rfl rfl)
theorem dX7_countsWays_88 : decode cX7_countsWays 88 = .ok (.iaload, 1) := dk_46 (dk_at dksX7_countsWays_3 17 rfl rfl)
theorem dX7_countsWays_89 : decode cX7_countsWays 89 = .ok (.ireturn, 1) := dk_172 (dk_at dksX7_countsWays_3 18 rfl rfl)
abbrev cX7_reads : ByteArray := prog_17_method_111_code
def yX7_reads : MethodName := ⟨RX7, "reads", "(III)Z"⟩
def dkwX7_reads_5 : List UInt8 := [167, 0, 4, 3, 184, 0, 245, 172]
abbrev dktX7_reads_5 : List UInt8 := dkwX7_reads_5 ++ []
def dkwX7_reads_4 : List UInt8 := [46, 28, 154, 0, 7, 4, 167, 0, 4, 3, 28, 42, 27, 182, 1, 44, 96, 29, 160, 0, 7, 4]
abbrev dktX7_reads_4 : List UInt8 := dkwX7_reads_4 ++ dktX7_reads_5
def dkwX7_reads_3 : List UInt8 := [126, 153, 0, 5, 3, 172, 132, 4, 1, 167, 255, 209, 42, 180, 0, 7, 3, 27, 184, 0, 194, 16, 11, 96]
abbrev dktX7_reads_3 : List UInt8 := dkwX7_reads_3 ++ dktX7_reads_4
def dkwX7_reads_2 : List UInt8 := [182, 1, 47, 42, 180, 0, 62, 28, 21, 4, 96, 46, 130, 42, 180, 0, 65, 28, 21, 4, 96, 46, 2, 130]
abbrev dktX7_reads_2 : List UInt8 := dkwX7_reads_2 ++ dktX7_reads_3
def dkwX7_reads_1 : List UInt8 := [164, 0, 5, 3, 172, 3, 54, 4, 21, 4, 42, 27, 182, 1, 44, 162, 0, 43, 42, 27, 21, 4]
abbrev dktX7_reads_1 : List UInt8 := dkwX7_reads_1 ++ dktX7_reads_2
def dkwX7_reads_0 : List UInt8 := [42, 180, 0, 7, 16, 6, 46, 27, 184, 0, 249, 154, 0, 14, 28, 42, 27, 182, 1, 44, 96, 29]
abbrev dktX7_reads_0 : List UInt8 := dkwX7_reads_0 ++ dktX7_reads_1
theorem dksX7_reads_0 : cX7_reads.data.toList.drop 0 = dktX7_reads_0 := by decide +kernel
theorem dksX7_reads_1 : cX7_reads.data.toList.drop 22 = dktX7_reads_1 := dk_seg dksX7_reads_0 22 rfl rfl
theorem dksX7_reads_2 : cX7_reads.data.toList.drop 44 = dktX7_reads_2 := dk_seg dksX7_reads_1 22 rfl rfl
theorem dksX7_reads_3 : cX7_reads.data.toList.drop 68 = dktX7_reads_3 := dk_seg dksX7_reads_2 24 rfl rfl
theorem dksX7_reads_4 : cX7_reads.data.toList.drop 92 = dktX7_reads_4 := dk_seg dksX7_reads_3 24 rfl rfl
theorem dksX7_reads_5 : cX7_reads.data.toList.drop 114 = dktX7_reads_5 := dk_seg dksX7_reads_4 22 rfl rfl
theorem dX7_reads_0 : decode cX7_reads 0 = .ok (.aload_n 0, 1) := dk_42 (dk_at dksX7_reads_0 0 rfl rfl)
theorem dX7_reads_1 : decode cX7_reads 1 = .ok (.getfield 7, 3) := dk_180 0 7 (dk_at dksX7_reads_0 1 rfl rfl)
theorem dX7_reads_4 : decode cX7_reads 4 = .ok (.bipush 6, 2) := dk_16 6 (dk_at dksX7_reads_0 4 rfl rfl)
theorem dX7_reads_6 : decode cX7_reads 6 = .ok (.iaload, 1) := dk_46 (dk_at dksX7_reads_0 6 rfl rfl)
theorem dX7_reads_7 : decode cX7_reads 7 = .ok (.iload_n 1, 1) := dk_27 (dk_at dksX7_reads_0 7 rfl rfl)
theorem dX7_reads_8 : decode cX7_reads 8 = .ok (.invokestatic 249, 3) := dk_184 0 249 (dk_at dksX7_reads_0 8 rfl rfl)
theorem dX7_reads_11 : decode cX7_reads 11 = .ok (.ifCond .ne 14, 3) := dk_154 0 14 (dk_at dksX7_reads_0 11 rfl rfl)
theorem dX7_reads_14 : decode cX7_reads 14 = .ok (.iload_n 2, 1) := dk_28 (dk_at dksX7_reads_0 14 rfl rfl)
theorem dX7_reads_15 : decode cX7_reads 15 = .ok (.aload_n 0, 1) := dk_42 (dk_at dksX7_reads_0 15 rfl rfl)
theorem dX7_reads_16 : decode cX7_reads 16 = .ok (.iload_n 1, 1) := dk_27 (dk_at dksX7_reads_0 16 rfl rfl)
theorem dX7_reads_17 : decode cX7_reads 17 = .ok (.invokevirtual 300, 3) := dk_182 1 44 (dk_at dksX7_reads_0 17 rfl rfl)
theorem dX7_reads_20 : decode cX7_reads 20 = .ok (.iadd, 1) := dk_96 (dk_at dksX7_reads_0 20 rfl rfl)
theorem dX7_reads_21 : decode cX7_reads 21 = .ok (.iload_n 3, 1) := dk_29 (dk_at dksX7_reads_0 21 rfl rfl)
theorem dX7_reads_22 : decode cX7_reads 22 = .ok (.if_icmp .le 5, 3) := dk_164 0 5 (dk_at dksX7_reads_1 0 rfl rfl)
theorem dX7_reads_25 : decode cX7_reads 25 = .ok (.iconst 0, 1) := dk_3 (dk_at dksX7_reads_1 3 rfl rfl)
theorem dX7_reads_26 : decode cX7_reads 26 = .ok (.ireturn, 1) := dk_172 (dk_at dksX7_reads_1 4 rfl rfl)
theorem dX7_reads_27 : decode cX7_reads 27 = .ok (.iconst 0, 1) := dk_3 (dk_at dksX7_reads_1 5 rfl rfl)
theorem dX7_reads_28 : decode cX7_reads 28 = .ok (.istore 4, 2) := dk_54 4 (dk_at dksX7_reads_1 6 rfl rfl)
theorem dX7_reads_30 : decode cX7_reads 30 = .ok (.iload 4, 2) := dk_21 4 (dk_at dksX7_reads_1 8 rfl rfl)
theorem dX7_reads_32 : decode cX7_reads 32 = .ok (.aload_n 0, 1) := dk_42 (dk_at dksX7_reads_1 10 rfl rfl)
theorem dX7_reads_33 : decode cX7_reads 33 = .ok (.iload_n 1, 1) := dk_27 (dk_at dksX7_reads_1 11 rfl rfl)
theorem dX7_reads_34 : decode cX7_reads 34 = .ok (.invokevirtual 300, 3) := dk_182 1 44 (dk_at dksX7_reads_1 12 rfl rfl)
theorem dX7_reads_37 : decode cX7_reads 37 = .ok (.if_icmp .ge 43, 3) := dk_162 0 43 (dk_at dksX7_reads_1 15 rfl rfl)
theorem dX7_reads_40 : decode cX7_reads 40 = .ok (.aload_n 0, 1) := dk_42 (dk_at dksX7_reads_1 18 rfl rfl)
theorem dX7_reads_41 : decode cX7_reads 41 = .ok (.iload_n 1, 1) := dk_27 (dk_at dksX7_reads_1 19 rfl rfl)
theorem dX7_reads_42 : decode cX7_reads 42 = .ok (.iload 4, 2) := dk_21 4 (dk_at dksX7_reads_1 20 rfl rfl)
theorem dX7_reads_44 : decode cX7_reads 44 = .ok (.invokevirtual 303, 3) := dk_182 1 47 (dk_at dksX7_reads_2 0 rfl rfl)
theorem dX7_reads_47 : decode cX7_reads 47 = .ok (.aload_n 0, 1) := dk_42 (dk_at dksX7_reads_2 3 rfl rfl)
theorem dX7_reads_48 : decode cX7_reads 48 = .ok (.getfield 62, 3) := dk_180 0 62 (dk_at dksX7_reads_2 4 rfl rfl)
theorem dX7_reads_51 : decode cX7_reads 51 = .ok (.iload_n 2, 1) := dk_28 (dk_at dksX7_reads_2 7 rfl rfl)
theorem dX7_reads_52 : decode cX7_reads 52 = .ok (.iload 4, 2) := dk_21 4 (dk_at dksX7_reads_2 8 rfl rfl)
theorem dX7_reads_54 : decode cX7_reads 54 = .ok (.iadd, 1) := dk_96 (dk_at dksX7_reads_2 10 rfl rfl)
theorem dX7_reads_55 : decode cX7_reads 55 = .ok (.iaload, 1) := dk_46 (dk_at dksX7_reads_2 11 rfl rfl)
theorem dX7_reads_56 : decode cX7_reads 56 = .ok (.ixor, 1) := dk_130 (dk_at dksX7_reads_2 12 rfl rfl)
theorem dX7_reads_57 : decode cX7_reads 57 = .ok (.aload_n 0, 1) := dk_42 (dk_at dksX7_reads_2 13 rfl rfl)
theorem dX7_reads_58 : decode cX7_reads 58 = .ok (.getfield 65, 3) := dk_180 0 65 (dk_at dksX7_reads_2 14 rfl rfl)
theorem dX7_reads_61 : decode cX7_reads 61 = .ok (.iload_n 2, 1) := dk_28 (dk_at dksX7_reads_2 17 rfl rfl)
theorem dX7_reads_62 : decode cX7_reads 62 = .ok (.iload 4, 2) := dk_21 4 (dk_at dksX7_reads_2 18 rfl rfl)
theorem dX7_reads_64 : decode cX7_reads 64 = .ok (.iadd, 1) := dk_96 (dk_at dksX7_reads_2 20 rfl rfl)
theorem dX7_reads_65 : decode cX7_reads 65 = .ok (.iaload, 1) := dk_46 (dk_at dksX7_reads_2 21 rfl rfl)
theorem dX7_reads_66 : decode cX7_reads 66 = .ok (.iconst (-1), 1) := dk_2 (dk_at dksX7_reads_2 22 rfl rfl)
theorem dX7_reads_67 : decode cX7_reads 67 = .ok (.ixor, 1) := dk_130 (dk_at dksX7_reads_2 23 rfl rfl)
theorem dX7_reads_68 : decode cX7_reads 68 = .ok (.iand, 1) := dk_126 (dk_at dksX7_reads_3 0 rfl rfl)
theorem dX7_reads_69 : decode cX7_reads 69 = .ok (.ifCond .eq 5, 3) := dk_153 0 5 (dk_at dksX7_reads_3 1 rfl rfl)
theorem dX7_reads_72 : decode cX7_reads 72 = .ok (.iconst 0, 1) := dk_3 (dk_at dksX7_reads_3 4 rfl rfl)
theorem dX7_reads_73 : decode cX7_reads 73 = .ok (.ireturn, 1) := dk_172 (dk_at dksX7_reads_3 5 rfl rfl)
theorem dX7_reads_74 : decode cX7_reads 74 = .ok (.iinc 4 1, 3) := dk_132 4 1 (dk_at dksX7_reads_3 6 rfl rfl)
theorem dX7_reads_77 : decode cX7_reads 77 = .ok (.goto (-47), 3) := dk_167 255 209 (dk_at dksX7_reads_3 9 rfl rfl)
theorem dX7_reads_80 : decode cX7_reads 80 = .ok (.aload_n 0, 1) := dk_42 (dk_at dksX7_reads_3 12 rfl rfl)
theorem dX7_reads_81 : decode cX7_reads 81 = .ok (.getfield 7, 3) := dk_180 0 7 (dk_at dksX7_reads_3 13 rfl rfl)
theorem dX7_reads_84 : decode cX7_reads 84 = .ok (.iconst 0, 1) := dk_3 (dk_at dksX7_reads_3 16 rfl rfl)
theorem dX7_reads_85 : decode cX7_reads 85 = .ok (.iload_n 1, 1) := dk_27 (dk_at dksX7_reads_3 17 rfl rfl)
theorem dX7_reads_86 : decode cX7_reads 86 = .ok (.invokestatic 194, 3) := dk_184 0 194 (dk_at dksX7_reads_3 18 rfl rfl)
theorem dX7_reads_89 : decode cX7_reads 89 = .ok (.bipush 11, 2) := dk_16 11 (dk_at dksX7_reads_3 21 rfl rfl)
theorem dX7_reads_91 : decode cX7_reads 91 = .ok (.iadd, 1) := dk_96 (dk_at dksX7_reads_3 23 rfl rfl)
theorem dX7_reads_92 : decode cX7_reads 92 = .ok (.iaload, 1) := dk_46 (dk_at dksX7_reads_4 0 rfl rfl)
theorem dX7_reads_93 : decode cX7_reads 93 = .ok (.iload_n 2, 1) := dk_28 (dk_at dksX7_reads_4 1 rfl rfl)
theorem dX7_reads_94 : decode cX7_reads 94 = .ok (.ifCond .ne 7, 3) := dk_154 0 7 (dk_at dksX7_reads_4 2 rfl rfl)
theorem dX7_reads_97 : decode cX7_reads 97 = .ok (.iconst 1, 1) := dk_4 (dk_at dksX7_reads_4 5 rfl rfl)
theorem dX7_reads_98 : decode cX7_reads 98 = .ok (.goto 4, 3) := dk_167 0 4 (dk_at dksX7_reads_4 6 rfl rfl)
theorem dX7_reads_101 : decode cX7_reads 101 = .ok (.iconst 0, 1) := dk_3 (dk_at dksX7_reads_4 9 rfl rfl)
theorem dX7_reads_102 : decode cX7_reads 102 = .ok (.iload_n 2, 1) := dk_28 (dk_at dksX7_reads_4 10 rfl rfl)
theorem dX7_reads_103 : decode cX7_reads 103 = .ok (.aload_n 0, 1) := dk_42 (dk_at dksX7_reads_4 11 rfl rfl)
theorem dX7_reads_104 : decode cX7_reads 104 = .ok (.iload_n 1, 1) := dk_27 (dk_at dksX7_reads_4 12 rfl rfl)
theorem dX7_reads_105 : decode cX7_reads 105 = .ok (.invokevirtual 300, 3) := dk_182 1 44 (dk_at dksX7_reads_4 13 rfl rfl)
theorem dX7_reads_108 : decode cX7_reads 108 = .ok (.iadd, 1) := dk_96 (dk_at dksX7_reads_4 16 rfl rfl)
theorem dX7_reads_109 : decode cX7_reads 109 = .ok (.iload_n 3, 1) := dk_29 (dk_at dksX7_reads_4 17 rfl rfl)
theorem dX7_reads_110 : decode cX7_reads 110 = .ok (.if_icmp .ne 7, 3) := dk_160 0 7 (dk_at dksX7_reads_4 18 rfl rfl)
theorem dX7_reads_113 : decode cX7_reads 113 = .ok (.iconst 1, 1) := dk_4 (dk_at dksX7_reads_4 21 rfl rfl)
theorem dX7_reads_114 : decode cX7_reads 114 = .ok (.goto 4, 3) := dk_167 0 4 (dk_at dksX7_reads_5 0 rfl rfl)
theorem dX7_reads_117 : decode cX7_reads 117 = .ok (.iconst 0, 1) := dk_3 (dk_at dksX7_reads_5 3 rfl rfl)
theorem dX7_reads_118 : decode cX7_reads 118 = .ok (.invokestatic 245, 3) := dk_184 0 245 (dk_at dksX7_reads_5 4 rfl rfl)
theorem dX7_reads_121 : decode cX7_reads 121 = .ok (.ireturn, 1) := dk_172 (dk_at dksX7_reads_5 7 rfl rfl)
abbrev cX7_first : ByteArray := prog_17_method_114_code
def yX7_first : MethodName := ⟨RX7, "first", "(II)I"⟩
def dkwX7_first_6 : List UInt8 := [21, 5, 182, 1, 44, 96, 54, 4, 167, 255, 160, 42, 42, 180, 0, 74, 182, 0, 191, 172]
abbrev dktX7_first_6 : List UInt8 := dkwX7_first_6 ++ []
def dkwX7_first_5 : List UInt8 := [42, 89, 180, 1, 127, 42, 180, 0, 7, 3, 21, 5, 184, 0, 194, 46, 96, 181, 1, 127, 21, 4, 42]
abbrev dktX7_first_5 : List UInt8 := dkwX7_first_5 ++ dktX7_first_6
def dkwX7_first_4 : List UInt8 := [167, 255, 224, 42, 180, 0, 71, 42, 180, 0, 74, 21, 5, 79, 42, 89, 180, 0, 74, 4, 96, 181, 0, 74]
abbrev dktX7_first_4 : List UInt8 := dkwX7_first_4 ++ dktX7_first_5
def dkwX7_first_3 : List UInt8 := [153, 0, 20, 42, 180, 0, 68, 21, 4, 42, 21, 5, 182, 1, 44, 96, 46, 154, 0, 9, 132, 5, 1]
abbrev dktX7_first_3 : List UInt8 := dkwX7_first_3 ++ dktX7_first_4
def dkwX7_first_2 : List UInt8 := [181, 1, 127, 3, 54, 4, 21, 4, 28, 162, 0, 96, 3, 54, 5, 42, 21, 5, 21, 4, 28, 182, 1, 113]
abbrev dktX7_first_2 : List UInt8 := dkwX7_first_2 ++ dktX7_first_3
def dkwX7_first_1 : List UInt8 := [42, 28, 182, 1, 124, 154, 0, 10, 42, 16, 6, 182, 0, 188, 172, 42, 3, 181, 0, 74, 42, 3]
abbrev dktX7_first_1 : List UInt8 := dkwX7_first_1 ++ dktX7_first_2
def dkwX7_first_0 : List UInt8 := [42, 27, 28, 4, 182, 1, 117, 62, 29, 158, 0, 9, 42, 29, 182, 0, 188, 172, 42, 27, 28, 182, 1, 121]
abbrev dktX7_first_0 : List UInt8 := dkwX7_first_0 ++ dktX7_first_1
theorem dksX7_first_0 : cX7_first.data.toList.drop 0 = dktX7_first_0 := by decide +kernel
theorem dksX7_first_1 : cX7_first.data.toList.drop 24 = dktX7_first_1 := dk_seg dksX7_first_0 24 rfl rfl
theorem dksX7_first_2 : cX7_first.data.toList.drop 46 = dktX7_first_2 := dk_seg dksX7_first_1 22 rfl rfl
theorem dksX7_first_3 : cX7_first.data.toList.drop 70 = dktX7_first_3 := dk_seg dksX7_first_2 24 rfl rfl
theorem dksX7_first_4 : cX7_first.data.toList.drop 93 = dktX7_first_4 := dk_seg dksX7_first_3 23 rfl rfl
theorem dksX7_first_5 : cX7_first.data.toList.drop 117 = dktX7_first_5 := dk_seg dksX7_first_4 24 rfl rfl
theorem dksX7_first_6 : cX7_first.data.toList.drop 140 = dktX7_first_6 := dk_seg dksX7_first_5 23 rfl rfl
theorem dX7_first_0 : decode cX7_first 0 = .ok (.aload_n 0, 1) := dk_42 (dk_at dksX7_first_0 0 rfl rfl)
theorem dX7_first_1 : decode cX7_first 1 = .ok (.iload_n 1, 1) := dk_27 (dk_at dksX7_first_0 1 rfl rfl)
theorem dX7_first_2 : decode cX7_first 2 = .ok (.iload_n 2, 1) := dk_28 (dk_at dksX7_first_0 2 rfl rfl)
theorem dX7_first_3 : decode cX7_first 3 = .ok (.iconst 1, 1) := dk_4 (dk_at dksX7_first_0 3 rfl rfl)
theorem dX7_first_4 : decode cX7_first 4 = .ok (.invokevirtual 373, 3) := dk_182 1 117 (dk_at dksX7_first_0 4 rfl rfl)
theorem dX7_first_7 : decode cX7_first 7 = .ok (.istore_n 3, 1) := dk_62 (dk_at dksX7_first_0 7 rfl rfl)
theorem dX7_first_8 : decode cX7_first 8 = .ok (.iload_n 3, 1) := dk_29 (dk_at dksX7_first_0 8 rfl rfl)
theorem dX7_first_9 : decode cX7_first 9 = .ok (.ifCond .le 9, 3) := dk_158 0 9 (dk_at dksX7_first_0 9 rfl rfl)
theorem dX7_first_12 : decode cX7_first 12 = .ok (.aload_n 0, 1) := dk_42 (dk_at dksX7_first_0 12 rfl rfl)
theorem dX7_first_13 : decode cX7_first 13 = .ok (.iload_n 3, 1) := dk_29 (dk_at dksX7_first_0 13 rfl rfl)
theorem dX7_first_14 : decode cX7_first 14 = .ok (.invokevirtual 188, 3) := dk_182 0 188 (dk_at dksX7_first_0 14 rfl rfl)
theorem dX7_first_17 : decode cX7_first 17 = .ok (.ireturn, 1) := dk_172 (dk_at dksX7_first_0 17 rfl rfl)
theorem dX7_first_18 : decode cX7_first 18 = .ok (.aload_n 0, 1) := dk_42 (dk_at dksX7_first_0 18 rfl rfl)
theorem dX7_first_19 : decode cX7_first 19 = .ok (.iload_n 1, 1) := dk_27 (dk_at dksX7_first_0 19 rfl rfl)
theorem dX7_first_20 : decode cX7_first 20 = .ok (.iload_n 2, 1) := dk_28 (dk_at dksX7_first_0 20 rfl rfl)
theorem dX7_first_21 : decode cX7_first 21 = .ok (.invokevirtual 377, 3) := dk_182 1 121 (dk_at dksX7_first_0 21 rfl rfl)
theorem dX7_first_24 : decode cX7_first 24 = .ok (.aload_n 0, 1) := dk_42 (dk_at dksX7_first_1 0 rfl rfl)
theorem dX7_first_25 : decode cX7_first 25 = .ok (.iload_n 2, 1) := dk_28 (dk_at dksX7_first_1 1 rfl rfl)
theorem dX7_first_26 : decode cX7_first 26 = .ok (.invokevirtual 380, 3) := dk_182 1 124 (dk_at dksX7_first_1 2 rfl rfl)
theorem dX7_first_29 : decode cX7_first 29 = .ok (.ifCond .ne 10, 3) := dk_154 0 10 (dk_at dksX7_first_1 5 rfl rfl)
theorem dX7_first_32 : decode cX7_first 32 = .ok (.aload_n 0, 1) := dk_42 (dk_at dksX7_first_1 8 rfl rfl)
theorem dX7_first_33 : decode cX7_first 33 = .ok (.bipush 6, 2) := dk_16 6 (dk_at dksX7_first_1 9 rfl rfl)
theorem dX7_first_35 : decode cX7_first 35 = .ok (.invokevirtual 188, 3) := dk_182 0 188 (dk_at dksX7_first_1 11 rfl rfl)
theorem dX7_first_38 : decode cX7_first 38 = .ok (.ireturn, 1) := dk_172 (dk_at dksX7_first_1 14 rfl rfl)
theorem dX7_first_39 : decode cX7_first 39 = .ok (.aload_n 0, 1) := dk_42 (dk_at dksX7_first_1 15 rfl rfl)
theorem dX7_first_40 : decode cX7_first 40 = .ok (.iconst 0, 1) := dk_3 (dk_at dksX7_first_1 16 rfl rfl)
theorem dX7_first_41 : decode cX7_first 41 = .ok (.putfield 74, 3) := dk_181 0 74 (dk_at dksX7_first_1 17 rfl rfl)
theorem dX7_first_44 : decode cX7_first 44 = .ok (.aload_n 0, 1) := dk_42 (dk_at dksX7_first_1 20 rfl rfl)
theorem dX7_first_45 : decode cX7_first 45 = .ok (.iconst 0, 1) := dk_3 (dk_at dksX7_first_1 21 rfl rfl)
theorem dX7_first_46 : decode cX7_first 46 = .ok (.putfield 383, 3) := dk_181 1 127 (dk_at dksX7_first_2 0 rfl rfl)
theorem dX7_first_49 : decode cX7_first 49 = .ok (.iconst 0, 1) := dk_3 (dk_at dksX7_first_2 3 rfl rfl)
theorem dX7_first_50 : decode cX7_first 50 = .ok (.istore 4, 2) := dk_54 4 (dk_at dksX7_first_2 4 rfl rfl)
theorem dX7_first_52 : decode cX7_first 52 = .ok (.iload 4, 2) := dk_21 4 (dk_at dksX7_first_2 6 rfl rfl)
theorem dX7_first_54 : decode cX7_first 54 = .ok (.iload_n 2, 1) := dk_28 (dk_at dksX7_first_2 8 rfl rfl)
theorem dX7_first_55 : decode cX7_first 55 = .ok (.if_icmp .ge 96, 3) := dk_162 0 96 (dk_at dksX7_first_2 9 rfl rfl)
theorem dX7_first_58 : decode cX7_first 58 = .ok (.iconst 0, 1) := dk_3 (dk_at dksX7_first_2 12 rfl rfl)
theorem dX7_first_59 : decode cX7_first 59 = .ok (.istore 5, 2) := dk_54 5 (dk_at dksX7_first_2 13 rfl rfl)
theorem dX7_first_61 : decode cX7_first 61 = .ok (.aload_n 0, 1) := dk_42 (dk_at dksX7_first_2 15 rfl rfl)
theorem dX7_first_62 : decode cX7_first 62 = .ok (.iload 5, 2) := dk_21 5 (dk_at dksX7_first_2 16 rfl rfl)
theorem dX7_first_64 : decode cX7_first 64 = .ok (.iload 4, 2) := dk_21 4 (dk_at dksX7_first_2 18 rfl rfl)
theorem dX7_first_66 : decode cX7_first 66 = .ok (.iload_n 2, 1) := dk_28 (dk_at dksX7_first_2 20 rfl rfl)
theorem dX7_first_67 : decode cX7_first 67 = .ok (.invokevirtual 369, 3) := dk_182 1 113 (dk_at dksX7_first_2 21 rfl rfl)
theorem dX7_first_70 : decode cX7_first 70 = .ok (.ifCond .eq 20, 3) := dk_153 0 20 (dk_at dksX7_first_3 0 rfl rfl)
theorem dX7_first_73 : decode cX7_first 73 = .ok (.aload_n 0, 1) := dk_42 (dk_at dksX7_first_3 3 rfl rfl)
theorem dX7_first_74 : decode cX7_first 74 = .ok (.getfield 68, 3) := dk_180 0 68 (dk_at dksX7_first_3 4 rfl rfl)
theorem dX7_first_77 : decode cX7_first 77 = .ok (.iload 4, 2) := dk_21 4 (dk_at dksX7_first_3 7 rfl rfl)
theorem dX7_first_79 : decode cX7_first 79 = .ok (.aload_n 0, 1) := dk_42 (dk_at dksX7_first_3 9 rfl rfl)
theorem dX7_first_80 : decode cX7_first 80 = .ok (.iload 5, 2) := dk_21 5 (dk_at dksX7_first_3 10 rfl rfl)
theorem dX7_first_82 : decode cX7_first 82 = .ok (.invokevirtual 300, 3) := dk_182 1 44 (dk_at dksX7_first_3 12 rfl rfl)
theorem dX7_first_85 : decode cX7_first 85 = .ok (.iadd, 1) := dk_96 (dk_at dksX7_first_3 15 rfl rfl)
theorem dX7_first_86 : decode cX7_first 86 = .ok (.iaload, 1) := dk_46 (dk_at dksX7_first_3 16 rfl rfl)
theorem dX7_first_87 : decode cX7_first 87 = .ok (.ifCond .ne 9, 3) := dk_154 0 9 (dk_at dksX7_first_3 17 rfl rfl)
theorem dX7_first_90 : decode cX7_first 90 = .ok (.iinc 5 1, 3) := dk_132 5 1 (dk_at dksX7_first_3 20 rfl rfl)
theorem dX7_first_93 : decode cX7_first 93 = .ok (.goto (-32), 3) := dk_167 255 224 (dk_at dksX7_first_4 0 rfl rfl)
theorem dX7_first_96 : decode cX7_first 96 = .ok (.aload_n 0, 1) := dk_42 (dk_at dksX7_first_4 3 rfl rfl)
theorem dX7_first_97 : decode cX7_first 97 = .ok (.getfield 71, 3) := dk_180 0 71 (dk_at dksX7_first_4 4 rfl rfl)
theorem dX7_first_100 : decode cX7_first 100 = .ok (.aload_n 0, 1) := dk_42 (dk_at dksX7_first_4 7 rfl rfl)
theorem dX7_first_101 : decode cX7_first 101 = .ok (.getfield 74, 3) := dk_180 0 74 (dk_at dksX7_first_4 8 rfl rfl)
theorem dX7_first_104 : decode cX7_first 104 = .ok (.iload 5, 2) := dk_21 5 (dk_at dksX7_first_4 11 rfl rfl)
theorem dX7_first_106 : decode cX7_first 106 = .ok (.iastore, 1) := dk_79 (dk_at dksX7_first_4 13 rfl rfl)
theorem dX7_first_107 : decode cX7_first 107 = .ok (.aload_n 0, 1) := dk_42 (dk_at dksX7_first_4 14 rfl rfl)
theorem dX7_first_108 : decode cX7_first 108 = .ok (.dup, 1) := dk_89 (dk_at dksX7_first_4 15 rfl rfl)
theorem dX7_first_109 : decode cX7_first 109 = .ok (.getfield 74, 3) := dk_180 0 74 (dk_at dksX7_first_4 16 rfl rfl)
theorem dX7_first_112 : decode cX7_first 112 = .ok (.iconst 1, 1) := dk_4 (dk_at dksX7_first_4 19 rfl rfl)
theorem dX7_first_113 : decode cX7_first 113 = .ok (.iadd, 1) := dk_96 (dk_at dksX7_first_4 20 rfl rfl)
theorem dX7_first_114 : decode cX7_first 114 = .ok (.putfield 74, 3) := dk_181 0 74 (dk_at dksX7_first_4 21 rfl rfl)
theorem dX7_first_117 : decode cX7_first 117 = .ok (.aload_n 0, 1) := dk_42 (dk_at dksX7_first_5 0 rfl rfl)
theorem dX7_first_118 : decode cX7_first 118 = .ok (.dup, 1) := dk_89 (dk_at dksX7_first_5 1 rfl rfl)
theorem dX7_first_119 : decode cX7_first 119 = .ok (.getfield 383, 3) := dk_180 1 127 (dk_at dksX7_first_5 2 rfl rfl)
theorem dX7_first_122 : decode cX7_first 122 = .ok (.aload_n 0, 1) := dk_42 (dk_at dksX7_first_5 5 rfl rfl)
theorem dX7_first_123 : decode cX7_first 123 = .ok (.getfield 7, 3) := dk_180 0 7 (dk_at dksX7_first_5 6 rfl rfl)
theorem dX7_first_126 : decode cX7_first 126 = .ok (.iconst 0, 1) := dk_3 (dk_at dksX7_first_5 9 rfl rfl)
theorem dX7_first_127 : decode cX7_first 127 = .ok (.iload 5, 2) := dk_21 5 (dk_at dksX7_first_5 10 rfl rfl)
theorem dX7_first_129 : decode cX7_first 129 = .ok (.invokestatic 194, 3) := dk_184 0 194 (dk_at dksX7_first_5 12 rfl rfl)
theorem dX7_first_132 : decode cX7_first 132 = .ok (.iaload, 1) := dk_46 (dk_at dksX7_first_5 15 rfl rfl)
theorem dX7_first_133 : decode cX7_first 133 = .ok (.iadd, 1) := dk_96 (dk_at dksX7_first_5 16 rfl rfl)
theorem dX7_first_134 : decode cX7_first 134 = .ok (.putfield 383, 3) := dk_181 1 127 (dk_at dksX7_first_5 17 rfl rfl)
theorem dX7_first_137 : decode cX7_first 137 = .ok (.iload 4, 2) := dk_21 4 (dk_at dksX7_first_5 20 rfl rfl)
theorem dX7_first_139 : decode cX7_first 139 = .ok (.aload_n 0, 1) := dk_42 (dk_at dksX7_first_5 22 rfl rfl)
theorem dX7_first_140 : decode cX7_first 140 = .ok (.iload 5, 2) := dk_21 5 (dk_at dksX7_first_6 0 rfl rfl)
theorem dX7_first_142 : decode cX7_first 142 = .ok (.invokevirtual 300, 3) := dk_182 1 44 (dk_at dksX7_first_6 2 rfl rfl)
theorem dX7_first_145 : decode cX7_first 145 = .ok (.iadd, 1) := dk_96 (dk_at dksX7_first_6 5 rfl rfl)
theorem dX7_first_146 : decode cX7_first 146 = .ok (.istore 4, 2) := dk_54 4 (dk_at dksX7_first_6 6 rfl rfl)
theorem dX7_first_148 : decode cX7_first 148 = .ok (.goto (-96), 3) := dk_167 255 160 (dk_at dksX7_first_6 8 rfl rfl)
theorem dX7_first_151 : decode cX7_first 151 = .ok (.aload_n 0, 1) := dk_42 (dk_at dksX7_first_6 11 rfl rfl)
theorem dX7_first_152 : decode cX7_first 152 = .ok (.aload_n 0, 1) := dk_42 (dk_at dksX7_first_6 12 rfl rfl)
theorem dX7_first_153 : decode cX7_first 153 = .ok (.getfield 74, 3) := dk_180 0 74 (dk_at dksX7_first_6 13 rfl rfl)
theorem dX7_first_156 : decode cX7_first 156 = .ok (.invokevirtual 191, 3) := dk_182 0 191 (dk_at dksX7_first_6 16 rfl rfl)
theorem dX7_first_159 : decode cX7_first 159 = .ok (.ireturn, 1) := dk_172 (dk_at dksX7_first_6 19 rfl rfl)
abbrev cX7_firstAt : ByteArray := prog_17_method_115_code
def yX7_firstAt : MethodName := ⟨RX7, "firstAt", "(I)I"⟩
def dkwX7_firstAt_1 : List UInt8 := [180, 0, 71, 27, 46, 182, 0, 191, 172]
abbrev dktX7_firstAt_1 : List UInt8 := dkwX7_firstAt_1 ++ []
def dkwX7_firstAt_0 : List UInt8 := [27, 155, 0, 11, 27, 42, 180, 0, 74, 161, 0, 12, 42, 16, 6, 182, 0, 188, 167, 0, 13, 42, 42]
abbrev dktX7_firstAt_0 : List UInt8 := dkwX7_firstAt_0 ++ dktX7_firstAt_1
theorem dksX7_firstAt_0 : cX7_firstAt.data.toList.drop 0 = dktX7_firstAt_0 := by decide +kernel
theorem dksX7_firstAt_1 : cX7_firstAt.data.toList.drop 23 = dktX7_firstAt_1 := dk_seg dksX7_firstAt_0 23 rfl rfl
theorem dX7_firstAt_0 : decode cX7_firstAt 0 = .ok (.iload_n 1, 1) := dk_27 (dk_at dksX7_firstAt_0 0 rfl rfl)
theorem dX7_firstAt_1 : decode cX7_firstAt 1 = .ok (.ifCond .lt 11, 3) := dk_155 0 11 (dk_at dksX7_firstAt_0 1 rfl rfl)
theorem dX7_firstAt_4 : decode cX7_firstAt 4 = .ok (.iload_n 1, 1) := dk_27 (dk_at dksX7_firstAt_0 4 rfl rfl)
theorem dX7_firstAt_5 : decode cX7_firstAt 5 = .ok (.aload_n 0, 1) := dk_42 (dk_at dksX7_firstAt_0 5 rfl rfl)
theorem dX7_firstAt_6 : decode cX7_firstAt 6 = .ok (.getfield 74, 3) := dk_180 0 74 (dk_at dksX7_firstAt_0 6 rfl rfl)
theorem dX7_firstAt_9 : decode cX7_firstAt 9 = .ok (.if_icmp .lt 12, 3) := dk_161 0 12 (dk_at dksX7_firstAt_0 9 rfl rfl)
theorem dX7_firstAt_12 : decode cX7_firstAt 12 = .ok (.aload_n 0, 1) := dk_42 (dk_at dksX7_firstAt_0 12 rfl rfl)
theorem dX7_firstAt_13 : decode cX7_firstAt 13 = .ok (.bipush 6, 2) := dk_16 6 (dk_at dksX7_firstAt_0 13 rfl rfl)
theorem dX7_firstAt_15 : decode cX7_firstAt 15 = .ok (.invokevirtual 188, 3) := dk_182 0 188 (dk_at dksX7_firstAt_0 15 rfl rfl)
theorem dX7_firstAt_18 : decode cX7_firstAt 18 = .ok (.goto 13, 3) := dk_167 0 13 (dk_at dksX7_firstAt_0 18 rfl rfl)
theorem dX7_firstAt_21 : decode cX7_firstAt 21 = .ok (.aload_n 0, 1) := dk_42 (dk_at dksX7_firstAt_0 21 rfl rfl)
theorem dX7_firstAt_22 : decode cX7_firstAt 22 = .ok (.aload_n 0, 1) := dk_42 (dk_at dksX7_firstAt_0 22 rfl rfl)
theorem dX7_firstAt_23 : decode cX7_firstAt 23 = .ok (.getfield 71, 3) := dk_180 0 71 (dk_at dksX7_firstAt_1 0 rfl rfl)
theorem dX7_firstAt_26 : decode cX7_firstAt 26 = .ok (.iload_n 1, 1) := dk_27 (dk_at dksX7_firstAt_1 3 rfl rfl)
theorem dX7_firstAt_27 : decode cX7_firstAt 27 = .ok (.iaload, 1) := dk_46 (dk_at dksX7_firstAt_1 4 rfl rfl)
theorem dX7_firstAt_28 : decode cX7_firstAt 28 = .ok (.invokevirtual 191, 3) := dk_182 0 191 (dk_at dksX7_firstAt_1 5 rfl rfl)
theorem dX7_firstAt_31 : decode cX7_firstAt 31 = .ok (.ireturn, 1) := dk_172 (dk_at dksX7_firstAt_1 8 rfl rfl)
abbrev cX7_letters : ByteArray := prog_17_method_116_code
def yX7_letters : MethodName := ⟨RX7, "letters", "()I"⟩
def dkwX7_letters_1 : List UInt8 := [182, 0, 191, 172]
abbrev dktX7_letters_1 : List UInt8 := dkwX7_letters_1 ++ []
def dkwX7_letters_0 : List UInt8 := [42, 180, 0, 74, 2, 160, 0, 12, 42, 16, 6, 182, 0, 188, 167, 0, 11, 42, 42, 180, 1, 127]
abbrev dktX7_letters_0 : List UInt8 := dkwX7_letters_0 ++ dktX7_letters_1
theorem dksX7_letters_0 : cX7_letters.data.toList.drop 0 = dktX7_letters_0 := by decide +kernel
theorem dksX7_letters_1 : cX7_letters.data.toList.drop 22 = dktX7_letters_1 := dk_seg dksX7_letters_0 22 rfl rfl
theorem dX7_letters_0 : decode cX7_letters 0 = .ok (.aload_n 0, 1) := dk_42 (dk_at dksX7_letters_0 0 rfl rfl)
theorem dX7_letters_1 : decode cX7_letters 1 = .ok (.getfield 74, 3) := dk_180 0 74 (dk_at dksX7_letters_0 1 rfl rfl)
theorem dX7_letters_4 : decode cX7_letters 4 = .ok (.iconst (-1), 1) := dk_2 (dk_at dksX7_letters_0 4 rfl rfl)
theorem dX7_letters_5 : decode cX7_letters 5 = .ok (.if_icmp .ne 12, 3) := dk_160 0 12 (dk_at dksX7_letters_0 5 rfl rfl)
theorem dX7_letters_8 : decode cX7_letters 8 = .ok (.aload_n 0, 1) := dk_42 (dk_at dksX7_letters_0 8 rfl rfl)
theorem dX7_letters_9 : decode cX7_letters 9 = .ok (.bipush 6, 2) := dk_16 6 (dk_at dksX7_letters_0 9 rfl rfl)
theorem dX7_letters_11 : decode cX7_letters 11 = .ok (.invokevirtual 188, 3) := dk_182 0 188 (dk_at dksX7_letters_0 11 rfl rfl)
theorem dX7_letters_14 : decode cX7_letters 14 = .ok (.goto 11, 3) := dk_167 0 11 (dk_at dksX7_letters_0 14 rfl rfl)
theorem dX7_letters_17 : decode cX7_letters 17 = .ok (.aload_n 0, 1) := dk_42 (dk_at dksX7_letters_0 17 rfl rfl)
theorem dX7_letters_18 : decode cX7_letters 18 = .ok (.aload_n 0, 1) := dk_42 (dk_at dksX7_letters_0 18 rfl rfl)
theorem dX7_letters_19 : decode cX7_letters 19 = .ok (.getfield 383, 3) := dk_180 1 127 (dk_at dksX7_letters_0 19 rfl rfl)
theorem dX7_letters_22 : decode cX7_letters 22 = .ok (.invokevirtual 191, 3) := dk_182 0 191 (dk_at dksX7_letters_1 0 rfl rfl)
theorem dX7_letters_25 : decode cX7_letters 25 = .ok (.ireturn, 1) := dk_172 (dk_at dksX7_letters_1 3 rfl rfl)
abbrev cX7_truths : ByteArray := prog_17_method_118_code
def yX7_truths : MethodName := ⟨RX7, "truths", "(II)I"⟩
def dkwX7_truths_9 : List UInt8 := [182, 0, 191, 172]
abbrev dktX7_truths_9 : List UInt8 := dkwX7_truths_9 ++ []
def dkwX7_truths_8 : List UInt8 := [180, 0, 77, 21, 5, 2, 79, 42, 180, 0, 80, 21, 5, 21, 7, 79, 167, 255, 114, 42, 21, 4]
abbrev dktX7_truths_8 : List UInt8 := dkwX7_truths_8 ++ dktX7_truths_9
def dkwX7_truths_7 : List UInt8 := [96, 28, 182, 1, 130, 153, 0, 7, 4, 167, 0, 4, 3, 96, 54, 4, 167, 255, 137, 132, 5, 1, 42]
abbrev dktX7_truths_7 : List UInt8 := dkwX7_truths_7 ++ dktX7_truths_8
def dkwX7_truths_6 : List UInt8 := [180, 0, 68, 21, 7, 46, 154, 0, 6, 167, 255, 168, 21, 7, 28, 160, 0, 28, 21, 4, 42, 21, 5, 4]
abbrev dktX7_truths_6 : List UInt8 := dkwX7_truths_6 ++ dktX7_truths_7
def dkwX7_truths_5 : List UInt8 := [154, 0, 6, 167, 255, 197, 42, 180, 0, 80, 21, 5, 46, 42, 21, 6, 182, 1, 44, 96, 54, 7, 42]
abbrev dktX7_truths_5 : List UInt8 := dkwX7_truths_5 ++ dktX7_truths_6
def dkwX7_truths_4 : List UInt8 := [160, 0, 9, 132, 5, 255, 167, 255, 217, 42, 21, 6, 42, 180, 0, 80, 21, 5, 46, 28, 182, 1, 113]
abbrev dktX7_truths_4 : List UInt8 := dkwX7_truths_4 ++ dktX7_truths_5
def dkwX7_truths_3 : List UInt8 := [21, 5, 92, 46, 4, 96, 79, 42, 180, 0, 77, 21, 5, 46, 54, 6, 21, 6, 42, 180, 0, 7, 3, 46]
abbrev dktX7_truths_3 : List UInt8 := dkwX7_truths_3 ++ dktX7_truths_4
def dkwX7_truths_2 : List UInt8 := [42, 180, 0, 77, 3, 2, 79, 42, 180, 0, 80, 3, 3, 79, 21, 5, 155, 0, 143, 42, 180, 0, 77]
abbrev dktX7_truths_2 : List UInt8 := dkwX7_truths_2 ++ dktX7_truths_3
def dkwX7_truths_1 : List UInt8 := [42, 28, 182, 1, 124, 17, 39, 15, 164, 0, 10, 42, 16, 7, 182, 0, 188, 172, 3, 54, 4, 3, 54, 5]
abbrev dktX7_truths_1 : List UInt8 := dkwX7_truths_1 ++ dktX7_truths_2
def dkwX7_truths_0 : List UInt8 := [42, 27, 28, 4, 182, 1, 117, 62, 29, 158, 0, 9, 42, 29, 182, 0, 188, 172, 42, 27, 28, 182, 1, 121]
abbrev dktX7_truths_0 : List UInt8 := dkwX7_truths_0 ++ dktX7_truths_1
theorem dksX7_truths_0 : cX7_truths.data.toList.drop 0 = dktX7_truths_0 := by decide +kernel
theorem dksX7_truths_1 : cX7_truths.data.toList.drop 24 = dktX7_truths_1 := dk_seg dksX7_truths_0 24 rfl rfl
theorem dksX7_truths_2 : cX7_truths.data.toList.drop 48 = dktX7_truths_2 := dk_seg dksX7_truths_1 24 rfl rfl
theorem dksX7_truths_3 : cX7_truths.data.toList.drop 71 = dktX7_truths_3 := dk_seg dksX7_truths_2 23 rfl rfl
theorem dksX7_truths_4 : cX7_truths.data.toList.drop 95 = dktX7_truths_4 := dk_seg dksX7_truths_3 24 rfl rfl
theorem dksX7_truths_5 : cX7_truths.data.toList.drop 118 = dktX7_truths_5 := dk_seg dksX7_truths_4 23 rfl rfl
theorem dksX7_truths_6 : cX7_truths.data.toList.drop 141 = dktX7_truths_6 := dk_seg dksX7_truths_5 23 rfl rfl
theorem dksX7_truths_7 : cX7_truths.data.toList.drop 165 = dktX7_truths_7 := dk_seg dksX7_truths_6 24 rfl rfl
theorem dksX7_truths_8 : cX7_truths.data.toList.drop 188 = dktX7_truths_8 := dk_seg dksX7_truths_7 23 rfl rfl
theorem dksX7_truths_9 : cX7_truths.data.toList.drop 210 = dktX7_truths_9 := dk_seg dksX7_truths_8 22 rfl rfl
theorem dX7_truths_0 : decode cX7_truths 0 = .ok (.aload_n 0, 1) := dk_42 (dk_at dksX7_truths_0 0 rfl rfl)
theorem dX7_truths_1 : decode cX7_truths 1 = .ok (.iload_n 1, 1) := dk_27 (dk_at dksX7_truths_0 1 rfl rfl)
theorem dX7_truths_2 : decode cX7_truths 2 = .ok (.iload_n 2, 1) := dk_28 (dk_at dksX7_truths_0 2 rfl rfl)
theorem dX7_truths_3 : decode cX7_truths 3 = .ok (.iconst 1, 1) := dk_4 (dk_at dksX7_truths_0 3 rfl rfl)
theorem dX7_truths_4 : decode cX7_truths 4 = .ok (.invokevirtual 373, 3) := dk_182 1 117 (dk_at dksX7_truths_0 4 rfl rfl)
theorem dX7_truths_7 : decode cX7_truths 7 = .ok (.istore_n 3, 1) := dk_62 (dk_at dksX7_truths_0 7 rfl rfl)
theorem dX7_truths_8 : decode cX7_truths 8 = .ok (.iload_n 3, 1) := dk_29 (dk_at dksX7_truths_0 8 rfl rfl)
theorem dX7_truths_9 : decode cX7_truths 9 = .ok (.ifCond .le 9, 3) := dk_158 0 9 (dk_at dksX7_truths_0 9 rfl rfl)
theorem dX7_truths_12 : decode cX7_truths 12 = .ok (.aload_n 0, 1) := dk_42 (dk_at dksX7_truths_0 12 rfl rfl)
theorem dX7_truths_13 : decode cX7_truths 13 = .ok (.iload_n 3, 1) := dk_29 (dk_at dksX7_truths_0 13 rfl rfl)
theorem dX7_truths_14 : decode cX7_truths 14 = .ok (.invokevirtual 188, 3) := dk_182 0 188 (dk_at dksX7_truths_0 14 rfl rfl)
theorem dX7_truths_17 : decode cX7_truths 17 = .ok (.ireturn, 1) := dk_172 (dk_at dksX7_truths_0 17 rfl rfl)
theorem dX7_truths_18 : decode cX7_truths 18 = .ok (.aload_n 0, 1) := dk_42 (dk_at dksX7_truths_0 18 rfl rfl)
theorem dX7_truths_19 : decode cX7_truths 19 = .ok (.iload_n 1, 1) := dk_27 (dk_at dksX7_truths_0 19 rfl rfl)
theorem dX7_truths_20 : decode cX7_truths 20 = .ok (.iload_n 2, 1) := dk_28 (dk_at dksX7_truths_0 20 rfl rfl)
theorem dX7_truths_21 : decode cX7_truths 21 = .ok (.invokevirtual 377, 3) := dk_182 1 121 (dk_at dksX7_truths_0 21 rfl rfl)
theorem dX7_truths_24 : decode cX7_truths 24 = .ok (.aload_n 0, 1) := dk_42 (dk_at dksX7_truths_1 0 rfl rfl)
theorem dX7_truths_25 : decode cX7_truths 25 = .ok (.iload_n 2, 1) := dk_28 (dk_at dksX7_truths_1 1 rfl rfl)
theorem dX7_truths_26 : decode cX7_truths 26 = .ok (.invokevirtual 380, 3) := dk_182 1 124 (dk_at dksX7_truths_1 2 rfl rfl)
theorem dX7_truths_29 : decode cX7_truths 29 = .ok (.sipush 9999, 3) := dk_17 39 15 (dk_at dksX7_truths_1 5 rfl rfl)
theorem dX7_truths_32 : decode cX7_truths 32 = .ok (.if_icmp .le 10, 3) := dk_164 0 10 (dk_at dksX7_truths_1 8 rfl rfl)
theorem dX7_truths_35 : decode cX7_truths 35 = .ok (.aload_n 0, 1) := dk_42 (dk_at dksX7_truths_1 11 rfl rfl)
theorem dX7_truths_36 : decode cX7_truths 36 = .ok (.bipush 7, 2) := dk_16 7 (dk_at dksX7_truths_1 12 rfl rfl)
theorem dX7_truths_38 : decode cX7_truths 38 = .ok (.invokevirtual 188, 3) := dk_182 0 188 (dk_at dksX7_truths_1 14 rfl rfl)
theorem dX7_truths_41 : decode cX7_truths 41 = .ok (.ireturn, 1) := dk_172 (dk_at dksX7_truths_1 17 rfl rfl)
theorem dX7_truths_42 : decode cX7_truths 42 = .ok (.iconst 0, 1) := dk_3 (dk_at dksX7_truths_1 18 rfl rfl)
theorem dX7_truths_43 : decode cX7_truths 43 = .ok (.istore 4, 2) := dk_54 4 (dk_at dksX7_truths_1 19 rfl rfl)
theorem dX7_truths_45 : decode cX7_truths 45 = .ok (.iconst 0, 1) := dk_3 (dk_at dksX7_truths_1 21 rfl rfl)
theorem dX7_truths_46 : decode cX7_truths 46 = .ok (.istore 5, 2) := dk_54 5 (dk_at dksX7_truths_1 22 rfl rfl)
theorem dX7_truths_48 : decode cX7_truths 48 = .ok (.aload_n 0, 1) := dk_42 (dk_at dksX7_truths_2 0 rfl rfl)
theorem dX7_truths_49 : decode cX7_truths 49 = .ok (.getfield 77, 3) := dk_180 0 77 (dk_at dksX7_truths_2 1 rfl rfl)
theorem dX7_truths_52 : decode cX7_truths 52 = .ok (.iconst 0, 1) := dk_3 (dk_at dksX7_truths_2 4 rfl rfl)
theorem dX7_truths_53 : decode cX7_truths 53 = .ok (.iconst (-1), 1) := dk_2 (dk_at dksX7_truths_2 5 rfl rfl)
theorem dX7_truths_54 : decode cX7_truths 54 = .ok (.iastore, 1) := dk_79 (dk_at dksX7_truths_2 6 rfl rfl)
theorem dX7_truths_55 : decode cX7_truths 55 = .ok (.aload_n 0, 1) := dk_42 (dk_at dksX7_truths_2 7 rfl rfl)
theorem dX7_truths_56 : decode cX7_truths 56 = .ok (.getfield 80, 3) := dk_180 0 80 (dk_at dksX7_truths_2 8 rfl rfl)
theorem dX7_truths_59 : decode cX7_truths 59 = .ok (.iconst 0, 1) := dk_3 (dk_at dksX7_truths_2 11 rfl rfl)
theorem dX7_truths_60 : decode cX7_truths 60 = .ok (.iconst 0, 1) := dk_3 (dk_at dksX7_truths_2 12 rfl rfl)
theorem dX7_truths_61 : decode cX7_truths 61 = .ok (.iastore, 1) := dk_79 (dk_at dksX7_truths_2 13 rfl rfl)
theorem dX7_truths_62 : decode cX7_truths 62 = .ok (.iload 5, 2) := dk_21 5 (dk_at dksX7_truths_2 14 rfl rfl)
theorem dX7_truths_64 : decode cX7_truths 64 = .ok (.ifCond .lt 143, 3) := dk_155 0 143 (dk_at dksX7_truths_2 16 rfl rfl)
theorem dX7_truths_67 : decode cX7_truths 67 = .ok (.aload_n 0, 1) := dk_42 (dk_at dksX7_truths_2 19 rfl rfl)
theorem dX7_truths_68 : decode cX7_truths 68 = .ok (.getfield 77, 3) := dk_180 0 77 (dk_at dksX7_truths_2 20 rfl rfl)
theorem dX7_truths_71 : decode cX7_truths 71 = .ok (.iload 5, 2) := dk_21 5 (dk_at dksX7_truths_3 0 rfl rfl)
theorem dX7_truths_73 : decode cX7_truths 73 = .ok (.dup2, 1) := dk_92 (dk_at dksX7_truths_3 2 rfl rfl)
theorem dX7_truths_74 : decode cX7_truths 74 = .ok (.iaload, 1) := dk_46 (dk_at dksX7_truths_3 3 rfl rfl)
theorem dX7_truths_75 : decode cX7_truths 75 = .ok (.iconst 1, 1) := dk_4 (dk_at dksX7_truths_3 4 rfl rfl)
theorem dX7_truths_76 : decode cX7_truths 76 = .ok (.iadd, 1) := dk_96 (dk_at dksX7_truths_3 5 rfl rfl)
theorem dX7_truths_77 : decode cX7_truths 77 = .ok (.iastore, 1) := dk_79 (dk_at dksX7_truths_3 6 rfl rfl)
theorem dX7_truths_78 : decode cX7_truths 78 = .ok (.aload_n 0, 1) := dk_42 (dk_at dksX7_truths_3 7 rfl rfl)
theorem dX7_truths_79 : decode cX7_truths 79 = .ok (.getfield 77, 3) := dk_180 0 77 (dk_at dksX7_truths_3 8 rfl rfl)
theorem dX7_truths_82 : decode cX7_truths 82 = .ok (.iload 5, 2) := dk_21 5 (dk_at dksX7_truths_3 11 rfl rfl)
theorem dX7_truths_84 : decode cX7_truths 84 = .ok (.iaload, 1) := dk_46 (dk_at dksX7_truths_3 13 rfl rfl)
theorem dX7_truths_85 : decode cX7_truths 85 = .ok (.istore 6, 2) := dk_54 6 (dk_at dksX7_truths_3 14 rfl rfl)
theorem dX7_truths_87 : decode cX7_truths 87 = .ok (.iload 6, 2) := dk_21 6 (dk_at dksX7_truths_3 16 rfl rfl)
theorem dX7_truths_89 : decode cX7_truths 89 = .ok (.aload_n 0, 1) := dk_42 (dk_at dksX7_truths_3 18 rfl rfl)
theorem dX7_truths_90 : decode cX7_truths 90 = .ok (.getfield 7, 3) := dk_180 0 7 (dk_at dksX7_truths_3 19 rfl rfl)
theorem dX7_truths_93 : decode cX7_truths 93 = .ok (.iconst 0, 1) := dk_3 (dk_at dksX7_truths_3 22 rfl rfl)
theorem dX7_truths_94 : decode cX7_truths 94 = .ok (.iaload, 1) := dk_46 (dk_at dksX7_truths_3 23 rfl rfl)
theorem dX7_truths_95 : decode cX7_truths 95 = .ok (.if_icmp .ne 9, 3) := dk_160 0 9 (dk_at dksX7_truths_4 0 rfl rfl)
theorem dX7_truths_98 : decode cX7_truths 98 = .ok (.iinc 5 (-1), 3) := dk_132 5 255 (dk_at dksX7_truths_4 3 rfl rfl)
theorem dX7_truths_101 : decode cX7_truths 101 = .ok (.goto (-39), 3) := dk_167 255 217 (dk_at dksX7_truths_4 6 rfl rfl)
theorem dX7_truths_104 : decode cX7_truths 104 = .ok (.aload_n 0, 1) := dk_42 (dk_at dksX7_truths_4 9 rfl rfl)
theorem dX7_truths_105 : decode cX7_truths 105 = .ok (.iload 6, 2) := dk_21 6 (dk_at dksX7_truths_4 10 rfl rfl)
theorem dX7_truths_107 : decode cX7_truths 107 = .ok (.aload_n 0, 1) := dk_42 (dk_at dksX7_truths_4 12 rfl rfl)
theorem dX7_truths_108 : decode cX7_truths 108 = .ok (.getfield 80, 3) := dk_180 0 80 (dk_at dksX7_truths_4 13 rfl rfl)
theorem dX7_truths_111 : decode cX7_truths 111 = .ok (.iload 5, 2) := dk_21 5 (dk_at dksX7_truths_4 16 rfl rfl)
theorem dX7_truths_113 : decode cX7_truths 113 = .ok (.iaload, 1) := dk_46 (dk_at dksX7_truths_4 18 rfl rfl)
theorem dX7_truths_114 : decode cX7_truths 114 = .ok (.iload_n 2, 1) := dk_28 (dk_at dksX7_truths_4 19 rfl rfl)
theorem dX7_truths_115 : decode cX7_truths 115 = .ok (.invokevirtual 369, 3) := dk_182 1 113 (dk_at dksX7_truths_4 20 rfl rfl)
theorem dX7_truths_118 : decode cX7_truths 118 = .ok (.ifCond .ne 6, 3) := dk_154 0 6 (dk_at dksX7_truths_5 0 rfl rfl)
theorem dX7_truths_121 : decode cX7_truths 121 = .ok (.goto (-59), 3) := dk_167 255 197 (dk_at dksX7_truths_5 3 rfl rfl)
theorem dX7_truths_124 : decode cX7_truths 124 = .ok (.aload_n 0, 1) := dk_42 (dk_at dksX7_truths_5 6 rfl rfl)
theorem dX7_truths_125 : decode cX7_truths 125 = .ok (.getfield 80, 3) := dk_180 0 80 (dk_at dksX7_truths_5 7 rfl rfl)
theorem dX7_truths_128 : decode cX7_truths 128 = .ok (.iload 5, 2) := dk_21 5 (dk_at dksX7_truths_5 10 rfl rfl)
theorem dX7_truths_130 : decode cX7_truths 130 = .ok (.iaload, 1) := dk_46 (dk_at dksX7_truths_5 12 rfl rfl)
theorem dX7_truths_131 : decode cX7_truths 131 = .ok (.aload_n 0, 1) := dk_42 (dk_at dksX7_truths_5 13 rfl rfl)
theorem dX7_truths_132 : decode cX7_truths 132 = .ok (.iload 6, 2) := dk_21 6 (dk_at dksX7_truths_5 14 rfl rfl)
theorem dX7_truths_134 : decode cX7_truths 134 = .ok (.invokevirtual 300, 3) := dk_182 1 44 (dk_at dksX7_truths_5 16 rfl rfl)
theorem dX7_truths_137 : decode cX7_truths 137 = .ok (.iadd, 1) := dk_96 (dk_at dksX7_truths_5 19 rfl rfl)
theorem dX7_truths_138 : decode cX7_truths 138 = .ok (.istore 7, 2) := dk_54 7 (dk_at dksX7_truths_5 20 rfl rfl)
theorem dX7_truths_140 : decode cX7_truths 140 = .ok (.aload_n 0, 1) := dk_42 (dk_at dksX7_truths_5 22 rfl rfl)
theorem dX7_truths_141 : decode cX7_truths 141 = .ok (.getfield 68, 3) := dk_180 0 68 (dk_at dksX7_truths_6 0 rfl rfl)
theorem dX7_truths_144 : decode cX7_truths 144 = .ok (.iload 7, 2) := dk_21 7 (dk_at dksX7_truths_6 3 rfl rfl)
theorem dX7_truths_146 : decode cX7_truths 146 = .ok (.iaload, 1) := dk_46 (dk_at dksX7_truths_6 5 rfl rfl)
theorem dX7_truths_147 : decode cX7_truths 147 = .ok (.ifCond .ne 6, 3) := dk_154 0 6 (dk_at dksX7_truths_6 6 rfl rfl)
theorem dX7_truths_150 : decode cX7_truths 150 = .ok (.goto (-88), 3) := dk_167 255 168 (dk_at dksX7_truths_6 9 rfl rfl)
theorem dX7_truths_153 : decode cX7_truths 153 = .ok (.iload 7, 2) := dk_21 7 (dk_at dksX7_truths_6 12 rfl rfl)
theorem dX7_truths_155 : decode cX7_truths 155 = .ok (.iload_n 2, 1) := dk_28 (dk_at dksX7_truths_6 14 rfl rfl)
theorem dX7_truths_156 : decode cX7_truths 156 = .ok (.if_icmp .ne 28, 3) := dk_160 0 28 (dk_at dksX7_truths_6 15 rfl rfl)
theorem dX7_truths_159 : decode cX7_truths 159 = .ok (.iload 4, 2) := dk_21 4 (dk_at dksX7_truths_6 18 rfl rfl)
theorem dX7_truths_161 : decode cX7_truths 161 = .ok (.aload_n 0, 1) := dk_42 (dk_at dksX7_truths_6 20 rfl rfl)
theorem dX7_truths_162 : decode cX7_truths 162 = .ok (.iload 5, 2) := dk_21 5 (dk_at dksX7_truths_6 21 rfl rfl)
theorem dX7_truths_164 : decode cX7_truths 164 = .ok (.iconst 1, 1) := dk_4 (dk_at dksX7_truths_6 23 rfl rfl)
theorem dX7_truths_165 : decode cX7_truths 165 = .ok (.iadd, 1) := dk_96 (dk_at dksX7_truths_7 0 rfl rfl)
theorem dX7_truths_166 : decode cX7_truths 166 = .ok (.iload_n 2, 1) := dk_28 (dk_at dksX7_truths_7 1 rfl rfl)
theorem dX7_truths_167 : decode cX7_truths 167 = .ok (.invokevirtual 386, 3) := dk_182 1 130 (dk_at dksX7_truths_7 2 rfl rfl)
theorem dX7_truths_170 : decode cX7_truths 170 = .ok (.ifCond .eq 7, 3) := dk_153 0 7 (dk_at dksX7_truths_7 5 rfl rfl)
theorem dX7_truths_173 : decode cX7_truths 173 = .ok (.iconst 1, 1) := dk_4 (dk_at dksX7_truths_7 8 rfl rfl)
theorem dX7_truths_174 : decode cX7_truths 174 = .ok (.goto 4, 3) := dk_167 0 4 (dk_at dksX7_truths_7 9 rfl rfl)
theorem dX7_truths_177 : decode cX7_truths 177 = .ok (.iconst 0, 1) := dk_3 (dk_at dksX7_truths_7 12 rfl rfl)
theorem dX7_truths_178 : decode cX7_truths 178 = .ok (.iadd, 1) := dk_96 (dk_at dksX7_truths_7 13 rfl rfl)
theorem dX7_truths_179 : decode cX7_truths 179 = .ok (.istore 4, 2) := dk_54 4 (dk_at dksX7_truths_7 14 rfl rfl)
theorem dX7_truths_181 : decode cX7_truths 181 = .ok (.goto (-119), 3) := dk_167 255 137 (dk_at dksX7_truths_7 16 rfl rfl)
theorem dX7_truths_184 : decode cX7_truths 184 = .ok (.iinc 5 1, 3) := dk_132 5 1 (dk_at dksX7_truths_7 19 rfl rfl)
theorem dX7_truths_187 : decode cX7_truths 187 = .ok (.aload_n 0, 1) := dk_42 (dk_at dksX7_truths_7 22 rfl rfl)
theorem dX7_truths_188 : decode cX7_truths 188 = .ok (.getfield 77, 3) := dk_180 0 77 (dk_at dksX7_truths_8 0 rfl rfl)
theorem dX7_truths_191 : decode cX7_truths 191 = .ok (.iload 5, 2) := dk_21 5 (dk_at dksX7_truths_8 3 rfl rfl)
theorem dX7_truths_193 : decode cX7_truths 193 = .ok (.iconst (-1), 1) := dk_2 (dk_at dksX7_truths_8 5 rfl rfl)
theorem dX7_truths_194 : decode cX7_truths 194 = .ok (.iastore, 1) := dk_79 (dk_at dksX7_truths_8 6 rfl rfl)
theorem dX7_truths_195 : decode cX7_truths 195 = .ok (.aload_n 0, 1) := dk_42 (dk_at dksX7_truths_8 7 rfl rfl)
theorem dX7_truths_196 : decode cX7_truths 196 = .ok (.getfield 80, 3) := dk_180 0 80 (dk_at dksX7_truths_8 8 rfl rfl)
theorem dX7_truths_199 : decode cX7_truths 199 = .ok (.iload 5, 2) := dk_21 5 (dk_at dksX7_truths_8 11 rfl rfl)
theorem dX7_truths_201 : decode cX7_truths 201 = .ok (.iload 7, 2) := dk_21 7 (dk_at dksX7_truths_8 13 rfl rfl)
theorem dX7_truths_203 : decode cX7_truths 203 = .ok (.iastore, 1) := dk_79 (dk_at dksX7_truths_8 15 rfl rfl)
theorem dX7_truths_204 : decode cX7_truths 204 = .ok (.goto (-142), 3) := dk_167 255 114 (dk_at dksX7_truths_8 16 rfl rfl)
theorem dX7_truths_207 : decode cX7_truths 207 = .ok (.aload_n 0, 1) := dk_42 (dk_at dksX7_truths_8 19 rfl rfl)
theorem dX7_truths_208 : decode cX7_truths 208 = .ok (.iload 4, 2) := dk_21 4 (dk_at dksX7_truths_8 20 rfl rfl)
theorem dX7_truths_210 : decode cX7_truths 210 = .ok (.invokevirtual 191, 3) := dk_182 0 191 (dk_at dksX7_truths_9 0 rfl rfl)
theorem dX7_truths_213 : decode cX7_truths 213 = .ok (.ireturn, 1) := dk_172 (dk_at dksX7_truths_9 3 rfl rfl)
abbrev cX7_isTrue : ByteArray := prog_17_method_117_code
def yX7_isTrue : MethodName := ⟨RX7, "isTrue", "(II)Z"⟩
def dkwX7_isTrue_6 : List UInt8 := [21, 4, 46, 159, 0, 5, 3, 172, 132, 4, 1, 167, 255, 224, 4, 172]
abbrev dktX7_isTrue_6 : List UInt8 := dkwX7_isTrue_6 ++ []
def dkwX7_isTrue_5 : List UInt8 := [54, 4, 21, 4, 28, 162, 0, 32, 42, 180, 0, 7, 17, 66, 204, 21, 4, 96, 46, 42, 180, 0, 62]
abbrev dktX7_isTrue_5 : List UInt8 := dkwX7_isTrue_5 ++ dktX7_isTrue_6
def dkwX7_isTrue_4 : List UInt8 := [16, 6, 46, 182, 1, 35, 153, 0, 15, 42, 180, 0, 7, 17, 64, 124, 46, 28, 159, 0, 5, 3, 172, 3]
abbrev dktX7_isTrue_4 : List UInt8 := dkwX7_isTrue_4 ++ dktX7_isTrue_5
def dkwX7_isTrue_3 : List UInt8 := [167, 255, 211, 132, 4, 1, 167, 255, 183, 42, 180, 0, 7, 17, 64, 123, 29, 79, 42, 42, 180, 0, 7]
abbrev dktX7_isTrue_3 : List UInt8 := dkwX7_isTrue_3 ++ dktX7_isTrue_4
def dkwX7_isTrue_2 : List UInt8 := [16, 97, 42, 180, 0, 7, 21, 5, 4, 96, 21, 6, 96, 46, 96, 4, 100, 79, 132, 3, 1, 132, 6, 1]
abbrev dktX7_isTrue_2 : List UInt8 := dkwX7_isTrue_2 ++ dktX7_isTrue_3
def dkwX7_isTrue_1 : List UInt8 := [3, 54, 6, 21, 6, 42, 180, 0, 7, 21, 5, 46, 162, 0, 39, 42, 180, 0, 7, 17, 65, 160, 29, 96]
abbrev dktX7_isTrue_1 : List UInt8 := dkwX7_isTrue_1 ++ dktX7_isTrue_2
def dkwX7_isTrue_0 : List UInt8 := [3, 62, 3, 54, 4, 21, 4, 27, 162, 0, 73, 3, 42, 180, 0, 77, 21, 4, 46, 184, 0, 194, 54, 5]
abbrev dktX7_isTrue_0 : List UInt8 := dkwX7_isTrue_0 ++ dktX7_isTrue_1
theorem dksX7_isTrue_0 : cX7_isTrue.data.toList.drop 0 = dktX7_isTrue_0 := by decide +kernel
theorem dksX7_isTrue_1 : cX7_isTrue.data.toList.drop 24 = dktX7_isTrue_1 := dk_seg dksX7_isTrue_0 24 rfl rfl
theorem dksX7_isTrue_2 : cX7_isTrue.data.toList.drop 48 = dktX7_isTrue_2 := dk_seg dksX7_isTrue_1 24 rfl rfl
theorem dksX7_isTrue_3 : cX7_isTrue.data.toList.drop 72 = dktX7_isTrue_3 := dk_seg dksX7_isTrue_2 24 rfl rfl
theorem dksX7_isTrue_4 : cX7_isTrue.data.toList.drop 95 = dktX7_isTrue_4 := dk_seg dksX7_isTrue_3 23 rfl rfl
theorem dksX7_isTrue_5 : cX7_isTrue.data.toList.drop 119 = dktX7_isTrue_5 := dk_seg dksX7_isTrue_4 24 rfl rfl
theorem dksX7_isTrue_6 : cX7_isTrue.data.toList.drop 142 = dktX7_isTrue_6 := dk_seg dksX7_isTrue_5 23 rfl rfl
theorem dX7_isTrue_0 : decode cX7_isTrue 0 = .ok (.iconst 0, 1) := dk_3 (dk_at dksX7_isTrue_0 0 rfl rfl)
theorem dX7_isTrue_1 : decode cX7_isTrue 1 = .ok (.istore_n 3, 1) := dk_62 (dk_at dksX7_isTrue_0 1 rfl rfl)
theorem dX7_isTrue_2 : decode cX7_isTrue 2 = .ok (.iconst 0, 1) := dk_3 (dk_at dksX7_isTrue_0 2 rfl rfl)
theorem dX7_isTrue_3 : decode cX7_isTrue 3 = .ok (.istore 4, 2) := dk_54 4 (dk_at dksX7_isTrue_0 3 rfl rfl)
theorem dX7_isTrue_5 : decode cX7_isTrue 5 = .ok (.iload 4, 2) := dk_21 4 (dk_at dksX7_isTrue_0 5 rfl rfl)
theorem dX7_isTrue_7 : decode cX7_isTrue 7 = .ok (.iload_n 1, 1) := dk_27 (dk_at dksX7_isTrue_0 7 rfl rfl)
theorem dX7_isTrue_8 : decode cX7_isTrue 8 = .ok (.if_icmp .ge 73, 3) := dk_162 0 73 (dk_at dksX7_isTrue_0 8 rfl rfl)
theorem dX7_isTrue_11 : decode cX7_isTrue 11 = .ok (.iconst 0, 1) := dk_3 (dk_at dksX7_isTrue_0 11 rfl rfl)
theorem dX7_isTrue_12 : decode cX7_isTrue 12 = .ok (.aload_n 0, 1) := dk_42 (dk_at dksX7_isTrue_0 12 rfl rfl)
theorem dX7_isTrue_13 : decode cX7_isTrue 13 = .ok (.getfield 77, 3) := dk_180 0 77 (dk_at dksX7_isTrue_0 13 rfl rfl)
theorem dX7_isTrue_16 : decode cX7_isTrue 16 = .ok (.iload 4, 2) := dk_21 4 (dk_at dksX7_isTrue_0 16 rfl rfl)
theorem dX7_isTrue_18 : decode cX7_isTrue 18 = .ok (.iaload, 1) := dk_46 (dk_at dksX7_isTrue_0 18 rfl rfl)
theorem dX7_isTrue_19 : decode cX7_isTrue 19 = .ok (.invokestatic 194, 3) := dk_184 0 194 (dk_at dksX7_isTrue_0 19 rfl rfl)
theorem dX7_isTrue_22 : decode cX7_isTrue 22 = .ok (.istore 5, 2) := dk_54 5 (dk_at dksX7_isTrue_0 22 rfl rfl)
theorem dX7_isTrue_24 : decode cX7_isTrue 24 = .ok (.iconst 0, 1) := dk_3 (dk_at dksX7_isTrue_1 0 rfl rfl)
theorem dX7_isTrue_25 : decode cX7_isTrue 25 = .ok (.istore 6, 2) := dk_54 6 (dk_at dksX7_isTrue_1 1 rfl rfl)
theorem dX7_isTrue_27 : decode cX7_isTrue 27 = .ok (.iload 6, 2) := dk_21 6 (dk_at dksX7_isTrue_1 3 rfl rfl)
theorem dX7_isTrue_29 : decode cX7_isTrue 29 = .ok (.aload_n 0, 1) := dk_42 (dk_at dksX7_isTrue_1 5 rfl rfl)
theorem dX7_isTrue_30 : decode cX7_isTrue 30 = .ok (.getfield 7, 3) := dk_180 0 7 (dk_at dksX7_isTrue_1 6 rfl rfl)
theorem dX7_isTrue_33 : decode cX7_isTrue 33 = .ok (.iload 5, 2) := dk_21 5 (dk_at dksX7_isTrue_1 9 rfl rfl)
theorem dX7_isTrue_35 : decode cX7_isTrue 35 = .ok (.iaload, 1) := dk_46 (dk_at dksX7_isTrue_1 11 rfl rfl)
theorem dX7_isTrue_36 : decode cX7_isTrue 36 = .ok (.if_icmp .ge 39, 3) := dk_162 0 39 (dk_at dksX7_isTrue_1 12 rfl rfl)
theorem dX7_isTrue_39 : decode cX7_isTrue 39 = .ok (.aload_n 0, 1) := dk_42 (dk_at dksX7_isTrue_1 15 rfl rfl)
theorem dX7_isTrue_40 : decode cX7_isTrue 40 = .ok (.getfield 7, 3) := dk_180 0 7 (dk_at dksX7_isTrue_1 16 rfl rfl)
theorem dX7_isTrue_43 : decode cX7_isTrue 43 = .ok (.sipush 16800, 3) := dk_17 65 160 (dk_at dksX7_isTrue_1 19 rfl rfl)
theorem dX7_isTrue_46 : decode cX7_isTrue 46 = .ok (.iload_n 3, 1) := dk_29 (dk_at dksX7_isTrue_1 22 rfl rfl)
theorem dX7_isTrue_47 : decode cX7_isTrue 47 = .ok (.iadd, 1) := dk_96 (dk_at dksX7_isTrue_1 23 rfl rfl)
theorem dX7_isTrue_48 : decode cX7_isTrue 48 = .ok (.bipush 97, 2) := dk_16 97 (dk_at dksX7_isTrue_2 0 rfl rfl)
theorem dX7_isTrue_50 : decode cX7_isTrue 50 = .ok (.aload_n 0, 1) := dk_42 (dk_at dksX7_isTrue_2 2 rfl rfl)
theorem dX7_isTrue_51 : decode cX7_isTrue 51 = .ok (.getfield 7, 3) := dk_180 0 7 (dk_at dksX7_isTrue_2 3 rfl rfl)
theorem dX7_isTrue_54 : decode cX7_isTrue 54 = .ok (.iload 5, 2) := dk_21 5 (dk_at dksX7_isTrue_2 6 rfl rfl)
theorem dX7_isTrue_56 : decode cX7_isTrue 56 = .ok (.iconst 1, 1) := dk_4 (dk_at dksX7_isTrue_2 8 rfl rfl)
theorem dX7_isTrue_57 : decode cX7_isTrue 57 = .ok (.iadd, 1) := dk_96 (dk_at dksX7_isTrue_2 9 rfl rfl)
theorem dX7_isTrue_58 : decode cX7_isTrue 58 = .ok (.iload 6, 2) := dk_21 6 (dk_at dksX7_isTrue_2 10 rfl rfl)
theorem dX7_isTrue_60 : decode cX7_isTrue 60 = .ok (.iadd, 1) := dk_96 (dk_at dksX7_isTrue_2 12 rfl rfl)
theorem dX7_isTrue_61 : decode cX7_isTrue 61 = .ok (.iaload, 1) := dk_46 (dk_at dksX7_isTrue_2 13 rfl rfl)
theorem dX7_isTrue_62 : decode cX7_isTrue 62 = .ok (.iadd, 1) := dk_96 (dk_at dksX7_isTrue_2 14 rfl rfl)
theorem dX7_isTrue_63 : decode cX7_isTrue 63 = .ok (.iconst 1, 1) := dk_4 (dk_at dksX7_isTrue_2 15 rfl rfl)
theorem dX7_isTrue_64 : decode cX7_isTrue 64 = .ok (.isub, 1) := dk_100 (dk_at dksX7_isTrue_2 16 rfl rfl)
theorem dX7_isTrue_65 : decode cX7_isTrue 65 = .ok (.iastore, 1) := dk_79 (dk_at dksX7_isTrue_2 17 rfl rfl)
theorem dX7_isTrue_66 : decode cX7_isTrue 66 = .ok (.iinc 3 1, 3) := dk_132 3 1 (dk_at dksX7_isTrue_2 18 rfl rfl)
theorem dX7_isTrue_69 : decode cX7_isTrue 69 = .ok (.iinc 6 1, 3) := dk_132 6 1 (dk_at dksX7_isTrue_2 21 rfl rfl)
theorem dX7_isTrue_72 : decode cX7_isTrue 72 = .ok (.goto (-45), 3) := dk_167 255 211 (dk_at dksX7_isTrue_3 0 rfl rfl)
theorem dX7_isTrue_75 : decode cX7_isTrue 75 = .ok (.iinc 4 1, 3) := dk_132 4 1 (dk_at dksX7_isTrue_3 3 rfl rfl)
theorem dX7_isTrue_78 : decode cX7_isTrue 78 = .ok (.goto (-73), 3) := dk_167 255 183 (dk_at dksX7_isTrue_3 6 rfl rfl)
theorem dX7_isTrue_81 : decode cX7_isTrue 81 = .ok (.aload_n 0, 1) := dk_42 (dk_at dksX7_isTrue_3 9 rfl rfl)
theorem dX7_isTrue_82 : decode cX7_isTrue 82 = .ok (.getfield 7, 3) := dk_180 0 7 (dk_at dksX7_isTrue_3 10 rfl rfl)
theorem dX7_isTrue_85 : decode cX7_isTrue 85 = .ok (.sipush 16507, 3) := dk_17 64 123 (dk_at dksX7_isTrue_3 13 rfl rfl)
theorem dX7_isTrue_88 : decode cX7_isTrue 88 = .ok (.iload_n 3, 1) := dk_29 (dk_at dksX7_isTrue_3 16 rfl rfl)
theorem dX7_isTrue_89 : decode cX7_isTrue 89 = .ok (.iastore, 1) := dk_79 (dk_at dksX7_isTrue_3 17 rfl rfl)
theorem dX7_isTrue_90 : decode cX7_isTrue 90 = .ok (.aload_n 0, 1) := dk_42 (dk_at dksX7_isTrue_3 18 rfl rfl)
theorem dX7_isTrue_91 : decode cX7_isTrue 91 = .ok (.aload_n 0, 1) := dk_42 (dk_at dksX7_isTrue_3 19 rfl rfl)
theorem dX7_isTrue_92 : decode cX7_isTrue 92 = .ok (.getfield 7, 3) := dk_180 0 7 (dk_at dksX7_isTrue_3 20 rfl rfl)
theorem dX7_isTrue_95 : decode cX7_isTrue 95 = .ok (.bipush 6, 2) := dk_16 6 (dk_at dksX7_isTrue_4 0 rfl rfl)
theorem dX7_isTrue_97 : decode cX7_isTrue 97 = .ok (.iaload, 1) := dk_46 (dk_at dksX7_isTrue_4 2 rfl rfl)
theorem dX7_isTrue_98 : decode cX7_isTrue 98 = .ok (.invokevirtual 291, 3) := dk_182 1 35 (dk_at dksX7_isTrue_4 3 rfl rfl)
theorem dX7_isTrue_101 : decode cX7_isTrue 101 = .ok (.ifCond .eq 15, 3) := dk_153 0 15 (dk_at dksX7_isTrue_4 6 rfl rfl)
theorem dX7_isTrue_104 : decode cX7_isTrue 104 = .ok (.aload_n 0, 1) := dk_42 (dk_at dksX7_isTrue_4 9 rfl rfl)
theorem dX7_isTrue_105 : decode cX7_isTrue 105 = .ok (.getfield 7, 3) := dk_180 0 7 (dk_at dksX7_isTrue_4 10 rfl rfl)
theorem dX7_isTrue_108 : decode cX7_isTrue 108 = .ok (.sipush 16508, 3) := dk_17 64 124 (dk_at dksX7_isTrue_4 13 rfl rfl)
theorem dX7_isTrue_111 : decode cX7_isTrue 111 = .ok (.iaload, 1) := dk_46 (dk_at dksX7_isTrue_4 16 rfl rfl)
theorem dX7_isTrue_112 : decode cX7_isTrue 112 = .ok (.iload_n 2, 1) := dk_28 (dk_at dksX7_isTrue_4 17 rfl rfl)
theorem dX7_isTrue_113 : decode cX7_isTrue 113 = .ok (.if_icmp .eq 5, 3) := dk_159 0 5 (dk_at dksX7_isTrue_4 18 rfl rfl)
theorem dX7_isTrue_116 : decode cX7_isTrue 116 = .ok (.iconst 0, 1) := dk_3 (dk_at dksX7_isTrue_4 21 rfl rfl)
theorem dX7_isTrue_117 : decode cX7_isTrue 117 = .ok (.ireturn, 1) := dk_172 (dk_at dksX7_isTrue_4 22 rfl rfl)
theorem dX7_isTrue_118 : decode cX7_isTrue 118 = .ok (.iconst 0, 1) := dk_3 (dk_at dksX7_isTrue_4 23 rfl rfl)
theorem dX7_isTrue_119 : decode cX7_isTrue 119 = .ok (.istore 4, 2) := dk_54 4 (dk_at dksX7_isTrue_5 0 rfl rfl)
theorem dX7_isTrue_121 : decode cX7_isTrue 121 = .ok (.iload 4, 2) := dk_21 4 (dk_at dksX7_isTrue_5 2 rfl rfl)
theorem dX7_isTrue_123 : decode cX7_isTrue 123 = .ok (.iload_n 2, 1) := dk_28 (dk_at dksX7_isTrue_5 4 rfl rfl)
theorem dX7_isTrue_124 : decode cX7_isTrue 124 = .ok (.if_icmp .ge 32, 3) := dk_162 0 32 (dk_at dksX7_isTrue_5 5 rfl rfl)
theorem dX7_isTrue_127 : decode cX7_isTrue 127 = .ok (.aload_n 0, 1) := dk_42 (dk_at dksX7_isTrue_5 8 rfl rfl)
theorem dX7_isTrue_128 : decode cX7_isTrue 128 = .ok (.getfield 7, 3) := dk_180 0 7 (dk_at dksX7_isTrue_5 9 rfl rfl)
theorem dX7_isTrue_131 : decode cX7_isTrue 131 = .ok (.sipush 17100, 3) := dk_17 66 204 (dk_at dksX7_isTrue_5 12 rfl rfl)
theorem dX7_isTrue_134 : decode cX7_isTrue 134 = .ok (.iload 4, 2) := dk_21 4 (dk_at dksX7_isTrue_5 15 rfl rfl)
theorem dX7_isTrue_136 : decode cX7_isTrue 136 = .ok (.iadd, 1) := dk_96 (dk_at dksX7_isTrue_5 17 rfl rfl)
theorem dX7_isTrue_137 : decode cX7_isTrue 137 = .ok (.iaload, 1) := dk_46 (dk_at dksX7_isTrue_5 18 rfl rfl)
theorem dX7_isTrue_138 : decode cX7_isTrue 138 = .ok (.aload_n 0, 1) := dk_42 (dk_at dksX7_isTrue_5 19 rfl rfl)
theorem dX7_isTrue_139 : decode cX7_isTrue 139 = .ok (.getfield 62, 3) := dk_180 0 62 (dk_at dksX7_isTrue_5 20 rfl rfl)
theorem dX7_isTrue_142 : decode cX7_isTrue 142 = .ok (.iload 4, 2) := dk_21 4 (dk_at dksX7_isTrue_6 0 rfl rfl)
theorem dX7_isTrue_144 : decode cX7_isTrue 144 = .ok (.iaload, 1) := dk_46 (dk_at dksX7_isTrue_6 2 rfl rfl)
theorem dX7_isTrue_145 : decode cX7_isTrue 145 = .ok (.if_icmp .eq 5, 3) := dk_159 0 5 (dk_at dksX7_isTrue_6 3 rfl rfl)
theorem dX7_isTrue_148 : decode cX7_isTrue 148 = .ok (.iconst 0, 1) := dk_3 (dk_at dksX7_isTrue_6 6 rfl rfl)
theorem dX7_isTrue_149 : decode cX7_isTrue 149 = .ok (.ireturn, 1) := dk_172 (dk_at dksX7_isTrue_6 7 rfl rfl)
theorem dX7_isTrue_150 : decode cX7_isTrue 150 = .ok (.iinc 4 1, 3) := dk_132 4 1 (dk_at dksX7_isTrue_6 8 rfl rfl)
theorem dX7_isTrue_153 : decode cX7_isTrue 153 = .ok (.goto (-32), 3) := dk_167 255 224 (dk_at dksX7_isTrue_6 11 rfl rfl)
theorem dX7_isTrue_156 : decode cX7_isTrue 156 = .ok (.iconst 1, 1) := dk_4 (dk_at dksX7_isTrue_6 14 rfl rfl)
theorem dX7_isTrue_157 : decode cX7_isTrue 157 = .ok (.ireturn, 1) := dk_172 (dk_at dksX7_isTrue_6 15 rfl rfl)
abbrev cX7_failed : ByteArray := prog_17_method_119_code
def yX7_failed : MethodName := ⟨RX7, "failed", "(III)I"⟩
def dkwX7_failed_6 : List UInt8 := [132, 5, 1, 167, 255, 227, 42, 42, 29, 182, 1, 124, 182, 0, 191, 172]
abbrev dktX7_failed_6 : List UInt8 := dkwX7_failed_6 ++ []
def dkwX7_failed_5 : List UInt8 := [162, 0, 29, 42, 180, 0, 65, 21, 5, 42, 180, 0, 23, 16, 60, 28, 104, 21, 5, 96, 47, 136, 79]
abbrev dktX7_failed_5 : List UInt8 := dkwX7_failed_5 ++ dktX7_failed_6
def dkwX7_failed_4 : List UInt8 := [182, 1, 117, 158, 0, 9, 42, 8, 182, 0, 188, 172, 42, 27, 29, 182, 1, 121, 3, 54, 5, 21, 5, 29]
abbrev dktX7_failed_4 : List UInt8 := dkwX7_failed_4 ++ dktX7_failed_5
def dkwX7_failed_3 : List UInt8 := [180, 0, 20, 28, 46, 29, 162, 0, 9, 42, 6, 182, 0, 188, 172, 21, 4, 157, 0, 13, 42, 28, 29, 3]
abbrev dktX7_failed_3 : List UInt8 := dkwX7_failed_3 ++ dktX7_failed_4
def dkwX7_failed_2 : List UInt8 := [28, 46, 2, 160, 0, 9, 42, 5, 182, 0, 188, 172, 42, 180, 0, 20, 27, 46, 29, 161, 0, 13, 42]
abbrev dktX7_failed_2 : List UInt8 := dkwX7_failed_2 ++ dktX7_failed_3
def dkwX7_failed_1 : List UInt8 := [4, 160, 0, 9, 42, 4, 182, 0, 188, 172, 42, 180, 0, 20, 27, 46, 2, 159, 0, 13, 42, 180, 0, 20]
abbrev dktX7_failed_1 : List UInt8 := dkwX7_failed_1 ++ dktX7_failed_2
def dkwX7_failed_0 : List UInt8 := [28, 184, 0, 109, 154, 0, 9, 42, 4, 182, 0, 188, 172, 42, 27, 29, 4, 182, 1, 117, 54, 4, 21, 4]
abbrev dktX7_failed_0 : List UInt8 := dkwX7_failed_0 ++ dktX7_failed_1
theorem dksX7_failed_0 : cX7_failed.data.toList.drop 0 = dktX7_failed_0 := by decide +kernel
theorem dksX7_failed_1 : cX7_failed.data.toList.drop 24 = dktX7_failed_1 := dk_seg dksX7_failed_0 24 rfl rfl
theorem dksX7_failed_2 : cX7_failed.data.toList.drop 48 = dktX7_failed_2 := dk_seg dksX7_failed_1 24 rfl rfl
theorem dksX7_failed_3 : cX7_failed.data.toList.drop 71 = dktX7_failed_3 := dk_seg dksX7_failed_2 23 rfl rfl
theorem dksX7_failed_4 : cX7_failed.data.toList.drop 95 = dktX7_failed_4 := dk_seg dksX7_failed_3 24 rfl rfl
theorem dksX7_failed_5 : cX7_failed.data.toList.drop 119 = dktX7_failed_5 := dk_seg dksX7_failed_4 24 rfl rfl
theorem dksX7_failed_6 : cX7_failed.data.toList.drop 142 = dktX7_failed_6 := dk_seg dksX7_failed_5 23 rfl rfl
theorem dX7_failed_0 : decode cX7_failed 0 = .ok (.iload_n 2, 1) := dk_28 (dk_at dksX7_failed_0 0 rfl rfl)
theorem dX7_failed_1 : decode cX7_failed 1 = .ok (.invokestatic 109, 3) := dk_184 0 109 (dk_at dksX7_failed_0 1 rfl rfl)
theorem dX7_failed_4 : decode cX7_failed 4 = .ok (.ifCond .ne 9, 3) := dk_154 0 9 (dk_at dksX7_failed_0 4 rfl rfl)
theorem dX7_failed_7 : decode cX7_failed 7 = .ok (.aload_n 0, 1) := dk_42 (dk_at dksX7_failed_0 7 rfl rfl)
theorem dX7_failed_8 : decode cX7_failed 8 = .ok (.iconst 1, 1) := dk_4 (dk_at dksX7_failed_0 8 rfl rfl)
theorem dX7_failed_9 : decode cX7_failed 9 = .ok (.invokevirtual 188, 3) := dk_182 0 188 (dk_at dksX7_failed_0 9 rfl rfl)
theorem dX7_failed_12 : decode cX7_failed 12 = .ok (.ireturn, 1) := dk_172 (dk_at dksX7_failed_0 12 rfl rfl)
theorem dX7_failed_13 : decode cX7_failed 13 = .ok (.aload_n 0, 1) := dk_42 (dk_at dksX7_failed_0 13 rfl rfl)
theorem dX7_failed_14 : decode cX7_failed 14 = .ok (.iload_n 1, 1) := dk_27 (dk_at dksX7_failed_0 14 rfl rfl)
theorem dX7_failed_15 : decode cX7_failed 15 = .ok (.iload_n 3, 1) := dk_29 (dk_at dksX7_failed_0 15 rfl rfl)
theorem dX7_failed_16 : decode cX7_failed 16 = .ok (.iconst 1, 1) := dk_4 (dk_at dksX7_failed_0 16 rfl rfl)
theorem dX7_failed_17 : decode cX7_failed 17 = .ok (.invokevirtual 373, 3) := dk_182 1 117 (dk_at dksX7_failed_0 17 rfl rfl)
theorem dX7_failed_20 : decode cX7_failed 20 = .ok (.istore 4, 2) := dk_54 4 (dk_at dksX7_failed_0 20 rfl rfl)
theorem dX7_failed_22 : decode cX7_failed 22 = .ok (.iload 4, 2) := dk_21 4 (dk_at dksX7_failed_0 22 rfl rfl)
theorem dX7_failed_24 : decode cX7_failed 24 = .ok (.iconst 1, 1) := dk_4 (dk_at dksX7_failed_1 0 rfl rfl)
theorem dX7_failed_25 : decode cX7_failed 25 = .ok (.if_icmp .ne 9, 3) := dk_160 0 9 (dk_at dksX7_failed_1 1 rfl rfl)
theorem dX7_failed_28 : decode cX7_failed 28 = .ok (.aload_n 0, 1) := dk_42 (dk_at dksX7_failed_1 4 rfl rfl)
theorem dX7_failed_29 : decode cX7_failed 29 = .ok (.iconst 1, 1) := dk_4 (dk_at dksX7_failed_1 5 rfl rfl)
theorem dX7_failed_30 : decode cX7_failed 30 = .ok (.invokevirtual 188, 3) := dk_182 0 188 (dk_at dksX7_failed_1 6 rfl rfl)
theorem dX7_failed_33 : decode cX7_failed 33 = .ok (.ireturn, 1) := dk_172 (dk_at dksX7_failed_1 9 rfl rfl)
theorem dX7_failed_34 : decode cX7_failed 34 = .ok (.aload_n 0, 1) := dk_42 (dk_at dksX7_failed_1 10 rfl rfl)
theorem dX7_failed_35 : decode cX7_failed 35 = .ok (.getfield 20, 3) := dk_180 0 20 (dk_at dksX7_failed_1 11 rfl rfl)
theorem dX7_failed_38 : decode cX7_failed 38 = .ok (.iload_n 1, 1) := dk_27 (dk_at dksX7_failed_1 14 rfl rfl)
theorem dX7_failed_39 : decode cX7_failed 39 = .ok (.iaload, 1) := dk_46 (dk_at dksX7_failed_1 15 rfl rfl)
theorem dX7_failed_40 : decode cX7_failed 40 = .ok (.iconst (-1), 1) := dk_2 (dk_at dksX7_failed_1 16 rfl rfl)
theorem dX7_failed_41 : decode cX7_failed 41 = .ok (.if_icmp .eq 13, 3) := dk_159 0 13 (dk_at dksX7_failed_1 17 rfl rfl)
theorem dX7_failed_44 : decode cX7_failed 44 = .ok (.aload_n 0, 1) := dk_42 (dk_at dksX7_failed_1 20 rfl rfl)
theorem dX7_failed_45 : decode cX7_failed 45 = .ok (.getfield 20, 3) := dk_180 0 20 (dk_at dksX7_failed_1 21 rfl rfl)
theorem dX7_failed_48 : decode cX7_failed 48 = .ok (.iload_n 2, 1) := dk_28 (dk_at dksX7_failed_2 0 rfl rfl)
theorem dX7_failed_49 : decode cX7_failed 49 = .ok (.iaload, 1) := dk_46 (dk_at dksX7_failed_2 1 rfl rfl)
theorem dX7_failed_50 : decode cX7_failed 50 = .ok (.iconst (-1), 1) := dk_2 (dk_at dksX7_failed_2 2 rfl rfl)
theorem dX7_failed_51 : decode cX7_failed 51 = .ok (.if_icmp .ne 9, 3) := dk_160 0 9 (dk_at dksX7_failed_2 3 rfl rfl)
theorem dX7_failed_54 : decode cX7_failed 54 = .ok (.aload_n 0, 1) := dk_42 (dk_at dksX7_failed_2 6 rfl rfl)
theorem dX7_failed_55 : decode cX7_failed 55 = .ok (.iconst 2, 1) := dk_5 (dk_at dksX7_failed_2 7 rfl rfl)
theorem dX7_failed_56 : decode cX7_failed 56 = .ok (.invokevirtual 188, 3) := dk_182 0 188 (dk_at dksX7_failed_2 8 rfl rfl)
theorem dX7_failed_59 : decode cX7_failed 59 = .ok (.ireturn, 1) := dk_172 (dk_at dksX7_failed_2 11 rfl rfl)
theorem dX7_failed_60 : decode cX7_failed 60 = .ok (.aload_n 0, 1) := dk_42 (dk_at dksX7_failed_2 12 rfl rfl)
theorem dX7_failed_61 : decode cX7_failed 61 = .ok (.getfield 20, 3) := dk_180 0 20 (dk_at dksX7_failed_2 13 rfl rfl)
theorem dX7_failed_64 : decode cX7_failed 64 = .ok (.iload_n 1, 1) := dk_27 (dk_at dksX7_failed_2 16 rfl rfl)
theorem dX7_failed_65 : decode cX7_failed 65 = .ok (.iaload, 1) := dk_46 (dk_at dksX7_failed_2 17 rfl rfl)
theorem dX7_failed_66 : decode cX7_failed 66 = .ok (.iload_n 3, 1) := dk_29 (dk_at dksX7_failed_2 18 rfl rfl)
theorem dX7_failed_67 : decode cX7_failed 67 = .ok (.if_icmp .lt 13, 3) := dk_161 0 13 (dk_at dksX7_failed_2 19 rfl rfl)
theorem dX7_failed_70 : decode cX7_failed 70 = .ok (.aload_n 0, 1) := dk_42 (dk_at dksX7_failed_2 22 rfl rfl)
theorem dX7_failed_71 : decode cX7_failed 71 = .ok (.getfield 20, 3) := dk_180 0 20 (dk_at dksX7_failed_3 0 rfl rfl)
theorem dX7_failed_74 : decode cX7_failed 74 = .ok (.iload_n 2, 1) := dk_28 (dk_at dksX7_failed_3 3 rfl rfl)
theorem dX7_failed_75 : decode cX7_failed 75 = .ok (.iaload, 1) := dk_46 (dk_at dksX7_failed_3 4 rfl rfl)
theorem dX7_failed_76 : decode cX7_failed 76 = .ok (.iload_n 3, 1) := dk_29 (dk_at dksX7_failed_3 5 rfl rfl)
theorem dX7_failed_77 : decode cX7_failed 77 = .ok (.if_icmp .ge 9, 3) := dk_162 0 9 (dk_at dksX7_failed_3 6 rfl rfl)
theorem dX7_failed_80 : decode cX7_failed 80 = .ok (.aload_n 0, 1) := dk_42 (dk_at dksX7_failed_3 9 rfl rfl)
theorem dX7_failed_81 : decode cX7_failed 81 = .ok (.iconst 3, 1) := dk_6 (dk_at dksX7_failed_3 10 rfl rfl)
theorem dX7_failed_82 : decode cX7_failed 82 = .ok (.invokevirtual 188, 3) := dk_182 0 188 (dk_at dksX7_failed_3 11 rfl rfl)
theorem dX7_failed_85 : decode cX7_failed 85 = .ok (.ireturn, 1) := dk_172 (dk_at dksX7_failed_3 14 rfl rfl)
theorem dX7_failed_86 : decode cX7_failed 86 = .ok (.iload 4, 2) := dk_21 4 (dk_at dksX7_failed_3 15 rfl rfl)
theorem dX7_failed_88 : decode cX7_failed 88 = .ok (.ifCond .gt 13, 3) := dk_157 0 13 (dk_at dksX7_failed_3 17 rfl rfl)
theorem dX7_failed_91 : decode cX7_failed 91 = .ok (.aload_n 0, 1) := dk_42 (dk_at dksX7_failed_3 20 rfl rfl)
theorem dX7_failed_92 : decode cX7_failed 92 = .ok (.iload_n 2, 1) := dk_28 (dk_at dksX7_failed_3 21 rfl rfl)
theorem dX7_failed_93 : decode cX7_failed 93 = .ok (.iload_n 3, 1) := dk_29 (dk_at dksX7_failed_3 22 rfl rfl)
theorem dX7_failed_94 : decode cX7_failed 94 = .ok (.iconst 0, 1) := dk_3 (dk_at dksX7_failed_3 23 rfl rfl)
theorem dX7_failed_95 : decode cX7_failed 95 = .ok (.invokevirtual 373, 3) := dk_182 1 117 (dk_at dksX7_failed_4 0 rfl rfl)
theorem dX7_failed_98 : decode cX7_failed 98 = .ok (.ifCond .le 9, 3) := dk_158 0 9 (dk_at dksX7_failed_4 3 rfl rfl)
theorem dX7_failed_101 : decode cX7_failed 101 = .ok (.aload_n 0, 1) := dk_42 (dk_at dksX7_failed_4 6 rfl rfl)
theorem dX7_failed_102 : decode cX7_failed 102 = .ok (.iconst 5, 1) := dk_8 (dk_at dksX7_failed_4 7 rfl rfl)
theorem dX7_failed_103 : decode cX7_failed 103 = .ok (.invokevirtual 188, 3) := dk_182 0 188 (dk_at dksX7_failed_4 8 rfl rfl)
theorem dX7_failed_106 : decode cX7_failed 106 = .ok (.ireturn, 1) := dk_172 (dk_at dksX7_failed_4 11 rfl rfl)
theorem dX7_failed_107 : decode cX7_failed 107 = .ok (.aload_n 0, 1) := dk_42 (dk_at dksX7_failed_4 12 rfl rfl)
theorem dX7_failed_108 : decode cX7_failed 108 = .ok (.iload_n 1, 1) := dk_27 (dk_at dksX7_failed_4 13 rfl rfl)
theorem dX7_failed_109 : decode cX7_failed 109 = .ok (.iload_n 3, 1) := dk_29 (dk_at dksX7_failed_4 14 rfl rfl)
theorem dX7_failed_110 : decode cX7_failed 110 = .ok (.invokevirtual 377, 3) := dk_182 1 121 (dk_at dksX7_failed_4 15 rfl rfl)
theorem dX7_failed_113 : decode cX7_failed 113 = .ok (.iconst 0, 1) := dk_3 (dk_at dksX7_failed_4 18 rfl rfl)
theorem dX7_failed_114 : decode cX7_failed 114 = .ok (.istore 5, 2) := dk_54 5 (dk_at dksX7_failed_4 19 rfl rfl)
theorem dX7_failed_116 : decode cX7_failed 116 = .ok (.iload 5, 2) := dk_21 5 (dk_at dksX7_failed_4 21 rfl rfl)
theorem dX7_failed_118 : decode cX7_failed 118 = .ok (.iload_n 3, 1) := dk_29 (dk_at dksX7_failed_4 23 rfl rfl)
theorem dX7_failed_119 : decode cX7_failed 119 = .ok (.if_icmp .ge 29, 3) := dk_162 0 29 (dk_at dksX7_failed_5 0 rfl rfl)
theorem dX7_failed_122 : decode cX7_failed 122 = .ok (.aload_n 0, 1) := dk_42 (dk_at dksX7_failed_5 3 rfl rfl)
theorem dX7_failed_123 : decode cX7_failed 123 = .ok (.getfield 65, 3) := dk_180 0 65 (dk_at dksX7_failed_5 4 rfl rfl)
theorem dX7_failed_126 : decode cX7_failed 126 = .ok (.iload 5, 2) := dk_21 5 (dk_at dksX7_failed_5 7 rfl rfl)
theorem dX7_failed_128 : decode cX7_failed 128 = .ok (.aload_n 0, 1) := dk_42 (dk_at dksX7_failed_5 9 rfl rfl)
theorem dX7_failed_129 : decode cX7_failed 129 = .ok (.getfield 23, 3) := dk_180 0 23 (dk_at dksX7_failed_5 10 rfl rfl)
theorem dX7_failed_132 : decode cX7_failed 132 = .ok (.bipush 60, 2) := dk_16 60 (dk_at dksX7_failed_5 13 rfl rfl)
theorem dX7_failed_134 : decode cX7_failed 134 = .ok (.iload_n 2, 1) := dk_28 (dk_at dksX7_failed_5 15 rfl rfl)
theorem dX7_failed_135 : decode cX7_failed 135 = .ok (.imul, 1) := dk_104 (dk_at dksX7_failed_5 16 rfl rfl)
theorem dX7_failed_136 : decode cX7_failed 136 = .ok (.iload 5, 2) := dk_21 5 (dk_at dksX7_failed_5 17 rfl rfl)
theorem dX7_failed_138 : decode cX7_failed 138 = .ok (.iadd, 1) := dk_96 (dk_at dksX7_failed_5 19 rfl rfl)
theorem dX7_failed_139 : decode cX7_failed 139 = .ok (.laload, 1) := dk_47 (dk_at dksX7_failed_5 20 rfl rfl)
theorem dX7_failed_140 : decode cX7_failed 140 = .ok (.l2i, 1) := dk_136 (dk_at dksX7_failed_5 21 rfl rfl)
theorem dX7_failed_141 : decode cX7_failed 141 = .ok (.iastore, 1) := dk_79 (dk_at dksX7_failed_5 22 rfl rfl)
theorem dX7_failed_142 : decode cX7_failed 142 = .ok (.iinc 5 1, 3) := dk_132 5 1 (dk_at dksX7_failed_6 0 rfl rfl)
theorem dX7_failed_145 : decode cX7_failed 145 = .ok (.goto (-29), 3) := dk_167 255 227 (dk_at dksX7_failed_6 3 rfl rfl)
theorem dX7_failed_148 : decode cX7_failed 148 = .ok (.aload_n 0, 1) := dk_42 (dk_at dksX7_failed_6 6 rfl rfl)
theorem dX7_failed_149 : decode cX7_failed 149 = .ok (.aload_n 0, 1) := dk_42 (dk_at dksX7_failed_6 7 rfl rfl)
theorem dX7_failed_150 : decode cX7_failed 150 = .ok (.iload_n 3, 1) := dk_29 (dk_at dksX7_failed_6 8 rfl rfl)
theorem dX7_failed_151 : decode cX7_failed 151 = .ok (.invokevirtual 380, 3) := dk_182 1 124 (dk_at dksX7_failed_6 9 rfl rfl)
theorem dX7_failed_154 : decode cX7_failed 154 = .ok (.invokevirtual 191, 3) := dk_182 0 191 (dk_at dksX7_failed_6 12 rfl rfl)
theorem dX7_failed_157 : decode cX7_failed 157 = .ok (.ireturn, 1) := dk_172 (dk_at dksX7_failed_6 15 rfl rfl)
abbrev cX7_mirror : ByteArray := prog_17_method_120_code
def yX7_mirror : MethodName := ⟨RX7, "mirror", "(I)I"⟩
def dkwX7_mirror_1 : List UInt8 := [4, 182, 0, 188, 172]
abbrev dktX7_mirror_1 : List UInt8 := dkwX7_mirror_1 ++ []
def dkwX7_mirror_0 : List UInt8 := [27, 133, 9, 20, 1, 92, 184, 1, 85, 153, 0, 14, 42, 27, 184, 1, 133, 182, 0, 191, 167, 0, 8, 42]
abbrev dktX7_mirror_0 : List UInt8 := dkwX7_mirror_0 ++ dktX7_mirror_1
theorem dksX7_mirror_0 : cX7_mirror.data.toList.drop 0 = dktX7_mirror_0 := by decide +kernel
theorem dksX7_mirror_1 : cX7_mirror.data.toList.drop 24 = dktX7_mirror_1 := dk_seg dksX7_mirror_0 24 rfl rfl
theorem dX7_mirror_0 : decode cX7_mirror 0 = .ok (.iload_n 1, 1) := dk_27 (dk_at dksX7_mirror_0 0 rfl rfl)
theorem dX7_mirror_1 : decode cX7_mirror 1 = .ok (.i2l, 1) := dk_133 (dk_at dksX7_mirror_0 1 rfl rfl)
theorem dX7_mirror_2 : decode cX7_mirror 2 = .ok (.lconst 0, 1) := dk_9 (dk_at dksX7_mirror_0 2 rfl rfl)
theorem dX7_mirror_3 : decode cX7_mirror 3 = .ok (.ldc2_w 348, 3) := dk_20 1 92 (dk_at dksX7_mirror_0 3 rfl rfl)
theorem dX7_mirror_6 : decode cX7_mirror 6 = .ok (.invokestatic 341, 3) := dk_184 1 85 (dk_at dksX7_mirror_0 6 rfl rfl)
theorem dX7_mirror_9 : decode cX7_mirror 9 = .ok (.ifCond .eq 14, 3) := dk_153 0 14 (dk_at dksX7_mirror_0 9 rfl rfl)
theorem dX7_mirror_12 : decode cX7_mirror 12 = .ok (.aload_n 0, 1) := dk_42 (dk_at dksX7_mirror_0 12 rfl rfl)
theorem dX7_mirror_13 : decode cX7_mirror 13 = .ok (.iload_n 1, 1) := dk_27 (dk_at dksX7_mirror_0 13 rfl rfl)
theorem dX7_mirror_14 : decode cX7_mirror 14 = .ok (.invokestatic 389, 3) := dk_184 1 133 (dk_at dksX7_mirror_0 14 rfl rfl)
theorem dX7_mirror_17 : decode cX7_mirror 17 = .ok (.invokevirtual 191, 3) := dk_182 0 191 (dk_at dksX7_mirror_0 17 rfl rfl)
theorem dX7_mirror_20 : decode cX7_mirror 20 = .ok (.goto 8, 3) := dk_167 0 8 (dk_at dksX7_mirror_0 20 rfl rfl)
theorem dX7_mirror_23 : decode cX7_mirror 23 = .ok (.aload_n 0, 1) := dk_42 (dk_at dksX7_mirror_0 23 rfl rfl)
theorem dX7_mirror_24 : decode cX7_mirror 24 = .ok (.iconst 1, 1) := dk_4 (dk_at dksX7_mirror_1 0 rfl rfl)
theorem dX7_mirror_25 : decode cX7_mirror 25 = .ok (.invokevirtual 188, 3) := dk_182 0 188 (dk_at dksX7_mirror_1 1 rfl rfl)
theorem dX7_mirror_28 : decode cX7_mirror 28 = .ok (.ireturn, 1) := dk_172 (dk_at dksX7_mirror_1 4 rfl rfl)
abbrev cX7_mirrorOf : ByteArray := prog_17_method_121_code
def yX7_mirrorOf : MethodName := ⟨RX7, "mirrorOf", "(I)I"⟩
def dkwX7_mirrorOf_0 : List UInt8 := [26, 6, 122, 26, 16, 7, 126, 6, 120, 128, 172]
abbrev dktX7_mirrorOf_0 : List UInt8 := dkwX7_mirrorOf_0 ++ []
theorem dksX7_mirrorOf_0 : cX7_mirrorOf.data.toList.drop 0 = dktX7_mirrorOf_0 := by decide +kernel
theorem dX7_mirrorOf_0 : decode cX7_mirrorOf 0 = .ok (.iload_n 0, 1) := dk_26 (dk_at dksX7_mirrorOf_0 0 rfl rfl)
theorem dX7_mirrorOf_1 : decode cX7_mirrorOf 1 = .ok (.iconst 3, 1) := dk_6 (dk_at dksX7_mirrorOf_0 1 rfl rfl)
theorem dX7_mirrorOf_2 : decode cX7_mirrorOf 2 = .ok (.ishr, 1) := dk_122 (dk_at dksX7_mirrorOf_0 2 rfl rfl)
theorem dX7_mirrorOf_3 : decode cX7_mirrorOf 3 = .ok (.iload_n 0, 1) := dk_26 (dk_at dksX7_mirrorOf_0 3 rfl rfl)
theorem dX7_mirrorOf_4 : decode cX7_mirrorOf 4 = .ok (.bipush 7, 2) := dk_16 7 (dk_at dksX7_mirrorOf_0 4 rfl rfl)
theorem dX7_mirrorOf_6 : decode cX7_mirrorOf 6 = .ok (.iand, 1) := dk_126 (dk_at dksX7_mirrorOf_0 6 rfl rfl)
theorem dX7_mirrorOf_7 : decode cX7_mirrorOf 7 = .ok (.iconst 3, 1) := dk_6 (dk_at dksX7_mirrorOf_0 7 rfl rfl)
theorem dX7_mirrorOf_8 : decode cX7_mirrorOf 8 = .ok (.ishl, 1) := dk_120 (dk_at dksX7_mirrorOf_0 8 rfl rfl)
theorem dX7_mirrorOf_9 : decode cX7_mirrorOf 9 = .ok (.ior, 1) := dk_128 (dk_at dksX7_mirrorOf_0 9 rfl rfl)
theorem dX7_mirrorOf_10 : decode cX7_mirrorOf 10 = .ok (.ireturn, 1) := dk_172 (dk_at dksX7_mirrorOf_0 10 rfl rfl)
abbrev cX7_turned : ByteArray := prog_17_method_123_code
def yX7_turned : MethodName := ⟨RX7, "turned", "(I)I"⟩
def dkwX7_turned_2 : List UInt8 := [42, 16, 6, 182, 0, 188, 172]
abbrev dktX7_turned_2 : List UInt8 := dkwX7_turned_2 ++ []
def dkwX7_turned_1 : List UInt8 := [162, 0, 24, 42, 27, 28, 182, 1, 136, 153, 0, 9, 42, 28, 182, 0, 191, 172, 132, 2, 1, 167, 255, 228]
abbrev dktX7_turned_1 : List UInt8 := dkwX7_turned_1 ++ dktX7_turned_2
def dkwX7_turned_0 : List UInt8 := [42, 27, 182, 1, 41, 154, 0, 9, 42, 4, 182, 0, 188, 172, 3, 61, 28, 42, 180, 0, 7, 3, 46]
abbrev dktX7_turned_0 : List UInt8 := dkwX7_turned_0 ++ dktX7_turned_1
theorem dksX7_turned_0 : cX7_turned.data.toList.drop 0 = dktX7_turned_0 := by decide +kernel
theorem dksX7_turned_1 : cX7_turned.data.toList.drop 23 = dktX7_turned_1 := dk_seg dksX7_turned_0 23 rfl rfl
theorem dksX7_turned_2 : cX7_turned.data.toList.drop 47 = dktX7_turned_2 := dk_seg dksX7_turned_1 24 rfl rfl
theorem dX7_turned_0 : decode cX7_turned 0 = .ok (.aload_n 0, 1) := dk_42 (dk_at dksX7_turned_0 0 rfl rfl)
theorem dX7_turned_1 : decode cX7_turned 1 = .ok (.iload_n 1, 1) := dk_27 (dk_at dksX7_turned_0 1 rfl rfl)
theorem dX7_turned_2 : decode cX7_turned 2 = .ok (.invokevirtual 297, 3) := dk_182 1 41 (dk_at dksX7_turned_0 2 rfl rfl)
theorem dX7_turned_5 : decode cX7_turned 5 = .ok (.ifCond .ne 9, 3) := dk_154 0 9 (dk_at dksX7_turned_0 5 rfl rfl)
theorem dX7_turned_8 : decode cX7_turned 8 = .ok (.aload_n 0, 1) := dk_42 (dk_at dksX7_turned_0 8 rfl rfl)
theorem dX7_turned_9 : decode cX7_turned 9 = .ok (.iconst 1, 1) := dk_4 (dk_at dksX7_turned_0 9 rfl rfl)
theorem dX7_turned_10 : decode cX7_turned 10 = .ok (.invokevirtual 188, 3) := dk_182 0 188 (dk_at dksX7_turned_0 10 rfl rfl)
theorem dX7_turned_13 : decode cX7_turned 13 = .ok (.ireturn, 1) := dk_172 (dk_at dksX7_turned_0 13 rfl rfl)
theorem dX7_turned_14 : decode cX7_turned 14 = .ok (.iconst 0, 1) := dk_3 (dk_at dksX7_turned_0 14 rfl rfl)
theorem dX7_turned_15 : decode cX7_turned 15 = .ok (.istore_n 2, 1) := dk_61 (dk_at dksX7_turned_0 15 rfl rfl)
theorem dX7_turned_16 : decode cX7_turned 16 = .ok (.iload_n 2, 1) := dk_28 (dk_at dksX7_turned_0 16 rfl rfl)
theorem dX7_turned_17 : decode cX7_turned 17 = .ok (.aload_n 0, 1) := dk_42 (dk_at dksX7_turned_0 17 rfl rfl)
theorem dX7_turned_18 : decode cX7_turned 18 = .ok (.getfield 7, 3) := dk_180 0 7 (dk_at dksX7_turned_0 18 rfl rfl)
theorem dX7_turned_21 : decode cX7_turned 21 = .ok (.iconst 0, 1) := dk_3 (dk_at dksX7_turned_0 21 rfl rfl)
theorem dX7_turned_22 : decode cX7_turned 22 = .ok (.iaload, 1) := dk_46 (dk_at dksX7_turned_0 22 rfl rfl)
theorem dX7_turned_23 : decode cX7_turned 23 = .ok (.if_icmp .ge 24, 3) := dk_162 0 24 (dk_at dksX7_turned_1 0 rfl rfl)
theorem dX7_turned_26 : decode cX7_turned 26 = .ok (.aload_n 0, 1) := dk_42 (dk_at dksX7_turned_1 3 rfl rfl)
theorem dX7_turned_27 : decode cX7_turned 27 = .ok (.iload_n 1, 1) := dk_27 (dk_at dksX7_turned_1 4 rfl rfl)
theorem dX7_turned_28 : decode cX7_turned 28 = .ok (.iload_n 2, 1) := dk_28 (dk_at dksX7_turned_1 5 rfl rfl)
theorem dX7_turned_29 : decode cX7_turned 29 = .ok (.invokevirtual 392, 3) := dk_182 1 136 (dk_at dksX7_turned_1 6 rfl rfl)
theorem dX7_turned_32 : decode cX7_turned 32 = .ok (.ifCond .eq 9, 3) := dk_153 0 9 (dk_at dksX7_turned_1 9 rfl rfl)
theorem dX7_turned_35 : decode cX7_turned 35 = .ok (.aload_n 0, 1) := dk_42 (dk_at dksX7_turned_1 12 rfl rfl)
theorem dX7_turned_36 : decode cX7_turned 36 = .ok (.iload_n 2, 1) := dk_28 (dk_at dksX7_turned_1 13 rfl rfl)
theorem dX7_turned_37 : decode cX7_turned 37 = .ok (.invokevirtual 191, 3) := dk_182 0 191 (dk_at dksX7_turned_1 14 rfl rfl)
theorem dX7_turned_40 : decode cX7_turned 40 = .ok (.ireturn, 1) := dk_172 (dk_at dksX7_turned_1 17 rfl rfl)
theorem dX7_turned_41 : decode cX7_turned 41 = .ok (.iinc 2 1, 3) := dk_132 2 1 (dk_at dksX7_turned_1 18 rfl rfl)
theorem dX7_turned_44 : decode cX7_turned 44 = .ok (.goto (-28), 3) := dk_167 255 228 (dk_at dksX7_turned_1 21 rfl rfl)
theorem dX7_turned_47 : decode cX7_turned 47 = .ok (.aload_n 0, 1) := dk_42 (dk_at dksX7_turned_2 0 rfl rfl)
theorem dX7_turned_48 : decode cX7_turned 48 = .ok (.bipush 6, 2) := dk_16 6 (dk_at dksX7_turned_2 1 rfl rfl)
theorem dX7_turned_50 : decode cX7_turned 50 = .ok (.invokevirtual 188, 3) := dk_182 0 188 (dk_at dksX7_turned_2 3 rfl rfl)
theorem dX7_turned_53 : decode cX7_turned 53 = .ok (.ireturn, 1) := dk_172 (dk_at dksX7_turned_2 6 rfl rfl)
abbrev cX7_isMirror : ByteArray := prog_17_method_122_code
def yX7_isMirror : MethodName := ⟨RX7, "isMirror", "(II)Z"⟩
def dkwX7_isMirror_2 : List UInt8 := [132, 3, 1, 167, 255, 224, 4, 172]
abbrev dktX7_isMirror_2 : List UInt8 := dkwX7_isMirror_2 ++ []
def dkwX7_isMirror_1 : List UInt8 := [162, 0, 29, 42, 28, 29, 182, 1, 47, 42, 27, 29, 182, 1, 47, 184, 1, 133, 159, 0, 5, 3, 172]
abbrev dktX7_isMirror_1 : List UInt8 := dkwX7_isMirror_1 ++ dktX7_isMirror_2
def dkwX7_isMirror_0 : List UInt8 := [42, 27, 182, 1, 44, 42, 28, 182, 1, 44, 159, 0, 5, 3, 172, 3, 62, 29, 42, 27, 182, 1, 44]
abbrev dktX7_isMirror_0 : List UInt8 := dkwX7_isMirror_0 ++ dktX7_isMirror_1
theorem dksX7_isMirror_0 : cX7_isMirror.data.toList.drop 0 = dktX7_isMirror_0 := by decide +kernel
theorem dksX7_isMirror_1 : cX7_isMirror.data.toList.drop 23 = dktX7_isMirror_1 := dk_seg dksX7_isMirror_0 23 rfl rfl
theorem dksX7_isMirror_2 : cX7_isMirror.data.toList.drop 46 = dktX7_isMirror_2 := dk_seg dksX7_isMirror_1 23 rfl rfl
theorem dX7_isMirror_0 : decode cX7_isMirror 0 = .ok (.aload_n 0, 1) := dk_42 (dk_at dksX7_isMirror_0 0 rfl rfl)
theorem dX7_isMirror_1 : decode cX7_isMirror 1 = .ok (.iload_n 1, 1) := dk_27 (dk_at dksX7_isMirror_0 1 rfl rfl)
theorem dX7_isMirror_2 : decode cX7_isMirror 2 = .ok (.invokevirtual 300, 3) := dk_182 1 44 (dk_at dksX7_isMirror_0 2 rfl rfl)
theorem dX7_isMirror_5 : decode cX7_isMirror 5 = .ok (.aload_n 0, 1) := dk_42 (dk_at dksX7_isMirror_0 5 rfl rfl)
theorem dX7_isMirror_6 : decode cX7_isMirror 6 = .ok (.iload_n 2, 1) := dk_28 (dk_at dksX7_isMirror_0 6 rfl rfl)
theorem dX7_isMirror_7 : decode cX7_isMirror 7 = .ok (.invokevirtual 300, 3) := dk_182 1 44 (dk_at dksX7_isMirror_0 7 rfl rfl)
theorem dX7_isMirror_10 : decode cX7_isMirror 10 = .ok (.if_icmp .eq 5, 3) := dk_159 0 5 (dk_at dksX7_isMirror_0 10 rfl rfl)
theorem dX7_isMirror_13 : decode cX7_isMirror 13 = .ok (.iconst 0, 1) := dk_3 (dk_at dksX7_isMirror_0 13 rfl rfl)
theorem dX7_isMirror_14 : decode cX7_isMirror 14 = .ok (.ireturn, 1) := dk_172 (dk_at dksX7_isMirror_0 14 rfl rfl)
theorem dX7_isMirror_15 : decode cX7_isMirror 15 = .ok (.iconst 0, 1) := dk_3 (dk_at dksX7_isMirror_0 15 rfl rfl)
theorem dX7_isMirror_16 : decode cX7_isMirror 16 = .ok (.istore_n 3, 1) := dk_62 (dk_at dksX7_isMirror_0 16 rfl rfl)
theorem dX7_isMirror_17 : decode cX7_isMirror 17 = .ok (.iload_n 3, 1) := dk_29 (dk_at dksX7_isMirror_0 17 rfl rfl)
theorem dX7_isMirror_18 : decode cX7_isMirror 18 = .ok (.aload_n 0, 1) := dk_42 (dk_at dksX7_isMirror_0 18 rfl rfl)
theorem dX7_isMirror_19 : decode cX7_isMirror 19 = .ok (.iload_n 1, 1) := dk_27 (dk_at dksX7_isMirror_0 19 rfl rfl)
theorem dX7_isMirror_20 : decode cX7_isMirror 20 = .ok (.invokevirtual 300, 3) := dk_182 1 44 (dk_at dksX7_isMirror_0 20 rfl rfl)
theorem dX7_isMirror_23 : decode cX7_isMirror 23 = .ok (.if_icmp .ge 29, 3) := dk_162 0 29 (dk_at dksX7_isMirror_1 0 rfl rfl)
theorem dX7_isMirror_26 : decode cX7_isMirror 26 = .ok (.aload_n 0, 1) := dk_42 (dk_at dksX7_isMirror_1 3 rfl rfl)
theorem dX7_isMirror_27 : decode cX7_isMirror 27 = .ok (.iload_n 2, 1) := dk_28 (dk_at dksX7_isMirror_1 4 rfl rfl)
theorem dX7_isMirror_28 : decode cX7_isMirror 28 = .ok (.iload_n 3, 1) := dk_29 (dk_at dksX7_isMirror_1 5 rfl rfl)
theorem dX7_isMirror_29 : decode cX7_isMirror 29 = .ok (.invokevirtual 303, 3) := dk_182 1 47 (dk_at dksX7_isMirror_1 6 rfl rfl)
theorem dX7_isMirror_32 : decode cX7_isMirror 32 = .ok (.aload_n 0, 1) := dk_42 (dk_at dksX7_isMirror_1 9 rfl rfl)
theorem dX7_isMirror_33 : decode cX7_isMirror 33 = .ok (.iload_n 1, 1) := dk_27 (dk_at dksX7_isMirror_1 10 rfl rfl)
theorem dX7_isMirror_34 : decode cX7_isMirror 34 = .ok (.iload_n 3, 1) := dk_29 (dk_at dksX7_isMirror_1 11 rfl rfl)
theorem dX7_isMirror_35 : decode cX7_isMirror 35 = .ok (.invokevirtual 303, 3) := dk_182 1 47 (dk_at dksX7_isMirror_1 12 rfl rfl)
theorem dX7_isMirror_38 : decode cX7_isMirror 38 = .ok (.invokestatic 389, 3) := dk_184 1 133 (dk_at dksX7_isMirror_1 15 rfl rfl)
theorem dX7_isMirror_41 : decode cX7_isMirror 41 = .ok (.if_icmp .eq 5, 3) := dk_159 0 5 (dk_at dksX7_isMirror_1 18 rfl rfl)
theorem dX7_isMirror_44 : decode cX7_isMirror 44 = .ok (.iconst 0, 1) := dk_3 (dk_at dksX7_isMirror_1 21 rfl rfl)
theorem dX7_isMirror_45 : decode cX7_isMirror 45 = .ok (.ireturn, 1) := dk_172 (dk_at dksX7_isMirror_1 22 rfl rfl)
theorem dX7_isMirror_46 : decode cX7_isMirror 46 = .ok (.iinc 3 1, 3) := dk_132 3 1 (dk_at dksX7_isMirror_2 0 rfl rfl)
theorem dX7_isMirror_49 : decode cX7_isMirror 49 = .ok (.goto (-32), 3) := dk_167 255 224 (dk_at dksX7_isMirror_2 3 rfl rfl)
theorem dX7_isMirror_52 : decode cX7_isMirror 52 = .ok (.iconst 1, 1) := dk_4 (dk_at dksX7_isMirror_2 6 rfl rfl)
theorem dX7_isMirror_53 : decode cX7_isMirror 53 = .ok (.ireturn, 1) := dk_172 (dk_at dksX7_isMirror_2 7 rfl rfl)
abbrev cX7_twins : ByteArray := prog_17_method_124_code
def yX7_twins : MethodName := ⟨RX7, "twins", "()I"⟩
def dkwX7_twins_3 : List UInt8 := [182, 0, 191, 172]
abbrev dktX7_twins_3 : List UInt8 := dkwX7_twins_3 ++ []
def dkwX7_twins_2 : List UInt8 := [153, 0, 7, 4, 167, 0, 4, 3, 96, 60, 132, 3, 1, 167, 255, 213, 132, 2, 1, 167, 255, 195, 42, 27]
abbrev dktX7_twins_2 : List UInt8 := dkwX7_twins_2 ++ dktX7_twins_3
def dkwX7_twins_1 : List UInt8 := [29, 182, 1, 139, 153, 0, 25, 42, 28, 29, 182, 1, 142, 153, 0, 16, 42, 29, 28, 182, 1, 142]
abbrev dktX7_twins_1 : List UInt8 := dkwX7_twins_1 ++ dktX7_twins_2
def dkwX7_twins_0 : List UInt8 := [3, 60, 3, 61, 28, 42, 180, 0, 7, 3, 46, 162, 0, 57, 3, 62, 29, 28, 162, 0, 44, 27, 42, 28]
abbrev dktX7_twins_0 : List UInt8 := dkwX7_twins_0 ++ dktX7_twins_1
theorem dksX7_twins_0 : cX7_twins.data.toList.drop 0 = dktX7_twins_0 := by decide +kernel
theorem dksX7_twins_1 : cX7_twins.data.toList.drop 24 = dktX7_twins_1 := dk_seg dksX7_twins_0 24 rfl rfl
theorem dksX7_twins_2 : cX7_twins.data.toList.drop 46 = dktX7_twins_2 := dk_seg dksX7_twins_1 22 rfl rfl
theorem dksX7_twins_3 : cX7_twins.data.toList.drop 70 = dktX7_twins_3 := dk_seg dksX7_twins_2 24 rfl rfl
theorem dX7_twins_0 : decode cX7_twins 0 = .ok (.iconst 0, 1) := dk_3 (dk_at dksX7_twins_0 0 rfl rfl)
theorem dX7_twins_1 : decode cX7_twins 1 = .ok (.istore_n 1, 1) := dk_60 (dk_at dksX7_twins_0 1 rfl rfl)
theorem dX7_twins_2 : decode cX7_twins 2 = .ok (.iconst 0, 1) := dk_3 (dk_at dksX7_twins_0 2 rfl rfl)
theorem dX7_twins_3 : decode cX7_twins 3 = .ok (.istore_n 2, 1) := dk_61 (dk_at dksX7_twins_0 3 rfl rfl)
theorem dX7_twins_4 : decode cX7_twins 4 = .ok (.iload_n 2, 1) := dk_28 (dk_at dksX7_twins_0 4 rfl rfl)
theorem dX7_twins_5 : decode cX7_twins 5 = .ok (.aload_n 0, 1) := dk_42 (dk_at dksX7_twins_0 5 rfl rfl)
theorem dX7_twins_6 : decode cX7_twins 6 = .ok (.getfield 7, 3) := dk_180 0 7 (dk_at dksX7_twins_0 6 rfl rfl)
theorem dX7_twins_9 : decode cX7_twins 9 = .ok (.iconst 0, 1) := dk_3 (dk_at dksX7_twins_0 9 rfl rfl)
theorem dX7_twins_10 : decode cX7_twins 10 = .ok (.iaload, 1) := dk_46 (dk_at dksX7_twins_0 10 rfl rfl)
theorem dX7_twins_11 : decode cX7_twins 11 = .ok (.if_icmp .ge 57, 3) := dk_162 0 57 (dk_at dksX7_twins_0 11 rfl rfl)
theorem dX7_twins_14 : decode cX7_twins 14 = .ok (.iconst 0, 1) := dk_3 (dk_at dksX7_twins_0 14 rfl rfl)
theorem dX7_twins_15 : decode cX7_twins 15 = .ok (.istore_n 3, 1) := dk_62 (dk_at dksX7_twins_0 15 rfl rfl)
theorem dX7_twins_16 : decode cX7_twins 16 = .ok (.iload_n 3, 1) := dk_29 (dk_at dksX7_twins_0 16 rfl rfl)
theorem dX7_twins_17 : decode cX7_twins 17 = .ok (.iload_n 2, 1) := dk_28 (dk_at dksX7_twins_0 17 rfl rfl)
theorem dX7_twins_18 : decode cX7_twins 18 = .ok (.if_icmp .ge 44, 3) := dk_162 0 44 (dk_at dksX7_twins_0 18 rfl rfl)
theorem dX7_twins_21 : decode cX7_twins 21 = .ok (.iload_n 1, 1) := dk_27 (dk_at dksX7_twins_0 21 rfl rfl)
theorem dX7_twins_22 : decode cX7_twins 22 = .ok (.aload_n 0, 1) := dk_42 (dk_at dksX7_twins_0 22 rfl rfl)
theorem dX7_twins_23 : decode cX7_twins 23 = .ok (.iload_n 2, 1) := dk_28 (dk_at dksX7_twins_0 23 rfl rfl)
theorem dX7_twins_24 : decode cX7_twins 24 = .ok (.iload_n 3, 1) := dk_29 (dk_at dksX7_twins_1 0 rfl rfl)
theorem dX7_twins_25 : decode cX7_twins 25 = .ok (.invokevirtual 395, 3) := dk_182 1 139 (dk_at dksX7_twins_1 1 rfl rfl)
theorem dX7_twins_28 : decode cX7_twins 28 = .ok (.ifCond .eq 25, 3) := dk_153 0 25 (dk_at dksX7_twins_1 4 rfl rfl)
theorem dX7_twins_31 : decode cX7_twins 31 = .ok (.aload_n 0, 1) := dk_42 (dk_at dksX7_twins_1 7 rfl rfl)
theorem dX7_twins_32 : decode cX7_twins 32 = .ok (.iload_n 2, 1) := dk_28 (dk_at dksX7_twins_1 8 rfl rfl)
theorem dX7_twins_33 : decode cX7_twins 33 = .ok (.iload_n 3, 1) := dk_29 (dk_at dksX7_twins_1 9 rfl rfl)
theorem dX7_twins_34 : decode cX7_twins 34 = .ok (.invokevirtual 398, 3) := dk_182 1 142 (dk_at dksX7_twins_1 10 rfl rfl)
theorem dX7_twins_37 : decode cX7_twins 37 = .ok (.ifCond .eq 16, 3) := dk_153 0 16 (dk_at dksX7_twins_1 13 rfl rfl)
theorem dX7_twins_40 : decode cX7_twins 40 = .ok (.aload_n 0, 1) := dk_42 (dk_at dksX7_twins_1 16 rfl rfl)
theorem dX7_twins_41 : decode cX7_twins 41 = .ok (.iload_n 3, 1) := dk_29 (dk_at dksX7_twins_1 17 rfl rfl)
theorem dX7_twins_42 : decode cX7_twins 42 = .ok (.iload_n 2, 1) := dk_28 (dk_at dksX7_twins_1 18 rfl rfl)
theorem dX7_twins_43 : decode cX7_twins 43 = .ok (.invokevirtual 398, 3) := dk_182 1 142 (dk_at dksX7_twins_1 19 rfl rfl)
theorem dX7_twins_46 : decode cX7_twins 46 = .ok (.ifCond .eq 7, 3) := dk_153 0 7 (dk_at dksX7_twins_2 0 rfl rfl)
theorem dX7_twins_49 : decode cX7_twins 49 = .ok (.iconst 1, 1) := dk_4 (dk_at dksX7_twins_2 3 rfl rfl)
theorem dX7_twins_50 : decode cX7_twins 50 = .ok (.goto 4, 3) := dk_167 0 4 (dk_at dksX7_twins_2 4 rfl rfl)
theorem dX7_twins_53 : decode cX7_twins 53 = .ok (.iconst 0, 1) := dk_3 (dk_at dksX7_twins_2 7 rfl rfl)
theorem dX7_twins_54 : decode cX7_twins 54 = .ok (.iadd, 1) := dk_96 (dk_at dksX7_twins_2 8 rfl rfl)
theorem dX7_twins_55 : decode cX7_twins 55 = .ok (.istore_n 1, 1) := dk_60 (dk_at dksX7_twins_2 9 rfl rfl)
theorem dX7_twins_56 : decode cX7_twins 56 = .ok (.iinc 3 1, 3) := dk_132 3 1 (dk_at dksX7_twins_2 10 rfl rfl)
theorem dX7_twins_59 : decode cX7_twins 59 = .ok (.goto (-43), 3) := dk_167 255 213 (dk_at dksX7_twins_2 13 rfl rfl)
theorem dX7_twins_62 : decode cX7_twins 62 = .ok (.iinc 2 1, 3) := dk_132 2 1 (dk_at dksX7_twins_2 16 rfl rfl)
theorem dX7_twins_65 : decode cX7_twins 65 = .ok (.goto (-61), 3) := dk_167 255 195 (dk_at dksX7_twins_2 19 rfl rfl)
theorem dX7_twins_68 : decode cX7_twins 68 = .ok (.aload_n 0, 1) := dk_42 (dk_at dksX7_twins_2 22 rfl rfl)
theorem dX7_twins_69 : decode cX7_twins 69 = .ok (.iload_n 1, 1) := dk_27 (dk_at dksX7_twins_2 23 rfl rfl)
theorem dX7_twins_70 : decode cX7_twins 70 = .ok (.invokevirtual 191, 3) := dk_182 0 191 (dk_at dksX7_twins_3 0 rfl rfl)
theorem dX7_twins_73 : decode cX7_twins 73 = .ok (.ireturn, 1) := dk_172 (dk_at dksX7_twins_3 3 rfl rfl)
abbrev cX7_areIn : ByteArray := prog_17_method_128_code
def yX7_areIn : MethodName := ⟨RX7, "areIn", "(II)Z"⟩
def dkwX7_areIn_1 : List UInt8 := [16, 6, 46, 28, 184, 0, 249, 154, 0, 7, 4, 167, 0, 4, 3, 172]
abbrev dktX7_areIn_1 : List UInt8 := dkwX7_areIn_1 ++ []
def dkwX7_areIn_0 : List UInt8 := [27, 28, 159, 0, 35, 42, 180, 0, 7, 16, 6, 46, 27, 184, 0, 249, 154, 0, 21, 42, 180, 0, 7]
abbrev dktX7_areIn_0 : List UInt8 := dkwX7_areIn_0 ++ dktX7_areIn_1
theorem dksX7_areIn_0 : cX7_areIn.data.toList.drop 0 = dktX7_areIn_0 := by decide +kernel
theorem dksX7_areIn_1 : cX7_areIn.data.toList.drop 23 = dktX7_areIn_1 := dk_seg dksX7_areIn_0 23 rfl rfl
theorem dX7_areIn_0 : decode cX7_areIn 0 = .ok (.iload_n 1, 1) := dk_27 (dk_at dksX7_areIn_0 0 rfl rfl)
theorem dX7_areIn_1 : decode cX7_areIn 1 = .ok (.iload_n 2, 1) := dk_28 (dk_at dksX7_areIn_0 1 rfl rfl)
theorem dX7_areIn_2 : decode cX7_areIn 2 = .ok (.if_icmp .eq 35, 3) := dk_159 0 35 (dk_at dksX7_areIn_0 2 rfl rfl)
theorem dX7_areIn_5 : decode cX7_areIn 5 = .ok (.aload_n 0, 1) := dk_42 (dk_at dksX7_areIn_0 5 rfl rfl)
theorem dX7_areIn_6 : decode cX7_areIn 6 = .ok (.getfield 7, 3) := dk_180 0 7 (dk_at dksX7_areIn_0 6 rfl rfl)
theorem dX7_areIn_9 : decode cX7_areIn 9 = .ok (.bipush 6, 2) := dk_16 6 (dk_at dksX7_areIn_0 9 rfl rfl)
theorem dX7_areIn_11 : decode cX7_areIn 11 = .ok (.iaload, 1) := dk_46 (dk_at dksX7_areIn_0 11 rfl rfl)
theorem dX7_areIn_12 : decode cX7_areIn 12 = .ok (.iload_n 1, 1) := dk_27 (dk_at dksX7_areIn_0 12 rfl rfl)
theorem dX7_areIn_13 : decode cX7_areIn 13 = .ok (.invokestatic 249, 3) := dk_184 0 249 (dk_at dksX7_areIn_0 13 rfl rfl)
theorem dX7_areIn_16 : decode cX7_areIn 16 = .ok (.ifCond .ne 21, 3) := dk_154 0 21 (dk_at dksX7_areIn_0 16 rfl rfl)
theorem dX7_areIn_19 : decode cX7_areIn 19 = .ok (.aload_n 0, 1) := dk_42 (dk_at dksX7_areIn_0 19 rfl rfl)
theorem dX7_areIn_20 : decode cX7_areIn 20 = .ok (.getfield 7, 3) := dk_180 0 7 (dk_at dksX7_areIn_0 20 rfl rfl)
theorem dX7_areIn_23 : decode cX7_areIn 23 = .ok (.bipush 6, 2) := dk_16 6 (dk_at dksX7_areIn_1 0 rfl rfl)
theorem dX7_areIn_25 : decode cX7_areIn 25 = .ok (.iaload, 1) := dk_46 (dk_at dksX7_areIn_1 2 rfl rfl)
theorem dX7_areIn_26 : decode cX7_areIn 26 = .ok (.iload_n 2, 1) := dk_28 (dk_at dksX7_areIn_1 3 rfl rfl)
theorem dX7_areIn_27 : decode cX7_areIn 27 = .ok (.invokestatic 249, 3) := dk_184 0 249 (dk_at dksX7_areIn_1 4 rfl rfl)
theorem dX7_areIn_30 : decode cX7_areIn 30 = .ok (.ifCond .ne 7, 3) := dk_154 0 7 (dk_at dksX7_areIn_1 7 rfl rfl)
theorem dX7_areIn_33 : decode cX7_areIn 33 = .ok (.iconst 1, 1) := dk_4 (dk_at dksX7_areIn_1 10 rfl rfl)
theorem dX7_areIn_34 : decode cX7_areIn 34 = .ok (.goto 4, 3) := dk_167 0 4 (dk_at dksX7_areIn_1 11 rfl rfl)
theorem dX7_areIn_37 : decode cX7_areIn 37 = .ok (.iconst 0, 1) := dk_3 (dk_at dksX7_areIn_1 14 rfl rfl)
theorem dX7_areIn_38 : decode cX7_areIn 38 = .ok (.ireturn, 1) := dk_172 (dk_at dksX7_areIn_1 15 rfl rfl)
abbrev cX7_doClash : ByteArray := prog_17_method_126_code
def yX7_doClash : MethodName := ⟨RX7, "doClash", "(II)Z"⟩
def dkwX7_doClash_2 : List UInt8 := [167, 255, 227, 4, 172]
abbrev dktX7_doClash_2 : List UInt8 := dkwX7_doClash_2 ++ []
def dkwX7_doClash_1 : List UInt8 := [162, 0, 26, 42, 27, 29, 182, 1, 47, 42, 28, 29, 182, 1, 47, 159, 0, 5, 3, 172, 132, 3, 1]
abbrev dktX7_doClash_1 : List UInt8 := dkwX7_doClash_1 ++ dktX7_doClash_2
def dkwX7_doClash_0 : List UInt8 := [42, 27, 182, 1, 44, 42, 28, 182, 1, 44, 164, 0, 5, 3, 172, 3, 62, 29, 42, 27, 182, 1, 44]
abbrev dktX7_doClash_0 : List UInt8 := dkwX7_doClash_0 ++ dktX7_doClash_1
theorem dksX7_doClash_0 : cX7_doClash.data.toList.drop 0 = dktX7_doClash_0 := by decide +kernel
theorem dksX7_doClash_1 : cX7_doClash.data.toList.drop 23 = dktX7_doClash_1 := dk_seg dksX7_doClash_0 23 rfl rfl
theorem dksX7_doClash_2 : cX7_doClash.data.toList.drop 46 = dktX7_doClash_2 := dk_seg dksX7_doClash_1 23 rfl rfl
theorem dX7_doClash_0 : decode cX7_doClash 0 = .ok (.aload_n 0, 1) := dk_42 (dk_at dksX7_doClash_0 0 rfl rfl)
theorem dX7_doClash_1 : decode cX7_doClash 1 = .ok (.iload_n 1, 1) := dk_27 (dk_at dksX7_doClash_0 1 rfl rfl)
theorem dX7_doClash_2 : decode cX7_doClash 2 = .ok (.invokevirtual 300, 3) := dk_182 1 44 (dk_at dksX7_doClash_0 2 rfl rfl)
theorem dX7_doClash_5 : decode cX7_doClash 5 = .ok (.aload_n 0, 1) := dk_42 (dk_at dksX7_doClash_0 5 rfl rfl)
theorem dX7_doClash_6 : decode cX7_doClash 6 = .ok (.iload_n 2, 1) := dk_28 (dk_at dksX7_doClash_0 6 rfl rfl)
theorem dX7_doClash_7 : decode cX7_doClash 7 = .ok (.invokevirtual 300, 3) := dk_182 1 44 (dk_at dksX7_doClash_0 7 rfl rfl)
theorem dX7_doClash_10 : decode cX7_doClash 10 = .ok (.if_icmp .le 5, 3) := dk_164 0 5 (dk_at dksX7_doClash_0 10 rfl rfl)
theorem dX7_doClash_13 : decode cX7_doClash 13 = .ok (.iconst 0, 1) := dk_3 (dk_at dksX7_doClash_0 13 rfl rfl)
theorem dX7_doClash_14 : decode cX7_doClash 14 = .ok (.ireturn, 1) := dk_172 (dk_at dksX7_doClash_0 14 rfl rfl)
theorem dX7_doClash_15 : decode cX7_doClash 15 = .ok (.iconst 0, 1) := dk_3 (dk_at dksX7_doClash_0 15 rfl rfl)
theorem dX7_doClash_16 : decode cX7_doClash 16 = .ok (.istore_n 3, 1) := dk_62 (dk_at dksX7_doClash_0 16 rfl rfl)
theorem dX7_doClash_17 : decode cX7_doClash 17 = .ok (.iload_n 3, 1) := dk_29 (dk_at dksX7_doClash_0 17 rfl rfl)
theorem dX7_doClash_18 : decode cX7_doClash 18 = .ok (.aload_n 0, 1) := dk_42 (dk_at dksX7_doClash_0 18 rfl rfl)
theorem dX7_doClash_19 : decode cX7_doClash 19 = .ok (.iload_n 1, 1) := dk_27 (dk_at dksX7_doClash_0 19 rfl rfl)
theorem dX7_doClash_20 : decode cX7_doClash 20 = .ok (.invokevirtual 300, 3) := dk_182 1 44 (dk_at dksX7_doClash_0 20 rfl rfl)
theorem dX7_doClash_23 : decode cX7_doClash 23 = .ok (.if_icmp .ge 26, 3) := dk_162 0 26 (dk_at dksX7_doClash_1 0 rfl rfl)
theorem dX7_doClash_26 : decode cX7_doClash 26 = .ok (.aload_n 0, 1) := dk_42 (dk_at dksX7_doClash_1 3 rfl rfl)
theorem dX7_doClash_27 : decode cX7_doClash 27 = .ok (.iload_n 1, 1) := dk_27 (dk_at dksX7_doClash_1 4 rfl rfl)
theorem dX7_doClash_28 : decode cX7_doClash 28 = .ok (.iload_n 3, 1) := dk_29 (dk_at dksX7_doClash_1 5 rfl rfl)
theorem dX7_doClash_29 : decode cX7_doClash 29 = .ok (.invokevirtual 303, 3) := dk_182 1 47 (dk_at dksX7_doClash_1 6 rfl rfl)
theorem dX7_doClash_32 : decode cX7_doClash 32 = .ok (.aload_n 0, 1) := dk_42 (dk_at dksX7_doClash_1 9 rfl rfl)
theorem dX7_doClash_33 : decode cX7_doClash 33 = .ok (.iload_n 2, 1) := dk_28 (dk_at dksX7_doClash_1 10 rfl rfl)
theorem dX7_doClash_34 : decode cX7_doClash 34 = .ok (.iload_n 3, 1) := dk_29 (dk_at dksX7_doClash_1 11 rfl rfl)
theorem dX7_doClash_35 : decode cX7_doClash 35 = .ok (.invokevirtual 303, 3) := dk_182 1 47 (dk_at dksX7_doClash_1 12 rfl rfl)
theorem dX7_doClash_38 : decode cX7_doClash 38 = .ok (.if_icmp .eq 5, 3) := dk_159 0 5 (dk_at dksX7_doClash_1 15 rfl rfl)
theorem dX7_doClash_41 : decode cX7_doClash 41 = .ok (.iconst 0, 1) := dk_3 (dk_at dksX7_doClash_1 18 rfl rfl)
theorem dX7_doClash_42 : decode cX7_doClash 42 = .ok (.ireturn, 1) := dk_172 (dk_at dksX7_doClash_1 19 rfl rfl)
theorem dX7_doClash_43 : decode cX7_doClash 43 = .ok (.iinc 3 1, 3) := dk_132 3 1 (dk_at dksX7_doClash_1 20 rfl rfl)
theorem dX7_doClash_46 : decode cX7_doClash 46 = .ok (.goto (-29), 3) := dk_167 255 227 (dk_at dksX7_doClash_2 0 rfl rfl)
theorem dX7_doClash_49 : decode cX7_doClash 49 = .ok (.iconst 1, 1) := dk_4 (dk_at dksX7_doClash_2 3 rfl rfl)
theorem dX7_doClash_50 : decode cX7_doClash 50 = .ok (.ireturn, 1) := dk_172 (dk_at dksX7_doClash_2 4 rfl rfl)
abbrev cX7_near : ByteArray := prog_17_method_125_code
def yX7_near : MethodName := ⟨RX7, "near", "(II)I"⟩
def dkwX7_near_3 : List UInt8 := [182, 1, 47, 130, 184, 1, 80, 96, 62, 132, 4, 1, 167, 255, 222, 42, 29, 182, 0, 191, 172]
abbrev dktX7_near_3 : List UInt8 := dkwX7_near_3 ++ []
def dkwX7_near_2 : List UInt8 := [21, 4, 42, 27, 182, 1, 44, 162, 0, 30, 29, 42, 27, 21, 4, 182, 1, 47, 42, 28, 21, 4]
abbrev dktX7_near_2 : List UInt8 := dkwX7_near_2 ++ dktX7_near_3
def dkwX7_near_1 : List UInt8 := [182, 1, 44, 42, 28, 182, 1, 44, 159, 0, 10, 42, 16, 7, 182, 0, 188, 172, 3, 62, 3, 54, 4]
abbrev dktX7_near_1 : List UInt8 := dkwX7_near_1 ++ dktX7_near_2
def dkwX7_near_0 : List UInt8 := [42, 27, 182, 1, 41, 153, 0, 11, 42, 28, 182, 1, 41, 154, 0, 9, 42, 4, 182, 0, 188, 172, 42, 27]
abbrev dktX7_near_0 : List UInt8 := dkwX7_near_0 ++ dktX7_near_1
theorem dksX7_near_0 : cX7_near.data.toList.drop 0 = dktX7_near_0 := by decide +kernel
theorem dksX7_near_1 : cX7_near.data.toList.drop 24 = dktX7_near_1 := dk_seg dksX7_near_0 24 rfl rfl
theorem dksX7_near_2 : cX7_near.data.toList.drop 47 = dktX7_near_2 := dk_seg dksX7_near_1 23 rfl rfl
theorem dksX7_near_3 : cX7_near.data.toList.drop 69 = dktX7_near_3 := dk_seg dksX7_near_2 22 rfl rfl
theorem dX7_near_0 : decode cX7_near 0 = .ok (.aload_n 0, 1) := dk_42 (dk_at dksX7_near_0 0 rfl rfl)
theorem dX7_near_1 : decode cX7_near 1 = .ok (.iload_n 1, 1) := dk_27 (dk_at dksX7_near_0 1 rfl rfl)
theorem dX7_near_2 : decode cX7_near 2 = .ok (.invokevirtual 297, 3) := dk_182 1 41 (dk_at dksX7_near_0 2 rfl rfl)
theorem dX7_near_5 : decode cX7_near 5 = .ok (.ifCond .eq 11, 3) := dk_153 0 11 (dk_at dksX7_near_0 5 rfl rfl)
theorem dX7_near_8 : decode cX7_near 8 = .ok (.aload_n 0, 1) := dk_42 (dk_at dksX7_near_0 8 rfl rfl)
theorem dX7_near_9 : decode cX7_near 9 = .ok (.iload_n 2, 1) := dk_28 (dk_at dksX7_near_0 9 rfl rfl)
theorem dX7_near_10 : decode cX7_near 10 = .ok (.invokevirtual 297, 3) := dk_182 1 41 (dk_at dksX7_near_0 10 rfl rfl)
theorem dX7_near_13 : decode cX7_near 13 = .ok (.ifCond .ne 9, 3) := dk_154 0 9 (dk_at dksX7_near_0 13 rfl rfl)
theorem dX7_near_16 : decode cX7_near 16 = .ok (.aload_n 0, 1) := dk_42 (dk_at dksX7_near_0 16 rfl rfl)
theorem dX7_near_17 : decode cX7_near 17 = .ok (.iconst 1, 1) := dk_4 (dk_at dksX7_near_0 17 rfl rfl)
theorem dX7_near_18 : decode cX7_near 18 = .ok (.invokevirtual 188, 3) := dk_182 0 188 (dk_at dksX7_near_0 18 rfl rfl)
theorem dX7_near_21 : decode cX7_near 21 = .ok (.ireturn, 1) := dk_172 (dk_at dksX7_near_0 21 rfl rfl)
theorem dX7_near_22 : decode cX7_near 22 = .ok (.aload_n 0, 1) := dk_42 (dk_at dksX7_near_0 22 rfl rfl)
theorem dX7_near_23 : decode cX7_near 23 = .ok (.iload_n 1, 1) := dk_27 (dk_at dksX7_near_0 23 rfl rfl)
theorem dX7_near_24 : decode cX7_near 24 = .ok (.invokevirtual 300, 3) := dk_182 1 44 (dk_at dksX7_near_1 0 rfl rfl)
theorem dX7_near_27 : decode cX7_near 27 = .ok (.aload_n 0, 1) := dk_42 (dk_at dksX7_near_1 3 rfl rfl)
theorem dX7_near_28 : decode cX7_near 28 = .ok (.iload_n 2, 1) := dk_28 (dk_at dksX7_near_1 4 rfl rfl)
theorem dX7_near_29 : decode cX7_near 29 = .ok (.invokevirtual 300, 3) := dk_182 1 44 (dk_at dksX7_near_1 5 rfl rfl)
theorem dX7_near_32 : decode cX7_near 32 = .ok (.if_icmp .eq 10, 3) := dk_159 0 10 (dk_at dksX7_near_1 8 rfl rfl)
theorem dX7_near_35 : decode cX7_near 35 = .ok (.aload_n 0, 1) := dk_42 (dk_at dksX7_near_1 11 rfl rfl)
theorem dX7_near_36 : decode cX7_near 36 = .ok (.bipush 7, 2) := dk_16 7 (dk_at dksX7_near_1 12 rfl rfl)
theorem dX7_near_38 : decode cX7_near 38 = .ok (.invokevirtual 188, 3) := dk_182 0 188 (dk_at dksX7_near_1 14 rfl rfl)
theorem dX7_near_41 : decode cX7_near 41 = .ok (.ireturn, 1) := dk_172 (dk_at dksX7_near_1 17 rfl rfl)
theorem dX7_near_42 : decode cX7_near 42 = .ok (.iconst 0, 1) := dk_3 (dk_at dksX7_near_1 18 rfl rfl)
theorem dX7_near_43 : decode cX7_near 43 = .ok (.istore_n 3, 1) := dk_62 (dk_at dksX7_near_1 19 rfl rfl)
theorem dX7_near_44 : decode cX7_near 44 = .ok (.iconst 0, 1) := dk_3 (dk_at dksX7_near_1 20 rfl rfl)
theorem dX7_near_45 : decode cX7_near 45 = .ok (.istore 4, 2) := dk_54 4 (dk_at dksX7_near_1 21 rfl rfl)
theorem dX7_near_47 : decode cX7_near 47 = .ok (.iload 4, 2) := dk_21 4 (dk_at dksX7_near_2 0 rfl rfl)
theorem dX7_near_49 : decode cX7_near 49 = .ok (.aload_n 0, 1) := dk_42 (dk_at dksX7_near_2 2 rfl rfl)
theorem dX7_near_50 : decode cX7_near 50 = .ok (.iload_n 1, 1) := dk_27 (dk_at dksX7_near_2 3 rfl rfl)
theorem dX7_near_51 : decode cX7_near 51 = .ok (.invokevirtual 300, 3) := dk_182 1 44 (dk_at dksX7_near_2 4 rfl rfl)
theorem dX7_near_54 : decode cX7_near 54 = .ok (.if_icmp .ge 30, 3) := dk_162 0 30 (dk_at dksX7_near_2 7 rfl rfl)
theorem dX7_near_57 : decode cX7_near 57 = .ok (.iload_n 3, 1) := dk_29 (dk_at dksX7_near_2 10 rfl rfl)
theorem dX7_near_58 : decode cX7_near 58 = .ok (.aload_n 0, 1) := dk_42 (dk_at dksX7_near_2 11 rfl rfl)
theorem dX7_near_59 : decode cX7_near 59 = .ok (.iload_n 1, 1) := dk_27 (dk_at dksX7_near_2 12 rfl rfl)
theorem dX7_near_60 : decode cX7_near 60 = .ok (.iload 4, 2) := dk_21 4 (dk_at dksX7_near_2 13 rfl rfl)
theorem dX7_near_62 : decode cX7_near 62 = .ok (.invokevirtual 303, 3) := dk_182 1 47 (dk_at dksX7_near_2 15 rfl rfl)
theorem dX7_near_65 : decode cX7_near 65 = .ok (.aload_n 0, 1) := dk_42 (dk_at dksX7_near_2 18 rfl rfl)
theorem dX7_near_66 : decode cX7_near 66 = .ok (.iload_n 2, 1) := dk_28 (dk_at dksX7_near_2 19 rfl rfl)
theorem dX7_near_67 : decode cX7_near 67 = .ok (.iload 4, 2) := dk_21 4 (dk_at dksX7_near_2 20 rfl rfl)
theorem dX7_near_69 : decode cX7_near 69 = .ok (.invokevirtual 303, 3) := dk_182 1 47 (dk_at dksX7_near_3 0 rfl rfl)
theorem dX7_near_72 : decode cX7_near 72 = .ok (.ixor, 1) := dk_130 (dk_at dksX7_near_3 3 rfl rfl)
theorem dX7_near_73 : decode cX7_near 73 = .ok (.invokestatic 336, 3) := dk_184 1 80 (dk_at dksX7_near_3 4 rfl rfl)
theorem dX7_near_76 : decode cX7_near 76 = .ok (.iadd, 1) := dk_96 (dk_at dksX7_near_3 7 rfl rfl)
theorem dX7_near_77 : decode cX7_near 77 = .ok (.istore_n 3, 1) := dk_62 (dk_at dksX7_near_3 8 rfl rfl)
theorem dX7_near_78 : decode cX7_near 78 = .ok (.iinc 4 1, 3) := dk_132 4 1 (dk_at dksX7_near_3 9 rfl rfl)
theorem dX7_near_81 : decode cX7_near 81 = .ok (.goto (-34), 3) := dk_167 255 222 (dk_at dksX7_near_3 12 rfl rfl)
theorem dX7_near_84 : decode cX7_near 84 = .ok (.aload_n 0, 1) := dk_42 (dk_at dksX7_near_3 15 rfl rfl)
theorem dX7_near_85 : decode cX7_near 85 = .ok (.iload_n 3, 1) := dk_29 (dk_at dksX7_near_3 16 rfl rfl)
theorem dX7_near_86 : decode cX7_near 86 = .ok (.invokevirtual 191, 3) := dk_182 0 191 (dk_at dksX7_near_3 17 rfl rfl)
theorem dX7_near_89 : decode cX7_near 89 = .ok (.ireturn, 1) := dk_172 (dk_at dksX7_near_3 20 rfl rfl)
abbrev cX7_clash : ByteArray := prog_17_method_127_code
def yX7_clash : MethodName := ⟨RX7, "clash", "(II)I"⟩
def dkwX7_clash_1 : List UInt8 := [153, 0, 7, 4, 167, 0, 4, 3, 182, 0, 191, 167, 0, 8, 42, 4, 182, 0, 188, 172]
abbrev dktX7_clash_1 : List UInt8 := dkwX7_clash_1 ++ []
def dkwX7_clash_0 : List UInt8 := [42, 27, 182, 1, 41, 153, 0, 32, 42, 28, 182, 1, 41, 153, 0, 24, 42, 42, 27, 28, 182, 1, 142]
abbrev dktX7_clash_0 : List UInt8 := dkwX7_clash_0 ++ dktX7_clash_1
theorem dksX7_clash_0 : cX7_clash.data.toList.drop 0 = dktX7_clash_0 := by decide +kernel
theorem dksX7_clash_1 : cX7_clash.data.toList.drop 23 = dktX7_clash_1 := dk_seg dksX7_clash_0 23 rfl rfl
theorem dX7_clash_0 : decode cX7_clash 0 = .ok (.aload_n 0, 1) := dk_42 (dk_at dksX7_clash_0 0 rfl rfl)
theorem dX7_clash_1 : decode cX7_clash 1 = .ok (.iload_n 1, 1) := dk_27 (dk_at dksX7_clash_0 1 rfl rfl)
theorem dX7_clash_2 : decode cX7_clash 2 = .ok (.invokevirtual 297, 3) := dk_182 1 41 (dk_at dksX7_clash_0 2 rfl rfl)
theorem dX7_clash_5 : decode cX7_clash 5 = .ok (.ifCond .eq 32, 3) := dk_153 0 32 (dk_at dksX7_clash_0 5 rfl rfl)
theorem dX7_clash_8 : decode cX7_clash 8 = .ok (.aload_n 0, 1) := dk_42 (dk_at dksX7_clash_0 8 rfl rfl)
theorem dX7_clash_9 : decode cX7_clash 9 = .ok (.iload_n 2, 1) := dk_28 (dk_at dksX7_clash_0 9 rfl rfl)
theorem dX7_clash_10 : decode cX7_clash 10 = .ok (.invokevirtual 297, 3) := dk_182 1 41 (dk_at dksX7_clash_0 10 rfl rfl)
theorem dX7_clash_13 : decode cX7_clash 13 = .ok (.ifCond .eq 24, 3) := dk_153 0 24 (dk_at dksX7_clash_0 13 rfl rfl)
theorem dX7_clash_16 : decode cX7_clash 16 = .ok (.aload_n 0, 1) := dk_42 (dk_at dksX7_clash_0 16 rfl rfl)
theorem dX7_clash_17 : decode cX7_clash 17 = .ok (.aload_n 0, 1) := dk_42 (dk_at dksX7_clash_0 17 rfl rfl)
theorem dX7_clash_18 : decode cX7_clash 18 = .ok (.iload_n 1, 1) := dk_27 (dk_at dksX7_clash_0 18 rfl rfl)
theorem dX7_clash_19 : decode cX7_clash 19 = .ok (.iload_n 2, 1) := dk_28 (dk_at dksX7_clash_0 19 rfl rfl)
theorem dX7_clash_20 : decode cX7_clash 20 = .ok (.invokevirtual 398, 3) := dk_182 1 142 (dk_at dksX7_clash_0 20 rfl rfl)
theorem dX7_clash_23 : decode cX7_clash 23 = .ok (.ifCond .eq 7, 3) := dk_153 0 7 (dk_at dksX7_clash_1 0 rfl rfl)
theorem dX7_clash_26 : decode cX7_clash 26 = .ok (.iconst 1, 1) := dk_4 (dk_at dksX7_clash_1 3 rfl rfl)
theorem dX7_clash_27 : decode cX7_clash 27 = .ok (.goto 4, 3) := dk_167 0 4 (dk_at dksX7_clash_1 4 rfl rfl)
theorem dX7_clash_30 : decode cX7_clash 30 = .ok (.iconst 0, 1) := dk_3 (dk_at dksX7_clash_1 7 rfl rfl)
theorem dX7_clash_31 : decode cX7_clash 31 = .ok (.invokevirtual 191, 3) := dk_182 0 191 (dk_at dksX7_clash_1 8 rfl rfl)
theorem dX7_clash_34 : decode cX7_clash 34 = .ok (.goto 8, 3) := dk_167 0 8 (dk_at dksX7_clash_1 11 rfl rfl)
theorem dX7_clash_37 : decode cX7_clash 37 = .ok (.aload_n 0, 1) := dk_42 (dk_at dksX7_clash_1 14 rfl rfl)
theorem dX7_clash_38 : decode cX7_clash 38 = .ok (.iconst 1, 1) := dk_4 (dk_at dksX7_clash_1 15 rfl rfl)
theorem dX7_clash_39 : decode cX7_clash 39 = .ok (.invokevirtual 188, 3) := dk_182 0 188 (dk_at dksX7_clash_1 16 rfl rfl)
theorem dX7_clash_42 : decode cX7_clash 42 = .ok (.ireturn, 1) := dk_172 (dk_at dksX7_clash_1 19 rfl rfl)
abbrev cX7_clashes : ByteArray := prog_17_method_129_code
def yX7_clashes : MethodName := ⟨RX7, "clashes", "()I"⟩
def dkwX7_clashes_2 : List UInt8 := [167, 0, 4, 3, 96, 60, 132, 3, 1, 167, 255, 217, 132, 2, 1, 167, 255, 199, 42, 27, 182, 0, 191, 172]
abbrev dktX7_clashes_2 : List UInt8 := dkwX7_clashes_2 ++ []
def dkwX7_clashes_1 : List UInt8 := [162, 0, 35, 27, 42, 28, 29, 182, 1, 139, 153, 0, 16, 42, 28, 29, 182, 1, 142, 153, 0, 7, 4]
abbrev dktX7_clashes_1 : List UInt8 := dkwX7_clashes_1 ++ dktX7_clashes_2
def dkwX7_clashes_0 : List UInt8 := [3, 60, 3, 61, 28, 42, 180, 0, 7, 3, 46, 162, 0, 53, 3, 62, 29, 42, 180, 0, 7, 3, 46]
abbrev dktX7_clashes_0 : List UInt8 := dkwX7_clashes_0 ++ dktX7_clashes_1
theorem dksX7_clashes_0 : cX7_clashes.data.toList.drop 0 = dktX7_clashes_0 := by decide +kernel
theorem dksX7_clashes_1 : cX7_clashes.data.toList.drop 23 = dktX7_clashes_1 := dk_seg dksX7_clashes_0 23 rfl rfl
theorem dksX7_clashes_2 : cX7_clashes.data.toList.drop 46 = dktX7_clashes_2 := dk_seg dksX7_clashes_1 23 rfl rfl
theorem dX7_clashes_0 : decode cX7_clashes 0 = .ok (.iconst 0, 1) := dk_3 (dk_at dksX7_clashes_0 0 rfl rfl)
theorem dX7_clashes_1 : decode cX7_clashes 1 = .ok (.istore_n 1, 1) := dk_60 (dk_at dksX7_clashes_0 1 rfl rfl)
theorem dX7_clashes_2 : decode cX7_clashes 2 = .ok (.iconst 0, 1) := dk_3 (dk_at dksX7_clashes_0 2 rfl rfl)
theorem dX7_clashes_3 : decode cX7_clashes 3 = .ok (.istore_n 2, 1) := dk_61 (dk_at dksX7_clashes_0 3 rfl rfl)
theorem dX7_clashes_4 : decode cX7_clashes 4 = .ok (.iload_n 2, 1) := dk_28 (dk_at dksX7_clashes_0 4 rfl rfl)
theorem dX7_clashes_5 : decode cX7_clashes 5 = .ok (.aload_n 0, 1) := dk_42 (dk_at dksX7_clashes_0 5 rfl rfl)
theorem dX7_clashes_6 : decode cX7_clashes 6 = .ok (.getfield 7, 3) := dk_180 0 7 (dk_at dksX7_clashes_0 6 rfl rfl)
theorem dX7_clashes_9 : decode cX7_clashes 9 = .ok (.iconst 0, 1) := dk_3 (dk_at dksX7_clashes_0 9 rfl rfl)
theorem dX7_clashes_10 : decode cX7_clashes 10 = .ok (.iaload, 1) := dk_46 (dk_at dksX7_clashes_0 10 rfl rfl)
theorem dX7_clashes_11 : decode cX7_clashes 11 = .ok (.if_icmp .ge 53, 3) := dk_162 0 53 (dk_at dksX7_clashes_0 11 rfl rfl)
theorem dX7_clashes_14 : decode cX7_clashes 14 = .ok (.iconst 0, 1) := dk_3 (dk_at dksX7_clashes_0 14 rfl rfl)
theorem dX7_clashes_15 : decode cX7_clashes 15 = .ok (.istore_n 3, 1) := dk_62 (dk_at dksX7_clashes_0 15 rfl rfl)
theorem dX7_clashes_16 : decode cX7_clashes 16 = .ok (.iload_n 3, 1) := dk_29 (dk_at dksX7_clashes_0 16 rfl rfl)
theorem dX7_clashes_17 : decode cX7_clashes 17 = .ok (.aload_n 0, 1) := dk_42 (dk_at dksX7_clashes_0 17 rfl rfl)
theorem dX7_clashes_18 : decode cX7_clashes 18 = .ok (.getfield 7, 3) := dk_180 0 7 (dk_at dksX7_clashes_0 18 rfl rfl)
theorem dX7_clashes_21 : decode cX7_clashes 21 = .ok (.iconst 0, 1) := dk_3 (dk_at dksX7_clashes_0 21 rfl rfl)
theorem dX7_clashes_22 : decode cX7_clashes 22 = .ok (.iaload, 1) := dk_46 (dk_at dksX7_clashes_0 22 rfl rfl)
theorem dX7_clashes_23 : decode cX7_clashes 23 = .ok (.if_icmp .ge 35, 3) := dk_162 0 35 (dk_at dksX7_clashes_1 0 rfl rfl)
theorem dX7_clashes_26 : decode cX7_clashes 26 = .ok (.iload_n 1, 1) := dk_27 (dk_at dksX7_clashes_1 3 rfl rfl)
theorem dX7_clashes_27 : decode cX7_clashes 27 = .ok (.aload_n 0, 1) := dk_42 (dk_at dksX7_clashes_1 4 rfl rfl)
theorem dX7_clashes_28 : decode cX7_clashes 28 = .ok (.iload_n 2, 1) := dk_28 (dk_at dksX7_clashes_1 5 rfl rfl)
theorem dX7_clashes_29 : decode cX7_clashes 29 = .ok (.iload_n 3, 1) := dk_29 (dk_at dksX7_clashes_1 6 rfl rfl)
theorem dX7_clashes_30 : decode cX7_clashes 30 = .ok (.invokevirtual 395, 3) := dk_182 1 139 (dk_at dksX7_clashes_1 7 rfl rfl)
theorem dX7_clashes_33 : decode cX7_clashes 33 = .ok (.ifCond .eq 16, 3) := dk_153 0 16 (dk_at dksX7_clashes_1 10 rfl rfl)
theorem dX7_clashes_36 : decode cX7_clashes 36 = .ok (.aload_n 0, 1) := dk_42 (dk_at dksX7_clashes_1 13 rfl rfl)
theorem dX7_clashes_37 : decode cX7_clashes 37 = .ok (.iload_n 2, 1) := dk_28 (dk_at dksX7_clashes_1 14 rfl rfl)
theorem dX7_clashes_38 : decode cX7_clashes 38 = .ok (.iload_n 3, 1) := dk_29 (dk_at dksX7_clashes_1 15 rfl rfl)
theorem dX7_clashes_39 : decode cX7_clashes 39 = .ok (.invokevirtual 398, 3) := dk_182 1 142 (dk_at dksX7_clashes_1 16 rfl rfl)
theorem dX7_clashes_42 : decode cX7_clashes 42 = .ok (.ifCond .eq 7, 3) := dk_153 0 7 (dk_at dksX7_clashes_1 19 rfl rfl)
theorem dX7_clashes_45 : decode cX7_clashes 45 = .ok (.iconst 1, 1) := dk_4 (dk_at dksX7_clashes_1 22 rfl rfl)
theorem dX7_clashes_46 : decode cX7_clashes 46 = .ok (.goto 4, 3) := dk_167 0 4 (dk_at dksX7_clashes_2 0 rfl rfl)
theorem dX7_clashes_49 : decode cX7_clashes 49 = .ok (.iconst 0, 1) := dk_3 (dk_at dksX7_clashes_2 3 rfl rfl)
theorem dX7_clashes_50 : decode cX7_clashes 50 = .ok (.iadd, 1) := dk_96 (dk_at dksX7_clashes_2 4 rfl rfl)
theorem dX7_clashes_51 : decode cX7_clashes 51 = .ok (.istore_n 1, 1) := dk_60 (dk_at dksX7_clashes_2 5 rfl rfl)
theorem dX7_clashes_52 : decode cX7_clashes 52 = .ok (.iinc 3 1, 3) := dk_132 3 1 (dk_at dksX7_clashes_2 6 rfl rfl)
theorem dX7_clashes_55 : decode cX7_clashes 55 = .ok (.goto (-39), 3) := dk_167 255 217 (dk_at dksX7_clashes_2 9 rfl rfl)
theorem dX7_clashes_58 : decode cX7_clashes 58 = .ok (.iinc 2 1, 3) := dk_132 2 1 (dk_at dksX7_clashes_2 12 rfl rfl)
theorem dX7_clashes_61 : decode cX7_clashes 61 = .ok (.goto (-57), 3) := dk_167 255 199 (dk_at dksX7_clashes_2 15 rfl rfl)
theorem dX7_clashes_64 : decode cX7_clashes 64 = .ok (.aload_n 0, 1) := dk_42 (dk_at dksX7_clashes_2 18 rfl rfl)
theorem dX7_clashes_65 : decode cX7_clashes 65 = .ok (.iload_n 1, 1) := dk_27 (dk_at dksX7_clashes_2 19 rfl rfl)
theorem dX7_clashes_66 : decode cX7_clashes 66 = .ok (.invokevirtual 191, 3) := dk_182 0 191 (dk_at dksX7_clashes_2 20 rfl rfl)
theorem dX7_clashes_69 : decode cX7_clashes 69 = .ok (.ireturn, 1) := dk_172 (dk_at dksX7_clashes_2 23 rfl rfl)
abbrev cX7_clear : ByteArray := prog_17_method_136_code
def yX7_clear : MethodName := ⟨RX7, "clear", "()I"⟩
def dkwX7_clear_0 : List UInt8 := [42, 42, 182, 1, 160, 19, 1, 106, 160, 0, 7, 4, 167, 0, 4, 3, 182, 0, 191, 172]
abbrev dktX7_clear_0 : List UInt8 := dkwX7_clear_0 ++ []
theorem dksX7_clear_0 : cX7_clear.data.toList.drop 0 = dktX7_clear_0 := by decide +kernel
theorem dX7_clear_0 : decode cX7_clear 0 = .ok (.aload_n 0, 1) := dk_42 (dk_at dksX7_clear_0 0 rfl rfl)
theorem dX7_clear_1 : decode cX7_clear 1 = .ok (.aload_n 0, 1) := dk_42 (dk_at dksX7_clear_0 1 rfl rfl)
theorem dX7_clear_2 : decode cX7_clear 2 = .ok (.invokevirtual 416, 3) := dk_182 1 160 (dk_at dksX7_clear_0 2 rfl rfl)
theorem dX7_clear_5 : decode cX7_clear 5 = .ok (.ldc_w 362, 3) := dk_19 1 106 (dk_at dksX7_clear_0 5 rfl rfl)
theorem dX7_clear_8 : decode cX7_clear 8 = .ok (.if_icmp .ne 7, 3) := dk_160 0 7 (dk_at dksX7_clear_0 8 rfl rfl)
theorem dX7_clear_11 : decode cX7_clear 11 = .ok (.iconst 1, 1) := dk_4 (dk_at dksX7_clear_0 11 rfl rfl)
theorem dX7_clear_12 : decode cX7_clear 12 = .ok (.goto 4, 3) := dk_167 0 4 (dk_at dksX7_clear_0 12 rfl rfl)
theorem dX7_clear_15 : decode cX7_clear 15 = .ok (.iconst 0, 1) := dk_3 (dk_at dksX7_clear_0 15 rfl rfl)
theorem dX7_clear_16 : decode cX7_clear 16 = .ok (.invokevirtual 191, 3) := dk_182 0 191 (dk_at dksX7_clear_0 16 rfl rfl)
theorem dX7_clear_19 : decode cX7_clear 19 = .ok (.ireturn, 1) := dk_172 (dk_at dksX7_clear_0 19 rfl rfl)
abbrev cX7_twinOf : ByteArray := prog_17_method_135_code
def yX7_twinOf : MethodName := ⟨RX7, "twinOf", "()I"⟩
def dkwX7_twinOf_8 : List UInt8 := [167, 255, 175, 42, 180, 0, 83, 3, 46, 172]
abbrev dktX7_twinOf_8 : List UInt8 := dkwX7_twinOf_8 ++ []
def dkwX7_twinOf_7 : List UInt8 := [42, 28, 29, 182, 1, 157, 153, 0, 5, 4, 60, 132, 3, 1, 167, 255, 218, 132, 2, 1, 167, 255, 186]
abbrev dktX7_twinOf_7 : List UInt8 := dkwX7_twinOf_7 ++ dktX7_twinOf_8
def dkwX7_twinOf_6 : List UInt8 := [29, 42, 180, 0, 7, 3, 46, 162, 0, 34, 42, 180, 0, 7, 16, 6, 46, 29, 184, 0, 249, 154, 0, 14]
abbrev dktX7_twinOf_6 : List UInt8 := dkwX7_twinOf_6 ++ dktX7_twinOf_7
def dkwX7_twinOf_5 : List UInt8 := [180, 0, 83, 190, 162, 0, 67, 42, 180, 0, 83, 28, 46, 19, 1, 106, 160, 0, 6, 167, 0, 46, 3, 62]
abbrev dktX7_twinOf_5 : List UInt8 := dkwX7_twinOf_5 ++ dktX7_twinOf_6
def dkwX7_twinOf_4 : List UInt8 := [132, 3, 1, 167, 255, 201, 132, 2, 1, 167, 255, 183, 27, 153, 0, 83, 3, 60, 4, 61, 28, 42]
abbrev dktX7_twinOf_4 : List UInt8 := dkwX7_twinOf_4 ++ dktX7_twinOf_5
def dkwX7_twinOf_3 : List UInt8 := [42, 29, 42, 28, 182, 1, 44, 182, 1, 151, 42, 29, 182, 1, 44, 182, 1, 154, 153, 0, 5, 4, 60]
abbrev dktX7_twinOf_3 : List UInt8 := dkwX7_twinOf_3 ++ dktX7_twinOf_4
def dkwX7_twinOf_2 : List UInt8 := [3, 46, 162, 0, 51, 42, 28, 29, 182, 1, 139, 153, 0, 36, 42, 28, 29, 182, 1, 142, 153, 0, 27, 42]
abbrev dktX7_twinOf_2 : List UInt8 := dkwX7_twinOf_2 ++ dktX7_twinOf_3
def dkwX7_twinOf_1 : List UInt8 := [167, 255, 235, 3, 60, 3, 61, 28, 42, 180, 0, 7, 3, 46, 162, 0, 69, 3, 62, 29, 42, 180, 0, 7]
abbrev dktX7_twinOf_1 : List UInt8 := dkwX7_twinOf_1 ++ dktX7_twinOf_2
def dkwX7_twinOf_0 : List UInt8 := [3, 60, 27, 42, 180, 0, 83, 190, 162, 0, 18, 42, 180, 0, 83, 27, 19, 1, 106, 79, 132, 1, 1]
abbrev dktX7_twinOf_0 : List UInt8 := dkwX7_twinOf_0 ++ dktX7_twinOf_1
theorem dksX7_twinOf_0 : cX7_twinOf.data.toList.drop 0 = dktX7_twinOf_0 := by decide +kernel
theorem dksX7_twinOf_1 : cX7_twinOf.data.toList.drop 23 = dktX7_twinOf_1 := dk_seg dksX7_twinOf_0 23 rfl rfl
theorem dksX7_twinOf_2 : cX7_twinOf.data.toList.drop 47 = dktX7_twinOf_2 := dk_seg dksX7_twinOf_1 24 rfl rfl
theorem dksX7_twinOf_3 : cX7_twinOf.data.toList.drop 71 = dktX7_twinOf_3 := dk_seg dksX7_twinOf_2 24 rfl rfl
theorem dksX7_twinOf_4 : cX7_twinOf.data.toList.drop 94 = dktX7_twinOf_4 := dk_seg dksX7_twinOf_3 23 rfl rfl
theorem dksX7_twinOf_5 : cX7_twinOf.data.toList.drop 116 = dktX7_twinOf_5 := dk_seg dksX7_twinOf_4 22 rfl rfl
theorem dksX7_twinOf_6 : cX7_twinOf.data.toList.drop 140 = dktX7_twinOf_6 := dk_seg dksX7_twinOf_5 24 rfl rfl
theorem dksX7_twinOf_7 : cX7_twinOf.data.toList.drop 164 = dktX7_twinOf_7 := dk_seg dksX7_twinOf_6 24 rfl rfl
theorem dksX7_twinOf_8 : cX7_twinOf.data.toList.drop 187 = dktX7_twinOf_8 := dk_seg dksX7_twinOf_7 23 rfl rfl
theorem dX7_twinOf_0 : decode cX7_twinOf 0 = .ok (.iconst 0, 1) := dk_3 (dk_at dksX7_twinOf_0 0 rfl rfl)
theorem dX7_twinOf_1 : decode cX7_twinOf 1 = .ok (.istore_n 1, 1) := dk_60 (dk_at dksX7_twinOf_0 1 rfl rfl)
theorem dX7_twinOf_2 : decode cX7_twinOf 2 = .ok (.iload_n 1, 1) := dk_27 (dk_at dksX7_twinOf_0 2 rfl rfl)
theorem dX7_twinOf_3 : decode cX7_twinOf 3 = .ok (.aload_n 0, 1) := dk_42 (dk_at dksX7_twinOf_0 3 rfl rfl)
theorem dX7_twinOf_4 : decode cX7_twinOf 4 = .ok (.getfield 83, 3) := dk_180 0 83 (dk_at dksX7_twinOf_0 4 rfl rfl)
theorem dX7_twinOf_7 : decode cX7_twinOf 7 = .ok (.arraylength, 1) := dk_190 (dk_at dksX7_twinOf_0 7 rfl rfl)
theorem dX7_twinOf_8 : decode cX7_twinOf 8 = .ok (.if_icmp .ge 18, 3) := dk_162 0 18 (dk_at dksX7_twinOf_0 8 rfl rfl)
theorem dX7_twinOf_11 : decode cX7_twinOf 11 = .ok (.aload_n 0, 1) := dk_42 (dk_at dksX7_twinOf_0 11 rfl rfl)
theorem dX7_twinOf_12 : decode cX7_twinOf 12 = .ok (.getfield 83, 3) := dk_180 0 83 (dk_at dksX7_twinOf_0 12 rfl rfl)
theorem dX7_twinOf_15 : decode cX7_twinOf 15 = .ok (.iload_n 1, 1) := dk_27 (dk_at dksX7_twinOf_0 15 rfl rfl)
theorem dX7_twinOf_16 : decode cX7_twinOf 16 = .ok (.ldc_w 362, 3) := dk_19 1 106 (dk_at dksX7_twinOf_0 16 rfl rfl)
theorem dX7_twinOf_19 : decode cX7_twinOf 19 = .ok (.iastore, 1) := dk_79 (dk_at dksX7_twinOf_0 19 rfl rfl)
theorem dX7_twinOf_20 : decode cX7_twinOf 20 = .ok (.iinc 1 1, 3) := dk_132 1 1 (dk_at dksX7_twinOf_0 20 rfl rfl)
theorem dX7_twinOf_23 : decode cX7_twinOf 23 = .ok (.goto (-21), 3) := dk_167 255 235 (dk_at dksX7_twinOf_1 0 rfl rfl)
theorem dX7_twinOf_26 : decode cX7_twinOf 26 = .ok (.iconst 0, 1) := dk_3 (dk_at dksX7_twinOf_1 3 rfl rfl)
theorem dX7_twinOf_27 : decode cX7_twinOf 27 = .ok (.istore_n 1, 1) := dk_60 (dk_at dksX7_twinOf_1 4 rfl rfl)
theorem dX7_twinOf_28 : decode cX7_twinOf 28 = .ok (.iconst 0, 1) := dk_3 (dk_at dksX7_twinOf_1 5 rfl rfl)
theorem dX7_twinOf_29 : decode cX7_twinOf 29 = .ok (.istore_n 2, 1) := dk_61 (dk_at dksX7_twinOf_1 6 rfl rfl)
theorem dX7_twinOf_30 : decode cX7_twinOf 30 = .ok (.iload_n 2, 1) := dk_28 (dk_at dksX7_twinOf_1 7 rfl rfl)
theorem dX7_twinOf_31 : decode cX7_twinOf 31 = .ok (.aload_n 0, 1) := dk_42 (dk_at dksX7_twinOf_1 8 rfl rfl)
theorem dX7_twinOf_32 : decode cX7_twinOf 32 = .ok (.getfield 7, 3) := dk_180 0 7 (dk_at dksX7_twinOf_1 9 rfl rfl)
theorem dX7_twinOf_35 : decode cX7_twinOf 35 = .ok (.iconst 0, 1) := dk_3 (dk_at dksX7_twinOf_1 12 rfl rfl)
theorem dX7_twinOf_36 : decode cX7_twinOf 36 = .ok (.iaload, 1) := dk_46 (dk_at dksX7_twinOf_1 13 rfl rfl)
theorem dX7_twinOf_37 : decode cX7_twinOf 37 = .ok (.if_icmp .ge 69, 3) := dk_162 0 69 (dk_at dksX7_twinOf_1 14 rfl rfl)
theorem dX7_twinOf_40 : decode cX7_twinOf 40 = .ok (.iconst 0, 1) := dk_3 (dk_at dksX7_twinOf_1 17 rfl rfl)
theorem dX7_twinOf_41 : decode cX7_twinOf 41 = .ok (.istore_n 3, 1) := dk_62 (dk_at dksX7_twinOf_1 18 rfl rfl)
theorem dX7_twinOf_42 : decode cX7_twinOf 42 = .ok (.iload_n 3, 1) := dk_29 (dk_at dksX7_twinOf_1 19 rfl rfl)
theorem dX7_twinOf_43 : decode cX7_twinOf 43 = .ok (.aload_n 0, 1) := dk_42 (dk_at dksX7_twinOf_1 20 rfl rfl)
theorem dX7_twinOf_44 : decode cX7_twinOf 44 = .ok (.getfield 7, 3) := dk_180 0 7 (dk_at dksX7_twinOf_1 21 rfl rfl)
theorem dX7_twinOf_47 : decode cX7_twinOf 47 = .ok (.iconst 0, 1) := dk_3 (dk_at dksX7_twinOf_2 0 rfl rfl)
theorem dX7_twinOf_48 : decode cX7_twinOf 48 = .ok (.iaload, 1) := dk_46 (dk_at dksX7_twinOf_2 1 rfl rfl)
theorem dX7_twinOf_49 : decode cX7_twinOf 49 = .ok (.if_icmp .ge 51, 3) := dk_162 0 51 (dk_at dksX7_twinOf_2 2 rfl rfl)
theorem dX7_twinOf_52 : decode cX7_twinOf 52 = .ok (.aload_n 0, 1) := dk_42 (dk_at dksX7_twinOf_2 5 rfl rfl)
theorem dX7_twinOf_53 : decode cX7_twinOf 53 = .ok (.iload_n 2, 1) := dk_28 (dk_at dksX7_twinOf_2 6 rfl rfl)
theorem dX7_twinOf_54 : decode cX7_twinOf 54 = .ok (.iload_n 3, 1) := dk_29 (dk_at dksX7_twinOf_2 7 rfl rfl)
theorem dX7_twinOf_55 : decode cX7_twinOf 55 = .ok (.invokevirtual 395, 3) := dk_182 1 139 (dk_at dksX7_twinOf_2 8 rfl rfl)
theorem dX7_twinOf_58 : decode cX7_twinOf 58 = .ok (.ifCond .eq 36, 3) := dk_153 0 36 (dk_at dksX7_twinOf_2 11 rfl rfl)
theorem dX7_twinOf_61 : decode cX7_twinOf 61 = .ok (.aload_n 0, 1) := dk_42 (dk_at dksX7_twinOf_2 14 rfl rfl)
theorem dX7_twinOf_62 : decode cX7_twinOf 62 = .ok (.iload_n 2, 1) := dk_28 (dk_at dksX7_twinOf_2 15 rfl rfl)
theorem dX7_twinOf_63 : decode cX7_twinOf 63 = .ok (.iload_n 3, 1) := dk_29 (dk_at dksX7_twinOf_2 16 rfl rfl)
theorem dX7_twinOf_64 : decode cX7_twinOf 64 = .ok (.invokevirtual 398, 3) := dk_182 1 142 (dk_at dksX7_twinOf_2 17 rfl rfl)
theorem dX7_twinOf_67 : decode cX7_twinOf 67 = .ok (.ifCond .eq 27, 3) := dk_153 0 27 (dk_at dksX7_twinOf_2 20 rfl rfl)
theorem dX7_twinOf_70 : decode cX7_twinOf 70 = .ok (.aload_n 0, 1) := dk_42 (dk_at dksX7_twinOf_2 23 rfl rfl)
theorem dX7_twinOf_71 : decode cX7_twinOf 71 = .ok (.aload_n 0, 1) := dk_42 (dk_at dksX7_twinOf_3 0 rfl rfl)
theorem dX7_twinOf_72 : decode cX7_twinOf 72 = .ok (.iload_n 3, 1) := dk_29 (dk_at dksX7_twinOf_3 1 rfl rfl)
theorem dX7_twinOf_73 : decode cX7_twinOf 73 = .ok (.aload_n 0, 1) := dk_42 (dk_at dksX7_twinOf_3 2 rfl rfl)
theorem dX7_twinOf_74 : decode cX7_twinOf 74 = .ok (.iload_n 2, 1) := dk_28 (dk_at dksX7_twinOf_3 3 rfl rfl)
theorem dX7_twinOf_75 : decode cX7_twinOf 75 = .ok (.invokevirtual 300, 3) := dk_182 1 44 (dk_at dksX7_twinOf_3 4 rfl rfl)
theorem dX7_twinOf_78 : decode cX7_twinOf 78 = .ok (.invokevirtual 407, 3) := dk_182 1 151 (dk_at dksX7_twinOf_3 7 rfl rfl)
theorem dX7_twinOf_81 : decode cX7_twinOf 81 = .ok (.aload_n 0, 1) := dk_42 (dk_at dksX7_twinOf_3 10 rfl rfl)
theorem dX7_twinOf_82 : decode cX7_twinOf 82 = .ok (.iload_n 3, 1) := dk_29 (dk_at dksX7_twinOf_3 11 rfl rfl)
theorem dX7_twinOf_83 : decode cX7_twinOf 83 = .ok (.invokevirtual 300, 3) := dk_182 1 44 (dk_at dksX7_twinOf_3 12 rfl rfl)
theorem dX7_twinOf_86 : decode cX7_twinOf 86 = .ok (.invokevirtual 410, 3) := dk_182 1 154 (dk_at dksX7_twinOf_3 15 rfl rfl)
theorem dX7_twinOf_89 : decode cX7_twinOf 89 = .ok (.ifCond .eq 5, 3) := dk_153 0 5 (dk_at dksX7_twinOf_3 18 rfl rfl)
theorem dX7_twinOf_92 : decode cX7_twinOf 92 = .ok (.iconst 1, 1) := dk_4 (dk_at dksX7_twinOf_3 21 rfl rfl)
theorem dX7_twinOf_93 : decode cX7_twinOf 93 = .ok (.istore_n 1, 1) := dk_60 (dk_at dksX7_twinOf_3 22 rfl rfl)
theorem dX7_twinOf_94 : decode cX7_twinOf 94 = .ok (.iinc 3 1, 3) := dk_132 3 1 (dk_at dksX7_twinOf_4 0 rfl rfl)
theorem dX7_twinOf_97 : decode cX7_twinOf 97 = .ok (.goto (-55), 3) := dk_167 255 201 (dk_at dksX7_twinOf_4 3 rfl rfl)
theorem dX7_twinOf_100 : decode cX7_twinOf 100 = .ok (.iinc 2 1, 3) := dk_132 2 1 (dk_at dksX7_twinOf_4 6 rfl rfl)
theorem dX7_twinOf_103 : decode cX7_twinOf 103 = .ok (.goto (-73), 3) := dk_167 255 183 (dk_at dksX7_twinOf_4 9 rfl rfl)
theorem dX7_twinOf_106 : decode cX7_twinOf 106 = .ok (.iload_n 1, 1) := dk_27 (dk_at dksX7_twinOf_4 12 rfl rfl)
theorem dX7_twinOf_107 : decode cX7_twinOf 107 = .ok (.ifCond .eq 83, 3) := dk_153 0 83 (dk_at dksX7_twinOf_4 13 rfl rfl)
theorem dX7_twinOf_110 : decode cX7_twinOf 110 = .ok (.iconst 0, 1) := dk_3 (dk_at dksX7_twinOf_4 16 rfl rfl)
theorem dX7_twinOf_111 : decode cX7_twinOf 111 = .ok (.istore_n 1, 1) := dk_60 (dk_at dksX7_twinOf_4 17 rfl rfl)
theorem dX7_twinOf_112 : decode cX7_twinOf 112 = .ok (.iconst 1, 1) := dk_4 (dk_at dksX7_twinOf_4 18 rfl rfl)
theorem dX7_twinOf_113 : decode cX7_twinOf 113 = .ok (.istore_n 2, 1) := dk_61 (dk_at dksX7_twinOf_4 19 rfl rfl)
theorem dX7_twinOf_114 : decode cX7_twinOf 114 = .ok (.iload_n 2, 1) := dk_28 (dk_at dksX7_twinOf_4 20 rfl rfl)
theorem dX7_twinOf_115 : decode cX7_twinOf 115 = .ok (.aload_n 0, 1) := dk_42 (dk_at dksX7_twinOf_4 21 rfl rfl)
theorem dX7_twinOf_116 : decode cX7_twinOf 116 = .ok (.getfield 83, 3) := dk_180 0 83 (dk_at dksX7_twinOf_5 0 rfl rfl)
theorem dX7_twinOf_119 : decode cX7_twinOf 119 = .ok (.arraylength, 1) := dk_190 (dk_at dksX7_twinOf_5 3 rfl rfl)
theorem dX7_twinOf_120 : decode cX7_twinOf 120 = .ok (.if_icmp .ge 67, 3) := dk_162 0 67 (dk_at dksX7_twinOf_5 4 rfl rfl)
theorem dX7_twinOf_123 : decode cX7_twinOf 123 = .ok (.aload_n 0, 1) := dk_42 (dk_at dksX7_twinOf_5 7 rfl rfl)
theorem dX7_twinOf_124 : decode cX7_twinOf 124 = .ok (.getfield 83, 3) := dk_180 0 83 (dk_at dksX7_twinOf_5 8 rfl rfl)
theorem dX7_twinOf_127 : decode cX7_twinOf 127 = .ok (.iload_n 2, 1) := dk_28 (dk_at dksX7_twinOf_5 11 rfl rfl)
theorem dX7_twinOf_128 : decode cX7_twinOf 128 = .ok (.iaload, 1) := dk_46 (dk_at dksX7_twinOf_5 12 rfl rfl)
theorem dX7_twinOf_129 : decode cX7_twinOf 129 = .ok (.ldc_w 362, 3) := dk_19 1 106 (dk_at dksX7_twinOf_5 13 rfl rfl)
theorem dX7_twinOf_132 : decode cX7_twinOf 132 = .ok (.if_icmp .ne 6, 3) := dk_160 0 6 (dk_at dksX7_twinOf_5 16 rfl rfl)
theorem dX7_twinOf_135 : decode cX7_twinOf 135 = .ok (.goto 46, 3) := dk_167 0 46 (dk_at dksX7_twinOf_5 19 rfl rfl)
theorem dX7_twinOf_138 : decode cX7_twinOf 138 = .ok (.iconst 0, 1) := dk_3 (dk_at dksX7_twinOf_5 22 rfl rfl)
theorem dX7_twinOf_139 : decode cX7_twinOf 139 = .ok (.istore_n 3, 1) := dk_62 (dk_at dksX7_twinOf_5 23 rfl rfl)
theorem dX7_twinOf_140 : decode cX7_twinOf 140 = .ok (.iload_n 3, 1) := dk_29 (dk_at dksX7_twinOf_6 0 rfl rfl)
theorem dX7_twinOf_141 : decode cX7_twinOf 141 = .ok (.aload_n 0, 1) := dk_42 (dk_at dksX7_twinOf_6 1 rfl rfl)
theorem dX7_twinOf_142 : decode cX7_twinOf 142 = .ok (.getfield 7, 3) := dk_180 0 7 (dk_at dksX7_twinOf_6 2 rfl rfl)
theorem dX7_twinOf_145 : decode cX7_twinOf 145 = .ok (.iconst 0, 1) := dk_3 (dk_at dksX7_twinOf_6 5 rfl rfl)
theorem dX7_twinOf_146 : decode cX7_twinOf 146 = .ok (.iaload, 1) := dk_46 (dk_at dksX7_twinOf_6 6 rfl rfl)
theorem dX7_twinOf_147 : decode cX7_twinOf 147 = .ok (.if_icmp .ge 34, 3) := dk_162 0 34 (dk_at dksX7_twinOf_6 7 rfl rfl)
theorem dX7_twinOf_150 : decode cX7_twinOf 150 = .ok (.aload_n 0, 1) := dk_42 (dk_at dksX7_twinOf_6 10 rfl rfl)
theorem dX7_twinOf_151 : decode cX7_twinOf 151 = .ok (.getfield 7, 3) := dk_180 0 7 (dk_at dksX7_twinOf_6 11 rfl rfl)
theorem dX7_twinOf_154 : decode cX7_twinOf 154 = .ok (.bipush 6, 2) := dk_16 6 (dk_at dksX7_twinOf_6 14 rfl rfl)
theorem dX7_twinOf_156 : decode cX7_twinOf 156 = .ok (.iaload, 1) := dk_46 (dk_at dksX7_twinOf_6 16 rfl rfl)
theorem dX7_twinOf_157 : decode cX7_twinOf 157 = .ok (.iload_n 3, 1) := dk_29 (dk_at dksX7_twinOf_6 17 rfl rfl)
theorem dX7_twinOf_158 : decode cX7_twinOf 158 = .ok (.invokestatic 249, 3) := dk_184 0 249 (dk_at dksX7_twinOf_6 18 rfl rfl)
theorem dX7_twinOf_161 : decode cX7_twinOf 161 = .ok (.ifCond .ne 14, 3) := dk_154 0 14 (dk_at dksX7_twinOf_6 21 rfl rfl)
theorem dX7_twinOf_164 : decode cX7_twinOf 164 = .ok (.aload_n 0, 1) := dk_42 (dk_at dksX7_twinOf_7 0 rfl rfl)
theorem dX7_twinOf_165 : decode cX7_twinOf 165 = .ok (.iload_n 2, 1) := dk_28 (dk_at dksX7_twinOf_7 1 rfl rfl)
theorem dX7_twinOf_166 : decode cX7_twinOf 166 = .ok (.iload_n 3, 1) := dk_29 (dk_at dksX7_twinOf_7 2 rfl rfl)
theorem dX7_twinOf_167 : decode cX7_twinOf 167 = .ok (.invokevirtual 413, 3) := dk_182 1 157 (dk_at dksX7_twinOf_7 3 rfl rfl)
theorem dX7_twinOf_170 : decode cX7_twinOf 170 = .ok (.ifCond .eq 5, 3) := dk_153 0 5 (dk_at dksX7_twinOf_7 6 rfl rfl)
theorem dX7_twinOf_173 : decode cX7_twinOf 173 = .ok (.iconst 1, 1) := dk_4 (dk_at dksX7_twinOf_7 9 rfl rfl)
theorem dX7_twinOf_174 : decode cX7_twinOf 174 = .ok (.istore_n 1, 1) := dk_60 (dk_at dksX7_twinOf_7 10 rfl rfl)
theorem dX7_twinOf_175 : decode cX7_twinOf 175 = .ok (.iinc 3 1, 3) := dk_132 3 1 (dk_at dksX7_twinOf_7 11 rfl rfl)
theorem dX7_twinOf_178 : decode cX7_twinOf 178 = .ok (.goto (-38), 3) := dk_167 255 218 (dk_at dksX7_twinOf_7 14 rfl rfl)
theorem dX7_twinOf_181 : decode cX7_twinOf 181 = .ok (.iinc 2 1, 3) := dk_132 2 1 (dk_at dksX7_twinOf_7 17 rfl rfl)
theorem dX7_twinOf_184 : decode cX7_twinOf 184 = .ok (.goto (-70), 3) := dk_167 255 186 (dk_at dksX7_twinOf_7 20 rfl rfl)
theorem dX7_twinOf_187 : decode cX7_twinOf 187 = .ok (.goto (-81), 3) := dk_167 255 175 (dk_at dksX7_twinOf_8 0 rfl rfl)
theorem dX7_twinOf_190 : decode cX7_twinOf 190 = .ok (.aload_n 0, 1) := dk_42 (dk_at dksX7_twinOf_8 3 rfl rfl)
theorem dX7_twinOf_191 : decode cX7_twinOf 191 = .ok (.getfield 83, 3) := dk_180 0 83 (dk_at dksX7_twinOf_8 4 rfl rfl)
theorem dX7_twinOf_194 : decode cX7_twinOf 194 = .ok (.iconst 0, 1) := dk_3 (dk_at dksX7_twinOf_8 7 rfl rfl)
theorem dX7_twinOf_195 : decode cX7_twinOf 195 = .ok (.iaload, 1) := dk_46 (dk_at dksX7_twinOf_8 8 rfl rfl)
theorem dX7_twinOf_196 : decode cX7_twinOf 196 = .ok (.ireturn, 1) := dk_172 (dk_at dksX7_twinOf_8 9 rfl rfl)
abbrev cX7_overOf : ByteArray := prog_17_method_130_code
def yX7_overOf : MethodName := ⟨RX7, "overOf", "(II)I"⟩
def dkwX7_overOf_2 : List UInt8 := [172]
abbrev dktX7_overOf_2 : List UInt8 := dkwX7_overOf_2 ++ []
def dkwX7_overOf_1 : List UInt8 := [182, 1, 47, 167, 0, 21, 16, 64, 42, 27, 28, 182, 1, 47, 104, 42, 27, 28, 4, 96, 182, 1, 47, 96]
abbrev dktX7_overOf_1 : List UInt8 := dkwX7_overOf_1 ++ dktX7_overOf_2
def dkwX7_overOf_0 : List UInt8 := [42, 27, 182, 1, 44, 28, 100, 62, 29, 154, 0, 7, 3, 167, 0, 35, 29, 4, 160, 0, 12, 42, 27, 28]
abbrev dktX7_overOf_0 : List UInt8 := dkwX7_overOf_0 ++ dktX7_overOf_1
theorem dksX7_overOf_0 : cX7_overOf.data.toList.drop 0 = dktX7_overOf_0 := by decide +kernel
theorem dksX7_overOf_1 : cX7_overOf.data.toList.drop 24 = dktX7_overOf_1 := dk_seg dksX7_overOf_0 24 rfl rfl
theorem dksX7_overOf_2 : cX7_overOf.data.toList.drop 48 = dktX7_overOf_2 := dk_seg dksX7_overOf_1 24 rfl rfl
theorem dX7_overOf_0 : decode cX7_overOf 0 = .ok (.aload_n 0, 1) := dk_42 (dk_at dksX7_overOf_0 0 rfl rfl)
theorem dX7_overOf_1 : decode cX7_overOf 1 = .ok (.iload_n 1, 1) := dk_27 (dk_at dksX7_overOf_0 1 rfl rfl)
theorem dX7_overOf_2 : decode cX7_overOf 2 = .ok (.invokevirtual 300, 3) := dk_182 1 44 (dk_at dksX7_overOf_0 2 rfl rfl)
theorem dX7_overOf_5 : decode cX7_overOf 5 = .ok (.iload_n 2, 1) := dk_28 (dk_at dksX7_overOf_0 5 rfl rfl)
theorem dX7_overOf_6 : decode cX7_overOf 6 = .ok (.isub, 1) := dk_100 (dk_at dksX7_overOf_0 6 rfl rfl)
theorem dX7_overOf_7 : decode cX7_overOf 7 = .ok (.istore_n 3, 1) := dk_62 (dk_at dksX7_overOf_0 7 rfl rfl)
theorem dX7_overOf_8 : decode cX7_overOf 8 = .ok (.iload_n 3, 1) := dk_29 (dk_at dksX7_overOf_0 8 rfl rfl)
theorem dX7_overOf_9 : decode cX7_overOf 9 = .ok (.ifCond .ne 7, 3) := dk_154 0 7 (dk_at dksX7_overOf_0 9 rfl rfl)
theorem dX7_overOf_12 : decode cX7_overOf 12 = .ok (.iconst 0, 1) := dk_3 (dk_at dksX7_overOf_0 12 rfl rfl)
theorem dX7_overOf_13 : decode cX7_overOf 13 = .ok (.goto 35, 3) := dk_167 0 35 (dk_at dksX7_overOf_0 13 rfl rfl)
theorem dX7_overOf_16 : decode cX7_overOf 16 = .ok (.iload_n 3, 1) := dk_29 (dk_at dksX7_overOf_0 16 rfl rfl)
theorem dX7_overOf_17 : decode cX7_overOf 17 = .ok (.iconst 1, 1) := dk_4 (dk_at dksX7_overOf_0 17 rfl rfl)
theorem dX7_overOf_18 : decode cX7_overOf 18 = .ok (.if_icmp .ne 12, 3) := dk_160 0 12 (dk_at dksX7_overOf_0 18 rfl rfl)
theorem dX7_overOf_21 : decode cX7_overOf 21 = .ok (.aload_n 0, 1) := dk_42 (dk_at dksX7_overOf_0 21 rfl rfl)
theorem dX7_overOf_22 : decode cX7_overOf 22 = .ok (.iload_n 1, 1) := dk_27 (dk_at dksX7_overOf_0 22 rfl rfl)
theorem dX7_overOf_23 : decode cX7_overOf 23 = .ok (.iload_n 2, 1) := dk_28 (dk_at dksX7_overOf_0 23 rfl rfl)
theorem dX7_overOf_24 : decode cX7_overOf 24 = .ok (.invokevirtual 303, 3) := dk_182 1 47 (dk_at dksX7_overOf_1 0 rfl rfl)
theorem dX7_overOf_27 : decode cX7_overOf 27 = .ok (.goto 21, 3) := dk_167 0 21 (dk_at dksX7_overOf_1 3 rfl rfl)
theorem dX7_overOf_30 : decode cX7_overOf 30 = .ok (.bipush 64, 2) := dk_16 64 (dk_at dksX7_overOf_1 6 rfl rfl)
theorem dX7_overOf_32 : decode cX7_overOf 32 = .ok (.aload_n 0, 1) := dk_42 (dk_at dksX7_overOf_1 8 rfl rfl)
theorem dX7_overOf_33 : decode cX7_overOf 33 = .ok (.iload_n 1, 1) := dk_27 (dk_at dksX7_overOf_1 9 rfl rfl)
theorem dX7_overOf_34 : decode cX7_overOf 34 = .ok (.iload_n 2, 1) := dk_28 (dk_at dksX7_overOf_1 10 rfl rfl)
theorem dX7_overOf_35 : decode cX7_overOf 35 = .ok (.invokevirtual 303, 3) := dk_182 1 47 (dk_at dksX7_overOf_1 11 rfl rfl)
theorem dX7_overOf_38 : decode cX7_overOf 38 = .ok (.imul, 1) := dk_104 (dk_at dksX7_overOf_1 14 rfl rfl)
theorem dX7_overOf_39 : decode cX7_overOf 39 = .ok (.aload_n 0, 1) := dk_42 (dk_at dksX7_overOf_1 15 rfl rfl)
theorem dX7_overOf_40 : decode cX7_overOf 40 = .ok (.iload_n 1, 1) := dk_27 (dk_at dksX7_overOf_1 16 rfl rfl)
theorem dX7_overOf_41 : decode cX7_overOf 41 = .ok (.iload_n 2, 1) := dk_28 (dk_at dksX7_overOf_1 17 rfl rfl)
theorem dX7_overOf_42 : decode cX7_overOf 42 = .ok (.iconst 1, 1) := dk_4 (dk_at dksX7_overOf_1 18 rfl rfl)
theorem dX7_overOf_43 : decode cX7_overOf 43 = .ok (.iadd, 1) := dk_96 (dk_at dksX7_overOf_1 19 rfl rfl)
theorem dX7_overOf_44 : decode cX7_overOf 44 = .ok (.invokevirtual 303, 3) := dk_182 1 47 (dk_at dksX7_overOf_1 20 rfl rfl)
theorem dX7_overOf_47 : decode cX7_overOf 47 = .ok (.iadd, 1) := dk_96 (dk_at dksX7_overOf_1 23 rfl rfl)
theorem dX7_overOf_48 : decode cX7_overOf 48 = .ok (.ireturn, 1) := dk_172 (dk_at dksX7_overOf_2 0 rfl rfl)
abbrev cX7_comesTo : ByteArray := prog_17_method_133_code
def yX7_comesTo : MethodName := ⟨RX7, "comesTo", "(II)Z"⟩
def dkwX7_comesTo_0 : List UInt8 := [28, 42, 180, 0, 83, 27, 46, 161, 0, 5, 3, 172, 42, 180, 0, 83, 27, 28, 79, 4, 172]
abbrev dktX7_comesTo_0 : List UInt8 := dkwX7_comesTo_0 ++ []
theorem dksX7_comesTo_0 : cX7_comesTo.data.toList.drop 0 = dktX7_comesTo_0 := by decide +kernel
theorem dX7_comesTo_0 : decode cX7_comesTo 0 = .ok (.iload_n 2, 1) := dk_28 (dk_at dksX7_comesTo_0 0 rfl rfl)
theorem dX7_comesTo_1 : decode cX7_comesTo 1 = .ok (.aload_n 0, 1) := dk_42 (dk_at dksX7_comesTo_0 1 rfl rfl)
theorem dX7_comesTo_2 : decode cX7_comesTo 2 = .ok (.getfield 83, 3) := dk_180 0 83 (dk_at dksX7_comesTo_0 2 rfl rfl)
theorem dX7_comesTo_5 : decode cX7_comesTo 5 = .ok (.iload_n 1, 1) := dk_27 (dk_at dksX7_comesTo_0 5 rfl rfl)
theorem dX7_comesTo_6 : decode cX7_comesTo 6 = .ok (.iaload, 1) := dk_46 (dk_at dksX7_comesTo_0 6 rfl rfl)
theorem dX7_comesTo_7 : decode cX7_comesTo 7 = .ok (.if_icmp .lt 5, 3) := dk_161 0 5 (dk_at dksX7_comesTo_0 7 rfl rfl)
theorem dX7_comesTo_10 : decode cX7_comesTo 10 = .ok (.iconst 0, 1) := dk_3 (dk_at dksX7_comesTo_0 10 rfl rfl)
theorem dX7_comesTo_11 : decode cX7_comesTo 11 = .ok (.ireturn, 1) := dk_172 (dk_at dksX7_comesTo_0 11 rfl rfl)
theorem dX7_comesTo_12 : decode cX7_comesTo 12 = .ok (.aload_n 0, 1) := dk_42 (dk_at dksX7_comesTo_0 12 rfl rfl)
theorem dX7_comesTo_13 : decode cX7_comesTo 13 = .ok (.getfield 83, 3) := dk_180 0 83 (dk_at dksX7_comesTo_0 13 rfl rfl)
theorem dX7_comesTo_16 : decode cX7_comesTo 16 = .ok (.iload_n 1, 1) := dk_27 (dk_at dksX7_comesTo_0 16 rfl rfl)
theorem dX7_comesTo_17 : decode cX7_comesTo 17 = .ok (.iload_n 2, 1) := dk_28 (dk_at dksX7_comesTo_0 17 rfl rfl)
theorem dX7_comesTo_18 : decode cX7_comesTo 18 = .ok (.iastore, 1) := dk_79 (dk_at dksX7_comesTo_0 18 rfl rfl)
theorem dX7_comesTo_19 : decode cX7_comesTo 19 = .ok (.iconst 1, 1) := dk_4 (dk_at dksX7_comesTo_0 19 rfl rfl)
theorem dX7_comesTo_20 : decode cX7_comesTo 20 = .ok (.ireturn, 1) := dk_172 (dk_at dksX7_comesTo_0 20 rfl rfl)
abbrev cX7_goesOn : ByteArray := prog_17_method_134_code
def yX7_goesOn : MethodName := ⟨RX7, "goesOn", "(II)Z"⟩
def dkwX7_goesOn_4 : List UInt8 := [182, 1, 154, 172]
abbrev dktX7_goesOn_4 : List UInt8 := dkwX7_goesOn_4 ++ []
def dkwX7_goesOn_3 : List UInt8 := [46, 21, 4, 96, 29, 100, 182, 1, 154, 172, 42, 27, 4, 184, 1, 148, 42, 180, 0, 83, 27, 46]
abbrev dktX7_goesOn_3 : List UInt8 := dkwX7_goesOn_3 ++ dktX7_goesOn_4
def dkwX7_goesOn_2 : List UInt8 := [132, 5, 1, 167, 255, 222, 21, 4, 29, 161, 0, 25, 42, 42, 28, 29, 182, 1, 151, 42, 180, 0, 83, 27]
abbrev dktX7_goesOn_2 : List UInt8 := dkwX7_goesOn_2 ++ dktX7_goesOn_3
def dkwX7_goesOn_1 : List UInt8 := [21, 4, 162, 0, 27, 27, 21, 5, 184, 1, 148, 42, 28, 21, 5, 182, 1, 47, 159, 0, 5, 3, 172]
abbrev dktX7_goesOn_1 : List UInt8 := dkwX7_goesOn_1 ++ dktX7_goesOn_2
def dkwX7_goesOn_0 : List UInt8 := [27, 184, 1, 145, 62, 42, 28, 182, 1, 44, 54, 4, 3, 54, 5, 21, 5, 29, 162, 0, 34, 21, 5]
abbrev dktX7_goesOn_0 : List UInt8 := dkwX7_goesOn_0 ++ dktX7_goesOn_1
theorem dksX7_goesOn_0 : cX7_goesOn.data.toList.drop 0 = dktX7_goesOn_0 := by decide +kernel
theorem dksX7_goesOn_1 : cX7_goesOn.data.toList.drop 23 = dktX7_goesOn_1 := dk_seg dksX7_goesOn_0 23 rfl rfl
theorem dksX7_goesOn_2 : cX7_goesOn.data.toList.drop 46 = dktX7_goesOn_2 := dk_seg dksX7_goesOn_1 23 rfl rfl
theorem dksX7_goesOn_3 : cX7_goesOn.data.toList.drop 70 = dktX7_goesOn_3 := dk_seg dksX7_goesOn_2 24 rfl rfl
theorem dksX7_goesOn_4 : cX7_goesOn.data.toList.drop 92 = dktX7_goesOn_4 := dk_seg dksX7_goesOn_3 22 rfl rfl
theorem dX7_goesOn_0 : decode cX7_goesOn 0 = .ok (.iload_n 1, 1) := dk_27 (dk_at dksX7_goesOn_0 0 rfl rfl)
theorem dX7_goesOn_1 : decode cX7_goesOn 1 = .ok (.invokestatic 401, 3) := dk_184 1 145 (dk_at dksX7_goesOn_0 1 rfl rfl)
theorem dX7_goesOn_4 : decode cX7_goesOn 4 = .ok (.istore_n 3, 1) := dk_62 (dk_at dksX7_goesOn_0 4 rfl rfl)
theorem dX7_goesOn_5 : decode cX7_goesOn 5 = .ok (.aload_n 0, 1) := dk_42 (dk_at dksX7_goesOn_0 5 rfl rfl)
theorem dX7_goesOn_6 : decode cX7_goesOn 6 = .ok (.iload_n 2, 1) := dk_28 (dk_at dksX7_goesOn_0 6 rfl rfl)
theorem dX7_goesOn_7 : decode cX7_goesOn 7 = .ok (.invokevirtual 300, 3) := dk_182 1 44 (dk_at dksX7_goesOn_0 7 rfl rfl)
theorem dX7_goesOn_10 : decode cX7_goesOn 10 = .ok (.istore 4, 2) := dk_54 4 (dk_at dksX7_goesOn_0 10 rfl rfl)
theorem dX7_goesOn_12 : decode cX7_goesOn 12 = .ok (.iconst 0, 1) := dk_3 (dk_at dksX7_goesOn_0 12 rfl rfl)
theorem dX7_goesOn_13 : decode cX7_goesOn 13 = .ok (.istore 5, 2) := dk_54 5 (dk_at dksX7_goesOn_0 13 rfl rfl)
theorem dX7_goesOn_15 : decode cX7_goesOn 15 = .ok (.iload 5, 2) := dk_21 5 (dk_at dksX7_goesOn_0 15 rfl rfl)
theorem dX7_goesOn_17 : decode cX7_goesOn 17 = .ok (.iload_n 3, 1) := dk_29 (dk_at dksX7_goesOn_0 17 rfl rfl)
theorem dX7_goesOn_18 : decode cX7_goesOn 18 = .ok (.if_icmp .ge 34, 3) := dk_162 0 34 (dk_at dksX7_goesOn_0 18 rfl rfl)
theorem dX7_goesOn_21 : decode cX7_goesOn 21 = .ok (.iload 5, 2) := dk_21 5 (dk_at dksX7_goesOn_0 21 rfl rfl)
theorem dX7_goesOn_23 : decode cX7_goesOn 23 = .ok (.iload 4, 2) := dk_21 4 (dk_at dksX7_goesOn_1 0 rfl rfl)
theorem dX7_goesOn_25 : decode cX7_goesOn 25 = .ok (.if_icmp .ge 27, 3) := dk_162 0 27 (dk_at dksX7_goesOn_1 2 rfl rfl)
theorem dX7_goesOn_28 : decode cX7_goesOn 28 = .ok (.iload_n 1, 1) := dk_27 (dk_at dksX7_goesOn_1 5 rfl rfl)
theorem dX7_goesOn_29 : decode cX7_goesOn 29 = .ok (.iload 5, 2) := dk_21 5 (dk_at dksX7_goesOn_1 6 rfl rfl)
theorem dX7_goesOn_31 : decode cX7_goesOn 31 = .ok (.invokestatic 404, 3) := dk_184 1 148 (dk_at dksX7_goesOn_1 8 rfl rfl)
theorem dX7_goesOn_34 : decode cX7_goesOn 34 = .ok (.aload_n 0, 1) := dk_42 (dk_at dksX7_goesOn_1 11 rfl rfl)
theorem dX7_goesOn_35 : decode cX7_goesOn 35 = .ok (.iload_n 2, 1) := dk_28 (dk_at dksX7_goesOn_1 12 rfl rfl)
theorem dX7_goesOn_36 : decode cX7_goesOn 36 = .ok (.iload 5, 2) := dk_21 5 (dk_at dksX7_goesOn_1 13 rfl rfl)
theorem dX7_goesOn_38 : decode cX7_goesOn 38 = .ok (.invokevirtual 303, 3) := dk_182 1 47 (dk_at dksX7_goesOn_1 15 rfl rfl)
theorem dX7_goesOn_41 : decode cX7_goesOn 41 = .ok (.if_icmp .eq 5, 3) := dk_159 0 5 (dk_at dksX7_goesOn_1 18 rfl rfl)
theorem dX7_goesOn_44 : decode cX7_goesOn 44 = .ok (.iconst 0, 1) := dk_3 (dk_at dksX7_goesOn_1 21 rfl rfl)
theorem dX7_goesOn_45 : decode cX7_goesOn 45 = .ok (.ireturn, 1) := dk_172 (dk_at dksX7_goesOn_1 22 rfl rfl)
theorem dX7_goesOn_46 : decode cX7_goesOn 46 = .ok (.iinc 5 1, 3) := dk_132 5 1 (dk_at dksX7_goesOn_2 0 rfl rfl)
theorem dX7_goesOn_49 : decode cX7_goesOn 49 = .ok (.goto (-34), 3) := dk_167 255 222 (dk_at dksX7_goesOn_2 3 rfl rfl)
theorem dX7_goesOn_52 : decode cX7_goesOn 52 = .ok (.iload 4, 2) := dk_21 4 (dk_at dksX7_goesOn_2 6 rfl rfl)
theorem dX7_goesOn_54 : decode cX7_goesOn 54 = .ok (.iload_n 3, 1) := dk_29 (dk_at dksX7_goesOn_2 8 rfl rfl)
theorem dX7_goesOn_55 : decode cX7_goesOn 55 = .ok (.if_icmp .lt 25, 3) := dk_161 0 25 (dk_at dksX7_goesOn_2 9 rfl rfl)
theorem dX7_goesOn_58 : decode cX7_goesOn 58 = .ok (.aload_n 0, 1) := dk_42 (dk_at dksX7_goesOn_2 12 rfl rfl)
theorem dX7_goesOn_59 : decode cX7_goesOn 59 = .ok (.aload_n 0, 1) := dk_42 (dk_at dksX7_goesOn_2 13 rfl rfl)
theorem dX7_goesOn_60 : decode cX7_goesOn 60 = .ok (.iload_n 2, 1) := dk_28 (dk_at dksX7_goesOn_2 14 rfl rfl)
theorem dX7_goesOn_61 : decode cX7_goesOn 61 = .ok (.iload_n 3, 1) := dk_29 (dk_at dksX7_goesOn_2 15 rfl rfl)
theorem dX7_goesOn_62 : decode cX7_goesOn 62 = .ok (.invokevirtual 407, 3) := dk_182 1 151 (dk_at dksX7_goesOn_2 16 rfl rfl)
theorem dX7_goesOn_65 : decode cX7_goesOn 65 = .ok (.aload_n 0, 1) := dk_42 (dk_at dksX7_goesOn_2 19 rfl rfl)
theorem dX7_goesOn_66 : decode cX7_goesOn 66 = .ok (.getfield 83, 3) := dk_180 0 83 (dk_at dksX7_goesOn_2 20 rfl rfl)
theorem dX7_goesOn_69 : decode cX7_goesOn 69 = .ok (.iload_n 1, 1) := dk_27 (dk_at dksX7_goesOn_2 23 rfl rfl)
theorem dX7_goesOn_70 : decode cX7_goesOn 70 = .ok (.iaload, 1) := dk_46 (dk_at dksX7_goesOn_3 0 rfl rfl)
theorem dX7_goesOn_71 : decode cX7_goesOn 71 = .ok (.iload 4, 2) := dk_21 4 (dk_at dksX7_goesOn_3 1 rfl rfl)
theorem dX7_goesOn_73 : decode cX7_goesOn 73 = .ok (.iadd, 1) := dk_96 (dk_at dksX7_goesOn_3 3 rfl rfl)
theorem dX7_goesOn_74 : decode cX7_goesOn 74 = .ok (.iload_n 3, 1) := dk_29 (dk_at dksX7_goesOn_3 4 rfl rfl)
theorem dX7_goesOn_75 : decode cX7_goesOn 75 = .ok (.isub, 1) := dk_100 (dk_at dksX7_goesOn_3 5 rfl rfl)
theorem dX7_goesOn_76 : decode cX7_goesOn 76 = .ok (.invokevirtual 410, 3) := dk_182 1 154 (dk_at dksX7_goesOn_3 6 rfl rfl)
theorem dX7_goesOn_79 : decode cX7_goesOn 79 = .ok (.ireturn, 1) := dk_172 (dk_at dksX7_goesOn_3 9 rfl rfl)
theorem dX7_goesOn_80 : decode cX7_goesOn 80 = .ok (.aload_n 0, 1) := dk_42 (dk_at dksX7_goesOn_3 10 rfl rfl)
theorem dX7_goesOn_81 : decode cX7_goesOn 81 = .ok (.iload_n 1, 1) := dk_27 (dk_at dksX7_goesOn_3 11 rfl rfl)
theorem dX7_goesOn_82 : decode cX7_goesOn 82 = .ok (.iconst 1, 1) := dk_4 (dk_at dksX7_goesOn_3 12 rfl rfl)
theorem dX7_goesOn_83 : decode cX7_goesOn 83 = .ok (.invokestatic 404, 3) := dk_184 1 148 (dk_at dksX7_goesOn_3 13 rfl rfl)
theorem dX7_goesOn_86 : decode cX7_goesOn 86 = .ok (.aload_n 0, 1) := dk_42 (dk_at dksX7_goesOn_3 16 rfl rfl)
theorem dX7_goesOn_87 : decode cX7_goesOn 87 = .ok (.getfield 83, 3) := dk_180 0 83 (dk_at dksX7_goesOn_3 17 rfl rfl)
theorem dX7_goesOn_90 : decode cX7_goesOn 90 = .ok (.iload_n 1, 1) := dk_27 (dk_at dksX7_goesOn_3 20 rfl rfl)
theorem dX7_goesOn_91 : decode cX7_goesOn 91 = .ok (.iaload, 1) := dk_46 (dk_at dksX7_goesOn_3 21 rfl rfl)
theorem dX7_goesOn_92 : decode cX7_goesOn 92 = .ok (.invokevirtual 410, 3) := dk_182 1 154 (dk_at dksX7_goesOn_4 0 rfl rfl)
theorem dX7_goesOn_95 : decode cX7_goesOn 95 = .ok (.ireturn, 1) := dk_172 (dk_at dksX7_goesOn_4 3 rfl rfl)
abbrev cX7_sizeOf : ByteArray := prog_17_method_131_code
def yX7_sizeOf : MethodName := ⟨RX7, "sizeOf", "(I)I"⟩
def dkwX7_sizeOf_0 : List UInt8 := [26, 154, 0, 7, 3, 167, 0, 14, 26, 16, 64, 162, 0, 7, 4, 167, 0, 4, 5, 172]
abbrev dktX7_sizeOf_0 : List UInt8 := dkwX7_sizeOf_0 ++ []
theorem dksX7_sizeOf_0 : cX7_sizeOf.data.toList.drop 0 = dktX7_sizeOf_0 := by decide +kernel
theorem dX7_sizeOf_0 : decode cX7_sizeOf 0 = .ok (.iload_n 0, 1) := dk_26 (dk_at dksX7_sizeOf_0 0 rfl rfl)
theorem dX7_sizeOf_1 : decode cX7_sizeOf 1 = .ok (.ifCond .ne 7, 3) := dk_154 0 7 (dk_at dksX7_sizeOf_0 1 rfl rfl)
theorem dX7_sizeOf_4 : decode cX7_sizeOf 4 = .ok (.iconst 0, 1) := dk_3 (dk_at dksX7_sizeOf_0 4 rfl rfl)
theorem dX7_sizeOf_5 : decode cX7_sizeOf 5 = .ok (.goto 14, 3) := dk_167 0 14 (dk_at dksX7_sizeOf_0 5 rfl rfl)
theorem dX7_sizeOf_8 : decode cX7_sizeOf 8 = .ok (.iload_n 0, 1) := dk_26 (dk_at dksX7_sizeOf_0 8 rfl rfl)
theorem dX7_sizeOf_9 : decode cX7_sizeOf 9 = .ok (.bipush 64, 2) := dk_16 64 (dk_at dksX7_sizeOf_0 9 rfl rfl)
theorem dX7_sizeOf_11 : decode cX7_sizeOf 11 = .ok (.if_icmp .ge 7, 3) := dk_162 0 7 (dk_at dksX7_sizeOf_0 11 rfl rfl)
theorem dX7_sizeOf_14 : decode cX7_sizeOf 14 = .ok (.iconst 1, 1) := dk_4 (dk_at dksX7_sizeOf_0 14 rfl rfl)
theorem dX7_sizeOf_15 : decode cX7_sizeOf 15 = .ok (.goto 4, 3) := dk_167 0 4 (dk_at dksX7_sizeOf_0 15 rfl rfl)
theorem dX7_sizeOf_18 : decode cX7_sizeOf 18 = .ok (.iconst 2, 1) := dk_5 (dk_at dksX7_sizeOf_0 18 rfl rfl)
theorem dX7_sizeOf_19 : decode cX7_sizeOf 19 = .ok (.ireturn, 1) := dk_172 (dk_at dksX7_sizeOf_0 19 rfl rfl)
abbrev cX7_cellIn : ByteArray := prog_17_method_132_code
def yX7_cellIn : MethodName := ⟨RX7, "cellIn", "(II)I"⟩
def dkwX7_cellIn_1 : List UInt8 := [112, 172]
abbrev dktX7_cellIn_1 : List UInt8 := dkwX7_cellIn_1 ++ []
def dkwX7_cellIn_0 : List UInt8 := [26, 16, 64, 162, 0, 7, 26, 167, 0, 18, 27, 154, 0, 10, 26, 16, 64, 108, 167, 0, 7, 26, 16, 64]
abbrev dktX7_cellIn_0 : List UInt8 := dkwX7_cellIn_0 ++ dktX7_cellIn_1
theorem dksX7_cellIn_0 : cX7_cellIn.data.toList.drop 0 = dktX7_cellIn_0 := by decide +kernel
theorem dksX7_cellIn_1 : cX7_cellIn.data.toList.drop 24 = dktX7_cellIn_1 := dk_seg dksX7_cellIn_0 24 rfl rfl
theorem dX7_cellIn_0 : decode cX7_cellIn 0 = .ok (.iload_n 0, 1) := dk_26 (dk_at dksX7_cellIn_0 0 rfl rfl)
theorem dX7_cellIn_1 : decode cX7_cellIn 1 = .ok (.bipush 64, 2) := dk_16 64 (dk_at dksX7_cellIn_0 1 rfl rfl)
theorem dX7_cellIn_3 : decode cX7_cellIn 3 = .ok (.if_icmp .ge 7, 3) := dk_162 0 7 (dk_at dksX7_cellIn_0 3 rfl rfl)
theorem dX7_cellIn_6 : decode cX7_cellIn 6 = .ok (.iload_n 0, 1) := dk_26 (dk_at dksX7_cellIn_0 6 rfl rfl)
theorem dX7_cellIn_7 : decode cX7_cellIn 7 = .ok (.goto 18, 3) := dk_167 0 18 (dk_at dksX7_cellIn_0 7 rfl rfl)
theorem dX7_cellIn_10 : decode cX7_cellIn 10 = .ok (.iload_n 1, 1) := dk_27 (dk_at dksX7_cellIn_0 10 rfl rfl)
theorem dX7_cellIn_11 : decode cX7_cellIn 11 = .ok (.ifCond .ne 10, 3) := dk_154 0 10 (dk_at dksX7_cellIn_0 11 rfl rfl)
theorem dX7_cellIn_14 : decode cX7_cellIn 14 = .ok (.iload_n 0, 1) := dk_26 (dk_at dksX7_cellIn_0 14 rfl rfl)
theorem dX7_cellIn_15 : decode cX7_cellIn 15 = .ok (.bipush 64, 2) := dk_16 64 (dk_at dksX7_cellIn_0 15 rfl rfl)
theorem dX7_cellIn_17 : decode cX7_cellIn 17 = .ok (.idiv, 1) := dk_108 (dk_at dksX7_cellIn_0 17 rfl rfl)
theorem dX7_cellIn_18 : decode cX7_cellIn 18 = .ok (.goto 7, 3) := dk_167 0 7 (dk_at dksX7_cellIn_0 18 rfl rfl)
theorem dX7_cellIn_21 : decode cX7_cellIn 21 = .ok (.iload_n 0, 1) := dk_26 (dk_at dksX7_cellIn_0 21 rfl rfl)
theorem dX7_cellIn_22 : decode cX7_cellIn 22 = .ok (.bipush 64, 2) := dk_16 64 (dk_at dksX7_cellIn_0 22 rfl rfl)
theorem dX7_cellIn_24 : decode cX7_cellIn 24 = .ok (.irem, 1) := dk_112 (dk_at dksX7_cellIn_1 0 rfl rfl)
theorem dX7_cellIn_25 : decode cX7_cellIn 25 = .ok (.ireturn, 1) := dk_172 (dk_at dksX7_cellIn_1 1 rfl rfl)
abbrev cX7_twin : ByteArray := prog_17_method_137_code
def yX7_twin : MethodName := ⟨RX7, "twin", "()I"⟩
def dkwX7_twin_1 : List UInt8 := [182, 0, 191, 172]
abbrev dktX7_twin_1 : List UInt8 := dkwX7_twin_1 ++ []
def dkwX7_twin_0 : List UInt8 := [42, 182, 1, 160, 60, 27, 19, 1, 106, 160, 0, 12, 42, 16, 6, 182, 0, 188, 167, 0, 8, 42, 27]
abbrev dktX7_twin_0 : List UInt8 := dkwX7_twin_0 ++ dktX7_twin_1
theorem dksX7_twin_0 : cX7_twin.data.toList.drop 0 = dktX7_twin_0 := by decide +kernel
theorem dksX7_twin_1 : cX7_twin.data.toList.drop 23 = dktX7_twin_1 := dk_seg dksX7_twin_0 23 rfl rfl
theorem dX7_twin_0 : decode cX7_twin 0 = .ok (.aload_n 0, 1) := dk_42 (dk_at dksX7_twin_0 0 rfl rfl)
theorem dX7_twin_1 : decode cX7_twin 1 = .ok (.invokevirtual 416, 3) := dk_182 1 160 (dk_at dksX7_twin_0 1 rfl rfl)
theorem dX7_twin_4 : decode cX7_twin 4 = .ok (.istore_n 1, 1) := dk_60 (dk_at dksX7_twin_0 4 rfl rfl)
theorem dX7_twin_5 : decode cX7_twin 5 = .ok (.iload_n 1, 1) := dk_27 (dk_at dksX7_twin_0 5 rfl rfl)
theorem dX7_twin_6 : decode cX7_twin 6 = .ok (.ldc_w 362, 3) := dk_19 1 106 (dk_at dksX7_twin_0 6 rfl rfl)
theorem dX7_twin_9 : decode cX7_twin 9 = .ok (.if_icmp .ne 12, 3) := dk_160 0 12 (dk_at dksX7_twin_0 9 rfl rfl)
theorem dX7_twin_12 : decode cX7_twin 12 = .ok (.aload_n 0, 1) := dk_42 (dk_at dksX7_twin_0 12 rfl rfl)
theorem dX7_twin_13 : decode cX7_twin 13 = .ok (.bipush 6, 2) := dk_16 6 (dk_at dksX7_twin_0 13 rfl rfl)
theorem dX7_twin_15 : decode cX7_twin 15 = .ok (.invokevirtual 188, 3) := dk_182 0 188 (dk_at dksX7_twin_0 15 rfl rfl)
theorem dX7_twin_18 : decode cX7_twin 18 = .ok (.goto 8, 3) := dk_167 0 8 (dk_at dksX7_twin_0 18 rfl rfl)
theorem dX7_twin_21 : decode cX7_twin 21 = .ok (.aload_n 0, 1) := dk_42 (dk_at dksX7_twin_0 21 rfl rfl)
theorem dX7_twin_22 : decode cX7_twin 22 = .ok (.iload_n 1, 1) := dk_27 (dk_at dksX7_twin_0 22 rfl rfl)
theorem dX7_twin_23 : decode cX7_twin 23 = .ok (.invokevirtual 191, 3) := dk_182 0 191 (dk_at dksX7_twin_1 0 rfl rfl)
theorem dX7_twin_26 : decode cX7_twin 26 = .ok (.ireturn, 1) := dk_172 (dk_at dksX7_twin_1 3 rfl rfl)
abbrev cX7_lacks : ByteArray := prog_17_method_138_code
def yX7_lacks : MethodName := ⟨RX7, "lacks", "()I"⟩
def dkwX7_lacks_2 : List UInt8 := [182, 0, 191, 172]
abbrev dktX7_lacks_2 : List UInt8 := dkwX7_lacks_2 ++ []
def dkwX7_lacks_1 : List UInt8 := [160, 0, 11, 4, 28, 4, 100, 120, 167, 0, 4, 3, 128, 60, 132, 2, 1, 167, 255, 219, 42, 27]
abbrev dktX7_lacks_1 : List UInt8 := dkwX7_lacks_1 ++ dktX7_lacks_2
def dkwX7_lacks_0 : List UInt8 := [3, 60, 4, 61, 28, 16, 26, 163, 0, 37, 27, 42, 28, 42, 180, 0, 7, 16, 6, 46, 182, 1, 32, 2]
abbrev dktX7_lacks_0 : List UInt8 := dkwX7_lacks_0 ++ dktX7_lacks_1
theorem dksX7_lacks_0 : cX7_lacks.data.toList.drop 0 = dktX7_lacks_0 := by decide +kernel
theorem dksX7_lacks_1 : cX7_lacks.data.toList.drop 24 = dktX7_lacks_1 := dk_seg dksX7_lacks_0 24 rfl rfl
theorem dksX7_lacks_2 : cX7_lacks.data.toList.drop 46 = dktX7_lacks_2 := dk_seg dksX7_lacks_1 22 rfl rfl
theorem dX7_lacks_0 : decode cX7_lacks 0 = .ok (.iconst 0, 1) := dk_3 (dk_at dksX7_lacks_0 0 rfl rfl)
theorem dX7_lacks_1 : decode cX7_lacks 1 = .ok (.istore_n 1, 1) := dk_60 (dk_at dksX7_lacks_0 1 rfl rfl)
theorem dX7_lacks_2 : decode cX7_lacks 2 = .ok (.iconst 1, 1) := dk_4 (dk_at dksX7_lacks_0 2 rfl rfl)
theorem dX7_lacks_3 : decode cX7_lacks 3 = .ok (.istore_n 2, 1) := dk_61 (dk_at dksX7_lacks_0 3 rfl rfl)
theorem dX7_lacks_4 : decode cX7_lacks 4 = .ok (.iload_n 2, 1) := dk_28 (dk_at dksX7_lacks_0 4 rfl rfl)
theorem dX7_lacks_5 : decode cX7_lacks 5 = .ok (.bipush 26, 2) := dk_16 26 (dk_at dksX7_lacks_0 5 rfl rfl)
theorem dX7_lacks_7 : decode cX7_lacks 7 = .ok (.if_icmp .gt 37, 3) := dk_163 0 37 (dk_at dksX7_lacks_0 7 rfl rfl)
theorem dX7_lacks_10 : decode cX7_lacks 10 = .ok (.iload_n 1, 1) := dk_27 (dk_at dksX7_lacks_0 10 rfl rfl)
theorem dX7_lacks_11 : decode cX7_lacks 11 = .ok (.aload_n 0, 1) := dk_42 (dk_at dksX7_lacks_0 11 rfl rfl)
theorem dX7_lacks_12 : decode cX7_lacks 12 = .ok (.iload_n 2, 1) := dk_28 (dk_at dksX7_lacks_0 12 rfl rfl)
theorem dX7_lacks_13 : decode cX7_lacks 13 = .ok (.aload_n 0, 1) := dk_42 (dk_at dksX7_lacks_0 13 rfl rfl)
theorem dX7_lacks_14 : decode cX7_lacks 14 = .ok (.getfield 7, 3) := dk_180 0 7 (dk_at dksX7_lacks_0 14 rfl rfl)
theorem dX7_lacks_17 : decode cX7_lacks 17 = .ok (.bipush 6, 2) := dk_16 6 (dk_at dksX7_lacks_0 17 rfl rfl)
theorem dX7_lacks_19 : decode cX7_lacks 19 = .ok (.iaload, 1) := dk_46 (dk_at dksX7_lacks_0 19 rfl rfl)
theorem dX7_lacks_20 : decode cX7_lacks 20 = .ok (.invokevirtual 288, 3) := dk_182 1 32 (dk_at dksX7_lacks_0 20 rfl rfl)
theorem dX7_lacks_23 : decode cX7_lacks 23 = .ok (.iconst (-1), 1) := dk_2 (dk_at dksX7_lacks_0 23 rfl rfl)
theorem dX7_lacks_24 : decode cX7_lacks 24 = .ok (.if_icmp .ne 11, 3) := dk_160 0 11 (dk_at dksX7_lacks_1 0 rfl rfl)
theorem dX7_lacks_27 : decode cX7_lacks 27 = .ok (.iconst 1, 1) := dk_4 (dk_at dksX7_lacks_1 3 rfl rfl)
theorem dX7_lacks_28 : decode cX7_lacks 28 = .ok (.iload_n 2, 1) := dk_28 (dk_at dksX7_lacks_1 4 rfl rfl)
theorem dX7_lacks_29 : decode cX7_lacks 29 = .ok (.iconst 1, 1) := dk_4 (dk_at dksX7_lacks_1 5 rfl rfl)
theorem dX7_lacks_30 : decode cX7_lacks 30 = .ok (.isub, 1) := dk_100 (dk_at dksX7_lacks_1 6 rfl rfl)
theorem dX7_lacks_31 : decode cX7_lacks 31 = .ok (.ishl, 1) := dk_120 (dk_at dksX7_lacks_1 7 rfl rfl)
theorem dX7_lacks_32 : decode cX7_lacks 32 = .ok (.goto 4, 3) := dk_167 0 4 (dk_at dksX7_lacks_1 8 rfl rfl)
theorem dX7_lacks_35 : decode cX7_lacks 35 = .ok (.iconst 0, 1) := dk_3 (dk_at dksX7_lacks_1 11 rfl rfl)
theorem dX7_lacks_36 : decode cX7_lacks 36 = .ok (.ior, 1) := dk_128 (dk_at dksX7_lacks_1 12 rfl rfl)
theorem dX7_lacks_37 : decode cX7_lacks 37 = .ok (.istore_n 1, 1) := dk_60 (dk_at dksX7_lacks_1 13 rfl rfl)
theorem dX7_lacks_38 : decode cX7_lacks 38 = .ok (.iinc 2 1, 3) := dk_132 2 1 (dk_at dksX7_lacks_1 14 rfl rfl)
theorem dX7_lacks_41 : decode cX7_lacks 41 = .ok (.goto (-37), 3) := dk_167 255 219 (dk_at dksX7_lacks_1 17 rfl rfl)
theorem dX7_lacks_44 : decode cX7_lacks 44 = .ok (.aload_n 0, 1) := dk_42 (dk_at dksX7_lacks_1 20 rfl rfl)
theorem dX7_lacks_45 : decode cX7_lacks 45 = .ok (.iload_n 1, 1) := dk_27 (dk_at dksX7_lacks_1 21 rfl rfl)
theorem dX7_lacks_46 : decode cX7_lacks 46 = .ok (.invokevirtual 191, 3) := dk_182 0 191 (dk_at dksX7_lacks_2 0 rfl rfl)
theorem dX7_lacks_49 : decode cX7_lacks 49 = .ok (.ireturn, 1) := dk_172 (dk_at dksX7_lacks_2 3 rfl rfl)
abbrev cX7_worn : ByteArray := prog_17_method_141_code
def yX7_worn : MethodName := ⟨RX7, "worn", "(II)I"⟩
def dkwX7_worn_4 : List UInt8 := [29, 182, 0, 191, 172]
abbrev dktX7_worn_4 : List UInt8 := dkwX7_worn_4 ++ []
def dkwX7_worn_3 : List UInt8 := [162, 0, 23, 42, 180, 0, 92, 21, 4, 42, 180, 0, 89, 21, 4, 46, 79, 132, 4, 1, 167, 255, 230, 42]
abbrev dktX7_worn_3 : List UInt8 := dkwX7_worn_3 ++ dktX7_worn_4
def dkwX7_worn_2 : List UInt8 := [182, 1, 174, 62, 42, 42, 180, 0, 7, 16, 8, 46, 181, 0, 86, 3, 54, 4, 21, 4, 42, 180, 0, 86]
abbrev dktX7_worn_2 : List UInt8 := dkwX7_worn_2 ++ dktX7_worn_3
def dkwX7_worn_1 : List UInt8 := [42, 4, 182, 0, 188, 172, 42, 182, 1, 50, 154, 0, 10, 42, 16, 6, 182, 0, 188, 172, 42, 27, 28]
abbrev dktX7_worn_1 : List UInt8 := dkwX7_worn_1 ++ dktX7_worn_2
def dkwX7_worn_0 : List UInt8 := [27, 133, 9, 20, 1, 170, 184, 1, 85, 153, 0, 15, 28, 133, 9, 20, 1, 172, 184, 1, 85, 154, 0, 9]
abbrev dktX7_worn_0 : List UInt8 := dkwX7_worn_0 ++ dktX7_worn_1
theorem dksX7_worn_0 : cX7_worn.data.toList.drop 0 = dktX7_worn_0 := by decide +kernel
theorem dksX7_worn_1 : cX7_worn.data.toList.drop 24 = dktX7_worn_1 := dk_seg dksX7_worn_0 24 rfl rfl
theorem dksX7_worn_2 : cX7_worn.data.toList.drop 47 = dktX7_worn_2 := dk_seg dksX7_worn_1 23 rfl rfl
theorem dksX7_worn_3 : cX7_worn.data.toList.drop 71 = dktX7_worn_3 := dk_seg dksX7_worn_2 24 rfl rfl
theorem dksX7_worn_4 : cX7_worn.data.toList.drop 95 = dktX7_worn_4 := dk_seg dksX7_worn_3 24 rfl rfl
theorem dX7_worn_0 : decode cX7_worn 0 = .ok (.iload_n 1, 1) := dk_27 (dk_at dksX7_worn_0 0 rfl rfl)
theorem dX7_worn_1 : decode cX7_worn 1 = .ok (.i2l, 1) := dk_133 (dk_at dksX7_worn_0 1 rfl rfl)
theorem dX7_worn_2 : decode cX7_worn 2 = .ok (.lconst 0, 1) := dk_9 (dk_at dksX7_worn_0 2 rfl rfl)
theorem dX7_worn_3 : decode cX7_worn 3 = .ok (.ldc2_w 426, 3) := dk_20 1 170 (dk_at dksX7_worn_0 3 rfl rfl)
theorem dX7_worn_6 : decode cX7_worn 6 = .ok (.invokestatic 341, 3) := dk_184 1 85 (dk_at dksX7_worn_0 6 rfl rfl)
theorem dX7_worn_9 : decode cX7_worn 9 = .ok (.ifCond .eq 15, 3) := dk_153 0 15 (dk_at dksX7_worn_0 9 rfl rfl)
theorem dX7_worn_12 : decode cX7_worn 12 = .ok (.iload_n 2, 1) := dk_28 (dk_at dksX7_worn_0 12 rfl rfl)
theorem dX7_worn_13 : decode cX7_worn 13 = .ok (.i2l, 1) := dk_133 (dk_at dksX7_worn_0 13 rfl rfl)
theorem dX7_worn_14 : decode cX7_worn 14 = .ok (.lconst 0, 1) := dk_9 (dk_at dksX7_worn_0 14 rfl rfl)
theorem dX7_worn_15 : decode cX7_worn 15 = .ok (.ldc2_w 428, 3) := dk_20 1 172 (dk_at dksX7_worn_0 15 rfl rfl)
theorem dX7_worn_18 : decode cX7_worn 18 = .ok (.invokestatic 341, 3) := dk_184 1 85 (dk_at dksX7_worn_0 18 rfl rfl)
theorem dX7_worn_21 : decode cX7_worn 21 = .ok (.ifCond .ne 9, 3) := dk_154 0 9 (dk_at dksX7_worn_0 21 rfl rfl)
theorem dX7_worn_24 : decode cX7_worn 24 = .ok (.aload_n 0, 1) := dk_42 (dk_at dksX7_worn_1 0 rfl rfl)
theorem dX7_worn_25 : decode cX7_worn 25 = .ok (.iconst 1, 1) := dk_4 (dk_at dksX7_worn_1 1 rfl rfl)
theorem dX7_worn_26 : decode cX7_worn 26 = .ok (.invokevirtual 188, 3) := dk_182 0 188 (dk_at dksX7_worn_1 2 rfl rfl)
theorem dX7_worn_29 : decode cX7_worn 29 = .ok (.ireturn, 1) := dk_172 (dk_at dksX7_worn_1 5 rfl rfl)
theorem dX7_worn_30 : decode cX7_worn 30 = .ok (.aload_n 0, 1) := dk_42 (dk_at dksX7_worn_1 6 rfl rfl)
theorem dX7_worn_31 : decode cX7_worn 31 = .ok (.invokevirtual 306, 3) := dk_182 1 50 (dk_at dksX7_worn_1 7 rfl rfl)
theorem dX7_worn_34 : decode cX7_worn 34 = .ok (.ifCond .ne 10, 3) := dk_154 0 10 (dk_at dksX7_worn_1 10 rfl rfl)
theorem dX7_worn_37 : decode cX7_worn 37 = .ok (.aload_n 0, 1) := dk_42 (dk_at dksX7_worn_1 13 rfl rfl)
theorem dX7_worn_38 : decode cX7_worn 38 = .ok (.bipush 6, 2) := dk_16 6 (dk_at dksX7_worn_1 14 rfl rfl)
theorem dX7_worn_40 : decode cX7_worn 40 = .ok (.invokevirtual 188, 3) := dk_182 0 188 (dk_at dksX7_worn_1 16 rfl rfl)
theorem dX7_worn_43 : decode cX7_worn 43 = .ok (.ireturn, 1) := dk_172 (dk_at dksX7_worn_1 19 rfl rfl)
theorem dX7_worn_44 : decode cX7_worn 44 = .ok (.aload_n 0, 1) := dk_42 (dk_at dksX7_worn_1 20 rfl rfl)
theorem dX7_worn_45 : decode cX7_worn 45 = .ok (.iload_n 1, 1) := dk_27 (dk_at dksX7_worn_1 21 rfl rfl)
theorem dX7_worn_46 : decode cX7_worn 46 = .ok (.iload_n 2, 1) := dk_28 (dk_at dksX7_worn_1 22 rfl rfl)
theorem dX7_worn_47 : decode cX7_worn 47 = .ok (.invokevirtual 430, 3) := dk_182 1 174 (dk_at dksX7_worn_2 0 rfl rfl)
theorem dX7_worn_50 : decode cX7_worn 50 = .ok (.istore_n 3, 1) := dk_62 (dk_at dksX7_worn_2 3 rfl rfl)
theorem dX7_worn_51 : decode cX7_worn 51 = .ok (.aload_n 0, 1) := dk_42 (dk_at dksX7_worn_2 4 rfl rfl)
theorem dX7_worn_52 : decode cX7_worn 52 = .ok (.aload_n 0, 1) := dk_42 (dk_at dksX7_worn_2 5 rfl rfl)
theorem dX7_worn_53 : decode cX7_worn 53 = .ok (.getfield 7, 3) := dk_180 0 7 (dk_at dksX7_worn_2 6 rfl rfl)
theorem dX7_worn_56 : decode cX7_worn 56 = .ok (.bipush 8, 2) := dk_16 8 (dk_at dksX7_worn_2 9 rfl rfl)
theorem dX7_worn_58 : decode cX7_worn 58 = .ok (.iaload, 1) := dk_46 (dk_at dksX7_worn_2 11 rfl rfl)
theorem dX7_worn_59 : decode cX7_worn 59 = .ok (.putfield 86, 3) := dk_181 0 86 (dk_at dksX7_worn_2 12 rfl rfl)
theorem dX7_worn_62 : decode cX7_worn 62 = .ok (.iconst 0, 1) := dk_3 (dk_at dksX7_worn_2 15 rfl rfl)
theorem dX7_worn_63 : decode cX7_worn 63 = .ok (.istore 4, 2) := dk_54 4 (dk_at dksX7_worn_2 16 rfl rfl)
theorem dX7_worn_65 : decode cX7_worn 65 = .ok (.iload 4, 2) := dk_21 4 (dk_at dksX7_worn_2 18 rfl rfl)
theorem dX7_worn_67 : decode cX7_worn 67 = .ok (.aload_n 0, 1) := dk_42 (dk_at dksX7_worn_2 20 rfl rfl)
theorem dX7_worn_68 : decode cX7_worn 68 = .ok (.getfield 86, 3) := dk_180 0 86 (dk_at dksX7_worn_2 21 rfl rfl)
theorem dX7_worn_71 : decode cX7_worn 71 = .ok (.if_icmp .ge 23, 3) := dk_162 0 23 (dk_at dksX7_worn_3 0 rfl rfl)
theorem dX7_worn_74 : decode cX7_worn 74 = .ok (.aload_n 0, 1) := dk_42 (dk_at dksX7_worn_3 3 rfl rfl)
theorem dX7_worn_75 : decode cX7_worn 75 = .ok (.getfield 92, 3) := dk_180 0 92 (dk_at dksX7_worn_3 4 rfl rfl)
theorem dX7_worn_78 : decode cX7_worn 78 = .ok (.iload 4, 2) := dk_21 4 (dk_at dksX7_worn_3 7 rfl rfl)
theorem dX7_worn_80 : decode cX7_worn 80 = .ok (.aload_n 0, 1) := dk_42 (dk_at dksX7_worn_3 9 rfl rfl)
theorem dX7_worn_81 : decode cX7_worn 81 = .ok (.getfield 89, 3) := dk_180 0 89 (dk_at dksX7_worn_3 10 rfl rfl)
theorem dX7_worn_84 : decode cX7_worn 84 = .ok (.iload 4, 2) := dk_21 4 (dk_at dksX7_worn_3 13 rfl rfl)
theorem dX7_worn_86 : decode cX7_worn 86 = .ok (.iaload, 1) := dk_46 (dk_at dksX7_worn_3 15 rfl rfl)
theorem dX7_worn_87 : decode cX7_worn 87 = .ok (.iastore, 1) := dk_79 (dk_at dksX7_worn_3 16 rfl rfl)
theorem dX7_worn_88 : decode cX7_worn 88 = .ok (.iinc 4 1, 3) := dk_132 4 1 (dk_at dksX7_worn_3 17 rfl rfl)
theorem dX7_worn_91 : decode cX7_worn 91 = .ok (.goto (-26), 3) := dk_167 255 230 (dk_at dksX7_worn_3 20 rfl rfl)
theorem dX7_worn_94 : decode cX7_worn 94 = .ok (.aload_n 0, 1) := dk_42 (dk_at dksX7_worn_3 23 rfl rfl)
theorem dX7_worn_95 : decode cX7_worn 95 = .ok (.iload_n 3, 1) := dk_29 (dk_at dksX7_worn_4 0 rfl rfl)
theorem dX7_worn_96 : decode cX7_worn 96 = .ok (.invokevirtual 191, 3) := dk_182 0 191 (dk_at dksX7_worn_4 1 rfl rfl)
theorem dX7_worn_99 : decode cX7_worn 99 = .ok (.ireturn, 1) := dk_172 (dk_at dksX7_worn_4 4 rfl rfl)
abbrev cX7_wears : ByteArray := prog_17_method_140_code
def yX7_wears : MethodName := ⟨RX7, "wears", "(II)I"⟩
def dkwX7_wears_4 : List UInt8 := [126, 79, 132, 3, 1, 132, 5, 1, 167, 255, 197, 132, 4, 1, 167, 255, 158, 29, 172]
abbrev dktX7_wears_4 : List UInt8 := dkwX7_wears_4 ++ []
def dkwX7_wears_3 : List UInt8 := [182, 1, 167, 28, 161, 0, 6, 167, 0, 22, 42, 180, 0, 89, 21, 4, 92, 46, 4, 21, 5, 120, 2, 130]
abbrev dktX7_wears_3 : List UInt8 := dkwX7_wears_3 ++ dktX7_wears_4
def dkwX7_wears_2 : List UInt8 := [162, 0, 58, 42, 180, 0, 7, 17, 2, 88, 21, 4, 96, 46, 21, 5, 122, 4, 126, 153, 0, 33, 42]
abbrev dktX7_wears_2 : List UInt8 := dkwX7_wears_2 ++ dktX7_wears_3
def dkwX7_wears_1 : List UInt8 := [180, 0, 89, 21, 4, 42, 180, 0, 7, 17, 2, 88, 21, 4, 96, 46, 79, 3, 54, 5, 21, 5, 16, 6]
abbrev dktX7_wears_1 : List UInt8 := dkwX7_wears_1 ++ dktX7_wears_2
def dkwX7_wears_0 : List UInt8 := [42, 27, 181, 1, 163, 3, 62, 3, 54, 4, 21, 4, 42, 180, 0, 7, 16, 8, 46, 162, 0, 92, 42]
abbrev dktX7_wears_0 : List UInt8 := dkwX7_wears_0 ++ dktX7_wears_1
theorem dksX7_wears_0 : cX7_wears.data.toList.drop 0 = dktX7_wears_0 := by decide +kernel
theorem dksX7_wears_1 : cX7_wears.data.toList.drop 23 = dktX7_wears_1 := dk_seg dksX7_wears_0 23 rfl rfl
theorem dksX7_wears_2 : cX7_wears.data.toList.drop 47 = dktX7_wears_2 := dk_seg dksX7_wears_1 24 rfl rfl
theorem dksX7_wears_3 : cX7_wears.data.toList.drop 70 = dktX7_wears_3 := dk_seg dksX7_wears_2 23 rfl rfl
theorem dksX7_wears_4 : cX7_wears.data.toList.drop 94 = dktX7_wears_4 := dk_seg dksX7_wears_3 24 rfl rfl
theorem dX7_wears_0 : decode cX7_wears 0 = .ok (.aload_n 0, 1) := dk_42 (dk_at dksX7_wears_0 0 rfl rfl)
theorem dX7_wears_1 : decode cX7_wears 1 = .ok (.iload_n 1, 1) := dk_27 (dk_at dksX7_wears_0 1 rfl rfl)
theorem dX7_wears_2 : decode cX7_wears 2 = .ok (.putfield 419, 3) := dk_181 1 163 (dk_at dksX7_wears_0 2 rfl rfl)
theorem dX7_wears_5 : decode cX7_wears 5 = .ok (.iconst 0, 1) := dk_3 (dk_at dksX7_wears_0 5 rfl rfl)
theorem dX7_wears_6 : decode cX7_wears 6 = .ok (.istore_n 3, 1) := dk_62 (dk_at dksX7_wears_0 6 rfl rfl)
theorem dX7_wears_7 : decode cX7_wears 7 = .ok (.iconst 0, 1) := dk_3 (dk_at dksX7_wears_0 7 rfl rfl)
theorem dX7_wears_8 : decode cX7_wears 8 = .ok (.istore 4, 2) := dk_54 4 (dk_at dksX7_wears_0 8 rfl rfl)
theorem dX7_wears_10 : decode cX7_wears 10 = .ok (.iload 4, 2) := dk_21 4 (dk_at dksX7_wears_0 10 rfl rfl)
theorem dX7_wears_12 : decode cX7_wears 12 = .ok (.aload_n 0, 1) := dk_42 (dk_at dksX7_wears_0 12 rfl rfl)
theorem dX7_wears_13 : decode cX7_wears 13 = .ok (.getfield 7, 3) := dk_180 0 7 (dk_at dksX7_wears_0 13 rfl rfl)
theorem dX7_wears_16 : decode cX7_wears 16 = .ok (.bipush 8, 2) := dk_16 8 (dk_at dksX7_wears_0 16 rfl rfl)
theorem dX7_wears_18 : decode cX7_wears 18 = .ok (.iaload, 1) := dk_46 (dk_at dksX7_wears_0 18 rfl rfl)
theorem dX7_wears_19 : decode cX7_wears 19 = .ok (.if_icmp .ge 92, 3) := dk_162 0 92 (dk_at dksX7_wears_0 19 rfl rfl)
theorem dX7_wears_22 : decode cX7_wears 22 = .ok (.aload_n 0, 1) := dk_42 (dk_at dksX7_wears_0 22 rfl rfl)
theorem dX7_wears_23 : decode cX7_wears 23 = .ok (.getfield 89, 3) := dk_180 0 89 (dk_at dksX7_wears_1 0 rfl rfl)
theorem dX7_wears_26 : decode cX7_wears 26 = .ok (.iload 4, 2) := dk_21 4 (dk_at dksX7_wears_1 3 rfl rfl)
theorem dX7_wears_28 : decode cX7_wears 28 = .ok (.aload_n 0, 1) := dk_42 (dk_at dksX7_wears_1 5 rfl rfl)
theorem dX7_wears_29 : decode cX7_wears 29 = .ok (.getfield 7, 3) := dk_180 0 7 (dk_at dksX7_wears_1 6 rfl rfl)
theorem dX7_wears_32 : decode cX7_wears 32 = .ok (.sipush 600, 3) := dk_17 2 88 (dk_at dksX7_wears_1 9 rfl rfl)
theorem dX7_wears_35 : decode cX7_wears 35 = .ok (.iload 4, 2) := dk_21 4 (dk_at dksX7_wears_1 12 rfl rfl)
theorem dX7_wears_37 : decode cX7_wears 37 = .ok (.iadd, 1) := dk_96 (dk_at dksX7_wears_1 14 rfl rfl)
theorem dX7_wears_38 : decode cX7_wears 38 = .ok (.iaload, 1) := dk_46 (dk_at dksX7_wears_1 15 rfl rfl)
theorem dX7_wears_39 : decode cX7_wears 39 = .ok (.iastore, 1) := dk_79 (dk_at dksX7_wears_1 16 rfl rfl)
theorem dX7_wears_40 : decode cX7_wears 40 = .ok (.iconst 0, 1) := dk_3 (dk_at dksX7_wears_1 17 rfl rfl)
theorem dX7_wears_41 : decode cX7_wears 41 = .ok (.istore 5, 2) := dk_54 5 (dk_at dksX7_wears_1 18 rfl rfl)
theorem dX7_wears_43 : decode cX7_wears 43 = .ok (.iload 5, 2) := dk_21 5 (dk_at dksX7_wears_1 20 rfl rfl)
theorem dX7_wears_45 : decode cX7_wears 45 = .ok (.bipush 6, 2) := dk_16 6 (dk_at dksX7_wears_1 22 rfl rfl)
theorem dX7_wears_47 : decode cX7_wears 47 = .ok (.if_icmp .ge 58, 3) := dk_162 0 58 (dk_at dksX7_wears_2 0 rfl rfl)
theorem dX7_wears_50 : decode cX7_wears 50 = .ok (.aload_n 0, 1) := dk_42 (dk_at dksX7_wears_2 3 rfl rfl)
theorem dX7_wears_51 : decode cX7_wears 51 = .ok (.getfield 7, 3) := dk_180 0 7 (dk_at dksX7_wears_2 4 rfl rfl)
theorem dX7_wears_54 : decode cX7_wears 54 = .ok (.sipush 600, 3) := dk_17 2 88 (dk_at dksX7_wears_2 7 rfl rfl)
theorem dX7_wears_57 : decode cX7_wears 57 = .ok (.iload 4, 2) := dk_21 4 (dk_at dksX7_wears_2 10 rfl rfl)
theorem dX7_wears_59 : decode cX7_wears 59 = .ok (.iadd, 1) := dk_96 (dk_at dksX7_wears_2 12 rfl rfl)
theorem dX7_wears_60 : decode cX7_wears 60 = .ok (.iaload, 1) := dk_46 (dk_at dksX7_wears_2 13 rfl rfl)
theorem dX7_wears_61 : decode cX7_wears 61 = .ok (.iload 5, 2) := dk_21 5 (dk_at dksX7_wears_2 14 rfl rfl)
theorem dX7_wears_63 : decode cX7_wears 63 = .ok (.ishr, 1) := dk_122 (dk_at dksX7_wears_2 16 rfl rfl)
theorem dX7_wears_64 : decode cX7_wears 64 = .ok (.iconst 1, 1) := dk_4 (dk_at dksX7_wears_2 17 rfl rfl)
theorem dX7_wears_65 : decode cX7_wears 65 = .ok (.iand, 1) := dk_126 (dk_at dksX7_wears_2 18 rfl rfl)
theorem dX7_wears_66 : decode cX7_wears 66 = .ok (.ifCond .eq 33, 3) := dk_153 0 33 (dk_at dksX7_wears_2 19 rfl rfl)
theorem dX7_wears_69 : decode cX7_wears 69 = .ok (.aload_n 0, 1) := dk_42 (dk_at dksX7_wears_2 22 rfl rfl)
theorem dX7_wears_70 : decode cX7_wears 70 = .ok (.invokevirtual 423, 3) := dk_182 1 167 (dk_at dksX7_wears_3 0 rfl rfl)
theorem dX7_wears_73 : decode cX7_wears 73 = .ok (.iload_n 2, 1) := dk_28 (dk_at dksX7_wears_3 3 rfl rfl)
theorem dX7_wears_74 : decode cX7_wears 74 = .ok (.if_icmp .lt 6, 3) := dk_161 0 6 (dk_at dksX7_wears_3 4 rfl rfl)
theorem dX7_wears_77 : decode cX7_wears 77 = .ok (.goto 22, 3) := dk_167 0 22 (dk_at dksX7_wears_3 7 rfl rfl)
theorem dX7_wears_80 : decode cX7_wears 80 = .ok (.aload_n 0, 1) := dk_42 (dk_at dksX7_wears_3 10 rfl rfl)
theorem dX7_wears_81 : decode cX7_wears 81 = .ok (.getfield 89, 3) := dk_180 0 89 (dk_at dksX7_wears_3 11 rfl rfl)
theorem dX7_wears_84 : decode cX7_wears 84 = .ok (.iload 4, 2) := dk_21 4 (dk_at dksX7_wears_3 14 rfl rfl)
theorem dX7_wears_86 : decode cX7_wears 86 = .ok (.dup2, 1) := dk_92 (dk_at dksX7_wears_3 16 rfl rfl)
theorem dX7_wears_87 : decode cX7_wears 87 = .ok (.iaload, 1) := dk_46 (dk_at dksX7_wears_3 17 rfl rfl)
theorem dX7_wears_88 : decode cX7_wears 88 = .ok (.iconst 1, 1) := dk_4 (dk_at dksX7_wears_3 18 rfl rfl)
theorem dX7_wears_89 : decode cX7_wears 89 = .ok (.iload 5, 2) := dk_21 5 (dk_at dksX7_wears_3 19 rfl rfl)
theorem dX7_wears_91 : decode cX7_wears 91 = .ok (.ishl, 1) := dk_120 (dk_at dksX7_wears_3 21 rfl rfl)
theorem dX7_wears_92 : decode cX7_wears 92 = .ok (.iconst (-1), 1) := dk_2 (dk_at dksX7_wears_3 22 rfl rfl)
theorem dX7_wears_93 : decode cX7_wears 93 = .ok (.ixor, 1) := dk_130 (dk_at dksX7_wears_3 23 rfl rfl)
theorem dX7_wears_94 : decode cX7_wears 94 = .ok (.iand, 1) := dk_126 (dk_at dksX7_wears_4 0 rfl rfl)
theorem dX7_wears_95 : decode cX7_wears 95 = .ok (.iastore, 1) := dk_79 (dk_at dksX7_wears_4 1 rfl rfl)
theorem dX7_wears_96 : decode cX7_wears 96 = .ok (.iinc 3 1, 3) := dk_132 3 1 (dk_at dksX7_wears_4 2 rfl rfl)
theorem dX7_wears_99 : decode cX7_wears 99 = .ok (.iinc 5 1, 3) := dk_132 5 1 (dk_at dksX7_wears_4 5 rfl rfl)
theorem dX7_wears_102 : decode cX7_wears 102 = .ok (.goto (-59), 3) := dk_167 255 197 (dk_at dksX7_wears_4 8 rfl rfl)
theorem dX7_wears_105 : decode cX7_wears 105 = .ok (.iinc 4 1, 3) := dk_132 4 1 (dk_at dksX7_wears_4 11 rfl rfl)
theorem dX7_wears_108 : decode cX7_wears 108 = .ok (.goto (-98), 3) := dk_167 255 158 (dk_at dksX7_wears_4 14 rfl rfl)
theorem dX7_wears_111 : decode cX7_wears 111 = .ok (.iload_n 3, 1) := dk_29 (dk_at dksX7_wears_4 17 rfl rfl)
theorem dX7_wears_112 : decode cX7_wears 112 = .ok (.ireturn, 1) := dk_172 (dk_at dksX7_wears_4 18 rfl rfl)
abbrev cX7_draw : ByteArray := prog_17_method_139_code
def yX7_draw : MethodName := ⟨RX7, "draw", "()I"⟩
def dkwX7_draw_1 : List UInt8 := [16, 8, 108, 16, 16, 112, 172]
abbrev dktX7_draw_1 : List UInt8 := dkwX7_draw_1 ++ []
def dkwX7_draw_0 : List UInt8 := [42, 42, 180, 1, 163, 17, 10, 241, 104, 17, 39, 179, 96, 19, 1, 166, 112, 181, 1, 163, 42, 180, 1, 163]
abbrev dktX7_draw_0 : List UInt8 := dkwX7_draw_0 ++ dktX7_draw_1
theorem dksX7_draw_0 : cX7_draw.data.toList.drop 0 = dktX7_draw_0 := by decide +kernel
theorem dksX7_draw_1 : cX7_draw.data.toList.drop 24 = dktX7_draw_1 := dk_seg dksX7_draw_0 24 rfl rfl
theorem dX7_draw_0 : decode cX7_draw 0 = .ok (.aload_n 0, 1) := dk_42 (dk_at dksX7_draw_0 0 rfl rfl)
theorem dX7_draw_1 : decode cX7_draw 1 = .ok (.aload_n 0, 1) := dk_42 (dk_at dksX7_draw_0 1 rfl rfl)
theorem dX7_draw_2 : decode cX7_draw 2 = .ok (.getfield 419, 3) := dk_180 1 163 (dk_at dksX7_draw_0 2 rfl rfl)
theorem dX7_draw_5 : decode cX7_draw 5 = .ok (.sipush 2801, 3) := dk_17 10 241 (dk_at dksX7_draw_0 5 rfl rfl)
theorem dX7_draw_8 : decode cX7_draw 8 = .ok (.imul, 1) := dk_104 (dk_at dksX7_draw_0 8 rfl rfl)
theorem dX7_draw_9 : decode cX7_draw 9 = .ok (.sipush 10163, 3) := dk_17 39 179 (dk_at dksX7_draw_0 9 rfl rfl)
theorem dX7_draw_12 : decode cX7_draw 12 = .ok (.iadd, 1) := dk_96 (dk_at dksX7_draw_0 12 rfl rfl)
theorem dX7_draw_13 : decode cX7_draw 13 = .ok (.ldc_w 422, 3) := dk_19 1 166 (dk_at dksX7_draw_0 13 rfl rfl)
theorem dX7_draw_16 : decode cX7_draw 16 = .ok (.irem, 1) := dk_112 (dk_at dksX7_draw_0 16 rfl rfl)
theorem dX7_draw_17 : decode cX7_draw 17 = .ok (.putfield 419, 3) := dk_181 1 163 (dk_at dksX7_draw_0 17 rfl rfl)
theorem dX7_draw_20 : decode cX7_draw 20 = .ok (.aload_n 0, 1) := dk_42 (dk_at dksX7_draw_0 20 rfl rfl)
theorem dX7_draw_21 : decode cX7_draw 21 = .ok (.getfield 419, 3) := dk_180 1 163 (dk_at dksX7_draw_0 21 rfl rfl)
theorem dX7_draw_24 : decode cX7_draw 24 = .ok (.bipush 8, 2) := dk_16 8 (dk_at dksX7_draw_1 0 rfl rfl)
theorem dX7_draw_26 : decode cX7_draw 26 = .ok (.idiv, 1) := dk_108 (dk_at dksX7_draw_1 2 rfl rfl)
theorem dX7_draw_27 : decode cX7_draw 27 = .ok (.bipush 16, 2) := dk_16 16 (dk_at dksX7_draw_1 3 rfl rfl)
theorem dX7_draw_29 : decode cX7_draw 29 = .ok (.irem, 1) := dk_112 (dk_at dksX7_draw_1 5 rfl rfl)
theorem dX7_draw_30 : decode cX7_draw 30 = .ok (.ireturn, 1) := dk_172 (dk_at dksX7_draw_1 6 rfl rfl)
abbrev cX7_wornAt : ByteArray := prog_17_method_142_code
def yX7_wornAt : MethodName := ⟨RX7, "wornAt", "(I)I"⟩
def dkwX7_wornAt_1 : List UInt8 := [180, 0, 92, 27, 46, 182, 0, 191, 172]
abbrev dktX7_wornAt_1 : List UInt8 := dkwX7_wornAt_1 ++ []
def dkwX7_wornAt_0 : List UInt8 := [27, 155, 0, 11, 27, 42, 180, 0, 86, 161, 0, 12, 42, 16, 6, 182, 0, 188, 167, 0, 13, 42, 42]
abbrev dktX7_wornAt_0 : List UInt8 := dkwX7_wornAt_0 ++ dktX7_wornAt_1
theorem dksX7_wornAt_0 : cX7_wornAt.data.toList.drop 0 = dktX7_wornAt_0 := by decide +kernel
theorem dksX7_wornAt_1 : cX7_wornAt.data.toList.drop 23 = dktX7_wornAt_1 := dk_seg dksX7_wornAt_0 23 rfl rfl
theorem dX7_wornAt_0 : decode cX7_wornAt 0 = .ok (.iload_n 1, 1) := dk_27 (dk_at dksX7_wornAt_0 0 rfl rfl)
theorem dX7_wornAt_1 : decode cX7_wornAt 1 = .ok (.ifCond .lt 11, 3) := dk_155 0 11 (dk_at dksX7_wornAt_0 1 rfl rfl)
theorem dX7_wornAt_4 : decode cX7_wornAt 4 = .ok (.iload_n 1, 1) := dk_27 (dk_at dksX7_wornAt_0 4 rfl rfl)
theorem dX7_wornAt_5 : decode cX7_wornAt 5 = .ok (.aload_n 0, 1) := dk_42 (dk_at dksX7_wornAt_0 5 rfl rfl)
theorem dX7_wornAt_6 : decode cX7_wornAt 6 = .ok (.getfield 86, 3) := dk_180 0 86 (dk_at dksX7_wornAt_0 6 rfl rfl)
theorem dX7_wornAt_9 : decode cX7_wornAt 9 = .ok (.if_icmp .lt 12, 3) := dk_161 0 12 (dk_at dksX7_wornAt_0 9 rfl rfl)
theorem dX7_wornAt_12 : decode cX7_wornAt 12 = .ok (.aload_n 0, 1) := dk_42 (dk_at dksX7_wornAt_0 12 rfl rfl)
theorem dX7_wornAt_13 : decode cX7_wornAt 13 = .ok (.bipush 6, 2) := dk_16 6 (dk_at dksX7_wornAt_0 13 rfl rfl)
theorem dX7_wornAt_15 : decode cX7_wornAt 15 = .ok (.invokevirtual 188, 3) := dk_182 0 188 (dk_at dksX7_wornAt_0 15 rfl rfl)
theorem dX7_wornAt_18 : decode cX7_wornAt 18 = .ok (.goto 13, 3) := dk_167 0 13 (dk_at dksX7_wornAt_0 18 rfl rfl)
theorem dX7_wornAt_21 : decode cX7_wornAt 21 = .ok (.aload_n 0, 1) := dk_42 (dk_at dksX7_wornAt_0 21 rfl rfl)
theorem dX7_wornAt_22 : decode cX7_wornAt 22 = .ok (.aload_n 0, 1) := dk_42 (dk_at dksX7_wornAt_0 22 rfl rfl)
theorem dX7_wornAt_23 : decode cX7_wornAt 23 = .ok (.getfield 92, 3) := dk_180 0 92 (dk_at dksX7_wornAt_1 0 rfl rfl)
theorem dX7_wornAt_26 : decode cX7_wornAt 26 = .ok (.iload_n 1, 1) := dk_27 (dk_at dksX7_wornAt_1 3 rfl rfl)
theorem dX7_wornAt_27 : decode cX7_wornAt 27 = .ok (.iaload, 1) := dk_46 (dk_at dksX7_wornAt_1 4 rfl rfl)
theorem dX7_wornAt_28 : decode cX7_wornAt 28 = .ok (.invokevirtual 191, 3) := dk_182 0 191 (dk_at dksX7_wornAt_1 5 rfl rfl)
theorem dX7_wornAt_31 : decode cX7_wornAt 31 = .ok (.ireturn, 1) := dk_172 (dk_at dksX7_wornAt_1 8 rfl rfl)
abbrev cX7_odds : ByteArray := prog_17_method_143_code
def yX7_odds : MethodName := ⟨RX7, "odds", "(III)Z"⟩
def dkwX7_odds_7 : List UInt8 := [167, 0, 4, 3, 96, 54, 4, 132, 5, 1, 167, 255, 152, 42, 21, 4, 133, 28, 133, 182, 1, 179, 172]
abbrev dktX7_odds_7 : List UInt8 := dkwX7_odds_7 ++ []
def dkwX7_odds_6 : List UInt8 := [153, 0, 7, 4, 167, 0, 4, 3, 54, 7, 132, 8, 1, 167, 255, 205, 21, 4, 21, 7, 153, 0, 7, 4]
abbrev dktX7_odds_6 : List UInt8 := dkwX7_odds_6 ++ dktX7_odds_7
def dkwX7_odds_5 : List UInt8 := [153, 0, 31, 42, 180, 0, 7, 17, 2, 88, 21, 8, 96, 46, 153, 0, 13, 42, 180, 0, 89, 21, 8, 46]
abbrev dktX7_odds_5 : List UInt8 := dkwX7_odds_5 ++ dktX7_odds_6
def dkwX7_odds_4 : List UInt8 := [4, 167, 0, 4, 3, 54, 7, 3, 54, 8, 21, 8, 42, 180, 0, 7, 16, 8, 46, 162, 0, 45, 21, 7]
abbrev dktX7_odds_4 : List UInt8 := dkwX7_odds_4 ++ dktX7_odds_5
def dkwX7_odds_3 : List UInt8 := [54, 5, 21, 5, 28, 162, 0, 104, 42, 27, 21, 5, 96, 29, 182, 1, 174, 54, 6, 21, 6, 155, 0, 7]
abbrev dktX7_odds_3 : List UInt8 := dkwX7_odds_3 ++ dktX7_odds_4
def dkwX7_odds_2 : List UInt8 := [4, 182, 0, 105, 172, 42, 182, 1, 50, 154, 0, 10, 42, 16, 6, 182, 0, 105, 172, 3, 54, 4, 3]
abbrev dktX7_odds_2 : List UInt8 := dkwX7_odds_2 ++ dktX7_odds_3
def dkwX7_odds_1 : List UInt8 := [27, 28, 96, 4, 100, 17, 39, 15, 163, 0, 15, 29, 133, 9, 20, 1, 172, 184, 1, 85, 154, 0, 9, 42]
abbrev dktX7_odds_1 : List UInt8 := dkwX7_odds_1 ++ dktX7_odds_2
def dkwX7_odds_0 : List UInt8 := [27, 133, 9, 20, 1, 170, 184, 1, 85, 153, 0, 38, 28, 133, 10, 20, 1, 177, 184, 1, 85, 153, 0, 26]
abbrev dktX7_odds_0 : List UInt8 := dkwX7_odds_0 ++ dktX7_odds_1
theorem dksX7_odds_0 : cX7_odds.data.toList.drop 0 = dktX7_odds_0 := by decide +kernel
theorem dksX7_odds_1 : cX7_odds.data.toList.drop 24 = dktX7_odds_1 := dk_seg dksX7_odds_0 24 rfl rfl
theorem dksX7_odds_2 : cX7_odds.data.toList.drop 48 = dktX7_odds_2 := dk_seg dksX7_odds_1 24 rfl rfl
theorem dksX7_odds_3 : cX7_odds.data.toList.drop 71 = dktX7_odds_3 := dk_seg dksX7_odds_2 23 rfl rfl
theorem dksX7_odds_4 : cX7_odds.data.toList.drop 95 = dktX7_odds_4 := dk_seg dksX7_odds_3 24 rfl rfl
theorem dksX7_odds_5 : cX7_odds.data.toList.drop 119 = dktX7_odds_5 := dk_seg dksX7_odds_4 24 rfl rfl
theorem dksX7_odds_6 : cX7_odds.data.toList.drop 143 = dktX7_odds_6 := dk_seg dksX7_odds_5 24 rfl rfl
theorem dksX7_odds_7 : cX7_odds.data.toList.drop 167 = dktX7_odds_7 := dk_seg dksX7_odds_6 24 rfl rfl
theorem dX7_odds_0 : decode cX7_odds 0 = .ok (.iload_n 1, 1) := dk_27 (dk_at dksX7_odds_0 0 rfl rfl)
theorem dX7_odds_1 : decode cX7_odds 1 = .ok (.i2l, 1) := dk_133 (dk_at dksX7_odds_0 1 rfl rfl)
theorem dX7_odds_2 : decode cX7_odds 2 = .ok (.lconst 0, 1) := dk_9 (dk_at dksX7_odds_0 2 rfl rfl)
theorem dX7_odds_3 : decode cX7_odds 3 = .ok (.ldc2_w 426, 3) := dk_20 1 170 (dk_at dksX7_odds_0 3 rfl rfl)
theorem dX7_odds_6 : decode cX7_odds 6 = .ok (.invokestatic 341, 3) := dk_184 1 85 (dk_at dksX7_odds_0 6 rfl rfl)
theorem dX7_odds_9 : decode cX7_odds 9 = .ok (.ifCond .eq 38, 3) := dk_153 0 38 (dk_at dksX7_odds_0 9 rfl rfl)
theorem dX7_odds_12 : decode cX7_odds 12 = .ok (.iload_n 2, 1) := dk_28 (dk_at dksX7_odds_0 12 rfl rfl)
theorem dX7_odds_13 : decode cX7_odds 13 = .ok (.i2l, 1) := dk_133 (dk_at dksX7_odds_0 13 rfl rfl)
theorem dX7_odds_14 : decode cX7_odds 14 = .ok (.lconst 1, 1) := dk_10 (dk_at dksX7_odds_0 14 rfl rfl)
theorem dX7_odds_15 : decode cX7_odds 15 = .ok (.ldc2_w 433, 3) := dk_20 1 177 (dk_at dksX7_odds_0 15 rfl rfl)
theorem dX7_odds_18 : decode cX7_odds 18 = .ok (.invokestatic 341, 3) := dk_184 1 85 (dk_at dksX7_odds_0 18 rfl rfl)
theorem dX7_odds_21 : decode cX7_odds 21 = .ok (.ifCond .eq 26, 3) := dk_153 0 26 (dk_at dksX7_odds_0 21 rfl rfl)
theorem dX7_odds_24 : decode cX7_odds 24 = .ok (.iload_n 1, 1) := dk_27 (dk_at dksX7_odds_1 0 rfl rfl)
theorem dX7_odds_25 : decode cX7_odds 25 = .ok (.iload_n 2, 1) := dk_28 (dk_at dksX7_odds_1 1 rfl rfl)
theorem dX7_odds_26 : decode cX7_odds 26 = .ok (.iadd, 1) := dk_96 (dk_at dksX7_odds_1 2 rfl rfl)
theorem dX7_odds_27 : decode cX7_odds 27 = .ok (.iconst 1, 1) := dk_4 (dk_at dksX7_odds_1 3 rfl rfl)
theorem dX7_odds_28 : decode cX7_odds 28 = .ok (.isub, 1) := dk_100 (dk_at dksX7_odds_1 4 rfl rfl)
theorem dX7_odds_29 : decode cX7_odds 29 = .ok (.sipush 9999, 3) := dk_17 39 15 (dk_at dksX7_odds_1 5 rfl rfl)
theorem dX7_odds_32 : decode cX7_odds 32 = .ok (.if_icmp .gt 15, 3) := dk_163 0 15 (dk_at dksX7_odds_1 8 rfl rfl)
theorem dX7_odds_35 : decode cX7_odds 35 = .ok (.iload_n 3, 1) := dk_29 (dk_at dksX7_odds_1 11 rfl rfl)
theorem dX7_odds_36 : decode cX7_odds 36 = .ok (.i2l, 1) := dk_133 (dk_at dksX7_odds_1 12 rfl rfl)
theorem dX7_odds_37 : decode cX7_odds 37 = .ok (.lconst 0, 1) := dk_9 (dk_at dksX7_odds_1 13 rfl rfl)
theorem dX7_odds_38 : decode cX7_odds 38 = .ok (.ldc2_w 428, 3) := dk_20 1 172 (dk_at dksX7_odds_1 14 rfl rfl)
theorem dX7_odds_41 : decode cX7_odds 41 = .ok (.invokestatic 341, 3) := dk_184 1 85 (dk_at dksX7_odds_1 17 rfl rfl)
theorem dX7_odds_44 : decode cX7_odds 44 = .ok (.ifCond .ne 9, 3) := dk_154 0 9 (dk_at dksX7_odds_1 20 rfl rfl)
theorem dX7_odds_47 : decode cX7_odds 47 = .ok (.aload_n 0, 1) := dk_42 (dk_at dksX7_odds_1 23 rfl rfl)
theorem dX7_odds_48 : decode cX7_odds 48 = .ok (.iconst 1, 1) := dk_4 (dk_at dksX7_odds_2 0 rfl rfl)
theorem dX7_odds_49 : decode cX7_odds 49 = .ok (.invokevirtual 105, 3) := dk_182 0 105 (dk_at dksX7_odds_2 1 rfl rfl)
theorem dX7_odds_52 : decode cX7_odds 52 = .ok (.ireturn, 1) := dk_172 (dk_at dksX7_odds_2 4 rfl rfl)
theorem dX7_odds_53 : decode cX7_odds 53 = .ok (.aload_n 0, 1) := dk_42 (dk_at dksX7_odds_2 5 rfl rfl)
theorem dX7_odds_54 : decode cX7_odds 54 = .ok (.invokevirtual 306, 3) := dk_182 1 50 (dk_at dksX7_odds_2 6 rfl rfl)
theorem dX7_odds_57 : decode cX7_odds 57 = .ok (.ifCond .ne 10, 3) := dk_154 0 10 (dk_at dksX7_odds_2 9 rfl rfl)
theorem dX7_odds_60 : decode cX7_odds 60 = .ok (.aload_n 0, 1) := dk_42 (dk_at dksX7_odds_2 12 rfl rfl)
theorem dX7_odds_61 : decode cX7_odds 61 = .ok (.bipush 6, 2) := dk_16 6 (dk_at dksX7_odds_2 13 rfl rfl)
theorem dX7_odds_63 : decode cX7_odds 63 = .ok (.invokevirtual 105, 3) := dk_182 0 105 (dk_at dksX7_odds_2 15 rfl rfl)
theorem dX7_odds_66 : decode cX7_odds 66 = .ok (.ireturn, 1) := dk_172 (dk_at dksX7_odds_2 18 rfl rfl)
theorem dX7_odds_67 : decode cX7_odds 67 = .ok (.iconst 0, 1) := dk_3 (dk_at dksX7_odds_2 19 rfl rfl)
theorem dX7_odds_68 : decode cX7_odds 68 = .ok (.istore 4, 2) := dk_54 4 (dk_at dksX7_odds_2 20 rfl rfl)
theorem dX7_odds_70 : decode cX7_odds 70 = .ok (.iconst 0, 1) := dk_3 (dk_at dksX7_odds_2 22 rfl rfl)
theorem dX7_odds_71 : decode cX7_odds 71 = .ok (.istore 5, 2) := dk_54 5 (dk_at dksX7_odds_3 0 rfl rfl)
theorem dX7_odds_73 : decode cX7_odds 73 = .ok (.iload 5, 2) := dk_21 5 (dk_at dksX7_odds_3 2 rfl rfl)
theorem dX7_odds_75 : decode cX7_odds 75 = .ok (.iload_n 2, 1) := dk_28 (dk_at dksX7_odds_3 4 rfl rfl)
theorem dX7_odds_76 : decode cX7_odds 76 = .ok (.if_icmp .ge 104, 3) := dk_162 0 104 (dk_at dksX7_odds_3 5 rfl rfl)
theorem dX7_odds_79 : decode cX7_odds 79 = .ok (.aload_n 0, 1) := dk_42 (dk_at dksX7_odds_3 8 rfl rfl)
theorem dX7_odds_80 : decode cX7_odds 80 = .ok (.iload_n 1, 1) := dk_27 (dk_at dksX7_odds_3 9 rfl rfl)
theorem dX7_odds_81 : decode cX7_odds 81 = .ok (.iload 5, 2) := dk_21 5 (dk_at dksX7_odds_3 10 rfl rfl)
theorem dX7_odds_83 : decode cX7_odds 83 = .ok (.iadd, 1) := dk_96 (dk_at dksX7_odds_3 12 rfl rfl)
theorem dX7_odds_84 : decode cX7_odds 84 = .ok (.iload_n 3, 1) := dk_29 (dk_at dksX7_odds_3 13 rfl rfl)
theorem dX7_odds_85 : decode cX7_odds 85 = .ok (.invokevirtual 430, 3) := dk_182 1 174 (dk_at dksX7_odds_3 14 rfl rfl)
theorem dX7_odds_88 : decode cX7_odds 88 = .ok (.istore 6, 2) := dk_54 6 (dk_at dksX7_odds_3 17 rfl rfl)
theorem dX7_odds_90 : decode cX7_odds 90 = .ok (.iload 6, 2) := dk_21 6 (dk_at dksX7_odds_3 19 rfl rfl)
theorem dX7_odds_92 : decode cX7_odds 92 = .ok (.ifCond .lt 7, 3) := dk_155 0 7 (dk_at dksX7_odds_3 21 rfl rfl)
theorem dX7_odds_95 : decode cX7_odds 95 = .ok (.iconst 1, 1) := dk_4 (dk_at dksX7_odds_4 0 rfl rfl)
theorem dX7_odds_96 : decode cX7_odds 96 = .ok (.goto 4, 3) := dk_167 0 4 (dk_at dksX7_odds_4 1 rfl rfl)
theorem dX7_odds_99 : decode cX7_odds 99 = .ok (.iconst 0, 1) := dk_3 (dk_at dksX7_odds_4 4 rfl rfl)
theorem dX7_odds_100 : decode cX7_odds 100 = .ok (.istore 7, 2) := dk_54 7 (dk_at dksX7_odds_4 5 rfl rfl)
theorem dX7_odds_102 : decode cX7_odds 102 = .ok (.iconst 0, 1) := dk_3 (dk_at dksX7_odds_4 7 rfl rfl)
theorem dX7_odds_103 : decode cX7_odds 103 = .ok (.istore 8, 2) := dk_54 8 (dk_at dksX7_odds_4 8 rfl rfl)
theorem dX7_odds_105 : decode cX7_odds 105 = .ok (.iload 8, 2) := dk_21 8 (dk_at dksX7_odds_4 10 rfl rfl)
theorem dX7_odds_107 : decode cX7_odds 107 = .ok (.aload_n 0, 1) := dk_42 (dk_at dksX7_odds_4 12 rfl rfl)
theorem dX7_odds_108 : decode cX7_odds 108 = .ok (.getfield 7, 3) := dk_180 0 7 (dk_at dksX7_odds_4 13 rfl rfl)
theorem dX7_odds_111 : decode cX7_odds 111 = .ok (.bipush 8, 2) := dk_16 8 (dk_at dksX7_odds_4 16 rfl rfl)
theorem dX7_odds_113 : decode cX7_odds 113 = .ok (.iaload, 1) := dk_46 (dk_at dksX7_odds_4 18 rfl rfl)
theorem dX7_odds_114 : decode cX7_odds 114 = .ok (.if_icmp .ge 45, 3) := dk_162 0 45 (dk_at dksX7_odds_4 19 rfl rfl)
theorem dX7_odds_117 : decode cX7_odds 117 = .ok (.iload 7, 2) := dk_21 7 (dk_at dksX7_odds_4 22 rfl rfl)
theorem dX7_odds_119 : decode cX7_odds 119 = .ok (.ifCond .eq 31, 3) := dk_153 0 31 (dk_at dksX7_odds_5 0 rfl rfl)
theorem dX7_odds_122 : decode cX7_odds 122 = .ok (.aload_n 0, 1) := dk_42 (dk_at dksX7_odds_5 3 rfl rfl)
theorem dX7_odds_123 : decode cX7_odds 123 = .ok (.getfield 7, 3) := dk_180 0 7 (dk_at dksX7_odds_5 4 rfl rfl)
theorem dX7_odds_126 : decode cX7_odds 126 = .ok (.sipush 600, 3) := dk_17 2 88 (dk_at dksX7_odds_5 7 rfl rfl)
theorem dX7_odds_129 : decode cX7_odds 129 = .ok (.iload 8, 2) := dk_21 8 (dk_at dksX7_odds_5 10 rfl rfl)
theorem dX7_odds_131 : decode cX7_odds 131 = .ok (.iadd, 1) := dk_96 (dk_at dksX7_odds_5 12 rfl rfl)
theorem dX7_odds_132 : decode cX7_odds 132 = .ok (.iaload, 1) := dk_46 (dk_at dksX7_odds_5 13 rfl rfl)
theorem dX7_odds_133 : decode cX7_odds 133 = .ok (.ifCond .eq 13, 3) := dk_153 0 13 (dk_at dksX7_odds_5 14 rfl rfl)
theorem dX7_odds_136 : decode cX7_odds 136 = .ok (.aload_n 0, 1) := dk_42 (dk_at dksX7_odds_5 17 rfl rfl)
theorem dX7_odds_137 : decode cX7_odds 137 = .ok (.getfield 89, 3) := dk_180 0 89 (dk_at dksX7_odds_5 18 rfl rfl)
theorem dX7_odds_140 : decode cX7_odds 140 = .ok (.iload 8, 2) := dk_21 8 (dk_at dksX7_odds_5 21 rfl rfl)
theorem dX7_odds_142 : decode cX7_odds 142 = .ok (.iaload, 1) := dk_46 (dk_at dksX7_odds_5 23 rfl rfl)
theorem dX7_odds_143 : decode cX7_odds 143 = .ok (.ifCond .eq 7, 3) := dk_153 0 7 (dk_at dksX7_odds_6 0 rfl rfl)
theorem dX7_odds_146 : decode cX7_odds 146 = .ok (.iconst 1, 1) := dk_4 (dk_at dksX7_odds_6 3 rfl rfl)
theorem dX7_odds_147 : decode cX7_odds 147 = .ok (.goto 4, 3) := dk_167 0 4 (dk_at dksX7_odds_6 4 rfl rfl)
theorem dX7_odds_150 : decode cX7_odds 150 = .ok (.iconst 0, 1) := dk_3 (dk_at dksX7_odds_6 7 rfl rfl)
theorem dX7_odds_151 : decode cX7_odds 151 = .ok (.istore 7, 2) := dk_54 7 (dk_at dksX7_odds_6 8 rfl rfl)
theorem dX7_odds_153 : decode cX7_odds 153 = .ok (.iinc 8 1, 3) := dk_132 8 1 (dk_at dksX7_odds_6 10 rfl rfl)
theorem dX7_odds_156 : decode cX7_odds 156 = .ok (.goto (-51), 3) := dk_167 255 205 (dk_at dksX7_odds_6 13 rfl rfl)
theorem dX7_odds_159 : decode cX7_odds 159 = .ok (.iload 4, 2) := dk_21 4 (dk_at dksX7_odds_6 16 rfl rfl)
theorem dX7_odds_161 : decode cX7_odds 161 = .ok (.iload 7, 2) := dk_21 7 (dk_at dksX7_odds_6 18 rfl rfl)
theorem dX7_odds_163 : decode cX7_odds 163 = .ok (.ifCond .eq 7, 3) := dk_153 0 7 (dk_at dksX7_odds_6 20 rfl rfl)
theorem dX7_odds_166 : decode cX7_odds 166 = .ok (.iconst 1, 1) := dk_4 (dk_at dksX7_odds_6 23 rfl rfl)
theorem dX7_odds_167 : decode cX7_odds 167 = .ok (.goto 4, 3) := dk_167 0 4 (dk_at dksX7_odds_7 0 rfl rfl)
theorem dX7_odds_170 : decode cX7_odds 170 = .ok (.iconst 0, 1) := dk_3 (dk_at dksX7_odds_7 3 rfl rfl)
theorem dX7_odds_171 : decode cX7_odds 171 = .ok (.iadd, 1) := dk_96 (dk_at dksX7_odds_7 4 rfl rfl)
theorem dX7_odds_172 : decode cX7_odds 172 = .ok (.istore 4, 2) := dk_54 4 (dk_at dksX7_odds_7 5 rfl rfl)
theorem dX7_odds_174 : decode cX7_odds 174 = .ok (.iinc 5 1, 3) := dk_132 5 1 (dk_at dksX7_odds_7 7 rfl rfl)
theorem dX7_odds_177 : decode cX7_odds 177 = .ok (.goto (-104), 3) := dk_167 255 152 (dk_at dksX7_odds_7 10 rfl rfl)
theorem dX7_odds_180 : decode cX7_odds 180 = .ok (.aload_n 0, 1) := dk_42 (dk_at dksX7_odds_7 13 rfl rfl)
theorem dX7_odds_181 : decode cX7_odds 181 = .ok (.iload 4, 2) := dk_21 4 (dk_at dksX7_odds_7 14 rfl rfl)
theorem dX7_odds_183 : decode cX7_odds 183 = .ok (.i2l, 1) := dk_133 (dk_at dksX7_odds_7 16 rfl rfl)
theorem dX7_odds_184 : decode cX7_odds 184 = .ok (.iload_n 2, 1) := dk_28 (dk_at dksX7_odds_7 17 rfl rfl)
theorem dX7_odds_185 : decode cX7_odds 185 = .ok (.i2l, 1) := dk_133 (dk_at dksX7_odds_7 18 rfl rfl)
theorem dX7_odds_186 : decode cX7_odds 186 = .ok (.invokevirtual 435, 3) := dk_182 1 179 (dk_at dksX7_odds_7 19 rfl rfl)
theorem dX7_odds_189 : decode cX7_odds 189 = .ok (.ireturn, 1) := dk_172 (dk_at dksX7_odds_7 22 rfl rfl)
abbrev cX7_tellsBy : ByteArray := prog_17_method_9_code
def yX7_tellsBy : MethodName := ⟨RX7, "tellsBy", "(JJ)Z"⟩
def dkwX7_tellsBy_2 : List UInt8 := [3, 182, 0, 105, 172]
abbrev dktX7_tellsBy_2 : List UInt8 := dkwX7_tellsBy_2 ++ []
def dkwX7_tellsBy_1 : List UInt8 := [22, 9, 55, 7, 167, 255, 234, 42, 31, 22, 5, 109, 181, 0, 102, 42, 33, 22, 5, 109, 181, 0, 13, 42]
abbrev dktX7_tellsBy_1 : List UInt8 := dkwX7_tellsBy_1 ++ dktX7_tellsBy_2
def dkwX7_tellsBy_0 : List UInt8 := [31, 55, 5, 33, 55, 7, 22, 7, 9, 148, 153, 0, 21, 22, 5, 22, 7, 113, 55, 9, 22, 7, 55, 5]
abbrev dktX7_tellsBy_0 : List UInt8 := dkwX7_tellsBy_0 ++ dktX7_tellsBy_1
theorem dksX7_tellsBy_0 : cX7_tellsBy.data.toList.drop 0 = dktX7_tellsBy_0 := by decide +kernel
theorem dksX7_tellsBy_1 : cX7_tellsBy.data.toList.drop 24 = dktX7_tellsBy_1 := dk_seg dksX7_tellsBy_0 24 rfl rfl
theorem dksX7_tellsBy_2 : cX7_tellsBy.data.toList.drop 48 = dktX7_tellsBy_2 := dk_seg dksX7_tellsBy_1 24 rfl rfl
theorem dX7_tellsBy_0 : decode cX7_tellsBy 0 = .ok (.lload_n 1, 1) := dk_31 (dk_at dksX7_tellsBy_0 0 rfl rfl)
theorem dX7_tellsBy_1 : decode cX7_tellsBy 1 = .ok (.lstore 5, 2) := dk_55 5 (dk_at dksX7_tellsBy_0 1 rfl rfl)
theorem dX7_tellsBy_3 : decode cX7_tellsBy 3 = .ok (.lload_n 3, 1) := dk_33 (dk_at dksX7_tellsBy_0 3 rfl rfl)
theorem dX7_tellsBy_4 : decode cX7_tellsBy 4 = .ok (.lstore 7, 2) := dk_55 7 (dk_at dksX7_tellsBy_0 4 rfl rfl)
theorem dX7_tellsBy_6 : decode cX7_tellsBy 6 = .ok (.lload 7, 2) := dk_22 7 (dk_at dksX7_tellsBy_0 6 rfl rfl)
theorem dX7_tellsBy_8 : decode cX7_tellsBy 8 = .ok (.lconst 0, 1) := dk_9 (dk_at dksX7_tellsBy_0 8 rfl rfl)
theorem dX7_tellsBy_9 : decode cX7_tellsBy 9 = .ok (.lcmp, 1) := dk_148 (dk_at dksX7_tellsBy_0 9 rfl rfl)
theorem dX7_tellsBy_10 : decode cX7_tellsBy 10 = .ok (.ifCond .eq 21, 3) := dk_153 0 21 (dk_at dksX7_tellsBy_0 10 rfl rfl)
theorem dX7_tellsBy_13 : decode cX7_tellsBy 13 = .ok (.lload 5, 2) := dk_22 5 (dk_at dksX7_tellsBy_0 13 rfl rfl)
theorem dX7_tellsBy_15 : decode cX7_tellsBy 15 = .ok (.lload 7, 2) := dk_22 7 (dk_at dksX7_tellsBy_0 15 rfl rfl)
theorem dX7_tellsBy_17 : decode cX7_tellsBy 17 = .ok (.lrem, 1) := dk_113 (dk_at dksX7_tellsBy_0 17 rfl rfl)
theorem dX7_tellsBy_18 : decode cX7_tellsBy 18 = .ok (.lstore 9, 2) := dk_55 9 (dk_at dksX7_tellsBy_0 18 rfl rfl)
theorem dX7_tellsBy_20 : decode cX7_tellsBy 20 = .ok (.lload 7, 2) := dk_22 7 (dk_at dksX7_tellsBy_0 20 rfl rfl)
theorem dX7_tellsBy_22 : decode cX7_tellsBy 22 = .ok (.lstore 5, 2) := dk_55 5 (dk_at dksX7_tellsBy_0 22 rfl rfl)
theorem dX7_tellsBy_24 : decode cX7_tellsBy 24 = .ok (.lload 9, 2) := dk_22 9 (dk_at dksX7_tellsBy_1 0 rfl rfl)
theorem dX7_tellsBy_26 : decode cX7_tellsBy 26 = .ok (.lstore 7, 2) := dk_55 7 (dk_at dksX7_tellsBy_1 2 rfl rfl)
theorem dX7_tellsBy_28 : decode cX7_tellsBy 28 = .ok (.goto (-22), 3) := dk_167 255 234 (dk_at dksX7_tellsBy_1 4 rfl rfl)
theorem dX7_tellsBy_31 : decode cX7_tellsBy 31 = .ok (.aload_n 0, 1) := dk_42 (dk_at dksX7_tellsBy_1 7 rfl rfl)
theorem dX7_tellsBy_32 : decode cX7_tellsBy 32 = .ok (.lload_n 1, 1) := dk_31 (dk_at dksX7_tellsBy_1 8 rfl rfl)
theorem dX7_tellsBy_33 : decode cX7_tellsBy 33 = .ok (.lload 5, 2) := dk_22 5 (dk_at dksX7_tellsBy_1 9 rfl rfl)
theorem dX7_tellsBy_35 : decode cX7_tellsBy 35 = .ok (.ldiv, 1) := dk_109 (dk_at dksX7_tellsBy_1 11 rfl rfl)
theorem dX7_tellsBy_36 : decode cX7_tellsBy 36 = .ok (.putfield 102, 3) := dk_181 0 102 (dk_at dksX7_tellsBy_1 12 rfl rfl)
theorem dX7_tellsBy_39 : decode cX7_tellsBy 39 = .ok (.aload_n 0, 1) := dk_42 (dk_at dksX7_tellsBy_1 15 rfl rfl)
theorem dX7_tellsBy_40 : decode cX7_tellsBy 40 = .ok (.lload_n 3, 1) := dk_33 (dk_at dksX7_tellsBy_1 16 rfl rfl)
theorem dX7_tellsBy_41 : decode cX7_tellsBy 41 = .ok (.lload 5, 2) := dk_22 5 (dk_at dksX7_tellsBy_1 17 rfl rfl)
theorem dX7_tellsBy_43 : decode cX7_tellsBy 43 = .ok (.ldiv, 1) := dk_109 (dk_at dksX7_tellsBy_1 19 rfl rfl)
theorem dX7_tellsBy_44 : decode cX7_tellsBy 44 = .ok (.putfield 13, 3) := dk_181 0 13 (dk_at dksX7_tellsBy_1 20 rfl rfl)
theorem dX7_tellsBy_47 : decode cX7_tellsBy 47 = .ok (.aload_n 0, 1) := dk_42 (dk_at dksX7_tellsBy_1 23 rfl rfl)
theorem dX7_tellsBy_48 : decode cX7_tellsBy 48 = .ok (.iconst 0, 1) := dk_3 (dk_at dksX7_tellsBy_2 0 rfl rfl)
theorem dX7_tellsBy_49 : decode cX7_tellsBy 49 = .ok (.invokevirtual 105, 3) := dk_182 0 105 (dk_at dksX7_tellsBy_2 1 rfl rfl)
theorem dX7_tellsBy_52 : decode cX7_tellsBy 52 = .ok (.ireturn, 1) := dk_172 (dk_at dksX7_tellsBy_2 4 rfl rfl)
abbrev cX7_mark : ByteArray := prog_17_method_145_code
def yX7_mark : MethodName := ⟨RX7, "mark", "()I"⟩
def dkwX7_mark_1 : List UInt8 := [42, 3, 42, 180, 1, 183, 182, 1, 186, 42, 42, 180, 1, 183, 182, 0, 191, 172]
abbrev dktX7_mark_1 : List UInt8 := dkwX7_mark_1 ++ []
def dkwX7_mark_0 : List UInt8 := [42, 180, 1, 183, 6, 160, 0, 9, 42, 7, 182, 0, 188, 172, 42, 89, 180, 1, 183, 4, 96, 181, 1, 183]
abbrev dktX7_mark_0 : List UInt8 := dkwX7_mark_0 ++ dktX7_mark_1
theorem dksX7_mark_0 : cX7_mark.data.toList.drop 0 = dktX7_mark_0 := by decide +kernel
theorem dksX7_mark_1 : cX7_mark.data.toList.drop 24 = dktX7_mark_1 := dk_seg dksX7_mark_0 24 rfl rfl
theorem dX7_mark_0 : decode cX7_mark 0 = .ok (.aload_n 0, 1) := dk_42 (dk_at dksX7_mark_0 0 rfl rfl)
theorem dX7_mark_1 : decode cX7_mark 1 = .ok (.getfield 439, 3) := dk_180 1 183 (dk_at dksX7_mark_0 1 rfl rfl)
theorem dX7_mark_4 : decode cX7_mark 4 = .ok (.iconst 3, 1) := dk_6 (dk_at dksX7_mark_0 4 rfl rfl)
theorem dX7_mark_5 : decode cX7_mark 5 = .ok (.if_icmp .ne 9, 3) := dk_160 0 9 (dk_at dksX7_mark_0 5 rfl rfl)
theorem dX7_mark_8 : decode cX7_mark 8 = .ok (.aload_n 0, 1) := dk_42 (dk_at dksX7_mark_0 8 rfl rfl)
theorem dX7_mark_9 : decode cX7_mark 9 = .ok (.iconst 4, 1) := dk_7 (dk_at dksX7_mark_0 9 rfl rfl)
theorem dX7_mark_10 : decode cX7_mark 10 = .ok (.invokevirtual 188, 3) := dk_182 0 188 (dk_at dksX7_mark_0 10 rfl rfl)
theorem dX7_mark_13 : decode cX7_mark 13 = .ok (.ireturn, 1) := dk_172 (dk_at dksX7_mark_0 13 rfl rfl)
theorem dX7_mark_14 : decode cX7_mark 14 = .ok (.aload_n 0, 1) := dk_42 (dk_at dksX7_mark_0 14 rfl rfl)
theorem dX7_mark_15 : decode cX7_mark 15 = .ok (.dup, 1) := dk_89 (dk_at dksX7_mark_0 15 rfl rfl)
theorem dX7_mark_16 : decode cX7_mark 16 = .ok (.getfield 439, 3) := dk_180 1 183 (dk_at dksX7_mark_0 16 rfl rfl)
theorem dX7_mark_19 : decode cX7_mark 19 = .ok (.iconst 1, 1) := dk_4 (dk_at dksX7_mark_0 19 rfl rfl)
theorem dX7_mark_20 : decode cX7_mark 20 = .ok (.iadd, 1) := dk_96 (dk_at dksX7_mark_0 20 rfl rfl)
theorem dX7_mark_21 : decode cX7_mark 21 = .ok (.putfield 439, 3) := dk_181 1 183 (dk_at dksX7_mark_0 21 rfl rfl)
theorem dX7_mark_24 : decode cX7_mark 24 = .ok (.aload_n 0, 1) := dk_42 (dk_at dksX7_mark_1 0 rfl rfl)
theorem dX7_mark_25 : decode cX7_mark 25 = .ok (.iconst 0, 1) := dk_3 (dk_at dksX7_mark_1 1 rfl rfl)
theorem dX7_mark_26 : decode cX7_mark 26 = .ok (.aload_n 0, 1) := dk_42 (dk_at dksX7_mark_1 2 rfl rfl)
theorem dX7_mark_27 : decode cX7_mark 27 = .ok (.getfield 439, 3) := dk_180 1 183 (dk_at dksX7_mark_1 3 rfl rfl)
theorem dX7_mark_30 : decode cX7_mark 30 = .ok (.invokevirtual 442, 3) := dk_182 1 186 (dk_at dksX7_mark_1 6 rfl rfl)
theorem dX7_mark_33 : decode cX7_mark 33 = .ok (.aload_n 0, 1) := dk_42 (dk_at dksX7_mark_1 9 rfl rfl)
theorem dX7_mark_34 : decode cX7_mark 34 = .ok (.aload_n 0, 1) := dk_42 (dk_at dksX7_mark_1 10 rfl rfl)
theorem dX7_mark_35 : decode cX7_mark 35 = .ok (.getfield 439, 3) := dk_180 1 183 (dk_at dksX7_mark_1 11 rfl rfl)
theorem dX7_mark_38 : decode cX7_mark 38 = .ok (.invokevirtual 191, 3) := dk_182 0 191 (dk_at dksX7_mark_1 14 rfl rfl)
theorem dX7_mark_41 : decode cX7_mark 41 = .ok (.ireturn, 1) := dk_172 (dk_at dksX7_mark_1 17 rfl rfl)
abbrev cX7_copies : ByteArray := prog_17_method_144_code
def yX7_copies : MethodName := ⟨RX7, "copies", "(II)V"⟩
def dkwX7_copies_1 : List UInt8 := [17, 12, 228, 27, 104, 29, 96, 46, 79, 132, 3, 1, 167, 255, 222, 177]
abbrev dktX7_copies_1 : List UInt8 := dkwX7_copies_1 ++ []
def dkwX7_copies_0 : List UInt8 := [3, 62, 29, 17, 12, 228, 162, 0, 33, 42, 180, 0, 7, 17, 12, 228, 28, 104, 29, 96, 42, 180, 0, 7]
abbrev dktX7_copies_0 : List UInt8 := dkwX7_copies_0 ++ dktX7_copies_1
theorem dksX7_copies_0 : cX7_copies.data.toList.drop 0 = dktX7_copies_0 := by decide +kernel
theorem dksX7_copies_1 : cX7_copies.data.toList.drop 24 = dktX7_copies_1 := dk_seg dksX7_copies_0 24 rfl rfl
theorem dX7_copies_0 : decode cX7_copies 0 = .ok (.iconst 0, 1) := dk_3 (dk_at dksX7_copies_0 0 rfl rfl)
theorem dX7_copies_1 : decode cX7_copies 1 = .ok (.istore_n 3, 1) := dk_62 (dk_at dksX7_copies_0 1 rfl rfl)
theorem dX7_copies_2 : decode cX7_copies 2 = .ok (.iload_n 3, 1) := dk_29 (dk_at dksX7_copies_0 2 rfl rfl)
theorem dX7_copies_3 : decode cX7_copies 3 = .ok (.sipush 3300, 3) := dk_17 12 228 (dk_at dksX7_copies_0 3 rfl rfl)
theorem dX7_copies_6 : decode cX7_copies 6 = .ok (.if_icmp .ge 33, 3) := dk_162 0 33 (dk_at dksX7_copies_0 6 rfl rfl)
theorem dX7_copies_9 : decode cX7_copies 9 = .ok (.aload_n 0, 1) := dk_42 (dk_at dksX7_copies_0 9 rfl rfl)
theorem dX7_copies_10 : decode cX7_copies 10 = .ok (.getfield 7, 3) := dk_180 0 7 (dk_at dksX7_copies_0 10 rfl rfl)
theorem dX7_copies_13 : decode cX7_copies 13 = .ok (.sipush 3300, 3) := dk_17 12 228 (dk_at dksX7_copies_0 13 rfl rfl)
theorem dX7_copies_16 : decode cX7_copies 16 = .ok (.iload_n 2, 1) := dk_28 (dk_at dksX7_copies_0 16 rfl rfl)
theorem dX7_copies_17 : decode cX7_copies 17 = .ok (.imul, 1) := dk_104 (dk_at dksX7_copies_0 17 rfl rfl)
theorem dX7_copies_18 : decode cX7_copies 18 = .ok (.iload_n 3, 1) := dk_29 (dk_at dksX7_copies_0 18 rfl rfl)
theorem dX7_copies_19 : decode cX7_copies 19 = .ok (.iadd, 1) := dk_96 (dk_at dksX7_copies_0 19 rfl rfl)
theorem dX7_copies_20 : decode cX7_copies 20 = .ok (.aload_n 0, 1) := dk_42 (dk_at dksX7_copies_0 20 rfl rfl)
theorem dX7_copies_21 : decode cX7_copies 21 = .ok (.getfield 7, 3) := dk_180 0 7 (dk_at dksX7_copies_0 21 rfl rfl)
theorem dX7_copies_24 : decode cX7_copies 24 = .ok (.sipush 3300, 3) := dk_17 12 228 (dk_at dksX7_copies_1 0 rfl rfl)
theorem dX7_copies_27 : decode cX7_copies 27 = .ok (.iload_n 1, 1) := dk_27 (dk_at dksX7_copies_1 3 rfl rfl)
theorem dX7_copies_28 : decode cX7_copies 28 = .ok (.imul, 1) := dk_104 (dk_at dksX7_copies_1 4 rfl rfl)
theorem dX7_copies_29 : decode cX7_copies 29 = .ok (.iload_n 3, 1) := dk_29 (dk_at dksX7_copies_1 5 rfl rfl)
theorem dX7_copies_30 : decode cX7_copies 30 = .ok (.iadd, 1) := dk_96 (dk_at dksX7_copies_1 6 rfl rfl)
theorem dX7_copies_31 : decode cX7_copies 31 = .ok (.iaload, 1) := dk_46 (dk_at dksX7_copies_1 7 rfl rfl)
theorem dX7_copies_32 : decode cX7_copies 32 = .ok (.iastore, 1) := dk_79 (dk_at dksX7_copies_1 8 rfl rfl)
theorem dX7_copies_33 : decode cX7_copies 33 = .ok (.iinc 3 1, 3) := dk_132 3 1 (dk_at dksX7_copies_1 9 rfl rfl)
theorem dX7_copies_36 : decode cX7_copies 36 = .ok (.goto (-34), 3) := dk_167 255 222 (dk_at dksX7_copies_1 12 rfl rfl)
theorem dX7_copies_39 : decode cX7_copies 39 = .ok (.return_, 1) := dk_177 (dk_at dksX7_copies_1 15 rfl rfl)
abbrev cX7_back : ByteArray := prog_17_method_146_code
def yX7_back : MethodName := ⟨RX7, "back", "()I"⟩
def dkwX7_back_1 : List UInt8 := [89, 180, 1, 183, 4, 100, 181, 1, 183, 42, 42, 180, 1, 183, 182, 0, 191, 172]
abbrev dktX7_back_1 : List UInt8 := dkwX7_back_1 ++ []
def dkwX7_back_0 : List UInt8 := [42, 180, 1, 183, 154, 0, 10, 42, 16, 6, 182, 0, 188, 172, 42, 42, 180, 1, 183, 3, 182, 1, 186, 42]
abbrev dktX7_back_0 : List UInt8 := dkwX7_back_0 ++ dktX7_back_1
theorem dksX7_back_0 : cX7_back.data.toList.drop 0 = dktX7_back_0 := by decide +kernel
theorem dksX7_back_1 : cX7_back.data.toList.drop 24 = dktX7_back_1 := dk_seg dksX7_back_0 24 rfl rfl
theorem dX7_back_0 : decode cX7_back 0 = .ok (.aload_n 0, 1) := dk_42 (dk_at dksX7_back_0 0 rfl rfl)
theorem dX7_back_1 : decode cX7_back 1 = .ok (.getfield 439, 3) := dk_180 1 183 (dk_at dksX7_back_0 1 rfl rfl)
theorem dX7_back_4 : decode cX7_back 4 = .ok (.ifCond .ne 10, 3) := dk_154 0 10 (dk_at dksX7_back_0 4 rfl rfl)
theorem dX7_back_7 : decode cX7_back 7 = .ok (.aload_n 0, 1) := dk_42 (dk_at dksX7_back_0 7 rfl rfl)
theorem dX7_back_8 : decode cX7_back 8 = .ok (.bipush 6, 2) := dk_16 6 (dk_at dksX7_back_0 8 rfl rfl)
theorem dX7_back_10 : decode cX7_back 10 = .ok (.invokevirtual 188, 3) := dk_182 0 188 (dk_at dksX7_back_0 10 rfl rfl)
theorem dX7_back_13 : decode cX7_back 13 = .ok (.ireturn, 1) := dk_172 (dk_at dksX7_back_0 13 rfl rfl)
theorem dX7_back_14 : decode cX7_back 14 = .ok (.aload_n 0, 1) := dk_42 (dk_at dksX7_back_0 14 rfl rfl)
theorem dX7_back_15 : decode cX7_back 15 = .ok (.aload_n 0, 1) := dk_42 (dk_at dksX7_back_0 15 rfl rfl)
theorem dX7_back_16 : decode cX7_back 16 = .ok (.getfield 439, 3) := dk_180 1 183 (dk_at dksX7_back_0 16 rfl rfl)
theorem dX7_back_19 : decode cX7_back 19 = .ok (.iconst 0, 1) := dk_3 (dk_at dksX7_back_0 19 rfl rfl)
theorem dX7_back_20 : decode cX7_back 20 = .ok (.invokevirtual 442, 3) := dk_182 1 186 (dk_at dksX7_back_0 20 rfl rfl)
theorem dX7_back_23 : decode cX7_back 23 = .ok (.aload_n 0, 1) := dk_42 (dk_at dksX7_back_0 23 rfl rfl)
theorem dX7_back_24 : decode cX7_back 24 = .ok (.dup, 1) := dk_89 (dk_at dksX7_back_1 0 rfl rfl)
theorem dX7_back_25 : decode cX7_back 25 = .ok (.getfield 439, 3) := dk_180 1 183 (dk_at dksX7_back_1 1 rfl rfl)
theorem dX7_back_28 : decode cX7_back 28 = .ok (.iconst 1, 1) := dk_4 (dk_at dksX7_back_1 4 rfl rfl)
theorem dX7_back_29 : decode cX7_back 29 = .ok (.isub, 1) := dk_100 (dk_at dksX7_back_1 5 rfl rfl)
theorem dX7_back_30 : decode cX7_back 30 = .ok (.putfield 439, 3) := dk_181 1 183 (dk_at dksX7_back_1 6 rfl rfl)
theorem dX7_back_33 : decode cX7_back 33 = .ok (.aload_n 0, 1) := dk_42 (dk_at dksX7_back_1 9 rfl rfl)
theorem dX7_back_34 : decode cX7_back 34 = .ok (.aload_n 0, 1) := dk_42 (dk_at dksX7_back_1 10 rfl rfl)
theorem dX7_back_35 : decode cX7_back 35 = .ok (.getfield 439, 3) := dk_180 1 183 (dk_at dksX7_back_1 11 rfl rfl)
theorem dX7_back_38 : decode cX7_back 38 = .ok (.invokevirtual 191, 3) := dk_182 0 191 (dk_at dksX7_back_1 14 rfl rfl)
theorem dX7_back_41 : decode cX7_back 41 = .ok (.ireturn, 1) := dk_172 (dk_at dksX7_back_1 17 rfl rfl)
theorem q129 : (Jvm.Cond.initialized "RaisedPressModel") ∈ lw_all := lw_g (lw_at lw_m1 10 rfl) rfl
theorem q1475 : (Jvm.Cond.instantiable "RaisedPressModel" (46 : Nat)) ∈ lw_all := lw_g (lw_at lw_m6 156 rfl) rfl
theorem q1477 : (Jvm.Cond.instanceMethod ({ cls := "RaisedPressModel", name := "<init>", desc := "()V" } : Jvm.MethodName)) ∈ lw_all := lw_g (lw_at lw_m6 158 rfl) rfl
theorem q1478 : (Jvm.Cond.code ({ cls := "RaisedPressModel", name := "<init>", desc := "()V" } : Jvm.MethodName) prog_17_method_1_code (1 : Nat) (Option.none : Option Jvm.ClassFile.FieldType)) ∈ lw_all := lw_g (lw_at lw_m6 159 rfl) rfl
theorem q1479 : (Jvm.Cond.methodLink "RaisedPressModel" (1 : Nat) ({ cls := "java/lang/Object", name := "<init>", desc := "()V" } : Jvm.MethodName)) ∈ lw_all := lw_g (lw_at lw_m6 160 rfl) rfl
theorem q1480 : (Jvm.Cond.methodLink "RaisedPressModel" (95 : Nat) ({ cls := "RaisedPressModel", name := "empties", desc := "(I)V" } : Jvm.MethodName)) ∈ lw_all := lw_g (lw_at lw_m6 161 rfl) rfl
theorem q1481 : (Jvm.Cond.privateMethod ({ cls := "RaisedPressModel", name := "empties", desc := "(I)V" } : Jvm.MethodName)) ∈ lw_tbl := lw_at lw_m6 162 rfl
theorem q1482 : (Jvm.Cond.instanceMethod ({ cls := "RaisedPressModel", name := "empties", desc := "(I)V" } : Jvm.MethodName)) ∈ lw_all := lw_g (lw_at lw_m6 163 rfl) rfl
theorem q1483 : (Jvm.Cond.code ({ cls := "RaisedPressModel", name := "empties", desc := "(I)V" } : Jvm.MethodName) prog_17_method_2_code (3 : Nat) (Option.none : Option Jvm.ClassFile.FieldType)) ∈ lw_all := lw_g (lw_at lw_m6 164 rfl) rfl
theorem q1484 : (Jvm.Cond.fieldLink "RaisedPressModel" (7 : Nat) "RaisedPressModel" "at" "[I") ∈ lw_all := lw_g (lw_at lw_m6 165 rfl) rfl
theorem q1485 : (Jvm.Cond.fieldLink "RaisedPressModel" (99 : Nat) "RaisedPressModel" "status" "I") ∈ lw_all := lw_g (lw_at lw_m6 166 rfl) rfl
theorem q1486 : (Jvm.Cond.fieldLink "RaisedPressModel" (102 : Nat) "RaisedPressModel" "top" "J") ∈ lw_all := lw_g (lw_at lw_m6 167 rfl) rfl
theorem q1487 : (Jvm.Cond.fieldLink "RaisedPressModel" (13 : Nat) "RaisedPressModel" "bottom" "J") ∈ lw_all := lw_g (lw_at lw_m6 168 rfl) rfl
theorem q1488 : (Jvm.Cond.fieldLink "RaisedPressModel" (17 : Nat) "RaisedPressModel" "sort" "[I") ∈ lw_all := lw_g (lw_at lw_m6 169 rfl) rfl
theorem q1489 : (Jvm.Cond.fieldLink "RaisedPressModel" (20 : Nat) "RaisedPressModel" "trayMany" "[I") ∈ lw_all := lw_g (lw_at lw_m6 170 rfl) rfl
theorem q1490 : (Jvm.Cond.fieldLink "RaisedPressModel" (23 : Nat) "RaisedPressModel" "trays" "[J") ∈ lw_all := lw_g (lw_at lw_m6 171 rfl) rfl
theorem q1491 : (Jvm.Cond.fieldLink "RaisedPressModel" (27 : Nat) "RaisedPressModel" "tape" "[B") ∈ lw_all := lw_g (lw_at lw_m6 172 rfl) rfl
theorem q1492 : (Jvm.Cond.fieldLink "RaisedPressModel" (31 : Nat) "RaisedPressModel" "text" "[B") ∈ lw_all := lw_g (lw_at lw_m6 173 rfl) rfl
theorem q1493 : (Jvm.Cond.fieldLink "RaisedPressModel" (122 : Nat) "RaisedPressModel" "taped" "I") ∈ lw_all := lw_g (lw_at lw_m6 174 rfl) rfl
theorem q1494 : (Jvm.Cond.fieldLink "RaisedPressModel" (128 : Nat) "RaisedPressModel" "size" "I") ∈ lw_all := lw_g (lw_at lw_m6 175 rfl) rfl
theorem q1495 : (Jvm.Cond.fieldLink "RaisedPressModel" (144 : Nat) "RaisedPressModel" "token" "I") ∈ lw_all := lw_g (lw_at lw_m6 176 rfl) rfl
theorem q1496 : (Jvm.Cond.fieldLink "RaisedPressModel" (138 : Nat) "RaisedPressModel" "from" "I") ∈ lw_all := lw_g (lw_at lw_m6 177 rfl) rfl
theorem q1497 : (Jvm.Cond.fieldLink "RaisedPressModel" (131 : Nat) "RaisedPressModel" "end" "I") ∈ lw_all := lw_g (lw_at lw_m6 178 rfl) rfl
theorem q1498 : (Jvm.Cond.fieldLink "RaisedPressModel" (141 : Nat) "RaisedPressModel" "value" "I") ∈ lw_all := lw_g (lw_at lw_m6 179 rfl) rfl
theorem q1499 : (Jvm.Cond.fieldLink "RaisedPressModel" (34 : Nat) "RaisedPressModel" "faultKind" "I") ∈ lw_all := lw_g (lw_at lw_m6 180 rfl) rfl
theorem q1500 : (Jvm.Cond.fieldLink "RaisedPressModel" (38 : Nat) "RaisedPressModel" "faultPlace" "I") ∈ lw_all := lw_g (lw_at lw_m6 181 rfl) rfl
theorem q1501 : (Jvm.Cond.fieldLink "RaisedPressModel" (169 : Nat) "RaisedPressModel" "faults" "I") ∈ lw_all := lw_g (lw_at lw_m6 182 rfl) rfl
theorem q1502 : (Jvm.Cond.fieldLink "RaisedPressModel" (172 : Nat) "RaisedPressModel" "seen" "I") ∈ lw_all := lw_g (lw_at lw_m6 183 rfl) rfl
theorem q1503 : (Jvm.Cond.fieldLink "RaisedPressModel" (214 : Nat) "RaisedPressModel" "told0" "I") ∈ lw_all := lw_g (lw_at lw_m6 184 rfl) rfl
theorem q1504 : (Jvm.Cond.fieldLink "RaisedPressModel" (230 : Nat) "RaisedPressModel" "badKind" "I") ∈ lw_all := lw_g (lw_at lw_m6 185 rfl) rfl
theorem q1505 : (Jvm.Cond.fieldLink "RaisedPressModel" (233 : Nat) "RaisedPressModel" "badPlace" "I") ∈ lw_all := lw_g (lw_at lw_m6 186 rfl) rfl
theorem q1506 : (Jvm.Cond.fieldLink "RaisedPressModel" (41 : Nat) "RaisedPressModel" "laid" "[I") ∈ lw_all := lw_g (lw_at lw_m6 187 rfl) rfl
theorem q1507 : (Jvm.Cond.fieldLink "RaisedPressModel" (44 : Nat) "RaisedPressModel" "lineFrom" "[I") ∈ lw_all := lw_g (lw_at lw_m6 188 rfl) rfl
theorem q1508 : (Jvm.Cond.fieldLink "RaisedPressModel" (47 : Nat) "RaisedPressModel" "lineMany" "[I") ∈ lw_all := lw_g (lw_at lw_m6 189 rfl) rfl
theorem q1509 : (Jvm.Cond.fieldLink "RaisedPressModel" (50 : Nat) "RaisedPressModel" "pieceLine" "[I") ∈ lw_all := lw_g (lw_at lw_m6 190 rfl) rfl
theorem q1510 : (Jvm.Cond.fieldLink "RaisedPressModel" (53 : Nat) "RaisedPressModel" "pieceEnd" "[I") ∈ lw_all := lw_g (lw_at lw_m6 191 rfl) rfl
theorem q1511 : (Jvm.Cond.fieldLink "RaisedPressModel" (315 : Nat) "RaisedPressModel" "lines0" "I") ∈ lw_all := lw_g (lw_at lw_m6 192 rfl) rfl
theorem q1512 : (Jvm.Cond.fieldLink "RaisedPressModel" (312 : Nat) "RaisedPressModel" "laidMany" "I") ∈ lw_all := lw_g (lw_at lw_m6 193 rfl) rfl
theorem q1513 : (Jvm.Cond.fieldLink "RaisedPressModel" (318 : Nat) "RaisedPressModel" "hyphens0" "I") ∈ lw_all := lw_g (lw_at lw_m6 194 rfl) rfl
theorem q1514 : (Jvm.Cond.fieldLink "RaisedPressModel" (56 : Nat) "RaisedPressModel" "raggedFrom" "[I") ∈ lw_all := lw_g (lw_at lw_m6 195 rfl) rfl
theorem q1515 : (Jvm.Cond.fieldLink "RaisedPressModel" (59 : Nat) "RaisedPressModel" "leastFrom" "[I") ∈ lw_all := lw_g (lw_at lw_m6 196 rfl) rfl
theorem q1516 : (Jvm.Cond.fieldLink "RaisedPressModel" (62 : Nat) "RaisedPressModel" "asked" "[I") ∈ lw_all := lw_g (lw_at lw_m6 197 rfl) rfl
theorem q1517 : (Jvm.Cond.fieldLink "RaisedPressModel" (65 : Nat) "RaisedPressModel" "failing" "[I") ∈ lw_all := lw_g (lw_at lw_m6 198 rfl) rfl
theorem q1518 : (Jvm.Cond.fieldLink "RaisedPressModel" (68 : Nat) "RaisedPressModel" "waysFrom" "[I") ∈ lw_all := lw_g (lw_at lw_m6 199 rfl) rfl
theorem q1519 : (Jvm.Cond.fieldLink "RaisedPressModel" (71 : Nat) "RaisedPressModel" "firstRules" "[I") ∈ lw_all := lw_g (lw_at lw_m6 200 rfl) rfl
theorem q1520 : (Jvm.Cond.fieldLink "RaisedPressModel" (74 : Nat) "RaisedPressModel" "firstMany" "I") ∈ lw_all := lw_g (lw_at lw_m6 201 rfl) rfl
theorem q1521 : (Jvm.Cond.fieldLink "RaisedPressModel" (383 : Nat) "RaisedPressModel" "firstLetters" "I") ∈ lw_all := lw_g (lw_at lw_m6 202 rfl) rfl
theorem q1522 : (Jvm.Cond.fieldLink "RaisedPressModel" (77 : Nat) "RaisedPressModel" "tried" "[I") ∈ lw_all := lw_g (lw_at lw_m6 203 rfl) rfl
theorem q1523 : (Jvm.Cond.fieldLink "RaisedPressModel" (80 : Nat) "RaisedPressModel" "triedAt" "[I") ∈ lw_all := lw_g (lw_at lw_m6 204 rfl) rfl
theorem q1524 : (Jvm.Cond.fieldLink "RaisedPressModel" (83 : Nat) "RaisedPressModel" "overs" "[I") ∈ lw_all := lw_g (lw_at lw_m6 205 rfl) rfl
theorem q1525 : (Jvm.Cond.fieldLink "RaisedPressModel" (419 : Nat) "RaisedPressModel" "drawn" "I") ∈ lw_all := lw_g (lw_at lw_m6 206 rfl) rfl
theorem q1526 : (Jvm.Cond.fieldLink "RaisedPressModel" (86 : Nat) "RaisedPressModel" "wornMany" "I") ∈ lw_all := lw_g (lw_at lw_m6 207 rfl) rfl
theorem q1527 : (Jvm.Cond.fieldLink "RaisedPressModel" (89 : Nat) "RaisedPressModel" "worn0" "[I") ∈ lw_all := lw_g (lw_at lw_m6 208 rfl) rfl
theorem q1528 : (Jvm.Cond.fieldLink "RaisedPressModel" (92 : Nat) "RaisedPressModel" "toldWorn" "[I") ∈ lw_all := lw_g (lw_at lw_m6 209 rfl) rfl
theorem q1529 : (Jvm.Cond.fieldLink "RaisedPressModel" (439 : Nat) "RaisedPressModel" "marks" "I") ∈ lw_all := lw_g (lw_at lw_m6 210 rfl) rfl
theorem q1530 : (Jvm.Cond.laysFinal "RaisedPressModel" "RaisedPressModel" "at" "[I") ∈ lw_all := lw_g (lw_at lw_m6 211 rfl) rfl
theorem q1531 : (Jvm.Cond.soleField "RaisedPressModel" "at") ∈ lw_all := lw_g (lw_at lw_m6 212 rfl) rfl
theorem q1532 : (Jvm.Cond.lays "RaisedPressModel" "RaisedPressModel" "status" "I") ∈ lw_all := lw_g (lw_at lw_m6 213 rfl) rfl
theorem q1533 : (Jvm.Cond.soleField "RaisedPressModel" "status") ∈ lw_all := lw_g (lw_at lw_m6 214 rfl) rfl
theorem q1534 : (Jvm.Cond.lays "RaisedPressModel" "RaisedPressModel" "top" "J") ∈ lw_all := lw_g (lw_at lw_m6 215 rfl) rfl
theorem q1535 : (Jvm.Cond.soleField "RaisedPressModel" "top") ∈ lw_all := lw_g (lw_at lw_m6 216 rfl) rfl
theorem q1536 : (Jvm.Cond.lays "RaisedPressModel" "RaisedPressModel" "bottom" "J") ∈ lw_all := lw_g (lw_at lw_m6 217 rfl) rfl
theorem q1537 : (Jvm.Cond.soleField "RaisedPressModel" "bottom") ∈ lw_all := lw_g (lw_at lw_m6 218 rfl) rfl
theorem q1538 : (Jvm.Cond.laysFinal "RaisedPressModel" "RaisedPressModel" "sort" "[I") ∈ lw_all := lw_g (lw_at lw_m6 219 rfl) rfl
theorem q1539 : (Jvm.Cond.soleField "RaisedPressModel" "sort") ∈ lw_all := lw_g (lw_at lw_m6 220 rfl) rfl
theorem q1540 : (Jvm.Cond.laysFinal "RaisedPressModel" "RaisedPressModel" "trayMany" "[I") ∈ lw_all := lw_g (lw_at lw_m6 221 rfl) rfl
theorem q1541 : (Jvm.Cond.soleField "RaisedPressModel" "trayMany") ∈ lw_all := lw_g (lw_at lw_m6 222 rfl) rfl
theorem q1542 : (Jvm.Cond.laysFinal "RaisedPressModel" "RaisedPressModel" "trays" "[J") ∈ lw_all := lw_g (lw_at lw_m6 223 rfl) rfl
theorem q1543 : (Jvm.Cond.soleField "RaisedPressModel" "trays") ∈ lw_all := lw_g (lw_at lw_m6 224 rfl) rfl
theorem q1544 : (Jvm.Cond.laysFinal "RaisedPressModel" "RaisedPressModel" "tape" "[B") ∈ lw_all := lw_g (lw_at lw_m6 225 rfl) rfl
theorem q1545 : (Jvm.Cond.soleField "RaisedPressModel" "tape") ∈ lw_all := lw_g (lw_at lw_m6 226 rfl) rfl
theorem q1546 : (Jvm.Cond.laysFinal "RaisedPressModel" "RaisedPressModel" "text" "[B") ∈ lw_all := lw_g (lw_at lw_m6 227 rfl) rfl
theorem q1547 : (Jvm.Cond.soleField "RaisedPressModel" "text") ∈ lw_all := lw_g (lw_at lw_m6 228 rfl) rfl
theorem q1548 : (Jvm.Cond.lays "RaisedPressModel" "RaisedPressModel" "taped" "I") ∈ lw_all := lw_g (lw_at lw_m6 229 rfl) rfl
theorem q1549 : (Jvm.Cond.soleField "RaisedPressModel" "taped") ∈ lw_all := lw_g (lw_at lw_m6 230 rfl) rfl
theorem q1550 : (Jvm.Cond.lays "RaisedPressModel" "RaisedPressModel" "size" "I") ∈ lw_all := lw_g (lw_at lw_m6 231 rfl) rfl
theorem q1551 : (Jvm.Cond.soleField "RaisedPressModel" "size") ∈ lw_all := lw_g (lw_at lw_m6 232 rfl) rfl
theorem q1552 : (Jvm.Cond.lays "RaisedPressModel" "RaisedPressModel" "token" "I") ∈ lw_all := lw_g (lw_at lw_m6 233 rfl) rfl
theorem q1553 : (Jvm.Cond.soleField "RaisedPressModel" "token") ∈ lw_all := lw_g (lw_at lw_m6 234 rfl) rfl
theorem q1554 : (Jvm.Cond.lays "RaisedPressModel" "RaisedPressModel" "from" "I") ∈ lw_all := lw_g (lw_at lw_m6 235 rfl) rfl
theorem q1555 : (Jvm.Cond.soleField "RaisedPressModel" "from") ∈ lw_all := lw_g (lw_at lw_m6 236 rfl) rfl
theorem q1556 : (Jvm.Cond.lays "RaisedPressModel" "RaisedPressModel" "end" "I") ∈ lw_all := lw_g (lw_at lw_m6 237 rfl) rfl
theorem q1557 : (Jvm.Cond.soleField "RaisedPressModel" "end") ∈ lw_all := lw_g (lw_at lw_m6 238 rfl) rfl
theorem q1558 : (Jvm.Cond.lays "RaisedPressModel" "RaisedPressModel" "value" "I") ∈ lw_all := lw_g (lw_at lw_m6 239 rfl) rfl
theorem q1559 : (Jvm.Cond.soleField "RaisedPressModel" "value") ∈ lw_all := lw_g (lw_at lw_m7 0 rfl) rfl
theorem q1560 : (Jvm.Cond.lays "RaisedPressModel" "RaisedPressModel" "faultKind" "I") ∈ lw_all := lw_g (lw_at lw_m7 1 rfl) rfl
theorem q1561 : (Jvm.Cond.soleField "RaisedPressModel" "faultKind") ∈ lw_all := lw_g (lw_at lw_m7 2 rfl) rfl
theorem q1562 : (Jvm.Cond.lays "RaisedPressModel" "RaisedPressModel" "faultPlace" "I") ∈ lw_all := lw_g (lw_at lw_m7 3 rfl) rfl
theorem q1563 : (Jvm.Cond.soleField "RaisedPressModel" "faultPlace") ∈ lw_all := lw_g (lw_at lw_m7 4 rfl) rfl
theorem q1564 : (Jvm.Cond.lays "RaisedPressModel" "RaisedPressModel" "faults" "I") ∈ lw_all := lw_g (lw_at lw_m7 5 rfl) rfl
theorem q1565 : (Jvm.Cond.soleField "RaisedPressModel" "faults") ∈ lw_all := lw_g (lw_at lw_m7 6 rfl) rfl
theorem q1566 : (Jvm.Cond.lays "RaisedPressModel" "RaisedPressModel" "seen" "I") ∈ lw_all := lw_g (lw_at lw_m7 7 rfl) rfl
theorem q1567 : (Jvm.Cond.soleField "RaisedPressModel" "seen") ∈ lw_all := lw_g (lw_at lw_m7 8 rfl) rfl
theorem q1568 : (Jvm.Cond.lays "RaisedPressModel" "RaisedPressModel" "told0" "I") ∈ lw_all := lw_g (lw_at lw_m7 9 rfl) rfl
theorem q1569 : (Jvm.Cond.soleField "RaisedPressModel" "told0") ∈ lw_all := lw_g (lw_at lw_m7 10 rfl) rfl
theorem q1570 : (Jvm.Cond.lays "RaisedPressModel" "RaisedPressModel" "badKind" "I") ∈ lw_all := lw_g (lw_at lw_m7 11 rfl) rfl
theorem q1571 : (Jvm.Cond.soleField "RaisedPressModel" "badKind") ∈ lw_all := lw_g (lw_at lw_m7 12 rfl) rfl
theorem q1572 : (Jvm.Cond.lays "RaisedPressModel" "RaisedPressModel" "badPlace" "I") ∈ lw_all := lw_g (lw_at lw_m7 13 rfl) rfl
theorem q1573 : (Jvm.Cond.soleField "RaisedPressModel" "badPlace") ∈ lw_all := lw_g (lw_at lw_m7 14 rfl) rfl
theorem q1574 : (Jvm.Cond.laysFinal "RaisedPressModel" "RaisedPressModel" "laid" "[I") ∈ lw_all := lw_g (lw_at lw_m7 15 rfl) rfl
theorem q1575 : (Jvm.Cond.soleField "RaisedPressModel" "laid") ∈ lw_all := lw_g (lw_at lw_m7 16 rfl) rfl
theorem q1576 : (Jvm.Cond.laysFinal "RaisedPressModel" "RaisedPressModel" "lineFrom" "[I") ∈ lw_all := lw_g (lw_at lw_m7 17 rfl) rfl
theorem q1577 : (Jvm.Cond.soleField "RaisedPressModel" "lineFrom") ∈ lw_all := lw_g (lw_at lw_m7 18 rfl) rfl
theorem q1578 : (Jvm.Cond.laysFinal "RaisedPressModel" "RaisedPressModel" "lineMany" "[I") ∈ lw_all := lw_g (lw_at lw_m7 19 rfl) rfl
theorem q1579 : (Jvm.Cond.soleField "RaisedPressModel" "lineMany") ∈ lw_all := lw_g (lw_at lw_m7 20 rfl) rfl
theorem q1580 : (Jvm.Cond.laysFinal "RaisedPressModel" "RaisedPressModel" "pieceLine" "[I") ∈ lw_all := lw_g (lw_at lw_m7 21 rfl) rfl
theorem q1581 : (Jvm.Cond.soleField "RaisedPressModel" "pieceLine") ∈ lw_all := lw_g (lw_at lw_m7 22 rfl) rfl
theorem q1582 : (Jvm.Cond.laysFinal "RaisedPressModel" "RaisedPressModel" "pieceEnd" "[I") ∈ lw_all := lw_g (lw_at lw_m7 23 rfl) rfl
theorem q1583 : (Jvm.Cond.soleField "RaisedPressModel" "pieceEnd") ∈ lw_all := lw_g (lw_at lw_m7 24 rfl) rfl
theorem q1584 : (Jvm.Cond.lays "RaisedPressModel" "RaisedPressModel" "lines0" "I") ∈ lw_all := lw_g (lw_at lw_m7 25 rfl) rfl
theorem q1585 : (Jvm.Cond.soleField "RaisedPressModel" "lines0") ∈ lw_all := lw_g (lw_at lw_m7 26 rfl) rfl
theorem q1586 : (Jvm.Cond.lays "RaisedPressModel" "RaisedPressModel" "laidMany" "I") ∈ lw_all := lw_g (lw_at lw_m7 27 rfl) rfl
theorem q1587 : (Jvm.Cond.soleField "RaisedPressModel" "laidMany") ∈ lw_all := lw_g (lw_at lw_m7 28 rfl) rfl
theorem q1588 : (Jvm.Cond.lays "RaisedPressModel" "RaisedPressModel" "hyphens0" "I") ∈ lw_all := lw_g (lw_at lw_m7 29 rfl) rfl
theorem q1589 : (Jvm.Cond.soleField "RaisedPressModel" "hyphens0") ∈ lw_all := lw_g (lw_at lw_m7 30 rfl) rfl
theorem q1590 : (Jvm.Cond.laysFinal "RaisedPressModel" "RaisedPressModel" "raggedFrom" "[I") ∈ lw_all := lw_g (lw_at lw_m7 31 rfl) rfl
theorem q1591 : (Jvm.Cond.soleField "RaisedPressModel" "raggedFrom") ∈ lw_all := lw_g (lw_at lw_m7 32 rfl) rfl
theorem q1592 : (Jvm.Cond.laysFinal "RaisedPressModel" "RaisedPressModel" "leastFrom" "[I") ∈ lw_all := lw_g (lw_at lw_m7 33 rfl) rfl
theorem q1593 : (Jvm.Cond.soleField "RaisedPressModel" "leastFrom") ∈ lw_all := lw_g (lw_at lw_m7 34 rfl) rfl
theorem q1594 : (Jvm.Cond.laysFinal "RaisedPressModel" "RaisedPressModel" "asked" "[I") ∈ lw_all := lw_g (lw_at lw_m7 35 rfl) rfl
theorem q1595 : (Jvm.Cond.soleField "RaisedPressModel" "asked") ∈ lw_all := lw_g (lw_at lw_m7 36 rfl) rfl
theorem q1596 : (Jvm.Cond.laysFinal "RaisedPressModel" "RaisedPressModel" "failing" "[I") ∈ lw_all := lw_g (lw_at lw_m7 37 rfl) rfl
theorem q1597 : (Jvm.Cond.soleField "RaisedPressModel" "failing") ∈ lw_all := lw_g (lw_at lw_m7 38 rfl) rfl
theorem q1598 : (Jvm.Cond.laysFinal "RaisedPressModel" "RaisedPressModel" "waysFrom" "[I") ∈ lw_all := lw_g (lw_at lw_m7 39 rfl) rfl
theorem q1599 : (Jvm.Cond.soleField "RaisedPressModel" "waysFrom") ∈ lw_all := lw_g (lw_at lw_m7 40 rfl) rfl
theorem q1600 : (Jvm.Cond.laysFinal "RaisedPressModel" "RaisedPressModel" "firstRules" "[I") ∈ lw_all := lw_g (lw_at lw_m7 41 rfl) rfl
theorem q1601 : (Jvm.Cond.soleField "RaisedPressModel" "firstRules") ∈ lw_all := lw_g (lw_at lw_m7 42 rfl) rfl
theorem q1602 : (Jvm.Cond.lays "RaisedPressModel" "RaisedPressModel" "firstMany" "I") ∈ lw_all := lw_g (lw_at lw_m7 43 rfl) rfl
theorem q1603 : (Jvm.Cond.soleField "RaisedPressModel" "firstMany") ∈ lw_all := lw_g (lw_at lw_m7 44 rfl) rfl
theorem q1604 : (Jvm.Cond.lays "RaisedPressModel" "RaisedPressModel" "firstLetters" "I") ∈ lw_all := lw_g (lw_at lw_m7 45 rfl) rfl
theorem q1605 : (Jvm.Cond.soleField "RaisedPressModel" "firstLetters") ∈ lw_all := lw_g (lw_at lw_m7 46 rfl) rfl
theorem q1606 : (Jvm.Cond.laysFinal "RaisedPressModel" "RaisedPressModel" "tried" "[I") ∈ lw_all := lw_g (lw_at lw_m7 47 rfl) rfl
theorem q1607 : (Jvm.Cond.soleField "RaisedPressModel" "tried") ∈ lw_all := lw_g (lw_at lw_m7 48 rfl) rfl
theorem q1608 : (Jvm.Cond.laysFinal "RaisedPressModel" "RaisedPressModel" "triedAt" "[I") ∈ lw_all := lw_g (lw_at lw_m7 49 rfl) rfl
theorem q1609 : (Jvm.Cond.soleField "RaisedPressModel" "triedAt") ∈ lw_all := lw_g (lw_at lw_m7 50 rfl) rfl
theorem q1610 : (Jvm.Cond.laysFinal "RaisedPressModel" "RaisedPressModel" "overs" "[I") ∈ lw_all := lw_g (lw_at lw_m7 51 rfl) rfl
theorem q1611 : (Jvm.Cond.soleField "RaisedPressModel" "overs") ∈ lw_all := lw_g (lw_at lw_m7 52 rfl) rfl
theorem q1612 : (Jvm.Cond.lays "RaisedPressModel" "RaisedPressModel" "drawn" "I") ∈ lw_all := lw_g (lw_at lw_m7 53 rfl) rfl
theorem q1613 : (Jvm.Cond.soleField "RaisedPressModel" "drawn") ∈ lw_all := lw_g (lw_at lw_m7 54 rfl) rfl
theorem q1614 : (Jvm.Cond.lays "RaisedPressModel" "RaisedPressModel" "wornMany" "I") ∈ lw_all := lw_g (lw_at lw_m7 55 rfl) rfl
theorem q1615 : (Jvm.Cond.soleField "RaisedPressModel" "wornMany") ∈ lw_all := lw_g (lw_at lw_m7 56 rfl) rfl
theorem q1616 : (Jvm.Cond.laysFinal "RaisedPressModel" "RaisedPressModel" "worn0" "[I") ∈ lw_all := lw_g (lw_at lw_m7 57 rfl) rfl
theorem q1617 : (Jvm.Cond.soleField "RaisedPressModel" "worn0") ∈ lw_all := lw_g (lw_at lw_m7 58 rfl) rfl
theorem q1618 : (Jvm.Cond.laysFinal "RaisedPressModel" "RaisedPressModel" "toldWorn" "[I") ∈ lw_all := lw_g (lw_at lw_m7 59 rfl) rfl
theorem q1619 : (Jvm.Cond.soleField "RaisedPressModel" "toldWorn") ∈ lw_all := lw_g (lw_at lw_m7 60 rfl) rfl
theorem q1620 : (Jvm.Cond.lays "RaisedPressModel" "RaisedPressModel" "marks" "I") ∈ lw_all := lw_g (lw_at lw_m7 61 rfl) rfl
theorem q1621 : (Jvm.Cond.soleField "RaisedPressModel" "marks") ∈ lw_all := lw_g (lw_at lw_m7 62 rfl) rfl
theorem q1622 : (Jvm.Cond.superclass "RaisedPressModel" "java/lang/Object") ∈ lw_all := lw_g (lw_at lw_m7 63 rfl) rfl
theorem q1624 : (Jvm.Cond.instanceMethod ({ cls := "RaisedPressModel", name := "status", desc := "()I" } : Jvm.MethodName)) ∈ lw_all := lw_g (lw_at lw_m7 65 rfl) rfl
theorem q1625 : (Jvm.Cond.selects "RaisedPressModel" ({ cls := "RaisedPressModel", name := "status", desc := "()I" } : Jvm.MethodName) ({ cls := "RaisedPressModel", name := "status", desc := "()I" } : Jvm.MethodName)) ∈ lw_all := lw_g (lw_at lw_m7 66 rfl) rfl
theorem q1626 : (Jvm.Cond.code ({ cls := "RaisedPressModel", name := "status", desc := "()I" } : Jvm.MethodName) prog_17_method_3_code (1 : Nat) (Option.some Jvm.ClassFile.FieldType.int)) ∈ lw_all := lw_g (lw_at lw_m7 67 rfl) rfl
theorem q1628 : (Jvm.Cond.instanceMethod ({ cls := "RaisedPressModel", name := "top", desc := "()J" } : Jvm.MethodName)) ∈ lw_all := lw_g (lw_at lw_m7 69 rfl) rfl
theorem q1629 : (Jvm.Cond.selects "RaisedPressModel" ({ cls := "RaisedPressModel", name := "top", desc := "()J" } : Jvm.MethodName) ({ cls := "RaisedPressModel", name := "top", desc := "()J" } : Jvm.MethodName)) ∈ lw_all := lw_g (lw_at lw_m7 70 rfl) rfl
theorem q1630 : (Jvm.Cond.code ({ cls := "RaisedPressModel", name := "top", desc := "()J" } : Jvm.MethodName) prog_17_method_4_code (1 : Nat) (Option.some Jvm.ClassFile.FieldType.long)) ∈ lw_all := lw_g (lw_at lw_m7 71 rfl) rfl
theorem q1632 : (Jvm.Cond.instanceMethod ({ cls := "RaisedPressModel", name := "bottom", desc := "()J" } : Jvm.MethodName)) ∈ lw_all := lw_g (lw_at lw_m7 73 rfl) rfl
theorem q1633 : (Jvm.Cond.selects "RaisedPressModel" ({ cls := "RaisedPressModel", name := "bottom", desc := "()J" } : Jvm.MethodName) ({ cls := "RaisedPressModel", name := "bottom", desc := "()J" } : Jvm.MethodName)) ∈ lw_all := lw_g (lw_at lw_m7 74 rfl) rfl
theorem q1634 : (Jvm.Cond.code ({ cls := "RaisedPressModel", name := "bottom", desc := "()J" } : Jvm.MethodName) prog_17_method_5_code (1 : Nat) (Option.some Jvm.ClassFile.FieldType.long)) ∈ lw_all := lw_g (lw_at lw_m7 75 rfl) rfl
theorem q1636 : (Jvm.Cond.instanceMethod ({ cls := "RaisedPressModel", name := "tray", desc := "(III)Z" } : Jvm.MethodName)) ∈ lw_all := lw_g (lw_at lw_m7 77 rfl) rfl
theorem q1637 : (Jvm.Cond.selects "RaisedPressModel" ({ cls := "RaisedPressModel", name := "tray", desc := "(III)Z" } : Jvm.MethodName) ({ cls := "RaisedPressModel", name := "tray", desc := "(III)Z" } : Jvm.MethodName)) ∈ lw_all := lw_g (lw_at lw_m7 78 rfl) rfl
theorem q1638 : (Jvm.Cond.code ({ cls := "RaisedPressModel", name := "tray", desc := "(III)Z" } : Jvm.MethodName) prog_17_method_12_code (5 : Nat) (Option.some Jvm.ClassFile.FieldType.boolean)) ∈ lw_all := lw_g (lw_at lw_m7 79 rfl) rfl
theorem q1639 : (Jvm.Cond.methodLink "RaisedPressModel" (109 : Nat) ({ cls := "RaisedPressModel", name := "isTray", desc := "(I)Z" } : Jvm.MethodName)) ∈ lw_all := lw_g (lw_at lw_m7 80 rfl) rfl
theorem q1640 : (Jvm.Cond.static ({ cls := "RaisedPressModel", name := "isTray", desc := "(I)Z" } : Jvm.MethodName)) ∈ lw_all := lw_g (lw_at lw_m7 81 rfl) rfl
theorem q1641 : (Jvm.Cond.code ({ cls := "RaisedPressModel", name := "isTray", desc := "(I)Z" } : Jvm.MethodName) prog_17_method_10_code (1 : Nat) (Option.some Jvm.ClassFile.FieldType.boolean)) ∈ lw_all := lw_g (lw_at lw_m7 82 rfl) rfl
theorem q1642 : (Jvm.Cond.methodLink "RaisedPressModel" (105 : Nat) ({ cls := "RaisedPressModel", name := "is", desc := "(I)Z" } : Jvm.MethodName)) ∈ lw_all := lw_g (lw_at lw_m7 83 rfl) rfl
theorem q1643 : (Jvm.Cond.privateMethod ({ cls := "RaisedPressModel", name := "is", desc := "(I)Z" } : Jvm.MethodName)) ∈ lw_tbl := lw_at lw_m7 84 rfl
theorem q1644 : (Jvm.Cond.instanceMethod ({ cls := "RaisedPressModel", name := "is", desc := "(I)Z" } : Jvm.MethodName)) ∈ lw_all := lw_g (lw_at lw_m7 85 rfl) rfl
theorem q1645 : (Jvm.Cond.code ({ cls := "RaisedPressModel", name := "is", desc := "(I)Z" } : Jvm.MethodName) prog_17_method_6_code (2 : Nat) (Option.some Jvm.ClassFile.FieldType.boolean)) ∈ lw_all := lw_g (lw_at lw_m7 86 rfl) rfl
theorem q1647 : (Jvm.Cond.instanceMethod ({ cls := "RaisedPressModel", name := "write", desc := "(IIJ)Z" } : Jvm.MethodName)) ∈ lw_all := lw_g (lw_at lw_m7 88 rfl) rfl
theorem q1648 : (Jvm.Cond.selects "RaisedPressModel" ({ cls := "RaisedPressModel", name := "write", desc := "(IIJ)Z" } : Jvm.MethodName) ({ cls := "RaisedPressModel", name := "write", desc := "(IIJ)Z" } : Jvm.MethodName)) ∈ lw_all := lw_g (lw_at lw_m7 89 rfl) rfl
theorem q1649 : (Jvm.Cond.code ({ cls := "RaisedPressModel", name := "write", desc := "(IIJ)Z" } : Jvm.MethodName) prog_17_method_14_code (6 : Nat) (Option.some Jvm.ClassFile.FieldType.boolean)) ∈ lw_all := lw_g (lw_at lw_m7 90 rfl) rfl
theorem q1650 : (Jvm.Cond.methodLink "RaisedPressModel" (112 : Nat) ({ cls := "RaisedPressModel", name := "wrongPlace", desc := "(II)I" } : Jvm.MethodName)) ∈ lw_all := lw_g (lw_at lw_m7 91 rfl) rfl
theorem q1651 : (Jvm.Cond.privateMethod ({ cls := "RaisedPressModel", name := "wrongPlace", desc := "(II)I" } : Jvm.MethodName)) ∈ lw_tbl := lw_at lw_m7 92 rfl
theorem q1652 : (Jvm.Cond.instanceMethod ({ cls := "RaisedPressModel", name := "wrongPlace", desc := "(II)I" } : Jvm.MethodName)) ∈ lw_all := lw_g (lw_at lw_m7 93 rfl) rfl
theorem q1653 : (Jvm.Cond.code ({ cls := "RaisedPressModel", name := "wrongPlace", desc := "(II)I" } : Jvm.MethodName) prog_17_method_13_code (3 : Nat) (Option.some Jvm.ClassFile.FieldType.int)) ∈ lw_all := lw_g (lw_at lw_m7 94 rfl) rfl
theorem q1654 : (Jvm.Cond.methodLink "RaisedPressModel" (116 : Nat) ({ cls := "RaisedPressModel", name := "cut", desc := "(JI)J" } : Jvm.MethodName)) ∈ lw_all := lw_g (lw_at lw_m7 95 rfl) rfl
theorem q1655 : (Jvm.Cond.static ({ cls := "RaisedPressModel", name := "cut", desc := "(JI)J" } : Jvm.MethodName)) ∈ lw_all := lw_g (lw_at lw_m7 96 rfl) rfl
theorem q1656 : (Jvm.Cond.code ({ cls := "RaisedPressModel", name := "cut", desc := "(JI)J" } : Jvm.MethodName) prog_17_method_11_code (3 : Nat) (Option.some Jvm.ClassFile.FieldType.long)) ∈ lw_all := lw_g (lw_at lw_m7 97 rfl) rfl
theorem q1658 : (Jvm.Cond.instanceMethod ({ cls := "RaisedPressModel", name := "read", desc := "(II)J" } : Jvm.MethodName)) ∈ lw_all := lw_g (lw_at lw_m7 99 rfl) rfl
theorem q1659 : (Jvm.Cond.selects "RaisedPressModel" ({ cls := "RaisedPressModel", name := "read", desc := "(II)J" } : Jvm.MethodName) ({ cls := "RaisedPressModel", name := "read", desc := "(II)J" } : Jvm.MethodName)) ∈ lw_all := lw_g (lw_at lw_m7 100 rfl) rfl
theorem q1660 : (Jvm.Cond.code ({ cls := "RaisedPressModel", name := "read", desc := "(II)J" } : Jvm.MethodName) prog_17_method_15_code (3 : Nat) (Option.some Jvm.ClassFile.FieldType.long)) ∈ lw_all := lw_g (lw_at lw_m7 101 rfl) rfl
theorem q1661 : (Jvm.Cond.constantLong "RaisedPressModel" (120 : Nat) (-1 : Int64)) ∈ lw_all := lw_g (lw_at lw_m7 102 rfl) rfl
theorem q1663 : (Jvm.Cond.instanceMethod ({ cls := "RaisedPressModel", name := "pour", desc := "(IIIII)Z" } : Jvm.MethodName)) ∈ lw_all := lw_g (lw_at lw_m7 104 rfl) rfl
theorem q1664 : (Jvm.Cond.selects "RaisedPressModel" ({ cls := "RaisedPressModel", name := "pour", desc := "(IIIII)Z" } : Jvm.MethodName) ({ cls := "RaisedPressModel", name := "pour", desc := "(IIIII)Z" } : Jvm.MethodName)) ∈ lw_all := lw_g (lw_at lw_m7 105 rfl) rfl
theorem q1665 : (Jvm.Cond.code ({ cls := "RaisedPressModel", name := "pour", desc := "(IIIII)Z" } : Jvm.MethodName) prog_17_method_16_code (8 : Nat) (Option.some Jvm.ClassFile.FieldType.boolean)) ∈ lw_all := lw_g (lw_at lw_m7 106 rfl) rfl
theorem q1667 : (Jvm.Cond.instanceMethod ({ cls := "RaisedPressModel", name := "feed", desc := "(IIIII)I" } : Jvm.MethodName)) ∈ lw_all := lw_g (lw_at lw_m7 108 rfl) rfl
theorem q1668 : (Jvm.Cond.selects "RaisedPressModel" ({ cls := "RaisedPressModel", name := "feed", desc := "(IIIII)I" } : Jvm.MethodName) ({ cls := "RaisedPressModel", name := "feed", desc := "(IIIII)I" } : Jvm.MethodName)) ∈ lw_all := lw_g (lw_at lw_m7 109 rfl) rfl
theorem q1669 : (Jvm.Cond.code ({ cls := "RaisedPressModel", name := "feed", desc := "(IIIII)I" } : Jvm.MethodName) prog_17_method_18_code (6 : Nat) (Option.some Jvm.ClassFile.FieldType.int)) ∈ lw_all := lw_g (lw_at lw_m7 110 rfl) rfl
theorem q1670 : (Jvm.Cond.methodLink "RaisedPressModel" (125 : Nat) ({ cls := "RaisedPressModel", name := "four", desc := "(I)V" } : Jvm.MethodName)) ∈ lw_all := lw_g (lw_at lw_m7 111 rfl) rfl
theorem q1671 : (Jvm.Cond.privateMethod ({ cls := "RaisedPressModel", name := "four", desc := "(I)V" } : Jvm.MethodName)) ∈ lw_tbl := lw_at lw_m7 112 rfl
theorem q1672 : (Jvm.Cond.instanceMethod ({ cls := "RaisedPressModel", name := "four", desc := "(I)V" } : Jvm.MethodName)) ∈ lw_all := lw_g (lw_at lw_m7 113 rfl) rfl
theorem q1673 : (Jvm.Cond.code ({ cls := "RaisedPressModel", name := "four", desc := "(I)V" } : Jvm.MethodName) prog_17_method_19_code (3 : Nat) (Option.none : Option Jvm.ClassFile.FieldType)) ∈ lw_all := lw_g (lw_at lw_m7 114 rfl) rfl
theorem q1675 : (Jvm.Cond.instanceMethod ({ cls := "RaisedPressModel", name := "fault", desc := "(I)I" } : Jvm.MethodName)) ∈ lw_all := lw_g (lw_at lw_m7 116 rfl) rfl
theorem q1676 : (Jvm.Cond.selects "RaisedPressModel" ({ cls := "RaisedPressModel", name := "fault", desc := "(I)I" } : Jvm.MethodName) ({ cls := "RaisedPressModel", name := "fault", desc := "(I)I" } : Jvm.MethodName)) ∈ lw_all := lw_g (lw_at lw_m7 117 rfl) rfl
theorem q1677 : (Jvm.Cond.code ({ cls := "RaisedPressModel", name := "fault", desc := "(I)I" } : Jvm.MethodName) prog_17_method_31_code (2 : Nat) (Option.some Jvm.ClassFile.FieldType.int)) ∈ lw_all := lw_g (lw_at lw_m7 118 rfl) rfl
theorem q1679 : (Jvm.Cond.instanceMethod ({ cls := "RaisedPressModel", name := "press", desc := "(I)I" } : Jvm.MethodName)) ∈ lw_all := lw_g (lw_at lw_m7 120 rfl) rfl
theorem q1680 : (Jvm.Cond.selects "RaisedPressModel" ({ cls := "RaisedPressModel", name := "press", desc := "(I)I" } : Jvm.MethodName) ({ cls := "RaisedPressModel", name := "press", desc := "(I)I" } : Jvm.MethodName)) ∈ lw_all := lw_g (lw_at lw_m7 121 rfl) rfl
theorem q1681 : (Jvm.Cond.code ({ cls := "RaisedPressModel", name := "press", desc := "(I)I" } : Jvm.MethodName) prog_17_method_37_code (4 : Nat) (Option.some Jvm.ClassFile.FieldType.int)) ∈ lw_all := lw_g (lw_at lw_m7 122 rfl) rfl
theorem q1682 : (Jvm.Cond.methodLink "RaisedPressModel" (221 : Nat) ({ cls := "RaisedPressModel", name := "begins", desc := "(II)Z" } : Jvm.MethodName)) ∈ lw_all := lw_g (lw_at lw_m7 123 rfl) rfl
theorem q1683 : (Jvm.Cond.privateMethod ({ cls := "RaisedPressModel", name := "begins", desc := "(II)Z" } : Jvm.MethodName)) ∈ lw_tbl := lw_at lw_m7 124 rfl
theorem q1684 : (Jvm.Cond.instanceMethod ({ cls := "RaisedPressModel", name := "begins", desc := "(II)Z" } : Jvm.MethodName)) ∈ lw_all := lw_g (lw_at lw_m7 125 rfl) rfl
theorem q1685 : (Jvm.Cond.code ({ cls := "RaisedPressModel", name := "begins", desc := "(II)Z" } : Jvm.MethodName) prog_17_method_27_code (4 : Nat) (Option.some Jvm.ClassFile.FieldType.boolean)) ∈ lw_all := lw_g (lw_at lw_m7 126 rfl) rfl
theorem q1686 : (Jvm.Cond.methodLink "RaisedPressModel" (175 : Nat) ({ cls := "RaisedPressModel", name := "ahead", desc := "()V" } : Jvm.MethodName)) ∈ lw_all := lw_g (lw_at lw_m7 127 rfl) rfl
theorem q1687 : (Jvm.Cond.privateMethod ({ cls := "RaisedPressModel", name := "ahead", desc := "()V" } : Jvm.MethodName)) ∈ lw_tbl := lw_at lw_m7 128 rfl
theorem q1688 : (Jvm.Cond.instanceMethod ({ cls := "RaisedPressModel", name := "ahead", desc := "()V" } : Jvm.MethodName)) ∈ lw_all := lw_g (lw_at lw_m7 129 rfl) rfl
theorem q1689 : (Jvm.Cond.code ({ cls := "RaisedPressModel", name := "ahead", desc := "()V" } : Jvm.MethodName) prog_17_method_23_code (2 : Nat) (Option.none : Option Jvm.ClassFile.FieldType)) ∈ lw_all := lw_g (lw_at lw_m7 130 rfl) rfl
theorem q1690 : (Jvm.Cond.methodLink "RaisedPressModel" (134 : Nat) ({ cls := "RaisedPressModel", name := "byteAt", desc := "(I)I" } : Jvm.MethodName)) ∈ lw_all := lw_g (lw_at lw_m7 131 rfl) rfl
theorem q1691 : (Jvm.Cond.privateMethod ({ cls := "RaisedPressModel", name := "byteAt", desc := "(I)I" } : Jvm.MethodName)) ∈ lw_tbl := lw_at lw_m7 132 rfl
theorem q1692 : (Jvm.Cond.instanceMethod ({ cls := "RaisedPressModel", name := "byteAt", desc := "(I)I" } : Jvm.MethodName)) ∈ lw_all := lw_g (lw_at lw_m7 133 rfl) rfl
theorem q1693 : (Jvm.Cond.code ({ cls := "RaisedPressModel", name := "byteAt", desc := "(I)I" } : Jvm.MethodName) prog_17_method_20_code (2 : Nat) (Option.some Jvm.ClassFile.FieldType.int)) ∈ lw_all := lw_g (lw_at lw_m7 134 rfl) rfl
theorem q1694 : (Jvm.Cond.methodLink "RaisedPressModel" (147 : Nat) ({ cls := "RaisedPressModel", name := "isSmall", desc := "(I)Z" } : Jvm.MethodName)) ∈ lw_all := lw_g (lw_at lw_m7 135 rfl) rfl
theorem q1695 : (Jvm.Cond.static ({ cls := "RaisedPressModel", name := "isSmall", desc := "(I)Z" } : Jvm.MethodName)) ∈ lw_all := lw_g (lw_at lw_m7 136 rfl) rfl
theorem q1696 : (Jvm.Cond.code ({ cls := "RaisedPressModel", name := "isSmall", desc := "(I)Z" } : Jvm.MethodName) prog_17_method_21_code (1 : Nat) (Option.some Jvm.ClassFile.FieldType.boolean)) ∈ lw_all := lw_g (lw_at lw_m7 137 rfl) rfl
theorem q1697 : (Jvm.Cond.methodLink "RaisedPressModel" (150 : Nat) ({ cls := "RaisedPressModel", name := "isDigit", desc := "(I)Z" } : Jvm.MethodName)) ∈ lw_all := lw_g (lw_at lw_m7 138 rfl) rfl
theorem q1698 : (Jvm.Cond.static ({ cls := "RaisedPressModel", name := "isDigit", desc := "(I)Z" } : Jvm.MethodName)) ∈ lw_all := lw_g (lw_at lw_m7 139 rfl) rfl
theorem q1699 : (Jvm.Cond.code ({ cls := "RaisedPressModel", name := "isDigit", desc := "(I)Z" } : Jvm.MethodName) prog_17_method_22_code (1 : Nat) (Option.some Jvm.ClassFile.FieldType.boolean)) ∈ lw_all := lw_g (lw_at lw_m7 140 rfl) rfl
theorem q1700 : (Jvm.Cond.constant "RaisedPressModel" (153 : Nat) (100000 : Int32)) ∈ lw_all := lw_g (lw_at lw_m7 141 rfl) rfl
theorem q1701 : (Jvm.Cond.methodLink "RaisedPressModel" (154 : Nat) ({ cls := "java/lang/Math", name := "min", desc := "(II)I" } : Jvm.MethodName)) ∈ lw_all := lw_g (lw_at lw_m7 142 rfl) rfl
theorem q1702 : (Jvm.Cond.methodLink "RaisedPressModel" (188 : Nat) ({ cls := "RaisedPressModel", name := "refuse", desc := "(I)I" } : Jvm.MethodName)) ∈ lw_all := lw_g (lw_at lw_m7 143 rfl) rfl
theorem q1703 : (Jvm.Cond.privateMethod ({ cls := "RaisedPressModel", name := "refuse", desc := "(I)I" } : Jvm.MethodName)) ∈ lw_tbl := lw_at lw_m7 144 rfl
theorem q1704 : (Jvm.Cond.instanceMethod ({ cls := "RaisedPressModel", name := "refuse", desc := "(I)I" } : Jvm.MethodName)) ∈ lw_all := lw_g (lw_at lw_m7 145 rfl) rfl
theorem q1705 : (Jvm.Cond.code ({ cls := "RaisedPressModel", name := "refuse", desc := "(I)I" } : Jvm.MethodName) prog_17_method_7_code (2 : Nat) (Option.some Jvm.ClassFile.FieldType.int)) ∈ lw_all := lw_g (lw_at lw_m7 146 rfl) rfl
theorem q1706 : (Jvm.Cond.methodLink "RaisedPressModel" (224 : Nat) ({ cls := "RaisedPressModel", name := "pressPart", desc := "()Z" } : Jvm.MethodName)) ∈ lw_all := lw_g (lw_at lw_m7 147 rfl) rfl
theorem q1707 : (Jvm.Cond.privateMethod ({ cls := "RaisedPressModel", name := "pressPart", desc := "()Z" } : Jvm.MethodName)) ∈ lw_tbl := lw_at lw_m7 148 rfl
theorem q1708 : (Jvm.Cond.instanceMethod ({ cls := "RaisedPressModel", name := "pressPart", desc := "()Z" } : Jvm.MethodName)) ∈ lw_all := lw_g (lw_at lw_m7 149 rfl) rfl
theorem q1709 : (Jvm.Cond.code ({ cls := "RaisedPressModel", name := "pressPart", desc := "()Z" } : Jvm.MethodName) prog_17_method_36_code (2 : Nat) (Option.some Jvm.ClassFile.FieldType.boolean)) ∈ lw_all := lw_g (lw_at lw_m7 150 rfl) rfl
theorem q1710 : (Jvm.Cond.stringRef "RaisedPressModel" (197 : Nat) " rule capital number hyphen line page cells begin middle end alone ") ∈ lw_tbl := lw_at lw_m7 151 rfl
theorem q1711 : (Jvm.Cond.methodLink "RaisedPressModel" (184 : Nat) ({ cls := "RaisedPressModel", name := "inWords", desc := "(Ljava/lang/String;)I" } : Jvm.MethodName)) ∈ lw_all := lw_g (lw_at lw_m7 152 rfl) rfl
theorem q1712 : (Jvm.Cond.privateMethod ({ cls := "RaisedPressModel", name := "inWords", desc := "(Ljava/lang/String;)I" } : Jvm.MethodName)) ∈ lw_tbl := lw_at lw_m7 153 rfl
theorem q1713 : (Jvm.Cond.instanceMethod ({ cls := "RaisedPressModel", name := "inWords", desc := "(Ljava/lang/String;)I" } : Jvm.MethodName)) ∈ lw_all := lw_g (lw_at lw_m7 154 rfl) rfl
theorem q1714 : (Jvm.Cond.code ({ cls := "RaisedPressModel", name := "inWords", desc := "(Ljava/lang/String;)I" } : Jvm.MethodName) prog_17_method_25_code (7 : Nat) (Option.some Jvm.ClassFile.FieldType.int)) ∈ lw_all := lw_g (lw_at lw_m7 155 rfl) rfl
theorem q1715 : (Jvm.Cond.methodLink "RaisedPressModel" (159 : Nat) ({ cls := "java/lang/String", name := "length", desc := "()I" } : Jvm.MethodName)) ∈ lw_all := lw_g (lw_at lw_m7 156 rfl) rfl
theorem q1716 : (Jvm.Cond.methodLink "RaisedPressModel" (165 : Nat) ({ cls := "java/lang/String", name := "charAt", desc := "(I)C" } : Jvm.MethodName)) ∈ lw_all := lw_g (lw_at lw_m7 157 rfl) rfl
theorem q1717 : (Jvm.Cond.methodLink "RaisedPressModel" (210 : Nat) ({ cls := "RaisedPressModel", name := "aRule", desc := "()Z" } : Jvm.MethodName)) ∈ lw_all := lw_g (lw_at lw_m7 158 rfl) rfl
theorem q1718 : (Jvm.Cond.privateMethod ({ cls := "RaisedPressModel", name := "aRule", desc := "()Z" } : Jvm.MethodName)) ∈ lw_tbl := lw_at lw_m7 159 rfl
theorem q1719 : (Jvm.Cond.instanceMethod ({ cls := "RaisedPressModel", name := "aRule", desc := "()Z" } : Jvm.MethodName)) ∈ lw_all := lw_g (lw_at lw_m7 160 rfl) rfl
theorem q1720 : (Jvm.Cond.code ({ cls := "RaisedPressModel", name := "aRule", desc := "()Z" } : Jvm.MethodName) prog_17_method_35_code (5 : Nat) (Option.some Jvm.ClassFile.FieldType.boolean)) ∈ lw_all := lw_g (lw_at lw_m7 161 rfl) rfl
theorem q1721 : (Jvm.Cond.methodLink "RaisedPressModel" (194 : Nat) ({ cls := "RaisedPressModel", name := "ruleAt", desc := "(II)I" } : Jvm.MethodName)) ∈ lw_all := lw_g (lw_at lw_m7 162 rfl) rfl
theorem q1722 : (Jvm.Cond.static ({ cls := "RaisedPressModel", name := "ruleAt", desc := "(II)I" } : Jvm.MethodName)) ∈ lw_all := lw_g (lw_at lw_m7 163 rfl) rfl
theorem q1723 : (Jvm.Cond.code ({ cls := "RaisedPressModel", name := "ruleAt", desc := "(II)I" } : Jvm.MethodName) prog_17_method_33_code (2 : Nat) (Option.some Jvm.ClassFile.FieldType.int)) ∈ lw_all := lw_g (lw_at lw_m7 164 rfl) rfl
theorem q1724 : (Jvm.Cond.methodLink "RaisedPressModel" (181 : Nat) ({ cls := "RaisedPressModel", name := "fails", desc := "(I)Z" } : Jvm.MethodName)) ∈ lw_all := lw_g (lw_at lw_m7 165 rfl) rfl
theorem q1725 : (Jvm.Cond.privateMethod ({ cls := "RaisedPressModel", name := "fails", desc := "(I)Z" } : Jvm.MethodName)) ∈ lw_tbl := lw_at lw_m7 166 rfl
theorem q1726 : (Jvm.Cond.instanceMethod ({ cls := "RaisedPressModel", name := "fails", desc := "(I)Z" } : Jvm.MethodName)) ∈ lw_all := lw_g (lw_at lw_m7 167 rfl) rfl
theorem q1727 : (Jvm.Cond.code ({ cls := "RaisedPressModel", name := "fails", desc := "(I)Z" } : Jvm.MethodName) prog_17_method_26_code (2 : Nat) (Option.some Jvm.ClassFile.FieldType.boolean)) ∈ lw_all := lw_g (lw_at lw_m7 168 rfl) rfl
theorem q1728 : (Jvm.Cond.methodLink "RaisedPressModel" (199 : Nat) ({ cls := "RaisedPressModel", name := "wantWord", desc := "(Ljava/lang/String;I)Z" } : Jvm.MethodName)) ∈ lw_all := lw_g (lw_at lw_m7 169 rfl) rfl
theorem q1729 : (Jvm.Cond.privateMethod ({ cls := "RaisedPressModel", name := "wantWord", desc := "(Ljava/lang/String;I)Z" } : Jvm.MethodName)) ∈ lw_tbl := lw_at lw_m7 170 rfl
theorem q1730 : (Jvm.Cond.instanceMethod ({ cls := "RaisedPressModel", name := "wantWord", desc := "(Ljava/lang/String;I)Z" } : Jvm.MethodName)) ∈ lw_all := lw_g (lw_at lw_m7 171 rfl) rfl
theorem q1731 : (Jvm.Cond.code ({ cls := "RaisedPressModel", name := "wantWord", desc := "(Ljava/lang/String;I)Z" } : Jvm.MethodName) prog_17_method_29_code (3 : Nat) (Option.some Jvm.ClassFile.FieldType.boolean)) ∈ lw_all := lw_g (lw_at lw_m7 172 rfl) rfl
theorem q1732 : (Jvm.Cond.methodLink "RaisedPressModel" (178 : Nat) ({ cls := "RaisedPressModel", name := "isSign", desc := "(I)Z" } : Jvm.MethodName)) ∈ lw_all := lw_g (lw_at lw_m7 173 rfl) rfl
theorem q1733 : (Jvm.Cond.privateMethod ({ cls := "RaisedPressModel", name := "isSign", desc := "(I)Z" } : Jvm.MethodName)) ∈ lw_tbl := lw_at lw_m7 174 rfl
theorem q1734 : (Jvm.Cond.instanceMethod ({ cls := "RaisedPressModel", name := "isSign", desc := "(I)Z" } : Jvm.MethodName)) ∈ lw_all := lw_g (lw_at lw_m7 175 rfl) rfl
theorem q1735 : (Jvm.Cond.code ({ cls := "RaisedPressModel", name := "isSign", desc := "(I)Z" } : Jvm.MethodName) prog_17_method_24_code (2 : Nat) (Option.some Jvm.ClassFile.FieldType.boolean)) ∈ lw_all := lw_g (lw_at lw_m7 176 rfl) rfl
theorem q1736 : (Jvm.Cond.methodLink "RaisedPressModel" (203 : Nat) ({ cls := "RaisedPressModel", name := "likeRule", desc := "(II)Z" } : Jvm.MethodName)) ∈ lw_all := lw_g (lw_at lw_m7 177 rfl) rfl
theorem q1737 : (Jvm.Cond.privateMethod ({ cls := "RaisedPressModel", name := "likeRule", desc := "(II)Z" } : Jvm.MethodName)) ∈ lw_tbl := lw_at lw_m7 178 rfl
theorem q1738 : (Jvm.Cond.instanceMethod ({ cls := "RaisedPressModel", name := "likeRule", desc := "(II)Z" } : Jvm.MethodName)) ∈ lw_all := lw_g (lw_at lw_m7 179 rfl) rfl
theorem q1739 : (Jvm.Cond.code ({ cls := "RaisedPressModel", name := "likeRule", desc := "(II)Z" } : Jvm.MethodName) prog_17_method_34_code (5 : Nat) (Option.some Jvm.ClassFile.FieldType.boolean)) ∈ lw_all := lw_g (lw_at lw_m7 180 rfl) rfl
theorem q1740 : (Jvm.Cond.methodLink "RaisedPressModel" (207 : Nat) ({ cls := "RaisedPressModel", name := "wantSign", desc := "(I)Z" } : Jvm.MethodName)) ∈ lw_all := lw_g (lw_at lw_m7 181 rfl) rfl
theorem q1741 : (Jvm.Cond.privateMethod ({ cls := "RaisedPressModel", name := "wantSign", desc := "(I)Z" } : Jvm.MethodName)) ∈ lw_tbl := lw_at lw_m7 182 rfl
theorem q1742 : (Jvm.Cond.instanceMethod ({ cls := "RaisedPressModel", name := "wantSign", desc := "(I)Z" } : Jvm.MethodName)) ∈ lw_all := lw_g (lw_at lw_m7 183 rfl) rfl
theorem q1743 : (Jvm.Cond.code ({ cls := "RaisedPressModel", name := "wantSign", desc := "(I)Z" } : Jvm.MethodName) prog_17_method_28_code (2 : Nat) (Option.some Jvm.ClassFile.FieldType.boolean)) ∈ lw_all := lw_g (lw_at lw_m7 184 rfl) rfl
theorem q1744 : (Jvm.Cond.methodLink "RaisedPressModel" (217 : Nat) ({ cls := "RaisedPressModel", name := "number", desc := "(III)Z" } : Jvm.MethodName)) ∈ lw_all := lw_g (lw_at lw_m7 185 rfl) rfl
theorem q1745 : (Jvm.Cond.privateMethod ({ cls := "RaisedPressModel", name := "number", desc := "(III)Z" } : Jvm.MethodName)) ∈ lw_tbl := lw_at lw_m7 186 rfl
theorem q1746 : (Jvm.Cond.instanceMethod ({ cls := "RaisedPressModel", name := "number", desc := "(III)Z" } : Jvm.MethodName)) ∈ lw_all := lw_g (lw_at lw_m7 187 rfl) rfl
theorem q1747 : (Jvm.Cond.code ({ cls := "RaisedPressModel", name := "number", desc := "(III)Z" } : Jvm.MethodName) prog_17_method_30_code (4 : Nat) (Option.some Jvm.ClassFile.FieldType.boolean)) ∈ lw_all := lw_g (lw_at lw_m7 188 rfl) rfl
theorem q1748 : (Jvm.Cond.methodLink "RaisedPressModel" (227 : Nat) ({ cls := "RaisedPressModel", name := "taken", desc := "(I)I" } : Jvm.MethodName)) ∈ lw_all := lw_g (lw_at lw_m7 189 rfl) rfl
theorem q1749 : (Jvm.Cond.privateMethod ({ cls := "RaisedPressModel", name := "taken", desc := "(I)I" } : Jvm.MethodName)) ∈ lw_tbl := lw_at lw_m7 190 rfl
theorem q1750 : (Jvm.Cond.instanceMethod ({ cls := "RaisedPressModel", name := "taken", desc := "(I)I" } : Jvm.MethodName)) ∈ lw_all := lw_g (lw_at lw_m7 191 rfl) rfl
theorem q1751 : (Jvm.Cond.code ({ cls := "RaisedPressModel", name := "taken", desc := "(I)I" } : Jvm.MethodName) prog_17_method_32_code (2 : Nat) (Option.some Jvm.ClassFile.FieldType.int)) ∈ lw_all := lw_g (lw_at lw_m7 192 rfl) rfl
theorem q1752 : (Jvm.Cond.methodLink "RaisedPressModel" (191 : Nat) ({ cls := "RaisedPressModel", name := "gives", desc := "(I)I" } : Jvm.MethodName)) ∈ lw_all := lw_g (lw_at lw_m7 193 rfl) rfl
theorem q1753 : (Jvm.Cond.privateMethod ({ cls := "RaisedPressModel", name := "gives", desc := "(I)I" } : Jvm.MethodName)) ∈ lw_tbl := lw_at lw_m7 194 rfl
theorem q1754 : (Jvm.Cond.instanceMethod ({ cls := "RaisedPressModel", name := "gives", desc := "(I)I" } : Jvm.MethodName)) ∈ lw_all := lw_g (lw_at lw_m7 195 rfl) rfl
theorem q1755 : (Jvm.Cond.code ({ cls := "RaisedPressModel", name := "gives", desc := "(I)I" } : Jvm.MethodName) prog_17_method_8_code (2 : Nat) (Option.some Jvm.ClassFile.FieldType.int)) ∈ lw_all := lw_g (lw_at lw_m7 196 rfl) rfl
theorem q1757 : (Jvm.Cond.instanceMethod ({ cls := "RaisedPressModel", name := "writing", desc := "(I)I" } : Jvm.MethodName)) ∈ lw_all := lw_g (lw_at lw_m7 198 rfl) rfl
theorem q1758 : (Jvm.Cond.selects "RaisedPressModel" ({ cls := "RaisedPressModel", name := "writing", desc := "(I)I" } : Jvm.MethodName) ({ cls := "RaisedPressModel", name := "writing", desc := "(I)I" } : Jvm.MethodName)) ∈ lw_all := lw_g (lw_at lw_m7 199 rfl) rfl
theorem q1759 : (Jvm.Cond.code ({ cls := "RaisedPressModel", name := "writing", desc := "(I)I" } : Jvm.MethodName) prog_17_method_58_code (3 : Nat) (Option.some Jvm.ClassFile.FieldType.int)) ∈ lw_all := lw_g (lw_at lw_m7 200 rfl) rfl
theorem q1760 : (Jvm.Cond.methodLink "RaisedPressModel" (291 : Nat) ({ cls := "RaisedPressModel", name := "setsAll", desc := "(I)Z" } : Jvm.MethodName)) ∈ lw_all := lw_g (lw_at lw_m7 201 rfl) rfl
theorem q1761 : (Jvm.Cond.privateMethod ({ cls := "RaisedPressModel", name := "setsAll", desc := "(I)Z" } : Jvm.MethodName)) ∈ lw_tbl := lw_at lw_m7 202 rfl
theorem q1762 : (Jvm.Cond.instanceMethod ({ cls := "RaisedPressModel", name := "setsAll", desc := "(I)Z" } : Jvm.MethodName)) ∈ lw_all := lw_g (lw_at lw_m7 203 rfl) rfl
theorem q1763 : (Jvm.Cond.code ({ cls := "RaisedPressModel", name := "setsAll", desc := "(I)Z" } : Jvm.MethodName) prog_17_method_55_code (5 : Nat) (Option.some Jvm.ClassFile.FieldType.boolean)) ∈ lw_all := lw_g (lw_at lw_m7 204 rfl) rfl
theorem q1764 : (Jvm.Cond.methodLink "RaisedPressModel" (239 : Nat) ({ cls := "RaisedPressModel", name := "byteOf", desc := "(I)I" } : Jvm.MethodName)) ∈ lw_all := lw_g (lw_at lw_m7 205 rfl) rfl
theorem q1765 : (Jvm.Cond.privateMethod ({ cls := "RaisedPressModel", name := "byteOf", desc := "(I)I" } : Jvm.MethodName)) ∈ lw_tbl := lw_at lw_m7 206 rfl
theorem q1766 : (Jvm.Cond.instanceMethod ({ cls := "RaisedPressModel", name := "byteOf", desc := "(I)I" } : Jvm.MethodName)) ∈ lw_all := lw_g (lw_at lw_m7 207 rfl) rfl
theorem q1767 : (Jvm.Cond.code ({ cls := "RaisedPressModel", name := "byteOf", desc := "(I)I" } : Jvm.MethodName) prog_17_method_39_code (2 : Nat) (Option.some Jvm.ClassFile.FieldType.int)) ∈ lw_all := lw_g (lw_at lw_m7 208 rfl) rfl
theorem q1768 : (Jvm.Cond.methodLink "RaisedPressModel" (273 : Nat) ({ cls := "RaisedPressModel", name := "isBlank", desc := "(I)Z" } : Jvm.MethodName)) ∈ lw_all := lw_g (lw_at lw_m7 209 rfl) rfl
theorem q1769 : (Jvm.Cond.static ({ cls := "RaisedPressModel", name := "isBlank", desc := "(I)Z" } : Jvm.MethodName)) ∈ lw_all := lw_g (lw_at lw_m7 210 rfl) rfl
theorem q1770 : (Jvm.Cond.code ({ cls := "RaisedPressModel", name := "isBlank", desc := "(I)Z" } : Jvm.MethodName) prog_17_method_40_code (1 : Nat) (Option.some Jvm.ClassFile.FieldType.boolean)) ∈ lw_all := lw_g (lw_at lw_m7 211 rfl) rfl
theorem q1771 : (Jvm.Cond.methodLink "RaisedPressModel" (260 : Nat) ({ cls := "RaisedPressModel", name := "isLetter", desc := "(I)Z" } : Jvm.MethodName)) ∈ lw_all := lw_g (lw_at lw_m7 212 rfl) rfl
theorem q1772 : (Jvm.Cond.static ({ cls := "RaisedPressModel", name := "isLetter", desc := "(I)Z" } : Jvm.MethodName)) ∈ lw_all := lw_g (lw_at lw_m7 213 rfl) rfl
theorem q1773 : (Jvm.Cond.code ({ cls := "RaisedPressModel", name := "isLetter", desc := "(I)Z" } : Jvm.MethodName) prog_17_method_42_code (1 : Nat) (Option.some Jvm.ClassFile.FieldType.boolean)) ∈ lw_all := lw_g (lw_at lw_m7 214 rfl) rfl
theorem q1774 : (Jvm.Cond.methodLink "RaisedPressModel" (236 : Nat) ({ cls := "RaisedPressModel", name := "isGreat", desc := "(I)Z" } : Jvm.MethodName)) ∈ lw_all := lw_g (lw_at lw_m7 215 rfl) rfl
theorem q1775 : (Jvm.Cond.static ({ cls := "RaisedPressModel", name := "isGreat", desc := "(I)Z" } : Jvm.MethodName)) ∈ lw_all := lw_g (lw_at lw_m7 216 rfl) rfl
theorem q1776 : (Jvm.Cond.code ({ cls := "RaisedPressModel", name := "isGreat", desc := "(I)Z" } : Jvm.MethodName) prog_17_method_41_code (1 : Nat) (Option.some Jvm.ClassFile.FieldType.boolean)) ∈ lw_all := lw_g (lw_at lw_m7 217 rfl) rfl
theorem q1777 : (Jvm.Cond.methodLink "RaisedPressModel" (276 : Nat) ({ cls := "RaisedPressModel", name := "isDigit0", desc := "(I)Z" } : Jvm.MethodName)) ∈ lw_all := lw_g (lw_at lw_m7 218 rfl) rfl
theorem q1778 : (Jvm.Cond.static ({ cls := "RaisedPressModel", name := "isDigit0", desc := "(I)Z" } : Jvm.MethodName)) ∈ lw_all := lw_g (lw_at lw_m7 219 rfl) rfl
theorem q1779 : (Jvm.Cond.code ({ cls := "RaisedPressModel", name := "isDigit0", desc := "(I)Z" } : Jvm.MethodName) prog_17_method_43_code (1 : Nat) (Option.some Jvm.ClassFile.FieldType.boolean)) ∈ lw_all := lw_g (lw_at lw_m7 220 rfl) rfl
theorem q1780 : (Jvm.Cond.methodLink "RaisedPressModel" (267 : Nat) ({ cls := "RaisedPressModel", name := "isBad", desc := "(II)Z" } : Jvm.MethodName)) ∈ lw_all := lw_g (lw_at lw_m7 221 rfl) rfl
theorem q1781 : (Jvm.Cond.privateMethod ({ cls := "RaisedPressModel", name := "isBad", desc := "(II)Z" } : Jvm.MethodName)) ∈ lw_tbl := lw_at lw_m7 222 rfl
theorem q1782 : (Jvm.Cond.instanceMethod ({ cls := "RaisedPressModel", name := "isBad", desc := "(II)Z" } : Jvm.MethodName)) ∈ lw_all := lw_g (lw_at lw_m7 223 rfl) rfl
theorem q1783 : (Jvm.Cond.code ({ cls := "RaisedPressModel", name := "isBad", desc := "(II)Z" } : Jvm.MethodName) prog_17_method_38_code (3 : Nat) (Option.some Jvm.ClassFile.FieldType.boolean)) ∈ lw_all := lw_g (lw_at lw_m7 224 rfl) rfl
theorem q1784 : (Jvm.Cond.methodLink "RaisedPressModel" (256 : Nat) ({ cls := "RaisedPressModel", name := "sets", desc := "(II)V" } : Jvm.MethodName)) ∈ lw_all := lw_g (lw_at lw_m7 225 rfl) rfl
theorem q1785 : (Jvm.Cond.privateMethod ({ cls := "RaisedPressModel", name := "sets", desc := "(II)V" } : Jvm.MethodName)) ∈ lw_tbl := lw_at lw_m7 226 rfl
theorem q1786 : (Jvm.Cond.instanceMethod ({ cls := "RaisedPressModel", name := "sets", desc := "(II)V" } : Jvm.MethodName)) ∈ lw_all := lw_g (lw_at lw_m7 227 rfl) rfl
theorem q1787 : (Jvm.Cond.code ({ cls := "RaisedPressModel", name := "sets", desc := "(II)V" } : Jvm.MethodName) prog_17_method_50_code (3 : Nat) (Option.none : Option Jvm.ClassFile.FieldType)) ∈ lw_all := lw_g (lw_at lw_m7 228 rfl) rfl
theorem q1788 : (Jvm.Cond.methodLink "RaisedPressModel" (279 : Nat) ({ cls := "RaisedPressModel", name := "wordEnd", desc := "(I)I" } : Jvm.MethodName)) ∈ lw_all := lw_g (lw_at lw_m7 229 rfl) rfl
theorem q1789 : (Jvm.Cond.privateMethod ({ cls := "RaisedPressModel", name := "wordEnd", desc := "(I)I" } : Jvm.MethodName)) ∈ lw_tbl := lw_at lw_m7 230 rfl
theorem q1790 : (Jvm.Cond.instanceMethod ({ cls := "RaisedPressModel", name := "wordEnd", desc := "(I)I" } : Jvm.MethodName)) ∈ lw_all := lw_g (lw_at lw_m7 231 rfl) rfl
theorem q1791 : (Jvm.Cond.code ({ cls := "RaisedPressModel", name := "wordEnd", desc := "(I)I" } : Jvm.MethodName) prog_17_method_52_code (3 : Nat) (Option.some Jvm.ClassFile.FieldType.int)) ∈ lw_all := lw_g (lw_at lw_m7 232 rfl) rfl
theorem q1792 : (Jvm.Cond.methodLink "RaisedPressModel" (282 : Nat) ({ cls := "RaisedPressModel", name := "setsWord", desc := "(III)Z" } : Jvm.MethodName)) ∈ lw_all := lw_g (lw_at lw_m7 233 rfl) rfl
theorem q1793 : (Jvm.Cond.privateMethod ({ cls := "RaisedPressModel", name := "setsWord", desc := "(III)Z" } : Jvm.MethodName)) ∈ lw_tbl := lw_at lw_m7 234 rfl
theorem q1794 : (Jvm.Cond.instanceMethod ({ cls := "RaisedPressModel", name := "setsWord", desc := "(III)Z" } : Jvm.MethodName)) ∈ lw_all := lw_g (lw_at lw_m7 235 rfl) rfl
theorem q1795 : (Jvm.Cond.code ({ cls := "RaisedPressModel", name := "setsWord", desc := "(III)Z" } : Jvm.MethodName) prog_17_method_53_code (6 : Nat) (Option.some Jvm.ClassFile.FieldType.boolean)) ∈ lw_all := lw_g (lw_at lw_m7 236 rfl) rfl
theorem q1796 : (Jvm.Cond.methodLink "RaisedPressModel" (263 : Nat) ({ cls := "RaisedPressModel", name := "taking", desc := "(IIII)I" } : Jvm.MethodName)) ∈ lw_all := lw_g (lw_at lw_m7 237 rfl) rfl
theorem q1797 : (Jvm.Cond.privateMethod ({ cls := "RaisedPressModel", name := "taking", desc := "(IIII)I" } : Jvm.MethodName)) ∈ lw_tbl := lw_at lw_m7 238 rfl
theorem q1798 : (Jvm.Cond.instanceMethod ({ cls := "RaisedPressModel", name := "taking", desc := "(IIII)I" } : Jvm.MethodName)) ∈ lw_all := lw_g (lw_at lw_m7 239 rfl) rfl
theorem q1799 : (Jvm.Cond.code ({ cls := "RaisedPressModel", name := "taking", desc := "(IIII)I" } : Jvm.MethodName) prog_17_method_48_code (7 : Nat) (Option.some Jvm.ClassFile.FieldType.int)) ∈ lw_all := lw_g (lw_at lw_m8 0 rfl) rfl
theorem q1800 : (Jvm.Cond.methodLink "RaisedPressModel" (249 : Nat) ({ cls := "RaisedPressModel", name := "isOut", desc := "(II)Z" } : Jvm.MethodName)) ∈ lw_all := lw_g (lw_at lw_m8 1 rfl) rfl
theorem q1801 : (Jvm.Cond.static ({ cls := "RaisedPressModel", name := "isOut", desc := "(II)Z" } : Jvm.MethodName)) ∈ lw_all := lw_g (lw_at lw_m8 2 rfl) rfl
theorem q1802 : (Jvm.Cond.code ({ cls := "RaisedPressModel", name := "isOut", desc := "(II)Z" } : Jvm.MethodName) prog_17_method_47_code (2 : Nat) (Option.some Jvm.ClassFile.FieldType.boolean)) ∈ lw_all := lw_g (lw_at lw_m8 3 rfl) rfl
theorem q1803 : (Jvm.Cond.methodLink "RaisedPressModel" (252 : Nat) ({ cls := "RaisedPressModel", name := "stands", desc := "(IIII)Z" } : Jvm.MethodName)) ∈ lw_all := lw_g (lw_at lw_m8 4 rfl) rfl
theorem q1804 : (Jvm.Cond.privateMethod ({ cls := "RaisedPressModel", name := "stands", desc := "(IIII)Z" } : Jvm.MethodName)) ∈ lw_tbl := lw_at lw_m8 5 rfl
theorem q1805 : (Jvm.Cond.instanceMethod ({ cls := "RaisedPressModel", name := "stands", desc := "(IIII)Z" } : Jvm.MethodName)) ∈ lw_all := lw_g (lw_at lw_m8 6 rfl) rfl
theorem q1806 : (Jvm.Cond.code ({ cls := "RaisedPressModel", name := "stands", desc := "(IIII)Z" } : Jvm.MethodName) prog_17_method_46_code (7 : Nat) (Option.some Jvm.ClassFile.FieldType.boolean)) ∈ lw_all := lw_g (lw_at lw_m8 7 rfl) rfl
theorem q1807 : (Jvm.Cond.methodLink "RaisedPressModel" (242 : Nat) ({ cls := "RaisedPressModel", name := "letterOf", desc := "(I)I" } : Jvm.MethodName)) ∈ lw_all := lw_g (lw_at lw_m8 8 rfl) rfl
theorem q1808 : (Jvm.Cond.static ({ cls := "RaisedPressModel", name := "letterOf", desc := "(I)I" } : Jvm.MethodName)) ∈ lw_all := lw_g (lw_at lw_m8 9 rfl) rfl
theorem q1809 : (Jvm.Cond.code ({ cls := "RaisedPressModel", name := "letterOf", desc := "(I)I" } : Jvm.MethodName) prog_17_method_44_code (1 : Nat) (Option.some Jvm.ClassFile.FieldType.int)) ∈ lw_all := lw_g (lw_at lw_m8 10 rfl) rfl
theorem q1810 : (Jvm.Cond.methodLink "RaisedPressModel" (245 : Nat) ({ cls := "RaisedPressModel", name := "holds", desc := "(IZZ)Z" } : Jvm.MethodName)) ∈ lw_all := lw_g (lw_at lw_m8 11 rfl) rfl
theorem q1811 : (Jvm.Cond.static ({ cls := "RaisedPressModel", name := "holds", desc := "(IZZ)Z" } : Jvm.MethodName)) ∈ lw_all := lw_g (lw_at lw_m8 12 rfl) rfl
theorem q1812 : (Jvm.Cond.code ({ cls := "RaisedPressModel", name := "holds", desc := "(IZZ)Z" } : Jvm.MethodName) prog_17_method_45_code (3 : Nat) (Option.some Jvm.ClassFile.FieldType.boolean)) ∈ lw_all := lw_g (lw_at lw_m8 13 rfl) rfl
theorem q1813 : (Jvm.Cond.methodLink "RaisedPressModel" (270 : Nat) ({ cls := "RaisedPressModel", name := "setsRule", desc := "(I)I" } : Jvm.MethodName)) ∈ lw_all := lw_g (lw_at lw_m8 14 rfl) rfl
theorem q1814 : (Jvm.Cond.privateMethod ({ cls := "RaisedPressModel", name := "setsRule", desc := "(I)I" } : Jvm.MethodName)) ∈ lw_tbl := lw_at lw_m8 15 rfl
theorem q1815 : (Jvm.Cond.instanceMethod ({ cls := "RaisedPressModel", name := "setsRule", desc := "(I)I" } : Jvm.MethodName)) ∈ lw_all := lw_g (lw_at lw_m8 16 rfl) rfl
theorem q1816 : (Jvm.Cond.code ({ cls := "RaisedPressModel", name := "setsRule", desc := "(I)I" } : Jvm.MethodName) prog_17_method_51_code (4 : Nat) (Option.some Jvm.ClassFile.FieldType.int)) ∈ lw_all := lw_g (lw_at lw_m8 17 rfl) rfl
theorem q1817 : (Jvm.Cond.methodLink "RaisedPressModel" (285 : Nat) ({ cls := "RaisedPressModel", name := "figureLetter", desc := "(I)I" } : Jvm.MethodName)) ∈ lw_all := lw_g (lw_at lw_m8 18 rfl) rfl
theorem q1818 : (Jvm.Cond.static ({ cls := "RaisedPressModel", name := "figureLetter", desc := "(I)I" } : Jvm.MethodName)) ∈ lw_all := lw_g (lw_at lw_m8 19 rfl) rfl
theorem q1819 : (Jvm.Cond.code ({ cls := "RaisedPressModel", name := "figureLetter", desc := "(I)I" } : Jvm.MethodName) prog_17_method_54_code (1 : Nat) (Option.some Jvm.ClassFile.FieldType.int)) ∈ lw_all := lw_g (lw_at lw_m8 20 rfl) rfl
theorem q1820 : (Jvm.Cond.methodLink "RaisedPressModel" (288 : Nat) ({ cls := "RaisedPressModel", name := "justOf", desc := "(II)I" } : Jvm.MethodName)) ∈ lw_all := lw_g (lw_at lw_m8 21 rfl) rfl
theorem q1821 : (Jvm.Cond.privateMethod ({ cls := "RaisedPressModel", name := "justOf", desc := "(II)I" } : Jvm.MethodName)) ∈ lw_tbl := lw_at lw_m8 22 rfl
theorem q1822 : (Jvm.Cond.instanceMethod ({ cls := "RaisedPressModel", name := "justOf", desc := "(II)I" } : Jvm.MethodName)) ∈ lw_all := lw_g (lw_at lw_m8 23 rfl) rfl
theorem q1823 : (Jvm.Cond.code ({ cls := "RaisedPressModel", name := "justOf", desc := "(II)I" } : Jvm.MethodName) prog_17_method_49_code (5 : Nat) (Option.some Jvm.ClassFile.FieldType.int)) ∈ lw_all := lw_g (lw_at lw_m8 24 rfl) rfl
theorem q1824 : (Jvm.Cond.methodLink "RaisedPressModel" (294 : Nat) ({ cls := "RaisedPressModel", name := "takesSet", desc := "()V" } : Jvm.MethodName)) ∈ lw_all := lw_g (lw_at lw_m8 25 rfl) rfl
theorem q1825 : (Jvm.Cond.privateMethod ({ cls := "RaisedPressModel", name := "takesSet", desc := "()V" } : Jvm.MethodName)) ∈ lw_tbl := lw_at lw_m8 26 rfl
theorem q1826 : (Jvm.Cond.instanceMethod ({ cls := "RaisedPressModel", name := "takesSet", desc := "()V" } : Jvm.MethodName)) ∈ lw_all := lw_g (lw_at lw_m8 27 rfl) rfl
theorem q1827 : (Jvm.Cond.code ({ cls := "RaisedPressModel", name := "takesSet", desc := "()V" } : Jvm.MethodName) prog_17_method_56_code (2 : Nat) (Option.none : Option Jvm.ClassFile.FieldType)) ∈ lw_all := lw_g (lw_at lw_m8 28 rfl) rfl
theorem q1829 : (Jvm.Cond.instanceMethod ({ cls := "RaisedPressModel", name := "told", desc := "(I)I" } : Jvm.MethodName)) ∈ lw_all := lw_g (lw_at lw_m8 30 rfl) rfl
theorem q1830 : (Jvm.Cond.selects "RaisedPressModel" ({ cls := "RaisedPressModel", name := "told", desc := "(I)I" } : Jvm.MethodName) ({ cls := "RaisedPressModel", name := "told", desc := "(I)I" } : Jvm.MethodName)) ∈ lw_all := lw_g (lw_at lw_m8 31 rfl) rfl
theorem q1831 : (Jvm.Cond.code ({ cls := "RaisedPressModel", name := "told", desc := "(I)I" } : Jvm.MethodName) prog_17_method_60_code (2 : Nat) (Option.some Jvm.ClassFile.FieldType.int)) ∈ lw_all := lw_g (lw_at lw_m8 32 rfl) rfl
theorem q1833 : (Jvm.Cond.instanceMethod ({ cls := "RaisedPressModel", name := "rule", desc := "(II)I" } : Jvm.MethodName)) ∈ lw_all := lw_g (lw_at lw_m8 34 rfl) rfl
theorem q1834 : (Jvm.Cond.selects "RaisedPressModel" ({ cls := "RaisedPressModel", name := "rule", desc := "(II)I" } : Jvm.MethodName) ({ cls := "RaisedPressModel", name := "rule", desc := "(II)I" } : Jvm.MethodName)) ∈ lw_all := lw_g (lw_at lw_m8 35 rfl) rfl
theorem q1835 : (Jvm.Cond.code ({ cls := "RaisedPressModel", name := "rule", desc := "(II)I" } : Jvm.MethodName) prog_17_method_61_code (3 : Nat) (Option.some Jvm.ClassFile.FieldType.int)) ∈ lw_all := lw_g (lw_at lw_m8 36 rfl) rfl
theorem q1836 : (Jvm.Cond.methodLink "RaisedPressModel" (297 : Nat) ({ cls := "RaisedPressModel", name := "isRule", desc := "(I)Z" } : Jvm.MethodName)) ∈ lw_all := lw_g (lw_at lw_m8 37 rfl) rfl
theorem q1837 : (Jvm.Cond.privateMethod ({ cls := "RaisedPressModel", name := "isRule", desc := "(I)Z" } : Jvm.MethodName)) ∈ lw_tbl := lw_at lw_m8 38 rfl
theorem q1838 : (Jvm.Cond.instanceMethod ({ cls := "RaisedPressModel", name := "isRule", desc := "(I)Z" } : Jvm.MethodName)) ∈ lw_all := lw_g (lw_at lw_m8 39 rfl) rfl
theorem q1839 : (Jvm.Cond.code ({ cls := "RaisedPressModel", name := "isRule", desc := "(I)Z" } : Jvm.MethodName) prog_17_method_59_code (2 : Nat) (Option.some Jvm.ClassFile.FieldType.boolean)) ∈ lw_all := lw_g (lw_at lw_m8 40 rfl) rfl
theorem q1841 : (Jvm.Cond.instanceMethod ({ cls := "RaisedPressModel", name := "letter", desc := "(II)I" } : Jvm.MethodName)) ∈ lw_all := lw_g (lw_at lw_m8 42 rfl) rfl
theorem q1842 : (Jvm.Cond.selects "RaisedPressModel" ({ cls := "RaisedPressModel", name := "letter", desc := "(II)I" } : Jvm.MethodName) ({ cls := "RaisedPressModel", name := "letter", desc := "(II)I" } : Jvm.MethodName)) ∈ lw_all := lw_g (lw_at lw_m8 43 rfl) rfl
theorem q1843 : (Jvm.Cond.code ({ cls := "RaisedPressModel", name := "letter", desc := "(II)I" } : Jvm.MethodName) prog_17_method_62_code (3 : Nat) (Option.some Jvm.ClassFile.FieldType.int)) ∈ lw_all := lw_g (lw_at lw_m8 44 rfl) rfl
theorem q1845 : (Jvm.Cond.instanceMethod ({ cls := "RaisedPressModel", name := "cellOf", desc := "(II)I" } : Jvm.MethodName)) ∈ lw_all := lw_g (lw_at lw_m8 46 rfl) rfl
theorem q1846 : (Jvm.Cond.selects "RaisedPressModel" ({ cls := "RaisedPressModel", name := "cellOf", desc := "(II)I" } : Jvm.MethodName) ({ cls := "RaisedPressModel", name := "cellOf", desc := "(II)I" } : Jvm.MethodName)) ∈ lw_all := lw_g (lw_at lw_m8 47 rfl) rfl
theorem q1847 : (Jvm.Cond.code ({ cls := "RaisedPressModel", name := "cellOf", desc := "(II)I" } : Jvm.MethodName) prog_17_method_65_code (3 : Nat) (Option.some Jvm.ClassFile.FieldType.int)) ∈ lw_all := lw_g (lw_at lw_m8 48 rfl) rfl
theorem q1848 : (Jvm.Cond.methodLink "RaisedPressModel" (300 : Nat) ({ cls := "RaisedPressModel", name := "cellsOf", desc := "(I)I" } : Jvm.MethodName)) ∈ lw_all := lw_g (lw_at lw_m8 49 rfl) rfl
theorem q1849 : (Jvm.Cond.privateMethod ({ cls := "RaisedPressModel", name := "cellsOf", desc := "(I)I" } : Jvm.MethodName)) ∈ lw_tbl := lw_at lw_m8 50 rfl
theorem q1850 : (Jvm.Cond.instanceMethod ({ cls := "RaisedPressModel", name := "cellsOf", desc := "(I)I" } : Jvm.MethodName)) ∈ lw_all := lw_g (lw_at lw_m8 51 rfl) rfl
theorem q1851 : (Jvm.Cond.code ({ cls := "RaisedPressModel", name := "cellsOf", desc := "(I)I" } : Jvm.MethodName) prog_17_method_63_code (2 : Nat) (Option.some Jvm.ClassFile.FieldType.int)) ∈ lw_all := lw_g (lw_at lw_m8 52 rfl) rfl
theorem q1852 : (Jvm.Cond.methodLink "RaisedPressModel" (303 : Nat) ({ cls := "RaisedPressModel", name := "cellAt", desc := "(II)I" } : Jvm.MethodName)) ∈ lw_all := lw_g (lw_at lw_m8 53 rfl) rfl
theorem q1853 : (Jvm.Cond.privateMethod ({ cls := "RaisedPressModel", name := "cellAt", desc := "(II)I" } : Jvm.MethodName)) ∈ lw_tbl := lw_at lw_m8 54 rfl
theorem q1854 : (Jvm.Cond.instanceMethod ({ cls := "RaisedPressModel", name := "cellAt", desc := "(II)I" } : Jvm.MethodName)) ∈ lw_all := lw_g (lw_at lw_m8 55 rfl) rfl
theorem q1855 : (Jvm.Cond.code ({ cls := "RaisedPressModel", name := "cellAt", desc := "(II)I" } : Jvm.MethodName) prog_17_method_64_code (3 : Nat) (Option.some Jvm.ClassFile.FieldType.int)) ∈ lw_all := lw_g (lw_at lw_m8 56 rfl) rfl
theorem q1857 : (Jvm.Cond.instanceMethod ({ cls := "RaisedPressModel", name := "drop", desc := "(IZ)Z" } : Jvm.MethodName)) ∈ lw_all := lw_g (lw_at lw_m8 58 rfl) rfl
theorem q1858 : (Jvm.Cond.selects "RaisedPressModel" ({ cls := "RaisedPressModel", name := "drop", desc := "(IZ)Z" } : Jvm.MethodName) ({ cls := "RaisedPressModel", name := "drop", desc := "(IZ)Z" } : Jvm.MethodName)) ∈ lw_all := lw_g (lw_at lw_m8 59 rfl) rfl
theorem q1859 : (Jvm.Cond.code ({ cls := "RaisedPressModel", name := "drop", desc := "(IZ)Z" } : Jvm.MethodName) prog_17_method_66_code (3 : Nat) (Option.some Jvm.ClassFile.FieldType.boolean)) ∈ lw_all := lw_g (lw_at lw_m8 60 rfl) rfl
theorem q1861 : (Jvm.Cond.instanceMethod ({ cls := "RaisedPressModel", name := "reset", desc := "()I" } : Jvm.MethodName)) ∈ lw_all := lw_g (lw_at lw_m8 62 rfl) rfl
theorem q1862 : (Jvm.Cond.selects "RaisedPressModel" ({ cls := "RaisedPressModel", name := "reset", desc := "()I" } : Jvm.MethodName) ({ cls := "RaisedPressModel", name := "reset", desc := "()I" } : Jvm.MethodName)) ∈ lw_all := lw_g (lw_at lw_m8 63 rfl) rfl
theorem q1863 : (Jvm.Cond.code ({ cls := "RaisedPressModel", name := "reset", desc := "()I" } : Jvm.MethodName) prog_17_method_68_code (1 : Nat) (Option.some Jvm.ClassFile.FieldType.int)) ∈ lw_all := lw_g (lw_at lw_m8 64 rfl) rfl
theorem q1864 : (Jvm.Cond.methodLink "RaisedPressModel" (306 : Nat) ({ cls := "RaisedPressModel", name := "isSet", desc := "()Z" } : Jvm.MethodName)) ∈ lw_all := lw_g (lw_at lw_m8 65 rfl) rfl
theorem q1865 : (Jvm.Cond.privateMethod ({ cls := "RaisedPressModel", name := "isSet", desc := "()Z" } : Jvm.MethodName)) ∈ lw_tbl := lw_at lw_m8 66 rfl
theorem q1866 : (Jvm.Cond.instanceMethod ({ cls := "RaisedPressModel", name := "isSet", desc := "()Z" } : Jvm.MethodName)) ∈ lw_all := lw_g (lw_at lw_m8 67 rfl) rfl
theorem q1867 : (Jvm.Cond.code ({ cls := "RaisedPressModel", name := "isSet", desc := "()Z" } : Jvm.MethodName) prog_17_method_67_code (1 : Nat) (Option.some Jvm.ClassFile.FieldType.boolean)) ∈ lw_all := lw_g (lw_at lw_m8 68 rfl) rfl
theorem q1868 : (Jvm.Cond.methodLink "RaisedPressModel" (309 : Nat) ({ cls := "RaisedPressModel", name := "laysBytes", desc := "()V" } : Jvm.MethodName)) ∈ lw_all := lw_g (lw_at lw_m8 69 rfl) rfl
theorem q1869 : (Jvm.Cond.privateMethod ({ cls := "RaisedPressModel", name := "laysBytes", desc := "()V" } : Jvm.MethodName)) ∈ lw_tbl := lw_at lw_m8 70 rfl
theorem q1870 : (Jvm.Cond.instanceMethod ({ cls := "RaisedPressModel", name := "laysBytes", desc := "()V" } : Jvm.MethodName)) ∈ lw_all := lw_g (lw_at lw_m8 71 rfl) rfl
theorem q1871 : (Jvm.Cond.code ({ cls := "RaisedPressModel", name := "laysBytes", desc := "()V" } : Jvm.MethodName) prog_17_method_57_code (2 : Nat) (Option.none : Option Jvm.ClassFile.FieldType)) ∈ lw_all := lw_g (lw_at lw_m8 72 rfl) rfl
theorem q1873 : (Jvm.Cond.instanceMethod ({ cls := "RaisedPressModel", name := "size", desc := "(I)I" } : Jvm.MethodName)) ∈ lw_all := lw_g (lw_at lw_m8 74 rfl) rfl
theorem q1874 : (Jvm.Cond.selects "RaisedPressModel" ({ cls := "RaisedPressModel", name := "size", desc := "(I)I" } : Jvm.MethodName) ({ cls := "RaisedPressModel", name := "size", desc := "(I)I" } : Jvm.MethodName)) ∈ lw_all := lw_g (lw_at lw_m8 75 rfl) rfl
theorem q1875 : (Jvm.Cond.code ({ cls := "RaisedPressModel", name := "size", desc := "(I)I" } : Jvm.MethodName) prog_17_method_73_code (2 : Nat) (Option.some Jvm.ClassFile.FieldType.int)) ∈ lw_all := lw_g (lw_at lw_m8 76 rfl) rfl
theorem q1876 : (Jvm.Cond.methodLink "RaisedPressModel" (330 : Nat) ({ cls := "RaisedPressModel", name := "laysLines", desc := "()V" } : Jvm.MethodName)) ∈ lw_all := lw_g (lw_at lw_m8 77 rfl) rfl
theorem q1877 : (Jvm.Cond.privateMethod ({ cls := "RaisedPressModel", name := "laysLines", desc := "()V" } : Jvm.MethodName)) ∈ lw_tbl := lw_at lw_m8 78 rfl
theorem q1878 : (Jvm.Cond.instanceMethod ({ cls := "RaisedPressModel", name := "laysLines", desc := "()V" } : Jvm.MethodName)) ∈ lw_all := lw_g (lw_at lw_m8 79 rfl) rfl
theorem q1879 : (Jvm.Cond.code ({ cls := "RaisedPressModel", name := "laysLines", desc := "()V" } : Jvm.MethodName) prog_17_method_72_code (7 : Nat) (Option.none : Option Jvm.ClassFile.FieldType)) ∈ lw_all := lw_g (lw_at lw_m8 80 rfl) rfl
theorem q1880 : (Jvm.Cond.methodLink "RaisedPressModel" (321 : Nat) ({ cls := "RaisedPressModel", name := "pieceMany", desc := "(I)I" } : Jvm.MethodName)) ∈ lw_all := lw_g (lw_at lw_m8 81 rfl) rfl
theorem q1881 : (Jvm.Cond.privateMethod ({ cls := "RaisedPressModel", name := "pieceMany", desc := "(I)I" } : Jvm.MethodName)) ∈ lw_tbl := lw_at lw_m8 82 rfl
theorem q1882 : (Jvm.Cond.instanceMethod ({ cls := "RaisedPressModel", name := "pieceMany", desc := "(I)I" } : Jvm.MethodName)) ∈ lw_all := lw_g (lw_at lw_m8 83 rfl) rfl
theorem q1883 : (Jvm.Cond.code ({ cls := "RaisedPressModel", name := "pieceMany", desc := "(I)I" } : Jvm.MethodName) prog_17_method_69_code (2 : Nat) (Option.some Jvm.ClassFile.FieldType.int)) ∈ lw_all := lw_g (lw_at lw_m8 84 rfl) rfl
theorem q1884 : (Jvm.Cond.methodLink "RaisedPressModel" (324 : Nat) ({ cls := "RaisedPressModel", name := "newLine", desc := "()V" } : Jvm.MethodName)) ∈ lw_all := lw_g (lw_at lw_m8 85 rfl) rfl
theorem q1885 : (Jvm.Cond.privateMethod ({ cls := "RaisedPressModel", name := "newLine", desc := "()V" } : Jvm.MethodName)) ∈ lw_tbl := lw_at lw_m8 86 rfl
theorem q1886 : (Jvm.Cond.instanceMethod ({ cls := "RaisedPressModel", name := "newLine", desc := "()V" } : Jvm.MethodName)) ∈ lw_all := lw_g (lw_at lw_m8 87 rfl) rfl
theorem q1887 : (Jvm.Cond.code ({ cls := "RaisedPressModel", name := "newLine", desc := "()V" } : Jvm.MethodName) prog_17_method_71_code (1 : Nat) (Option.none : Option Jvm.ClassFile.FieldType)) ∈ lw_all := lw_g (lw_at lw_m8 88 rfl) rfl
theorem q1888 : (Jvm.Cond.methodLink "RaisedPressModel" (327 : Nat) ({ cls := "RaisedPressModel", name := "laysCell", desc := "(I)V" } : Jvm.MethodName)) ∈ lw_all := lw_g (lw_at lw_m8 89 rfl) rfl
theorem q1889 : (Jvm.Cond.privateMethod ({ cls := "RaisedPressModel", name := "laysCell", desc := "(I)V" } : Jvm.MethodName)) ∈ lw_tbl := lw_at lw_m8 90 rfl
theorem q1890 : (Jvm.Cond.instanceMethod ({ cls := "RaisedPressModel", name := "laysCell", desc := "(I)V" } : Jvm.MethodName)) ∈ lw_all := lw_g (lw_at lw_m8 91 rfl) rfl
theorem q1891 : (Jvm.Cond.code ({ cls := "RaisedPressModel", name := "laysCell", desc := "(I)V" } : Jvm.MethodName) prog_17_method_70_code (2 : Nat) (Option.none : Option Jvm.ClassFile.FieldType)) ∈ lw_all := lw_g (lw_at lw_m8 92 rfl) rfl
theorem q1893 : (Jvm.Cond.instanceMethod ({ cls := "RaisedPressModel", name := "cell", desc := "(I)I" } : Jvm.MethodName)) ∈ lw_all := lw_g (lw_at lw_m8 94 rfl) rfl
theorem q1894 : (Jvm.Cond.selects "RaisedPressModel" ({ cls := "RaisedPressModel", name := "cell", desc := "(I)I" } : Jvm.MethodName) ({ cls := "RaisedPressModel", name := "cell", desc := "(I)I" } : Jvm.MethodName)) ∈ lw_all := lw_g (lw_at lw_m8 95 rfl) rfl
theorem q1895 : (Jvm.Cond.code ({ cls := "RaisedPressModel", name := "cell", desc := "(I)I" } : Jvm.MethodName) prog_17_method_74_code (2 : Nat) (Option.some Jvm.ClassFile.FieldType.int)) ∈ lw_all := lw_g (lw_at lw_m8 96 rfl) rfl
theorem q1897 : (Jvm.Cond.instanceMethod ({ cls := "RaisedPressModel", name := "line", desc := "(I)I" } : Jvm.MethodName)) ∈ lw_all := lw_g (lw_at lw_m8 98 rfl) rfl
theorem q1898 : (Jvm.Cond.selects "RaisedPressModel" ({ cls := "RaisedPressModel", name := "line", desc := "(I)I" } : Jvm.MethodName) ({ cls := "RaisedPressModel", name := "line", desc := "(I)I" } : Jvm.MethodName)) ∈ lw_all := lw_g (lw_at lw_m8 99 rfl) rfl
theorem q1899 : (Jvm.Cond.code ({ cls := "RaisedPressModel", name := "line", desc := "(I)I" } : Jvm.MethodName) prog_17_method_76_code (2 : Nat) (Option.some Jvm.ClassFile.FieldType.int)) ∈ lw_all := lw_g (lw_at lw_m8 100 rfl) rfl
theorem q1900 : (Jvm.Cond.methodLink "RaisedPressModel" (333 : Nat) ({ cls := "RaisedPressModel", name := "isLine", desc := "(I)Z" } : Jvm.MethodName)) ∈ lw_all := lw_g (lw_at lw_m8 101 rfl) rfl
theorem q1901 : (Jvm.Cond.privateMethod ({ cls := "RaisedPressModel", name := "isLine", desc := "(I)Z" } : Jvm.MethodName)) ∈ lw_tbl := lw_at lw_m8 102 rfl
theorem q1902 : (Jvm.Cond.instanceMethod ({ cls := "RaisedPressModel", name := "isLine", desc := "(I)Z" } : Jvm.MethodName)) ∈ lw_all := lw_g (lw_at lw_m8 103 rfl) rfl
theorem q1903 : (Jvm.Cond.code ({ cls := "RaisedPressModel", name := "isLine", desc := "(I)Z" } : Jvm.MethodName) prog_17_method_75_code (2 : Nat) (Option.some Jvm.ClassFile.FieldType.boolean)) ∈ lw_all := lw_g (lw_at lw_m8 104 rfl) rfl
theorem q1905 : (Jvm.Cond.instanceMethod ({ cls := "RaisedPressModel", name := "lineAt", desc := "(II)I" } : Jvm.MethodName)) ∈ lw_all := lw_g (lw_at lw_m8 106 rfl) rfl
theorem q1906 : (Jvm.Cond.selects "RaisedPressModel" ({ cls := "RaisedPressModel", name := "lineAt", desc := "(II)I" } : Jvm.MethodName) ({ cls := "RaisedPressModel", name := "lineAt", desc := "(II)I" } : Jvm.MethodName)) ∈ lw_all := lw_g (lw_at lw_m8 107 rfl) rfl
theorem q1907 : (Jvm.Cond.code ({ cls := "RaisedPressModel", name := "lineAt", desc := "(II)I" } : Jvm.MethodName) prog_17_method_77_code (3 : Nat) (Option.some Jvm.ClassFile.FieldType.int)) ∈ lw_all := lw_g (lw_at lw_m8 108 rfl) rfl
theorem q1909 : (Jvm.Cond.instanceMethod ({ cls := "RaisedPressModel", name := "onPage", desc := "(III)I" } : Jvm.MethodName)) ∈ lw_all := lw_g (lw_at lw_m8 110 rfl) rfl
theorem q1910 : (Jvm.Cond.selects "RaisedPressModel" ({ cls := "RaisedPressModel", name := "onPage", desc := "(III)I" } : Jvm.MethodName) ({ cls := "RaisedPressModel", name := "onPage", desc := "(III)I" } : Jvm.MethodName)) ∈ lw_all := lw_g (lw_at lw_m8 111 rfl) rfl
theorem q1911 : (Jvm.Cond.code ({ cls := "RaisedPressModel", name := "onPage", desc := "(III)I" } : Jvm.MethodName) prog_17_method_78_code (5 : Nat) (Option.some Jvm.ClassFile.FieldType.int)) ∈ lw_all := lw_g (lw_at lw_m8 112 rfl) rfl
theorem q1913 : (Jvm.Cond.instanceMethod ({ cls := "RaisedPressModel", name := "hyphens", desc := "()I" } : Jvm.MethodName)) ∈ lw_all := lw_g (lw_at lw_m8 114 rfl) rfl
theorem q1914 : (Jvm.Cond.selects "RaisedPressModel" ({ cls := "RaisedPressModel", name := "hyphens", desc := "()I" } : Jvm.MethodName) ({ cls := "RaisedPressModel", name := "hyphens", desc := "()I" } : Jvm.MethodName)) ∈ lw_all := lw_g (lw_at lw_m8 115 rfl) rfl
theorem q1915 : (Jvm.Cond.code ({ cls := "RaisedPressModel", name := "hyphens", desc := "()I" } : Jvm.MethodName) prog_17_method_79_code (1 : Nat) (Option.some Jvm.ClassFile.FieldType.int)) ∈ lw_all := lw_g (lw_at lw_m8 116 rfl) rfl
theorem q1917 : (Jvm.Cond.instanceMethod ({ cls := "RaisedPressModel", name := "used", desc := "(I)I" } : Jvm.MethodName)) ∈ lw_all := lw_g (lw_at lw_m8 118 rfl) rfl
theorem q1918 : (Jvm.Cond.selects "RaisedPressModel" ({ cls := "RaisedPressModel", name := "used", desc := "(I)I" } : Jvm.MethodName) ({ cls := "RaisedPressModel", name := "used", desc := "(I)I" } : Jvm.MethodName)) ∈ lw_all := lw_g (lw_at lw_m8 119 rfl) rfl
theorem q1919 : (Jvm.Cond.code ({ cls := "RaisedPressModel", name := "used", desc := "(I)I" } : Jvm.MethodName) prog_17_method_80_code (2 : Nat) (Option.some Jvm.ClassFile.FieldType.int)) ∈ lw_all := lw_g (lw_at lw_m8 120 rfl) rfl
theorem q1921 : (Jvm.Cond.instanceMethod ({ cls := "RaisedPressModel", name := "useless", desc := "()I" } : Jvm.MethodName)) ∈ lw_all := lw_g (lw_at lw_m8 122 rfl) rfl
theorem q1922 : (Jvm.Cond.selects "RaisedPressModel" ({ cls := "RaisedPressModel", name := "useless", desc := "()I" } : Jvm.MethodName) ({ cls := "RaisedPressModel", name := "useless", desc := "()I" } : Jvm.MethodName)) ∈ lw_all := lw_g (lw_at lw_m8 123 rfl) rfl
theorem q1923 : (Jvm.Cond.code ({ cls := "RaisedPressModel", name := "useless", desc := "()I" } : Jvm.MethodName) prog_17_method_81_code (3 : Nat) (Option.some Jvm.ClassFile.FieldType.int)) ∈ lw_all := lw_g (lw_at lw_m8 124 rfl) rfl
theorem q1925 : (Jvm.Cond.instanceMethod ({ cls := "RaisedPressModel", name := "dots", desc := "()I" } : Jvm.MethodName)) ∈ lw_all := lw_g (lw_at lw_m8 126 rfl) rfl
theorem q1926 : (Jvm.Cond.selects "RaisedPressModel" ({ cls := "RaisedPressModel", name := "dots", desc := "()I" } : Jvm.MethodName) ({ cls := "RaisedPressModel", name := "dots", desc := "()I" } : Jvm.MethodName)) ∈ lw_all := lw_g (lw_at lw_m8 127 rfl) rfl
theorem q1927 : (Jvm.Cond.code ({ cls := "RaisedPressModel", name := "dots", desc := "()I" } : Jvm.MethodName) prog_17_method_83_code (3 : Nat) (Option.some Jvm.ClassFile.FieldType.int)) ∈ lw_all := lw_g (lw_at lw_m8 128 rfl) rfl
theorem q1928 : (Jvm.Cond.methodLink "RaisedPressModel" (336 : Nat) ({ cls := "RaisedPressModel", name := "bits", desc := "(I)I" } : Jvm.MethodName)) ∈ lw_all := lw_g (lw_at lw_m8 129 rfl) rfl
theorem q1929 : (Jvm.Cond.static ({ cls := "RaisedPressModel", name := "bits", desc := "(I)I" } : Jvm.MethodName)) ∈ lw_all := lw_g (lw_at lw_m8 130 rfl) rfl
theorem q1930 : (Jvm.Cond.code ({ cls := "RaisedPressModel", name := "bits", desc := "(I)I" } : Jvm.MethodName) prog_17_method_82_code (3 : Nat) (Option.some Jvm.ClassFile.FieldType.int)) ∈ lw_all := lw_g (lw_at lw_m8 131 rfl) rfl
theorem q1932 : (Jvm.Cond.instanceMethod ({ cls := "RaisedPressModel", name := "piece", desc := "(II)I" } : Jvm.MethodName)) ∈ lw_all := lw_g (lw_at lw_m8 133 rfl) rfl
theorem q1933 : (Jvm.Cond.selects "RaisedPressModel" ({ cls := "RaisedPressModel", name := "piece", desc := "(II)I" } : Jvm.MethodName) ({ cls := "RaisedPressModel", name := "piece", desc := "(II)I" } : Jvm.MethodName)) ∈ lw_all := lw_g (lw_at lw_m8 134 rfl) rfl
theorem q1934 : (Jvm.Cond.code ({ cls := "RaisedPressModel", name := "piece", desc := "(II)I" } : Jvm.MethodName) prog_17_method_84_code (3 : Nat) (Option.some Jvm.ClassFile.FieldType.int)) ∈ lw_all := lw_g (lw_at lw_m8 135 rfl) rfl
theorem q1936 : (Jvm.Cond.instanceMethod ({ cls := "RaisedPressModel", name := "by", desc := "(I)I" } : Jvm.MethodName)) ∈ lw_all := lw_g (lw_at lw_m8 137 rfl) rfl
theorem q1937 : (Jvm.Cond.selects "RaisedPressModel" ({ cls := "RaisedPressModel", name := "by", desc := "(I)I" } : Jvm.MethodName) ({ cls := "RaisedPressModel", name := "by", desc := "(I)I" } : Jvm.MethodName)) ∈ lw_all := lw_g (lw_at lw_m8 138 rfl) rfl
theorem q1938 : (Jvm.Cond.code ({ cls := "RaisedPressModel", name := "by", desc := "(I)I" } : Jvm.MethodName) prog_17_method_85_code (2 : Nat) (Option.some Jvm.ClassFile.FieldType.int)) ∈ lw_all := lw_g (lw_at lw_m8 139 rfl) rfl
theorem q1940 : (Jvm.Cond.instanceMethod ({ cls := "RaisedPressModel", name := "dense", desc := "(I)I" } : Jvm.MethodName)) ∈ lw_all := lw_g (lw_at lw_m8 141 rfl) rfl
theorem q1941 : (Jvm.Cond.selects "RaisedPressModel" ({ cls := "RaisedPressModel", name := "dense", desc := "(I)I" } : Jvm.MethodName) ({ cls := "RaisedPressModel", name := "dense", desc := "(I)I" } : Jvm.MethodName)) ∈ lw_all := lw_g (lw_at lw_m8 142 rfl) rfl
theorem q1942 : (Jvm.Cond.code ({ cls := "RaisedPressModel", name := "dense", desc := "(I)I" } : Jvm.MethodName) prog_17_method_86_code (5 : Nat) (Option.some Jvm.ClassFile.FieldType.int)) ∈ lw_all := lw_g (lw_at lw_m8 143 rfl) rfl
theorem q1943 : (Jvm.Cond.constantLong "RaisedPressModel" (339 : Nat) (40 : Int64)) ∈ lw_all := lw_g (lw_at lw_m8 144 rfl) rfl
theorem q1944 : (Jvm.Cond.methodLink "RaisedPressModel" (341 : Nat) ({ cls := "RaisedPressModel", name := "isFrom", desc := "(JJJ)Z" } : Jvm.MethodName)) ∈ lw_all := lw_g (lw_at lw_m8 145 rfl) rfl
theorem q1945 : (Jvm.Cond.static ({ cls := "RaisedPressModel", name := "isFrom", desc := "(JJJ)Z" } : Jvm.MethodName)) ∈ lw_all := lw_g (lw_at lw_m8 146 rfl) rfl
theorem q1946 : (Jvm.Cond.code ({ cls := "RaisedPressModel", name := "isFrom", desc := "(JJJ)Z" } : Jvm.MethodName) prog_17_method_17_code (6 : Nat) (Option.some Jvm.ClassFile.FieldType.boolean)) ∈ lw_all := lw_g (lw_at lw_m8 147 rfl) rfl
theorem q1947 : (Jvm.Cond.methodLink "RaisedPressModel" (345 : Nat) ({ cls := "java/lang/Math", name := "max", desc := "(II)I" } : Jvm.MethodName)) ∈ lw_all := lw_g (lw_at lw_m8 148 rfl) rfl
theorem q1949 : (Jvm.Cond.instanceMethod ({ cls := "RaisedPressModel", name := "alike", desc := "(II)I" } : Jvm.MethodName)) ∈ lw_all := lw_g (lw_at lw_m8 150 rfl) rfl
theorem q1950 : (Jvm.Cond.selects "RaisedPressModel" ({ cls := "RaisedPressModel", name := "alike", desc := "(II)I" } : Jvm.MethodName) ({ cls := "RaisedPressModel", name := "alike", desc := "(II)I" } : Jvm.MethodName)) ∈ lw_all := lw_g (lw_at lw_m8 151 rfl) rfl
theorem q1951 : (Jvm.Cond.code ({ cls := "RaisedPressModel", name := "alike", desc := "(II)I" } : Jvm.MethodName) prog_17_method_87_code (5 : Nat) (Option.some Jvm.ClassFile.FieldType.int)) ∈ lw_all := lw_g (lw_at lw_m8 152 rfl) rfl
theorem q1953 : (Jvm.Cond.instanceMethod ({ cls := "RaisedPressModel", name := "longest", desc := "()I" } : Jvm.MethodName)) ∈ lw_all := lw_g (lw_at lw_m8 154 rfl) rfl
theorem q1954 : (Jvm.Cond.selects "RaisedPressModel" ({ cls := "RaisedPressModel", name := "longest", desc := "()I" } : Jvm.MethodName) ({ cls := "RaisedPressModel", name := "longest", desc := "()I" } : Jvm.MethodName)) ∈ lw_all := lw_g (lw_at lw_m8 155 rfl) rfl
theorem q1955 : (Jvm.Cond.code ({ cls := "RaisedPressModel", name := "longest", desc := "()I" } : Jvm.MethodName) prog_17_method_88_code (3 : Nat) (Option.some Jvm.ClassFile.FieldType.int)) ∈ lw_all := lw_g (lw_at lw_m8 156 rfl) rfl
theorem q1957 : (Jvm.Cond.instanceMethod ({ cls := "RaisedPressModel", name := "inLine", desc := "(I)I" } : Jvm.MethodName)) ∈ lw_all := lw_g (lw_at lw_m8 158 rfl) rfl
theorem q1958 : (Jvm.Cond.selects "RaisedPressModel" ({ cls := "RaisedPressModel", name := "inLine", desc := "(I)I" } : Jvm.MethodName) ({ cls := "RaisedPressModel", name := "inLine", desc := "(I)I" } : Jvm.MethodName)) ∈ lw_all := lw_g (lw_at lw_m8 159 rfl) rfl
theorem q1959 : (Jvm.Cond.code ({ cls := "RaisedPressModel", name := "inLine", desc := "(I)I" } : Jvm.MethodName) prog_17_method_89_code (4 : Nat) (Option.some Jvm.ClassFile.FieldType.int)) ∈ lw_all := lw_g (lw_at lw_m8 160 rfl) rfl
theorem q1961 : (Jvm.Cond.instanceMethod ({ cls := "RaisedPressModel", name := "covers", desc := "(I)I" } : Jvm.MethodName)) ∈ lw_all := lw_g (lw_at lw_m8 162 rfl) rfl
theorem q1962 : (Jvm.Cond.selects "RaisedPressModel" ({ cls := "RaisedPressModel", name := "covers", desc := "(I)I" } : Jvm.MethodName) ({ cls := "RaisedPressModel", name := "covers", desc := "(I)I" } : Jvm.MethodName)) ∈ lw_all := lw_g (lw_at lw_m8 163 rfl) rfl
theorem q1963 : (Jvm.Cond.code ({ cls := "RaisedPressModel", name := "covers", desc := "(I)I" } : Jvm.MethodName) prog_17_method_90_code (5 : Nat) (Option.some Jvm.ClassFile.FieldType.int)) ∈ lw_all := lw_g (lw_at lw_m8 164 rfl) rfl
theorem q1965 : (Jvm.Cond.instanceMethod ({ cls := "RaisedPressModel", name := "often", desc := "(I)I" } : Jvm.MethodName)) ∈ lw_all := lw_g (lw_at lw_m8 166 rfl) rfl
theorem q1966 : (Jvm.Cond.selects "RaisedPressModel" ({ cls := "RaisedPressModel", name := "often", desc := "(I)I" } : Jvm.MethodName) ({ cls := "RaisedPressModel", name := "often", desc := "(I)I" } : Jvm.MethodName)) ∈ lw_all := lw_g (lw_at lw_m8 167 rfl) rfl
theorem q1967 : (Jvm.Cond.code ({ cls := "RaisedPressModel", name := "often", desc := "(I)I" } : Jvm.MethodName) prog_17_method_92_code (2 : Nat) (Option.some Jvm.ClassFile.FieldType.int)) ∈ lw_all := lw_g (lw_at lw_m8 168 rfl) rfl
theorem q1968 : (Jvm.Cond.constantLong "RaisedPressModel" (348 : Nat) (63 : Int64)) ∈ lw_all := lw_g (lw_at lw_m8 169 rfl) rfl
theorem q1969 : (Jvm.Cond.methodLink "RaisedPressModel" (350 : Nat) ({ cls := "RaisedPressModel", name := "oftenOf", desc := "(I)I" } : Jvm.MethodName)) ∈ lw_all := lw_g (lw_at lw_m8 170 rfl) rfl
theorem q1970 : (Jvm.Cond.privateMethod ({ cls := "RaisedPressModel", name := "oftenOf", desc := "(I)I" } : Jvm.MethodName)) ∈ lw_tbl := lw_at lw_m8 171 rfl
theorem q1971 : (Jvm.Cond.instanceMethod ({ cls := "RaisedPressModel", name := "oftenOf", desc := "(I)I" } : Jvm.MethodName)) ∈ lw_all := lw_g (lw_at lw_m8 172 rfl) rfl
theorem q1972 : (Jvm.Cond.code ({ cls := "RaisedPressModel", name := "oftenOf", desc := "(I)I" } : Jvm.MethodName) prog_17_method_91_code (4 : Nat) (Option.some Jvm.ClassFile.FieldType.int)) ∈ lw_all := lw_g (lw_at lw_m8 173 rfl) rfl
theorem q1974 : (Jvm.Cond.instanceMethod ({ cls := "RaisedPressModel", name := "commonest", desc := "()I" } : Jvm.MethodName)) ∈ lw_all := lw_g (lw_at lw_m8 175 rfl) rfl
theorem q1975 : (Jvm.Cond.selects "RaisedPressModel" ({ cls := "RaisedPressModel", name := "commonest", desc := "()I" } : Jvm.MethodName) ({ cls := "RaisedPressModel", name := "commonest", desc := "()I" } : Jvm.MethodName)) ∈ lw_all := lw_g (lw_at lw_m8 176 rfl) rfl
theorem q1976 : (Jvm.Cond.code ({ cls := "RaisedPressModel", name := "commonest", desc := "()I" } : Jvm.MethodName) prog_17_method_93_code (4 : Nat) (Option.some Jvm.ClassFile.FieldType.int)) ∈ lw_all := lw_g (lw_at lw_m8 177 rfl) rfl
theorem q1978 : (Jvm.Cond.instanceMethod ({ cls := "RaisedPressModel", name := "ragged", desc := "()I" } : Jvm.MethodName)) ∈ lw_all := lw_g (lw_at lw_m8 179 rfl) rfl
theorem q1979 : (Jvm.Cond.selects "RaisedPressModel" ({ cls := "RaisedPressModel", name := "ragged", desc := "()I" } : Jvm.MethodName) ({ cls := "RaisedPressModel", name := "ragged", desc := "()I" } : Jvm.MethodName)) ∈ lw_all := lw_g (lw_at lw_m8 180 rfl) rfl
theorem q1980 : (Jvm.Cond.code ({ cls := "RaisedPressModel", name := "ragged", desc := "()I" } : Jvm.MethodName) prog_17_method_95_code (3 : Nat) (Option.some Jvm.ClassFile.FieldType.int)) ∈ lw_all := lw_g (lw_at lw_m8 181 rfl) rfl
theorem q1981 : (Jvm.Cond.methodLink "RaisedPressModel" (353 : Nat) ({ cls := "RaisedPressModel", name := "shorter", desc := "(I)I" } : Jvm.MethodName)) ∈ lw_all := lw_g (lw_at lw_m8 182 rfl) rfl
theorem q1982 : (Jvm.Cond.privateMethod ({ cls := "RaisedPressModel", name := "shorter", desc := "(I)I" } : Jvm.MethodName)) ∈ lw_tbl := lw_at lw_m8 183 rfl
theorem q1983 : (Jvm.Cond.instanceMethod ({ cls := "RaisedPressModel", name := "shorter", desc := "(I)I" } : Jvm.MethodName)) ∈ lw_all := lw_g (lw_at lw_m8 184 rfl) rfl
theorem q1984 : (Jvm.Cond.code ({ cls := "RaisedPressModel", name := "shorter", desc := "(I)I" } : Jvm.MethodName) prog_17_method_94_code (2 : Nat) (Option.some Jvm.ClassFile.FieldType.int)) ∈ lw_all := lw_g (lw_at lw_m8 185 rfl) rfl
theorem q1986 : (Jvm.Cond.instanceMethod ({ cls := "RaisedPressModel", name := "leastRagged", desc := "()I" } : Jvm.MethodName)) ∈ lw_all := lw_g (lw_at lw_m8 187 rfl) rfl
theorem q1987 : (Jvm.Cond.selects "RaisedPressModel" ({ cls := "RaisedPressModel", name := "leastRagged", desc := "()I" } : Jvm.MethodName) ({ cls := "RaisedPressModel", name := "leastRagged", desc := "()I" } : Jvm.MethodName)) ∈ lw_all := lw_g (lw_at lw_m8 188 rfl) rfl
theorem q1988 : (Jvm.Cond.code ({ cls := "RaisedPressModel", name := "leastRagged", desc := "()I" } : Jvm.MethodName) prog_17_method_96_code (6 : Nat) (Option.some Jvm.ClassFile.FieldType.int)) ∈ lw_all := lw_g (lw_at lw_m8 189 rfl) rfl
theorem q1989 : (Jvm.Cond.constant "RaisedPressModel" (358 : Nat) (2147483647 : Int32)) ∈ lw_all := lw_g (lw_at lw_m8 190 rfl) rfl
theorem q1991 : (Jvm.Cond.instanceMethod ({ cls := "RaisedPressModel", name := "wasted", desc := "(I)I" } : Jvm.MethodName)) ∈ lw_all := lw_g (lw_at lw_m8 192 rfl) rfl
theorem q1992 : (Jvm.Cond.selects "RaisedPressModel" ({ cls := "RaisedPressModel", name := "wasted", desc := "(I)I" } : Jvm.MethodName) ({ cls := "RaisedPressModel", name := "wasted", desc := "(I)I" } : Jvm.MethodName)) ∈ lw_all := lw_g (lw_at lw_m8 193 rfl) rfl
theorem q1993 : (Jvm.Cond.code ({ cls := "RaisedPressModel", name := "wasted", desc := "(I)I" } : Jvm.MethodName) prog_17_method_97_code (2 : Nat) (Option.some Jvm.ClassFile.FieldType.int)) ∈ lw_all := lw_g (lw_at lw_m8 194 rfl) rfl
theorem q1995 : (Jvm.Cond.instanceMethod ({ cls := "RaisedPressModel", name := "frequent", desc := "()I" } : Jvm.MethodName)) ∈ lw_all := lw_g (lw_at lw_m8 196 rfl) rfl
theorem q1996 : (Jvm.Cond.selects "RaisedPressModel" ({ cls := "RaisedPressModel", name := "frequent", desc := "()I" } : Jvm.MethodName) ({ cls := "RaisedPressModel", name := "frequent", desc := "()I" } : Jvm.MethodName)) ∈ lw_all := lw_g (lw_at lw_m8 197 rfl) rfl
theorem q1997 : (Jvm.Cond.code ({ cls := "RaisedPressModel", name := "frequent", desc := "()I" } : Jvm.MethodName) prog_17_method_98_code (6 : Nat) (Option.some Jvm.ClassFile.FieldType.int)) ∈ lw_all := lw_g (lw_at lw_m8 198 rfl) rfl
theorem q1999 : (Jvm.Cond.instanceMethod ({ cls := "RaisedPressModel", name := "signs", desc := "(I)I" } : Jvm.MethodName)) ∈ lw_all := lw_g (lw_at lw_m8 200 rfl) rfl
theorem q2000 : (Jvm.Cond.selects "RaisedPressModel" ({ cls := "RaisedPressModel", name := "signs", desc := "(I)I" } : Jvm.MethodName) ({ cls := "RaisedPressModel", name := "signs", desc := "(I)I" } : Jvm.MethodName)) ∈ lw_all := lw_g (lw_at lw_m8 201 rfl) rfl
theorem q2001 : (Jvm.Cond.code ({ cls := "RaisedPressModel", name := "signs", desc := "(I)I" } : Jvm.MethodName) prog_17_method_99_code (6 : Nat) (Option.some Jvm.ClassFile.FieldType.int)) ∈ lw_all := lw_g (lw_at lw_m8 202 rfl) rfl
theorem q2003 : (Jvm.Cond.instanceMethod ({ cls := "RaisedPressModel", name := "pieceOf", desc := "(I)I" } : Jvm.MethodName)) ∈ lw_all := lw_g (lw_at lw_m8 204 rfl) rfl
theorem q2004 : (Jvm.Cond.selects "RaisedPressModel" ({ cls := "RaisedPressModel", name := "pieceOf", desc := "(I)I" } : Jvm.MethodName) ({ cls := "RaisedPressModel", name := "pieceOf", desc := "(I)I" } : Jvm.MethodName)) ∈ lw_all := lw_g (lw_at lw_m8 205 rfl) rfl
theorem q2005 : (Jvm.Cond.code ({ cls := "RaisedPressModel", name := "pieceOf", desc := "(I)I" } : Jvm.MethodName) prog_17_method_100_code (3 : Nat) (Option.some Jvm.ClassFile.FieldType.int)) ∈ lw_all := lw_g (lw_at lw_m8 206 rfl) rfl
theorem q2007 : (Jvm.Cond.instanceMethod ({ cls := "RaisedPressModel", name := "saved", desc := "()I" } : Jvm.MethodName)) ∈ lw_all := lw_g (lw_at lw_m8 208 rfl) rfl
theorem q2008 : (Jvm.Cond.selects "RaisedPressModel" ({ cls := "RaisedPressModel", name := "saved", desc := "()I" } : Jvm.MethodName) ({ cls := "RaisedPressModel", name := "saved", desc := "()I" } : Jvm.MethodName)) ∈ lw_all := lw_g (lw_at lw_m8 209 rfl) rfl
theorem q2009 : (Jvm.Cond.code ({ cls := "RaisedPressModel", name := "saved", desc := "()I" } : Jvm.MethodName) prog_17_method_102_code (1 : Nat) (Option.some Jvm.ClassFile.FieldType.int)) ∈ lw_all := lw_g (lw_at lw_m8 210 rfl) rfl
theorem q2010 : (Jvm.Cond.methodLink "RaisedPressModel" (359 : Nat) ({ cls := "RaisedPressModel", name := "plainOf", desc := "()I" } : Jvm.MethodName)) ∈ lw_all := lw_g (lw_at lw_m8 211 rfl) rfl
theorem q2011 : (Jvm.Cond.privateMethod ({ cls := "RaisedPressModel", name := "plainOf", desc := "()I" } : Jvm.MethodName)) ∈ lw_tbl := lw_at lw_m8 212 rfl
theorem q2012 : (Jvm.Cond.instanceMethod ({ cls := "RaisedPressModel", name := "plainOf", desc := "()I" } : Jvm.MethodName)) ∈ lw_all := lw_g (lw_at lw_m8 213 rfl) rfl
theorem q2013 : (Jvm.Cond.code ({ cls := "RaisedPressModel", name := "plainOf", desc := "()I" } : Jvm.MethodName) prog_17_method_101_code (4 : Nat) (Option.some Jvm.ClassFile.FieldType.int)) ∈ lw_all := lw_g (lw_at lw_m8 214 rfl) rfl
theorem q2015 : (Jvm.Cond.instanceMethod ({ cls := "RaisedPressModel", name := "plain", desc := "()I" } : Jvm.MethodName)) ∈ lw_all := lw_g (lw_at lw_m8 216 rfl) rfl
theorem q2016 : (Jvm.Cond.selects "RaisedPressModel" ({ cls := "RaisedPressModel", name := "plain", desc := "()I" } : Jvm.MethodName) ({ cls := "RaisedPressModel", name := "plain", desc := "()I" } : Jvm.MethodName)) ∈ lw_all := lw_g (lw_at lw_m8 217 rfl) rfl
theorem q2017 : (Jvm.Cond.code ({ cls := "RaisedPressModel", name := "plain", desc := "()I" } : Jvm.MethodName) prog_17_method_103_code (1 : Nat) (Option.some Jvm.ClassFile.FieldType.int)) ∈ lw_all := lw_g (lw_at lw_m8 218 rfl) rfl
theorem q2019 : (Jvm.Cond.instanceMethod ({ cls := "RaisedPressModel", name := "fewest", desc := "()I" } : Jvm.MethodName)) ∈ lw_all := lw_g (lw_at lw_m8 220 rfl) rfl
theorem q2020 : (Jvm.Cond.selects "RaisedPressModel" ({ cls := "RaisedPressModel", name := "fewest", desc := "()I" } : Jvm.MethodName) ({ cls := "RaisedPressModel", name := "fewest", desc := "()I" } : Jvm.MethodName)) ∈ lw_all := lw_g (lw_at lw_m8 221 rfl) rfl
theorem q2021 : (Jvm.Cond.code ({ cls := "RaisedPressModel", name := "fewest", desc := "()I" } : Jvm.MethodName) prog_17_method_105_code (3 : Nat) (Option.some Jvm.ClassFile.FieldType.int)) ∈ lw_all := lw_g (lw_at lw_m8 222 rfl) rfl
theorem q2022 : (Jvm.Cond.methodLink "RaisedPressModel" (363 : Nat) ({ cls := "RaisedPressModel", name := "leastOf", desc := "(II)I" } : Jvm.MethodName)) ∈ lw_all := lw_g (lw_at lw_m8 223 rfl) rfl
theorem q2023 : (Jvm.Cond.privateMethod ({ cls := "RaisedPressModel", name := "leastOf", desc := "(II)I" } : Jvm.MethodName)) ∈ lw_tbl := lw_at lw_m8 224 rfl
theorem q2024 : (Jvm.Cond.instanceMethod ({ cls := "RaisedPressModel", name := "leastOf", desc := "(II)I" } : Jvm.MethodName)) ∈ lw_all := lw_g (lw_at lw_m8 225 rfl) rfl
theorem q2025 : (Jvm.Cond.code ({ cls := "RaisedPressModel", name := "leastOf", desc := "(II)I" } : Jvm.MethodName) prog_17_method_104_code (5 : Nat) (Option.some Jvm.ClassFile.FieldType.int)) ∈ lw_all := lw_g (lw_at lw_m8 226 rfl) rfl
theorem q2026 : (Jvm.Cond.constant "RaisedPressModel" (362 : Nat) (1000000 : Int32)) ∈ lw_all := lw_g (lw_at lw_m8 227 rfl) rfl
theorem q2028 : (Jvm.Cond.instanceMethod ({ cls := "RaisedPressModel", name := "saving", desc := "(I)I" } : Jvm.MethodName)) ∈ lw_all := lw_g (lw_at lw_m8 229 rfl) rfl
theorem q2029 : (Jvm.Cond.selects "RaisedPressModel" ({ cls := "RaisedPressModel", name := "saving", desc := "(I)I" } : Jvm.MethodName) ({ cls := "RaisedPressModel", name := "saving", desc := "(I)I" } : Jvm.MethodName)) ∈ lw_all := lw_g (lw_at lw_m8 230 rfl) rfl
theorem q2030 : (Jvm.Cond.code ({ cls := "RaisedPressModel", name := "saving", desc := "(I)I" } : Jvm.MethodName) prog_17_method_107_code (4 : Nat) (Option.some Jvm.ClassFile.FieldType.int)) ∈ lw_all := lw_g (lw_at lw_m8 231 rfl) rfl
theorem q2031 : (Jvm.Cond.methodLink "RaisedPressModel" (366 : Nat) ({ cls := "RaisedPressModel", name := "takesBy", desc := "(I)I" } : Jvm.MethodName)) ∈ lw_all := lw_g (lw_at lw_m8 232 rfl) rfl
theorem q2032 : (Jvm.Cond.privateMethod ({ cls := "RaisedPressModel", name := "takesBy", desc := "(I)I" } : Jvm.MethodName)) ∈ lw_tbl := lw_at lw_m8 233 rfl
theorem q2033 : (Jvm.Cond.instanceMethod ({ cls := "RaisedPressModel", name := "takesBy", desc := "(I)I" } : Jvm.MethodName)) ∈ lw_all := lw_g (lw_at lw_m8 234 rfl) rfl
theorem q2034 : (Jvm.Cond.code ({ cls := "RaisedPressModel", name := "takesBy", desc := "(I)I" } : Jvm.MethodName) prog_17_method_106_code (2 : Nat) (Option.some Jvm.ClassFile.FieldType.int)) ∈ lw_all := lw_g (lw_at lw_m8 235 rfl) rfl
theorem q2036 : (Jvm.Cond.instanceMethod ({ cls := "RaisedPressModel", name := "cheapest", desc := "()I" } : Jvm.MethodName)) ∈ lw_all := lw_g (lw_at lw_m8 237 rfl) rfl
theorem q2037 : (Jvm.Cond.selects "RaisedPressModel" ({ cls := "RaisedPressModel", name := "cheapest", desc := "()I" } : Jvm.MethodName) ({ cls := "RaisedPressModel", name := "cheapest", desc := "()I" } : Jvm.MethodName)) ∈ lw_all := lw_g (lw_at lw_m8 238 rfl) rfl
theorem q2038 : (Jvm.Cond.code ({ cls := "RaisedPressModel", name := "cheapest", desc := "()I" } : Jvm.MethodName) prog_17_method_108_code (5 : Nat) (Option.some Jvm.ClassFile.FieldType.int)) ∈ lw_all := lw_g (lw_at lw_m8 239 rfl) rfl
theorem q2040 : (Jvm.Cond.instanceMethod ({ cls := "RaisedPressModel", name := "ways", desc := "(II)I" } : Jvm.MethodName)) ∈ lw_all := lw_g (lw_at lw_m9 1 rfl) rfl
theorem q2041 : (Jvm.Cond.selects "RaisedPressModel" ({ cls := "RaisedPressModel", name := "ways", desc := "(II)I" } : Jvm.MethodName) ({ cls := "RaisedPressModel", name := "ways", desc := "(II)I" } : Jvm.MethodName)) ∈ lw_all := lw_g (lw_at lw_m9 2 rfl) rfl
theorem q2042 : (Jvm.Cond.code ({ cls := "RaisedPressModel", name := "ways", desc := "(II)I" } : Jvm.MethodName) prog_17_method_113_code (4 : Nat) (Option.some Jvm.ClassFile.FieldType.int)) ∈ lw_all := lw_g (lw_at lw_m9 3 rfl) rfl
theorem q2043 : (Jvm.Cond.methodLink "RaisedPressModel" (373 : Nat) ({ cls := "RaisedPressModel", name := "wrongRow", desc := "(III)I" } : Jvm.MethodName)) ∈ lw_all := lw_g (lw_at lw_m9 4 rfl) rfl
theorem q2044 : (Jvm.Cond.privateMethod ({ cls := "RaisedPressModel", name := "wrongRow", desc := "(III)I" } : Jvm.MethodName)) ∈ lw_tbl := lw_at lw_m9 5 rfl
theorem q2045 : (Jvm.Cond.instanceMethod ({ cls := "RaisedPressModel", name := "wrongRow", desc := "(III)I" } : Jvm.MethodName)) ∈ lw_all := lw_g (lw_at lw_m9 6 rfl) rfl
theorem q2046 : (Jvm.Cond.code ({ cls := "RaisedPressModel", name := "wrongRow", desc := "(III)I" } : Jvm.MethodName) prog_17_method_109_code (5 : Nat) (Option.some Jvm.ClassFile.FieldType.int)) ∈ lw_all := lw_g (lw_at lw_m9 7 rfl) rfl
theorem q2047 : (Jvm.Cond.methodLink "RaisedPressModel" (377 : Nat) ({ cls := "RaisedPressModel", name := "laysRow", desc := "(II)V" } : Jvm.MethodName)) ∈ lw_all := lw_g (lw_at lw_m9 8 rfl) rfl
theorem q2048 : (Jvm.Cond.privateMethod ({ cls := "RaisedPressModel", name := "laysRow", desc := "(II)V" } : Jvm.MethodName)) ∈ lw_tbl := lw_at lw_m9 9 rfl
theorem q2049 : (Jvm.Cond.instanceMethod ({ cls := "RaisedPressModel", name := "laysRow", desc := "(II)V" } : Jvm.MethodName)) ∈ lw_all := lw_g (lw_at lw_m9 10 rfl) rfl
theorem q2050 : (Jvm.Cond.code ({ cls := "RaisedPressModel", name := "laysRow", desc := "(II)V" } : Jvm.MethodName) prog_17_method_110_code (4 : Nat) (Option.none : Option Jvm.ClassFile.FieldType)) ∈ lw_all := lw_g (lw_at lw_m9 11 rfl) rfl
theorem q2051 : (Jvm.Cond.methodLink "RaisedPressModel" (380 : Nat) ({ cls := "RaisedPressModel", name := "countsWays", desc := "(I)I" } : Jvm.MethodName)) ∈ lw_all := lw_g (lw_at lw_m9 12 rfl) rfl
theorem q2052 : (Jvm.Cond.privateMethod ({ cls := "RaisedPressModel", name := "countsWays", desc := "(I)I" } : Jvm.MethodName)) ∈ lw_tbl := lw_at lw_m9 13 rfl
theorem q2053 : (Jvm.Cond.instanceMethod ({ cls := "RaisedPressModel", name := "countsWays", desc := "(I)I" } : Jvm.MethodName)) ∈ lw_all := lw_g (lw_at lw_m9 14 rfl) rfl
theorem q2054 : (Jvm.Cond.code ({ cls := "RaisedPressModel", name := "countsWays", desc := "(I)I" } : Jvm.MethodName) prog_17_method_112_code (5 : Nat) (Option.some Jvm.ClassFile.FieldType.int)) ∈ lw_all := lw_g (lw_at lw_m9 15 rfl) rfl
theorem q2055 : (Jvm.Cond.methodLink "RaisedPressModel" (369 : Nat) ({ cls := "RaisedPressModel", name := "reads", desc := "(III)Z" } : Jvm.MethodName)) ∈ lw_all := lw_g (lw_at lw_m9 16 rfl) rfl
theorem q2056 : (Jvm.Cond.privateMethod ({ cls := "RaisedPressModel", name := "reads", desc := "(III)Z" } : Jvm.MethodName)) ∈ lw_tbl := lw_at lw_m9 17 rfl
theorem q2057 : (Jvm.Cond.instanceMethod ({ cls := "RaisedPressModel", name := "reads", desc := "(III)Z" } : Jvm.MethodName)) ∈ lw_all := lw_g (lw_at lw_m9 18 rfl) rfl
theorem q2058 : (Jvm.Cond.code ({ cls := "RaisedPressModel", name := "reads", desc := "(III)Z" } : Jvm.MethodName) prog_17_method_111_code (5 : Nat) (Option.some Jvm.ClassFile.FieldType.boolean)) ∈ lw_all := lw_g (lw_at lw_m9 19 rfl) rfl
theorem q2059 : (Jvm.Cond.constant "RaisedPressModel" (372 : Nat) (999999 : Int32)) ∈ lw_all := lw_g (lw_at lw_m9 20 rfl) rfl
theorem q2061 : (Jvm.Cond.instanceMethod ({ cls := "RaisedPressModel", name := "first", desc := "(II)I" } : Jvm.MethodName)) ∈ lw_all := lw_g (lw_at lw_m9 22 rfl) rfl
theorem q2062 : (Jvm.Cond.selects "RaisedPressModel" ({ cls := "RaisedPressModel", name := "first", desc := "(II)I" } : Jvm.MethodName) ({ cls := "RaisedPressModel", name := "first", desc := "(II)I" } : Jvm.MethodName)) ∈ lw_all := lw_g (lw_at lw_m9 23 rfl) rfl
theorem q2063 : (Jvm.Cond.code ({ cls := "RaisedPressModel", name := "first", desc := "(II)I" } : Jvm.MethodName) prog_17_method_114_code (6 : Nat) (Option.some Jvm.ClassFile.FieldType.int)) ∈ lw_all := lw_g (lw_at lw_m9 24 rfl) rfl
theorem q2065 : (Jvm.Cond.instanceMethod ({ cls := "RaisedPressModel", name := "firstAt", desc := "(I)I" } : Jvm.MethodName)) ∈ lw_all := lw_g (lw_at lw_m9 26 rfl) rfl
theorem q2066 : (Jvm.Cond.selects "RaisedPressModel" ({ cls := "RaisedPressModel", name := "firstAt", desc := "(I)I" } : Jvm.MethodName) ({ cls := "RaisedPressModel", name := "firstAt", desc := "(I)I" } : Jvm.MethodName)) ∈ lw_all := lw_g (lw_at lw_m9 27 rfl) rfl
theorem q2067 : (Jvm.Cond.code ({ cls := "RaisedPressModel", name := "firstAt", desc := "(I)I" } : Jvm.MethodName) prog_17_method_115_code (2 : Nat) (Option.some Jvm.ClassFile.FieldType.int)) ∈ lw_all := lw_g (lw_at lw_m9 28 rfl) rfl
theorem q2069 : (Jvm.Cond.instanceMethod ({ cls := "RaisedPressModel", name := "letters", desc := "()I" } : Jvm.MethodName)) ∈ lw_all := lw_g (lw_at lw_m9 30 rfl) rfl
theorem q2070 : (Jvm.Cond.selects "RaisedPressModel" ({ cls := "RaisedPressModel", name := "letters", desc := "()I" } : Jvm.MethodName) ({ cls := "RaisedPressModel", name := "letters", desc := "()I" } : Jvm.MethodName)) ∈ lw_all := lw_g (lw_at lw_m9 31 rfl) rfl
theorem q2071 : (Jvm.Cond.code ({ cls := "RaisedPressModel", name := "letters", desc := "()I" } : Jvm.MethodName) prog_17_method_116_code (1 : Nat) (Option.some Jvm.ClassFile.FieldType.int)) ∈ lw_all := lw_g (lw_at lw_m9 32 rfl) rfl
theorem q2073 : (Jvm.Cond.instanceMethod ({ cls := "RaisedPressModel", name := "truths", desc := "(II)I" } : Jvm.MethodName)) ∈ lw_all := lw_g (lw_at lw_m9 34 rfl) rfl
theorem q2074 : (Jvm.Cond.selects "RaisedPressModel" ({ cls := "RaisedPressModel", name := "truths", desc := "(II)I" } : Jvm.MethodName) ({ cls := "RaisedPressModel", name := "truths", desc := "(II)I" } : Jvm.MethodName)) ∈ lw_all := lw_g (lw_at lw_m9 35 rfl) rfl
theorem q2075 : (Jvm.Cond.code ({ cls := "RaisedPressModel", name := "truths", desc := "(II)I" } : Jvm.MethodName) prog_17_method_118_code (8 : Nat) (Option.some Jvm.ClassFile.FieldType.int)) ∈ lw_all := lw_g (lw_at lw_m9 36 rfl) rfl
theorem q2076 : (Jvm.Cond.methodLink "RaisedPressModel" (386 : Nat) ({ cls := "RaisedPressModel", name := "isTrue", desc := "(II)Z" } : Jvm.MethodName)) ∈ lw_all := lw_g (lw_at lw_m9 37 rfl) rfl
theorem q2077 : (Jvm.Cond.privateMethod ({ cls := "RaisedPressModel", name := "isTrue", desc := "(II)Z" } : Jvm.MethodName)) ∈ lw_tbl := lw_at lw_m9 38 rfl
theorem q2078 : (Jvm.Cond.instanceMethod ({ cls := "RaisedPressModel", name := "isTrue", desc := "(II)Z" } : Jvm.MethodName)) ∈ lw_all := lw_g (lw_at lw_m9 39 rfl) rfl
theorem q2079 : (Jvm.Cond.code ({ cls := "RaisedPressModel", name := "isTrue", desc := "(II)Z" } : Jvm.MethodName) prog_17_method_117_code (7 : Nat) (Option.some Jvm.ClassFile.FieldType.boolean)) ∈ lw_all := lw_g (lw_at lw_m9 40 rfl) rfl
theorem q2081 : (Jvm.Cond.instanceMethod ({ cls := "RaisedPressModel", name := "failed", desc := "(III)I" } : Jvm.MethodName)) ∈ lw_all := lw_g (lw_at lw_m9 42 rfl) rfl
theorem q2082 : (Jvm.Cond.selects "RaisedPressModel" ({ cls := "RaisedPressModel", name := "failed", desc := "(III)I" } : Jvm.MethodName) ({ cls := "RaisedPressModel", name := "failed", desc := "(III)I" } : Jvm.MethodName)) ∈ lw_all := lw_g (lw_at lw_m9 43 rfl) rfl
theorem q2083 : (Jvm.Cond.code ({ cls := "RaisedPressModel", name := "failed", desc := "(III)I" } : Jvm.MethodName) prog_17_method_119_code (6 : Nat) (Option.some Jvm.ClassFile.FieldType.int)) ∈ lw_all := lw_g (lw_at lw_m9 44 rfl) rfl
theorem q2085 : (Jvm.Cond.instanceMethod ({ cls := "RaisedPressModel", name := "mirror", desc := "(I)I" } : Jvm.MethodName)) ∈ lw_all := lw_g (lw_at lw_m9 46 rfl) rfl
theorem q2086 : (Jvm.Cond.selects "RaisedPressModel" ({ cls := "RaisedPressModel", name := "mirror", desc := "(I)I" } : Jvm.MethodName) ({ cls := "RaisedPressModel", name := "mirror", desc := "(I)I" } : Jvm.MethodName)) ∈ lw_all := lw_g (lw_at lw_m9 47 rfl) rfl
theorem q2087 : (Jvm.Cond.code ({ cls := "RaisedPressModel", name := "mirror", desc := "(I)I" } : Jvm.MethodName) prog_17_method_120_code (2 : Nat) (Option.some Jvm.ClassFile.FieldType.int)) ∈ lw_all := lw_g (lw_at lw_m9 48 rfl) rfl
theorem q2088 : (Jvm.Cond.methodLink "RaisedPressModel" (389 : Nat) ({ cls := "RaisedPressModel", name := "mirrorOf", desc := "(I)I" } : Jvm.MethodName)) ∈ lw_all := lw_g (lw_at lw_m9 49 rfl) rfl
theorem q2089 : (Jvm.Cond.static ({ cls := "RaisedPressModel", name := "mirrorOf", desc := "(I)I" } : Jvm.MethodName)) ∈ lw_all := lw_g (lw_at lw_m9 50 rfl) rfl
theorem q2090 : (Jvm.Cond.code ({ cls := "RaisedPressModel", name := "mirrorOf", desc := "(I)I" } : Jvm.MethodName) prog_17_method_121_code (1 : Nat) (Option.some Jvm.ClassFile.FieldType.int)) ∈ lw_all := lw_g (lw_at lw_m9 51 rfl) rfl
theorem q2092 : (Jvm.Cond.instanceMethod ({ cls := "RaisedPressModel", name := "turned", desc := "(I)I" } : Jvm.MethodName)) ∈ lw_all := lw_g (lw_at lw_m9 53 rfl) rfl
theorem q2093 : (Jvm.Cond.selects "RaisedPressModel" ({ cls := "RaisedPressModel", name := "turned", desc := "(I)I" } : Jvm.MethodName) ({ cls := "RaisedPressModel", name := "turned", desc := "(I)I" } : Jvm.MethodName)) ∈ lw_all := lw_g (lw_at lw_m9 54 rfl) rfl
theorem q2094 : (Jvm.Cond.code ({ cls := "RaisedPressModel", name := "turned", desc := "(I)I" } : Jvm.MethodName) prog_17_method_123_code (3 : Nat) (Option.some Jvm.ClassFile.FieldType.int)) ∈ lw_all := lw_g (lw_at lw_m9 55 rfl) rfl
theorem q2095 : (Jvm.Cond.methodLink "RaisedPressModel" (392 : Nat) ({ cls := "RaisedPressModel", name := "isMirror", desc := "(II)Z" } : Jvm.MethodName)) ∈ lw_all := lw_g (lw_at lw_m9 56 rfl) rfl
theorem q2096 : (Jvm.Cond.privateMethod ({ cls := "RaisedPressModel", name := "isMirror", desc := "(II)Z" } : Jvm.MethodName)) ∈ lw_tbl := lw_at lw_m9 57 rfl
theorem q2097 : (Jvm.Cond.instanceMethod ({ cls := "RaisedPressModel", name := "isMirror", desc := "(II)Z" } : Jvm.MethodName)) ∈ lw_all := lw_g (lw_at lw_m9 58 rfl) rfl
theorem q2098 : (Jvm.Cond.code ({ cls := "RaisedPressModel", name := "isMirror", desc := "(II)Z" } : Jvm.MethodName) prog_17_method_122_code (4 : Nat) (Option.some Jvm.ClassFile.FieldType.boolean)) ∈ lw_all := lw_g (lw_at lw_m9 59 rfl) rfl
theorem q2100 : (Jvm.Cond.instanceMethod ({ cls := "RaisedPressModel", name := "twins", desc := "()I" } : Jvm.MethodName)) ∈ lw_all := lw_g (lw_at lw_m9 61 rfl) rfl
theorem q2101 : (Jvm.Cond.selects "RaisedPressModel" ({ cls := "RaisedPressModel", name := "twins", desc := "()I" } : Jvm.MethodName) ({ cls := "RaisedPressModel", name := "twins", desc := "()I" } : Jvm.MethodName)) ∈ lw_all := lw_g (lw_at lw_m9 62 rfl) rfl
theorem q2102 : (Jvm.Cond.code ({ cls := "RaisedPressModel", name := "twins", desc := "()I" } : Jvm.MethodName) prog_17_method_124_code (4 : Nat) (Option.some Jvm.ClassFile.FieldType.int)) ∈ lw_all := lw_g (lw_at lw_m9 63 rfl) rfl
theorem q2103 : (Jvm.Cond.methodLink "RaisedPressModel" (395 : Nat) ({ cls := "RaisedPressModel", name := "areIn", desc := "(II)Z" } : Jvm.MethodName)) ∈ lw_all := lw_g (lw_at lw_m9 64 rfl) rfl
theorem q2104 : (Jvm.Cond.privateMethod ({ cls := "RaisedPressModel", name := "areIn", desc := "(II)Z" } : Jvm.MethodName)) ∈ lw_tbl := lw_at lw_m9 65 rfl
theorem q2105 : (Jvm.Cond.instanceMethod ({ cls := "RaisedPressModel", name := "areIn", desc := "(II)Z" } : Jvm.MethodName)) ∈ lw_all := lw_g (lw_at lw_m9 66 rfl) rfl
theorem q2106 : (Jvm.Cond.code ({ cls := "RaisedPressModel", name := "areIn", desc := "(II)Z" } : Jvm.MethodName) prog_17_method_128_code (3 : Nat) (Option.some Jvm.ClassFile.FieldType.boolean)) ∈ lw_all := lw_g (lw_at lw_m9 67 rfl) rfl
theorem q2107 : (Jvm.Cond.methodLink "RaisedPressModel" (398 : Nat) ({ cls := "RaisedPressModel", name := "doClash", desc := "(II)Z" } : Jvm.MethodName)) ∈ lw_all := lw_g (lw_at lw_m9 68 rfl) rfl
theorem q2108 : (Jvm.Cond.privateMethod ({ cls := "RaisedPressModel", name := "doClash", desc := "(II)Z" } : Jvm.MethodName)) ∈ lw_tbl := lw_at lw_m9 69 rfl
theorem q2109 : (Jvm.Cond.instanceMethod ({ cls := "RaisedPressModel", name := "doClash", desc := "(II)Z" } : Jvm.MethodName)) ∈ lw_all := lw_g (lw_at lw_m9 70 rfl) rfl
theorem q2110 : (Jvm.Cond.code ({ cls := "RaisedPressModel", name := "doClash", desc := "(II)Z" } : Jvm.MethodName) prog_17_method_126_code (4 : Nat) (Option.some Jvm.ClassFile.FieldType.boolean)) ∈ lw_all := lw_g (lw_at lw_m9 71 rfl) rfl
theorem q2112 : (Jvm.Cond.instanceMethod ({ cls := "RaisedPressModel", name := "near", desc := "(II)I" } : Jvm.MethodName)) ∈ lw_all := lw_g (lw_at lw_m9 73 rfl) rfl
theorem q2113 : (Jvm.Cond.selects "RaisedPressModel" ({ cls := "RaisedPressModel", name := "near", desc := "(II)I" } : Jvm.MethodName) ({ cls := "RaisedPressModel", name := "near", desc := "(II)I" } : Jvm.MethodName)) ∈ lw_all := lw_g (lw_at lw_m9 74 rfl) rfl
theorem q2114 : (Jvm.Cond.code ({ cls := "RaisedPressModel", name := "near", desc := "(II)I" } : Jvm.MethodName) prog_17_method_125_code (5 : Nat) (Option.some Jvm.ClassFile.FieldType.int)) ∈ lw_all := lw_g (lw_at lw_m9 75 rfl) rfl
theorem q2116 : (Jvm.Cond.instanceMethod ({ cls := "RaisedPressModel", name := "clash", desc := "(II)I" } : Jvm.MethodName)) ∈ lw_all := lw_g (lw_at lw_m9 77 rfl) rfl
theorem q2117 : (Jvm.Cond.selects "RaisedPressModel" ({ cls := "RaisedPressModel", name := "clash", desc := "(II)I" } : Jvm.MethodName) ({ cls := "RaisedPressModel", name := "clash", desc := "(II)I" } : Jvm.MethodName)) ∈ lw_all := lw_g (lw_at lw_m9 78 rfl) rfl
theorem q2118 : (Jvm.Cond.code ({ cls := "RaisedPressModel", name := "clash", desc := "(II)I" } : Jvm.MethodName) prog_17_method_127_code (3 : Nat) (Option.some Jvm.ClassFile.FieldType.int)) ∈ lw_all := lw_g (lw_at lw_m9 79 rfl) rfl
theorem q2120 : (Jvm.Cond.instanceMethod ({ cls := "RaisedPressModel", name := "clashes", desc := "()I" } : Jvm.MethodName)) ∈ lw_all := lw_g (lw_at lw_m9 81 rfl) rfl
theorem q2121 : (Jvm.Cond.selects "RaisedPressModel" ({ cls := "RaisedPressModel", name := "clashes", desc := "()I" } : Jvm.MethodName) ({ cls := "RaisedPressModel", name := "clashes", desc := "()I" } : Jvm.MethodName)) ∈ lw_all := lw_g (lw_at lw_m9 82 rfl) rfl
theorem q2122 : (Jvm.Cond.code ({ cls := "RaisedPressModel", name := "clashes", desc := "()I" } : Jvm.MethodName) prog_17_method_129_code (4 : Nat) (Option.some Jvm.ClassFile.FieldType.int)) ∈ lw_all := lw_g (lw_at lw_m9 83 rfl) rfl
theorem q2124 : (Jvm.Cond.instanceMethod ({ cls := "RaisedPressModel", name := "clear", desc := "()I" } : Jvm.MethodName)) ∈ lw_all := lw_g (lw_at lw_m9 85 rfl) rfl
theorem q2125 : (Jvm.Cond.selects "RaisedPressModel" ({ cls := "RaisedPressModel", name := "clear", desc := "()I" } : Jvm.MethodName) ({ cls := "RaisedPressModel", name := "clear", desc := "()I" } : Jvm.MethodName)) ∈ lw_all := lw_g (lw_at lw_m9 86 rfl) rfl
theorem q2126 : (Jvm.Cond.code ({ cls := "RaisedPressModel", name := "clear", desc := "()I" } : Jvm.MethodName) prog_17_method_136_code (1 : Nat) (Option.some Jvm.ClassFile.FieldType.int)) ∈ lw_all := lw_g (lw_at lw_m9 87 rfl) rfl
theorem q2127 : (Jvm.Cond.methodLink "RaisedPressModel" (416 : Nat) ({ cls := "RaisedPressModel", name := "twinOf", desc := "()I" } : Jvm.MethodName)) ∈ lw_all := lw_g (lw_at lw_m9 88 rfl) rfl
theorem q2128 : (Jvm.Cond.privateMethod ({ cls := "RaisedPressModel", name := "twinOf", desc := "()I" } : Jvm.MethodName)) ∈ lw_tbl := lw_at lw_m9 89 rfl
theorem q2129 : (Jvm.Cond.instanceMethod ({ cls := "RaisedPressModel", name := "twinOf", desc := "()I" } : Jvm.MethodName)) ∈ lw_all := lw_g (lw_at lw_m9 90 rfl) rfl
theorem q2130 : (Jvm.Cond.code ({ cls := "RaisedPressModel", name := "twinOf", desc := "()I" } : Jvm.MethodName) prog_17_method_135_code (4 : Nat) (Option.some Jvm.ClassFile.FieldType.int)) ∈ lw_all := lw_g (lw_at lw_m9 91 rfl) rfl
theorem q2131 : (Jvm.Cond.methodLink "RaisedPressModel" (407 : Nat) ({ cls := "RaisedPressModel", name := "overOf", desc := "(II)I" } : Jvm.MethodName)) ∈ lw_all := lw_g (lw_at lw_m9 92 rfl) rfl
theorem q2132 : (Jvm.Cond.privateMethod ({ cls := "RaisedPressModel", name := "overOf", desc := "(II)I" } : Jvm.MethodName)) ∈ lw_tbl := lw_at lw_m9 93 rfl
theorem q2133 : (Jvm.Cond.instanceMethod ({ cls := "RaisedPressModel", name := "overOf", desc := "(II)I" } : Jvm.MethodName)) ∈ lw_all := lw_g (lw_at lw_m9 94 rfl) rfl
theorem q2134 : (Jvm.Cond.code ({ cls := "RaisedPressModel", name := "overOf", desc := "(II)I" } : Jvm.MethodName) prog_17_method_130_code (4 : Nat) (Option.some Jvm.ClassFile.FieldType.int)) ∈ lw_all := lw_g (lw_at lw_m9 95 rfl) rfl
theorem q2135 : (Jvm.Cond.methodLink "RaisedPressModel" (410 : Nat) ({ cls := "RaisedPressModel", name := "comesTo", desc := "(II)Z" } : Jvm.MethodName)) ∈ lw_all := lw_g (lw_at lw_m9 96 rfl) rfl
theorem q2136 : (Jvm.Cond.privateMethod ({ cls := "RaisedPressModel", name := "comesTo", desc := "(II)Z" } : Jvm.MethodName)) ∈ lw_tbl := lw_at lw_m9 97 rfl
theorem q2137 : (Jvm.Cond.instanceMethod ({ cls := "RaisedPressModel", name := "comesTo", desc := "(II)Z" } : Jvm.MethodName)) ∈ lw_all := lw_g (lw_at lw_m9 98 rfl) rfl
theorem q2138 : (Jvm.Cond.code ({ cls := "RaisedPressModel", name := "comesTo", desc := "(II)Z" } : Jvm.MethodName) prog_17_method_133_code (3 : Nat) (Option.some Jvm.ClassFile.FieldType.boolean)) ∈ lw_all := lw_g (lw_at lw_m9 99 rfl) rfl
theorem q2139 : (Jvm.Cond.methodLink "RaisedPressModel" (413 : Nat) ({ cls := "RaisedPressModel", name := "goesOn", desc := "(II)Z" } : Jvm.MethodName)) ∈ lw_all := lw_g (lw_at lw_m9 100 rfl) rfl
theorem q2140 : (Jvm.Cond.privateMethod ({ cls := "RaisedPressModel", name := "goesOn", desc := "(II)Z" } : Jvm.MethodName)) ∈ lw_tbl := lw_at lw_m9 101 rfl
theorem q2141 : (Jvm.Cond.instanceMethod ({ cls := "RaisedPressModel", name := "goesOn", desc := "(II)Z" } : Jvm.MethodName)) ∈ lw_all := lw_g (lw_at lw_m9 102 rfl) rfl
theorem q2142 : (Jvm.Cond.code ({ cls := "RaisedPressModel", name := "goesOn", desc := "(II)Z" } : Jvm.MethodName) prog_17_method_134_code (6 : Nat) (Option.some Jvm.ClassFile.FieldType.boolean)) ∈ lw_all := lw_g (lw_at lw_m9 103 rfl) rfl
theorem q2143 : (Jvm.Cond.methodLink "RaisedPressModel" (401 : Nat) ({ cls := "RaisedPressModel", name := "sizeOf", desc := "(I)I" } : Jvm.MethodName)) ∈ lw_all := lw_g (lw_at lw_m9 104 rfl) rfl
theorem q2144 : (Jvm.Cond.static ({ cls := "RaisedPressModel", name := "sizeOf", desc := "(I)I" } : Jvm.MethodName)) ∈ lw_all := lw_g (lw_at lw_m9 105 rfl) rfl
theorem q2145 : (Jvm.Cond.code ({ cls := "RaisedPressModel", name := "sizeOf", desc := "(I)I" } : Jvm.MethodName) prog_17_method_131_code (1 : Nat) (Option.some Jvm.ClassFile.FieldType.int)) ∈ lw_all := lw_g (lw_at lw_m9 106 rfl) rfl
theorem q2146 : (Jvm.Cond.methodLink "RaisedPressModel" (404 : Nat) ({ cls := "RaisedPressModel", name := "cellIn", desc := "(II)I" } : Jvm.MethodName)) ∈ lw_all := lw_g (lw_at lw_m9 107 rfl) rfl
theorem q2147 : (Jvm.Cond.static ({ cls := "RaisedPressModel", name := "cellIn", desc := "(II)I" } : Jvm.MethodName)) ∈ lw_all := lw_g (lw_at lw_m9 108 rfl) rfl
theorem q2148 : (Jvm.Cond.code ({ cls := "RaisedPressModel", name := "cellIn", desc := "(II)I" } : Jvm.MethodName) prog_17_method_132_code (2 : Nat) (Option.some Jvm.ClassFile.FieldType.int)) ∈ lw_all := lw_g (lw_at lw_m9 109 rfl) rfl
theorem q2150 : (Jvm.Cond.instanceMethod ({ cls := "RaisedPressModel", name := "twin", desc := "()I" } : Jvm.MethodName)) ∈ lw_all := lw_g (lw_at lw_m9 111 rfl) rfl
theorem q2151 : (Jvm.Cond.selects "RaisedPressModel" ({ cls := "RaisedPressModel", name := "twin", desc := "()I" } : Jvm.MethodName) ({ cls := "RaisedPressModel", name := "twin", desc := "()I" } : Jvm.MethodName)) ∈ lw_all := lw_g (lw_at lw_m9 112 rfl) rfl
theorem q2152 : (Jvm.Cond.code ({ cls := "RaisedPressModel", name := "twin", desc := "()I" } : Jvm.MethodName) prog_17_method_137_code (2 : Nat) (Option.some Jvm.ClassFile.FieldType.int)) ∈ lw_all := lw_g (lw_at lw_m9 113 rfl) rfl
theorem q2154 : (Jvm.Cond.instanceMethod ({ cls := "RaisedPressModel", name := "lacks", desc := "()I" } : Jvm.MethodName)) ∈ lw_all := lw_g (lw_at lw_m9 115 rfl) rfl
theorem q2155 : (Jvm.Cond.selects "RaisedPressModel" ({ cls := "RaisedPressModel", name := "lacks", desc := "()I" } : Jvm.MethodName) ({ cls := "RaisedPressModel", name := "lacks", desc := "()I" } : Jvm.MethodName)) ∈ lw_all := lw_g (lw_at lw_m9 116 rfl) rfl
theorem q2156 : (Jvm.Cond.code ({ cls := "RaisedPressModel", name := "lacks", desc := "()I" } : Jvm.MethodName) prog_17_method_138_code (3 : Nat) (Option.some Jvm.ClassFile.FieldType.int)) ∈ lw_all := lw_g (lw_at lw_m9 117 rfl) rfl
theorem q2158 : (Jvm.Cond.instanceMethod ({ cls := "RaisedPressModel", name := "worn", desc := "(II)I" } : Jvm.MethodName)) ∈ lw_all := lw_g (lw_at lw_m9 119 rfl) rfl
theorem q2159 : (Jvm.Cond.selects "RaisedPressModel" ({ cls := "RaisedPressModel", name := "worn", desc := "(II)I" } : Jvm.MethodName) ({ cls := "RaisedPressModel", name := "worn", desc := "(II)I" } : Jvm.MethodName)) ∈ lw_all := lw_g (lw_at lw_m9 120 rfl) rfl
theorem q2160 : (Jvm.Cond.code ({ cls := "RaisedPressModel", name := "worn", desc := "(II)I" } : Jvm.MethodName) prog_17_method_141_code (5 : Nat) (Option.some Jvm.ClassFile.FieldType.int)) ∈ lw_all := lw_g (lw_at lw_m9 121 rfl) rfl
theorem q2161 : (Jvm.Cond.constantLong "RaisedPressModel" (426 : Nat) (9999 : Int64)) ∈ lw_all := lw_g (lw_at lw_m9 122 rfl) rfl
theorem q2162 : (Jvm.Cond.constantLong "RaisedPressModel" (428 : Nat) (16 : Int64)) ∈ lw_all := lw_g (lw_at lw_m9 123 rfl) rfl
theorem q2163 : (Jvm.Cond.methodLink "RaisedPressModel" (430 : Nat) ({ cls := "RaisedPressModel", name := "wears", desc := "(II)I" } : Jvm.MethodName)) ∈ lw_all := lw_g (lw_at lw_m9 124 rfl) rfl
theorem q2164 : (Jvm.Cond.privateMethod ({ cls := "RaisedPressModel", name := "wears", desc := "(II)I" } : Jvm.MethodName)) ∈ lw_tbl := lw_at lw_m9 125 rfl
theorem q2165 : (Jvm.Cond.instanceMethod ({ cls := "RaisedPressModel", name := "wears", desc := "(II)I" } : Jvm.MethodName)) ∈ lw_all := lw_g (lw_at lw_m9 126 rfl) rfl
theorem q2166 : (Jvm.Cond.code ({ cls := "RaisedPressModel", name := "wears", desc := "(II)I" } : Jvm.MethodName) prog_17_method_140_code (6 : Nat) (Option.some Jvm.ClassFile.FieldType.int)) ∈ lw_all := lw_g (lw_at lw_m9 127 rfl) rfl
theorem q2167 : (Jvm.Cond.methodLink "RaisedPressModel" (423 : Nat) ({ cls := "RaisedPressModel", name := "draw", desc := "()I" } : Jvm.MethodName)) ∈ lw_all := lw_g (lw_at lw_m9 128 rfl) rfl
theorem q2168 : (Jvm.Cond.privateMethod ({ cls := "RaisedPressModel", name := "draw", desc := "()I" } : Jvm.MethodName)) ∈ lw_tbl := lw_at lw_m9 129 rfl
theorem q2169 : (Jvm.Cond.instanceMethod ({ cls := "RaisedPressModel", name := "draw", desc := "()I" } : Jvm.MethodName)) ∈ lw_all := lw_g (lw_at lw_m9 130 rfl) rfl
theorem q2170 : (Jvm.Cond.code ({ cls := "RaisedPressModel", name := "draw", desc := "()I" } : Jvm.MethodName) prog_17_method_139_code (1 : Nat) (Option.some Jvm.ClassFile.FieldType.int)) ∈ lw_all := lw_g (lw_at lw_m9 131 rfl) rfl
theorem q2171 : (Jvm.Cond.constant "RaisedPressModel" (422 : Nat) (65536 : Int32)) ∈ lw_all := lw_g (lw_at lw_m9 132 rfl) rfl
theorem q2173 : (Jvm.Cond.instanceMethod ({ cls := "RaisedPressModel", name := "wornAt", desc := "(I)I" } : Jvm.MethodName)) ∈ lw_all := lw_g (lw_at lw_m9 134 rfl) rfl
theorem q2174 : (Jvm.Cond.selects "RaisedPressModel" ({ cls := "RaisedPressModel", name := "wornAt", desc := "(I)I" } : Jvm.MethodName) ({ cls := "RaisedPressModel", name := "wornAt", desc := "(I)I" } : Jvm.MethodName)) ∈ lw_all := lw_g (lw_at lw_m9 135 rfl) rfl
theorem q2175 : (Jvm.Cond.code ({ cls := "RaisedPressModel", name := "wornAt", desc := "(I)I" } : Jvm.MethodName) prog_17_method_142_code (2 : Nat) (Option.some Jvm.ClassFile.FieldType.int)) ∈ lw_all := lw_g (lw_at lw_m9 136 rfl) rfl
theorem q2177 : (Jvm.Cond.instanceMethod ({ cls := "RaisedPressModel", name := "odds", desc := "(III)Z" } : Jvm.MethodName)) ∈ lw_all := lw_g (lw_at lw_m9 138 rfl) rfl
theorem q2178 : (Jvm.Cond.selects "RaisedPressModel" ({ cls := "RaisedPressModel", name := "odds", desc := "(III)Z" } : Jvm.MethodName) ({ cls := "RaisedPressModel", name := "odds", desc := "(III)Z" } : Jvm.MethodName)) ∈ lw_all := lw_g (lw_at lw_m9 139 rfl) rfl
theorem q2179 : (Jvm.Cond.code ({ cls := "RaisedPressModel", name := "odds", desc := "(III)Z" } : Jvm.MethodName) prog_17_method_143_code (9 : Nat) (Option.some Jvm.ClassFile.FieldType.boolean)) ∈ lw_all := lw_g (lw_at lw_m9 140 rfl) rfl
theorem q2180 : (Jvm.Cond.constantLong "RaisedPressModel" (433 : Nat) (20 : Int64)) ∈ lw_all := lw_g (lw_at lw_m9 141 rfl) rfl
theorem q2181 : (Jvm.Cond.methodLink "RaisedPressModel" (435 : Nat) ({ cls := "RaisedPressModel", name := "tellsBy", desc := "(JJ)Z" } : Jvm.MethodName)) ∈ lw_all := lw_g (lw_at lw_m9 142 rfl) rfl
theorem q2182 : (Jvm.Cond.privateMethod ({ cls := "RaisedPressModel", name := "tellsBy", desc := "(JJ)Z" } : Jvm.MethodName)) ∈ lw_tbl := lw_at lw_m9 143 rfl
theorem q2183 : (Jvm.Cond.instanceMethod ({ cls := "RaisedPressModel", name := "tellsBy", desc := "(JJ)Z" } : Jvm.MethodName)) ∈ lw_all := lw_g (lw_at lw_m9 144 rfl) rfl
theorem q2184 : (Jvm.Cond.code ({ cls := "RaisedPressModel", name := "tellsBy", desc := "(JJ)Z" } : Jvm.MethodName) prog_17_method_9_code (11 : Nat) (Option.some Jvm.ClassFile.FieldType.boolean)) ∈ lw_all := lw_g (lw_at lw_m9 145 rfl) rfl
theorem q2186 : (Jvm.Cond.instanceMethod ({ cls := "RaisedPressModel", name := "mark", desc := "()I" } : Jvm.MethodName)) ∈ lw_all := lw_g (lw_at lw_m9 147 rfl) rfl
theorem q2187 : (Jvm.Cond.selects "RaisedPressModel" ({ cls := "RaisedPressModel", name := "mark", desc := "()I" } : Jvm.MethodName) ({ cls := "RaisedPressModel", name := "mark", desc := "()I" } : Jvm.MethodName)) ∈ lw_all := lw_g (lw_at lw_m9 148 rfl) rfl
theorem q2188 : (Jvm.Cond.code ({ cls := "RaisedPressModel", name := "mark", desc := "()I" } : Jvm.MethodName) prog_17_method_145_code (1 : Nat) (Option.some Jvm.ClassFile.FieldType.int)) ∈ lw_all := lw_g (lw_at lw_m9 149 rfl) rfl
theorem q2189 : (Jvm.Cond.methodLink "RaisedPressModel" (442 : Nat) ({ cls := "RaisedPressModel", name := "copies", desc := "(II)V" } : Jvm.MethodName)) ∈ lw_all := lw_g (lw_at lw_m9 150 rfl) rfl
theorem q2190 : (Jvm.Cond.privateMethod ({ cls := "RaisedPressModel", name := "copies", desc := "(II)V" } : Jvm.MethodName)) ∈ lw_tbl := lw_at lw_m9 151 rfl
theorem q2191 : (Jvm.Cond.instanceMethod ({ cls := "RaisedPressModel", name := "copies", desc := "(II)V" } : Jvm.MethodName)) ∈ lw_all := lw_g (lw_at lw_m9 152 rfl) rfl
theorem q2192 : (Jvm.Cond.code ({ cls := "RaisedPressModel", name := "copies", desc := "(II)V" } : Jvm.MethodName) prog_17_method_144_code (4 : Nat) (Option.none : Option Jvm.ClassFile.FieldType)) ∈ lw_all := lw_g (lw_at lw_m9 153 rfl) rfl
theorem q2194 : (Jvm.Cond.instanceMethod ({ cls := "RaisedPressModel", name := "back", desc := "()I" } : Jvm.MethodName)) ∈ lw_all := lw_g (lw_at lw_m9 155 rfl) rfl
theorem q2195 : (Jvm.Cond.selects "RaisedPressModel" ({ cls := "RaisedPressModel", name := "back", desc := "()I" } : Jvm.MethodName) ({ cls := "RaisedPressModel", name := "back", desc := "()I" } : Jvm.MethodName)) ∈ lw_all := lw_g (lw_at lw_m9 156 rfl) rfl
theorem q2196 : (Jvm.Cond.code ({ cls := "RaisedPressModel", name := "back", desc := "()I" } : Jvm.MethodName) prog_17_method_146_code (1 : Nat) (Option.some Jvm.ClassFile.FieldType.int)) ∈ lw_all := lw_g (lw_at lw_m9 157 rfl) rfl
theorem in_X7 : ∀ w ∈ wsX70, w ∈ lw_all := lw_in wsX70 [1530, 1532, 1534, 1536, 1538, 1540, 1542, 1544, 1546, 1548, 1550, 1552, 1554, 1556, 1558, 1560, 1562, 1564, 1566, 1568, 1570, 1572, 1574, 1576, 1578, 1580, 1582, 1584, 1586, 1588, 1590, 1592, 1594, 1596, 1598, 1600, 1602, 1604, 1606, 1608, 1610, 1612, 1614, 1616, 1618, 1620] (by decide +kernel) (by decide +kernel)
