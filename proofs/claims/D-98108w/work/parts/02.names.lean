/-! DECODE ROWS BY BYTES: one lemma an opcode; a method's code is cut into short pieces once, and a row reads its own piece alone. -/
set_option maxRecDepth 100000
/-- the code has just these bytes from pc on -/
def DkAt (code : ByteArray) (pc : Nat) (bs : List UInt8) : Prop := ∀ (j : Nat) (b : UInt8), bs[j]? = some b → code.data.toList[pc + j]? = some b
/-- the piece W has the bytes bs from its place j on -/
def dkIn (W : List UInt8) (j : Nat) (bs : List UInt8) : Bool := decide ((W.drop j).take bs.length = bs)
theorem dk_seg {l W T : List UInt8} {o o2 : Nat} (h : l.drop o = W ++ T) (n : Nat) (hn : W.length = n) (ho : o + n = o2) : l.drop o2 = T := by
  subst ho
  rw [← List.drop_drop, h, List.drop_left' hn]
theorem dk_at {code : ByteArray} {W T bs : List UInt8} {o pc : Nat} (h : code.data.toList.drop o = W ++ T) (j : Nat) (hp : o + j = pc) (hw : dkIn W j bs = true) : DkAt code pc bs := by
  subst hp
  intro i b e
  have h1 := of_decide_eq_true hw
  have h2 : i < bs.length := (List.getElem?_eq_some_iff.mp e).1
  have h3 : W[j + i]? = some b := by
    rw [← h1, List.getElem?_take, if_pos h2, List.getElem?_drop] at e
    exact e
  have h4 : j + i < W.length := (List.getElem?_eq_some_iff.mp h3).1
  have h5 : (code.data.toList.drop o)[j + i]? = some b := by
    rw [h, List.getElem?_append_left h4]
    exact h3
  rw [List.getElem?_drop, ← Nat.add_assoc] at h5
  exact h5
theorem dk_u1 {A : ByteArray} {p : Nat} {b : UInt8} (h : A.data.toList[p]? = some b) : (Reader.u1 : Reader DecodeError Nat) A p = .ok (b.toNat, p + 1) := by
  obtain ⟨h1, h2⟩ := List.getElem?_eq_some_iff.mp h
  have h3 : p < A.size := by simpa using h1
  have h4 : A[p]'h3 = b := h2
  have e : (Reader.u1 : Reader DecodeError Nat) A p = (if h : p < A.size then .ok (A[p].toNat, p + 1) else .error (HasTruncated.truncated p)) := by
    show (do if h : p < A.size then do set (p + 1); Pure.pure A[p].toNat else MonadExcept.throw (HasTruncated.truncated p) : Reader DecodeError Nat) A p = _
    by_cases hi : p < A.size
    · rw [dif_pos hi, dif_pos hi]; rfl
    · rw [dif_neg hi, dif_neg hi]; rfl
  rw [e, dif_pos h3, h4]
theorem dk_bind {α β : Type} {r : Reader DecodeError α} {f : α → Reader DecodeError β} {A : ByteArray} {p s : Nat} {a : α} (h : r A p = .ok (a, s)) : (r >>= f) A p = f a A s := by
  show (do let (a, s) ← r A p; f a A s : Except DecodeError (β × Nat)) = _
  rw [h]
  rfl
theorem dk_map {α β : Type} {r : Reader DecodeError α} {g : α → β} {A : ByteArray} {p s : Nat} {a : α} (h : r A p = .ok (a, s)) : (g <$> r) A p = .ok (g a, s) := by
  show (do let (a, s) ← r A p; .ok (g a, s) : Except DecodeError (β × Nat)) = _
  rw [h]
  rfl
theorem dk_u2 {A : ByteArray} {p : Nat} {a b : UInt8} (h : A.data.toList[p]? = some a) (h2 : A.data.toList[p + 1]? = some b) : (Reader.u2 : Reader DecodeError Nat) A p = .ok (a.toNat * 256 + b.toNat, p + 2) := by
  show (Reader.u1 >>= fun hi => Reader.u1 >>= fun lo => Pure.pure (hi * 256 + lo) : Reader DecodeError Nat) A p = _
  rw [dk_bind (dk_u1 h), dk_bind (dk_u1 h2)]
  rfl
theorem dk_of {code : ByteArray} {pc n : Nat} {i : Instr} (h : Decoder.instr pc code pc = .ok (i, pc + n)) : decode code pc = .ok (i, n) := by
  have e : decode code pc = (match Decoder.instr pc code pc with | .error x => .error x | .ok (j, s) => .ok (j, s - pc)) := by
    show (do let (j, s) ← Decoder.instr pc code pc; Pure.pure (j, s - pc) : Except DecodeError (Instr × Nat)) = _
    cases Decoder.instr pc code pc <;> rfl
  rw [e, h]
  show Except.ok (i, pc + n - pc) = _
  rw [Nat.add_sub_cancel_left]
theorem dk_1 {code : ByteArray} {pc : Nat} (h : DkAt code pc [1]) : decode code pc = .ok (.aconst_null, 1) := dk_of ((dk_bind (dk_u1 (h 0 _ rfl))).trans rfl)
theorem dk_2 {code : ByteArray} {pc : Nat} (h : DkAt code pc [2]) : decode code pc = .ok (.iconst (-1), 1) := dk_of ((dk_bind (dk_u1 (h 0 _ rfl))).trans rfl)
theorem dk_3 {code : ByteArray} {pc : Nat} (h : DkAt code pc [3]) : decode code pc = .ok (.iconst 0, 1) := dk_of ((dk_bind (dk_u1 (h 0 _ rfl))).trans rfl)
theorem dk_4 {code : ByteArray} {pc : Nat} (h : DkAt code pc [4]) : decode code pc = .ok (.iconst 1, 1) := dk_of ((dk_bind (dk_u1 (h 0 _ rfl))).trans rfl)
theorem dk_5 {code : ByteArray} {pc : Nat} (h : DkAt code pc [5]) : decode code pc = .ok (.iconst 2, 1) := dk_of ((dk_bind (dk_u1 (h 0 _ rfl))).trans rfl)
theorem dk_6 {code : ByteArray} {pc : Nat} (h : DkAt code pc [6]) : decode code pc = .ok (.iconst 3, 1) := dk_of ((dk_bind (dk_u1 (h 0 _ rfl))).trans rfl)
theorem dk_7 {code : ByteArray} {pc : Nat} (h : DkAt code pc [7]) : decode code pc = .ok (.iconst 4, 1) := dk_of ((dk_bind (dk_u1 (h 0 _ rfl))).trans rfl)
theorem dk_8 {code : ByteArray} {pc : Nat} (h : DkAt code pc [8]) : decode code pc = .ok (.iconst 5, 1) := dk_of ((dk_bind (dk_u1 (h 0 _ rfl))).trans rfl)
theorem dk_9 {code : ByteArray} {pc : Nat} (h : DkAt code pc [9]) : decode code pc = .ok (.lconst 0, 1) := dk_of ((dk_bind (dk_u1 (h 0 _ rfl))).trans rfl)
theorem dk_10 {code : ByteArray} {pc : Nat} (h : DkAt code pc [10]) : decode code pc = .ok (.lconst 1, 1) := dk_of ((dk_bind (dk_u1 (h 0 _ rfl))).trans rfl)
theorem dk_16 {code : ByteArray} {pc : Nat} (a : UInt8) (h : DkAt code pc [16, a]) : decode code pc = .ok (.bipush (Reader.signed 8 a.toNat), 2) := dk_of ((dk_bind (dk_u1 (h 0 _ rfl))).trans ((dk_bind (dk_map (dk_u1 (h 1 _ rfl)))).trans rfl))
theorem dk_17 {code : ByteArray} {pc : Nat} (a b : UInt8) (h : DkAt code pc [17, a, b]) : decode code pc = .ok (.sipush (Reader.signed 16 (a.toNat * 256 + b.toNat)), 3) := dk_of ((dk_bind (dk_u1 (h 0 _ rfl))).trans ((dk_bind (dk_map (dk_u2 (h 1 _ rfl) (h 2 _ rfl)))).trans rfl))
theorem dk_18 {code : ByteArray} {pc : Nat} (a : UInt8) (h : DkAt code pc [18, a]) : decode code pc = .ok (.ldc a.toNat, 2) := dk_of ((dk_bind (dk_u1 (h 0 _ rfl))).trans ((dk_bind (dk_u1 (h 1 _ rfl))).trans rfl))
theorem dk_19 {code : ByteArray} {pc : Nat} (a b : UInt8) (h : DkAt code pc [19, a, b]) : decode code pc = .ok (.ldc_w (a.toNat * 256 + b.toNat), 3) := dk_of ((dk_bind (dk_u1 (h 0 _ rfl))).trans ((dk_bind (dk_u2 (h 1 _ rfl) (h 2 _ rfl))).trans rfl))
theorem dk_20 {code : ByteArray} {pc : Nat} (a b : UInt8) (h : DkAt code pc [20, a, b]) : decode code pc = .ok (.ldc2_w (a.toNat * 256 + b.toNat), 3) := dk_of ((dk_bind (dk_u1 (h 0 _ rfl))).trans ((dk_bind (dk_u2 (h 1 _ rfl) (h 2 _ rfl))).trans rfl))
theorem dk_21 {code : ByteArray} {pc : Nat} (a : UInt8) (h : DkAt code pc [21, a]) : decode code pc = .ok (.iload a.toNat, 2) := dk_of ((dk_bind (dk_u1 (h 0 _ rfl))).trans ((dk_bind (dk_u1 (h 1 _ rfl))).trans rfl))
theorem dk_22 {code : ByteArray} {pc : Nat} (a : UInt8) (h : DkAt code pc [22, a]) : decode code pc = .ok (.lload a.toNat, 2) := dk_of ((dk_bind (dk_u1 (h 0 _ rfl))).trans ((dk_bind (dk_u1 (h 1 _ rfl))).trans rfl))
theorem dk_26 {code : ByteArray} {pc : Nat} (h : DkAt code pc [26]) : decode code pc = .ok (.iload_n 0, 1) := dk_of ((dk_bind (dk_u1 (h 0 _ rfl))).trans rfl)
theorem dk_27 {code : ByteArray} {pc : Nat} (h : DkAt code pc [27]) : decode code pc = .ok (.iload_n 1, 1) := dk_of ((dk_bind (dk_u1 (h 0 _ rfl))).trans rfl)
theorem dk_28 {code : ByteArray} {pc : Nat} (h : DkAt code pc [28]) : decode code pc = .ok (.iload_n 2, 1) := dk_of ((dk_bind (dk_u1 (h 0 _ rfl))).trans rfl)
theorem dk_29 {code : ByteArray} {pc : Nat} (h : DkAt code pc [29]) : decode code pc = .ok (.iload_n 3, 1) := dk_of ((dk_bind (dk_u1 (h 0 _ rfl))).trans rfl)
theorem dk_30 {code : ByteArray} {pc : Nat} (h : DkAt code pc [30]) : decode code pc = .ok (.lload_n 0, 1) := dk_of ((dk_bind (dk_u1 (h 0 _ rfl))).trans rfl)
theorem dk_31 {code : ByteArray} {pc : Nat} (h : DkAt code pc [31]) : decode code pc = .ok (.lload_n 1, 1) := dk_of ((dk_bind (dk_u1 (h 0 _ rfl))).trans rfl)
theorem dk_32 {code : ByteArray} {pc : Nat} (h : DkAt code pc [32]) : decode code pc = .ok (.lload_n 2, 1) := dk_of ((dk_bind (dk_u1 (h 0 _ rfl))).trans rfl)
theorem dk_33 {code : ByteArray} {pc : Nat} (h : DkAt code pc [33]) : decode code pc = .ok (.lload_n 3, 1) := dk_of ((dk_bind (dk_u1 (h 0 _ rfl))).trans rfl)
theorem dk_42 {code : ByteArray} {pc : Nat} (h : DkAt code pc [42]) : decode code pc = .ok (.aload_n 0, 1) := dk_of ((dk_bind (dk_u1 (h 0 _ rfl))).trans rfl)
theorem dk_43 {code : ByteArray} {pc : Nat} (h : DkAt code pc [43]) : decode code pc = .ok (.aload_n 1, 1) := dk_of ((dk_bind (dk_u1 (h 0 _ rfl))).trans rfl)
theorem dk_44 {code : ByteArray} {pc : Nat} (h : DkAt code pc [44]) : decode code pc = .ok (.aload_n 2, 1) := dk_of ((dk_bind (dk_u1 (h 0 _ rfl))).trans rfl)
theorem dk_45 {code : ByteArray} {pc : Nat} (h : DkAt code pc [45]) : decode code pc = .ok (.aload_n 3, 1) := dk_of ((dk_bind (dk_u1 (h 0 _ rfl))).trans rfl)
theorem dk_46 {code : ByteArray} {pc : Nat} (h : DkAt code pc [46]) : decode code pc = .ok (.iaload, 1) := dk_of ((dk_bind (dk_u1 (h 0 _ rfl))).trans rfl)
theorem dk_47 {code : ByteArray} {pc : Nat} (h : DkAt code pc [47]) : decode code pc = .ok (.laload, 1) := dk_of ((dk_bind (dk_u1 (h 0 _ rfl))).trans rfl)
theorem dk_50 {code : ByteArray} {pc : Nat} (h : DkAt code pc [50]) : decode code pc = .ok (.aaload, 1) := dk_of ((dk_bind (dk_u1 (h 0 _ rfl))).trans rfl)
theorem dk_51 {code : ByteArray} {pc : Nat} (h : DkAt code pc [51]) : decode code pc = .ok (.baload, 1) := dk_of ((dk_bind (dk_u1 (h 0 _ rfl))).trans rfl)
theorem dk_53 {code : ByteArray} {pc : Nat} (h : DkAt code pc [53]) : decode code pc = .ok (.saload, 1) := dk_of ((dk_bind (dk_u1 (h 0 _ rfl))).trans rfl)
theorem dk_54 {code : ByteArray} {pc : Nat} (a : UInt8) (h : DkAt code pc [54, a]) : decode code pc = .ok (.istore a.toNat, 2) := dk_of ((dk_bind (dk_u1 (h 0 _ rfl))).trans ((dk_bind (dk_u1 (h 1 _ rfl))).trans rfl))
theorem dk_55 {code : ByteArray} {pc : Nat} (a : UInt8) (h : DkAt code pc [55, a]) : decode code pc = .ok (.lstore a.toNat, 2) := dk_of ((dk_bind (dk_u1 (h 0 _ rfl))).trans ((dk_bind (dk_u1 (h 1 _ rfl))).trans rfl))
theorem dk_58 {code : ByteArray} {pc : Nat} (a : UInt8) (h : DkAt code pc [58, a]) : decode code pc = .ok (.astore a.toNat, 2) := dk_of ((dk_bind (dk_u1 (h 0 _ rfl))).trans ((dk_bind (dk_u1 (h 1 _ rfl))).trans rfl))
theorem dk_59 {code : ByteArray} {pc : Nat} (h : DkAt code pc [59]) : decode code pc = .ok (.istore_n 0, 1) := dk_of ((dk_bind (dk_u1 (h 0 _ rfl))).trans rfl)
theorem dk_60 {code : ByteArray} {pc : Nat} (h : DkAt code pc [60]) : decode code pc = .ok (.istore_n 1, 1) := dk_of ((dk_bind (dk_u1 (h 0 _ rfl))).trans rfl)
theorem dk_61 {code : ByteArray} {pc : Nat} (h : DkAt code pc [61]) : decode code pc = .ok (.istore_n 2, 1) := dk_of ((dk_bind (dk_u1 (h 0 _ rfl))).trans rfl)
theorem dk_62 {code : ByteArray} {pc : Nat} (h : DkAt code pc [62]) : decode code pc = .ok (.istore_n 3, 1) := dk_of ((dk_bind (dk_u1 (h 0 _ rfl))).trans rfl)
theorem dk_65 {code : ByteArray} {pc : Nat} (h : DkAt code pc [65]) : decode code pc = .ok (.lstore_n 2, 1) := dk_of ((dk_bind (dk_u1 (h 0 _ rfl))).trans rfl)
theorem dk_66 {code : ByteArray} {pc : Nat} (h : DkAt code pc [66]) : decode code pc = .ok (.lstore_n 3, 1) := dk_of ((dk_bind (dk_u1 (h 0 _ rfl))).trans rfl)
theorem dk_76 {code : ByteArray} {pc : Nat} (h : DkAt code pc [76]) : decode code pc = .ok (.astore_n 1, 1) := dk_of ((dk_bind (dk_u1 (h 0 _ rfl))).trans rfl)
theorem dk_77 {code : ByteArray} {pc : Nat} (h : DkAt code pc [77]) : decode code pc = .ok (.astore_n 2, 1) := dk_of ((dk_bind (dk_u1 (h 0 _ rfl))).trans rfl)
theorem dk_78 {code : ByteArray} {pc : Nat} (h : DkAt code pc [78]) : decode code pc = .ok (.astore_n 3, 1) := dk_of ((dk_bind (dk_u1 (h 0 _ rfl))).trans rfl)
theorem dk_79 {code : ByteArray} {pc : Nat} (h : DkAt code pc [79]) : decode code pc = .ok (.iastore, 1) := dk_of ((dk_bind (dk_u1 (h 0 _ rfl))).trans rfl)
theorem dk_80 {code : ByteArray} {pc : Nat} (h : DkAt code pc [80]) : decode code pc = .ok (.lastore, 1) := dk_of ((dk_bind (dk_u1 (h 0 _ rfl))).trans rfl)
theorem dk_83 {code : ByteArray} {pc : Nat} (h : DkAt code pc [83]) : decode code pc = .ok (.aastore, 1) := dk_of ((dk_bind (dk_u1 (h 0 _ rfl))).trans rfl)
theorem dk_84 {code : ByteArray} {pc : Nat} (h : DkAt code pc [84]) : decode code pc = .ok (.bastore, 1) := dk_of ((dk_bind (dk_u1 (h 0 _ rfl))).trans rfl)
theorem dk_86 {code : ByteArray} {pc : Nat} (h : DkAt code pc [86]) : decode code pc = .ok (.sastore, 1) := dk_of ((dk_bind (dk_u1 (h 0 _ rfl))).trans rfl)
theorem dk_87 {code : ByteArray} {pc : Nat} (h : DkAt code pc [87]) : decode code pc = .ok (.pop, 1) := dk_of ((dk_bind (dk_u1 (h 0 _ rfl))).trans rfl)
theorem dk_89 {code : ByteArray} {pc : Nat} (h : DkAt code pc [89]) : decode code pc = .ok (.dup, 1) := dk_of ((dk_bind (dk_u1 (h 0 _ rfl))).trans rfl)
theorem dk_92 {code : ByteArray} {pc : Nat} (h : DkAt code pc [92]) : decode code pc = .ok (.dup2, 1) := dk_of ((dk_bind (dk_u1 (h 0 _ rfl))).trans rfl)
theorem dk_96 {code : ByteArray} {pc : Nat} (h : DkAt code pc [96]) : decode code pc = .ok (.iadd, 1) := dk_of ((dk_bind (dk_u1 (h 0 _ rfl))).trans rfl)
theorem dk_97 {code : ByteArray} {pc : Nat} (h : DkAt code pc [97]) : decode code pc = .ok (.ladd, 1) := dk_of ((dk_bind (dk_u1 (h 0 _ rfl))).trans rfl)
theorem dk_100 {code : ByteArray} {pc : Nat} (h : DkAt code pc [100]) : decode code pc = .ok (.isub, 1) := dk_of ((dk_bind (dk_u1 (h 0 _ rfl))).trans rfl)
theorem dk_101 {code : ByteArray} {pc : Nat} (h : DkAt code pc [101]) : decode code pc = .ok (.lsub, 1) := dk_of ((dk_bind (dk_u1 (h 0 _ rfl))).trans rfl)
theorem dk_104 {code : ByteArray} {pc : Nat} (h : DkAt code pc [104]) : decode code pc = .ok (.imul, 1) := dk_of ((dk_bind (dk_u1 (h 0 _ rfl))).trans rfl)
theorem dk_105 {code : ByteArray} {pc : Nat} (h : DkAt code pc [105]) : decode code pc = .ok (.lmul, 1) := dk_of ((dk_bind (dk_u1 (h 0 _ rfl))).trans rfl)
theorem dk_108 {code : ByteArray} {pc : Nat} (h : DkAt code pc [108]) : decode code pc = .ok (.idiv, 1) := dk_of ((dk_bind (dk_u1 (h 0 _ rfl))).trans rfl)
theorem dk_109 {code : ByteArray} {pc : Nat} (h : DkAt code pc [109]) : decode code pc = .ok (.ldiv, 1) := dk_of ((dk_bind (dk_u1 (h 0 _ rfl))).trans rfl)
theorem dk_112 {code : ByteArray} {pc : Nat} (h : DkAt code pc [112]) : decode code pc = .ok (.irem, 1) := dk_of ((dk_bind (dk_u1 (h 0 _ rfl))).trans rfl)
theorem dk_113 {code : ByteArray} {pc : Nat} (h : DkAt code pc [113]) : decode code pc = .ok (.lrem, 1) := dk_of ((dk_bind (dk_u1 (h 0 _ rfl))).trans rfl)
theorem dk_120 {code : ByteArray} {pc : Nat} (h : DkAt code pc [120]) : decode code pc = .ok (.ishl, 1) := dk_of ((dk_bind (dk_u1 (h 0 _ rfl))).trans rfl)
theorem dk_121 {code : ByteArray} {pc : Nat} (h : DkAt code pc [121]) : decode code pc = .ok (.lshl, 1) := dk_of ((dk_bind (dk_u1 (h 0 _ rfl))).trans rfl)
theorem dk_122 {code : ByteArray} {pc : Nat} (h : DkAt code pc [122]) : decode code pc = .ok (.ishr, 1) := dk_of ((dk_bind (dk_u1 (h 0 _ rfl))).trans rfl)
theorem dk_123 {code : ByteArray} {pc : Nat} (h : DkAt code pc [123]) : decode code pc = .ok (.lshr, 1) := dk_of ((dk_bind (dk_u1 (h 0 _ rfl))).trans rfl)
theorem dk_124 {code : ByteArray} {pc : Nat} (h : DkAt code pc [124]) : decode code pc = .ok (.iushr, 1) := dk_of ((dk_bind (dk_u1 (h 0 _ rfl))).trans rfl)
theorem dk_126 {code : ByteArray} {pc : Nat} (h : DkAt code pc [126]) : decode code pc = .ok (.iand, 1) := dk_of ((dk_bind (dk_u1 (h 0 _ rfl))).trans rfl)
theorem dk_127 {code : ByteArray} {pc : Nat} (h : DkAt code pc [127]) : decode code pc = .ok (.land, 1) := dk_of ((dk_bind (dk_u1 (h 0 _ rfl))).trans rfl)
theorem dk_128 {code : ByteArray} {pc : Nat} (h : DkAt code pc [128]) : decode code pc = .ok (.ior, 1) := dk_of ((dk_bind (dk_u1 (h 0 _ rfl))).trans rfl)
theorem dk_129 {code : ByteArray} {pc : Nat} (h : DkAt code pc [129]) : decode code pc = .ok (.lor, 1) := dk_of ((dk_bind (dk_u1 (h 0 _ rfl))).trans rfl)
theorem dk_130 {code : ByteArray} {pc : Nat} (h : DkAt code pc [130]) : decode code pc = .ok (.ixor, 1) := dk_of ((dk_bind (dk_u1 (h 0 _ rfl))).trans rfl)
theorem dk_132 {code : ByteArray} {pc : Nat} (a b : UInt8) (h : DkAt code pc [132, a, b]) : decode code pc = .ok (.iinc a.toNat (Reader.signed 8 b.toNat), 3) := dk_of ((dk_bind (dk_u1 (h 0 _ rfl))).trans ((dk_bind (dk_u1 (h 1 _ rfl))).trans ((dk_bind (dk_map (dk_u1 (h 2 _ rfl)))).trans rfl)))
theorem dk_133 {code : ByteArray} {pc : Nat} (h : DkAt code pc [133]) : decode code pc = .ok (.i2l, 1) := dk_of ((dk_bind (dk_u1 (h 0 _ rfl))).trans rfl)
theorem dk_136 {code : ByteArray} {pc : Nat} (h : DkAt code pc [136]) : decode code pc = .ok (.l2i, 1) := dk_of ((dk_bind (dk_u1 (h 0 _ rfl))).trans rfl)
theorem dk_145 {code : ByteArray} {pc : Nat} (h : DkAt code pc [145]) : decode code pc = .ok (.i2b, 1) := dk_of ((dk_bind (dk_u1 (h 0 _ rfl))).trans rfl)
theorem dk_146 {code : ByteArray} {pc : Nat} (h : DkAt code pc [146]) : decode code pc = .ok (.i2c, 1) := dk_of ((dk_bind (dk_u1 (h 0 _ rfl))).trans rfl)
theorem dk_147 {code : ByteArray} {pc : Nat} (h : DkAt code pc [147]) : decode code pc = .ok (.i2s, 1) := dk_of ((dk_bind (dk_u1 (h 0 _ rfl))).trans rfl)
theorem dk_148 {code : ByteArray} {pc : Nat} (h : DkAt code pc [148]) : decode code pc = .ok (.lcmp, 1) := dk_of ((dk_bind (dk_u1 (h 0 _ rfl))).trans rfl)
theorem dk_153 {code : ByteArray} {pc : Nat} (a b : UInt8) (h : DkAt code pc [153, a, b]) : decode code pc = .ok (.ifCond .eq (Reader.signed 16 (a.toNat * 256 + b.toNat)), 3) := dk_of ((dk_bind (dk_u1 (h 0 _ rfl))).trans ((dk_bind (dk_map (dk_u2 (h 1 _ rfl) (h 2 _ rfl)))).trans rfl))
theorem dk_154 {code : ByteArray} {pc : Nat} (a b : UInt8) (h : DkAt code pc [154, a, b]) : decode code pc = .ok (.ifCond .ne (Reader.signed 16 (a.toNat * 256 + b.toNat)), 3) := dk_of ((dk_bind (dk_u1 (h 0 _ rfl))).trans ((dk_bind (dk_map (dk_u2 (h 1 _ rfl) (h 2 _ rfl)))).trans rfl))
theorem dk_155 {code : ByteArray} {pc : Nat} (a b : UInt8) (h : DkAt code pc [155, a, b]) : decode code pc = .ok (.ifCond .lt (Reader.signed 16 (a.toNat * 256 + b.toNat)), 3) := dk_of ((dk_bind (dk_u1 (h 0 _ rfl))).trans ((dk_bind (dk_map (dk_u2 (h 1 _ rfl) (h 2 _ rfl)))).trans rfl))
theorem dk_156 {code : ByteArray} {pc : Nat} (a b : UInt8) (h : DkAt code pc [156, a, b]) : decode code pc = .ok (.ifCond .ge (Reader.signed 16 (a.toNat * 256 + b.toNat)), 3) := dk_of ((dk_bind (dk_u1 (h 0 _ rfl))).trans ((dk_bind (dk_map (dk_u2 (h 1 _ rfl) (h 2 _ rfl)))).trans rfl))
theorem dk_157 {code : ByteArray} {pc : Nat} (a b : UInt8) (h : DkAt code pc [157, a, b]) : decode code pc = .ok (.ifCond .gt (Reader.signed 16 (a.toNat * 256 + b.toNat)), 3) := dk_of ((dk_bind (dk_u1 (h 0 _ rfl))).trans ((dk_bind (dk_map (dk_u2 (h 1 _ rfl) (h 2 _ rfl)))).trans rfl))
theorem dk_158 {code : ByteArray} {pc : Nat} (a b : UInt8) (h : DkAt code pc [158, a, b]) : decode code pc = .ok (.ifCond .le (Reader.signed 16 (a.toNat * 256 + b.toNat)), 3) := dk_of ((dk_bind (dk_u1 (h 0 _ rfl))).trans ((dk_bind (dk_map (dk_u2 (h 1 _ rfl) (h 2 _ rfl)))).trans rfl))
theorem dk_159 {code : ByteArray} {pc : Nat} (a b : UInt8) (h : DkAt code pc [159, a, b]) : decode code pc = .ok (.if_icmp .eq (Reader.signed 16 (a.toNat * 256 + b.toNat)), 3) := dk_of ((dk_bind (dk_u1 (h 0 _ rfl))).trans ((dk_bind (dk_map (dk_u2 (h 1 _ rfl) (h 2 _ rfl)))).trans rfl))
theorem dk_160 {code : ByteArray} {pc : Nat} (a b : UInt8) (h : DkAt code pc [160, a, b]) : decode code pc = .ok (.if_icmp .ne (Reader.signed 16 (a.toNat * 256 + b.toNat)), 3) := dk_of ((dk_bind (dk_u1 (h 0 _ rfl))).trans ((dk_bind (dk_map (dk_u2 (h 1 _ rfl) (h 2 _ rfl)))).trans rfl))
theorem dk_161 {code : ByteArray} {pc : Nat} (a b : UInt8) (h : DkAt code pc [161, a, b]) : decode code pc = .ok (.if_icmp .lt (Reader.signed 16 (a.toNat * 256 + b.toNat)), 3) := dk_of ((dk_bind (dk_u1 (h 0 _ rfl))).trans ((dk_bind (dk_map (dk_u2 (h 1 _ rfl) (h 2 _ rfl)))).trans rfl))
theorem dk_162 {code : ByteArray} {pc : Nat} (a b : UInt8) (h : DkAt code pc [162, a, b]) : decode code pc = .ok (.if_icmp .ge (Reader.signed 16 (a.toNat * 256 + b.toNat)), 3) := dk_of ((dk_bind (dk_u1 (h 0 _ rfl))).trans ((dk_bind (dk_map (dk_u2 (h 1 _ rfl) (h 2 _ rfl)))).trans rfl))
theorem dk_163 {code : ByteArray} {pc : Nat} (a b : UInt8) (h : DkAt code pc [163, a, b]) : decode code pc = .ok (.if_icmp .gt (Reader.signed 16 (a.toNat * 256 + b.toNat)), 3) := dk_of ((dk_bind (dk_u1 (h 0 _ rfl))).trans ((dk_bind (dk_map (dk_u2 (h 1 _ rfl) (h 2 _ rfl)))).trans rfl))
theorem dk_164 {code : ByteArray} {pc : Nat} (a b : UInt8) (h : DkAt code pc [164, a, b]) : decode code pc = .ok (.if_icmp .le (Reader.signed 16 (a.toNat * 256 + b.toNat)), 3) := dk_of ((dk_bind (dk_u1 (h 0 _ rfl))).trans ((dk_bind (dk_map (dk_u2 (h 1 _ rfl) (h 2 _ rfl)))).trans rfl))
theorem dk_165 {code : ByteArray} {pc : Nat} (a b : UInt8) (h : DkAt code pc [165, a, b]) : decode code pc = .ok (.if_acmp .eq (Reader.signed 16 (a.toNat * 256 + b.toNat)), 3) := dk_of ((dk_bind (dk_u1 (h 0 _ rfl))).trans ((dk_bind (dk_map (dk_u2 (h 1 _ rfl) (h 2 _ rfl)))).trans rfl))
theorem dk_166 {code : ByteArray} {pc : Nat} (a b : UInt8) (h : DkAt code pc [166, a, b]) : decode code pc = .ok (.if_acmp .ne (Reader.signed 16 (a.toNat * 256 + b.toNat)), 3) := dk_of ((dk_bind (dk_u1 (h 0 _ rfl))).trans ((dk_bind (dk_map (dk_u2 (h 1 _ rfl) (h 2 _ rfl)))).trans rfl))
theorem dk_167 {code : ByteArray} {pc : Nat} (a b : UInt8) (h : DkAt code pc [167, a, b]) : decode code pc = .ok (.goto (Reader.signed 16 (a.toNat * 256 + b.toNat)), 3) := dk_of ((dk_bind (dk_u1 (h 0 _ rfl))).trans ((dk_bind (dk_map (dk_u2 (h 1 _ rfl) (h 2 _ rfl)))).trans rfl))
theorem dk_172 {code : ByteArray} {pc : Nat} (h : DkAt code pc [172]) : decode code pc = .ok (.ireturn, 1) := dk_of ((dk_bind (dk_u1 (h 0 _ rfl))).trans rfl)
theorem dk_173 {code : ByteArray} {pc : Nat} (h : DkAt code pc [173]) : decode code pc = .ok (.lreturn, 1) := dk_of ((dk_bind (dk_u1 (h 0 _ rfl))).trans rfl)
theorem dk_176 {code : ByteArray} {pc : Nat} (h : DkAt code pc [176]) : decode code pc = .ok (.areturn, 1) := dk_of ((dk_bind (dk_u1 (h 0 _ rfl))).trans rfl)
theorem dk_177 {code : ByteArray} {pc : Nat} (h : DkAt code pc [177]) : decode code pc = .ok (.return_, 1) := dk_of ((dk_bind (dk_u1 (h 0 _ rfl))).trans rfl)
theorem dk_178 {code : ByteArray} {pc : Nat} (a b : UInt8) (h : DkAt code pc [178, a, b]) : decode code pc = .ok (.getstatic (a.toNat * 256 + b.toNat), 3) := dk_of ((dk_bind (dk_u1 (h 0 _ rfl))).trans ((dk_bind (dk_u2 (h 1 _ rfl) (h 2 _ rfl))).trans rfl))
theorem dk_180 {code : ByteArray} {pc : Nat} (a b : UInt8) (h : DkAt code pc [180, a, b]) : decode code pc = .ok (.getfield (a.toNat * 256 + b.toNat), 3) := dk_of ((dk_bind (dk_u1 (h 0 _ rfl))).trans ((dk_bind (dk_u2 (h 1 _ rfl) (h 2 _ rfl))).trans rfl))
theorem dk_181 {code : ByteArray} {pc : Nat} (a b : UInt8) (h : DkAt code pc [181, a, b]) : decode code pc = .ok (.putfield (a.toNat * 256 + b.toNat), 3) := dk_of ((dk_bind (dk_u1 (h 0 _ rfl))).trans ((dk_bind (dk_u2 (h 1 _ rfl) (h 2 _ rfl))).trans rfl))
theorem dk_182 {code : ByteArray} {pc : Nat} (a b : UInt8) (h : DkAt code pc [182, a, b]) : decode code pc = .ok (.invokevirtual (a.toNat * 256 + b.toNat), 3) := dk_of ((dk_bind (dk_u1 (h 0 _ rfl))).trans ((dk_bind (dk_u2 (h 1 _ rfl) (h 2 _ rfl))).trans rfl))
theorem dk_183 {code : ByteArray} {pc : Nat} (a b : UInt8) (h : DkAt code pc [183, a, b]) : decode code pc = .ok (.invokespecial (a.toNat * 256 + b.toNat), 3) := dk_of ((dk_bind (dk_u1 (h 0 _ rfl))).trans ((dk_bind (dk_u2 (h 1 _ rfl) (h 2 _ rfl))).trans rfl))
theorem dk_184 {code : ByteArray} {pc : Nat} (a b : UInt8) (h : DkAt code pc [184, a, b]) : decode code pc = .ok (.invokestatic (a.toNat * 256 + b.toNat), 3) := dk_of ((dk_bind (dk_u1 (h 0 _ rfl))).trans ((dk_bind (dk_u2 (h 1 _ rfl) (h 2 _ rfl))).trans rfl))
theorem dk_187 {code : ByteArray} {pc : Nat} (a b : UInt8) (h : DkAt code pc [187, a, b]) : decode code pc = .ok (.new (a.toNat * 256 + b.toNat), 3) := dk_of ((dk_bind (dk_u1 (h 0 _ rfl))).trans ((dk_bind (dk_u2 (h 1 _ rfl) (h 2 _ rfl))).trans rfl))
theorem dk_188_4 {code : ByteArray} {pc : Nat} (h : DkAt code pc [188, 4]) : decode code pc = .ok (.newarray .boolean, 2) := dk_of ((dk_bind (dk_u1 (h 0 _ rfl))).trans ((dk_bind (dk_u1 (h 1 _ rfl))).trans rfl))
theorem dk_188_8 {code : ByteArray} {pc : Nat} (h : DkAt code pc [188, 8]) : decode code pc = .ok (.newarray .byte, 2) := dk_of ((dk_bind (dk_u1 (h 0 _ rfl))).trans ((dk_bind (dk_u1 (h 1 _ rfl))).trans rfl))
theorem dk_188_9 {code : ByteArray} {pc : Nat} (h : DkAt code pc [188, 9]) : decode code pc = .ok (.newarray .short, 2) := dk_of ((dk_bind (dk_u1 (h 0 _ rfl))).trans ((dk_bind (dk_u1 (h 1 _ rfl))).trans rfl))
theorem dk_188_10 {code : ByteArray} {pc : Nat} (h : DkAt code pc [188, 10]) : decode code pc = .ok (.newarray .int, 2) := dk_of ((dk_bind (dk_u1 (h 0 _ rfl))).trans ((dk_bind (dk_u1 (h 1 _ rfl))).trans rfl))
theorem dk_188_11 {code : ByteArray} {pc : Nat} (h : DkAt code pc [188, 11]) : decode code pc = .ok (.newarray .long, 2) := dk_of ((dk_bind (dk_u1 (h 0 _ rfl))).trans ((dk_bind (dk_u1 (h 1 _ rfl))).trans rfl))
theorem dk_189 {code : ByteArray} {pc : Nat} (a b : UInt8) (h : DkAt code pc [189, a, b]) : decode code pc = .ok (.anewarray (a.toNat * 256 + b.toNat), 3) := dk_of ((dk_bind (dk_u1 (h 0 _ rfl))).trans ((dk_bind (dk_u2 (h 1 _ rfl) (h 2 _ rfl))).trans rfl))
theorem dk_190 {code : ByteArray} {pc : Nat} (h : DkAt code pc [190]) : decode code pc = .ok (.arraylength, 1) := dk_of ((dk_bind (dk_u1 (h 0 _ rfl))).trans rfl)
theorem dk_191 {code : ByteArray} {pc : Nat} (h : DkAt code pc [191]) : decode code pc = .ok (.athrow, 1) := dk_of ((dk_bind (dk_u1 (h 0 _ rfl))).trans rfl)
theorem dk_192 {code : ByteArray} {pc : Nat} (a b : UInt8) (h : DkAt code pc [192, a, b]) : decode code pc = .ok (.checkcast (a.toNat * 256 + b.toNat), 3) := dk_of ((dk_bind (dk_u1 (h 0 _ rfl))).trans ((dk_bind (dk_u2 (h 1 _ rfl) (h 2 _ rfl))).trans rfl))
theorem dk_193 {code : ByteArray} {pc : Nat} (a b : UInt8) (h : DkAt code pc [193, a, b]) : decode code pc = .ok (.instanceof (a.toNat * 256 + b.toNat), 3) := dk_of ((dk_bind (dk_u1 (h 0 _ rfl))).trans ((dk_bind (dk_u2 (h 1 _ rfl) (h 2 _ rfl))).trans rfl))
theorem dk_199 {code : ByteArray} {pc : Nat} (a b : UInt8) (h : DkAt code pc [199, a, b]) : decode code pc = .ok (.ifnonnull (Reader.signed 16 (a.toNat * 256 + b.toNat)), 3) := dk_of ((dk_bind (dk_u1 (h 0 _ rfl))).trans ((dk_bind (dk_map (dk_u2 (h 1 _ rfl) (h 2 _ rfl)))).trans rfl))
/-! HiddenCube$Town -/
set_option maxRecDepth 100000
def RX1 : String := "HiddenCube$Town"
def TX1 : u_T := fun k => match k with
  | 0 => ("HiddenCube$Town", "names", "I", false)
  | 1 => ("HiddenCube$Town", "lines", "I", false)
  | 2 => ("HiddenCube$Town", "letters", "[B", true)
  | 3 => ("HiddenCube$Town", "lengths", "[I", true)
  | 4 => ("HiddenCube$Town", "people", "[I", true)
  | 5 => ("HiddenCube$Town", "from", "[I", true)
  | 6 => ("HiddenCube$Town", "to", "[I", true)
  | 7 => ("HiddenCube$Town", "shut", "[I", true)
  | 8 => ("HiddenCube$Town", "persons", "I", false)
  | 9 => ("HiddenCube$Town", "carriers", "I", false)
  | _ => ("HiddenCube$Town", "wardens", "I", false)
def tyX1 : Nat → FieldType := fun k => match k with
  | 0 => .int
  | 1 => .int
  | 2 => .array .byte
  | 3 => .array .int
  | 4 => .array .int
  | 5 => .array .int
  | 6 => .array .int
  | 7 => .array .int
  | 8 => .int
  | 9 => .int
  | _ => .int
abbrev wsX10 : List Cond := u_ws RX1 TX1 11
theorem nmX1 : ∀ a, a < 11 → ∀ b, b < 11 → a ≠ b → (TX1 a).2.1 ≠ (TX1 b).2.1 := by decide +kernel
theorem tyX1_ok : ∀ k, k < 11 → parseFieldDescriptor (TX1 k).2.2.1 = some (tyX1 k) := by decide +kernel
abbrev cX1_init : ByteArray := prog_6_method_1_code
def yX1_init : MethodName := ⟨RX1, "<init>", "()V"⟩
def dkwX1_init_2 : List UInt8 := [181, 0, 28, 177]
abbrev dktX1_init_2 : List UInt8 := dkwX1_init_2 ++ []
def dkwX1_init_1 : List UInt8 := [181, 0, 19, 42, 16, 6, 188, 10, 181, 0, 22, 42, 16, 6, 188, 10, 181, 0, 25, 42, 16, 32, 188, 10]
abbrev dktX1_init_1 : List UInt8 := dkwX1_init_1 ++ dktX1_init_2
def dkwX1_init_0 : List UInt8 := [42, 183, 0, 3, 42, 16, 40, 188, 8, 181, 0, 9, 42, 8, 188, 10, 181, 0, 15, 42, 16, 6, 188, 10]
abbrev dktX1_init_0 : List UInt8 := dkwX1_init_0 ++ dktX1_init_1
theorem dksX1_init_0 : cX1_init.data.toList.drop 0 = dktX1_init_0 := by decide +kernel
theorem dksX1_init_1 : cX1_init.data.toList.drop 24 = dktX1_init_1 := dk_seg dksX1_init_0 24 rfl rfl
theorem dksX1_init_2 : cX1_init.data.toList.drop 48 = dktX1_init_2 := dk_seg dksX1_init_1 24 rfl rfl
theorem dX1_init_0 : decode cX1_init 0 = .ok (.aload_n 0, 1) := dk_42 (dk_at dksX1_init_0 0 rfl rfl)
theorem dX1_init_1 : decode cX1_init 1 = .ok (.invokespecial 3, 3) := dk_183 0 3 (dk_at dksX1_init_0 1 rfl rfl)
theorem dX1_init_4 : decode cX1_init 4 = .ok (.aload_n 0, 1) := dk_42 (dk_at dksX1_init_0 4 rfl rfl)
theorem dX1_init_5 : decode cX1_init 5 = .ok (.bipush 40, 2) := dk_16 40 (dk_at dksX1_init_0 5 rfl rfl)
theorem dX1_init_7 : decode cX1_init 7 = .ok (.newarray .byte, 2) := dk_188_8 (dk_at dksX1_init_0 7 rfl rfl)
theorem dX1_init_9 : decode cX1_init 9 = .ok (.putfield 9, 3) := dk_181 0 9 (dk_at dksX1_init_0 9 rfl rfl)
theorem dX1_init_12 : decode cX1_init 12 = .ok (.aload_n 0, 1) := dk_42 (dk_at dksX1_init_0 12 rfl rfl)
theorem dX1_init_13 : decode cX1_init 13 = .ok (.iconst 5, 1) := dk_8 (dk_at dksX1_init_0 13 rfl rfl)
theorem dX1_init_14 : decode cX1_init 14 = .ok (.newarray .int, 2) := dk_188_10 (dk_at dksX1_init_0 14 rfl rfl)
theorem dX1_init_16 : decode cX1_init 16 = .ok (.putfield 15, 3) := dk_181 0 15 (dk_at dksX1_init_0 16 rfl rfl)
theorem dX1_init_19 : decode cX1_init 19 = .ok (.aload_n 0, 1) := dk_42 (dk_at dksX1_init_0 19 rfl rfl)
theorem dX1_init_20 : decode cX1_init 20 = .ok (.bipush 6, 2) := dk_16 6 (dk_at dksX1_init_0 20 rfl rfl)
theorem dX1_init_22 : decode cX1_init 22 = .ok (.newarray .int, 2) := dk_188_10 (dk_at dksX1_init_0 22 rfl rfl)
theorem dX1_init_24 : decode cX1_init 24 = .ok (.putfield 19, 3) := dk_181 0 19 (dk_at dksX1_init_1 0 rfl rfl)
theorem dX1_init_27 : decode cX1_init 27 = .ok (.aload_n 0, 1) := dk_42 (dk_at dksX1_init_1 3 rfl rfl)
theorem dX1_init_28 : decode cX1_init 28 = .ok (.bipush 6, 2) := dk_16 6 (dk_at dksX1_init_1 4 rfl rfl)
theorem dX1_init_30 : decode cX1_init 30 = .ok (.newarray .int, 2) := dk_188_10 (dk_at dksX1_init_1 6 rfl rfl)
theorem dX1_init_32 : decode cX1_init 32 = .ok (.putfield 22, 3) := dk_181 0 22 (dk_at dksX1_init_1 8 rfl rfl)
theorem dX1_init_35 : decode cX1_init 35 = .ok (.aload_n 0, 1) := dk_42 (dk_at dksX1_init_1 11 rfl rfl)
theorem dX1_init_36 : decode cX1_init 36 = .ok (.bipush 6, 2) := dk_16 6 (dk_at dksX1_init_1 12 rfl rfl)
theorem dX1_init_38 : decode cX1_init 38 = .ok (.newarray .int, 2) := dk_188_10 (dk_at dksX1_init_1 14 rfl rfl)
theorem dX1_init_40 : decode cX1_init 40 = .ok (.putfield 25, 3) := dk_181 0 25 (dk_at dksX1_init_1 16 rfl rfl)
theorem dX1_init_43 : decode cX1_init 43 = .ok (.aload_n 0, 1) := dk_42 (dk_at dksX1_init_1 19 rfl rfl)
theorem dX1_init_44 : decode cX1_init 44 = .ok (.bipush 32, 2) := dk_16 32 (dk_at dksX1_init_1 20 rfl rfl)
theorem dX1_init_46 : decode cX1_init 46 = .ok (.newarray .int, 2) := dk_188_10 (dk_at dksX1_init_1 22 rfl rfl)
theorem dX1_init_48 : decode cX1_init 48 = .ok (.putfield 28, 3) := dk_181 0 28 (dk_at dksX1_init_2 0 rfl rfl)
theorem dX1_init_51 : decode cX1_init 51 = .ok (.return_, 1) := dk_177 (dk_at dksX1_init_2 3 rfl rfl)
abbrev cX1_squares : ByteArray := prog_6_method_2_code
def yX1_squares : MethodName := ⟨RX1, "squares", "()I"⟩
def dkwX1_squares_0 : List UInt8 := [42, 180, 0, 31, 154, 0, 7, 3, 167, 0, 9, 4, 42, 180, 0, 31, 120, 172]
abbrev dktX1_squares_0 : List UInt8 := dkwX1_squares_0 ++ []
theorem dksX1_squares_0 : cX1_squares.data.toList.drop 0 = dktX1_squares_0 := by decide +kernel
theorem dX1_squares_0 : decode cX1_squares 0 = .ok (.aload_n 0, 1) := dk_42 (dk_at dksX1_squares_0 0 rfl rfl)
theorem dX1_squares_1 : decode cX1_squares 1 = .ok (.getfield 31, 3) := dk_180 0 31 (dk_at dksX1_squares_0 1 rfl rfl)
theorem dX1_squares_4 : decode cX1_squares 4 = .ok (.ifCond .ne 7, 3) := dk_154 0 7 (dk_at dksX1_squares_0 4 rfl rfl)
theorem dX1_squares_7 : decode cX1_squares 7 = .ok (.iconst 0, 1) := dk_3 (dk_at dksX1_squares_0 7 rfl rfl)
theorem dX1_squares_8 : decode cX1_squares 8 = .ok (.goto 9, 3) := dk_167 0 9 (dk_at dksX1_squares_0 8 rfl rfl)
theorem dX1_squares_11 : decode cX1_squares 11 = .ok (.iconst 1, 1) := dk_4 (dk_at dksX1_squares_0 11 rfl rfl)
theorem dX1_squares_12 : decode cX1_squares 12 = .ok (.aload_n 0, 1) := dk_42 (dk_at dksX1_squares_0 12 rfl rfl)
theorem dX1_squares_13 : decode cX1_squares 13 = .ok (.getfield 31, 3) := dk_180 0 31 (dk_at dksX1_squares_0 13 rfl rfl)
theorem dX1_squares_16 : decode cX1_squares 16 = .ok (.ishl, 1) := dk_120 (dk_at dksX1_squares_0 16 rfl rfl)
theorem dX1_squares_17 : decode cX1_squares 17 = .ok (.ireturn, 1) := dk_172 (dk_at dksX1_squares_0 17 rfl rfl)
abbrev cX1_isOpen : ByteArray := prog_6_method_3_code
def yX1_isOpen : MethodName := ⟨RX1, "isOpen", "(II)Z"⟩
def dkwX1_isOpen_0 : List UInt8 := [42, 180, 0, 28, 27, 46, 28, 184, 0, 35, 154, 0, 7, 4, 167, 0, 4, 3, 172]
abbrev dktX1_isOpen_0 : List UInt8 := dkwX1_isOpen_0 ++ []
theorem dksX1_isOpen_0 : cX1_isOpen.data.toList.drop 0 = dktX1_isOpen_0 := by decide +kernel
theorem dX1_isOpen_0 : decode cX1_isOpen 0 = .ok (.aload_n 0, 1) := dk_42 (dk_at dksX1_isOpen_0 0 rfl rfl)
theorem dX1_isOpen_1 : decode cX1_isOpen 1 = .ok (.getfield 28, 3) := dk_180 0 28 (dk_at dksX1_isOpen_0 1 rfl rfl)
theorem dX1_isOpen_4 : decode cX1_isOpen 4 = .ok (.iload_n 1, 1) := dk_27 (dk_at dksX1_isOpen_0 4 rfl rfl)
theorem dX1_isOpen_5 : decode cX1_isOpen 5 = .ok (.iaload, 1) := dk_46 (dk_at dksX1_isOpen_0 5 rfl rfl)
theorem dX1_isOpen_6 : decode cX1_isOpen 6 = .ok (.iload_n 2, 1) := dk_28 (dk_at dksX1_isOpen_0 6 rfl rfl)
theorem dX1_isOpen_7 : decode cX1_isOpen 7 = .ok (.invokestatic 35, 3) := dk_184 0 35 (dk_at dksX1_isOpen_0 7 rfl rfl)
theorem dX1_isOpen_10 : decode cX1_isOpen 10 = .ok (.ifCond .ne 7, 3) := dk_154 0 7 (dk_at dksX1_isOpen_0 10 rfl rfl)
theorem dX1_isOpen_13 : decode cX1_isOpen 13 = .ok (.iconst 1, 1) := dk_4 (dk_at dksX1_isOpen_0 13 rfl rfl)
theorem dX1_isOpen_14 : decode cX1_isOpen 14 = .ok (.goto 4, 3) := dk_167 0 4 (dk_at dksX1_isOpen_0 14 rfl rfl)
theorem dX1_isOpen_17 : decode cX1_isOpen 17 = .ok (.iconst 0, 1) := dk_3 (dk_at dksX1_isOpen_0 17 rfl rfl)
theorem dX1_isOpen_18 : decode cX1_isOpen 18 = .ok (.ireturn, 1) := dk_172 (dk_at dksX1_isOpen_0 18 rfl rfl)
abbrev cX1_sets : ByteArray := prog_6_method_4_code
def yX1_sets : MethodName := ⟨RX1, "sets", "(III)V"⟩
def dkwX1_sets_2 : List UInt8 := [29, 28, 120, 128, 79, 177]
abbrev dktX1_sets_2 : List UInt8 := dkwX1_sets_2 ++ []
def dkwX1_sets_1 : List UInt8 := [29, 28, 120, 128, 79, 42, 180, 0, 28, 21, 4, 42, 180, 0, 28, 21, 4, 46, 4, 28, 120, 2, 130, 126]
abbrev dktX1_sets_1 : List UInt8 := dkwX1_sets_1 ++ dktX1_sets_2
def dkwX1_sets_0 : List UInt8 := [27, 4, 28, 120, 130, 54, 4, 42, 180, 0, 28, 27, 42, 180, 0, 28, 27, 46, 4, 28, 120, 2, 130, 126]
abbrev dktX1_sets_0 : List UInt8 := dkwX1_sets_0 ++ dktX1_sets_1
theorem dksX1_sets_0 : cX1_sets.data.toList.drop 0 = dktX1_sets_0 := by decide +kernel
theorem dksX1_sets_1 : cX1_sets.data.toList.drop 24 = dktX1_sets_1 := dk_seg dksX1_sets_0 24 rfl rfl
theorem dksX1_sets_2 : cX1_sets.data.toList.drop 48 = dktX1_sets_2 := dk_seg dksX1_sets_1 24 rfl rfl
theorem dX1_sets_0 : decode cX1_sets 0 = .ok (.iload_n 1, 1) := dk_27 (dk_at dksX1_sets_0 0 rfl rfl)
theorem dX1_sets_1 : decode cX1_sets 1 = .ok (.iconst 1, 1) := dk_4 (dk_at dksX1_sets_0 1 rfl rfl)
theorem dX1_sets_2 : decode cX1_sets 2 = .ok (.iload_n 2, 1) := dk_28 (dk_at dksX1_sets_0 2 rfl rfl)
theorem dX1_sets_3 : decode cX1_sets 3 = .ok (.ishl, 1) := dk_120 (dk_at dksX1_sets_0 3 rfl rfl)
theorem dX1_sets_4 : decode cX1_sets 4 = .ok (.ixor, 1) := dk_130 (dk_at dksX1_sets_0 4 rfl rfl)
theorem dX1_sets_5 : decode cX1_sets 5 = .ok (.istore 4, 2) := dk_54 4 (dk_at dksX1_sets_0 5 rfl rfl)
theorem dX1_sets_7 : decode cX1_sets 7 = .ok (.aload_n 0, 1) := dk_42 (dk_at dksX1_sets_0 7 rfl rfl)
theorem dX1_sets_8 : decode cX1_sets 8 = .ok (.getfield 28, 3) := dk_180 0 28 (dk_at dksX1_sets_0 8 rfl rfl)
theorem dX1_sets_11 : decode cX1_sets 11 = .ok (.iload_n 1, 1) := dk_27 (dk_at dksX1_sets_0 11 rfl rfl)
theorem dX1_sets_12 : decode cX1_sets 12 = .ok (.aload_n 0, 1) := dk_42 (dk_at dksX1_sets_0 12 rfl rfl)
theorem dX1_sets_13 : decode cX1_sets 13 = .ok (.getfield 28, 3) := dk_180 0 28 (dk_at dksX1_sets_0 13 rfl rfl)
theorem dX1_sets_16 : decode cX1_sets 16 = .ok (.iload_n 1, 1) := dk_27 (dk_at dksX1_sets_0 16 rfl rfl)
theorem dX1_sets_17 : decode cX1_sets 17 = .ok (.iaload, 1) := dk_46 (dk_at dksX1_sets_0 17 rfl rfl)
theorem dX1_sets_18 : decode cX1_sets 18 = .ok (.iconst 1, 1) := dk_4 (dk_at dksX1_sets_0 18 rfl rfl)
theorem dX1_sets_19 : decode cX1_sets 19 = .ok (.iload_n 2, 1) := dk_28 (dk_at dksX1_sets_0 19 rfl rfl)
theorem dX1_sets_20 : decode cX1_sets 20 = .ok (.ishl, 1) := dk_120 (dk_at dksX1_sets_0 20 rfl rfl)
theorem dX1_sets_21 : decode cX1_sets 21 = .ok (.iconst (-1), 1) := dk_2 (dk_at dksX1_sets_0 21 rfl rfl)
theorem dX1_sets_22 : decode cX1_sets 22 = .ok (.ixor, 1) := dk_130 (dk_at dksX1_sets_0 22 rfl rfl)
theorem dX1_sets_23 : decode cX1_sets 23 = .ok (.iand, 1) := dk_126 (dk_at dksX1_sets_0 23 rfl rfl)
theorem dX1_sets_24 : decode cX1_sets 24 = .ok (.iload_n 3, 1) := dk_29 (dk_at dksX1_sets_1 0 rfl rfl)
theorem dX1_sets_25 : decode cX1_sets 25 = .ok (.iload_n 2, 1) := dk_28 (dk_at dksX1_sets_1 1 rfl rfl)
theorem dX1_sets_26 : decode cX1_sets 26 = .ok (.ishl, 1) := dk_120 (dk_at dksX1_sets_1 2 rfl rfl)
theorem dX1_sets_27 : decode cX1_sets 27 = .ok (.ior, 1) := dk_128 (dk_at dksX1_sets_1 3 rfl rfl)
theorem dX1_sets_28 : decode cX1_sets 28 = .ok (.iastore, 1) := dk_79 (dk_at dksX1_sets_1 4 rfl rfl)
theorem dX1_sets_29 : decode cX1_sets 29 = .ok (.aload_n 0, 1) := dk_42 (dk_at dksX1_sets_1 5 rfl rfl)
theorem dX1_sets_30 : decode cX1_sets 30 = .ok (.getfield 28, 3) := dk_180 0 28 (dk_at dksX1_sets_1 6 rfl rfl)
theorem dX1_sets_33 : decode cX1_sets 33 = .ok (.iload 4, 2) := dk_21 4 (dk_at dksX1_sets_1 9 rfl rfl)
theorem dX1_sets_35 : decode cX1_sets 35 = .ok (.aload_n 0, 1) := dk_42 (dk_at dksX1_sets_1 11 rfl rfl)
theorem dX1_sets_36 : decode cX1_sets 36 = .ok (.getfield 28, 3) := dk_180 0 28 (dk_at dksX1_sets_1 12 rfl rfl)
theorem dX1_sets_39 : decode cX1_sets 39 = .ok (.iload 4, 2) := dk_21 4 (dk_at dksX1_sets_1 15 rfl rfl)
theorem dX1_sets_41 : decode cX1_sets 41 = .ok (.iaload, 1) := dk_46 (dk_at dksX1_sets_1 17 rfl rfl)
theorem dX1_sets_42 : decode cX1_sets 42 = .ok (.iconst 1, 1) := dk_4 (dk_at dksX1_sets_1 18 rfl rfl)
theorem dX1_sets_43 : decode cX1_sets 43 = .ok (.iload_n 2, 1) := dk_28 (dk_at dksX1_sets_1 19 rfl rfl)
theorem dX1_sets_44 : decode cX1_sets 44 = .ok (.ishl, 1) := dk_120 (dk_at dksX1_sets_1 20 rfl rfl)
theorem dX1_sets_45 : decode cX1_sets 45 = .ok (.iconst (-1), 1) := dk_2 (dk_at dksX1_sets_1 21 rfl rfl)
theorem dX1_sets_46 : decode cX1_sets 46 = .ok (.ixor, 1) := dk_130 (dk_at dksX1_sets_1 22 rfl rfl)
theorem dX1_sets_47 : decode cX1_sets 47 = .ok (.iand, 1) := dk_126 (dk_at dksX1_sets_1 23 rfl rfl)
theorem dX1_sets_48 : decode cX1_sets 48 = .ok (.iload_n 3, 1) := dk_29 (dk_at dksX1_sets_2 0 rfl rfl)
theorem dX1_sets_49 : decode cX1_sets 49 = .ok (.iload_n 2, 1) := dk_28 (dk_at dksX1_sets_2 1 rfl rfl)
theorem dX1_sets_50 : decode cX1_sets 50 = .ok (.ishl, 1) := dk_120 (dk_at dksX1_sets_2 2 rfl rfl)
theorem dX1_sets_51 : decode cX1_sets 51 = .ok (.ior, 1) := dk_128 (dk_at dksX1_sets_2 3 rfl rfl)
theorem dX1_sets_52 : decode cX1_sets 52 = .ok (.iastore, 1) := dk_79 (dk_at dksX1_sets_2 4 rfl rfl)
theorem dX1_sets_53 : decode cX1_sets 53 = .ok (.return_, 1) := dk_177 (dk_at dksX1_sets_2 5 rfl rfl)
abbrev cX1_copy : ByteArray := prog_6_method_5_code
def yX1_copy : MethodName := ⟨RX1, "copy", "()LHiddenCube$Town;"⟩
def dkwX1_copy_5 : List UInt8 := [180, 0, 49, 181, 0, 49, 43, 42, 180, 0, 52, 181, 0, 52, 43, 42, 180, 0, 55, 181, 0, 55, 43, 176]
abbrev dktX1_copy_5 : List UInt8 := dkwX1_copy_5 ++ []
def dkwX1_copy_4 : List UInt8 := [16, 6, 184, 0, 43, 42, 180, 0, 28, 3, 43, 180, 0, 28, 3, 16, 32, 184, 0, 43, 43, 42]
abbrev dktX1_copy_4 : List UInt8 := dkwX1_copy_4 ++ dktX1_copy_5
def dkwX1_copy_3 : List UInt8 := [180, 0, 22, 3, 43, 180, 0, 22, 3, 16, 6, 184, 0, 43, 42, 180, 0, 25, 3, 43, 180, 0, 25, 3]
abbrev dktX1_copy_3 : List UInt8 := dkwX1_copy_3 ++ dktX1_copy_4
def dkwX1_copy_2 : List UInt8 := [180, 0, 15, 3, 8, 184, 0, 43, 42, 180, 0, 19, 3, 43, 180, 0, 19, 3, 16, 6, 184, 0, 43, 42]
abbrev dktX1_copy_2 : List UInt8 := dkwX1_copy_2 ++ dktX1_copy_3
def dkwX1_copy_1 : List UInt8 := [42, 180, 0, 9, 3, 43, 180, 0, 9, 3, 42, 180, 0, 9, 190, 184, 0, 43, 42, 180, 0, 15, 3, 43]
abbrev dktX1_copy_1 : List UInt8 := dkwX1_copy_1 ++ dktX1_copy_2
def dkwX1_copy_0 : List UInt8 := [187, 0, 10, 89, 183, 0, 39, 76, 43, 42, 180, 0, 31, 181, 0, 31, 43, 42, 180, 0, 40, 181, 0, 40]
abbrev dktX1_copy_0 : List UInt8 := dkwX1_copy_0 ++ dktX1_copy_1
theorem dksX1_copy_0 : cX1_copy.data.toList.drop 0 = dktX1_copy_0 := by decide +kernel
theorem dksX1_copy_1 : cX1_copy.data.toList.drop 24 = dktX1_copy_1 := dk_seg dksX1_copy_0 24 rfl rfl
theorem dksX1_copy_2 : cX1_copy.data.toList.drop 48 = dktX1_copy_2 := dk_seg dksX1_copy_1 24 rfl rfl
theorem dksX1_copy_3 : cX1_copy.data.toList.drop 72 = dktX1_copy_3 := dk_seg dksX1_copy_2 24 rfl rfl
theorem dksX1_copy_4 : cX1_copy.data.toList.drop 96 = dktX1_copy_4 := dk_seg dksX1_copy_3 24 rfl rfl
theorem dksX1_copy_5 : cX1_copy.data.toList.drop 118 = dktX1_copy_5 := dk_seg dksX1_copy_4 22 rfl rfl
theorem dX1_copy_0 : decode cX1_copy 0 = .ok (.new 10, 3) := dk_187 0 10 (dk_at dksX1_copy_0 0 rfl rfl)
theorem dX1_copy_3 : decode cX1_copy 3 = .ok (.dup, 1) := dk_89 (dk_at dksX1_copy_0 3 rfl rfl)
theorem dX1_copy_4 : decode cX1_copy 4 = .ok (.invokespecial 39, 3) := dk_183 0 39 (dk_at dksX1_copy_0 4 rfl rfl)
theorem dX1_copy_7 : decode cX1_copy 7 = .ok (.astore_n 1, 1) := dk_76 (dk_at dksX1_copy_0 7 rfl rfl)
theorem dX1_copy_8 : decode cX1_copy 8 = .ok (.aload_n 1, 1) := dk_43 (dk_at dksX1_copy_0 8 rfl rfl)
theorem dX1_copy_9 : decode cX1_copy 9 = .ok (.aload_n 0, 1) := dk_42 (dk_at dksX1_copy_0 9 rfl rfl)
theorem dX1_copy_10 : decode cX1_copy 10 = .ok (.getfield 31, 3) := dk_180 0 31 (dk_at dksX1_copy_0 10 rfl rfl)
theorem dX1_copy_13 : decode cX1_copy 13 = .ok (.putfield 31, 3) := dk_181 0 31 (dk_at dksX1_copy_0 13 rfl rfl)
theorem dX1_copy_16 : decode cX1_copy 16 = .ok (.aload_n 1, 1) := dk_43 (dk_at dksX1_copy_0 16 rfl rfl)
theorem dX1_copy_17 : decode cX1_copy 17 = .ok (.aload_n 0, 1) := dk_42 (dk_at dksX1_copy_0 17 rfl rfl)
theorem dX1_copy_18 : decode cX1_copy 18 = .ok (.getfield 40, 3) := dk_180 0 40 (dk_at dksX1_copy_0 18 rfl rfl)
theorem dX1_copy_21 : decode cX1_copy 21 = .ok (.putfield 40, 3) := dk_181 0 40 (dk_at dksX1_copy_0 21 rfl rfl)
theorem dX1_copy_24 : decode cX1_copy 24 = .ok (.aload_n 0, 1) := dk_42 (dk_at dksX1_copy_1 0 rfl rfl)
theorem dX1_copy_25 : decode cX1_copy 25 = .ok (.getfield 9, 3) := dk_180 0 9 (dk_at dksX1_copy_1 1 rfl rfl)
theorem dX1_copy_28 : decode cX1_copy 28 = .ok (.iconst 0, 1) := dk_3 (dk_at dksX1_copy_1 4 rfl rfl)
theorem dX1_copy_29 : decode cX1_copy 29 = .ok (.aload_n 1, 1) := dk_43 (dk_at dksX1_copy_1 5 rfl rfl)
theorem dX1_copy_30 : decode cX1_copy 30 = .ok (.getfield 9, 3) := dk_180 0 9 (dk_at dksX1_copy_1 6 rfl rfl)
theorem dX1_copy_33 : decode cX1_copy 33 = .ok (.iconst 0, 1) := dk_3 (dk_at dksX1_copy_1 9 rfl rfl)
theorem dX1_copy_34 : decode cX1_copy 34 = .ok (.aload_n 0, 1) := dk_42 (dk_at dksX1_copy_1 10 rfl rfl)
theorem dX1_copy_35 : decode cX1_copy 35 = .ok (.getfield 9, 3) := dk_180 0 9 (dk_at dksX1_copy_1 11 rfl rfl)
theorem dX1_copy_38 : decode cX1_copy 38 = .ok (.arraylength, 1) := dk_190 (dk_at dksX1_copy_1 14 rfl rfl)
theorem dX1_copy_39 : decode cX1_copy 39 = .ok (.invokestatic 43, 3) := dk_184 0 43 (dk_at dksX1_copy_1 15 rfl rfl)
theorem dX1_copy_42 : decode cX1_copy 42 = .ok (.aload_n 0, 1) := dk_42 (dk_at dksX1_copy_1 18 rfl rfl)
theorem dX1_copy_43 : decode cX1_copy 43 = .ok (.getfield 15, 3) := dk_180 0 15 (dk_at dksX1_copy_1 19 rfl rfl)
theorem dX1_copy_46 : decode cX1_copy 46 = .ok (.iconst 0, 1) := dk_3 (dk_at dksX1_copy_1 22 rfl rfl)
theorem dX1_copy_47 : decode cX1_copy 47 = .ok (.aload_n 1, 1) := dk_43 (dk_at dksX1_copy_1 23 rfl rfl)
theorem dX1_copy_48 : decode cX1_copy 48 = .ok (.getfield 15, 3) := dk_180 0 15 (dk_at dksX1_copy_2 0 rfl rfl)
theorem dX1_copy_51 : decode cX1_copy 51 = .ok (.iconst 0, 1) := dk_3 (dk_at dksX1_copy_2 3 rfl rfl)
theorem dX1_copy_52 : decode cX1_copy 52 = .ok (.iconst 5, 1) := dk_8 (dk_at dksX1_copy_2 4 rfl rfl)
theorem dX1_copy_53 : decode cX1_copy 53 = .ok (.invokestatic 43, 3) := dk_184 0 43 (dk_at dksX1_copy_2 5 rfl rfl)
theorem dX1_copy_56 : decode cX1_copy 56 = .ok (.aload_n 0, 1) := dk_42 (dk_at dksX1_copy_2 8 rfl rfl)
theorem dX1_copy_57 : decode cX1_copy 57 = .ok (.getfield 19, 3) := dk_180 0 19 (dk_at dksX1_copy_2 9 rfl rfl)
theorem dX1_copy_60 : decode cX1_copy 60 = .ok (.iconst 0, 1) := dk_3 (dk_at dksX1_copy_2 12 rfl rfl)
theorem dX1_copy_61 : decode cX1_copy 61 = .ok (.aload_n 1, 1) := dk_43 (dk_at dksX1_copy_2 13 rfl rfl)
theorem dX1_copy_62 : decode cX1_copy 62 = .ok (.getfield 19, 3) := dk_180 0 19 (dk_at dksX1_copy_2 14 rfl rfl)
theorem dX1_copy_65 : decode cX1_copy 65 = .ok (.iconst 0, 1) := dk_3 (dk_at dksX1_copy_2 17 rfl rfl)
theorem dX1_copy_66 : decode cX1_copy 66 = .ok (.bipush 6, 2) := dk_16 6 (dk_at dksX1_copy_2 18 rfl rfl)
theorem dX1_copy_68 : decode cX1_copy 68 = .ok (.invokestatic 43, 3) := dk_184 0 43 (dk_at dksX1_copy_2 20 rfl rfl)
theorem dX1_copy_71 : decode cX1_copy 71 = .ok (.aload_n 0, 1) := dk_42 (dk_at dksX1_copy_2 23 rfl rfl)
theorem dX1_copy_72 : decode cX1_copy 72 = .ok (.getfield 22, 3) := dk_180 0 22 (dk_at dksX1_copy_3 0 rfl rfl)
theorem dX1_copy_75 : decode cX1_copy 75 = .ok (.iconst 0, 1) := dk_3 (dk_at dksX1_copy_3 3 rfl rfl)
theorem dX1_copy_76 : decode cX1_copy 76 = .ok (.aload_n 1, 1) := dk_43 (dk_at dksX1_copy_3 4 rfl rfl)
theorem dX1_copy_77 : decode cX1_copy 77 = .ok (.getfield 22, 3) := dk_180 0 22 (dk_at dksX1_copy_3 5 rfl rfl)
theorem dX1_copy_80 : decode cX1_copy 80 = .ok (.iconst 0, 1) := dk_3 (dk_at dksX1_copy_3 8 rfl rfl)
theorem dX1_copy_81 : decode cX1_copy 81 = .ok (.bipush 6, 2) := dk_16 6 (dk_at dksX1_copy_3 9 rfl rfl)
theorem dX1_copy_83 : decode cX1_copy 83 = .ok (.invokestatic 43, 3) := dk_184 0 43 (dk_at dksX1_copy_3 11 rfl rfl)
theorem dX1_copy_86 : decode cX1_copy 86 = .ok (.aload_n 0, 1) := dk_42 (dk_at dksX1_copy_3 14 rfl rfl)
theorem dX1_copy_87 : decode cX1_copy 87 = .ok (.getfield 25, 3) := dk_180 0 25 (dk_at dksX1_copy_3 15 rfl rfl)
theorem dX1_copy_90 : decode cX1_copy 90 = .ok (.iconst 0, 1) := dk_3 (dk_at dksX1_copy_3 18 rfl rfl)
theorem dX1_copy_91 : decode cX1_copy 91 = .ok (.aload_n 1, 1) := dk_43 (dk_at dksX1_copy_3 19 rfl rfl)
theorem dX1_copy_92 : decode cX1_copy 92 = .ok (.getfield 25, 3) := dk_180 0 25 (dk_at dksX1_copy_3 20 rfl rfl)
theorem dX1_copy_95 : decode cX1_copy 95 = .ok (.iconst 0, 1) := dk_3 (dk_at dksX1_copy_3 23 rfl rfl)
theorem dX1_copy_96 : decode cX1_copy 96 = .ok (.bipush 6, 2) := dk_16 6 (dk_at dksX1_copy_4 0 rfl rfl)
theorem dX1_copy_98 : decode cX1_copy 98 = .ok (.invokestatic 43, 3) := dk_184 0 43 (dk_at dksX1_copy_4 2 rfl rfl)
theorem dX1_copy_101 : decode cX1_copy 101 = .ok (.aload_n 0, 1) := dk_42 (dk_at dksX1_copy_4 5 rfl rfl)
theorem dX1_copy_102 : decode cX1_copy 102 = .ok (.getfield 28, 3) := dk_180 0 28 (dk_at dksX1_copy_4 6 rfl rfl)
theorem dX1_copy_105 : decode cX1_copy 105 = .ok (.iconst 0, 1) := dk_3 (dk_at dksX1_copy_4 9 rfl rfl)
theorem dX1_copy_106 : decode cX1_copy 106 = .ok (.aload_n 1, 1) := dk_43 (dk_at dksX1_copy_4 10 rfl rfl)
theorem dX1_copy_107 : decode cX1_copy 107 = .ok (.getfield 28, 3) := dk_180 0 28 (dk_at dksX1_copy_4 11 rfl rfl)
theorem dX1_copy_110 : decode cX1_copy 110 = .ok (.iconst 0, 1) := dk_3 (dk_at dksX1_copy_4 14 rfl rfl)
theorem dX1_copy_111 : decode cX1_copy 111 = .ok (.bipush 32, 2) := dk_16 32 (dk_at dksX1_copy_4 15 rfl rfl)
theorem dX1_copy_113 : decode cX1_copy 113 = .ok (.invokestatic 43, 3) := dk_184 0 43 (dk_at dksX1_copy_4 17 rfl rfl)
theorem dX1_copy_116 : decode cX1_copy 116 = .ok (.aload_n 1, 1) := dk_43 (dk_at dksX1_copy_4 20 rfl rfl)
theorem dX1_copy_117 : decode cX1_copy 117 = .ok (.aload_n 0, 1) := dk_42 (dk_at dksX1_copy_4 21 rfl rfl)
theorem dX1_copy_118 : decode cX1_copy 118 = .ok (.getfield 49, 3) := dk_180 0 49 (dk_at dksX1_copy_5 0 rfl rfl)
theorem dX1_copy_121 : decode cX1_copy 121 = .ok (.putfield 49, 3) := dk_181 0 49 (dk_at dksX1_copy_5 3 rfl rfl)
theorem dX1_copy_124 : decode cX1_copy 124 = .ok (.aload_n 1, 1) := dk_43 (dk_at dksX1_copy_5 6 rfl rfl)
theorem dX1_copy_125 : decode cX1_copy 125 = .ok (.aload_n 0, 1) := dk_42 (dk_at dksX1_copy_5 7 rfl rfl)
theorem dX1_copy_126 : decode cX1_copy 126 = .ok (.getfield 52, 3) := dk_180 0 52 (dk_at dksX1_copy_5 8 rfl rfl)
theorem dX1_copy_129 : decode cX1_copy 129 = .ok (.putfield 52, 3) := dk_181 0 52 (dk_at dksX1_copy_5 11 rfl rfl)
theorem dX1_copy_132 : decode cX1_copy 132 = .ok (.aload_n 1, 1) := dk_43 (dk_at dksX1_copy_5 14 rfl rfl)
theorem dX1_copy_133 : decode cX1_copy 133 = .ok (.aload_n 0, 1) := dk_42 (dk_at dksX1_copy_5 15 rfl rfl)
theorem dX1_copy_134 : decode cX1_copy 134 = .ok (.getfield 55, 3) := dk_180 0 55 (dk_at dksX1_copy_5 16 rfl rfl)
theorem dX1_copy_137 : decode cX1_copy 137 = .ok (.putfield 55, 3) := dk_181 0 55 (dk_at dksX1_copy_5 19 rfl rfl)
theorem dX1_copy_140 : decode cX1_copy 140 = .ok (.aload_n 1, 1) := dk_43 (dk_at dksX1_copy_5 22 rfl rfl)
theorem dX1_copy_141 : decode cX1_copy 141 = .ok (.areturn, 1) := dk_176 (dk_at dksX1_copy_5 23 rfl rfl)
theorem q151 : (Jvm.Cond.initialized "HiddenCube$Town") ∈ lw_all := lw_g (lw_at lw_m1 2 rfl) rfl
theorem q184 : (Jvm.Cond.instantiable "HiddenCube$Town" (11 : Nat)) ∈ lw_all := lw_g (lw_at lw_m1 35 rfl) rfl
theorem q186 : (Jvm.Cond.instanceMethod ({ cls := "HiddenCube$Town", name := "<init>", desc := "()V" } : Jvm.MethodName)) ∈ lw_all := lw_g (lw_at lw_m1 37 rfl) rfl
theorem q187 : (Jvm.Cond.code ({ cls := "HiddenCube$Town", name := "<init>", desc := "()V" } : Jvm.MethodName) prog_6_method_1_code (1 : Nat) (Option.none : Option Jvm.ClassFile.FieldType)) ∈ lw_all := lw_g (lw_at lw_m1 38 rfl) rfl
theorem q188 : (Jvm.Cond.methodLink "HiddenCube$Town" (3 : Nat) ({ cls := "java/lang/Object", name := "<init>", desc := "()V" } : Jvm.MethodName)) ∈ lw_all := lw_g (lw_at lw_m1 39 rfl) rfl
theorem q189 : (Jvm.Cond.fieldLink "HiddenCube$Town" (31 : Nat) "HiddenCube$Town" "names" "I") ∈ lw_all := lw_g (lw_at lw_m1 40 rfl) rfl
theorem q193 : (Jvm.Cond.fieldLink "HiddenCube$Town" (40 : Nat) "HiddenCube$Town" "lines" "I") ∈ lw_all := lw_g (lw_at lw_m1 44 rfl) rfl
theorem q196 : (Jvm.Cond.fieldLink "HiddenCube$Town" (9 : Nat) "HiddenCube$Town" "letters" "[B") ∈ lw_all := lw_g (lw_at lw_m1 47 rfl) rfl
theorem q199 : (Jvm.Cond.fieldLink "HiddenCube$Town" (15 : Nat) "HiddenCube$Town" "lengths" "[I") ∈ lw_all := lw_g (lw_at lw_m1 50 rfl) rfl
theorem q202 : (Jvm.Cond.fieldLink "HiddenCube$Town" (19 : Nat) "HiddenCube$Town" "people" "[I") ∈ lw_all := lw_g (lw_at lw_m1 53 rfl) rfl
theorem q205 : (Jvm.Cond.fieldLink "HiddenCube$Town" (22 : Nat) "HiddenCube$Town" "from" "[I") ∈ lw_all := lw_g (lw_at lw_m1 56 rfl) rfl
theorem q208 : (Jvm.Cond.fieldLink "HiddenCube$Town" (25 : Nat) "HiddenCube$Town" "to" "[I") ∈ lw_all := lw_g (lw_at lw_m1 59 rfl) rfl
theorem q211 : (Jvm.Cond.fieldLink "HiddenCube$Town" (28 : Nat) "HiddenCube$Town" "shut" "[I") ∈ lw_all := lw_g (lw_at lw_m1 62 rfl) rfl
theorem q213 : (Jvm.Cond.fieldLink "HiddenCube$Town" (49 : Nat) "HiddenCube$Town" "persons" "I") ∈ lw_all := lw_g (lw_at lw_m1 64 rfl) rfl
theorem q216 : (Jvm.Cond.fieldLink "HiddenCube$Town" (52 : Nat) "HiddenCube$Town" "carriers" "I") ∈ lw_all := lw_g (lw_at lw_m1 67 rfl) rfl
theorem q219 : (Jvm.Cond.fieldLink "HiddenCube$Town" (55 : Nat) "HiddenCube$Town" "wardens" "I") ∈ lw_all := lw_g (lw_at lw_m1 70 rfl) rfl
theorem q222 : (Jvm.Cond.lays "HiddenCube$Town" "HiddenCube$Town" "names" "I") ∈ lw_all := lw_g (lw_at lw_m1 73 rfl) rfl
theorem q223 : (Jvm.Cond.soleField "HiddenCube$Town" "names") ∈ lw_all := lw_g (lw_at lw_m1 74 rfl) rfl
theorem q224 : (Jvm.Cond.lays "HiddenCube$Town" "HiddenCube$Town" "lines" "I") ∈ lw_all := lw_g (lw_at lw_m1 75 rfl) rfl
theorem q225 : (Jvm.Cond.soleField "HiddenCube$Town" "lines") ∈ lw_all := lw_g (lw_at lw_m1 76 rfl) rfl
theorem q226 : (Jvm.Cond.laysFinal "HiddenCube$Town" "HiddenCube$Town" "letters" "[B") ∈ lw_all := lw_g (lw_at lw_m1 77 rfl) rfl
theorem q227 : (Jvm.Cond.soleField "HiddenCube$Town" "letters") ∈ lw_all := lw_g (lw_at lw_m1 78 rfl) rfl
theorem q228 : (Jvm.Cond.laysFinal "HiddenCube$Town" "HiddenCube$Town" "lengths" "[I") ∈ lw_all := lw_g (lw_at lw_m1 79 rfl) rfl
theorem q229 : (Jvm.Cond.soleField "HiddenCube$Town" "lengths") ∈ lw_all := lw_g (lw_at lw_m1 80 rfl) rfl
theorem q230 : (Jvm.Cond.laysFinal "HiddenCube$Town" "HiddenCube$Town" "people" "[I") ∈ lw_all := lw_g (lw_at lw_m1 81 rfl) rfl
theorem q231 : (Jvm.Cond.soleField "HiddenCube$Town" "people") ∈ lw_all := lw_g (lw_at lw_m1 82 rfl) rfl
theorem q232 : (Jvm.Cond.laysFinal "HiddenCube$Town" "HiddenCube$Town" "from" "[I") ∈ lw_all := lw_g (lw_at lw_m1 83 rfl) rfl
theorem q233 : (Jvm.Cond.soleField "HiddenCube$Town" "from") ∈ lw_all := lw_g (lw_at lw_m1 84 rfl) rfl
theorem q234 : (Jvm.Cond.laysFinal "HiddenCube$Town" "HiddenCube$Town" "to" "[I") ∈ lw_all := lw_g (lw_at lw_m1 85 rfl) rfl
theorem q235 : (Jvm.Cond.soleField "HiddenCube$Town" "to") ∈ lw_all := lw_g (lw_at lw_m1 86 rfl) rfl
theorem q236 : (Jvm.Cond.laysFinal "HiddenCube$Town" "HiddenCube$Town" "shut" "[I") ∈ lw_all := lw_g (lw_at lw_m1 87 rfl) rfl
theorem q237 : (Jvm.Cond.soleField "HiddenCube$Town" "shut") ∈ lw_all := lw_g (lw_at lw_m1 88 rfl) rfl
theorem q238 : (Jvm.Cond.lays "HiddenCube$Town" "HiddenCube$Town" "persons" "I") ∈ lw_all := lw_g (lw_at lw_m1 89 rfl) rfl
theorem q239 : (Jvm.Cond.soleField "HiddenCube$Town" "persons") ∈ lw_all := lw_g (lw_at lw_m1 90 rfl) rfl
theorem q240 : (Jvm.Cond.lays "HiddenCube$Town" "HiddenCube$Town" "carriers" "I") ∈ lw_all := lw_g (lw_at lw_m1 91 rfl) rfl
theorem q241 : (Jvm.Cond.soleField "HiddenCube$Town" "carriers") ∈ lw_all := lw_g (lw_at lw_m1 92 rfl) rfl
theorem q242 : (Jvm.Cond.lays "HiddenCube$Town" "HiddenCube$Town" "wardens" "I") ∈ lw_all := lw_g (lw_at lw_m1 93 rfl) rfl
theorem q243 : (Jvm.Cond.soleField "HiddenCube$Town" "wardens") ∈ lw_all := lw_g (lw_at lw_m1 94 rfl) rfl
theorem q244 : (Jvm.Cond.superclass "HiddenCube$Town" "java/lang/Object") ∈ lw_all := lw_g (lw_at lw_m1 95 rfl) rfl
theorem q670 : (Jvm.Cond.instanceMethod ({ cls := "HiddenCube$Town", name := "squares", desc := "()I" } : Jvm.MethodName)) ∈ lw_all := lw_g (lw_at lw_m3 41 rfl) rfl
theorem q671 : (Jvm.Cond.selects "HiddenCube$Town" ({ cls := "HiddenCube$Town", name := "squares", desc := "()I" } : Jvm.MethodName) ({ cls := "HiddenCube$Town", name := "squares", desc := "()I" } : Jvm.MethodName)) ∈ lw_all := lw_g (lw_at lw_m3 42 rfl) rfl
theorem q672 : (Jvm.Cond.code ({ cls := "HiddenCube$Town", name := "squares", desc := "()I" } : Jvm.MethodName) prog_6_method_2_code (1 : Nat) (Option.some Jvm.ClassFile.FieldType.int)) ∈ lw_all := lw_g (lw_at lw_m3 43 rfl) rfl
theorem q678 : (Jvm.Cond.instanceMethod ({ cls := "HiddenCube$Town", name := "isOpen", desc := "(II)Z" } : Jvm.MethodName)) ∈ lw_all := lw_g (lw_at lw_m3 49 rfl) rfl
theorem q679 : (Jvm.Cond.selects "HiddenCube$Town" ({ cls := "HiddenCube$Town", name := "isOpen", desc := "(II)Z" } : Jvm.MethodName) ({ cls := "HiddenCube$Town", name := "isOpen", desc := "(II)Z" } : Jvm.MethodName)) ∈ lw_all := lw_g (lw_at lw_m3 50 rfl) rfl
theorem q680 : (Jvm.Cond.code ({ cls := "HiddenCube$Town", name := "isOpen", desc := "(II)Z" } : Jvm.MethodName) prog_6_method_3_code (3 : Nat) (Option.some Jvm.ClassFile.FieldType.boolean)) ∈ lw_all := lw_g (lw_at lw_m3 51 rfl) rfl
theorem q681 : (Jvm.Cond.methodLinkNest "HiddenCube$Town" (35 : Nat) ({ cls := "HiddenCube", name := "has", desc := "(II)Z" } : Jvm.MethodName) "HiddenCube") ∈ lw_tbl := lw_at lw_m3 52 rfl
theorem q685 : (Jvm.Cond.instanceMethod ({ cls := "HiddenCube$Town", name := "sets", desc := "(III)V" } : Jvm.MethodName)) ∈ lw_all := lw_g (lw_at lw_m3 56 rfl) rfl
theorem q686 : (Jvm.Cond.selects "HiddenCube$Town" ({ cls := "HiddenCube$Town", name := "sets", desc := "(III)V" } : Jvm.MethodName) ({ cls := "HiddenCube$Town", name := "sets", desc := "(III)V" } : Jvm.MethodName)) ∈ lw_all := lw_g (lw_at lw_m3 57 rfl) rfl
theorem q687 : (Jvm.Cond.code ({ cls := "HiddenCube$Town", name := "sets", desc := "(III)V" } : Jvm.MethodName) prog_6_method_4_code (5 : Nat) (Option.none : Option Jvm.ClassFile.FieldType)) ∈ lw_all := lw_g (lw_at lw_m3 58 rfl) rfl
theorem q1296 : (Jvm.Cond.instanceMethod ({ cls := "HiddenCube$Town", name := "copy", desc := "()LHiddenCube$Town;" } : Jvm.MethodName)) ∈ lw_all := lw_g (lw_at lw_m5 187 rfl) rfl
theorem q1297 : (Jvm.Cond.selects "HiddenCube$Town" ({ cls := "HiddenCube$Town", name := "copy", desc := "()LHiddenCube$Town;" } : Jvm.MethodName) ({ cls := "HiddenCube$Town", name := "copy", desc := "()LHiddenCube$Town;" } : Jvm.MethodName)) ∈ lw_all := lw_g (lw_at lw_m5 188 rfl) rfl
theorem q1298 : (Jvm.Cond.code ({ cls := "HiddenCube$Town", name := "copy", desc := "()LHiddenCube$Town;" } : Jvm.MethodName) prog_6_method_5_code (2 : Nat) (Option.some (Jvm.ClassFile.FieldType.object "HiddenCube$Town"))) ∈ lw_all := lw_g (lw_at lw_m5 189 rfl) rfl
theorem q1299 : (Jvm.Cond.classLink "HiddenCube$Town" (10 : Nat) "HiddenCube$Town") ∈ lw_all := lw_g (lw_at lw_m5 190 rfl) rfl
theorem q1300 : (Jvm.Cond.methodLink "HiddenCube$Town" (39 : Nat) ({ cls := "HiddenCube$Town", name := "<init>", desc := "()V" } : Jvm.MethodName)) ∈ lw_all := lw_g (lw_at lw_m5 191 rfl) rfl
theorem q1301 : (Jvm.Cond.methodLink "HiddenCube$Town" (43 : Nat) ({ cls := "java/lang/System", name := "arraycopy", desc := "(Ljava/lang/Object;ILjava/lang/Object;II)V" } : Jvm.MethodName)) ∈ lw_all := lw_g (lw_at lw_m5 192 rfl) rfl
theorem in_X1 : ∀ w ∈ wsX10, w ∈ lw_all := lw_in wsX10 [222, 224, 226, 228, 230, 232, 234, 236, 238, 240, 242] (by decide +kernel) (by decide +kernel)
/-! HiddenCube$Walk -/
set_option maxRecDepth 100000
def RX2 : String := "HiddenCube$Walk"
def TX2 : u_T := fun k => match k with
  | 0 => ("HiddenCube$Walk", "far", "[I", true)
  | _ => ("HiddenCube$Walk", "this$0", "LHiddenCube;", true)
def tyX2 : Nat → FieldType := fun k => match k with
  | 0 => .array .int
  | _ => .object "HiddenCube"
abbrev wsX20 : List Cond := u_ws RX2 TX2 2
theorem nmX2 : ∀ a, a < 2 → ∀ b, b < 2 → a ≠ b → (TX2 a).2.1 ≠ (TX2 b).2.1 := by decide +kernel
theorem tyX2_ok : ∀ k, k < 2 → parseFieldDescriptor (TX2 k).2.2.1 = some (tyX2 k) := by decide +kernel
abbrev cX2_init : ByteArray := prog_7_method_1_code
def yX2_init : MethodName := ⟨RX2, "<init>", "(LHiddenCube;)V"⟩
def dkwX2_init_0 : List UInt8 := [42, 43, 181, 0, 3, 42, 183, 0, 9, 42, 16, 32, 188, 10, 181, 0, 15, 177]
abbrev dktX2_init_0 : List UInt8 := dkwX2_init_0 ++ []
theorem dksX2_init_0 : cX2_init.data.toList.drop 0 = dktX2_init_0 := by decide +kernel
theorem dX2_init_0 : decode cX2_init 0 = .ok (.aload_n 0, 1) := dk_42 (dk_at dksX2_init_0 0 rfl rfl)
theorem dX2_init_1 : decode cX2_init 1 = .ok (.aload_n 1, 1) := dk_43 (dk_at dksX2_init_0 1 rfl rfl)
theorem dX2_init_2 : decode cX2_init 2 = .ok (.putfield 3, 3) := dk_181 0 3 (dk_at dksX2_init_0 2 rfl rfl)
theorem dX2_init_5 : decode cX2_init 5 = .ok (.aload_n 0, 1) := dk_42 (dk_at dksX2_init_0 5 rfl rfl)
theorem dX2_init_6 : decode cX2_init 6 = .ok (.invokespecial 9, 3) := dk_183 0 9 (dk_at dksX2_init_0 6 rfl rfl)
theorem dX2_init_9 : decode cX2_init 9 = .ok (.aload_n 0, 1) := dk_42 (dk_at dksX2_init_0 9 rfl rfl)
theorem dX2_init_10 : decode cX2_init 10 = .ok (.bipush 32, 2) := dk_16 32 (dk_at dksX2_init_0 10 rfl rfl)
theorem dX2_init_12 : decode cX2_init 12 = .ok (.newarray .int, 2) := dk_188_10 (dk_at dksX2_init_0 12 rfl rfl)
theorem dX2_init_14 : decode cX2_init 14 = .ok (.putfield 15, 3) := dk_181 0 15 (dk_at dksX2_init_0 14 rfl rfl)
theorem dX2_init_17 : decode cX2_init 17 = .ok (.return_, 1) := dk_177 (dk_at dksX2_init_0 17 rfl rfl)
abbrev cX2_spreads : ByteArray := prog_7_method_3_code
def yX2_spreads : MethodName := ⟨RX2, "spreads", "(I)V"⟩
def dkwX2_spreads_6 : List UInt8 := [167, 255, 163, 132, 2, 1, 167, 255, 141, 177]
abbrev dktX2_spreads_6 : List UInt8 := dkwX2_spreads_6 ++ []
def dkwX2_spreads_5 : List UInt8 := [160, 0, 13, 42, 180, 0, 15, 21, 5, 28, 4, 96, 79, 132, 4, 1, 167, 255, 199, 132, 3, 1]
abbrev dktX2_spreads_5 : List UInt8 := dkwX2_spreads_5 ++ dktX2_spreads_6
def dkwX2_spreads_4 : List UInt8 := [21, 4, 120, 130, 54, 5, 42, 29, 21, 4, 182, 0, 37, 153, 0, 24, 42, 180, 0, 15, 21, 5, 46, 2]
abbrev dktX2_spreads_4 : List UInt8 := dkwX2_spreads_4 ++ dktX2_spreads_5
def dkwX2_spreads_3 : List UInt8 := [167, 0, 66, 3, 54, 4, 21, 4, 42, 180, 0, 3, 180, 0, 19, 180, 0, 33, 162, 0, 48, 29, 4]
abbrev dktX2_spreads_3 : List UInt8 := dkwX2_spreads_3 ++ dktX2_spreads_4
def dkwX2_spreads_2 : List UInt8 := [29, 42, 180, 0, 3, 180, 0, 19, 182, 0, 29, 162, 0, 85, 42, 180, 0, 15, 29, 46, 28, 159, 0, 6]
abbrev dktX2_spreads_2 : List UInt8 := dkwX2_spreads_2 ++ dktX2_spreads_3
def dkwX2_spreads_1 : List UInt8 := [180, 0, 15, 27, 3, 79, 3, 61, 28, 42, 180, 0, 3, 180, 0, 19, 182, 0, 29, 162, 0, 107, 3, 62]
abbrev dktX2_spreads_1 : List UInt8 := dkwX2_spreads_1 ++ dktX2_spreads_2
def dkwX2_spreads_0 : List UInt8 := [3, 61, 28, 16, 32, 162, 0, 16, 42, 180, 0, 15, 28, 2, 79, 132, 2, 1, 167, 255, 240, 42]
abbrev dktX2_spreads_0 : List UInt8 := dkwX2_spreads_0 ++ dktX2_spreads_1
theorem dksX2_spreads_0 : cX2_spreads.data.toList.drop 0 = dktX2_spreads_0 := by decide +kernel
theorem dksX2_spreads_1 : cX2_spreads.data.toList.drop 22 = dktX2_spreads_1 := dk_seg dksX2_spreads_0 22 rfl rfl
theorem dksX2_spreads_2 : cX2_spreads.data.toList.drop 46 = dktX2_spreads_2 := dk_seg dksX2_spreads_1 24 rfl rfl
theorem dksX2_spreads_3 : cX2_spreads.data.toList.drop 70 = dktX2_spreads_3 := dk_seg dksX2_spreads_2 24 rfl rfl
theorem dksX2_spreads_4 : cX2_spreads.data.toList.drop 93 = dktX2_spreads_4 := dk_seg dksX2_spreads_3 23 rfl rfl
theorem dksX2_spreads_5 : cX2_spreads.data.toList.drop 117 = dktX2_spreads_5 := dk_seg dksX2_spreads_4 24 rfl rfl
theorem dksX2_spreads_6 : cX2_spreads.data.toList.drop 139 = dktX2_spreads_6 := dk_seg dksX2_spreads_5 22 rfl rfl
theorem dX2_spreads_0 : decode cX2_spreads 0 = .ok (.iconst 0, 1) := dk_3 (dk_at dksX2_spreads_0 0 rfl rfl)
theorem dX2_spreads_1 : decode cX2_spreads 1 = .ok (.istore_n 2, 1) := dk_61 (dk_at dksX2_spreads_0 1 rfl rfl)
theorem dX2_spreads_2 : decode cX2_spreads 2 = .ok (.iload_n 2, 1) := dk_28 (dk_at dksX2_spreads_0 2 rfl rfl)
theorem dX2_spreads_3 : decode cX2_spreads 3 = .ok (.bipush 32, 2) := dk_16 32 (dk_at dksX2_spreads_0 3 rfl rfl)
theorem dX2_spreads_5 : decode cX2_spreads 5 = .ok (.if_icmp .ge 16, 3) := dk_162 0 16 (dk_at dksX2_spreads_0 5 rfl rfl)
theorem dX2_spreads_8 : decode cX2_spreads 8 = .ok (.aload_n 0, 1) := dk_42 (dk_at dksX2_spreads_0 8 rfl rfl)
theorem dX2_spreads_9 : decode cX2_spreads 9 = .ok (.getfield 15, 3) := dk_180 0 15 (dk_at dksX2_spreads_0 9 rfl rfl)
theorem dX2_spreads_12 : decode cX2_spreads 12 = .ok (.iload_n 2, 1) := dk_28 (dk_at dksX2_spreads_0 12 rfl rfl)
theorem dX2_spreads_13 : decode cX2_spreads 13 = .ok (.iconst (-1), 1) := dk_2 (dk_at dksX2_spreads_0 13 rfl rfl)
theorem dX2_spreads_14 : decode cX2_spreads 14 = .ok (.iastore, 1) := dk_79 (dk_at dksX2_spreads_0 14 rfl rfl)
theorem dX2_spreads_15 : decode cX2_spreads 15 = .ok (.iinc 2 1, 3) := dk_132 2 1 (dk_at dksX2_spreads_0 15 rfl rfl)
theorem dX2_spreads_18 : decode cX2_spreads 18 = .ok (.goto (-16), 3) := dk_167 255 240 (dk_at dksX2_spreads_0 18 rfl rfl)
theorem dX2_spreads_21 : decode cX2_spreads 21 = .ok (.aload_n 0, 1) := dk_42 (dk_at dksX2_spreads_0 21 rfl rfl)
theorem dX2_spreads_22 : decode cX2_spreads 22 = .ok (.getfield 15, 3) := dk_180 0 15 (dk_at dksX2_spreads_1 0 rfl rfl)
theorem dX2_spreads_25 : decode cX2_spreads 25 = .ok (.iload_n 1, 1) := dk_27 (dk_at dksX2_spreads_1 3 rfl rfl)
theorem dX2_spreads_26 : decode cX2_spreads 26 = .ok (.iconst 0, 1) := dk_3 (dk_at dksX2_spreads_1 4 rfl rfl)
theorem dX2_spreads_27 : decode cX2_spreads 27 = .ok (.iastore, 1) := dk_79 (dk_at dksX2_spreads_1 5 rfl rfl)
theorem dX2_spreads_28 : decode cX2_spreads 28 = .ok (.iconst 0, 1) := dk_3 (dk_at dksX2_spreads_1 6 rfl rfl)
theorem dX2_spreads_29 : decode cX2_spreads 29 = .ok (.istore_n 2, 1) := dk_61 (dk_at dksX2_spreads_1 7 rfl rfl)
theorem dX2_spreads_30 : decode cX2_spreads 30 = .ok (.iload_n 2, 1) := dk_28 (dk_at dksX2_spreads_1 8 rfl rfl)
theorem dX2_spreads_31 : decode cX2_spreads 31 = .ok (.aload_n 0, 1) := dk_42 (dk_at dksX2_spreads_1 9 rfl rfl)
theorem dX2_spreads_32 : decode cX2_spreads 32 = .ok (.getfield 3, 3) := dk_180 0 3 (dk_at dksX2_spreads_1 10 rfl rfl)
theorem dX2_spreads_35 : decode cX2_spreads 35 = .ok (.getfield 19, 3) := dk_180 0 19 (dk_at dksX2_spreads_1 13 rfl rfl)
theorem dX2_spreads_38 : decode cX2_spreads 38 = .ok (.invokevirtual 29, 3) := dk_182 0 29 (dk_at dksX2_spreads_1 16 rfl rfl)
theorem dX2_spreads_41 : decode cX2_spreads 41 = .ok (.if_icmp .ge 107, 3) := dk_162 0 107 (dk_at dksX2_spreads_1 19 rfl rfl)
theorem dX2_spreads_44 : decode cX2_spreads 44 = .ok (.iconst 0, 1) := dk_3 (dk_at dksX2_spreads_1 22 rfl rfl)
theorem dX2_spreads_45 : decode cX2_spreads 45 = .ok (.istore_n 3, 1) := dk_62 (dk_at dksX2_spreads_1 23 rfl rfl)
theorem dX2_spreads_46 : decode cX2_spreads 46 = .ok (.iload_n 3, 1) := dk_29 (dk_at dksX2_spreads_2 0 rfl rfl)
theorem dX2_spreads_47 : decode cX2_spreads 47 = .ok (.aload_n 0, 1) := dk_42 (dk_at dksX2_spreads_2 1 rfl rfl)
theorem dX2_spreads_48 : decode cX2_spreads 48 = .ok (.getfield 3, 3) := dk_180 0 3 (dk_at dksX2_spreads_2 2 rfl rfl)
theorem dX2_spreads_51 : decode cX2_spreads 51 = .ok (.getfield 19, 3) := dk_180 0 19 (dk_at dksX2_spreads_2 5 rfl rfl)
theorem dX2_spreads_54 : decode cX2_spreads 54 = .ok (.invokevirtual 29, 3) := dk_182 0 29 (dk_at dksX2_spreads_2 8 rfl rfl)
theorem dX2_spreads_57 : decode cX2_spreads 57 = .ok (.if_icmp .ge 85, 3) := dk_162 0 85 (dk_at dksX2_spreads_2 11 rfl rfl)
theorem dX2_spreads_60 : decode cX2_spreads 60 = .ok (.aload_n 0, 1) := dk_42 (dk_at dksX2_spreads_2 14 rfl rfl)
theorem dX2_spreads_61 : decode cX2_spreads 61 = .ok (.getfield 15, 3) := dk_180 0 15 (dk_at dksX2_spreads_2 15 rfl rfl)
theorem dX2_spreads_64 : decode cX2_spreads 64 = .ok (.iload_n 3, 1) := dk_29 (dk_at dksX2_spreads_2 18 rfl rfl)
theorem dX2_spreads_65 : decode cX2_spreads 65 = .ok (.iaload, 1) := dk_46 (dk_at dksX2_spreads_2 19 rfl rfl)
theorem dX2_spreads_66 : decode cX2_spreads 66 = .ok (.iload_n 2, 1) := dk_28 (dk_at dksX2_spreads_2 20 rfl rfl)
theorem dX2_spreads_67 : decode cX2_spreads 67 = .ok (.if_icmp .eq 6, 3) := dk_159 0 6 (dk_at dksX2_spreads_2 21 rfl rfl)
theorem dX2_spreads_70 : decode cX2_spreads 70 = .ok (.goto 66, 3) := dk_167 0 66 (dk_at dksX2_spreads_3 0 rfl rfl)
theorem dX2_spreads_73 : decode cX2_spreads 73 = .ok (.iconst 0, 1) := dk_3 (dk_at dksX2_spreads_3 3 rfl rfl)
theorem dX2_spreads_74 : decode cX2_spreads 74 = .ok (.istore 4, 2) := dk_54 4 (dk_at dksX2_spreads_3 4 rfl rfl)
theorem dX2_spreads_76 : decode cX2_spreads 76 = .ok (.iload 4, 2) := dk_21 4 (dk_at dksX2_spreads_3 6 rfl rfl)
theorem dX2_spreads_78 : decode cX2_spreads 78 = .ok (.aload_n 0, 1) := dk_42 (dk_at dksX2_spreads_3 8 rfl rfl)
theorem dX2_spreads_79 : decode cX2_spreads 79 = .ok (.getfield 3, 3) := dk_180 0 3 (dk_at dksX2_spreads_3 9 rfl rfl)
theorem dX2_spreads_82 : decode cX2_spreads 82 = .ok (.getfield 19, 3) := dk_180 0 19 (dk_at dksX2_spreads_3 12 rfl rfl)
theorem dX2_spreads_85 : decode cX2_spreads 85 = .ok (.getfield 33, 3) := dk_180 0 33 (dk_at dksX2_spreads_3 15 rfl rfl)
theorem dX2_spreads_88 : decode cX2_spreads 88 = .ok (.if_icmp .ge 48, 3) := dk_162 0 48 (dk_at dksX2_spreads_3 18 rfl rfl)
theorem dX2_spreads_91 : decode cX2_spreads 91 = .ok (.iload_n 3, 1) := dk_29 (dk_at dksX2_spreads_3 21 rfl rfl)
theorem dX2_spreads_92 : decode cX2_spreads 92 = .ok (.iconst 1, 1) := dk_4 (dk_at dksX2_spreads_3 22 rfl rfl)
theorem dX2_spreads_93 : decode cX2_spreads 93 = .ok (.iload 4, 2) := dk_21 4 (dk_at dksX2_spreads_4 0 rfl rfl)
theorem dX2_spreads_95 : decode cX2_spreads 95 = .ok (.ishl, 1) := dk_120 (dk_at dksX2_spreads_4 2 rfl rfl)
theorem dX2_spreads_96 : decode cX2_spreads 96 = .ok (.ixor, 1) := dk_130 (dk_at dksX2_spreads_4 3 rfl rfl)
theorem dX2_spreads_97 : decode cX2_spreads 97 = .ok (.istore 5, 2) := dk_54 5 (dk_at dksX2_spreads_4 4 rfl rfl)
theorem dX2_spreads_99 : decode cX2_spreads 99 = .ok (.aload_n 0, 1) := dk_42 (dk_at dksX2_spreads_4 6 rfl rfl)
theorem dX2_spreads_100 : decode cX2_spreads 100 = .ok (.iload_n 3, 1) := dk_29 (dk_at dksX2_spreads_4 7 rfl rfl)
theorem dX2_spreads_101 : decode cX2_spreads 101 = .ok (.iload 4, 2) := dk_21 4 (dk_at dksX2_spreads_4 8 rfl rfl)
theorem dX2_spreads_103 : decode cX2_spreads 103 = .ok (.invokevirtual 37, 3) := dk_182 0 37 (dk_at dksX2_spreads_4 10 rfl rfl)
theorem dX2_spreads_106 : decode cX2_spreads 106 = .ok (.ifCond .eq 24, 3) := dk_153 0 24 (dk_at dksX2_spreads_4 13 rfl rfl)
theorem dX2_spreads_109 : decode cX2_spreads 109 = .ok (.aload_n 0, 1) := dk_42 (dk_at dksX2_spreads_4 16 rfl rfl)
theorem dX2_spreads_110 : decode cX2_spreads 110 = .ok (.getfield 15, 3) := dk_180 0 15 (dk_at dksX2_spreads_4 17 rfl rfl)
theorem dX2_spreads_113 : decode cX2_spreads 113 = .ok (.iload 5, 2) := dk_21 5 (dk_at dksX2_spreads_4 20 rfl rfl)
theorem dX2_spreads_115 : decode cX2_spreads 115 = .ok (.iaload, 1) := dk_46 (dk_at dksX2_spreads_4 22 rfl rfl)
theorem dX2_spreads_116 : decode cX2_spreads 116 = .ok (.iconst (-1), 1) := dk_2 (dk_at dksX2_spreads_4 23 rfl rfl)
theorem dX2_spreads_117 : decode cX2_spreads 117 = .ok (.if_icmp .ne 13, 3) := dk_160 0 13 (dk_at dksX2_spreads_5 0 rfl rfl)
theorem dX2_spreads_120 : decode cX2_spreads 120 = .ok (.aload_n 0, 1) := dk_42 (dk_at dksX2_spreads_5 3 rfl rfl)
theorem dX2_spreads_121 : decode cX2_spreads 121 = .ok (.getfield 15, 3) := dk_180 0 15 (dk_at dksX2_spreads_5 4 rfl rfl)
theorem dX2_spreads_124 : decode cX2_spreads 124 = .ok (.iload 5, 2) := dk_21 5 (dk_at dksX2_spreads_5 7 rfl rfl)
theorem dX2_spreads_126 : decode cX2_spreads 126 = .ok (.iload_n 2, 1) := dk_28 (dk_at dksX2_spreads_5 9 rfl rfl)
theorem dX2_spreads_127 : decode cX2_spreads 127 = .ok (.iconst 1, 1) := dk_4 (dk_at dksX2_spreads_5 10 rfl rfl)
theorem dX2_spreads_128 : decode cX2_spreads 128 = .ok (.iadd, 1) := dk_96 (dk_at dksX2_spreads_5 11 rfl rfl)
theorem dX2_spreads_129 : decode cX2_spreads 129 = .ok (.iastore, 1) := dk_79 (dk_at dksX2_spreads_5 12 rfl rfl)
theorem dX2_spreads_130 : decode cX2_spreads 130 = .ok (.iinc 4 1, 3) := dk_132 4 1 (dk_at dksX2_spreads_5 13 rfl rfl)
theorem dX2_spreads_133 : decode cX2_spreads 133 = .ok (.goto (-57), 3) := dk_167 255 199 (dk_at dksX2_spreads_5 16 rfl rfl)
theorem dX2_spreads_136 : decode cX2_spreads 136 = .ok (.iinc 3 1, 3) := dk_132 3 1 (dk_at dksX2_spreads_5 19 rfl rfl)
theorem dX2_spreads_139 : decode cX2_spreads 139 = .ok (.goto (-93), 3) := dk_167 255 163 (dk_at dksX2_spreads_6 0 rfl rfl)
theorem dX2_spreads_142 : decode cX2_spreads 142 = .ok (.iinc 2 1, 3) := dk_132 2 1 (dk_at dksX2_spreads_6 3 rfl rfl)
theorem dX2_spreads_145 : decode cX2_spreads 145 = .ok (.goto (-115), 3) := dk_167 255 141 (dk_at dksX2_spreads_6 6 rfl rfl)
theorem dX2_spreads_148 : decode cX2_spreads 148 = .ok (.return_, 1) := dk_177 (dk_at dksX2_spreads_6 9 rfl rfl)
abbrev cX2_goes : ByteArray := prog_7_method_2_code
def yX2_goes : MethodName := ⟨RX2, "goes", "(II)Z"⟩
def dkwX2_goes_0 : List UInt8 := [42, 180, 0, 3, 180, 0, 19, 27, 28, 182, 0, 23, 172]
abbrev dktX2_goes_0 : List UInt8 := dkwX2_goes_0 ++ []
theorem dksX2_goes_0 : cX2_goes.data.toList.drop 0 = dktX2_goes_0 := by decide +kernel
theorem dX2_goes_0 : decode cX2_goes 0 = .ok (.aload_n 0, 1) := dk_42 (dk_at dksX2_goes_0 0 rfl rfl)
theorem dX2_goes_1 : decode cX2_goes 1 = .ok (.getfield 3, 3) := dk_180 0 3 (dk_at dksX2_goes_0 1 rfl rfl)
theorem dX2_goes_4 : decode cX2_goes 4 = .ok (.getfield 19, 3) := dk_180 0 19 (dk_at dksX2_goes_0 4 rfl rfl)
theorem dX2_goes_7 : decode cX2_goes 7 = .ok (.iload_n 1, 1) := dk_27 (dk_at dksX2_goes_0 7 rfl rfl)
theorem dX2_goes_8 : decode cX2_goes 8 = .ok (.iload_n 2, 1) := dk_28 (dk_at dksX2_goes_0 8 rfl rfl)
theorem dX2_goes_9 : decode cX2_goes 9 = .ok (.invokevirtual 23, 3) := dk_182 0 23 (dk_at dksX2_goes_0 9 rfl rfl)
theorem dX2_goes_12 : decode cX2_goes 12 = .ok (.ireturn, 1) := dk_172 (dk_at dksX2_goes_0 12 rfl rfl)
theorem q152 : (Jvm.Cond.initialized "HiddenCube$Walk") ∈ lw_all := lw_g (lw_at lw_m1 3 rfl) rfl
theorem q190 : (Jvm.Cond.fieldLinkNest "HiddenCube$Walk" (33 : Nat) "HiddenCube$Town" "names" "I" "HiddenCube") ∈ lw_tbl := lw_at lw_m1 41 rfl
theorem q248 : (Jvm.Cond.instantiable "HiddenCube$Walk" (2 : Nat)) ∈ lw_all := lw_g (lw_at lw_m1 99 rfl) rfl
theorem q250 : (Jvm.Cond.instanceMethod ({ cls := "HiddenCube$Walk", name := "<init>", desc := "(LHiddenCube;)V" } : Jvm.MethodName)) ∈ lw_all := lw_g (lw_at lw_m1 101 rfl) rfl
theorem q251 : (Jvm.Cond.code ({ cls := "HiddenCube$Walk", name := "<init>", desc := "(LHiddenCube;)V" } : Jvm.MethodName) prog_7_method_1_code (2 : Nat) (Option.none : Option Jvm.ClassFile.FieldType)) ∈ lw_all := lw_g (lw_at lw_m1 102 rfl) rfl
theorem q252 : (Jvm.Cond.methodLink "HiddenCube$Walk" (9 : Nat) ({ cls := "java/lang/Object", name := "<init>", desc := "()V" } : Jvm.MethodName)) ∈ lw_all := lw_g (lw_at lw_m1 103 rfl) rfl
theorem q253 : (Jvm.Cond.fieldLink "HiddenCube$Walk" (15 : Nat) "HiddenCube$Walk" "far" "[I") ∈ lw_all := lw_g (lw_at lw_m1 104 rfl) rfl
theorem q255 : (Jvm.Cond.fieldLink "HiddenCube$Walk" (3 : Nat) "HiddenCube$Walk" "this$0" "LHiddenCube;") ∈ lw_all := lw_g (lw_at lw_m1 106 rfl) rfl
theorem q256 : (Jvm.Cond.laysFinal "HiddenCube$Walk" "HiddenCube$Walk" "far" "[I") ∈ lw_all := lw_g (lw_at lw_m1 107 rfl) rfl
theorem q257 : (Jvm.Cond.soleField "HiddenCube$Walk" "far") ∈ lw_all := lw_g (lw_at lw_m1 108 rfl) rfl
theorem q258 : (Jvm.Cond.laysFinal "HiddenCube$Walk" "HiddenCube$Walk" "this$0" "LHiddenCube;") ∈ lw_all := lw_g (lw_at lw_m1 109 rfl) rfl
theorem q259 : (Jvm.Cond.soleField "HiddenCube$Walk" "this$0") ∈ lw_all := lw_g (lw_at lw_m1 110 rfl) rfl
theorem q260 : (Jvm.Cond.superclass "HiddenCube$Walk" "java/lang/Object") ∈ lw_all := lw_g (lw_at lw_m1 111 rfl) rfl
theorem q296 : (Jvm.Cond.fieldLinkNest "HiddenCube$Walk" (19 : Nat) "HiddenCube" "town" "LHiddenCube$Town;" "HiddenCube") ∈ lw_tbl := lw_at lw_m1 147 rfl
theorem q777 : (Jvm.Cond.instanceMethod ({ cls := "HiddenCube$Walk", name := "spreads", desc := "(I)V" } : Jvm.MethodName)) ∈ lw_all := lw_g (lw_at lw_m3 148 rfl) rfl
theorem q778 : (Jvm.Cond.selects "HiddenCube$Walk" ({ cls := "HiddenCube$Walk", name := "spreads", desc := "(I)V" } : Jvm.MethodName) ({ cls := "HiddenCube$Walk", name := "spreads", desc := "(I)V" } : Jvm.MethodName)) ∈ lw_all := lw_g (lw_at lw_m3 149 rfl) rfl
theorem q779 : (Jvm.Cond.sameMethod "HiddenCube$Walk" "HiddenCube$Walk" "spreads" "(I)V") ∈ lw_all := lw_g (lw_at lw_m3 150 rfl) rfl
theorem q781 : (Jvm.Cond.code ({ cls := "HiddenCube$Walk", name := "spreads", desc := "(I)V" } : Jvm.MethodName) prog_7_method_3_code (6 : Nat) (Option.none : Option Jvm.ClassFile.FieldType)) ∈ lw_all := lw_g (lw_at lw_m3 152 rfl) rfl
theorem q782 : (Jvm.Cond.methodLink "HiddenCube$Walk" (29 : Nat) ({ cls := "HiddenCube$Town", name := "squares", desc := "()I" } : Jvm.MethodName)) ∈ lw_all := lw_g (lw_at lw_m3 153 rfl) rfl
theorem q783 : (Jvm.Cond.methodLink "HiddenCube$Walk" (37 : Nat) ({ cls := "HiddenCube$Walk", name := "goes", desc := "(II)Z" } : Jvm.MethodName)) ∈ lw_all := lw_g (lw_at lw_m3 154 rfl) rfl
theorem q784 : (Jvm.Cond.instanceMethod ({ cls := "HiddenCube$Walk", name := "goes", desc := "(II)Z" } : Jvm.MethodName)) ∈ lw_all := lw_g (lw_at lw_m3 155 rfl) rfl
theorem q785 : (Jvm.Cond.selects "HiddenCube$Walk" ({ cls := "HiddenCube$Walk", name := "goes", desc := "(II)Z" } : Jvm.MethodName) ({ cls := "HiddenCube$Walk", name := "goes", desc := "(II)Z" } : Jvm.MethodName)) ∈ lw_all := lw_g (lw_at lw_m3 156 rfl) rfl
theorem q786 : (Jvm.Cond.sameMethod "HiddenCube$Walk" "HiddenCube$Walk" "goes" "(II)Z") ∈ lw_all := lw_g (lw_at lw_m3 157 rfl) rfl
theorem q791 : (Jvm.Cond.code ({ cls := "HiddenCube$Walk", name := "goes", desc := "(II)Z" } : Jvm.MethodName) prog_7_method_2_code (3 : Nat) (Option.some Jvm.ClassFile.FieldType.boolean)) ∈ lw_all := lw_g (lw_at lw_m3 162 rfl) rfl
theorem q792 : (Jvm.Cond.methodLink "HiddenCube$Walk" (23 : Nat) ({ cls := "HiddenCube$Town", name := "isOpen", desc := "(II)Z" } : Jvm.MethodName)) ∈ lw_all := lw_g (lw_at lw_m3 163 rfl) rfl
theorem in_X2 : ∀ w ∈ wsX20, w ∈ lw_all := lw_in wsX20 [256, 258] (by decide +kernel) (by decide +kernel)
/-! HiddenCube$Without -/
set_option maxRecDepth 100000
def RX3 : String := "HiddenCube$Without"
def TX3 : u_T := fun k => match k with
  | 0 => ("HiddenCube$Walk", "far", "[I", true)
  | 1 => ("HiddenCube$Walk", "this$0", "LHiddenCube;", true)
  | 2 => ("HiddenCube$Without", "square", "I", false)
  | 3 => ("HiddenCube$Without", "name", "I", false)
  | _ => ("HiddenCube$Without", "this$0", "LHiddenCube;", true)
def tyX3 : Nat → FieldType := fun k => match k with
  | 0 => .array .int
  | 1 => .object "HiddenCube"
  | 2 => .int
  | 3 => .int
  | _ => .object "HiddenCube"
abbrev wsX30 : List Cond := u_ws RX3 TX3 5
-- two fields of one name: no nmX3
theorem tyX3_ok : ∀ k, k < 5 → parseFieldDescriptor (TX3 k).2.2.1 = some (tyX3 k) := by decide +kernel
abbrev cX3_init : ByteArray := prog_8_method_1_code
def yX3_init : MethodName := ⟨RX3, "<init>", "(LHiddenCube;)V"⟩
def dkwX3_init_0 : List UInt8 := [42, 43, 181, 0, 1, 42, 43, 183, 0, 7, 177]
abbrev dktX3_init_0 : List UInt8 := dkwX3_init_0 ++ []
theorem dksX3_init_0 : cX3_init.data.toList.drop 0 = dktX3_init_0 := by decide +kernel
theorem dX3_init_0 : decode cX3_init 0 = .ok (.aload_n 0, 1) := dk_42 (dk_at dksX3_init_0 0 rfl rfl)
theorem dX3_init_1 : decode cX3_init 1 = .ok (.aload_n 1, 1) := dk_43 (dk_at dksX3_init_0 1 rfl rfl)
theorem dX3_init_2 : decode cX3_init 2 = .ok (.putfield 1, 3) := dk_181 0 1 (dk_at dksX3_init_0 2 rfl rfl)
theorem dX3_init_5 : decode cX3_init 5 = .ok (.aload_n 0, 1) := dk_42 (dk_at dksX3_init_0 5 rfl rfl)
theorem dX3_init_6 : decode cX3_init 6 = .ok (.aload_n 1, 1) := dk_43 (dk_at dksX3_init_0 6 rfl rfl)
theorem dX3_init_7 : decode cX3_init 7 = .ok (.invokespecial 7, 3) := dk_183 0 7 (dk_at dksX3_init_0 7 rfl rfl)
theorem dX3_init_10 : decode cX3_init 10 = .ok (.return_, 1) := dk_177 (dk_at dksX3_init_0 10 rfl rfl)
abbrev cX3_goes : ByteArray := prog_8_method_2_code
def yX3_goes : MethodName := ⟨RX3, "goes", "(II)Z"⟩
def dkwX3_goes_1 : List UInt8 := [159, 0, 19, 27, 4, 28, 120, 130, 42, 180, 0, 21, 159, 0, 7, 4, 167, 0, 4, 3, 172]
abbrev dktX3_goes_1 : List UInt8 := dkwX3_goes_1 ++ []
def dkwX3_goes_0 : List UInt8 := [42, 27, 28, 183, 0, 13, 153, 0, 35, 28, 42, 180, 0, 17, 160, 0, 23, 27, 42, 180, 0, 21]
abbrev dktX3_goes_0 : List UInt8 := dkwX3_goes_0 ++ dktX3_goes_1
theorem dksX3_goes_0 : cX3_goes.data.toList.drop 0 = dktX3_goes_0 := by decide +kernel
theorem dksX3_goes_1 : cX3_goes.data.toList.drop 22 = dktX3_goes_1 := dk_seg dksX3_goes_0 22 rfl rfl
theorem dX3_goes_0 : decode cX3_goes 0 = .ok (.aload_n 0, 1) := dk_42 (dk_at dksX3_goes_0 0 rfl rfl)
theorem dX3_goes_1 : decode cX3_goes 1 = .ok (.iload_n 1, 1) := dk_27 (dk_at dksX3_goes_0 1 rfl rfl)
theorem dX3_goes_2 : decode cX3_goes 2 = .ok (.iload_n 2, 1) := dk_28 (dk_at dksX3_goes_0 2 rfl rfl)
theorem dX3_goes_3 : decode cX3_goes 3 = .ok (.invokespecial 13, 3) := dk_183 0 13 (dk_at dksX3_goes_0 3 rfl rfl)
theorem dX3_goes_6 : decode cX3_goes 6 = .ok (.ifCond .eq 35, 3) := dk_153 0 35 (dk_at dksX3_goes_0 6 rfl rfl)
theorem dX3_goes_9 : decode cX3_goes 9 = .ok (.iload_n 2, 1) := dk_28 (dk_at dksX3_goes_0 9 rfl rfl)
theorem dX3_goes_10 : decode cX3_goes 10 = .ok (.aload_n 0, 1) := dk_42 (dk_at dksX3_goes_0 10 rfl rfl)
theorem dX3_goes_11 : decode cX3_goes 11 = .ok (.getfield 17, 3) := dk_180 0 17 (dk_at dksX3_goes_0 11 rfl rfl)
theorem dX3_goes_14 : decode cX3_goes 14 = .ok (.if_icmp .ne 23, 3) := dk_160 0 23 (dk_at dksX3_goes_0 14 rfl rfl)
theorem dX3_goes_17 : decode cX3_goes 17 = .ok (.iload_n 1, 1) := dk_27 (dk_at dksX3_goes_0 17 rfl rfl)
theorem dX3_goes_18 : decode cX3_goes 18 = .ok (.aload_n 0, 1) := dk_42 (dk_at dksX3_goes_0 18 rfl rfl)
theorem dX3_goes_19 : decode cX3_goes 19 = .ok (.getfield 21, 3) := dk_180 0 21 (dk_at dksX3_goes_0 19 rfl rfl)
theorem dX3_goes_22 : decode cX3_goes 22 = .ok (.if_icmp .eq 19, 3) := dk_159 0 19 (dk_at dksX3_goes_1 0 rfl rfl)
theorem dX3_goes_25 : decode cX3_goes 25 = .ok (.iload_n 1, 1) := dk_27 (dk_at dksX3_goes_1 3 rfl rfl)
theorem dX3_goes_26 : decode cX3_goes 26 = .ok (.iconst 1, 1) := dk_4 (dk_at dksX3_goes_1 4 rfl rfl)
theorem dX3_goes_27 : decode cX3_goes 27 = .ok (.iload_n 2, 1) := dk_28 (dk_at dksX3_goes_1 5 rfl rfl)
theorem dX3_goes_28 : decode cX3_goes 28 = .ok (.ishl, 1) := dk_120 (dk_at dksX3_goes_1 6 rfl rfl)
theorem dX3_goes_29 : decode cX3_goes 29 = .ok (.ixor, 1) := dk_130 (dk_at dksX3_goes_1 7 rfl rfl)
theorem dX3_goes_30 : decode cX3_goes 30 = .ok (.aload_n 0, 1) := dk_42 (dk_at dksX3_goes_1 8 rfl rfl)
theorem dX3_goes_31 : decode cX3_goes 31 = .ok (.getfield 21, 3) := dk_180 0 21 (dk_at dksX3_goes_1 9 rfl rfl)
theorem dX3_goes_34 : decode cX3_goes 34 = .ok (.if_icmp .eq 7, 3) := dk_159 0 7 (dk_at dksX3_goes_1 12 rfl rfl)
theorem dX3_goes_37 : decode cX3_goes 37 = .ok (.iconst 1, 1) := dk_4 (dk_at dksX3_goes_1 15 rfl rfl)
theorem dX3_goes_38 : decode cX3_goes 38 = .ok (.goto 4, 3) := dk_167 0 4 (dk_at dksX3_goes_1 16 rfl rfl)
theorem dX3_goes_41 : decode cX3_goes 41 = .ok (.iconst 0, 1) := dk_3 (dk_at dksX3_goes_1 19 rfl rfl)
theorem dX3_goes_42 : decode cX3_goes 42 = .ok (.ireturn, 1) := dk_172 (dk_at dksX3_goes_1 20 rfl rfl)
theorem q153 : (Jvm.Cond.initialized "HiddenCube$Without") ∈ lw_all := lw_g (lw_at lw_m1 4 rfl) rfl
theorem q262 : (Jvm.Cond.instantiable "HiddenCube$Without" (5 : Nat)) ∈ lw_all := lw_g (lw_at lw_m1 113 rfl) rfl
theorem q264 : (Jvm.Cond.instanceMethod ({ cls := "HiddenCube$Without", name := "<init>", desc := "(LHiddenCube;)V" } : Jvm.MethodName)) ∈ lw_all := lw_g (lw_at lw_m1 115 rfl) rfl
theorem q265 : (Jvm.Cond.code ({ cls := "HiddenCube$Without", name := "<init>", desc := "(LHiddenCube;)V" } : Jvm.MethodName) prog_8_method_1_code (2 : Nat) (Option.none : Option Jvm.ClassFile.FieldType)) ∈ lw_all := lw_g (lw_at lw_m1 116 rfl) rfl
theorem q266 : (Jvm.Cond.methodLinkNest "HiddenCube$Without" (7 : Nat) ({ cls := "HiddenCube$Walk", name := "<init>", desc := "(LHiddenCube;)V" } : Jvm.MethodName) "HiddenCube") ∈ lw_tbl := lw_at lw_m1 117 rfl
theorem q267 : (Jvm.Cond.fieldLink "HiddenCube$Without" (21 : Nat) "HiddenCube$Without" "square" "I") ∈ lw_all := lw_g (lw_at lw_m1 118 rfl) rfl
theorem q269 : (Jvm.Cond.fieldLink "HiddenCube$Without" (17 : Nat) "HiddenCube$Without" "name" "I") ∈ lw_all := lw_g (lw_at lw_m1 120 rfl) rfl
theorem q271 : (Jvm.Cond.fieldLink "HiddenCube$Without" (1 : Nat) "HiddenCube$Without" "this$0" "LHiddenCube;") ∈ lw_all := lw_g (lw_at lw_m1 122 rfl) rfl
theorem q272 : (Jvm.Cond.lays "HiddenCube$Without" "HiddenCube$Without" "square" "I") ∈ lw_all := lw_g (lw_at lw_m1 123 rfl) rfl
theorem q273 : (Jvm.Cond.soleField "HiddenCube$Without" "square") ∈ lw_all := lw_g (lw_at lw_m1 124 rfl) rfl
theorem q274 : (Jvm.Cond.lays "HiddenCube$Without" "HiddenCube$Without" "name" "I") ∈ lw_all := lw_g (lw_at lw_m1 125 rfl) rfl
theorem q275 : (Jvm.Cond.soleField "HiddenCube$Without" "name") ∈ lw_all := lw_g (lw_at lw_m1 126 rfl) rfl
theorem q276 : (Jvm.Cond.laysFinal "HiddenCube$Without" "HiddenCube$Without" "this$0" "LHiddenCube;") ∈ lw_all := lw_g (lw_at lw_m1 127 rfl) rfl
theorem q277 : (Jvm.Cond.soleField "HiddenCube$Without" "this$0") ∈ lw_all := lw_g (lw_at lw_m1 128 rfl) rfl
theorem q278 : (Jvm.Cond.laysFinal "HiddenCube$Without" "HiddenCube$Walk" "far" "[I") ∈ lw_all := lw_g (lw_at lw_m1 129 rfl) rfl
theorem q279 : (Jvm.Cond.laysFinal "HiddenCube$Without" "HiddenCube$Walk" "this$0" "LHiddenCube;") ∈ lw_all := lw_g (lw_at lw_m1 130 rfl) rfl
theorem q280 : (Jvm.Cond.superclass "HiddenCube$Without" "HiddenCube$Walk") ∈ lw_all := lw_g (lw_at lw_m1 131 rfl) rfl
theorem q780 : (Jvm.Cond.selects "HiddenCube$Without" ({ cls := "HiddenCube$Walk", name := "spreads", desc := "(I)V" } : Jvm.MethodName) ({ cls := "HiddenCube$Walk", name := "spreads", desc := "(I)V" } : Jvm.MethodName)) ∈ lw_all := lw_g (lw_at lw_m3 151 rfl) rfl
theorem q787 : (Jvm.Cond.selects "HiddenCube$Without" ({ cls := "HiddenCube$Walk", name := "goes", desc := "(II)Z" } : Jvm.MethodName) ({ cls := "HiddenCube$Without", name := "goes", desc := "(II)Z" } : Jvm.MethodName)) ∈ lw_all := lw_g (lw_at lw_m3 158 rfl) rfl
theorem q788 : (Jvm.Cond.instanceMethod ({ cls := "HiddenCube$Without", name := "goes", desc := "(II)Z" } : Jvm.MethodName)) ∈ lw_all := lw_g (lw_at lw_m3 159 rfl) rfl
theorem q789 : (Jvm.Cond.code ({ cls := "HiddenCube$Without", name := "goes", desc := "(II)Z" } : Jvm.MethodName) prog_8_method_2_code (3 : Nat) (Option.some Jvm.ClassFile.FieldType.boolean)) ∈ lw_all := lw_g (lw_at lw_m3 160 rfl) rfl
theorem q790 : (Jvm.Cond.methodLink "HiddenCube$Without" (13 : Nat) ({ cls := "HiddenCube$Walk", name := "goes", desc := "(II)Z" } : Jvm.MethodName)) ∈ lw_all := lw_g (lw_at lw_m3 161 rfl) rfl
theorem in_X3 : ∀ w ∈ wsX30, w ∈ lw_all := lw_in wsX30 [278, 279, 272, 274, 276] (by decide +kernel) (by decide +kernel)
/-! HiddenCube$Slot -/
set_option maxRecDepth 100000
def RX4 : String := "HiddenCube$Slot"
def TX4 : u_T := fun k => match k with
  | _ => ("HiddenCube$Slot", "row", "Ljava/lang/Object;", false)
def tyX4 : Nat → FieldType := fun k => match k with
  | _ => .object "java/lang/Object"
abbrev wsX40 : List Cond := u_ws RX4 TX4 1
theorem nmX4 : ∀ a, a < 1 → ∀ b, b < 1 → a ≠ b → (TX4 a).2.1 ≠ (TX4 b).2.1 := by decide +kernel
theorem tyX4_ok : ∀ k, k < 1 → parseFieldDescriptor (TX4 k).2.2.1 = some (tyX4 k) := by decide +kernel
abbrev cX4_init : ByteArray := prog_4_method_1_code
def yX4_init : MethodName := ⟨RX4, "<init>", "()V"⟩
theorem dX4_init_0 : decode cX4_init 0 = .ok (.aload_n 0, 1) := by decide +kernel
theorem dX4_init_1 : decode cX4_init 1 = .ok (.invokespecial 1, 3) := by decide +kernel
theorem dX4_init_4 : decode cX4_init 4 = .ok (.return_, 1) := by decide +kernel
abbrev cX4_size : ByteArray := prog_4_method_3_code
def yX4_size : MethodName := ⟨RX4, "size", "()I"⟩
def dkwX4_size_3 : List UInt8 := [190, 172]
abbrev dktX4_size_3 : List UInt8 := dkwX4_size_3 ++ []
def dkwX4_size_2 : List UInt8 := [193, 0, 17, 153, 0, 14, 42, 180, 0, 7, 192, 0, 17, 190, 167, 0, 11, 42, 180, 0, 7, 192, 0, 19]
abbrev dktX4_size_2 : List UInt8 := dkwX4_size_2 ++ dktX4_size_3
def dkwX4_size_1 : List UInt8 := [180, 0, 7, 193, 0, 15, 153, 0, 14, 42, 180, 0, 7, 192, 0, 15, 190, 167, 0, 32, 42, 180, 0, 7]
abbrev dktX4_size_1 : List UInt8 := dkwX4_size_1 ++ dktX4_size_2
def dkwX4_size_0 : List UInt8 := [42, 180, 0, 7, 193, 0, 13, 153, 0, 14, 42, 180, 0, 7, 192, 0, 13, 190, 167, 0, 53, 42]
abbrev dktX4_size_0 : List UInt8 := dkwX4_size_0 ++ dktX4_size_1
theorem dksX4_size_0 : cX4_size.data.toList.drop 0 = dktX4_size_0 := by decide +kernel
theorem dksX4_size_1 : cX4_size.data.toList.drop 22 = dktX4_size_1 := dk_seg dksX4_size_0 22 rfl rfl
theorem dksX4_size_2 : cX4_size.data.toList.drop 46 = dktX4_size_2 := dk_seg dksX4_size_1 24 rfl rfl
theorem dksX4_size_3 : cX4_size.data.toList.drop 70 = dktX4_size_3 := dk_seg dksX4_size_2 24 rfl rfl
theorem dX4_size_0 : decode cX4_size 0 = .ok (.aload_n 0, 1) := dk_42 (dk_at dksX4_size_0 0 rfl rfl)
theorem dX4_size_1 : decode cX4_size 1 = .ok (.getfield 7, 3) := dk_180 0 7 (dk_at dksX4_size_0 1 rfl rfl)
theorem dX4_size_4 : decode cX4_size 4 = .ok (.instanceof 13, 3) := dk_193 0 13 (dk_at dksX4_size_0 4 rfl rfl)
theorem dX4_size_7 : decode cX4_size 7 = .ok (.ifCond .eq 14, 3) := dk_153 0 14 (dk_at dksX4_size_0 7 rfl rfl)
theorem dX4_size_10 : decode cX4_size 10 = .ok (.aload_n 0, 1) := dk_42 (dk_at dksX4_size_0 10 rfl rfl)
theorem dX4_size_11 : decode cX4_size 11 = .ok (.getfield 7, 3) := dk_180 0 7 (dk_at dksX4_size_0 11 rfl rfl)
theorem dX4_size_14 : decode cX4_size 14 = .ok (.checkcast 13, 3) := dk_192 0 13 (dk_at dksX4_size_0 14 rfl rfl)
theorem dX4_size_17 : decode cX4_size 17 = .ok (.arraylength, 1) := dk_190 (dk_at dksX4_size_0 17 rfl rfl)
theorem dX4_size_18 : decode cX4_size 18 = .ok (.goto 53, 3) := dk_167 0 53 (dk_at dksX4_size_0 18 rfl rfl)
theorem dX4_size_21 : decode cX4_size 21 = .ok (.aload_n 0, 1) := dk_42 (dk_at dksX4_size_0 21 rfl rfl)
theorem dX4_size_22 : decode cX4_size 22 = .ok (.getfield 7, 3) := dk_180 0 7 (dk_at dksX4_size_1 0 rfl rfl)
theorem dX4_size_25 : decode cX4_size 25 = .ok (.instanceof 15, 3) := dk_193 0 15 (dk_at dksX4_size_1 3 rfl rfl)
theorem dX4_size_28 : decode cX4_size 28 = .ok (.ifCond .eq 14, 3) := dk_153 0 14 (dk_at dksX4_size_1 6 rfl rfl)
theorem dX4_size_31 : decode cX4_size 31 = .ok (.aload_n 0, 1) := dk_42 (dk_at dksX4_size_1 9 rfl rfl)
theorem dX4_size_32 : decode cX4_size 32 = .ok (.getfield 7, 3) := dk_180 0 7 (dk_at dksX4_size_1 10 rfl rfl)
theorem dX4_size_35 : decode cX4_size 35 = .ok (.checkcast 15, 3) := dk_192 0 15 (dk_at dksX4_size_1 13 rfl rfl)
theorem dX4_size_38 : decode cX4_size 38 = .ok (.arraylength, 1) := dk_190 (dk_at dksX4_size_1 16 rfl rfl)
theorem dX4_size_39 : decode cX4_size 39 = .ok (.goto 32, 3) := dk_167 0 32 (dk_at dksX4_size_1 17 rfl rfl)
theorem dX4_size_42 : decode cX4_size 42 = .ok (.aload_n 0, 1) := dk_42 (dk_at dksX4_size_1 20 rfl rfl)
theorem dX4_size_43 : decode cX4_size 43 = .ok (.getfield 7, 3) := dk_180 0 7 (dk_at dksX4_size_1 21 rfl rfl)
theorem dX4_size_46 : decode cX4_size 46 = .ok (.instanceof 17, 3) := dk_193 0 17 (dk_at dksX4_size_2 0 rfl rfl)
theorem dX4_size_49 : decode cX4_size 49 = .ok (.ifCond .eq 14, 3) := dk_153 0 14 (dk_at dksX4_size_2 3 rfl rfl)
theorem dX4_size_52 : decode cX4_size 52 = .ok (.aload_n 0, 1) := dk_42 (dk_at dksX4_size_2 6 rfl rfl)
theorem dX4_size_53 : decode cX4_size 53 = .ok (.getfield 7, 3) := dk_180 0 7 (dk_at dksX4_size_2 7 rfl rfl)
theorem dX4_size_56 : decode cX4_size 56 = .ok (.checkcast 17, 3) := dk_192 0 17 (dk_at dksX4_size_2 10 rfl rfl)
theorem dX4_size_59 : decode cX4_size 59 = .ok (.arraylength, 1) := dk_190 (dk_at dksX4_size_2 13 rfl rfl)
theorem dX4_size_60 : decode cX4_size 60 = .ok (.goto 11, 3) := dk_167 0 11 (dk_at dksX4_size_2 14 rfl rfl)
theorem dX4_size_63 : decode cX4_size 63 = .ok (.aload_n 0, 1) := dk_42 (dk_at dksX4_size_2 17 rfl rfl)
theorem dX4_size_64 : decode cX4_size 64 = .ok (.getfield 7, 3) := dk_180 0 7 (dk_at dksX4_size_2 18 rfl rfl)
theorem dX4_size_67 : decode cX4_size 67 = .ok (.checkcast 19, 3) := dk_192 0 19 (dk_at dksX4_size_2 21 rfl rfl)
theorem dX4_size_70 : decode cX4_size 70 = .ok (.arraylength, 1) := dk_190 (dk_at dksX4_size_3 0 rfl rfl)
theorem dX4_size_71 : decode cX4_size 71 = .ok (.ireturn, 1) := dk_172 (dk_at dksX4_size_3 1 rfl rfl)
abbrev cX4_at : ByteArray := prog_4_method_4_code
def yX4_at : MethodName := ⟨RX4, "at", "(I)J"⟩
def dkwX4_at_3 : List UInt8 := [180, 0, 7, 192, 0, 19, 27, 47, 173]
abbrev dktX4_at_3 : List UInt8 := dkwX4_at_3 ++ []
def dkwX4_at_2 : List UInt8 := [180, 0, 7, 193, 0, 17, 153, 0, 16, 42, 180, 0, 7, 192, 0, 17, 27, 46, 133, 167, 0, 12, 42]
abbrev dktX4_at_2 : List UInt8 := dkwX4_at_2 ++ dktX4_at_3
def dkwX4_at_1 : List UInt8 := [180, 0, 7, 193, 0, 15, 153, 0, 16, 42, 180, 0, 7, 192, 0, 15, 27, 53, 133, 167, 0, 35, 42]
abbrev dktX4_at_1 : List UInt8 := dkwX4_at_1 ++ dktX4_at_2
def dkwX4_at_0 : List UInt8 := [42, 180, 0, 7, 193, 0, 13, 153, 0, 16, 42, 180, 0, 7, 192, 0, 13, 27, 51, 133, 167, 0, 58, 42]
abbrev dktX4_at_0 : List UInt8 := dkwX4_at_0 ++ dktX4_at_1
theorem dksX4_at_0 : cX4_at.data.toList.drop 0 = dktX4_at_0 := by decide +kernel
theorem dksX4_at_1 : cX4_at.data.toList.drop 24 = dktX4_at_1 := dk_seg dksX4_at_0 24 rfl rfl
theorem dksX4_at_2 : cX4_at.data.toList.drop 47 = dktX4_at_2 := dk_seg dksX4_at_1 23 rfl rfl
theorem dksX4_at_3 : cX4_at.data.toList.drop 70 = dktX4_at_3 := dk_seg dksX4_at_2 23 rfl rfl
theorem dX4_at_0 : decode cX4_at 0 = .ok (.aload_n 0, 1) := dk_42 (dk_at dksX4_at_0 0 rfl rfl)
theorem dX4_at_1 : decode cX4_at 1 = .ok (.getfield 7, 3) := dk_180 0 7 (dk_at dksX4_at_0 1 rfl rfl)
theorem dX4_at_4 : decode cX4_at 4 = .ok (.instanceof 13, 3) := dk_193 0 13 (dk_at dksX4_at_0 4 rfl rfl)
theorem dX4_at_7 : decode cX4_at 7 = .ok (.ifCond .eq 16, 3) := dk_153 0 16 (dk_at dksX4_at_0 7 rfl rfl)
theorem dX4_at_10 : decode cX4_at 10 = .ok (.aload_n 0, 1) := dk_42 (dk_at dksX4_at_0 10 rfl rfl)
theorem dX4_at_11 : decode cX4_at 11 = .ok (.getfield 7, 3) := dk_180 0 7 (dk_at dksX4_at_0 11 rfl rfl)
theorem dX4_at_14 : decode cX4_at 14 = .ok (.checkcast 13, 3) := dk_192 0 13 (dk_at dksX4_at_0 14 rfl rfl)
theorem dX4_at_17 : decode cX4_at 17 = .ok (.iload_n 1, 1) := dk_27 (dk_at dksX4_at_0 17 rfl rfl)
theorem dX4_at_18 : decode cX4_at 18 = .ok (.baload, 1) := dk_51 (dk_at dksX4_at_0 18 rfl rfl)
theorem dX4_at_19 : decode cX4_at 19 = .ok (.i2l, 1) := dk_133 (dk_at dksX4_at_0 19 rfl rfl)
theorem dX4_at_20 : decode cX4_at 20 = .ok (.goto 58, 3) := dk_167 0 58 (dk_at dksX4_at_0 20 rfl rfl)
theorem dX4_at_23 : decode cX4_at 23 = .ok (.aload_n 0, 1) := dk_42 (dk_at dksX4_at_0 23 rfl rfl)
theorem dX4_at_24 : decode cX4_at 24 = .ok (.getfield 7, 3) := dk_180 0 7 (dk_at dksX4_at_1 0 rfl rfl)
theorem dX4_at_27 : decode cX4_at 27 = .ok (.instanceof 15, 3) := dk_193 0 15 (dk_at dksX4_at_1 3 rfl rfl)
theorem dX4_at_30 : decode cX4_at 30 = .ok (.ifCond .eq 16, 3) := dk_153 0 16 (dk_at dksX4_at_1 6 rfl rfl)
theorem dX4_at_33 : decode cX4_at 33 = .ok (.aload_n 0, 1) := dk_42 (dk_at dksX4_at_1 9 rfl rfl)
theorem dX4_at_34 : decode cX4_at 34 = .ok (.getfield 7, 3) := dk_180 0 7 (dk_at dksX4_at_1 10 rfl rfl)
theorem dX4_at_37 : decode cX4_at 37 = .ok (.checkcast 15, 3) := dk_192 0 15 (dk_at dksX4_at_1 13 rfl rfl)
theorem dX4_at_40 : decode cX4_at 40 = .ok (.iload_n 1, 1) := dk_27 (dk_at dksX4_at_1 16 rfl rfl)
theorem dX4_at_41 : decode cX4_at 41 = .ok (.saload, 1) := dk_53 (dk_at dksX4_at_1 17 rfl rfl)
theorem dX4_at_42 : decode cX4_at 42 = .ok (.i2l, 1) := dk_133 (dk_at dksX4_at_1 18 rfl rfl)
theorem dX4_at_43 : decode cX4_at 43 = .ok (.goto 35, 3) := dk_167 0 35 (dk_at dksX4_at_1 19 rfl rfl)
theorem dX4_at_46 : decode cX4_at 46 = .ok (.aload_n 0, 1) := dk_42 (dk_at dksX4_at_1 22 rfl rfl)
theorem dX4_at_47 : decode cX4_at 47 = .ok (.getfield 7, 3) := dk_180 0 7 (dk_at dksX4_at_2 0 rfl rfl)
theorem dX4_at_50 : decode cX4_at 50 = .ok (.instanceof 17, 3) := dk_193 0 17 (dk_at dksX4_at_2 3 rfl rfl)
theorem dX4_at_53 : decode cX4_at 53 = .ok (.ifCond .eq 16, 3) := dk_153 0 16 (dk_at dksX4_at_2 6 rfl rfl)
theorem dX4_at_56 : decode cX4_at 56 = .ok (.aload_n 0, 1) := dk_42 (dk_at dksX4_at_2 9 rfl rfl)
theorem dX4_at_57 : decode cX4_at 57 = .ok (.getfield 7, 3) := dk_180 0 7 (dk_at dksX4_at_2 10 rfl rfl)
theorem dX4_at_60 : decode cX4_at 60 = .ok (.checkcast 17, 3) := dk_192 0 17 (dk_at dksX4_at_2 13 rfl rfl)
theorem dX4_at_63 : decode cX4_at 63 = .ok (.iload_n 1, 1) := dk_27 (dk_at dksX4_at_2 16 rfl rfl)
theorem dX4_at_64 : decode cX4_at 64 = .ok (.iaload, 1) := dk_46 (dk_at dksX4_at_2 17 rfl rfl)
theorem dX4_at_65 : decode cX4_at 65 = .ok (.i2l, 1) := dk_133 (dk_at dksX4_at_2 18 rfl rfl)
theorem dX4_at_66 : decode cX4_at 66 = .ok (.goto 12, 3) := dk_167 0 12 (dk_at dksX4_at_2 19 rfl rfl)
theorem dX4_at_69 : decode cX4_at 69 = .ok (.aload_n 0, 1) := dk_42 (dk_at dksX4_at_2 22 rfl rfl)
theorem dX4_at_70 : decode cX4_at 70 = .ok (.getfield 7, 3) := dk_180 0 7 (dk_at dksX4_at_3 0 rfl rfl)
theorem dX4_at_73 : decode cX4_at 73 = .ok (.checkcast 19, 3) := dk_192 0 19 (dk_at dksX4_at_3 3 rfl rfl)
theorem dX4_at_76 : decode cX4_at 76 = .ok (.iload_n 1, 1) := dk_27 (dk_at dksX4_at_3 6 rfl rfl)
theorem dX4_at_77 : decode cX4_at 77 = .ok (.laload, 1) := dk_47 (dk_at dksX4_at_3 7 rfl rfl)
theorem dX4_at_78 : decode cX4_at 78 = .ok (.lreturn, 1) := dk_173 (dk_at dksX4_at_3 8 rfl rfl)
abbrev cX4_make : ByteArray := prog_4_method_2_code
def yX4_make : MethodName := ⟨RX4, "make", "(II)V"⟩
def dkwX4_make_1 : List UInt8 := [160, 0, 9, 28, 188, 10, 167, 0, 6, 28, 188, 11, 181, 0, 7, 177]
abbrev dktX4_make_1 : List UInt8 := dkwX4_make_1 ++ []
def dkwX4_make_0 : List UInt8 := [42, 27, 154, 0, 9, 28, 188, 8, 167, 0, 28, 27, 4, 160, 0, 9, 28, 188, 9, 167, 0, 17, 27, 5]
abbrev dktX4_make_0 : List UInt8 := dkwX4_make_0 ++ dktX4_make_1
theorem dksX4_make_0 : cX4_make.data.toList.drop 0 = dktX4_make_0 := by decide +kernel
theorem dksX4_make_1 : cX4_make.data.toList.drop 24 = dktX4_make_1 := dk_seg dksX4_make_0 24 rfl rfl
theorem dX4_make_0 : decode cX4_make 0 = .ok (.aload_n 0, 1) := dk_42 (dk_at dksX4_make_0 0 rfl rfl)
theorem dX4_make_1 : decode cX4_make 1 = .ok (.iload_n 1, 1) := dk_27 (dk_at dksX4_make_0 1 rfl rfl)
theorem dX4_make_2 : decode cX4_make 2 = .ok (.ifCond .ne 9, 3) := dk_154 0 9 (dk_at dksX4_make_0 2 rfl rfl)
theorem dX4_make_5 : decode cX4_make 5 = .ok (.iload_n 2, 1) := dk_28 (dk_at dksX4_make_0 5 rfl rfl)
theorem dX4_make_6 : decode cX4_make 6 = .ok (.newarray .byte, 2) := dk_188_8 (dk_at dksX4_make_0 6 rfl rfl)
theorem dX4_make_8 : decode cX4_make 8 = .ok (.goto 28, 3) := dk_167 0 28 (dk_at dksX4_make_0 8 rfl rfl)
theorem dX4_make_11 : decode cX4_make 11 = .ok (.iload_n 1, 1) := dk_27 (dk_at dksX4_make_0 11 rfl rfl)
theorem dX4_make_12 : decode cX4_make 12 = .ok (.iconst 1, 1) := dk_4 (dk_at dksX4_make_0 12 rfl rfl)
theorem dX4_make_13 : decode cX4_make 13 = .ok (.if_icmp .ne 9, 3) := dk_160 0 9 (dk_at dksX4_make_0 13 rfl rfl)
theorem dX4_make_16 : decode cX4_make 16 = .ok (.iload_n 2, 1) := dk_28 (dk_at dksX4_make_0 16 rfl rfl)
theorem dX4_make_17 : decode cX4_make 17 = .ok (.newarray .short, 2) := dk_188_9 (dk_at dksX4_make_0 17 rfl rfl)
theorem dX4_make_19 : decode cX4_make 19 = .ok (.goto 17, 3) := dk_167 0 17 (dk_at dksX4_make_0 19 rfl rfl)
theorem dX4_make_22 : decode cX4_make 22 = .ok (.iload_n 1, 1) := dk_27 (dk_at dksX4_make_0 22 rfl rfl)
theorem dX4_make_23 : decode cX4_make 23 = .ok (.iconst 2, 1) := dk_5 (dk_at dksX4_make_0 23 rfl rfl)
theorem dX4_make_24 : decode cX4_make 24 = .ok (.if_icmp .ne 9, 3) := dk_160 0 9 (dk_at dksX4_make_1 0 rfl rfl)
theorem dX4_make_27 : decode cX4_make 27 = .ok (.iload_n 2, 1) := dk_28 (dk_at dksX4_make_1 3 rfl rfl)
theorem dX4_make_28 : decode cX4_make 28 = .ok (.newarray .int, 2) := dk_188_10 (dk_at dksX4_make_1 4 rfl rfl)
theorem dX4_make_30 : decode cX4_make 30 = .ok (.goto 6, 3) := dk_167 0 6 (dk_at dksX4_make_1 6 rfl rfl)
theorem dX4_make_33 : decode cX4_make 33 = .ok (.iload_n 2, 1) := dk_28 (dk_at dksX4_make_1 9 rfl rfl)
theorem dX4_make_34 : decode cX4_make 34 = .ok (.newarray .long, 2) := dk_188_11 (dk_at dksX4_make_1 10 rfl rfl)
theorem dX4_make_36 : decode cX4_make 36 = .ok (.putfield 7, 3) := dk_181 0 7 (dk_at dksX4_make_1 12 rfl rfl)
theorem dX4_make_39 : decode cX4_make 39 = .ok (.return_, 1) := dk_177 (dk_at dksX4_make_1 15 rfl rfl)
abbrev cX4_put : ByteArray := prog_4_method_5_code
def yX4_put : MethodName := ⟨RX4, "put", "(IJ)V"⟩
def dkwX4_put_3 : List UInt8 := [79, 167, 0, 13, 42, 180, 0, 7, 192, 0, 19, 27, 32, 80, 177]
abbrev dktX4_put_3 : List UInt8 := dkwX4_put_3 ++ []
def dkwX4_put_2 : List UInt8 := [86, 167, 0, 37, 42, 180, 0, 7, 193, 0, 17, 153, 0, 17, 42, 180, 0, 7, 192, 0, 17, 27, 32, 136]
abbrev dktX4_put_2 : List UInt8 := dkwX4_put_2 ++ dktX4_put_3
def dkwX4_put_1 : List UInt8 := [167, 0, 62, 42, 180, 0, 7, 193, 0, 15, 153, 0, 18, 42, 180, 0, 7, 192, 0, 15, 27, 32, 136, 147]
abbrev dktX4_put_1 : List UInt8 := dkwX4_put_1 ++ dktX4_put_2
def dkwX4_put_0 : List UInt8 := [42, 180, 0, 7, 193, 0, 13, 153, 0, 18, 42, 180, 0, 7, 192, 0, 13, 27, 32, 136, 145, 84]
abbrev dktX4_put_0 : List UInt8 := dkwX4_put_0 ++ dktX4_put_1
theorem dksX4_put_0 : cX4_put.data.toList.drop 0 = dktX4_put_0 := by decide +kernel
theorem dksX4_put_1 : cX4_put.data.toList.drop 22 = dktX4_put_1 := dk_seg dksX4_put_0 22 rfl rfl
theorem dksX4_put_2 : cX4_put.data.toList.drop 46 = dktX4_put_2 := dk_seg dksX4_put_1 24 rfl rfl
theorem dksX4_put_3 : cX4_put.data.toList.drop 70 = dktX4_put_3 := dk_seg dksX4_put_2 24 rfl rfl
theorem dX4_put_0 : decode cX4_put 0 = .ok (.aload_n 0, 1) := dk_42 (dk_at dksX4_put_0 0 rfl rfl)
theorem dX4_put_1 : decode cX4_put 1 = .ok (.getfield 7, 3) := dk_180 0 7 (dk_at dksX4_put_0 1 rfl rfl)
theorem dX4_put_4 : decode cX4_put 4 = .ok (.instanceof 13, 3) := dk_193 0 13 (dk_at dksX4_put_0 4 rfl rfl)
theorem dX4_put_7 : decode cX4_put 7 = .ok (.ifCond .eq 18, 3) := dk_153 0 18 (dk_at dksX4_put_0 7 rfl rfl)
theorem dX4_put_10 : decode cX4_put 10 = .ok (.aload_n 0, 1) := dk_42 (dk_at dksX4_put_0 10 rfl rfl)
theorem dX4_put_11 : decode cX4_put 11 = .ok (.getfield 7, 3) := dk_180 0 7 (dk_at dksX4_put_0 11 rfl rfl)
theorem dX4_put_14 : decode cX4_put 14 = .ok (.checkcast 13, 3) := dk_192 0 13 (dk_at dksX4_put_0 14 rfl rfl)
theorem dX4_put_17 : decode cX4_put 17 = .ok (.iload_n 1, 1) := dk_27 (dk_at dksX4_put_0 17 rfl rfl)
theorem dX4_put_18 : decode cX4_put 18 = .ok (.lload_n 2, 1) := dk_32 (dk_at dksX4_put_0 18 rfl rfl)
theorem dX4_put_19 : decode cX4_put 19 = .ok (.l2i, 1) := dk_136 (dk_at dksX4_put_0 19 rfl rfl)
theorem dX4_put_20 : decode cX4_put 20 = .ok (.i2b, 1) := dk_145 (dk_at dksX4_put_0 20 rfl rfl)
theorem dX4_put_21 : decode cX4_put 21 = .ok (.bastore, 1) := dk_84 (dk_at dksX4_put_0 21 rfl rfl)
theorem dX4_put_22 : decode cX4_put 22 = .ok (.goto 62, 3) := dk_167 0 62 (dk_at dksX4_put_1 0 rfl rfl)
theorem dX4_put_25 : decode cX4_put 25 = .ok (.aload_n 0, 1) := dk_42 (dk_at dksX4_put_1 3 rfl rfl)
theorem dX4_put_26 : decode cX4_put 26 = .ok (.getfield 7, 3) := dk_180 0 7 (dk_at dksX4_put_1 4 rfl rfl)
theorem dX4_put_29 : decode cX4_put 29 = .ok (.instanceof 15, 3) := dk_193 0 15 (dk_at dksX4_put_1 7 rfl rfl)
theorem dX4_put_32 : decode cX4_put 32 = .ok (.ifCond .eq 18, 3) := dk_153 0 18 (dk_at dksX4_put_1 10 rfl rfl)
theorem dX4_put_35 : decode cX4_put 35 = .ok (.aload_n 0, 1) := dk_42 (dk_at dksX4_put_1 13 rfl rfl)
theorem dX4_put_36 : decode cX4_put 36 = .ok (.getfield 7, 3) := dk_180 0 7 (dk_at dksX4_put_1 14 rfl rfl)
theorem dX4_put_39 : decode cX4_put 39 = .ok (.checkcast 15, 3) := dk_192 0 15 (dk_at dksX4_put_1 17 rfl rfl)
theorem dX4_put_42 : decode cX4_put 42 = .ok (.iload_n 1, 1) := dk_27 (dk_at dksX4_put_1 20 rfl rfl)
theorem dX4_put_43 : decode cX4_put 43 = .ok (.lload_n 2, 1) := dk_32 (dk_at dksX4_put_1 21 rfl rfl)
theorem dX4_put_44 : decode cX4_put 44 = .ok (.l2i, 1) := dk_136 (dk_at dksX4_put_1 22 rfl rfl)
theorem dX4_put_45 : decode cX4_put 45 = .ok (.i2s, 1) := dk_147 (dk_at dksX4_put_1 23 rfl rfl)
theorem dX4_put_46 : decode cX4_put 46 = .ok (.sastore, 1) := dk_86 (dk_at dksX4_put_2 0 rfl rfl)
theorem dX4_put_47 : decode cX4_put 47 = .ok (.goto 37, 3) := dk_167 0 37 (dk_at dksX4_put_2 1 rfl rfl)
theorem dX4_put_50 : decode cX4_put 50 = .ok (.aload_n 0, 1) := dk_42 (dk_at dksX4_put_2 4 rfl rfl)
theorem dX4_put_51 : decode cX4_put 51 = .ok (.getfield 7, 3) := dk_180 0 7 (dk_at dksX4_put_2 5 rfl rfl)
theorem dX4_put_54 : decode cX4_put 54 = .ok (.instanceof 17, 3) := dk_193 0 17 (dk_at dksX4_put_2 8 rfl rfl)
theorem dX4_put_57 : decode cX4_put 57 = .ok (.ifCond .eq 17, 3) := dk_153 0 17 (dk_at dksX4_put_2 11 rfl rfl)
theorem dX4_put_60 : decode cX4_put 60 = .ok (.aload_n 0, 1) := dk_42 (dk_at dksX4_put_2 14 rfl rfl)
theorem dX4_put_61 : decode cX4_put 61 = .ok (.getfield 7, 3) := dk_180 0 7 (dk_at dksX4_put_2 15 rfl rfl)
theorem dX4_put_64 : decode cX4_put 64 = .ok (.checkcast 17, 3) := dk_192 0 17 (dk_at dksX4_put_2 18 rfl rfl)
theorem dX4_put_67 : decode cX4_put 67 = .ok (.iload_n 1, 1) := dk_27 (dk_at dksX4_put_2 21 rfl rfl)
theorem dX4_put_68 : decode cX4_put 68 = .ok (.lload_n 2, 1) := dk_32 (dk_at dksX4_put_2 22 rfl rfl)
theorem dX4_put_69 : decode cX4_put 69 = .ok (.l2i, 1) := dk_136 (dk_at dksX4_put_2 23 rfl rfl)
theorem dX4_put_70 : decode cX4_put 70 = .ok (.iastore, 1) := dk_79 (dk_at dksX4_put_3 0 rfl rfl)
theorem dX4_put_71 : decode cX4_put 71 = .ok (.goto 13, 3) := dk_167 0 13 (dk_at dksX4_put_3 1 rfl rfl)
theorem dX4_put_74 : decode cX4_put 74 = .ok (.aload_n 0, 1) := dk_42 (dk_at dksX4_put_3 4 rfl rfl)
theorem dX4_put_75 : decode cX4_put 75 = .ok (.getfield 7, 3) := dk_180 0 7 (dk_at dksX4_put_3 5 rfl rfl)
theorem dX4_put_78 : decode cX4_put 78 = .ok (.checkcast 19, 3) := dk_192 0 19 (dk_at dksX4_put_3 8 rfl rfl)
theorem dX4_put_81 : decode cX4_put 81 = .ok (.iload_n 1, 1) := dk_27 (dk_at dksX4_put_3 11 rfl rfl)
theorem dX4_put_82 : decode cX4_put 82 = .ok (.lload_n 2, 1) := dk_32 (dk_at dksX4_put_3 12 rfl rfl)
theorem dX4_put_83 : decode cX4_put 83 = .ok (.lastore, 1) := dk_80 (dk_at dksX4_put_3 13 rfl rfl)
theorem dX4_put_84 : decode cX4_put 84 = .ok (.return_, 1) := dk_177 (dk_at dksX4_put_3 14 rfl rfl)
theorem q154 : (Jvm.Cond.initialized "HiddenCube$Slot") ∈ lw_all := lw_g (lw_at lw_m1 5 rfl) rfl
theorem q284 : (Jvm.Cond.instantiable "HiddenCube$Slot" (1 : Nat)) ∈ lw_all := lw_g (lw_at lw_m1 135 rfl) rfl
theorem q286 : (Jvm.Cond.instanceMethod ({ cls := "HiddenCube$Slot", name := "<init>", desc := "()V" } : Jvm.MethodName)) ∈ lw_all := lw_g (lw_at lw_m1 137 rfl) rfl
theorem q287 : (Jvm.Cond.code ({ cls := "HiddenCube$Slot", name := "<init>", desc := "()V" } : Jvm.MethodName) prog_4_method_1_code (1 : Nat) (Option.none : Option Jvm.ClassFile.FieldType)) ∈ lw_all := lw_g (lw_at lw_m1 138 rfl) rfl
theorem q288 : (Jvm.Cond.methodLink "HiddenCube$Slot" (1 : Nat) ({ cls := "java/lang/Object", name := "<init>", desc := "()V" } : Jvm.MethodName)) ∈ lw_all := lw_g (lw_at lw_m1 139 rfl) rfl
theorem q289 : (Jvm.Cond.fieldLink "HiddenCube$Slot" (7 : Nat) "HiddenCube$Slot" "row" "Ljava/lang/Object;") ∈ lw_all := lw_g (lw_at lw_m1 140 rfl) rfl
theorem q291 : (Jvm.Cond.lays "HiddenCube$Slot" "HiddenCube$Slot" "row" "Ljava/lang/Object;") ∈ lw_all := lw_g (lw_at lw_m1 142 rfl) rfl
theorem q292 : (Jvm.Cond.soleField "HiddenCube$Slot" "row") ∈ lw_all := lw_g (lw_at lw_m1 143 rfl) rfl
theorem q293 : (Jvm.Cond.superclass "HiddenCube$Slot" "java/lang/Object") ∈ lw_all := lw_g (lw_at lw_m1 144 rfl) rfl
theorem q1125 : (Jvm.Cond.instanceMethod ({ cls := "HiddenCube$Slot", name := "size", desc := "()I" } : Jvm.MethodName)) ∈ lw_all := lw_g (lw_at lw_m5 16 rfl) rfl
theorem q1126 : (Jvm.Cond.selects "HiddenCube$Slot" ({ cls := "HiddenCube$Slot", name := "size", desc := "()I" } : Jvm.MethodName) ({ cls := "HiddenCube$Slot", name := "size", desc := "()I" } : Jvm.MethodName)) ∈ lw_all := lw_g (lw_at lw_m5 17 rfl) rfl
theorem q1127 : (Jvm.Cond.code ({ cls := "HiddenCube$Slot", name := "size", desc := "()I" } : Jvm.MethodName) prog_4_method_3_code (1 : Nat) (Option.some Jvm.ClassFile.FieldType.int)) ∈ lw_all := lw_g (lw_at lw_m5 18 rfl) rfl
theorem q1128 : (Jvm.Cond.classLink "HiddenCube$Slot" (13 : Nat) "[B") ∈ lw_all := lw_g (lw_at lw_m5 19 rfl) rfl
theorem q1129 : (Jvm.Cond.classLink "HiddenCube$Slot" (15 : Nat) "[S") ∈ lw_all := lw_g (lw_at lw_m5 20 rfl) rfl
theorem q1130 : (Jvm.Cond.classLink "HiddenCube$Slot" (17 : Nat) "[I") ∈ lw_all := lw_g (lw_at lw_m5 21 rfl) rfl
theorem q1131 : (Jvm.Cond.classLink "HiddenCube$Slot" (19 : Nat) "[J") ∈ lw_all := lw_g (lw_at lw_m5 22 rfl) rfl
theorem q1133 : (Jvm.Cond.instanceMethod ({ cls := "HiddenCube$Slot", name := "at", desc := "(I)J" } : Jvm.MethodName)) ∈ lw_all := lw_g (lw_at lw_m5 24 rfl) rfl
theorem q1134 : (Jvm.Cond.selects "HiddenCube$Slot" ({ cls := "HiddenCube$Slot", name := "at", desc := "(I)J" } : Jvm.MethodName) ({ cls := "HiddenCube$Slot", name := "at", desc := "(I)J" } : Jvm.MethodName)) ∈ lw_all := lw_g (lw_at lw_m5 25 rfl) rfl
theorem q1135 : (Jvm.Cond.code ({ cls := "HiddenCube$Slot", name := "at", desc := "(I)J" } : Jvm.MethodName) prog_4_method_4_code (2 : Nat) (Option.some Jvm.ClassFile.FieldType.long)) ∈ lw_all := lw_g (lw_at lw_m5 26 rfl) rfl
theorem q1338 : (Jvm.Cond.instanceMethod ({ cls := "HiddenCube$Slot", name := "make", desc := "(II)V" } : Jvm.MethodName)) ∈ lw_all := lw_g (lw_at lw_m5 229 rfl) rfl
theorem q1339 : (Jvm.Cond.selects "HiddenCube$Slot" ({ cls := "HiddenCube$Slot", name := "make", desc := "(II)V" } : Jvm.MethodName) ({ cls := "HiddenCube$Slot", name := "make", desc := "(II)V" } : Jvm.MethodName)) ∈ lw_all := lw_g (lw_at lw_m5 230 rfl) rfl
theorem q1340 : (Jvm.Cond.code ({ cls := "HiddenCube$Slot", name := "make", desc := "(II)V" } : Jvm.MethodName) prog_4_method_2_code (3 : Nat) (Option.none : Option Jvm.ClassFile.FieldType)) ∈ lw_all := lw_g (lw_at lw_m5 231 rfl) rfl
theorem q1367 : (Jvm.Cond.instanceMethod ({ cls := "HiddenCube$Slot", name := "put", desc := "(IJ)V" } : Jvm.MethodName)) ∈ lw_all := lw_g (lw_at lw_m6 18 rfl) rfl
theorem q1368 : (Jvm.Cond.selects "HiddenCube$Slot" ({ cls := "HiddenCube$Slot", name := "put", desc := "(IJ)V" } : Jvm.MethodName) ({ cls := "HiddenCube$Slot", name := "put", desc := "(IJ)V" } : Jvm.MethodName)) ∈ lw_all := lw_g (lw_at lw_m6 19 rfl) rfl
theorem q1369 : (Jvm.Cond.code ({ cls := "HiddenCube$Slot", name := "put", desc := "(IJ)V" } : Jvm.MethodName) prog_4_method_5_code (4 : Nat) (Option.none : Option Jvm.ClassFile.FieldType)) ∈ lw_all := lw_g (lw_at lw_m6 20 rfl) rfl
theorem in_X4 : ∀ w ∈ wsX40, w ∈ lw_all := lw_in wsX40 [291] (by decide +kernel) (by decide +kernel)
/-! HiddenCube$Reader -/
set_option maxRecDepth 100000
def RX6 : String := "HiddenCube$Reader"
def TX6 : u_T := fun k => match k with
  | 0 => ("HiddenCube$Reader", "size", "I", true)
  | 1 => ("HiddenCube$Reader", "town", "LHiddenCube$Town;", true)
  | 2 => ("HiddenCube$Reader", "at", "I", false)
  | 3 => ("HiddenCube$Reader", "from", "I", false)
  | 4 => ("HiddenCube$Reader", "value", "I", false)
  | 5 => ("HiddenCube$Reader", "token", "LHiddenCube$Token;", false)
  | _ => ("HiddenCube$Reader", "this$0", "LHiddenCube;", true)
def tyX6 : Nat → FieldType := fun k => match k with
  | 0 => .int
  | 1 => .object "HiddenCube$Town"
  | 2 => .int
  | 3 => .int
  | 4 => .int
  | 5 => .object "HiddenCube$Token"
  | _ => .object "HiddenCube"
abbrev wsX60 : List Cond := u_ws RX6 TX6 7
theorem nmX6 : ∀ a, a < 7 → ∀ b, b < 7 → a ≠ b → (TX6 a).2.1 ≠ (TX6 b).2.1 := by decide +kernel
theorem tyX6_ok : ∀ k, k < 7 → parseFieldDescriptor (TX6 k).2.2.1 = some (tyX6 k) := by decide +kernel
abbrev cX6_init : ByteArray := prog_3_method_1_code
def yX6_init : MethodName := ⟨RX6, "<init>", "(LHiddenCube;)V"⟩
def dkwX6_init_1 : List UInt8 := [89, 183, 0, 24, 181, 0, 25, 42, 178, 0, 29, 181, 0, 35, 42, 182, 0, 38, 177]
abbrev dktX6_init_1 : List UInt8 := dkwX6_init_1 ++ []
def dkwX6_init_0 : List UInt8 := [42, 43, 181, 0, 3, 42, 183, 0, 9, 42, 42, 180, 0, 3, 180, 0, 15, 181, 0, 19, 42, 187, 0, 22]
abbrev dktX6_init_0 : List UInt8 := dkwX6_init_0 ++ dktX6_init_1
theorem dksX6_init_0 : cX6_init.data.toList.drop 0 = dktX6_init_0 := by decide +kernel
theorem dksX6_init_1 : cX6_init.data.toList.drop 24 = dktX6_init_1 := dk_seg dksX6_init_0 24 rfl rfl
theorem dX6_init_0 : decode cX6_init 0 = .ok (.aload_n 0, 1) := dk_42 (dk_at dksX6_init_0 0 rfl rfl)
theorem dX6_init_1 : decode cX6_init 1 = .ok (.aload_n 1, 1) := dk_43 (dk_at dksX6_init_0 1 rfl rfl)
theorem dX6_init_2 : decode cX6_init 2 = .ok (.putfield 3, 3) := dk_181 0 3 (dk_at dksX6_init_0 2 rfl rfl)
theorem dX6_init_5 : decode cX6_init 5 = .ok (.aload_n 0, 1) := dk_42 (dk_at dksX6_init_0 5 rfl rfl)
theorem dX6_init_6 : decode cX6_init 6 = .ok (.invokespecial 9, 3) := dk_183 0 9 (dk_at dksX6_init_0 6 rfl rfl)
theorem dX6_init_9 : decode cX6_init 9 = .ok (.aload_n 0, 1) := dk_42 (dk_at dksX6_init_0 9 rfl rfl)
theorem dX6_init_10 : decode cX6_init 10 = .ok (.aload_n 0, 1) := dk_42 (dk_at dksX6_init_0 10 rfl rfl)
theorem dX6_init_11 : decode cX6_init 11 = .ok (.getfield 3, 3) := dk_180 0 3 (dk_at dksX6_init_0 11 rfl rfl)
theorem dX6_init_14 : decode cX6_init 14 = .ok (.getfield 15, 3) := dk_180 0 15 (dk_at dksX6_init_0 14 rfl rfl)
theorem dX6_init_17 : decode cX6_init 17 = .ok (.putfield 19, 3) := dk_181 0 19 (dk_at dksX6_init_0 17 rfl rfl)
theorem dX6_init_20 : decode cX6_init 20 = .ok (.aload_n 0, 1) := dk_42 (dk_at dksX6_init_0 20 rfl rfl)
theorem dX6_init_21 : decode cX6_init 21 = .ok (.new 22, 3) := dk_187 0 22 (dk_at dksX6_init_0 21 rfl rfl)
theorem dX6_init_24 : decode cX6_init 24 = .ok (.dup, 1) := dk_89 (dk_at dksX6_init_1 0 rfl rfl)
theorem dX6_init_25 : decode cX6_init 25 = .ok (.invokespecial 24, 3) := dk_183 0 24 (dk_at dksX6_init_1 1 rfl rfl)
theorem dX6_init_28 : decode cX6_init 28 = .ok (.putfield 25, 3) := dk_181 0 25 (dk_at dksX6_init_1 4 rfl rfl)
theorem dX6_init_31 : decode cX6_init 31 = .ok (.aload_n 0, 1) := dk_42 (dk_at dksX6_init_1 7 rfl rfl)
theorem dX6_init_32 : decode cX6_init 32 = .ok (.getstatic 29, 3) := dk_178 0 29 (dk_at dksX6_init_1 8 rfl rfl)
theorem dX6_init_35 : decode cX6_init 35 = .ok (.putfield 35, 3) := dk_181 0 35 (dk_at dksX6_init_1 11 rfl rfl)
theorem dX6_init_38 : decode cX6_init 38 = .ok (.aload_n 0, 1) := dk_42 (dk_at dksX6_init_1 14 rfl rfl)
theorem dX6_init_39 : decode cX6_init 39 = .ok (.invokevirtual 38, 3) := dk_182 0 38 (dk_at dksX6_init_1 15 rfl rfl)
theorem dX6_init_42 : decode cX6_init 42 = .ok (.return_, 1) := dk_177 (dk_at dksX6_init_1 18 rfl rfl)
abbrev cX6_next : ByteArray := prog_3_method_3_code
def yX6_next : MethodName := ⟨RX6, "next", "()V"⟩
def dkwX6_next_10 : List UInt8 := [167, 0, 6, 178, 0, 78, 181, 0, 35, 42, 89, 180, 0, 41, 4, 96, 181, 0, 41, 177]
abbrev dktX6_next_10 : List UInt8 := dkwX6_next_10 ++ []
def dkwX6_next_9 : List UInt8 := [167, 0, 43, 42, 42, 180, 0, 3, 180, 0, 44, 42, 180, 0, 41, 51, 16, 59, 160, 0, 9, 178, 0, 75]
abbrev dktX6_next_9 : List UInt8 := dkwX6_next_9 ++ dktX6_next_10
def dkwX6_next_8 : List UInt8 := [181, 0, 62, 42, 89, 180, 0, 41, 4, 96, 181, 0, 41, 167, 255, 203, 42, 178, 0, 72, 181, 0, 35]
abbrev dktX6_next_8 : List UInt8 := dkwX6_next_8 ++ dktX6_next_9
def dkwX6_next_7 : List UInt8 := [180, 0, 62, 104, 42, 180, 0, 3, 180, 0, 44, 42, 180, 0, 41, 51, 96, 16, 48, 100, 184, 0, 66]
abbrev dktX6_next_7 : List UInt8 := dkwX6_next_7 ++ dktX6_next_8
def dkwX6_next_6 : List UInt8 := [42, 3, 181, 0, 62, 42, 16, 48, 16, 57, 182, 0, 55, 153, 0, 48, 42, 18, 65, 16, 10, 42]
abbrev dktX6_next_6 : List UInt8 := dkwX6_next_6 ++ dktX6_next_7
def dkwX6_next_5 : List UInt8 := [167, 255, 235, 42, 178, 0, 59, 181, 0, 35, 167, 0, 125, 42, 16, 48, 16, 57, 182, 0, 55, 153, 0, 74]
abbrev dktX6_next_5 : List UInt8 := dkwX6_next_5 ++ dktX6_next_6
def dkwX6_next_4 : List UInt8 := [153, 0, 37, 42, 16, 97, 16, 122, 182, 0, 55, 153, 0, 16, 42, 89, 180, 0, 41, 4, 96, 181, 0, 41]
abbrev dktX6_next_4 : List UInt8 := dkwX6_next_4 ++ dktX6_next_5
def dkwX6_next_3 : List UInt8 := [180, 0, 19, 160, 0, 13, 42, 178, 0, 29, 181, 0, 35, 167, 0, 170, 42, 16, 97, 16, 122, 182, 0, 55]
abbrev dktX6_next_3 : List UInt8 := dkwX6_next_3 ++ dktX6_next_4
def dkwX6_next_2 : List UInt8 := [180, 0, 41, 4, 96, 181, 0, 41, 167, 255, 201, 42, 42, 180, 0, 41, 181, 0, 52, 42, 180, 0, 41, 42]
abbrev dktX6_next_2 : List UInt8 := dkwX6_next_2 ++ dktX6_next_3
def dkwX6_next_1 : List UInt8 := [16, 32, 159, 0, 20, 42, 180, 0, 3, 180, 0, 44, 42, 180, 0, 41, 51, 16, 10, 160, 0, 16, 42, 89]
abbrev dktX6_next_1 : List UInt8 := dkwX6_next_1 ++ dktX6_next_2
def dkwX6_next_0 : List UInt8 := [42, 180, 0, 41, 42, 180, 0, 19, 162, 0, 50, 42, 180, 0, 3, 180, 0, 44, 42, 180, 0, 41, 51]
abbrev dktX6_next_0 : List UInt8 := dkwX6_next_0 ++ dktX6_next_1
theorem dksX6_next_0 : cX6_next.data.toList.drop 0 = dktX6_next_0 := by decide +kernel
theorem dksX6_next_1 : cX6_next.data.toList.drop 23 = dktX6_next_1 := dk_seg dksX6_next_0 23 rfl rfl
theorem dksX6_next_2 : cX6_next.data.toList.drop 47 = dktX6_next_2 := dk_seg dksX6_next_1 24 rfl rfl
theorem dksX6_next_3 : cX6_next.data.toList.drop 71 = dktX6_next_3 := dk_seg dksX6_next_2 24 rfl rfl
theorem dksX6_next_4 : cX6_next.data.toList.drop 95 = dktX6_next_4 := dk_seg dksX6_next_3 24 rfl rfl
theorem dksX6_next_5 : cX6_next.data.toList.drop 119 = dktX6_next_5 := dk_seg dksX6_next_4 24 rfl rfl
theorem dksX6_next_6 : cX6_next.data.toList.drop 143 = dktX6_next_6 := dk_seg dksX6_next_5 24 rfl rfl
theorem dksX6_next_7 : cX6_next.data.toList.drop 165 = dktX6_next_7 := dk_seg dksX6_next_6 22 rfl rfl
theorem dksX6_next_8 : cX6_next.data.toList.drop 188 = dktX6_next_8 := dk_seg dksX6_next_7 23 rfl rfl
theorem dksX6_next_9 : cX6_next.data.toList.drop 211 = dktX6_next_9 := dk_seg dksX6_next_8 23 rfl rfl
theorem dksX6_next_10 : cX6_next.data.toList.drop 235 = dktX6_next_10 := dk_seg dksX6_next_9 24 rfl rfl
theorem dX6_next_0 : decode cX6_next 0 = .ok (.aload_n 0, 1) := dk_42 (dk_at dksX6_next_0 0 rfl rfl)
theorem dX6_next_1 : decode cX6_next 1 = .ok (.getfield 41, 3) := dk_180 0 41 (dk_at dksX6_next_0 1 rfl rfl)
theorem dX6_next_4 : decode cX6_next 4 = .ok (.aload_n 0, 1) := dk_42 (dk_at dksX6_next_0 4 rfl rfl)
theorem dX6_next_5 : decode cX6_next 5 = .ok (.getfield 19, 3) := dk_180 0 19 (dk_at dksX6_next_0 5 rfl rfl)
theorem dX6_next_8 : decode cX6_next 8 = .ok (.if_icmp .ge 50, 3) := dk_162 0 50 (dk_at dksX6_next_0 8 rfl rfl)
theorem dX6_next_11 : decode cX6_next 11 = .ok (.aload_n 0, 1) := dk_42 (dk_at dksX6_next_0 11 rfl rfl)
theorem dX6_next_12 : decode cX6_next 12 = .ok (.getfield 3, 3) := dk_180 0 3 (dk_at dksX6_next_0 12 rfl rfl)
theorem dX6_next_15 : decode cX6_next 15 = .ok (.getfield 44, 3) := dk_180 0 44 (dk_at dksX6_next_0 15 rfl rfl)
theorem dX6_next_18 : decode cX6_next 18 = .ok (.aload_n 0, 1) := dk_42 (dk_at dksX6_next_0 18 rfl rfl)
theorem dX6_next_19 : decode cX6_next 19 = .ok (.getfield 41, 3) := dk_180 0 41 (dk_at dksX6_next_0 19 rfl rfl)
theorem dX6_next_22 : decode cX6_next 22 = .ok (.baload, 1) := dk_51 (dk_at dksX6_next_0 22 rfl rfl)
theorem dX6_next_23 : decode cX6_next 23 = .ok (.bipush 32, 2) := dk_16 32 (dk_at dksX6_next_1 0 rfl rfl)
theorem dX6_next_25 : decode cX6_next 25 = .ok (.if_icmp .eq 20, 3) := dk_159 0 20 (dk_at dksX6_next_1 2 rfl rfl)
theorem dX6_next_28 : decode cX6_next 28 = .ok (.aload_n 0, 1) := dk_42 (dk_at dksX6_next_1 5 rfl rfl)
theorem dX6_next_29 : decode cX6_next 29 = .ok (.getfield 3, 3) := dk_180 0 3 (dk_at dksX6_next_1 6 rfl rfl)
theorem dX6_next_32 : decode cX6_next 32 = .ok (.getfield 44, 3) := dk_180 0 44 (dk_at dksX6_next_1 9 rfl rfl)
theorem dX6_next_35 : decode cX6_next 35 = .ok (.aload_n 0, 1) := dk_42 (dk_at dksX6_next_1 12 rfl rfl)
theorem dX6_next_36 : decode cX6_next 36 = .ok (.getfield 41, 3) := dk_180 0 41 (dk_at dksX6_next_1 13 rfl rfl)
theorem dX6_next_39 : decode cX6_next 39 = .ok (.baload, 1) := dk_51 (dk_at dksX6_next_1 16 rfl rfl)
theorem dX6_next_40 : decode cX6_next 40 = .ok (.bipush 10, 2) := dk_16 10 (dk_at dksX6_next_1 17 rfl rfl)
theorem dX6_next_42 : decode cX6_next 42 = .ok (.if_icmp .ne 16, 3) := dk_160 0 16 (dk_at dksX6_next_1 19 rfl rfl)
theorem dX6_next_45 : decode cX6_next 45 = .ok (.aload_n 0, 1) := dk_42 (dk_at dksX6_next_1 22 rfl rfl)
theorem dX6_next_46 : decode cX6_next 46 = .ok (.dup, 1) := dk_89 (dk_at dksX6_next_1 23 rfl rfl)
theorem dX6_next_47 : decode cX6_next 47 = .ok (.getfield 41, 3) := dk_180 0 41 (dk_at dksX6_next_2 0 rfl rfl)
theorem dX6_next_50 : decode cX6_next 50 = .ok (.iconst 1, 1) := dk_4 (dk_at dksX6_next_2 3 rfl rfl)
theorem dX6_next_51 : decode cX6_next 51 = .ok (.iadd, 1) := dk_96 (dk_at dksX6_next_2 4 rfl rfl)
theorem dX6_next_52 : decode cX6_next 52 = .ok (.putfield 41, 3) := dk_181 0 41 (dk_at dksX6_next_2 5 rfl rfl)
theorem dX6_next_55 : decode cX6_next 55 = .ok (.goto (-55), 3) := dk_167 255 201 (dk_at dksX6_next_2 8 rfl rfl)
theorem dX6_next_58 : decode cX6_next 58 = .ok (.aload_n 0, 1) := dk_42 (dk_at dksX6_next_2 11 rfl rfl)
theorem dX6_next_59 : decode cX6_next 59 = .ok (.aload_n 0, 1) := dk_42 (dk_at dksX6_next_2 12 rfl rfl)
theorem dX6_next_60 : decode cX6_next 60 = .ok (.getfield 41, 3) := dk_180 0 41 (dk_at dksX6_next_2 13 rfl rfl)
theorem dX6_next_63 : decode cX6_next 63 = .ok (.putfield 52, 3) := dk_181 0 52 (dk_at dksX6_next_2 16 rfl rfl)
theorem dX6_next_66 : decode cX6_next 66 = .ok (.aload_n 0, 1) := dk_42 (dk_at dksX6_next_2 19 rfl rfl)
theorem dX6_next_67 : decode cX6_next 67 = .ok (.getfield 41, 3) := dk_180 0 41 (dk_at dksX6_next_2 20 rfl rfl)
theorem dX6_next_70 : decode cX6_next 70 = .ok (.aload_n 0, 1) := dk_42 (dk_at dksX6_next_2 23 rfl rfl)
theorem dX6_next_71 : decode cX6_next 71 = .ok (.getfield 19, 3) := dk_180 0 19 (dk_at dksX6_next_3 0 rfl rfl)
theorem dX6_next_74 : decode cX6_next 74 = .ok (.if_icmp .ne 13, 3) := dk_160 0 13 (dk_at dksX6_next_3 3 rfl rfl)
theorem dX6_next_77 : decode cX6_next 77 = .ok (.aload_n 0, 1) := dk_42 (dk_at dksX6_next_3 6 rfl rfl)
theorem dX6_next_78 : decode cX6_next 78 = .ok (.getstatic 29, 3) := dk_178 0 29 (dk_at dksX6_next_3 7 rfl rfl)
theorem dX6_next_81 : decode cX6_next 81 = .ok (.putfield 35, 3) := dk_181 0 35 (dk_at dksX6_next_3 10 rfl rfl)
theorem dX6_next_84 : decode cX6_next 84 = .ok (.goto 170, 3) := dk_167 0 170 (dk_at dksX6_next_3 13 rfl rfl)
theorem dX6_next_87 : decode cX6_next 87 = .ok (.aload_n 0, 1) := dk_42 (dk_at dksX6_next_3 16 rfl rfl)
theorem dX6_next_88 : decode cX6_next 88 = .ok (.bipush 97, 2) := dk_16 97 (dk_at dksX6_next_3 17 rfl rfl)
theorem dX6_next_90 : decode cX6_next 90 = .ok (.bipush 122, 2) := dk_16 122 (dk_at dksX6_next_3 19 rfl rfl)
theorem dX6_next_92 : decode cX6_next 92 = .ok (.invokevirtual 55, 3) := dk_182 0 55 (dk_at dksX6_next_3 21 rfl rfl)
theorem dX6_next_95 : decode cX6_next 95 = .ok (.ifCond .eq 37, 3) := dk_153 0 37 (dk_at dksX6_next_4 0 rfl rfl)
theorem dX6_next_98 : decode cX6_next 98 = .ok (.aload_n 0, 1) := dk_42 (dk_at dksX6_next_4 3 rfl rfl)
theorem dX6_next_99 : decode cX6_next 99 = .ok (.bipush 97, 2) := dk_16 97 (dk_at dksX6_next_4 4 rfl rfl)
theorem dX6_next_101 : decode cX6_next 101 = .ok (.bipush 122, 2) := dk_16 122 (dk_at dksX6_next_4 6 rfl rfl)
theorem dX6_next_103 : decode cX6_next 103 = .ok (.invokevirtual 55, 3) := dk_182 0 55 (dk_at dksX6_next_4 8 rfl rfl)
theorem dX6_next_106 : decode cX6_next 106 = .ok (.ifCond .eq 16, 3) := dk_153 0 16 (dk_at dksX6_next_4 11 rfl rfl)
theorem dX6_next_109 : decode cX6_next 109 = .ok (.aload_n 0, 1) := dk_42 (dk_at dksX6_next_4 14 rfl rfl)
theorem dX6_next_110 : decode cX6_next 110 = .ok (.dup, 1) := dk_89 (dk_at dksX6_next_4 15 rfl rfl)
theorem dX6_next_111 : decode cX6_next 111 = .ok (.getfield 41, 3) := dk_180 0 41 (dk_at dksX6_next_4 16 rfl rfl)
theorem dX6_next_114 : decode cX6_next 114 = .ok (.iconst 1, 1) := dk_4 (dk_at dksX6_next_4 19 rfl rfl)
theorem dX6_next_115 : decode cX6_next 115 = .ok (.iadd, 1) := dk_96 (dk_at dksX6_next_4 20 rfl rfl)
theorem dX6_next_116 : decode cX6_next 116 = .ok (.putfield 41, 3) := dk_181 0 41 (dk_at dksX6_next_4 21 rfl rfl)
theorem dX6_next_119 : decode cX6_next 119 = .ok (.goto (-21), 3) := dk_167 255 235 (dk_at dksX6_next_5 0 rfl rfl)
theorem dX6_next_122 : decode cX6_next 122 = .ok (.aload_n 0, 1) := dk_42 (dk_at dksX6_next_5 3 rfl rfl)
theorem dX6_next_123 : decode cX6_next 123 = .ok (.getstatic 59, 3) := dk_178 0 59 (dk_at dksX6_next_5 4 rfl rfl)
theorem dX6_next_126 : decode cX6_next 126 = .ok (.putfield 35, 3) := dk_181 0 35 (dk_at dksX6_next_5 7 rfl rfl)
theorem dX6_next_129 : decode cX6_next 129 = .ok (.goto 125, 3) := dk_167 0 125 (dk_at dksX6_next_5 10 rfl rfl)
theorem dX6_next_132 : decode cX6_next 132 = .ok (.aload_n 0, 1) := dk_42 (dk_at dksX6_next_5 13 rfl rfl)
theorem dX6_next_133 : decode cX6_next 133 = .ok (.bipush 48, 2) := dk_16 48 (dk_at dksX6_next_5 14 rfl rfl)
theorem dX6_next_135 : decode cX6_next 135 = .ok (.bipush 57, 2) := dk_16 57 (dk_at dksX6_next_5 16 rfl rfl)
theorem dX6_next_137 : decode cX6_next 137 = .ok (.invokevirtual 55, 3) := dk_182 0 55 (dk_at dksX6_next_5 18 rfl rfl)
theorem dX6_next_140 : decode cX6_next 140 = .ok (.ifCond .eq 74, 3) := dk_153 0 74 (dk_at dksX6_next_5 21 rfl rfl)
theorem dX6_next_143 : decode cX6_next 143 = .ok (.aload_n 0, 1) := dk_42 (dk_at dksX6_next_6 0 rfl rfl)
theorem dX6_next_144 : decode cX6_next 144 = .ok (.iconst 0, 1) := dk_3 (dk_at dksX6_next_6 1 rfl rfl)
theorem dX6_next_145 : decode cX6_next 145 = .ok (.putfield 62, 3) := dk_181 0 62 (dk_at dksX6_next_6 2 rfl rfl)
theorem dX6_next_148 : decode cX6_next 148 = .ok (.aload_n 0, 1) := dk_42 (dk_at dksX6_next_6 5 rfl rfl)
theorem dX6_next_149 : decode cX6_next 149 = .ok (.bipush 48, 2) := dk_16 48 (dk_at dksX6_next_6 6 rfl rfl)
theorem dX6_next_151 : decode cX6_next 151 = .ok (.bipush 57, 2) := dk_16 57 (dk_at dksX6_next_6 8 rfl rfl)
theorem dX6_next_153 : decode cX6_next 153 = .ok (.invokevirtual 55, 3) := dk_182 0 55 (dk_at dksX6_next_6 10 rfl rfl)
theorem dX6_next_156 : decode cX6_next 156 = .ok (.ifCond .eq 48, 3) := dk_153 0 48 (dk_at dksX6_next_6 13 rfl rfl)
theorem dX6_next_159 : decode cX6_next 159 = .ok (.aload_n 0, 1) := dk_42 (dk_at dksX6_next_6 16 rfl rfl)
theorem dX6_next_160 : decode cX6_next 160 = .ok (.ldc 65, 2) := dk_18 65 (dk_at dksX6_next_6 17 rfl rfl)
theorem dX6_next_162 : decode cX6_next 162 = .ok (.bipush 10, 2) := dk_16 10 (dk_at dksX6_next_6 19 rfl rfl)
theorem dX6_next_164 : decode cX6_next 164 = .ok (.aload_n 0, 1) := dk_42 (dk_at dksX6_next_6 21 rfl rfl)
theorem dX6_next_165 : decode cX6_next 165 = .ok (.getfield 62, 3) := dk_180 0 62 (dk_at dksX6_next_7 0 rfl rfl)
theorem dX6_next_168 : decode cX6_next 168 = .ok (.imul, 1) := dk_104 (dk_at dksX6_next_7 3 rfl rfl)
theorem dX6_next_169 : decode cX6_next 169 = .ok (.aload_n 0, 1) := dk_42 (dk_at dksX6_next_7 4 rfl rfl)
theorem dX6_next_170 : decode cX6_next 170 = .ok (.getfield 3, 3) := dk_180 0 3 (dk_at dksX6_next_7 5 rfl rfl)
theorem dX6_next_173 : decode cX6_next 173 = .ok (.getfield 44, 3) := dk_180 0 44 (dk_at dksX6_next_7 8 rfl rfl)
theorem dX6_next_176 : decode cX6_next 176 = .ok (.aload_n 0, 1) := dk_42 (dk_at dksX6_next_7 11 rfl rfl)
theorem dX6_next_177 : decode cX6_next 177 = .ok (.getfield 41, 3) := dk_180 0 41 (dk_at dksX6_next_7 12 rfl rfl)
theorem dX6_next_180 : decode cX6_next 180 = .ok (.baload, 1) := dk_51 (dk_at dksX6_next_7 15 rfl rfl)
theorem dX6_next_181 : decode cX6_next 181 = .ok (.iadd, 1) := dk_96 (dk_at dksX6_next_7 16 rfl rfl)
theorem dX6_next_182 : decode cX6_next 182 = .ok (.bipush 48, 2) := dk_16 48 (dk_at dksX6_next_7 17 rfl rfl)
theorem dX6_next_184 : decode cX6_next 184 = .ok (.isub, 1) := dk_100 (dk_at dksX6_next_7 19 rfl rfl)
theorem dX6_next_185 : decode cX6_next 185 = .ok (.invokestatic 66, 3) := dk_184 0 66 (dk_at dksX6_next_7 20 rfl rfl)
theorem dX6_next_188 : decode cX6_next 188 = .ok (.putfield 62, 3) := dk_181 0 62 (dk_at dksX6_next_8 0 rfl rfl)
theorem dX6_next_191 : decode cX6_next 191 = .ok (.aload_n 0, 1) := dk_42 (dk_at dksX6_next_8 3 rfl rfl)
theorem dX6_next_192 : decode cX6_next 192 = .ok (.dup, 1) := dk_89 (dk_at dksX6_next_8 4 rfl rfl)
theorem dX6_next_193 : decode cX6_next 193 = .ok (.getfield 41, 3) := dk_180 0 41 (dk_at dksX6_next_8 5 rfl rfl)
theorem dX6_next_196 : decode cX6_next 196 = .ok (.iconst 1, 1) := dk_4 (dk_at dksX6_next_8 8 rfl rfl)
theorem dX6_next_197 : decode cX6_next 197 = .ok (.iadd, 1) := dk_96 (dk_at dksX6_next_8 9 rfl rfl)
theorem dX6_next_198 : decode cX6_next 198 = .ok (.putfield 41, 3) := dk_181 0 41 (dk_at dksX6_next_8 10 rfl rfl)
theorem dX6_next_201 : decode cX6_next 201 = .ok (.goto (-53), 3) := dk_167 255 203 (dk_at dksX6_next_8 13 rfl rfl)
theorem dX6_next_204 : decode cX6_next 204 = .ok (.aload_n 0, 1) := dk_42 (dk_at dksX6_next_8 16 rfl rfl)
theorem dX6_next_205 : decode cX6_next 205 = .ok (.getstatic 72, 3) := dk_178 0 72 (dk_at dksX6_next_8 17 rfl rfl)
theorem dX6_next_208 : decode cX6_next 208 = .ok (.putfield 35, 3) := dk_181 0 35 (dk_at dksX6_next_8 20 rfl rfl)
theorem dX6_next_211 : decode cX6_next 211 = .ok (.goto 43, 3) := dk_167 0 43 (dk_at dksX6_next_9 0 rfl rfl)
theorem dX6_next_214 : decode cX6_next 214 = .ok (.aload_n 0, 1) := dk_42 (dk_at dksX6_next_9 3 rfl rfl)
theorem dX6_next_215 : decode cX6_next 215 = .ok (.aload_n 0, 1) := dk_42 (dk_at dksX6_next_9 4 rfl rfl)
theorem dX6_next_216 : decode cX6_next 216 = .ok (.getfield 3, 3) := dk_180 0 3 (dk_at dksX6_next_9 5 rfl rfl)
theorem dX6_next_219 : decode cX6_next 219 = .ok (.getfield 44, 3) := dk_180 0 44 (dk_at dksX6_next_9 8 rfl rfl)
theorem dX6_next_222 : decode cX6_next 222 = .ok (.aload_n 0, 1) := dk_42 (dk_at dksX6_next_9 11 rfl rfl)
theorem dX6_next_223 : decode cX6_next 223 = .ok (.getfield 41, 3) := dk_180 0 41 (dk_at dksX6_next_9 12 rfl rfl)
theorem dX6_next_226 : decode cX6_next 226 = .ok (.baload, 1) := dk_51 (dk_at dksX6_next_9 15 rfl rfl)
theorem dX6_next_227 : decode cX6_next 227 = .ok (.bipush 59, 2) := dk_16 59 (dk_at dksX6_next_9 16 rfl rfl)
theorem dX6_next_229 : decode cX6_next 229 = .ok (.if_icmp .ne 9, 3) := dk_160 0 9 (dk_at dksX6_next_9 18 rfl rfl)
theorem dX6_next_232 : decode cX6_next 232 = .ok (.getstatic 75, 3) := dk_178 0 75 (dk_at dksX6_next_9 21 rfl rfl)
theorem dX6_next_235 : decode cX6_next 235 = .ok (.goto 6, 3) := dk_167 0 6 (dk_at dksX6_next_10 0 rfl rfl)
theorem dX6_next_238 : decode cX6_next 238 = .ok (.getstatic 78, 3) := dk_178 0 78 (dk_at dksX6_next_10 3 rfl rfl)
theorem dX6_next_241 : decode cX6_next 241 = .ok (.putfield 35, 3) := dk_181 0 35 (dk_at dksX6_next_10 6 rfl rfl)
theorem dX6_next_244 : decode cX6_next 244 = .ok (.aload_n 0, 1) := dk_42 (dk_at dksX6_next_10 9 rfl rfl)
theorem dX6_next_245 : decode cX6_next 245 = .ok (.dup, 1) := dk_89 (dk_at dksX6_next_10 10 rfl rfl)
theorem dX6_next_246 : decode cX6_next 246 = .ok (.getfield 41, 3) := dk_180 0 41 (dk_at dksX6_next_10 11 rfl rfl)
theorem dX6_next_249 : decode cX6_next 249 = .ok (.iconst 1, 1) := dk_4 (dk_at dksX6_next_10 14 rfl rfl)
theorem dX6_next_250 : decode cX6_next 250 = .ok (.iadd, 1) := dk_96 (dk_at dksX6_next_10 15 rfl rfl)
theorem dX6_next_251 : decode cX6_next 251 = .ok (.putfield 41, 3) := dk_181 0 41 (dk_at dksX6_next_10 16 rfl rfl)
theorem dX6_next_254 : decode cX6_next 254 = .ok (.return_, 1) := dk_177 (dk_at dksX6_next_10 19 rfl rfl)
abbrev cX6_isNext : ByteArray := prog_3_method_2_code
def yX6_isNext : MethodName := ⟨RX6, "isNext", "(II)Z"⟩
def dkwX6_isNext_1 : List UInt8 := [27, 133, 28, 133, 184, 0, 48, 153, 0, 7, 4, 167, 0, 4, 3, 172]
abbrev dktX6_isNext_1 : List UInt8 := dkwX6_isNext_1 ++ []
def dkwX6_isNext_0 : List UInt8 := [42, 180, 0, 41, 42, 180, 0, 19, 162, 0, 30, 42, 180, 0, 3, 180, 0, 44, 42, 180, 0, 41, 51, 133]
abbrev dktX6_isNext_0 : List UInt8 := dkwX6_isNext_0 ++ dktX6_isNext_1
theorem dksX6_isNext_0 : cX6_isNext.data.toList.drop 0 = dktX6_isNext_0 := by decide +kernel
theorem dksX6_isNext_1 : cX6_isNext.data.toList.drop 24 = dktX6_isNext_1 := dk_seg dksX6_isNext_0 24 rfl rfl
theorem dX6_isNext_0 : decode cX6_isNext 0 = .ok (.aload_n 0, 1) := dk_42 (dk_at dksX6_isNext_0 0 rfl rfl)
theorem dX6_isNext_1 : decode cX6_isNext 1 = .ok (.getfield 41, 3) := dk_180 0 41 (dk_at dksX6_isNext_0 1 rfl rfl)
theorem dX6_isNext_4 : decode cX6_isNext 4 = .ok (.aload_n 0, 1) := dk_42 (dk_at dksX6_isNext_0 4 rfl rfl)
theorem dX6_isNext_5 : decode cX6_isNext 5 = .ok (.getfield 19, 3) := dk_180 0 19 (dk_at dksX6_isNext_0 5 rfl rfl)
theorem dX6_isNext_8 : decode cX6_isNext 8 = .ok (.if_icmp .ge 30, 3) := dk_162 0 30 (dk_at dksX6_isNext_0 8 rfl rfl)
theorem dX6_isNext_11 : decode cX6_isNext 11 = .ok (.aload_n 0, 1) := dk_42 (dk_at dksX6_isNext_0 11 rfl rfl)
theorem dX6_isNext_12 : decode cX6_isNext 12 = .ok (.getfield 3, 3) := dk_180 0 3 (dk_at dksX6_isNext_0 12 rfl rfl)
theorem dX6_isNext_15 : decode cX6_isNext 15 = .ok (.getfield 44, 3) := dk_180 0 44 (dk_at dksX6_isNext_0 15 rfl rfl)
theorem dX6_isNext_18 : decode cX6_isNext 18 = .ok (.aload_n 0, 1) := dk_42 (dk_at dksX6_isNext_0 18 rfl rfl)
theorem dX6_isNext_19 : decode cX6_isNext 19 = .ok (.getfield 41, 3) := dk_180 0 41 (dk_at dksX6_isNext_0 19 rfl rfl)
theorem dX6_isNext_22 : decode cX6_isNext 22 = .ok (.baload, 1) := dk_51 (dk_at dksX6_isNext_0 22 rfl rfl)
theorem dX6_isNext_23 : decode cX6_isNext 23 = .ok (.i2l, 1) := dk_133 (dk_at dksX6_isNext_0 23 rfl rfl)
theorem dX6_isNext_24 : decode cX6_isNext 24 = .ok (.iload_n 1, 1) := dk_27 (dk_at dksX6_isNext_1 0 rfl rfl)
theorem dX6_isNext_25 : decode cX6_isNext 25 = .ok (.i2l, 1) := dk_133 (dk_at dksX6_isNext_1 1 rfl rfl)
theorem dX6_isNext_26 : decode cX6_isNext 26 = .ok (.iload_n 2, 1) := dk_28 (dk_at dksX6_isNext_1 2 rfl rfl)
theorem dX6_isNext_27 : decode cX6_isNext 27 = .ok (.i2l, 1) := dk_133 (dk_at dksX6_isNext_1 3 rfl rfl)
theorem dX6_isNext_28 : decode cX6_isNext 28 = .ok (.invokestatic 48, 3) := dk_184 0 48 (dk_at dksX6_isNext_1 4 rfl rfl)
theorem dX6_isNext_31 : decode cX6_isNext 31 = .ok (.ifCond .eq 7, 3) := dk_153 0 7 (dk_at dksX6_isNext_1 7 rfl rfl)
theorem dX6_isNext_34 : decode cX6_isNext 34 = .ok (.iconst 1, 1) := dk_4 (dk_at dksX6_isNext_1 10 rfl rfl)
theorem dX6_isNext_35 : decode cX6_isNext 35 = .ok (.goto 4, 3) := dk_167 0 4 (dk_at dksX6_isNext_1 11 rfl rfl)
theorem dX6_isNext_38 : decode cX6_isNext 38 = .ok (.iconst 0, 1) := dk_3 (dk_at dksX6_isNext_1 14 rfl rfl)
theorem dX6_isNext_39 : decode cX6_isNext 39 = .ok (.ireturn, 1) := dk_172 (dk_at dksX6_isNext_1 15 rfl rfl)
abbrev cX6_read : ByteArray := prog_3_method_18_code
def yX6_read : MethodName := ⟨RX6, "read", "()LHiddenCube$Town;"⟩
def dkwX6_read_2 : List UInt8 := [182, 0, 38, 42, 180, 0, 25, 89, 180, 0, 188, 4, 96, 181, 0, 188, 167, 255, 192, 42, 180, 0, 25, 176]
abbrev dktX6_read_2 : List UInt8 := dkwX6_read_2 ++ []
def dkwX6_read_1 : List UInt8 := [167, 0, 7, 42, 182, 0, 194, 42, 180, 0, 35, 178, 0, 75, 165, 0, 9, 42, 4, 182, 0, 103, 191, 42]
abbrev dktX6_read_1 : List UInt8 := dkwX6_read_1 ++ dktX6_read_2
def dkwX6_read_0 : List UInt8 := [42, 180, 0, 35, 178, 0, 29, 165, 0, 60, 42, 180, 0, 25, 180, 0, 188, 154, 0, 10, 42, 182, 0, 191]
abbrev dktX6_read_0 : List UInt8 := dkwX6_read_0 ++ dktX6_read_1
theorem dksX6_read_0 : cX6_read.data.toList.drop 0 = dktX6_read_0 := by decide +kernel
theorem dksX6_read_1 : cX6_read.data.toList.drop 24 = dktX6_read_1 := dk_seg dksX6_read_0 24 rfl rfl
theorem dksX6_read_2 : cX6_read.data.toList.drop 48 = dktX6_read_2 := dk_seg dksX6_read_1 24 rfl rfl
theorem dX6_read_0 : decode cX6_read 0 = .ok (.aload_n 0, 1) := dk_42 (dk_at dksX6_read_0 0 rfl rfl)
theorem dX6_read_1 : decode cX6_read 1 = .ok (.getfield 35, 3) := dk_180 0 35 (dk_at dksX6_read_0 1 rfl rfl)
theorem dX6_read_4 : decode cX6_read 4 = .ok (.getstatic 29, 3) := dk_178 0 29 (dk_at dksX6_read_0 4 rfl rfl)
theorem dX6_read_7 : decode cX6_read 7 = .ok (.if_acmp .eq 60, 3) := dk_165 0 60 (dk_at dksX6_read_0 7 rfl rfl)
theorem dX6_read_10 : decode cX6_read 10 = .ok (.aload_n 0, 1) := dk_42 (dk_at dksX6_read_0 10 rfl rfl)
theorem dX6_read_11 : decode cX6_read 11 = .ok (.getfield 25, 3) := dk_180 0 25 (dk_at dksX6_read_0 11 rfl rfl)
theorem dX6_read_14 : decode cX6_read 14 = .ok (.getfield 188, 3) := dk_180 0 188 (dk_at dksX6_read_0 14 rfl rfl)
theorem dX6_read_17 : decode cX6_read 17 = .ok (.ifCond .ne 10, 3) := dk_154 0 10 (dk_at dksX6_read_0 17 rfl rfl)
theorem dX6_read_20 : decode cX6_read 20 = .ok (.aload_n 0, 1) := dk_42 (dk_at dksX6_read_0 20 rfl rfl)
theorem dX6_read_21 : decode cX6_read 21 = .ok (.invokevirtual 191, 3) := dk_182 0 191 (dk_at dksX6_read_0 21 rfl rfl)
theorem dX6_read_24 : decode cX6_read 24 = .ok (.goto 7, 3) := dk_167 0 7 (dk_at dksX6_read_1 0 rfl rfl)
theorem dX6_read_27 : decode cX6_read 27 = .ok (.aload_n 0, 1) := dk_42 (dk_at dksX6_read_1 3 rfl rfl)
theorem dX6_read_28 : decode cX6_read 28 = .ok (.invokevirtual 194, 3) := dk_182 0 194 (dk_at dksX6_read_1 4 rfl rfl)
theorem dX6_read_31 : decode cX6_read 31 = .ok (.aload_n 0, 1) := dk_42 (dk_at dksX6_read_1 7 rfl rfl)
theorem dX6_read_32 : decode cX6_read 32 = .ok (.getfield 35, 3) := dk_180 0 35 (dk_at dksX6_read_1 8 rfl rfl)
theorem dX6_read_35 : decode cX6_read 35 = .ok (.getstatic 75, 3) := dk_178 0 75 (dk_at dksX6_read_1 11 rfl rfl)
theorem dX6_read_38 : decode cX6_read 38 = .ok (.if_acmp .eq 9, 3) := dk_165 0 9 (dk_at dksX6_read_1 14 rfl rfl)
theorem dX6_read_41 : decode cX6_read 41 = .ok (.aload_n 0, 1) := dk_42 (dk_at dksX6_read_1 17 rfl rfl)
theorem dX6_read_42 : decode cX6_read 42 = .ok (.iconst 1, 1) := dk_4 (dk_at dksX6_read_1 18 rfl rfl)
theorem dX6_read_43 : decode cX6_read 43 = .ok (.invokevirtual 103, 3) := dk_182 0 103 (dk_at dksX6_read_1 19 rfl rfl)
theorem dX6_read_46 : decode cX6_read 46 = .ok (.athrow, 1) := dk_191 (dk_at dksX6_read_1 22 rfl rfl)
theorem dX6_read_47 : decode cX6_read 47 = .ok (.aload_n 0, 1) := dk_42 (dk_at dksX6_read_1 23 rfl rfl)
theorem dX6_read_48 : decode cX6_read 48 = .ok (.invokevirtual 38, 3) := dk_182 0 38 (dk_at dksX6_read_2 0 rfl rfl)
theorem dX6_read_51 : decode cX6_read 51 = .ok (.aload_n 0, 1) := dk_42 (dk_at dksX6_read_2 3 rfl rfl)
theorem dX6_read_52 : decode cX6_read 52 = .ok (.getfield 25, 3) := dk_180 0 25 (dk_at dksX6_read_2 4 rfl rfl)
theorem dX6_read_55 : decode cX6_read 55 = .ok (.dup, 1) := dk_89 (dk_at dksX6_read_2 7 rfl rfl)
theorem dX6_read_56 : decode cX6_read 56 = .ok (.getfield 188, 3) := dk_180 0 188 (dk_at dksX6_read_2 8 rfl rfl)
theorem dX6_read_59 : decode cX6_read 59 = .ok (.iconst 1, 1) := dk_4 (dk_at dksX6_read_2 11 rfl rfl)
theorem dX6_read_60 : decode cX6_read 60 = .ok (.iadd, 1) := dk_96 (dk_at dksX6_read_2 12 rfl rfl)
theorem dX6_read_61 : decode cX6_read 61 = .ok (.putfield 188, 3) := dk_181 0 188 (dk_at dksX6_read_2 13 rfl rfl)
theorem dX6_read_64 : decode cX6_read 64 = .ok (.goto (-64), 3) := dk_167 255 192 (dk_at dksX6_read_2 16 rfl rfl)
theorem dX6_read_67 : decode cX6_read 67 = .ok (.aload_n 0, 1) := dk_42 (dk_at dksX6_read_2 19 rfl rfl)
theorem dX6_read_68 : decode cX6_read 68 = .ok (.getfield 25, 3) := dk_180 0 25 (dk_at dksX6_read_2 20 rfl rfl)
theorem dX6_read_71 : decode cX6_read 71 = .ok (.areturn, 1) := dk_176 (dk_at dksX6_read_2 23 rfl rfl)
abbrev cX6_first : ByteArray := prog_3_method_12_code
def yX6_first : MethodName := ⟨RX6, "first", "()V"⟩
def dkwX6_first_1 : List UInt8 := [178, 0, 59, 166, 0, 10, 42, 182, 0, 132, 167, 255, 242, 177]
abbrev dktX6_first_1 : List UInt8 := dkwX6_first_1 ++ []
def dkwX6_first_0 : List UInt8 := [42, 18, 126, 182, 0, 127, 42, 18, 131, 182, 0, 127, 42, 182, 0, 132, 42, 182, 0, 132, 42, 180, 0, 35]
abbrev dktX6_first_0 : List UInt8 := dkwX6_first_0 ++ dktX6_first_1
theorem dksX6_first_0 : cX6_first.data.toList.drop 0 = dktX6_first_0 := by decide +kernel
theorem dksX6_first_1 : cX6_first.data.toList.drop 24 = dktX6_first_1 := dk_seg dksX6_first_0 24 rfl rfl
theorem dX6_first_0 : decode cX6_first 0 = .ok (.aload_n 0, 1) := dk_42 (dk_at dksX6_first_0 0 rfl rfl)
theorem dX6_first_1 : decode cX6_first 1 = .ok (.ldc 126, 2) := dk_18 126 (dk_at dksX6_first_0 1 rfl rfl)
theorem dX6_first_3 : decode cX6_first 3 = .ok (.invokevirtual 127, 3) := dk_182 0 127 (dk_at dksX6_first_0 3 rfl rfl)
theorem dX6_first_6 : decode cX6_first 6 = .ok (.aload_n 0, 1) := dk_42 (dk_at dksX6_first_0 6 rfl rfl)
theorem dX6_first_7 : decode cX6_first 7 = .ok (.ldc 131, 2) := dk_18 131 (dk_at dksX6_first_0 7 rfl rfl)
theorem dX6_first_9 : decode cX6_first 9 = .ok (.invokevirtual 127, 3) := dk_182 0 127 (dk_at dksX6_first_0 9 rfl rfl)
theorem dX6_first_12 : decode cX6_first 12 = .ok (.aload_n 0, 1) := dk_42 (dk_at dksX6_first_0 12 rfl rfl)
theorem dX6_first_13 : decode cX6_first 13 = .ok (.invokevirtual 132, 3) := dk_182 0 132 (dk_at dksX6_first_0 13 rfl rfl)
theorem dX6_first_16 : decode cX6_first 16 = .ok (.aload_n 0, 1) := dk_42 (dk_at dksX6_first_0 16 rfl rfl)
theorem dX6_first_17 : decode cX6_first 17 = .ok (.invokevirtual 132, 3) := dk_182 0 132 (dk_at dksX6_first_0 17 rfl rfl)
theorem dX6_first_20 : decode cX6_first 20 = .ok (.aload_n 0, 1) := dk_42 (dk_at dksX6_first_0 20 rfl rfl)
theorem dX6_first_21 : decode cX6_first 21 = .ok (.getfield 35, 3) := dk_180 0 35 (dk_at dksX6_first_0 21 rfl rfl)
theorem dX6_first_24 : decode cX6_first 24 = .ok (.getstatic 59, 3) := dk_178 0 59 (dk_at dksX6_first_1 0 rfl rfl)
theorem dX6_first_27 : decode cX6_first 27 = .ok (.if_acmp .ne 10, 3) := dk_166 0 10 (dk_at dksX6_first_1 3 rfl rfl)
theorem dX6_first_30 : decode cX6_first 30 = .ok (.aload_n 0, 1) := dk_42 (dk_at dksX6_first_1 6 rfl rfl)
theorem dX6_first_31 : decode cX6_first 31 = .ok (.invokevirtual 132, 3) := dk_182 0 132 (dk_at dksX6_first_1 7 rfl rfl)
theorem dX6_first_34 : decode cX6_first 34 = .ok (.goto (-14), 3) := dk_167 255 242 (dk_at dksX6_first_1 10 rfl rfl)
theorem dX6_first_37 : decode cX6_first 37 = .ok (.return_, 1) := dk_177 (dk_at dksX6_first_1 13 rfl rfl)
abbrev cX6_needs : ByteArray := prog_3_method_7_code
def yX6_needs : MethodName := ⟨RX6, "needs", "(Ljava/lang/String;)V"⟩
def dkwX6_needs_0 : List UInt8 := [42, 43, 182, 0, 100, 154, 0, 9, 42, 4, 182, 0, 103, 191, 177]
abbrev dktX6_needs_0 : List UInt8 := dkwX6_needs_0 ++ []
theorem dksX6_needs_0 : cX6_needs.data.toList.drop 0 = dktX6_needs_0 := by decide +kernel
theorem dX6_needs_0 : decode cX6_needs 0 = .ok (.aload_n 0, 1) := dk_42 (dk_at dksX6_needs_0 0 rfl rfl)
theorem dX6_needs_1 : decode cX6_needs 1 = .ok (.aload_n 1, 1) := dk_43 (dk_at dksX6_needs_0 1 rfl rfl)
theorem dX6_needs_2 : decode cX6_needs 2 = .ok (.invokevirtual 100, 3) := dk_182 0 100 (dk_at dksX6_needs_0 2 rfl rfl)
theorem dX6_needs_5 : decode cX6_needs 5 = .ok (.ifCond .ne 9, 3) := dk_154 0 9 (dk_at dksX6_needs_0 5 rfl rfl)
theorem dX6_needs_8 : decode cX6_needs 8 = .ok (.aload_n 0, 1) := dk_42 (dk_at dksX6_needs_0 8 rfl rfl)
theorem dX6_needs_9 : decode cX6_needs 9 = .ok (.iconst 1, 1) := dk_4 (dk_at dksX6_needs_0 9 rfl rfl)
theorem dX6_needs_10 : decode cX6_needs 10 = .ok (.invokevirtual 103, 3) := dk_182 0 103 (dk_at dksX6_needs_0 10 rfl rfl)
theorem dX6_needs_13 : decode cX6_needs 13 = .ok (.athrow, 1) := dk_191 (dk_at dksX6_needs_0 13 rfl rfl)
theorem dX6_needs_14 : decode cX6_needs 14 = .ok (.return_, 1) := dk_177 (dk_at dksX6_needs_0 14 rfl rfl)
abbrev cX6_takes : ByteArray := prog_3_method_6_code
def yX6_takes : MethodName := ⟨RX6, "takes", "(Ljava/lang/String;)Z"⟩
def dkwX6_takes_0 : List UInt8 := [42, 43, 182, 0, 96, 61, 28, 153, 0, 7, 42, 182, 0, 38, 28, 172]
abbrev dktX6_takes_0 : List UInt8 := dkwX6_takes_0 ++ []
theorem dksX6_takes_0 : cX6_takes.data.toList.drop 0 = dktX6_takes_0 := by decide +kernel
theorem dX6_takes_0 : decode cX6_takes 0 = .ok (.aload_n 0, 1) := dk_42 (dk_at dksX6_takes_0 0 rfl rfl)
theorem dX6_takes_1 : decode cX6_takes 1 = .ok (.aload_n 1, 1) := dk_43 (dk_at dksX6_takes_0 1 rfl rfl)
theorem dX6_takes_2 : decode cX6_takes 2 = .ok (.invokevirtual 96, 3) := dk_182 0 96 (dk_at dksX6_takes_0 2 rfl rfl)
theorem dX6_takes_5 : decode cX6_takes 5 = .ok (.istore_n 2, 1) := dk_61 (dk_at dksX6_takes_0 5 rfl rfl)
theorem dX6_takes_6 : decode cX6_takes 6 = .ok (.iload_n 2, 1) := dk_28 (dk_at dksX6_takes_0 6 rfl rfl)
theorem dX6_takes_7 : decode cX6_takes 7 = .ok (.ifCond .eq 7, 3) := dk_153 0 7 (dk_at dksX6_takes_0 7 rfl rfl)
theorem dX6_takes_10 : decode cX6_takes 10 = .ok (.aload_n 0, 1) := dk_42 (dk_at dksX6_takes_0 10 rfl rfl)
theorem dX6_takes_11 : decode cX6_takes 11 = .ok (.invokevirtual 38, 3) := dk_182 0 38 (dk_at dksX6_takes_0 11 rfl rfl)
theorem dX6_takes_14 : decode cX6_takes 14 = .ok (.iload_n 2, 1) := dk_28 (dk_at dksX6_takes_0 14 rfl rfl)
theorem dX6_takes_15 : decode cX6_takes 15 = .ok (.ireturn, 1) := dk_172 (dk_at dksX6_takes_0 15 rfl rfl)
abbrev cX6_is : ByteArray := prog_3_method_5_code
def yX6_is : MethodName := ⟨RX6, "is", "(Ljava/lang/String;)Z"⟩
def dkwX6_is_2 : List UInt8 := [180, 0, 52, 28, 96, 51, 43, 28, 182, 0, 92, 159, 0, 5, 3, 172, 132, 2, 1, 167, 255, 221, 4, 172]
abbrev dktX6_is_2 : List UInt8 := dkwX6_is_2 ++ []
def dkwX6_is_1 : List UInt8 := [159, 0, 5, 3, 172, 3, 61, 28, 43, 182, 0, 86, 162, 0, 33, 42, 180, 0, 3, 180, 0, 44, 42]
abbrev dktX6_is_1 : List UInt8 := dkwX6_is_1 ++ dktX6_is_2
def dkwX6_is_0 : List UInt8 := [42, 180, 0, 35, 178, 0, 59, 166, 0, 19, 42, 180, 0, 41, 42, 180, 0, 52, 100, 43, 182, 0, 86]
abbrev dktX6_is_0 : List UInt8 := dkwX6_is_0 ++ dktX6_is_1
theorem dksX6_is_0 : cX6_is.data.toList.drop 0 = dktX6_is_0 := by decide +kernel
theorem dksX6_is_1 : cX6_is.data.toList.drop 23 = dktX6_is_1 := dk_seg dksX6_is_0 23 rfl rfl
theorem dksX6_is_2 : cX6_is.data.toList.drop 46 = dktX6_is_2 := dk_seg dksX6_is_1 23 rfl rfl
theorem dX6_is_0 : decode cX6_is 0 = .ok (.aload_n 0, 1) := dk_42 (dk_at dksX6_is_0 0 rfl rfl)
theorem dX6_is_1 : decode cX6_is 1 = .ok (.getfield 35, 3) := dk_180 0 35 (dk_at dksX6_is_0 1 rfl rfl)
theorem dX6_is_4 : decode cX6_is 4 = .ok (.getstatic 59, 3) := dk_178 0 59 (dk_at dksX6_is_0 4 rfl rfl)
theorem dX6_is_7 : decode cX6_is 7 = .ok (.if_acmp .ne 19, 3) := dk_166 0 19 (dk_at dksX6_is_0 7 rfl rfl)
theorem dX6_is_10 : decode cX6_is 10 = .ok (.aload_n 0, 1) := dk_42 (dk_at dksX6_is_0 10 rfl rfl)
theorem dX6_is_11 : decode cX6_is 11 = .ok (.getfield 41, 3) := dk_180 0 41 (dk_at dksX6_is_0 11 rfl rfl)
theorem dX6_is_14 : decode cX6_is 14 = .ok (.aload_n 0, 1) := dk_42 (dk_at dksX6_is_0 14 rfl rfl)
theorem dX6_is_15 : decode cX6_is 15 = .ok (.getfield 52, 3) := dk_180 0 52 (dk_at dksX6_is_0 15 rfl rfl)
theorem dX6_is_18 : decode cX6_is 18 = .ok (.isub, 1) := dk_100 (dk_at dksX6_is_0 18 rfl rfl)
theorem dX6_is_19 : decode cX6_is 19 = .ok (.aload_n 1, 1) := dk_43 (dk_at dksX6_is_0 19 rfl rfl)
theorem dX6_is_20 : decode cX6_is 20 = .ok (.invokevirtual 86, 3) := dk_182 0 86 (dk_at dksX6_is_0 20 rfl rfl)
theorem dX6_is_23 : decode cX6_is 23 = .ok (.if_icmp .eq 5, 3) := dk_159 0 5 (dk_at dksX6_is_1 0 rfl rfl)
theorem dX6_is_26 : decode cX6_is 26 = .ok (.iconst 0, 1) := dk_3 (dk_at dksX6_is_1 3 rfl rfl)
theorem dX6_is_27 : decode cX6_is 27 = .ok (.ireturn, 1) := dk_172 (dk_at dksX6_is_1 4 rfl rfl)
theorem dX6_is_28 : decode cX6_is 28 = .ok (.iconst 0, 1) := dk_3 (dk_at dksX6_is_1 5 rfl rfl)
theorem dX6_is_29 : decode cX6_is 29 = .ok (.istore_n 2, 1) := dk_61 (dk_at dksX6_is_1 6 rfl rfl)
theorem dX6_is_30 : decode cX6_is 30 = .ok (.iload_n 2, 1) := dk_28 (dk_at dksX6_is_1 7 rfl rfl)
theorem dX6_is_31 : decode cX6_is 31 = .ok (.aload_n 1, 1) := dk_43 (dk_at dksX6_is_1 8 rfl rfl)
theorem dX6_is_32 : decode cX6_is 32 = .ok (.invokevirtual 86, 3) := dk_182 0 86 (dk_at dksX6_is_1 9 rfl rfl)
theorem dX6_is_35 : decode cX6_is 35 = .ok (.if_icmp .ge 33, 3) := dk_162 0 33 (dk_at dksX6_is_1 12 rfl rfl)
theorem dX6_is_38 : decode cX6_is 38 = .ok (.aload_n 0, 1) := dk_42 (dk_at dksX6_is_1 15 rfl rfl)
theorem dX6_is_39 : decode cX6_is 39 = .ok (.getfield 3, 3) := dk_180 0 3 (dk_at dksX6_is_1 16 rfl rfl)
theorem dX6_is_42 : decode cX6_is 42 = .ok (.getfield 44, 3) := dk_180 0 44 (dk_at dksX6_is_1 19 rfl rfl)
theorem dX6_is_45 : decode cX6_is 45 = .ok (.aload_n 0, 1) := dk_42 (dk_at dksX6_is_1 22 rfl rfl)
theorem dX6_is_46 : decode cX6_is 46 = .ok (.getfield 52, 3) := dk_180 0 52 (dk_at dksX6_is_2 0 rfl rfl)
theorem dX6_is_49 : decode cX6_is 49 = .ok (.iload_n 2, 1) := dk_28 (dk_at dksX6_is_2 3 rfl rfl)
theorem dX6_is_50 : decode cX6_is 50 = .ok (.iadd, 1) := dk_96 (dk_at dksX6_is_2 4 rfl rfl)
theorem dX6_is_51 : decode cX6_is 51 = .ok (.baload, 1) := dk_51 (dk_at dksX6_is_2 5 rfl rfl)
theorem dX6_is_52 : decode cX6_is 52 = .ok (.aload_n 1, 1) := dk_43 (dk_at dksX6_is_2 6 rfl rfl)
theorem dX6_is_53 : decode cX6_is 53 = .ok (.iload_n 2, 1) := dk_28 (dk_at dksX6_is_2 7 rfl rfl)
theorem dX6_is_54 : decode cX6_is 54 = .ok (.invokevirtual 92, 3) := dk_182 0 92 (dk_at dksX6_is_2 8 rfl rfl)
theorem dX6_is_57 : decode cX6_is 57 = .ok (.if_icmp .eq 5, 3) := dk_159 0 5 (dk_at dksX6_is_2 11 rfl rfl)
theorem dX6_is_60 : decode cX6_is 60 = .ok (.iconst 0, 1) := dk_3 (dk_at dksX6_is_2 14 rfl rfl)
theorem dX6_is_61 : decode cX6_is 61 = .ok (.ireturn, 1) := dk_172 (dk_at dksX6_is_2 15 rfl rfl)
theorem dX6_is_62 : decode cX6_is 62 = .ok (.iinc 2 1, 3) := dk_132 2 1 (dk_at dksX6_is_2 16 rfl rfl)
theorem dX6_is_65 : decode cX6_is 65 = .ok (.goto (-35), 3) := dk_167 255 221 (dk_at dksX6_is_2 19 rfl rfl)
theorem dX6_is_68 : decode cX6_is 68 = .ok (.iconst 1, 1) := dk_4 (dk_at dksX6_is_2 22 rfl rfl)
theorem dX6_is_69 : decode cX6_is 69 = .ok (.ireturn, 1) := dk_172 (dk_at dksX6_is_2 23 rfl rfl)
abbrev cX6_wrong : ByteArray := prog_3_method_4_code
def yX6_wrong : MethodName := ⟨RX6, "wrong", "(I)LHiddenCube$Fault;"⟩
def dkwX6_wrong_0 : List UInt8 := [187, 0, 81, 89, 27, 42, 180, 0, 52, 183, 0, 83, 176]
abbrev dktX6_wrong_0 : List UInt8 := dkwX6_wrong_0 ++ []
theorem dksX6_wrong_0 : cX6_wrong.data.toList.drop 0 = dktX6_wrong_0 := by decide +kernel
theorem dX6_wrong_0 : decode cX6_wrong 0 = .ok (.new 81, 3) := dk_187 0 81 (dk_at dksX6_wrong_0 0 rfl rfl)
theorem dX6_wrong_3 : decode cX6_wrong 3 = .ok (.dup, 1) := dk_89 (dk_at dksX6_wrong_0 3 rfl rfl)
theorem dX6_wrong_4 : decode cX6_wrong 4 = .ok (.iload_n 1, 1) := dk_27 (dk_at dksX6_wrong_0 4 rfl rfl)
theorem dX6_wrong_5 : decode cX6_wrong 5 = .ok (.aload_n 0, 1) := dk_42 (dk_at dksX6_wrong_0 5 rfl rfl)
theorem dX6_wrong_6 : decode cX6_wrong 6 = .ok (.getfield 52, 3) := dk_180 0 52 (dk_at dksX6_wrong_0 6 rfl rfl)
theorem dX6_wrong_9 : decode cX6_wrong 9 = .ok (.invokespecial 83, 3) := dk_183 0 83 (dk_at dksX6_wrong_0 9 rfl rfl)
theorem dX6_wrong_12 : decode cX6_wrong 12 = .ok (.areturn, 1) := dk_176 (dk_at dksX6_wrong_0 12 rfl rfl)
abbrev cX6_newName : ByteArray := prog_3_method_11_code
def yX6_newName : MethodName := ⟨RX6, "newName", "()V"⟩
def dkwX6_newName_5 : List UInt8 := [42, 180, 0, 52, 100, 79, 42, 180, 0, 25, 89, 180, 0, 113, 4, 96, 181, 0, 113, 42, 182, 0, 38, 177]
abbrev dktX6_newName_5 : List UInt8 := dkwX6_newName_5 ++ []
def dkwX6_newName_4 : List UInt8 := [132, 1, 1, 167, 255, 206, 42, 180, 0, 25, 180, 0, 116, 42, 180, 0, 25, 180, 0, 113, 42, 180, 0, 41]
abbrev dktX6_newName_4 : List UInt8 := dkwX6_newName_4 ++ dktX6_newName_5
def dkwX6_newName_3 : List UInt8 := [180, 0, 25, 180, 0, 113, 104, 27, 96, 42, 180, 0, 3, 180, 0, 44, 42, 180, 0, 52, 27, 96, 51, 84]
abbrev dktX6_newName_3 : List UInt8 := dkwX6_newName_3 ++ dktX6_newName_4
def dkwX6_newName_2 : List UInt8 := [42, 180, 0, 41, 42, 180, 0, 52, 100, 162, 0, 43, 42, 180, 0, 25, 180, 0, 120, 16, 8, 42]
abbrev dktX6_newName_2 : List UInt8 := dkwX6_newName_2 ++ dktX6_newName_3
def dkwX6_newName_1 : List UInt8 := [182, 0, 103, 191, 42, 180, 0, 25, 180, 0, 113, 8, 160, 0, 9, 42, 6, 182, 0, 103, 191, 3, 60, 27]
abbrev dktX6_newName_1 : List UInt8 := dkwX6_newName_1 ++ dktX6_newName_2
def dkwX6_newName_0 : List UInt8 := [42, 182, 0, 123, 2, 160, 0, 17, 42, 180, 0, 41, 42, 180, 0, 52, 100, 16, 8, 164, 0, 9, 42, 5]
abbrev dktX6_newName_0 : List UInt8 := dkwX6_newName_0 ++ dktX6_newName_1
theorem dksX6_newName_0 : cX6_newName.data.toList.drop 0 = dktX6_newName_0 := by decide +kernel
theorem dksX6_newName_1 : cX6_newName.data.toList.drop 24 = dktX6_newName_1 := dk_seg dksX6_newName_0 24 rfl rfl
theorem dksX6_newName_2 : cX6_newName.data.toList.drop 48 = dktX6_newName_2 := dk_seg dksX6_newName_1 24 rfl rfl
theorem dksX6_newName_3 : cX6_newName.data.toList.drop 70 = dktX6_newName_3 := dk_seg dksX6_newName_2 22 rfl rfl
theorem dksX6_newName_4 : cX6_newName.data.toList.drop 94 = dktX6_newName_4 := dk_seg dksX6_newName_3 24 rfl rfl
theorem dksX6_newName_5 : cX6_newName.data.toList.drop 118 = dktX6_newName_5 := dk_seg dksX6_newName_4 24 rfl rfl
theorem dX6_newName_0 : decode cX6_newName 0 = .ok (.aload_n 0, 1) := dk_42 (dk_at dksX6_newName_0 0 rfl rfl)
theorem dX6_newName_1 : decode cX6_newName 1 = .ok (.invokevirtual 123, 3) := dk_182 0 123 (dk_at dksX6_newName_0 1 rfl rfl)
theorem dX6_newName_4 : decode cX6_newName 4 = .ok (.iconst (-1), 1) := dk_2 (dk_at dksX6_newName_0 4 rfl rfl)
theorem dX6_newName_5 : decode cX6_newName 5 = .ok (.if_icmp .ne 17, 3) := dk_160 0 17 (dk_at dksX6_newName_0 5 rfl rfl)
theorem dX6_newName_8 : decode cX6_newName 8 = .ok (.aload_n 0, 1) := dk_42 (dk_at dksX6_newName_0 8 rfl rfl)
theorem dX6_newName_9 : decode cX6_newName 9 = .ok (.getfield 41, 3) := dk_180 0 41 (dk_at dksX6_newName_0 9 rfl rfl)
theorem dX6_newName_12 : decode cX6_newName 12 = .ok (.aload_n 0, 1) := dk_42 (dk_at dksX6_newName_0 12 rfl rfl)
theorem dX6_newName_13 : decode cX6_newName 13 = .ok (.getfield 52, 3) := dk_180 0 52 (dk_at dksX6_newName_0 13 rfl rfl)
theorem dX6_newName_16 : decode cX6_newName 16 = .ok (.isub, 1) := dk_100 (dk_at dksX6_newName_0 16 rfl rfl)
theorem dX6_newName_17 : decode cX6_newName 17 = .ok (.bipush 8, 2) := dk_16 8 (dk_at dksX6_newName_0 17 rfl rfl)
theorem dX6_newName_19 : decode cX6_newName 19 = .ok (.if_icmp .le 9, 3) := dk_164 0 9 (dk_at dksX6_newName_0 19 rfl rfl)
theorem dX6_newName_22 : decode cX6_newName 22 = .ok (.aload_n 0, 1) := dk_42 (dk_at dksX6_newName_0 22 rfl rfl)
theorem dX6_newName_23 : decode cX6_newName 23 = .ok (.iconst 2, 1) := dk_5 (dk_at dksX6_newName_0 23 rfl rfl)
theorem dX6_newName_24 : decode cX6_newName 24 = .ok (.invokevirtual 103, 3) := dk_182 0 103 (dk_at dksX6_newName_1 0 rfl rfl)
theorem dX6_newName_27 : decode cX6_newName 27 = .ok (.athrow, 1) := dk_191 (dk_at dksX6_newName_1 3 rfl rfl)
theorem dX6_newName_28 : decode cX6_newName 28 = .ok (.aload_n 0, 1) := dk_42 (dk_at dksX6_newName_1 4 rfl rfl)
theorem dX6_newName_29 : decode cX6_newName 29 = .ok (.getfield 25, 3) := dk_180 0 25 (dk_at dksX6_newName_1 5 rfl rfl)
theorem dX6_newName_32 : decode cX6_newName 32 = .ok (.getfield 113, 3) := dk_180 0 113 (dk_at dksX6_newName_1 8 rfl rfl)
theorem dX6_newName_35 : decode cX6_newName 35 = .ok (.iconst 5, 1) := dk_8 (dk_at dksX6_newName_1 11 rfl rfl)
theorem dX6_newName_36 : decode cX6_newName 36 = .ok (.if_icmp .ne 9, 3) := dk_160 0 9 (dk_at dksX6_newName_1 12 rfl rfl)
theorem dX6_newName_39 : decode cX6_newName 39 = .ok (.aload_n 0, 1) := dk_42 (dk_at dksX6_newName_1 15 rfl rfl)
theorem dX6_newName_40 : decode cX6_newName 40 = .ok (.iconst 3, 1) := dk_6 (dk_at dksX6_newName_1 16 rfl rfl)
theorem dX6_newName_41 : decode cX6_newName 41 = .ok (.invokevirtual 103, 3) := dk_182 0 103 (dk_at dksX6_newName_1 17 rfl rfl)
theorem dX6_newName_44 : decode cX6_newName 44 = .ok (.athrow, 1) := dk_191 (dk_at dksX6_newName_1 20 rfl rfl)
theorem dX6_newName_45 : decode cX6_newName 45 = .ok (.iconst 0, 1) := dk_3 (dk_at dksX6_newName_1 21 rfl rfl)
theorem dX6_newName_46 : decode cX6_newName 46 = .ok (.istore_n 1, 1) := dk_60 (dk_at dksX6_newName_1 22 rfl rfl)
theorem dX6_newName_47 : decode cX6_newName 47 = .ok (.iload_n 1, 1) := dk_27 (dk_at dksX6_newName_1 23 rfl rfl)
theorem dX6_newName_48 : decode cX6_newName 48 = .ok (.aload_n 0, 1) := dk_42 (dk_at dksX6_newName_2 0 rfl rfl)
theorem dX6_newName_49 : decode cX6_newName 49 = .ok (.getfield 41, 3) := dk_180 0 41 (dk_at dksX6_newName_2 1 rfl rfl)
theorem dX6_newName_52 : decode cX6_newName 52 = .ok (.aload_n 0, 1) := dk_42 (dk_at dksX6_newName_2 4 rfl rfl)
theorem dX6_newName_53 : decode cX6_newName 53 = .ok (.getfield 52, 3) := dk_180 0 52 (dk_at dksX6_newName_2 5 rfl rfl)
theorem dX6_newName_56 : decode cX6_newName 56 = .ok (.isub, 1) := dk_100 (dk_at dksX6_newName_2 8 rfl rfl)
theorem dX6_newName_57 : decode cX6_newName 57 = .ok (.if_icmp .ge 43, 3) := dk_162 0 43 (dk_at dksX6_newName_2 9 rfl rfl)
theorem dX6_newName_60 : decode cX6_newName 60 = .ok (.aload_n 0, 1) := dk_42 (dk_at dksX6_newName_2 12 rfl rfl)
theorem dX6_newName_61 : decode cX6_newName 61 = .ok (.getfield 25, 3) := dk_180 0 25 (dk_at dksX6_newName_2 13 rfl rfl)
theorem dX6_newName_64 : decode cX6_newName 64 = .ok (.getfield 120, 3) := dk_180 0 120 (dk_at dksX6_newName_2 16 rfl rfl)
theorem dX6_newName_67 : decode cX6_newName 67 = .ok (.bipush 8, 2) := dk_16 8 (dk_at dksX6_newName_2 19 rfl rfl)
theorem dX6_newName_69 : decode cX6_newName 69 = .ok (.aload_n 0, 1) := dk_42 (dk_at dksX6_newName_2 21 rfl rfl)
theorem dX6_newName_70 : decode cX6_newName 70 = .ok (.getfield 25, 3) := dk_180 0 25 (dk_at dksX6_newName_3 0 rfl rfl)
theorem dX6_newName_73 : decode cX6_newName 73 = .ok (.getfield 113, 3) := dk_180 0 113 (dk_at dksX6_newName_3 3 rfl rfl)
theorem dX6_newName_76 : decode cX6_newName 76 = .ok (.imul, 1) := dk_104 (dk_at dksX6_newName_3 6 rfl rfl)
theorem dX6_newName_77 : decode cX6_newName 77 = .ok (.iload_n 1, 1) := dk_27 (dk_at dksX6_newName_3 7 rfl rfl)
theorem dX6_newName_78 : decode cX6_newName 78 = .ok (.iadd, 1) := dk_96 (dk_at dksX6_newName_3 8 rfl rfl)
theorem dX6_newName_79 : decode cX6_newName 79 = .ok (.aload_n 0, 1) := dk_42 (dk_at dksX6_newName_3 9 rfl rfl)
theorem dX6_newName_80 : decode cX6_newName 80 = .ok (.getfield 3, 3) := dk_180 0 3 (dk_at dksX6_newName_3 10 rfl rfl)
theorem dX6_newName_83 : decode cX6_newName 83 = .ok (.getfield 44, 3) := dk_180 0 44 (dk_at dksX6_newName_3 13 rfl rfl)
theorem dX6_newName_86 : decode cX6_newName 86 = .ok (.aload_n 0, 1) := dk_42 (dk_at dksX6_newName_3 16 rfl rfl)
theorem dX6_newName_87 : decode cX6_newName 87 = .ok (.getfield 52, 3) := dk_180 0 52 (dk_at dksX6_newName_3 17 rfl rfl)
theorem dX6_newName_90 : decode cX6_newName 90 = .ok (.iload_n 1, 1) := dk_27 (dk_at dksX6_newName_3 20 rfl rfl)
theorem dX6_newName_91 : decode cX6_newName 91 = .ok (.iadd, 1) := dk_96 (dk_at dksX6_newName_3 21 rfl rfl)
theorem dX6_newName_92 : decode cX6_newName 92 = .ok (.baload, 1) := dk_51 (dk_at dksX6_newName_3 22 rfl rfl)
theorem dX6_newName_93 : decode cX6_newName 93 = .ok (.bastore, 1) := dk_84 (dk_at dksX6_newName_3 23 rfl rfl)
theorem dX6_newName_94 : decode cX6_newName 94 = .ok (.iinc 1 1, 3) := dk_132 1 1 (dk_at dksX6_newName_4 0 rfl rfl)
theorem dX6_newName_97 : decode cX6_newName 97 = .ok (.goto (-50), 3) := dk_167 255 206 (dk_at dksX6_newName_4 3 rfl rfl)
theorem dX6_newName_100 : decode cX6_newName 100 = .ok (.aload_n 0, 1) := dk_42 (dk_at dksX6_newName_4 6 rfl rfl)
theorem dX6_newName_101 : decode cX6_newName 101 = .ok (.getfield 25, 3) := dk_180 0 25 (dk_at dksX6_newName_4 7 rfl rfl)
theorem dX6_newName_104 : decode cX6_newName 104 = .ok (.getfield 116, 3) := dk_180 0 116 (dk_at dksX6_newName_4 10 rfl rfl)
theorem dX6_newName_107 : decode cX6_newName 107 = .ok (.aload_n 0, 1) := dk_42 (dk_at dksX6_newName_4 13 rfl rfl)
theorem dX6_newName_108 : decode cX6_newName 108 = .ok (.getfield 25, 3) := dk_180 0 25 (dk_at dksX6_newName_4 14 rfl rfl)
theorem dX6_newName_111 : decode cX6_newName 111 = .ok (.getfield 113, 3) := dk_180 0 113 (dk_at dksX6_newName_4 17 rfl rfl)
theorem dX6_newName_114 : decode cX6_newName 114 = .ok (.aload_n 0, 1) := dk_42 (dk_at dksX6_newName_4 20 rfl rfl)
theorem dX6_newName_115 : decode cX6_newName 115 = .ok (.getfield 41, 3) := dk_180 0 41 (dk_at dksX6_newName_4 21 rfl rfl)
theorem dX6_newName_118 : decode cX6_newName 118 = .ok (.aload_n 0, 1) := dk_42 (dk_at dksX6_newName_5 0 rfl rfl)
theorem dX6_newName_119 : decode cX6_newName 119 = .ok (.getfield 52, 3) := dk_180 0 52 (dk_at dksX6_newName_5 1 rfl rfl)
theorem dX6_newName_122 : decode cX6_newName 122 = .ok (.isub, 1) := dk_100 (dk_at dksX6_newName_5 4 rfl rfl)
theorem dX6_newName_123 : decode cX6_newName 123 = .ok (.iastore, 1) := dk_79 (dk_at dksX6_newName_5 5 rfl rfl)
theorem dX6_newName_124 : decode cX6_newName 124 = .ok (.aload_n 0, 1) := dk_42 (dk_at dksX6_newName_5 6 rfl rfl)
theorem dX6_newName_125 : decode cX6_newName 125 = .ok (.getfield 25, 3) := dk_180 0 25 (dk_at dksX6_newName_5 7 rfl rfl)
theorem dX6_newName_128 : decode cX6_newName 128 = .ok (.dup, 1) := dk_89 (dk_at dksX6_newName_5 10 rfl rfl)
theorem dX6_newName_129 : decode cX6_newName 129 = .ok (.getfield 113, 3) := dk_180 0 113 (dk_at dksX6_newName_5 11 rfl rfl)
theorem dX6_newName_132 : decode cX6_newName 132 = .ok (.iconst 1, 1) := dk_4 (dk_at dksX6_newName_5 14 rfl rfl)
theorem dX6_newName_133 : decode cX6_newName 133 = .ok (.iadd, 1) := dk_96 (dk_at dksX6_newName_5 15 rfl rfl)
theorem dX6_newName_134 : decode cX6_newName 134 = .ok (.putfield 113, 3) := dk_181 0 113 (dk_at dksX6_newName_5 16 rfl rfl)
theorem dX6_newName_137 : decode cX6_newName 137 = .ok (.aload_n 0, 1) := dk_42 (dk_at dksX6_newName_5 19 rfl rfl)
theorem dX6_newName_138 : decode cX6_newName 138 = .ok (.invokevirtual 38, 3) := dk_182 0 38 (dk_at dksX6_newName_5 20 rfl rfl)
theorem dX6_newName_141 : decode cX6_newName 141 = .ok (.return_, 1) := dk_177 (dk_at dksX6_newName_5 23 rfl rfl)
abbrev cX6_name : ByteArray := prog_3_method_10_code
def yX6_name : MethodName := ⟨RX6, "name", "()I"⟩
def dkwX6_name_5 : List UInt8 := [172]
abbrev dktX6_name_5 : List UInt8 := dkwX6_name_5 ++ []
def dkwX6_name_4 : List UInt8 := [28, 96, 51, 159, 0, 6, 167, 0, 11, 132, 2, 1, 167, 255, 206, 27, 172, 132, 1, 1, 167, 255, 161, 2]
abbrev dktX6_name_4 : List UInt8 := dkwX6_name_4 ++ dktX6_name_5
def dkwX6_name_3 : List UInt8 := [180, 0, 25, 180, 0, 120, 16, 8, 27, 104, 28, 96, 51, 42, 180, 0, 3, 180, 0, 44, 42, 180, 0, 52]
abbrev dktX6_name_3 : List UInt8 := dkwX6_name_3 ++ dktX6_name_4
def dkwX6_name_2 : List UInt8 := [159, 0, 6, 167, 0, 60, 3, 61, 28, 42, 180, 0, 41, 42, 180, 0, 52, 100, 162, 0, 43, 42]
abbrev dktX6_name_2 : List UInt8 := dkwX6_name_2 ++ dktX6_name_3
def dkwX6_name_1 : List UInt8 := [180, 0, 113, 162, 0, 90, 42, 180, 0, 25, 180, 0, 116, 27, 46, 42, 180, 0, 41, 42, 180, 0, 52, 100]
abbrev dktX6_name_1 : List UInt8 := dkwX6_name_1 ++ dktX6_name_2
def dkwX6_name_0 : List UInt8 := [42, 180, 0, 35, 178, 0, 59, 165, 0, 9, 42, 4, 182, 0, 103, 191, 3, 60, 27, 42, 180, 0, 25]
abbrev dktX6_name_0 : List UInt8 := dkwX6_name_0 ++ dktX6_name_1
theorem dksX6_name_0 : cX6_name.data.toList.drop 0 = dktX6_name_0 := by decide +kernel
theorem dksX6_name_1 : cX6_name.data.toList.drop 23 = dktX6_name_1 := dk_seg dksX6_name_0 23 rfl rfl
theorem dksX6_name_2 : cX6_name.data.toList.drop 47 = dktX6_name_2 := dk_seg dksX6_name_1 24 rfl rfl
theorem dksX6_name_3 : cX6_name.data.toList.drop 69 = dktX6_name_3 := dk_seg dksX6_name_2 22 rfl rfl
theorem dksX6_name_4 : cX6_name.data.toList.drop 93 = dktX6_name_4 := dk_seg dksX6_name_3 24 rfl rfl
theorem dksX6_name_5 : cX6_name.data.toList.drop 117 = dktX6_name_5 := dk_seg dksX6_name_4 24 rfl rfl
theorem dX6_name_0 : decode cX6_name 0 = .ok (.aload_n 0, 1) := dk_42 (dk_at dksX6_name_0 0 rfl rfl)
theorem dX6_name_1 : decode cX6_name 1 = .ok (.getfield 35, 3) := dk_180 0 35 (dk_at dksX6_name_0 1 rfl rfl)
theorem dX6_name_4 : decode cX6_name 4 = .ok (.getstatic 59, 3) := dk_178 0 59 (dk_at dksX6_name_0 4 rfl rfl)
theorem dX6_name_7 : decode cX6_name 7 = .ok (.if_acmp .eq 9, 3) := dk_165 0 9 (dk_at dksX6_name_0 7 rfl rfl)
theorem dX6_name_10 : decode cX6_name 10 = .ok (.aload_n 0, 1) := dk_42 (dk_at dksX6_name_0 10 rfl rfl)
theorem dX6_name_11 : decode cX6_name 11 = .ok (.iconst 1, 1) := dk_4 (dk_at dksX6_name_0 11 rfl rfl)
theorem dX6_name_12 : decode cX6_name 12 = .ok (.invokevirtual 103, 3) := dk_182 0 103 (dk_at dksX6_name_0 12 rfl rfl)
theorem dX6_name_15 : decode cX6_name 15 = .ok (.athrow, 1) := dk_191 (dk_at dksX6_name_0 15 rfl rfl)
theorem dX6_name_16 : decode cX6_name 16 = .ok (.iconst 0, 1) := dk_3 (dk_at dksX6_name_0 16 rfl rfl)
theorem dX6_name_17 : decode cX6_name 17 = .ok (.istore_n 1, 1) := dk_60 (dk_at dksX6_name_0 17 rfl rfl)
theorem dX6_name_18 : decode cX6_name 18 = .ok (.iload_n 1, 1) := dk_27 (dk_at dksX6_name_0 18 rfl rfl)
theorem dX6_name_19 : decode cX6_name 19 = .ok (.aload_n 0, 1) := dk_42 (dk_at dksX6_name_0 19 rfl rfl)
theorem dX6_name_20 : decode cX6_name 20 = .ok (.getfield 25, 3) := dk_180 0 25 (dk_at dksX6_name_0 20 rfl rfl)
theorem dX6_name_23 : decode cX6_name 23 = .ok (.getfield 113, 3) := dk_180 0 113 (dk_at dksX6_name_1 0 rfl rfl)
theorem dX6_name_26 : decode cX6_name 26 = .ok (.if_icmp .ge 90, 3) := dk_162 0 90 (dk_at dksX6_name_1 3 rfl rfl)
theorem dX6_name_29 : decode cX6_name 29 = .ok (.aload_n 0, 1) := dk_42 (dk_at dksX6_name_1 6 rfl rfl)
theorem dX6_name_30 : decode cX6_name 30 = .ok (.getfield 25, 3) := dk_180 0 25 (dk_at dksX6_name_1 7 rfl rfl)
theorem dX6_name_33 : decode cX6_name 33 = .ok (.getfield 116, 3) := dk_180 0 116 (dk_at dksX6_name_1 10 rfl rfl)
theorem dX6_name_36 : decode cX6_name 36 = .ok (.iload_n 1, 1) := dk_27 (dk_at dksX6_name_1 13 rfl rfl)
theorem dX6_name_37 : decode cX6_name 37 = .ok (.iaload, 1) := dk_46 (dk_at dksX6_name_1 14 rfl rfl)
theorem dX6_name_38 : decode cX6_name 38 = .ok (.aload_n 0, 1) := dk_42 (dk_at dksX6_name_1 15 rfl rfl)
theorem dX6_name_39 : decode cX6_name 39 = .ok (.getfield 41, 3) := dk_180 0 41 (dk_at dksX6_name_1 16 rfl rfl)
theorem dX6_name_42 : decode cX6_name 42 = .ok (.aload_n 0, 1) := dk_42 (dk_at dksX6_name_1 19 rfl rfl)
theorem dX6_name_43 : decode cX6_name 43 = .ok (.getfield 52, 3) := dk_180 0 52 (dk_at dksX6_name_1 20 rfl rfl)
theorem dX6_name_46 : decode cX6_name 46 = .ok (.isub, 1) := dk_100 (dk_at dksX6_name_1 23 rfl rfl)
theorem dX6_name_47 : decode cX6_name 47 = .ok (.if_icmp .eq 6, 3) := dk_159 0 6 (dk_at dksX6_name_2 0 rfl rfl)
theorem dX6_name_50 : decode cX6_name 50 = .ok (.goto 60, 3) := dk_167 0 60 (dk_at dksX6_name_2 3 rfl rfl)
theorem dX6_name_53 : decode cX6_name 53 = .ok (.iconst 0, 1) := dk_3 (dk_at dksX6_name_2 6 rfl rfl)
theorem dX6_name_54 : decode cX6_name 54 = .ok (.istore_n 2, 1) := dk_61 (dk_at dksX6_name_2 7 rfl rfl)
theorem dX6_name_55 : decode cX6_name 55 = .ok (.iload_n 2, 1) := dk_28 (dk_at dksX6_name_2 8 rfl rfl)
theorem dX6_name_56 : decode cX6_name 56 = .ok (.aload_n 0, 1) := dk_42 (dk_at dksX6_name_2 9 rfl rfl)
theorem dX6_name_57 : decode cX6_name 57 = .ok (.getfield 41, 3) := dk_180 0 41 (dk_at dksX6_name_2 10 rfl rfl)
theorem dX6_name_60 : decode cX6_name 60 = .ok (.aload_n 0, 1) := dk_42 (dk_at dksX6_name_2 13 rfl rfl)
theorem dX6_name_61 : decode cX6_name 61 = .ok (.getfield 52, 3) := dk_180 0 52 (dk_at dksX6_name_2 14 rfl rfl)
theorem dX6_name_64 : decode cX6_name 64 = .ok (.isub, 1) := dk_100 (dk_at dksX6_name_2 17 rfl rfl)
theorem dX6_name_65 : decode cX6_name 65 = .ok (.if_icmp .ge 43, 3) := dk_162 0 43 (dk_at dksX6_name_2 18 rfl rfl)
theorem dX6_name_68 : decode cX6_name 68 = .ok (.aload_n 0, 1) := dk_42 (dk_at dksX6_name_2 21 rfl rfl)
theorem dX6_name_69 : decode cX6_name 69 = .ok (.getfield 25, 3) := dk_180 0 25 (dk_at dksX6_name_3 0 rfl rfl)
theorem dX6_name_72 : decode cX6_name 72 = .ok (.getfield 120, 3) := dk_180 0 120 (dk_at dksX6_name_3 3 rfl rfl)
theorem dX6_name_75 : decode cX6_name 75 = .ok (.bipush 8, 2) := dk_16 8 (dk_at dksX6_name_3 6 rfl rfl)
theorem dX6_name_77 : decode cX6_name 77 = .ok (.iload_n 1, 1) := dk_27 (dk_at dksX6_name_3 8 rfl rfl)
theorem dX6_name_78 : decode cX6_name 78 = .ok (.imul, 1) := dk_104 (dk_at dksX6_name_3 9 rfl rfl)
theorem dX6_name_79 : decode cX6_name 79 = .ok (.iload_n 2, 1) := dk_28 (dk_at dksX6_name_3 10 rfl rfl)
theorem dX6_name_80 : decode cX6_name 80 = .ok (.iadd, 1) := dk_96 (dk_at dksX6_name_3 11 rfl rfl)
theorem dX6_name_81 : decode cX6_name 81 = .ok (.baload, 1) := dk_51 (dk_at dksX6_name_3 12 rfl rfl)
theorem dX6_name_82 : decode cX6_name 82 = .ok (.aload_n 0, 1) := dk_42 (dk_at dksX6_name_3 13 rfl rfl)
theorem dX6_name_83 : decode cX6_name 83 = .ok (.getfield 3, 3) := dk_180 0 3 (dk_at dksX6_name_3 14 rfl rfl)
theorem dX6_name_86 : decode cX6_name 86 = .ok (.getfield 44, 3) := dk_180 0 44 (dk_at dksX6_name_3 17 rfl rfl)
theorem dX6_name_89 : decode cX6_name 89 = .ok (.aload_n 0, 1) := dk_42 (dk_at dksX6_name_3 20 rfl rfl)
theorem dX6_name_90 : decode cX6_name 90 = .ok (.getfield 52, 3) := dk_180 0 52 (dk_at dksX6_name_3 21 rfl rfl)
theorem dX6_name_93 : decode cX6_name 93 = .ok (.iload_n 2, 1) := dk_28 (dk_at dksX6_name_4 0 rfl rfl)
theorem dX6_name_94 : decode cX6_name 94 = .ok (.iadd, 1) := dk_96 (dk_at dksX6_name_4 1 rfl rfl)
theorem dX6_name_95 : decode cX6_name 95 = .ok (.baload, 1) := dk_51 (dk_at dksX6_name_4 2 rfl rfl)
theorem dX6_name_96 : decode cX6_name 96 = .ok (.if_icmp .eq 6, 3) := dk_159 0 6 (dk_at dksX6_name_4 3 rfl rfl)
theorem dX6_name_99 : decode cX6_name 99 = .ok (.goto 11, 3) := dk_167 0 11 (dk_at dksX6_name_4 6 rfl rfl)
theorem dX6_name_102 : decode cX6_name 102 = .ok (.iinc 2 1, 3) := dk_132 2 1 (dk_at dksX6_name_4 9 rfl rfl)
theorem dX6_name_105 : decode cX6_name 105 = .ok (.goto (-50), 3) := dk_167 255 206 (dk_at dksX6_name_4 12 rfl rfl)
theorem dX6_name_108 : decode cX6_name 108 = .ok (.iload_n 1, 1) := dk_27 (dk_at dksX6_name_4 15 rfl rfl)
theorem dX6_name_109 : decode cX6_name 109 = .ok (.ireturn, 1) := dk_172 (dk_at dksX6_name_4 16 rfl rfl)
theorem dX6_name_110 : decode cX6_name 110 = .ok (.iinc 1 1, 3) := dk_132 1 1 (dk_at dksX6_name_4 17 rfl rfl)
theorem dX6_name_113 : decode cX6_name 113 = .ok (.goto (-95), 3) := dk_167 255 161 (dk_at dksX6_name_4 20 rfl rfl)
theorem dX6_name_116 : decode cX6_name 116 = .ok (.iconst (-1), 1) := dk_2 (dk_at dksX6_name_4 23 rfl rfl)
theorem dX6_name_117 : decode cX6_name 117 = .ok (.ireturn, 1) := dk_172 (dk_at dksX6_name_5 0 rfl rfl)
abbrev cX6_line : ByteArray := prog_3_method_17_code
def yX6_line : MethodName := ⟨RX6, "line", "()V"⟩
def dkwX6_line_5 : List UInt8 := [167, 0, 13, 42, 18, 183, 182, 0, 127, 42, 182, 0, 185, 177]
abbrev dktX6_line_5 : List UInt8 := dkwX6_line_5 ++ []
def dkwX6_line_4 : List UInt8 := [180, 0, 150, 16, 6, 160, 0, 7, 4, 167, 0, 4, 3, 182, 0, 172, 153, 0, 10, 42, 182, 0, 180]
abbrev dktX6_line_4 : List UInt8 := dkwX6_line_4 ++ dktX6_line_5
def dkwX6_line_3 : List UInt8 := [180, 0, 25, 89, 180, 0, 169, 4, 96, 181, 0, 169, 167, 0, 46, 42, 18, 178, 42, 180, 0, 25]
abbrev dktX6_line_3 : List UInt8 := dkwX6_line_3 ++ dktX6_line_4
def dkwX6_line_2 : List UInt8 := [182, 0, 127, 42, 180, 0, 25, 180, 0, 175, 42, 180, 0, 25, 180, 0, 169, 42, 182, 0, 135, 79, 42]
abbrev dktX6_line_2 : List UInt8 := dkwX6_line_2 ++ dktX6_line_3
def dkwX6_line_1 : List UInt8 := [180, 0, 169, 16, 6, 160, 0, 7, 4, 167, 0, 4, 3, 182, 0, 172, 153, 0, 44, 42, 18, 155]
abbrev dktX6_line_1 : List UInt8 := dkwX6_line_1 ++ dktX6_line_2
def dkwX6_line_0 : List UInt8 := [42, 18, 162, 182, 0, 100, 153, 0, 10, 42, 182, 0, 164, 167, 0, 113, 42, 18, 167, 42, 180, 0, 25]
abbrev dktX6_line_0 : List UInt8 := dkwX6_line_0 ++ dktX6_line_1
theorem dksX6_line_0 : cX6_line.data.toList.drop 0 = dktX6_line_0 := by decide +kernel
theorem dksX6_line_1 : cX6_line.data.toList.drop 23 = dktX6_line_1 := dk_seg dksX6_line_0 23 rfl rfl
theorem dksX6_line_2 : cX6_line.data.toList.drop 45 = dktX6_line_2 := dk_seg dksX6_line_1 22 rfl rfl
theorem dksX6_line_3 : cX6_line.data.toList.drop 68 = dktX6_line_3 := dk_seg dksX6_line_2 23 rfl rfl
theorem dksX6_line_4 : cX6_line.data.toList.drop 90 = dktX6_line_4 := dk_seg dksX6_line_3 22 rfl rfl
theorem dksX6_line_5 : cX6_line.data.toList.drop 113 = dktX6_line_5 := dk_seg dksX6_line_4 23 rfl rfl
theorem dX6_line_0 : decode cX6_line 0 = .ok (.aload_n 0, 1) := dk_42 (dk_at dksX6_line_0 0 rfl rfl)
theorem dX6_line_1 : decode cX6_line 1 = .ok (.ldc 162, 2) := dk_18 162 (dk_at dksX6_line_0 1 rfl rfl)
theorem dX6_line_3 : decode cX6_line 3 = .ok (.invokevirtual 100, 3) := dk_182 0 100 (dk_at dksX6_line_0 3 rfl rfl)
theorem dX6_line_6 : decode cX6_line 6 = .ok (.ifCond .eq 10, 3) := dk_153 0 10 (dk_at dksX6_line_0 6 rfl rfl)
theorem dX6_line_9 : decode cX6_line 9 = .ok (.aload_n 0, 1) := dk_42 (dk_at dksX6_line_0 9 rfl rfl)
theorem dX6_line_10 : decode cX6_line 10 = .ok (.invokevirtual 164, 3) := dk_182 0 164 (dk_at dksX6_line_0 10 rfl rfl)
theorem dX6_line_13 : decode cX6_line 13 = .ok (.goto 113, 3) := dk_167 0 113 (dk_at dksX6_line_0 13 rfl rfl)
theorem dX6_line_16 : decode cX6_line 16 = .ok (.aload_n 0, 1) := dk_42 (dk_at dksX6_line_0 16 rfl rfl)
theorem dX6_line_17 : decode cX6_line 17 = .ok (.ldc 167, 2) := dk_18 167 (dk_at dksX6_line_0 17 rfl rfl)
theorem dX6_line_19 : decode cX6_line 19 = .ok (.aload_n 0, 1) := dk_42 (dk_at dksX6_line_0 19 rfl rfl)
theorem dX6_line_20 : decode cX6_line 20 = .ok (.getfield 25, 3) := dk_180 0 25 (dk_at dksX6_line_0 20 rfl rfl)
theorem dX6_line_23 : decode cX6_line 23 = .ok (.getfield 169, 3) := dk_180 0 169 (dk_at dksX6_line_1 0 rfl rfl)
theorem dX6_line_26 : decode cX6_line 26 = .ok (.bipush 6, 2) := dk_16 6 (dk_at dksX6_line_1 3 rfl rfl)
theorem dX6_line_28 : decode cX6_line 28 = .ok (.if_icmp .ne 7, 3) := dk_160 0 7 (dk_at dksX6_line_1 5 rfl rfl)
theorem dX6_line_31 : decode cX6_line 31 = .ok (.iconst 1, 1) := dk_4 (dk_at dksX6_line_1 8 rfl rfl)
theorem dX6_line_32 : decode cX6_line 32 = .ok (.goto 4, 3) := dk_167 0 4 (dk_at dksX6_line_1 9 rfl rfl)
theorem dX6_line_35 : decode cX6_line 35 = .ok (.iconst 0, 1) := dk_3 (dk_at dksX6_line_1 12 rfl rfl)
theorem dX6_line_36 : decode cX6_line 36 = .ok (.invokevirtual 172, 3) := dk_182 0 172 (dk_at dksX6_line_1 13 rfl rfl)
theorem dX6_line_39 : decode cX6_line 39 = .ok (.ifCond .eq 44, 3) := dk_153 0 44 (dk_at dksX6_line_1 16 rfl rfl)
theorem dX6_line_42 : decode cX6_line 42 = .ok (.aload_n 0, 1) := dk_42 (dk_at dksX6_line_1 19 rfl rfl)
theorem dX6_line_43 : decode cX6_line 43 = .ok (.ldc 155, 2) := dk_18 155 (dk_at dksX6_line_1 20 rfl rfl)
theorem dX6_line_45 : decode cX6_line 45 = .ok (.invokevirtual 127, 3) := dk_182 0 127 (dk_at dksX6_line_2 0 rfl rfl)
theorem dX6_line_48 : decode cX6_line 48 = .ok (.aload_n 0, 1) := dk_42 (dk_at dksX6_line_2 3 rfl rfl)
theorem dX6_line_49 : decode cX6_line 49 = .ok (.getfield 25, 3) := dk_180 0 25 (dk_at dksX6_line_2 4 rfl rfl)
theorem dX6_line_52 : decode cX6_line 52 = .ok (.getfield 175, 3) := dk_180 0 175 (dk_at dksX6_line_2 7 rfl rfl)
theorem dX6_line_55 : decode cX6_line 55 = .ok (.aload_n 0, 1) := dk_42 (dk_at dksX6_line_2 10 rfl rfl)
theorem dX6_line_56 : decode cX6_line 56 = .ok (.getfield 25, 3) := dk_180 0 25 (dk_at dksX6_line_2 11 rfl rfl)
theorem dX6_line_59 : decode cX6_line 59 = .ok (.getfield 169, 3) := dk_180 0 169 (dk_at dksX6_line_2 14 rfl rfl)
theorem dX6_line_62 : decode cX6_line 62 = .ok (.aload_n 0, 1) := dk_42 (dk_at dksX6_line_2 17 rfl rfl)
theorem dX6_line_63 : decode cX6_line 63 = .ok (.invokevirtual 135, 3) := dk_182 0 135 (dk_at dksX6_line_2 18 rfl rfl)
theorem dX6_line_66 : decode cX6_line 66 = .ok (.iastore, 1) := dk_79 (dk_at dksX6_line_2 21 rfl rfl)
theorem dX6_line_67 : decode cX6_line 67 = .ok (.aload_n 0, 1) := dk_42 (dk_at dksX6_line_2 22 rfl rfl)
theorem dX6_line_68 : decode cX6_line 68 = .ok (.getfield 25, 3) := dk_180 0 25 (dk_at dksX6_line_3 0 rfl rfl)
theorem dX6_line_71 : decode cX6_line 71 = .ok (.dup, 1) := dk_89 (dk_at dksX6_line_3 3 rfl rfl)
theorem dX6_line_72 : decode cX6_line 72 = .ok (.getfield 169, 3) := dk_180 0 169 (dk_at dksX6_line_3 4 rfl rfl)
theorem dX6_line_75 : decode cX6_line 75 = .ok (.iconst 1, 1) := dk_4 (dk_at dksX6_line_3 7 rfl rfl)
theorem dX6_line_76 : decode cX6_line 76 = .ok (.iadd, 1) := dk_96 (dk_at dksX6_line_3 8 rfl rfl)
theorem dX6_line_77 : decode cX6_line 77 = .ok (.putfield 169, 3) := dk_181 0 169 (dk_at dksX6_line_3 9 rfl rfl)
theorem dX6_line_80 : decode cX6_line 80 = .ok (.goto 46, 3) := dk_167 0 46 (dk_at dksX6_line_3 12 rfl rfl)
theorem dX6_line_83 : decode cX6_line 83 = .ok (.aload_n 0, 1) := dk_42 (dk_at dksX6_line_3 15 rfl rfl)
theorem dX6_line_84 : decode cX6_line 84 = .ok (.ldc 178, 2) := dk_18 178 (dk_at dksX6_line_3 16 rfl rfl)
theorem dX6_line_86 : decode cX6_line 86 = .ok (.aload_n 0, 1) := dk_42 (dk_at dksX6_line_3 18 rfl rfl)
theorem dX6_line_87 : decode cX6_line 87 = .ok (.getfield 25, 3) := dk_180 0 25 (dk_at dksX6_line_3 19 rfl rfl)
theorem dX6_line_90 : decode cX6_line 90 = .ok (.getfield 150, 3) := dk_180 0 150 (dk_at dksX6_line_4 0 rfl rfl)
theorem dX6_line_93 : decode cX6_line 93 = .ok (.bipush 6, 2) := dk_16 6 (dk_at dksX6_line_4 3 rfl rfl)
theorem dX6_line_95 : decode cX6_line 95 = .ok (.if_icmp .ne 7, 3) := dk_160 0 7 (dk_at dksX6_line_4 5 rfl rfl)
theorem dX6_line_98 : decode cX6_line 98 = .ok (.iconst 1, 1) := dk_4 (dk_at dksX6_line_4 8 rfl rfl)
theorem dX6_line_99 : decode cX6_line 99 = .ok (.goto 4, 3) := dk_167 0 4 (dk_at dksX6_line_4 9 rfl rfl)
theorem dX6_line_102 : decode cX6_line 102 = .ok (.iconst 0, 1) := dk_3 (dk_at dksX6_line_4 12 rfl rfl)
theorem dX6_line_103 : decode cX6_line 103 = .ok (.invokevirtual 172, 3) := dk_182 0 172 (dk_at dksX6_line_4 13 rfl rfl)
theorem dX6_line_106 : decode cX6_line 106 = .ok (.ifCond .eq 10, 3) := dk_153 0 10 (dk_at dksX6_line_4 16 rfl rfl)
theorem dX6_line_109 : decode cX6_line 109 = .ok (.aload_n 0, 1) := dk_42 (dk_at dksX6_line_4 19 rfl rfl)
theorem dX6_line_110 : decode cX6_line 110 = .ok (.invokevirtual 180, 3) := dk_182 0 180 (dk_at dksX6_line_4 20 rfl rfl)
theorem dX6_line_113 : decode cX6_line 113 = .ok (.goto 13, 3) := dk_167 0 13 (dk_at dksX6_line_5 0 rfl rfl)
theorem dX6_line_116 : decode cX6_line 116 = .ok (.aload_n 0, 1) := dk_42 (dk_at dksX6_line_5 3 rfl rfl)
theorem dX6_line_117 : decode cX6_line 117 = .ok (.ldc 183, 2) := dk_18 183 (dk_at dksX6_line_5 4 rfl rfl)
theorem dX6_line_119 : decode cX6_line 119 = .ok (.invokevirtual 127, 3) := dk_182 0 127 (dk_at dksX6_line_5 6 rfl rfl)
theorem dX6_line_122 : decode cX6_line 122 = .ok (.aload_n 0, 1) := dk_42 (dk_at dksX6_line_5 9 rfl rfl)
theorem dX6_line_123 : decode cX6_line 123 = .ok (.invokevirtual 185, 3) := dk_182 0 185 (dk_at dksX6_line_5 10 rfl rfl)
theorem dX6_line_126 : decode cX6_line 126 = .ok (.return_, 1) := dk_177 (dk_at dksX6_line_5 13 rfl rfl)
abbrev cX6_newShut : ByteArray := prog_3_method_13_code
def yX6_newShut : MethodName := ⟨RX6, "newShut", "()V"⟩
def dkwX6_newShut_1 : List UInt8 := [154, 0, 9, 42, 5, 182, 0, 103, 191, 42, 182, 0, 38, 42, 180, 0, 25, 27, 28, 4, 182, 0, 141, 177]
abbrev dktX6_newShut_1 : List UInt8 := dkwX6_newShut_1 ++ []
def dkwX6_newShut_0 : List UInt8 := [42, 182, 0, 135, 60, 42, 182, 0, 123, 61, 28, 2, 159, 0, 15, 42, 180, 0, 25, 27, 28, 182, 0, 138]
abbrev dktX6_newShut_0 : List UInt8 := dkwX6_newShut_0 ++ dktX6_newShut_1
theorem dksX6_newShut_0 : cX6_newShut.data.toList.drop 0 = dktX6_newShut_0 := by decide +kernel
theorem dksX6_newShut_1 : cX6_newShut.data.toList.drop 24 = dktX6_newShut_1 := dk_seg dksX6_newShut_0 24 rfl rfl
theorem dX6_newShut_0 : decode cX6_newShut 0 = .ok (.aload_n 0, 1) := dk_42 (dk_at dksX6_newShut_0 0 rfl rfl)
theorem dX6_newShut_1 : decode cX6_newShut 1 = .ok (.invokevirtual 135, 3) := dk_182 0 135 (dk_at dksX6_newShut_0 1 rfl rfl)
theorem dX6_newShut_4 : decode cX6_newShut 4 = .ok (.istore_n 1, 1) := dk_60 (dk_at dksX6_newShut_0 4 rfl rfl)
theorem dX6_newShut_5 : decode cX6_newShut 5 = .ok (.aload_n 0, 1) := dk_42 (dk_at dksX6_newShut_0 5 rfl rfl)
theorem dX6_newShut_6 : decode cX6_newShut 6 = .ok (.invokevirtual 123, 3) := dk_182 0 123 (dk_at dksX6_newShut_0 6 rfl rfl)
theorem dX6_newShut_9 : decode cX6_newShut 9 = .ok (.istore_n 2, 1) := dk_61 (dk_at dksX6_newShut_0 9 rfl rfl)
theorem dX6_newShut_10 : decode cX6_newShut 10 = .ok (.iload_n 2, 1) := dk_28 (dk_at dksX6_newShut_0 10 rfl rfl)
theorem dX6_newShut_11 : decode cX6_newShut 11 = .ok (.iconst (-1), 1) := dk_2 (dk_at dksX6_newShut_0 11 rfl rfl)
theorem dX6_newShut_12 : decode cX6_newShut 12 = .ok (.if_icmp .eq 15, 3) := dk_159 0 15 (dk_at dksX6_newShut_0 12 rfl rfl)
theorem dX6_newShut_15 : decode cX6_newShut 15 = .ok (.aload_n 0, 1) := dk_42 (dk_at dksX6_newShut_0 15 rfl rfl)
theorem dX6_newShut_16 : decode cX6_newShut 16 = .ok (.getfield 25, 3) := dk_180 0 25 (dk_at dksX6_newShut_0 16 rfl rfl)
theorem dX6_newShut_19 : decode cX6_newShut 19 = .ok (.iload_n 1, 1) := dk_27 (dk_at dksX6_newShut_0 19 rfl rfl)
theorem dX6_newShut_20 : decode cX6_newShut 20 = .ok (.iload_n 2, 1) := dk_28 (dk_at dksX6_newShut_0 20 rfl rfl)
theorem dX6_newShut_21 : decode cX6_newShut 21 = .ok (.invokevirtual 138, 3) := dk_182 0 138 (dk_at dksX6_newShut_0 21 rfl rfl)
theorem dX6_newShut_24 : decode cX6_newShut 24 = .ok (.ifCond .ne 9, 3) := dk_154 0 9 (dk_at dksX6_newShut_1 0 rfl rfl)
theorem dX6_newShut_27 : decode cX6_newShut 27 = .ok (.aload_n 0, 1) := dk_42 (dk_at dksX6_newShut_1 3 rfl rfl)
theorem dX6_newShut_28 : decode cX6_newShut 28 = .ok (.iconst 2, 1) := dk_5 (dk_at dksX6_newShut_1 4 rfl rfl)
theorem dX6_newShut_29 : decode cX6_newShut 29 = .ok (.invokevirtual 103, 3) := dk_182 0 103 (dk_at dksX6_newShut_1 5 rfl rfl)
theorem dX6_newShut_32 : decode cX6_newShut 32 = .ok (.athrow, 1) := dk_191 (dk_at dksX6_newShut_1 8 rfl rfl)
theorem dX6_newShut_33 : decode cX6_newShut 33 = .ok (.aload_n 0, 1) := dk_42 (dk_at dksX6_newShut_1 9 rfl rfl)
theorem dX6_newShut_34 : decode cX6_newShut 34 = .ok (.invokevirtual 38, 3) := dk_182 0 38 (dk_at dksX6_newShut_1 10 rfl rfl)
theorem dX6_newShut_37 : decode cX6_newShut 37 = .ok (.aload_n 0, 1) := dk_42 (dk_at dksX6_newShut_1 13 rfl rfl)
theorem dX6_newShut_38 : decode cX6_newShut 38 = .ok (.getfield 25, 3) := dk_180 0 25 (dk_at dksX6_newShut_1 14 rfl rfl)
theorem dX6_newShut_41 : decode cX6_newShut 41 = .ok (.iload_n 1, 1) := dk_27 (dk_at dksX6_newShut_1 17 rfl rfl)
theorem dX6_newShut_42 : decode cX6_newShut 42 = .ok (.iload_n 2, 1) := dk_28 (dk_at dksX6_newShut_1 18 rfl rfl)
theorem dX6_newShut_43 : decode cX6_newShut 43 = .ok (.iconst 1, 1) := dk_4 (dk_at dksX6_newShut_1 19 rfl rfl)
theorem dX6_newShut_44 : decode cX6_newShut 44 = .ok (.invokevirtual 141, 3) := dk_182 0 141 (dk_at dksX6_newShut_1 20 rfl rfl)
theorem dX6_newShut_47 : decode cX6_newShut 47 = .ok (.return_, 1) := dk_177 (dk_at dksX6_newShut_1 23 rfl rfl)
abbrev cX6_square : ByteArray := prog_3_method_9_code
def yX6_square : MethodName := ⟨RX6, "square", "()I"⟩
def dkwX6_square_0 : List UInt8 := [42, 3, 42, 180, 0, 25, 182, 0, 107, 4, 100, 182, 0, 110, 172]
abbrev dktX6_square_0 : List UInt8 := dkwX6_square_0 ++ []
theorem dksX6_square_0 : cX6_square.data.toList.drop 0 = dktX6_square_0 := by decide +kernel
theorem dX6_square_0 : decode cX6_square 0 = .ok (.aload_n 0, 1) := dk_42 (dk_at dksX6_square_0 0 rfl rfl)
theorem dX6_square_1 : decode cX6_square 1 = .ok (.iconst 0, 1) := dk_3 (dk_at dksX6_square_0 1 rfl rfl)
theorem dX6_square_2 : decode cX6_square 2 = .ok (.aload_n 0, 1) := dk_42 (dk_at dksX6_square_0 2 rfl rfl)
theorem dX6_square_3 : decode cX6_square 3 = .ok (.getfield 25, 3) := dk_180 0 25 (dk_at dksX6_square_0 3 rfl rfl)
theorem dX6_square_6 : decode cX6_square 6 = .ok (.invokevirtual 107, 3) := dk_182 0 107 (dk_at dksX6_square_0 6 rfl rfl)
theorem dX6_square_9 : decode cX6_square 9 = .ok (.iconst 1, 1) := dk_4 (dk_at dksX6_square_0 9 rfl rfl)
theorem dX6_square_10 : decode cX6_square 10 = .ok (.isub, 1) := dk_100 (dk_at dksX6_square_0 10 rfl rfl)
theorem dX6_square_11 : decode cX6_square 11 = .ok (.invokevirtual 110, 3) := dk_182 0 110 (dk_at dksX6_square_0 11 rfl rfl)
theorem dX6_square_14 : decode cX6_square 14 = .ok (.ireturn, 1) := dk_172 (dk_at dksX6_square_0 14 rfl rfl)
abbrev cX6_number : ByteArray := prog_3_method_8_code
def yX6_number : MethodName := ⟨RX6, "number", "(II)I"⟩
def dkwX6_number_1 : List UInt8 := [133, 184, 0, 48, 154, 0, 9, 42, 5, 182, 0, 103, 191, 42, 180, 0, 62, 62, 42, 182, 0, 38, 29, 172]
abbrev dktX6_number_1 : List UInt8 := dkwX6_number_1 ++ []
def dkwX6_number_0 : List UInt8 := [42, 180, 0, 35, 178, 0, 72, 165, 0, 9, 42, 4, 182, 0, 103, 191, 42, 180, 0, 62, 133, 27, 133, 28]
abbrev dktX6_number_0 : List UInt8 := dkwX6_number_0 ++ dktX6_number_1
theorem dksX6_number_0 : cX6_number.data.toList.drop 0 = dktX6_number_0 := by decide +kernel
theorem dksX6_number_1 : cX6_number.data.toList.drop 24 = dktX6_number_1 := dk_seg dksX6_number_0 24 rfl rfl
theorem dX6_number_0 : decode cX6_number 0 = .ok (.aload_n 0, 1) := dk_42 (dk_at dksX6_number_0 0 rfl rfl)
theorem dX6_number_1 : decode cX6_number 1 = .ok (.getfield 35, 3) := dk_180 0 35 (dk_at dksX6_number_0 1 rfl rfl)
theorem dX6_number_4 : decode cX6_number 4 = .ok (.getstatic 72, 3) := dk_178 0 72 (dk_at dksX6_number_0 4 rfl rfl)
theorem dX6_number_7 : decode cX6_number 7 = .ok (.if_acmp .eq 9, 3) := dk_165 0 9 (dk_at dksX6_number_0 7 rfl rfl)
theorem dX6_number_10 : decode cX6_number 10 = .ok (.aload_n 0, 1) := dk_42 (dk_at dksX6_number_0 10 rfl rfl)
theorem dX6_number_11 : decode cX6_number 11 = .ok (.iconst 1, 1) := dk_4 (dk_at dksX6_number_0 11 rfl rfl)
theorem dX6_number_12 : decode cX6_number 12 = .ok (.invokevirtual 103, 3) := dk_182 0 103 (dk_at dksX6_number_0 12 rfl rfl)
theorem dX6_number_15 : decode cX6_number 15 = .ok (.athrow, 1) := dk_191 (dk_at dksX6_number_0 15 rfl rfl)
theorem dX6_number_16 : decode cX6_number 16 = .ok (.aload_n 0, 1) := dk_42 (dk_at dksX6_number_0 16 rfl rfl)
theorem dX6_number_17 : decode cX6_number 17 = .ok (.getfield 62, 3) := dk_180 0 62 (dk_at dksX6_number_0 17 rfl rfl)
theorem dX6_number_20 : decode cX6_number 20 = .ok (.i2l, 1) := dk_133 (dk_at dksX6_number_0 20 rfl rfl)
theorem dX6_number_21 : decode cX6_number 21 = .ok (.iload_n 1, 1) := dk_27 (dk_at dksX6_number_0 21 rfl rfl)
theorem dX6_number_22 : decode cX6_number 22 = .ok (.i2l, 1) := dk_133 (dk_at dksX6_number_0 22 rfl rfl)
theorem dX6_number_23 : decode cX6_number 23 = .ok (.iload_n 2, 1) := dk_28 (dk_at dksX6_number_0 23 rfl rfl)
theorem dX6_number_24 : decode cX6_number 24 = .ok (.i2l, 1) := dk_133 (dk_at dksX6_number_1 0 rfl rfl)
theorem dX6_number_25 : decode cX6_number 25 = .ok (.invokestatic 48, 3) := dk_184 0 48 (dk_at dksX6_number_1 1 rfl rfl)
theorem dX6_number_28 : decode cX6_number 28 = .ok (.ifCond .ne 9, 3) := dk_154 0 9 (dk_at dksX6_number_1 4 rfl rfl)
theorem dX6_number_31 : decode cX6_number 31 = .ok (.aload_n 0, 1) := dk_42 (dk_at dksX6_number_1 7 rfl rfl)
theorem dX6_number_32 : decode cX6_number 32 = .ok (.iconst 2, 1) := dk_5 (dk_at dksX6_number_1 8 rfl rfl)
theorem dX6_number_33 : decode cX6_number 33 = .ok (.invokevirtual 103, 3) := dk_182 0 103 (dk_at dksX6_number_1 9 rfl rfl)
theorem dX6_number_36 : decode cX6_number 36 = .ok (.athrow, 1) := dk_191 (dk_at dksX6_number_1 12 rfl rfl)
theorem dX6_number_37 : decode cX6_number 37 = .ok (.aload_n 0, 1) := dk_42 (dk_at dksX6_number_1 13 rfl rfl)
theorem dX6_number_38 : decode cX6_number 38 = .ok (.getfield 62, 3) := dk_180 0 62 (dk_at dksX6_number_1 14 rfl rfl)
theorem dX6_number_41 : decode cX6_number 41 = .ok (.istore_n 3, 1) := dk_62 (dk_at dksX6_number_1 17 rfl rfl)
theorem dX6_number_42 : decode cX6_number 42 = .ok (.aload_n 0, 1) := dk_42 (dk_at dksX6_number_1 18 rfl rfl)
theorem dX6_number_43 : decode cX6_number 43 = .ok (.invokevirtual 38, 3) := dk_182 0 38 (dk_at dksX6_number_1 19 rfl rfl)
theorem dX6_number_46 : decode cX6_number 46 = .ok (.iload_n 3, 1) := dk_29 (dk_at dksX6_number_1 22 rfl rfl)
theorem dX6_number_47 : decode cX6_number 47 = .ok (.ireturn, 1) := dk_172 (dk_at dksX6_number_1 23 rfl rfl)
abbrev cX6_takes_2 : ByteArray := prog_3_method_16_code
def yX6_takes_2 : MethodName := ⟨RX6, "takes", "(Ljava/lang/String;Z)Z"⟩
def dkwX6_takes_2_0 : List UInt8 := [42, 43, 182, 0, 96, 153, 0, 13, 28, 153, 0, 9, 42, 6, 182, 0, 103, 191, 42, 43, 182, 0, 100, 172]
abbrev dktX6_takes_2_0 : List UInt8 := dkwX6_takes_2_0 ++ []
theorem dksX6_takes_2_0 : cX6_takes_2.data.toList.drop 0 = dktX6_takes_2_0 := by decide +kernel
theorem dX6_takes_2_0 : decode cX6_takes_2 0 = .ok (.aload_n 0, 1) := dk_42 (dk_at dksX6_takes_2_0 0 rfl rfl)
theorem dX6_takes_2_1 : decode cX6_takes_2 1 = .ok (.aload_n 1, 1) := dk_43 (dk_at dksX6_takes_2_0 1 rfl rfl)
theorem dX6_takes_2_2 : decode cX6_takes_2 2 = .ok (.invokevirtual 96, 3) := dk_182 0 96 (dk_at dksX6_takes_2_0 2 rfl rfl)
theorem dX6_takes_2_5 : decode cX6_takes_2 5 = .ok (.ifCond .eq 13, 3) := dk_153 0 13 (dk_at dksX6_takes_2_0 5 rfl rfl)
theorem dX6_takes_2_8 : decode cX6_takes_2 8 = .ok (.iload_n 2, 1) := dk_28 (dk_at dksX6_takes_2_0 8 rfl rfl)
theorem dX6_takes_2_9 : decode cX6_takes_2 9 = .ok (.ifCond .eq 9, 3) := dk_153 0 9 (dk_at dksX6_takes_2_0 9 rfl rfl)
theorem dX6_takes_2_12 : decode cX6_takes_2 12 = .ok (.aload_n 0, 1) := dk_42 (dk_at dksX6_takes_2_0 12 rfl rfl)
theorem dX6_takes_2_13 : decode cX6_takes_2 13 = .ok (.iconst 3, 1) := dk_6 (dk_at dksX6_takes_2_0 13 rfl rfl)
theorem dX6_takes_2_14 : decode cX6_takes_2 14 = .ok (.invokevirtual 103, 3) := dk_182 0 103 (dk_at dksX6_takes_2_0 14 rfl rfl)
theorem dX6_takes_2_17 : decode cX6_takes_2 17 = .ok (.athrow, 1) := dk_191 (dk_at dksX6_takes_2_0 17 rfl rfl)
theorem dX6_takes_2_18 : decode cX6_takes_2 18 = .ok (.aload_n 0, 1) := dk_42 (dk_at dksX6_takes_2_0 18 rfl rfl)
theorem dX6_takes_2_19 : decode cX6_takes_2 19 = .ok (.aload_n 1, 1) := dk_43 (dk_at dksX6_takes_2_0 19 rfl rfl)
theorem dX6_takes_2_20 : decode cX6_takes_2 20 = .ok (.invokevirtual 100, 3) := dk_182 0 100 (dk_at dksX6_takes_2_0 20 rfl rfl)
theorem dX6_takes_2_23 : decode cX6_takes_2 23 = .ok (.ireturn, 1) := dk_172 (dk_at dksX6_takes_2_0 23 rfl rfl)
abbrev cX6_newCarrier : ByteArray := prog_3_method_14_code
def yX6_newCarrier : MethodName := ⟨RX6, "newCarrier", "()V"⟩
def dkwX6_newCarrier_3 : List UInt8 := [180, 0, 150, 27, 79, 42, 180, 0, 25, 89, 180, 0, 150, 4, 96, 181, 0, 150, 177]
abbrev dktX6_newCarrier_3 : List UInt8 := dkwX6_newCarrier_3 ++ []
def dkwX6_newCarrier_2 : List UInt8 := [42, 180, 0, 25, 180, 0, 150, 42, 182, 0, 135, 79, 42, 180, 0, 25, 180, 0, 153, 42, 180, 0, 25]
abbrev dktX6_newCarrier_2 : List UInt8 := dkwX6_newCarrier_2 ++ dktX6_newCarrier_3
def dkwX6_newCarrier_1 : List UInt8 := [166, 0, 17, 42, 180, 0, 62, 27, 160, 0, 9, 42, 5, 182, 0, 103, 191, 42, 180, 0, 25, 180, 0, 148]
abbrev dktX6_newCarrier_1 : List UInt8 := dkwX6_newCarrier_1 ++ dktX6_newCarrier_2
def dkwX6_newCarrier_0 : List UInt8 := [42, 18, 145, 182, 0, 127, 42, 182, 0, 135, 60, 42, 18, 146, 182, 0, 127, 42, 180, 0, 35, 178, 0, 72]
abbrev dktX6_newCarrier_0 : List UInt8 := dkwX6_newCarrier_0 ++ dktX6_newCarrier_1
theorem dksX6_newCarrier_0 : cX6_newCarrier.data.toList.drop 0 = dktX6_newCarrier_0 := by decide +kernel
theorem dksX6_newCarrier_1 : cX6_newCarrier.data.toList.drop 24 = dktX6_newCarrier_1 := dk_seg dksX6_newCarrier_0 24 rfl rfl
theorem dksX6_newCarrier_2 : cX6_newCarrier.data.toList.drop 48 = dktX6_newCarrier_2 := dk_seg dksX6_newCarrier_1 24 rfl rfl
theorem dksX6_newCarrier_3 : cX6_newCarrier.data.toList.drop 71 = dktX6_newCarrier_3 := dk_seg dksX6_newCarrier_2 23 rfl rfl
theorem dX6_newCarrier_0 : decode cX6_newCarrier 0 = .ok (.aload_n 0, 1) := dk_42 (dk_at dksX6_newCarrier_0 0 rfl rfl)
theorem dX6_newCarrier_1 : decode cX6_newCarrier 1 = .ok (.ldc 145, 2) := dk_18 145 (dk_at dksX6_newCarrier_0 1 rfl rfl)
theorem dX6_newCarrier_3 : decode cX6_newCarrier 3 = .ok (.invokevirtual 127, 3) := dk_182 0 127 (dk_at dksX6_newCarrier_0 3 rfl rfl)
theorem dX6_newCarrier_6 : decode cX6_newCarrier 6 = .ok (.aload_n 0, 1) := dk_42 (dk_at dksX6_newCarrier_0 6 rfl rfl)
theorem dX6_newCarrier_7 : decode cX6_newCarrier 7 = .ok (.invokevirtual 135, 3) := dk_182 0 135 (dk_at dksX6_newCarrier_0 7 rfl rfl)
theorem dX6_newCarrier_10 : decode cX6_newCarrier 10 = .ok (.istore_n 1, 1) := dk_60 (dk_at dksX6_newCarrier_0 10 rfl rfl)
theorem dX6_newCarrier_11 : decode cX6_newCarrier 11 = .ok (.aload_n 0, 1) := dk_42 (dk_at dksX6_newCarrier_0 11 rfl rfl)
theorem dX6_newCarrier_12 : decode cX6_newCarrier 12 = .ok (.ldc 146, 2) := dk_18 146 (dk_at dksX6_newCarrier_0 12 rfl rfl)
theorem dX6_newCarrier_14 : decode cX6_newCarrier 14 = .ok (.invokevirtual 127, 3) := dk_182 0 127 (dk_at dksX6_newCarrier_0 14 rfl rfl)
theorem dX6_newCarrier_17 : decode cX6_newCarrier 17 = .ok (.aload_n 0, 1) := dk_42 (dk_at dksX6_newCarrier_0 17 rfl rfl)
theorem dX6_newCarrier_18 : decode cX6_newCarrier 18 = .ok (.getfield 35, 3) := dk_180 0 35 (dk_at dksX6_newCarrier_0 18 rfl rfl)
theorem dX6_newCarrier_21 : decode cX6_newCarrier 21 = .ok (.getstatic 72, 3) := dk_178 0 72 (dk_at dksX6_newCarrier_0 21 rfl rfl)
theorem dX6_newCarrier_24 : decode cX6_newCarrier 24 = .ok (.if_acmp .ne 17, 3) := dk_166 0 17 (dk_at dksX6_newCarrier_1 0 rfl rfl)
theorem dX6_newCarrier_27 : decode cX6_newCarrier 27 = .ok (.aload_n 0, 1) := dk_42 (dk_at dksX6_newCarrier_1 3 rfl rfl)
theorem dX6_newCarrier_28 : decode cX6_newCarrier 28 = .ok (.getfield 62, 3) := dk_180 0 62 (dk_at dksX6_newCarrier_1 4 rfl rfl)
theorem dX6_newCarrier_31 : decode cX6_newCarrier 31 = .ok (.iload_n 1, 1) := dk_27 (dk_at dksX6_newCarrier_1 7 rfl rfl)
theorem dX6_newCarrier_32 : decode cX6_newCarrier 32 = .ok (.if_icmp .ne 9, 3) := dk_160 0 9 (dk_at dksX6_newCarrier_1 8 rfl rfl)
theorem dX6_newCarrier_35 : decode cX6_newCarrier 35 = .ok (.aload_n 0, 1) := dk_42 (dk_at dksX6_newCarrier_1 11 rfl rfl)
theorem dX6_newCarrier_36 : decode cX6_newCarrier 36 = .ok (.iconst 2, 1) := dk_5 (dk_at dksX6_newCarrier_1 12 rfl rfl)
theorem dX6_newCarrier_37 : decode cX6_newCarrier 37 = .ok (.invokevirtual 103, 3) := dk_182 0 103 (dk_at dksX6_newCarrier_1 13 rfl rfl)
theorem dX6_newCarrier_40 : decode cX6_newCarrier 40 = .ok (.athrow, 1) := dk_191 (dk_at dksX6_newCarrier_1 16 rfl rfl)
theorem dX6_newCarrier_41 : decode cX6_newCarrier 41 = .ok (.aload_n 0, 1) := dk_42 (dk_at dksX6_newCarrier_1 17 rfl rfl)
theorem dX6_newCarrier_42 : decode cX6_newCarrier 42 = .ok (.getfield 25, 3) := dk_180 0 25 (dk_at dksX6_newCarrier_1 18 rfl rfl)
theorem dX6_newCarrier_45 : decode cX6_newCarrier 45 = .ok (.getfield 148, 3) := dk_180 0 148 (dk_at dksX6_newCarrier_1 21 rfl rfl)
theorem dX6_newCarrier_48 : decode cX6_newCarrier 48 = .ok (.aload_n 0, 1) := dk_42 (dk_at dksX6_newCarrier_2 0 rfl rfl)
theorem dX6_newCarrier_49 : decode cX6_newCarrier 49 = .ok (.getfield 25, 3) := dk_180 0 25 (dk_at dksX6_newCarrier_2 1 rfl rfl)
theorem dX6_newCarrier_52 : decode cX6_newCarrier 52 = .ok (.getfield 150, 3) := dk_180 0 150 (dk_at dksX6_newCarrier_2 4 rfl rfl)
theorem dX6_newCarrier_55 : decode cX6_newCarrier 55 = .ok (.aload_n 0, 1) := dk_42 (dk_at dksX6_newCarrier_2 7 rfl rfl)
theorem dX6_newCarrier_56 : decode cX6_newCarrier 56 = .ok (.invokevirtual 135, 3) := dk_182 0 135 (dk_at dksX6_newCarrier_2 8 rfl rfl)
theorem dX6_newCarrier_59 : decode cX6_newCarrier 59 = .ok (.iastore, 1) := dk_79 (dk_at dksX6_newCarrier_2 11 rfl rfl)
theorem dX6_newCarrier_60 : decode cX6_newCarrier 60 = .ok (.aload_n 0, 1) := dk_42 (dk_at dksX6_newCarrier_2 12 rfl rfl)
theorem dX6_newCarrier_61 : decode cX6_newCarrier 61 = .ok (.getfield 25, 3) := dk_180 0 25 (dk_at dksX6_newCarrier_2 13 rfl rfl)
theorem dX6_newCarrier_64 : decode cX6_newCarrier 64 = .ok (.getfield 153, 3) := dk_180 0 153 (dk_at dksX6_newCarrier_2 16 rfl rfl)
theorem dX6_newCarrier_67 : decode cX6_newCarrier 67 = .ok (.aload_n 0, 1) := dk_42 (dk_at dksX6_newCarrier_2 19 rfl rfl)
theorem dX6_newCarrier_68 : decode cX6_newCarrier 68 = .ok (.getfield 25, 3) := dk_180 0 25 (dk_at dksX6_newCarrier_2 20 rfl rfl)
theorem dX6_newCarrier_71 : decode cX6_newCarrier 71 = .ok (.getfield 150, 3) := dk_180 0 150 (dk_at dksX6_newCarrier_3 0 rfl rfl)
theorem dX6_newCarrier_74 : decode cX6_newCarrier 74 = .ok (.iload_n 1, 1) := dk_27 (dk_at dksX6_newCarrier_3 3 rfl rfl)
theorem dX6_newCarrier_75 : decode cX6_newCarrier 75 = .ok (.iastore, 1) := dk_79 (dk_at dksX6_newCarrier_3 4 rfl rfl)
theorem dX6_newCarrier_76 : decode cX6_newCarrier 76 = .ok (.aload_n 0, 1) := dk_42 (dk_at dksX6_newCarrier_3 5 rfl rfl)
theorem dX6_newCarrier_77 : decode cX6_newCarrier 77 = .ok (.getfield 25, 3) := dk_180 0 25 (dk_at dksX6_newCarrier_3 6 rfl rfl)
theorem dX6_newCarrier_80 : decode cX6_newCarrier 80 = .ok (.dup, 1) := dk_89 (dk_at dksX6_newCarrier_3 9 rfl rfl)
theorem dX6_newCarrier_81 : decode cX6_newCarrier 81 = .ok (.getfield 150, 3) := dk_180 0 150 (dk_at dksX6_newCarrier_3 10 rfl rfl)
theorem dX6_newCarrier_84 : decode cX6_newCarrier 84 = .ok (.iconst 1, 1) := dk_4 (dk_at dksX6_newCarrier_3 13 rfl rfl)
theorem dX6_newCarrier_85 : decode cX6_newCarrier 85 = .ok (.iadd, 1) := dk_96 (dk_at dksX6_newCarrier_3 14 rfl rfl)
theorem dX6_newCarrier_86 : decode cX6_newCarrier 86 = .ok (.putfield 150, 3) := dk_181 0 150 (dk_at dksX6_newCarrier_3 15 rfl rfl)
theorem dX6_newCarrier_89 : decode cX6_newCarrier 89 = .ok (.return_, 1) := dk_177 (dk_at dksX6_newCarrier_3 18 rfl rfl)
abbrev cX6_newWarden : ByteArray := prog_3_method_15_code
def yX6_newWarden : MethodName := ⟨RX6, "newWarden", "()V"⟩
def dkwX6_newWarden_2 : List UInt8 := [5, 182, 0, 103, 191, 42, 180, 0, 25, 89, 180, 0, 156, 4, 42, 182, 0, 135, 120, 128, 181, 0, 156, 177]
abbrev dktX6_newWarden_2 : List UInt8 := dkwX6_newWarden_2 ++ []
def dkwX6_newWarden_1 : List UInt8 := [182, 0, 107, 162, 0, 26, 42, 180, 0, 25, 180, 0, 156, 42, 180, 0, 62, 184, 0, 159, 153, 0, 9, 42]
abbrev dktX6_newWarden_1 : List UInt8 := dkwX6_newWarden_1 ++ dktX6_newWarden_2
def dkwX6_newWarden_0 : List UInt8 := [42, 18, 155, 182, 0, 127, 42, 180, 0, 35, 178, 0, 72, 166, 0, 40, 42, 180, 0, 62, 42, 180, 0, 25]
abbrev dktX6_newWarden_0 : List UInt8 := dkwX6_newWarden_0 ++ dktX6_newWarden_1
theorem dksX6_newWarden_0 : cX6_newWarden.data.toList.drop 0 = dktX6_newWarden_0 := by decide +kernel
theorem dksX6_newWarden_1 : cX6_newWarden.data.toList.drop 24 = dktX6_newWarden_1 := dk_seg dksX6_newWarden_0 24 rfl rfl
theorem dksX6_newWarden_2 : cX6_newWarden.data.toList.drop 48 = dktX6_newWarden_2 := dk_seg dksX6_newWarden_1 24 rfl rfl
theorem dX6_newWarden_0 : decode cX6_newWarden 0 = .ok (.aload_n 0, 1) := dk_42 (dk_at dksX6_newWarden_0 0 rfl rfl)
theorem dX6_newWarden_1 : decode cX6_newWarden 1 = .ok (.ldc 155, 2) := dk_18 155 (dk_at dksX6_newWarden_0 1 rfl rfl)
theorem dX6_newWarden_3 : decode cX6_newWarden 3 = .ok (.invokevirtual 127, 3) := dk_182 0 127 (dk_at dksX6_newWarden_0 3 rfl rfl)
theorem dX6_newWarden_6 : decode cX6_newWarden 6 = .ok (.aload_n 0, 1) := dk_42 (dk_at dksX6_newWarden_0 6 rfl rfl)
theorem dX6_newWarden_7 : decode cX6_newWarden 7 = .ok (.getfield 35, 3) := dk_180 0 35 (dk_at dksX6_newWarden_0 7 rfl rfl)
theorem dX6_newWarden_10 : decode cX6_newWarden 10 = .ok (.getstatic 72, 3) := dk_178 0 72 (dk_at dksX6_newWarden_0 10 rfl rfl)
theorem dX6_newWarden_13 : decode cX6_newWarden 13 = .ok (.if_acmp .ne 40, 3) := dk_166 0 40 (dk_at dksX6_newWarden_0 13 rfl rfl)
theorem dX6_newWarden_16 : decode cX6_newWarden 16 = .ok (.aload_n 0, 1) := dk_42 (dk_at dksX6_newWarden_0 16 rfl rfl)
theorem dX6_newWarden_17 : decode cX6_newWarden 17 = .ok (.getfield 62, 3) := dk_180 0 62 (dk_at dksX6_newWarden_0 17 rfl rfl)
theorem dX6_newWarden_20 : decode cX6_newWarden 20 = .ok (.aload_n 0, 1) := dk_42 (dk_at dksX6_newWarden_0 20 rfl rfl)
theorem dX6_newWarden_21 : decode cX6_newWarden 21 = .ok (.getfield 25, 3) := dk_180 0 25 (dk_at dksX6_newWarden_0 21 rfl rfl)
theorem dX6_newWarden_24 : decode cX6_newWarden 24 = .ok (.invokevirtual 107, 3) := dk_182 0 107 (dk_at dksX6_newWarden_1 0 rfl rfl)
theorem dX6_newWarden_27 : decode cX6_newWarden 27 = .ok (.if_icmp .ge 26, 3) := dk_162 0 26 (dk_at dksX6_newWarden_1 3 rfl rfl)
theorem dX6_newWarden_30 : decode cX6_newWarden 30 = .ok (.aload_n 0, 1) := dk_42 (dk_at dksX6_newWarden_1 6 rfl rfl)
theorem dX6_newWarden_31 : decode cX6_newWarden 31 = .ok (.getfield 25, 3) := dk_180 0 25 (dk_at dksX6_newWarden_1 7 rfl rfl)
theorem dX6_newWarden_34 : decode cX6_newWarden 34 = .ok (.getfield 156, 3) := dk_180 0 156 (dk_at dksX6_newWarden_1 10 rfl rfl)
theorem dX6_newWarden_37 : decode cX6_newWarden 37 = .ok (.aload_n 0, 1) := dk_42 (dk_at dksX6_newWarden_1 13 rfl rfl)
theorem dX6_newWarden_38 : decode cX6_newWarden 38 = .ok (.getfield 62, 3) := dk_180 0 62 (dk_at dksX6_newWarden_1 14 rfl rfl)
theorem dX6_newWarden_41 : decode cX6_newWarden 41 = .ok (.invokestatic 159, 3) := dk_184 0 159 (dk_at dksX6_newWarden_1 17 rfl rfl)
theorem dX6_newWarden_44 : decode cX6_newWarden 44 = .ok (.ifCond .eq 9, 3) := dk_153 0 9 (dk_at dksX6_newWarden_1 20 rfl rfl)
theorem dX6_newWarden_47 : decode cX6_newWarden 47 = .ok (.aload_n 0, 1) := dk_42 (dk_at dksX6_newWarden_1 23 rfl rfl)
theorem dX6_newWarden_48 : decode cX6_newWarden 48 = .ok (.iconst 2, 1) := dk_5 (dk_at dksX6_newWarden_2 0 rfl rfl)
theorem dX6_newWarden_49 : decode cX6_newWarden 49 = .ok (.invokevirtual 103, 3) := dk_182 0 103 (dk_at dksX6_newWarden_2 1 rfl rfl)
theorem dX6_newWarden_52 : decode cX6_newWarden 52 = .ok (.athrow, 1) := dk_191 (dk_at dksX6_newWarden_2 4 rfl rfl)
theorem dX6_newWarden_53 : decode cX6_newWarden 53 = .ok (.aload_n 0, 1) := dk_42 (dk_at dksX6_newWarden_2 5 rfl rfl)
theorem dX6_newWarden_54 : decode cX6_newWarden 54 = .ok (.getfield 25, 3) := dk_180 0 25 (dk_at dksX6_newWarden_2 6 rfl rfl)
theorem dX6_newWarden_57 : decode cX6_newWarden 57 = .ok (.dup, 1) := dk_89 (dk_at dksX6_newWarden_2 9 rfl rfl)
theorem dX6_newWarden_58 : decode cX6_newWarden 58 = .ok (.getfield 156, 3) := dk_180 0 156 (dk_at dksX6_newWarden_2 10 rfl rfl)
theorem dX6_newWarden_61 : decode cX6_newWarden 61 = .ok (.iconst 1, 1) := dk_4 (dk_at dksX6_newWarden_2 13 rfl rfl)
theorem dX6_newWarden_62 : decode cX6_newWarden 62 = .ok (.aload_n 0, 1) := dk_42 (dk_at dksX6_newWarden_2 14 rfl rfl)
theorem dX6_newWarden_63 : decode cX6_newWarden 63 = .ok (.invokevirtual 135, 3) := dk_182 0 135 (dk_at dksX6_newWarden_2 15 rfl rfl)
theorem dX6_newWarden_66 : decode cX6_newWarden 66 = .ok (.ishl, 1) := dk_120 (dk_at dksX6_newWarden_2 18 rfl rfl)
theorem dX6_newWarden_67 : decode cX6_newWarden 67 = .ok (.ior, 1) := dk_128 (dk_at dksX6_newWarden_2 19 rfl rfl)
theorem dX6_newWarden_68 : decode cX6_newWarden 68 = .ok (.putfield 156, 3) := dk_181 0 156 (dk_at dksX6_newWarden_2 20 rfl rfl)
theorem dX6_newWarden_71 : decode cX6_newWarden 71 = .ok (.return_, 1) := dk_177 (dk_at dksX6_newWarden_2 23 rfl rfl)
theorem q156 : (Jvm.Cond.initialized "HiddenCube$Reader") ∈ lw_all := lw_g (lw_at lw_m1 7 rfl) rfl
theorem q192 : (Jvm.Cond.fieldLinkNest "HiddenCube$Reader" (113 : Nat) "HiddenCube$Town" "names" "I" "HiddenCube") ∈ lw_tbl := lw_at lw_m1 43 rfl
theorem q195 : (Jvm.Cond.fieldLinkNest "HiddenCube$Reader" (188 : Nat) "HiddenCube$Town" "lines" "I" "HiddenCube") ∈ lw_tbl := lw_at lw_m1 46 rfl
theorem q197 : (Jvm.Cond.fieldLinkNest "HiddenCube$Reader" (120 : Nat) "HiddenCube$Town" "letters" "[B" "HiddenCube") ∈ lw_tbl := lw_at lw_m1 48 rfl
theorem q200 : (Jvm.Cond.fieldLinkNest "HiddenCube$Reader" (116 : Nat) "HiddenCube$Town" "lengths" "[I" "HiddenCube") ∈ lw_tbl := lw_at lw_m1 51 rfl
theorem q203 : (Jvm.Cond.fieldLinkNest "HiddenCube$Reader" (175 : Nat) "HiddenCube$Town" "people" "[I" "HiddenCube") ∈ lw_tbl := lw_at lw_m1 54 rfl
theorem q206 : (Jvm.Cond.fieldLinkNest "HiddenCube$Reader" (153 : Nat) "HiddenCube$Town" "from" "[I" "HiddenCube") ∈ lw_tbl := lw_at lw_m1 57 rfl
theorem q209 : (Jvm.Cond.fieldLinkNest "HiddenCube$Reader" (148 : Nat) "HiddenCube$Town" "to" "[I" "HiddenCube") ∈ lw_tbl := lw_at lw_m1 60 rfl
theorem q214 : (Jvm.Cond.fieldLinkNest "HiddenCube$Reader" (169 : Nat) "HiddenCube$Town" "persons" "I" "HiddenCube") ∈ lw_tbl := lw_at lw_m1 65 rfl
theorem q217 : (Jvm.Cond.fieldLinkNest "HiddenCube$Reader" (150 : Nat) "HiddenCube$Town" "carriers" "I" "HiddenCube") ∈ lw_tbl := lw_at lw_m1 68 rfl
theorem q220 : (Jvm.Cond.fieldLinkNest "HiddenCube$Reader" (156 : Nat) "HiddenCube$Town" "wardens" "I" "HiddenCube") ∈ lw_tbl := lw_at lw_m1 71 rfl
theorem q298 : (Jvm.Cond.fieldLinkNest "HiddenCube$Reader" (44 : Nat) "HiddenCube" "tape" "[B" "HiddenCube") ∈ lw_tbl := lw_at lw_m1 149 rfl
theorem q300 : (Jvm.Cond.fieldLinkNest "HiddenCube$Reader" (15 : Nat) "HiddenCube" "taped" "I" "HiddenCube") ∈ lw_tbl := lw_at lw_m1 151 rfl
theorem q438 : (Jvm.Cond.instantiable "HiddenCube$Reader" (7 : Nat)) ∈ lw_all := lw_g (lw_at lw_m2 49 rfl) rfl
theorem q440 : (Jvm.Cond.instanceMethod ({ cls := "HiddenCube$Reader", name := "<init>", desc := "(LHiddenCube;)V" } : Jvm.MethodName)) ∈ lw_all := lw_g (lw_at lw_m2 51 rfl) rfl
theorem q441 : (Jvm.Cond.code ({ cls := "HiddenCube$Reader", name := "<init>", desc := "(LHiddenCube;)V" } : Jvm.MethodName) prog_3_method_1_code (2 : Nat) (Option.none : Option Jvm.ClassFile.FieldType)) ∈ lw_all := lw_g (lw_at lw_m2 52 rfl) rfl
theorem q442 : (Jvm.Cond.methodLink "HiddenCube$Reader" (9 : Nat) ({ cls := "java/lang/Object", name := "<init>", desc := "()V" } : Jvm.MethodName)) ∈ lw_all := lw_g (lw_at lw_m2 53 rfl) rfl
theorem q443 : (Jvm.Cond.classLink "HiddenCube$Reader" (22 : Nat) "HiddenCube$Town") ∈ lw_all := lw_g (lw_at lw_m2 54 rfl) rfl
theorem q444 : (Jvm.Cond.methodLinkNest "HiddenCube$Reader" (24 : Nat) ({ cls := "HiddenCube$Town", name := "<init>", desc := "()V" } : Jvm.MethodName) "HiddenCube") ∈ lw_tbl := lw_at lw_m2 55 rfl
theorem q445 : (Jvm.Cond.fieldLink "HiddenCube$Reader" (29 : Nat) "HiddenCube$Token" "END" "LHiddenCube$Token;") ∈ lw_all := lw_g (lw_at lw_m2 56 rfl) rfl
theorem q447 : (Jvm.Cond.methodLink "HiddenCube$Reader" (38 : Nat) ({ cls := "HiddenCube$Reader", name := "next", desc := "()V" } : Jvm.MethodName)) ∈ lw_all := lw_g (lw_at lw_m2 58 rfl) rfl
theorem q448 : (Jvm.Cond.privateMethod ({ cls := "HiddenCube$Reader", name := "next", desc := "()V" } : Jvm.MethodName)) ∈ lw_tbl := lw_at lw_m2 59 rfl
theorem q449 : (Jvm.Cond.instanceMethod ({ cls := "HiddenCube$Reader", name := "next", desc := "()V" } : Jvm.MethodName)) ∈ lw_all := lw_g (lw_at lw_m2 60 rfl) rfl
theorem q450 : (Jvm.Cond.code ({ cls := "HiddenCube$Reader", name := "next", desc := "()V" } : Jvm.MethodName) prog_3_method_3_code (1 : Nat) (Option.none : Option Jvm.ClassFile.FieldType)) ∈ lw_all := lw_g (lw_at lw_m2 61 rfl) rfl
theorem q451 : (Jvm.Cond.methodLink "HiddenCube$Reader" (55 : Nat) ({ cls := "HiddenCube$Reader", name := "isNext", desc := "(II)Z" } : Jvm.MethodName)) ∈ lw_all := lw_g (lw_at lw_m2 62 rfl) rfl
theorem q452 : (Jvm.Cond.privateMethod ({ cls := "HiddenCube$Reader", name := "isNext", desc := "(II)Z" } : Jvm.MethodName)) ∈ lw_tbl := lw_at lw_m2 63 rfl
theorem q453 : (Jvm.Cond.instanceMethod ({ cls := "HiddenCube$Reader", name := "isNext", desc := "(II)Z" } : Jvm.MethodName)) ∈ lw_all := lw_g (lw_at lw_m2 64 rfl) rfl
theorem q454 : (Jvm.Cond.code ({ cls := "HiddenCube$Reader", name := "isNext", desc := "(II)Z" } : Jvm.MethodName) prog_3_method_2_code (3 : Nat) (Option.some Jvm.ClassFile.FieldType.boolean)) ∈ lw_all := lw_g (lw_at lw_m2 65 rfl) rfl
theorem q455 : (Jvm.Cond.methodLinkNest "HiddenCube$Reader" (48 : Nat) ({ cls := "HiddenCube", name := "isIn", desc := "(JJJ)Z" } : Jvm.MethodName) "HiddenCube") ∈ lw_tbl := lw_at lw_m2 66 rfl
theorem q456 : (Jvm.Cond.fieldLink "HiddenCube$Reader" (59 : Nat) "HiddenCube$Token" "WORD" "LHiddenCube$Token;") ∈ lw_all := lw_g (lw_at lw_m2 67 rfl) rfl
theorem q458 : (Jvm.Cond.constant "HiddenCube$Reader" (65 : Nat) (99999 : Int32)) ∈ lw_all := lw_g (lw_at lw_m2 69 rfl) rfl
theorem q459 : (Jvm.Cond.methodLink "HiddenCube$Reader" (66 : Nat) ({ cls := "java/lang/Math", name := "min", desc := "(II)I" } : Jvm.MethodName)) ∈ lw_all := lw_g (lw_at lw_m2 70 rfl) rfl
theorem q462 : (Jvm.Cond.fieldLink "HiddenCube$Reader" (72 : Nat) "HiddenCube$Token" "NUMBER" "LHiddenCube$Token;") ∈ lw_all := lw_g (lw_at lw_m2 73 rfl) rfl
theorem q464 : (Jvm.Cond.fieldLink "HiddenCube$Reader" (75 : Nat) "HiddenCube$Token" "STOP" "LHiddenCube$Token;") ∈ lw_all := lw_g (lw_at lw_m2 75 rfl) rfl
theorem q466 : (Jvm.Cond.fieldLink "HiddenCube$Reader" (78 : Nat) "HiddenCube$Token" "NONE" "LHiddenCube$Token;") ∈ lw_all := lw_g (lw_at lw_m2 77 rfl) rfl
theorem q468 : (Jvm.Cond.fieldLink "HiddenCube$Reader" (19 : Nat) "HiddenCube$Reader" "size" "I") ∈ lw_all := lw_g (lw_at lw_m2 79 rfl) rfl
theorem q469 : (Jvm.Cond.fieldLink "HiddenCube$Reader" (25 : Nat) "HiddenCube$Reader" "town" "LHiddenCube$Town;") ∈ lw_all := lw_g (lw_at lw_m2 80 rfl) rfl
theorem q470 : (Jvm.Cond.fieldLink "HiddenCube$Reader" (41 : Nat) "HiddenCube$Reader" "at" "I") ∈ lw_all := lw_g (lw_at lw_m2 81 rfl) rfl
theorem q471 : (Jvm.Cond.fieldLink "HiddenCube$Reader" (52 : Nat) "HiddenCube$Reader" "from" "I") ∈ lw_all := lw_g (lw_at lw_m2 82 rfl) rfl
theorem q472 : (Jvm.Cond.fieldLink "HiddenCube$Reader" (62 : Nat) "HiddenCube$Reader" "value" "I") ∈ lw_all := lw_g (lw_at lw_m2 83 rfl) rfl
theorem q473 : (Jvm.Cond.fieldLink "HiddenCube$Reader" (35 : Nat) "HiddenCube$Reader" "token" "LHiddenCube$Token;") ∈ lw_all := lw_g (lw_at lw_m2 84 rfl) rfl
theorem q474 : (Jvm.Cond.fieldLink "HiddenCube$Reader" (3 : Nat) "HiddenCube$Reader" "this$0" "LHiddenCube;") ∈ lw_all := lw_g (lw_at lw_m2 85 rfl) rfl
theorem q475 : (Jvm.Cond.laysFinal "HiddenCube$Reader" "HiddenCube$Reader" "size" "I") ∈ lw_all := lw_g (lw_at lw_m2 86 rfl) rfl
theorem q476 : (Jvm.Cond.soleField "HiddenCube$Reader" "size") ∈ lw_all := lw_g (lw_at lw_m2 87 rfl) rfl
theorem q477 : (Jvm.Cond.laysFinal "HiddenCube$Reader" "HiddenCube$Reader" "town" "LHiddenCube$Town;") ∈ lw_all := lw_g (lw_at lw_m2 88 rfl) rfl
theorem q478 : (Jvm.Cond.soleField "HiddenCube$Reader" "town") ∈ lw_all := lw_g (lw_at lw_m2 89 rfl) rfl
theorem q479 : (Jvm.Cond.lays "HiddenCube$Reader" "HiddenCube$Reader" "at" "I") ∈ lw_all := lw_g (lw_at lw_m2 90 rfl) rfl
theorem q480 : (Jvm.Cond.soleField "HiddenCube$Reader" "at") ∈ lw_all := lw_g (lw_at lw_m2 91 rfl) rfl
theorem q481 : (Jvm.Cond.lays "HiddenCube$Reader" "HiddenCube$Reader" "from" "I") ∈ lw_all := lw_g (lw_at lw_m2 92 rfl) rfl
theorem q482 : (Jvm.Cond.soleField "HiddenCube$Reader" "from") ∈ lw_all := lw_g (lw_at lw_m2 93 rfl) rfl
theorem q483 : (Jvm.Cond.lays "HiddenCube$Reader" "HiddenCube$Reader" "value" "I") ∈ lw_all := lw_g (lw_at lw_m2 94 rfl) rfl
theorem q484 : (Jvm.Cond.soleField "HiddenCube$Reader" "value") ∈ lw_all := lw_g (lw_at lw_m2 95 rfl) rfl
theorem q485 : (Jvm.Cond.lays "HiddenCube$Reader" "HiddenCube$Reader" "token" "LHiddenCube$Token;") ∈ lw_all := lw_g (lw_at lw_m2 96 rfl) rfl
theorem q486 : (Jvm.Cond.soleField "HiddenCube$Reader" "token") ∈ lw_all := lw_g (lw_at lw_m2 97 rfl) rfl
theorem q487 : (Jvm.Cond.laysFinal "HiddenCube$Reader" "HiddenCube$Reader" "this$0" "LHiddenCube;") ∈ lw_all := lw_g (lw_at lw_m2 98 rfl) rfl
theorem q488 : (Jvm.Cond.soleField "HiddenCube$Reader" "this$0") ∈ lw_all := lw_g (lw_at lw_m2 99 rfl) rfl
theorem q489 : (Jvm.Cond.superclass "HiddenCube$Reader" "java/lang/Object") ∈ lw_all := lw_g (lw_at lw_m2 100 rfl) rfl
theorem q491 : (Jvm.Cond.instanceMethod ({ cls := "HiddenCube$Reader", name := "read", desc := "()LHiddenCube$Town;" } : Jvm.MethodName)) ∈ lw_all := lw_g (lw_at lw_m2 102 rfl) rfl
theorem q492 : (Jvm.Cond.selects "HiddenCube$Reader" ({ cls := "HiddenCube$Reader", name := "read", desc := "()LHiddenCube$Town;" } : Jvm.MethodName) ({ cls := "HiddenCube$Reader", name := "read", desc := "()LHiddenCube$Town;" } : Jvm.MethodName)) ∈ lw_all := lw_g (lw_at lw_m2 103 rfl) rfl
theorem q493 : (Jvm.Cond.code ({ cls := "HiddenCube$Reader", name := "read", desc := "()LHiddenCube$Town;" } : Jvm.MethodName) prog_3_method_18_code (1 : Nat) (Option.some (Jvm.ClassFile.FieldType.object "HiddenCube$Town"))) ∈ lw_all := lw_g (lw_at lw_m2 104 rfl) rfl
theorem q494 : (Jvm.Cond.methodLink "HiddenCube$Reader" (191 : Nat) ({ cls := "HiddenCube$Reader", name := "first", desc := "()V" } : Jvm.MethodName)) ∈ lw_all := lw_g (lw_at lw_m2 105 rfl) rfl
theorem q495 : (Jvm.Cond.privateMethod ({ cls := "HiddenCube$Reader", name := "first", desc := "()V" } : Jvm.MethodName)) ∈ lw_tbl := lw_at lw_m2 106 rfl
theorem q496 : (Jvm.Cond.instanceMethod ({ cls := "HiddenCube$Reader", name := "first", desc := "()V" } : Jvm.MethodName)) ∈ lw_all := lw_g (lw_at lw_m2 107 rfl) rfl
theorem q497 : (Jvm.Cond.code ({ cls := "HiddenCube$Reader", name := "first", desc := "()V" } : Jvm.MethodName) prog_3_method_12_code (1 : Nat) (Option.none : Option Jvm.ClassFile.FieldType)) ∈ lw_all := lw_g (lw_at lw_m2 108 rfl) rfl
theorem q498 : (Jvm.Cond.stringRef "HiddenCube$Reader" (126 : Nat) "town") ∈ lw_tbl := lw_at lw_m2 109 rfl
theorem q499 : (Jvm.Cond.methodLink "HiddenCube$Reader" (127 : Nat) ({ cls := "HiddenCube$Reader", name := "needs", desc := "(Ljava/lang/String;)V" } : Jvm.MethodName)) ∈ lw_all := lw_g (lw_at lw_m2 110 rfl) rfl
theorem q500 : (Jvm.Cond.privateMethod ({ cls := "HiddenCube$Reader", name := "needs", desc := "(Ljava/lang/String;)V" } : Jvm.MethodName)) ∈ lw_tbl := lw_at lw_m2 111 rfl
theorem q501 : (Jvm.Cond.instanceMethod ({ cls := "HiddenCube$Reader", name := "needs", desc := "(Ljava/lang/String;)V" } : Jvm.MethodName)) ∈ lw_all := lw_g (lw_at lw_m2 112 rfl) rfl
theorem q502 : (Jvm.Cond.code ({ cls := "HiddenCube$Reader", name := "needs", desc := "(Ljava/lang/String;)V" } : Jvm.MethodName) prog_3_method_7_code (2 : Nat) (Option.none : Option Jvm.ClassFile.FieldType)) ∈ lw_all := lw_g (lw_at lw_m2 113 rfl) rfl
theorem q503 : (Jvm.Cond.methodLink "HiddenCube$Reader" (100 : Nat) ({ cls := "HiddenCube$Reader", name := "takes", desc := "(Ljava/lang/String;)Z" } : Jvm.MethodName)) ∈ lw_all := lw_g (lw_at lw_m2 114 rfl) rfl
theorem q504 : (Jvm.Cond.privateMethod ({ cls := "HiddenCube$Reader", name := "takes", desc := "(Ljava/lang/String;)Z" } : Jvm.MethodName)) ∈ lw_tbl := lw_at lw_m2 115 rfl
theorem q505 : (Jvm.Cond.instanceMethod ({ cls := "HiddenCube$Reader", name := "takes", desc := "(Ljava/lang/String;)Z" } : Jvm.MethodName)) ∈ lw_all := lw_g (lw_at lw_m2 116 rfl) rfl
theorem q506 : (Jvm.Cond.code ({ cls := "HiddenCube$Reader", name := "takes", desc := "(Ljava/lang/String;)Z" } : Jvm.MethodName) prog_3_method_6_code (3 : Nat) (Option.some Jvm.ClassFile.FieldType.boolean)) ∈ lw_all := lw_g (lw_at lw_m2 117 rfl) rfl
theorem q507 : (Jvm.Cond.methodLink "HiddenCube$Reader" (96 : Nat) ({ cls := "HiddenCube$Reader", name := "is", desc := "(Ljava/lang/String;)Z" } : Jvm.MethodName)) ∈ lw_all := lw_g (lw_at lw_m2 118 rfl) rfl
theorem q508 : (Jvm.Cond.privateMethod ({ cls := "HiddenCube$Reader", name := "is", desc := "(Ljava/lang/String;)Z" } : Jvm.MethodName)) ∈ lw_tbl := lw_at lw_m2 119 rfl
theorem q509 : (Jvm.Cond.instanceMethod ({ cls := "HiddenCube$Reader", name := "is", desc := "(Ljava/lang/String;)Z" } : Jvm.MethodName)) ∈ lw_all := lw_g (lw_at lw_m2 120 rfl) rfl
theorem q510 : (Jvm.Cond.code ({ cls := "HiddenCube$Reader", name := "is", desc := "(Ljava/lang/String;)Z" } : Jvm.MethodName) prog_3_method_5_code (3 : Nat) (Option.some Jvm.ClassFile.FieldType.boolean)) ∈ lw_all := lw_g (lw_at lw_m2 121 rfl) rfl
theorem q511 : (Jvm.Cond.methodLink "HiddenCube$Reader" (86 : Nat) ({ cls := "java/lang/String", name := "length", desc := "()I" } : Jvm.MethodName)) ∈ lw_all := lw_g (lw_at lw_m2 122 rfl) rfl
theorem q521 : (Jvm.Cond.methodLink "HiddenCube$Reader" (92 : Nat) ({ cls := "java/lang/String", name := "charAt", desc := "(I)C" } : Jvm.MethodName)) ∈ lw_all := lw_g (lw_at lw_m2 132 rfl) rfl
theorem q559 : (Jvm.Cond.methodLink "HiddenCube$Reader" (103 : Nat) ({ cls := "HiddenCube$Reader", name := "wrong", desc := "(I)LHiddenCube$Fault;" } : Jvm.MethodName)) ∈ lw_all := lw_g (lw_at lw_m2 170 rfl) rfl
theorem q560 : (Jvm.Cond.privateMethod ({ cls := "HiddenCube$Reader", name := "wrong", desc := "(I)LHiddenCube$Fault;" } : Jvm.MethodName)) ∈ lw_tbl := lw_at lw_m2 171 rfl
theorem q561 : (Jvm.Cond.instanceMethod ({ cls := "HiddenCube$Reader", name := "wrong", desc := "(I)LHiddenCube$Fault;" } : Jvm.MethodName)) ∈ lw_all := lw_g (lw_at lw_m2 172 rfl) rfl
theorem q562 : (Jvm.Cond.code ({ cls := "HiddenCube$Reader", name := "wrong", desc := "(I)LHiddenCube$Fault;" } : Jvm.MethodName) prog_3_method_4_code (2 : Nat) (Option.some (Jvm.ClassFile.FieldType.object "HiddenCube$Fault"))) ∈ lw_all := lw_g (lw_at lw_m2 173 rfl) rfl
theorem q563 : (Jvm.Cond.classLink "HiddenCube$Reader" (81 : Nat) "HiddenCube$Fault") ∈ lw_all := lw_g (lw_at lw_m2 174 rfl) rfl
theorem q617 : (Jvm.Cond.methodLink "HiddenCube$Reader" (83 : Nat) ({ cls := "HiddenCube$Fault", name := "<init>", desc := "(II)V" } : Jvm.MethodName)) ∈ lw_all := lw_g (lw_at lw_m2 228 rfl) rfl
theorem q647 : (Jvm.Cond.stringRef "HiddenCube$Reader" (131 : Nat) "names") ∈ lw_tbl := lw_at lw_m3 18 rfl
theorem q648 : (Jvm.Cond.methodLink "HiddenCube$Reader" (132 : Nat) ({ cls := "HiddenCube$Reader", name := "newName", desc := "()V" } : Jvm.MethodName)) ∈ lw_all := lw_g (lw_at lw_m3 19 rfl) rfl
theorem q649 : (Jvm.Cond.privateMethod ({ cls := "HiddenCube$Reader", name := "newName", desc := "()V" } : Jvm.MethodName)) ∈ lw_tbl := lw_at lw_m3 20 rfl
theorem q650 : (Jvm.Cond.instanceMethod ({ cls := "HiddenCube$Reader", name := "newName", desc := "()V" } : Jvm.MethodName)) ∈ lw_all := lw_g (lw_at lw_m3 21 rfl) rfl
theorem q651 : (Jvm.Cond.code ({ cls := "HiddenCube$Reader", name := "newName", desc := "()V" } : Jvm.MethodName) prog_3_method_11_code (2 : Nat) (Option.none : Option Jvm.ClassFile.FieldType)) ∈ lw_all := lw_g (lw_at lw_m3 22 rfl) rfl
theorem q652 : (Jvm.Cond.methodLink "HiddenCube$Reader" (123 : Nat) ({ cls := "HiddenCube$Reader", name := "name", desc := "()I" } : Jvm.MethodName)) ∈ lw_all := lw_g (lw_at lw_m3 23 rfl) rfl
theorem q653 : (Jvm.Cond.privateMethod ({ cls := "HiddenCube$Reader", name := "name", desc := "()I" } : Jvm.MethodName)) ∈ lw_tbl := lw_at lw_m3 24 rfl
theorem q654 : (Jvm.Cond.instanceMethod ({ cls := "HiddenCube$Reader", name := "name", desc := "()I" } : Jvm.MethodName)) ∈ lw_all := lw_g (lw_at lw_m3 25 rfl) rfl
theorem q655 : (Jvm.Cond.code ({ cls := "HiddenCube$Reader", name := "name", desc := "()I" } : Jvm.MethodName) prog_3_method_10_code (3 : Nat) (Option.some Jvm.ClassFile.FieldType.int)) ∈ lw_all := lw_g (lw_at lw_m3 26 rfl) rfl
theorem q656 : (Jvm.Cond.methodLink "HiddenCube$Reader" (194 : Nat) ({ cls := "HiddenCube$Reader", name := "line", desc := "()V" } : Jvm.MethodName)) ∈ lw_all := lw_g (lw_at lw_m3 27 rfl) rfl
theorem q657 : (Jvm.Cond.privateMethod ({ cls := "HiddenCube$Reader", name := "line", desc := "()V" } : Jvm.MethodName)) ∈ lw_tbl := lw_at lw_m3 28 rfl
theorem q658 : (Jvm.Cond.instanceMethod ({ cls := "HiddenCube$Reader", name := "line", desc := "()V" } : Jvm.MethodName)) ∈ lw_all := lw_g (lw_at lw_m3 29 rfl) rfl
theorem q659 : (Jvm.Cond.code ({ cls := "HiddenCube$Reader", name := "line", desc := "()V" } : Jvm.MethodName) prog_3_method_17_code (1 : Nat) (Option.none : Option Jvm.ClassFile.FieldType)) ∈ lw_all := lw_g (lw_at lw_m3 30 rfl) rfl
theorem q660 : (Jvm.Cond.stringRef "HiddenCube$Reader" (162 : Nat) "shut") ∈ lw_tbl := lw_at lw_m3 31 rfl
theorem q661 : (Jvm.Cond.methodLink "HiddenCube$Reader" (164 : Nat) ({ cls := "HiddenCube$Reader", name := "newShut", desc := "()V" } : Jvm.MethodName)) ∈ lw_all := lw_g (lw_at lw_m3 32 rfl) rfl
theorem q662 : (Jvm.Cond.privateMethod ({ cls := "HiddenCube$Reader", name := "newShut", desc := "()V" } : Jvm.MethodName)) ∈ lw_tbl := lw_at lw_m3 33 rfl
theorem q663 : (Jvm.Cond.instanceMethod ({ cls := "HiddenCube$Reader", name := "newShut", desc := "()V" } : Jvm.MethodName)) ∈ lw_all := lw_g (lw_at lw_m3 34 rfl) rfl
theorem q664 : (Jvm.Cond.code ({ cls := "HiddenCube$Reader", name := "newShut", desc := "()V" } : Jvm.MethodName) prog_3_method_13_code (3 : Nat) (Option.none : Option Jvm.ClassFile.FieldType)) ∈ lw_all := lw_g (lw_at lw_m3 35 rfl) rfl
theorem q665 : (Jvm.Cond.methodLink "HiddenCube$Reader" (135 : Nat) ({ cls := "HiddenCube$Reader", name := "square", desc := "()I" } : Jvm.MethodName)) ∈ lw_all := lw_g (lw_at lw_m3 36 rfl) rfl
theorem q666 : (Jvm.Cond.privateMethod ({ cls := "HiddenCube$Reader", name := "square", desc := "()I" } : Jvm.MethodName)) ∈ lw_tbl := lw_at lw_m3 37 rfl
theorem q667 : (Jvm.Cond.instanceMethod ({ cls := "HiddenCube$Reader", name := "square", desc := "()I" } : Jvm.MethodName)) ∈ lw_all := lw_g (lw_at lw_m3 38 rfl) rfl
theorem q668 : (Jvm.Cond.code ({ cls := "HiddenCube$Reader", name := "square", desc := "()I" } : Jvm.MethodName) prog_3_method_9_code (1 : Nat) (Option.some Jvm.ClassFile.FieldType.int)) ∈ lw_all := lw_g (lw_at lw_m3 39 rfl) rfl
theorem q669 : (Jvm.Cond.methodLink "HiddenCube$Reader" (107 : Nat) ({ cls := "HiddenCube$Town", name := "squares", desc := "()I" } : Jvm.MethodName)) ∈ lw_all := lw_g (lw_at lw_m3 40 rfl) rfl
theorem q673 : (Jvm.Cond.methodLink "HiddenCube$Reader" (110 : Nat) ({ cls := "HiddenCube$Reader", name := "number", desc := "(II)I" } : Jvm.MethodName)) ∈ lw_all := lw_g (lw_at lw_m3 44 rfl) rfl
theorem q674 : (Jvm.Cond.privateMethod ({ cls := "HiddenCube$Reader", name := "number", desc := "(II)I" } : Jvm.MethodName)) ∈ lw_tbl := lw_at lw_m3 45 rfl
theorem q675 : (Jvm.Cond.instanceMethod ({ cls := "HiddenCube$Reader", name := "number", desc := "(II)I" } : Jvm.MethodName)) ∈ lw_all := lw_g (lw_at lw_m3 46 rfl) rfl
theorem q676 : (Jvm.Cond.code ({ cls := "HiddenCube$Reader", name := "number", desc := "(II)I" } : Jvm.MethodName) prog_3_method_8_code (4 : Nat) (Option.some Jvm.ClassFile.FieldType.int)) ∈ lw_all := lw_g (lw_at lw_m3 47 rfl) rfl
theorem q677 : (Jvm.Cond.methodLink "HiddenCube$Reader" (138 : Nat) ({ cls := "HiddenCube$Town", name := "isOpen", desc := "(II)Z" } : Jvm.MethodName)) ∈ lw_all := lw_g (lw_at lw_m3 48 rfl) rfl
theorem q684 : (Jvm.Cond.methodLink "HiddenCube$Reader" (141 : Nat) ({ cls := "HiddenCube$Town", name := "sets", desc := "(III)V" } : Jvm.MethodName)) ∈ lw_all := lw_g (lw_at lw_m3 55 rfl) rfl
theorem q688 : (Jvm.Cond.stringRef "HiddenCube$Reader" (167 : Nat) "person") ∈ lw_tbl := lw_at lw_m3 59 rfl
theorem q689 : (Jvm.Cond.methodLink "HiddenCube$Reader" (172 : Nat) ({ cls := "HiddenCube$Reader", name := "takes", desc := "(Ljava/lang/String;Z)Z" } : Jvm.MethodName)) ∈ lw_all := lw_g (lw_at lw_m3 60 rfl) rfl
theorem q690 : (Jvm.Cond.privateMethod ({ cls := "HiddenCube$Reader", name := "takes", desc := "(Ljava/lang/String;Z)Z" } : Jvm.MethodName)) ∈ lw_tbl := lw_at lw_m3 61 rfl
theorem q691 : (Jvm.Cond.instanceMethod ({ cls := "HiddenCube$Reader", name := "takes", desc := "(Ljava/lang/String;Z)Z" } : Jvm.MethodName)) ∈ lw_all := lw_g (lw_at lw_m3 62 rfl) rfl
theorem q692 : (Jvm.Cond.code ({ cls := "HiddenCube$Reader", name := "takes", desc := "(Ljava/lang/String;Z)Z" } : Jvm.MethodName) prog_3_method_16_code (3 : Nat) (Option.some Jvm.ClassFile.FieldType.boolean)) ∈ lw_all := lw_g (lw_at lw_m3 63 rfl) rfl
theorem q693 : (Jvm.Cond.stringRef "HiddenCube$Reader" (155 : Nat) "at") ∈ lw_tbl := lw_at lw_m3 64 rfl
theorem q694 : (Jvm.Cond.stringRef "HiddenCube$Reader" (178 : Nat) "carrier") ∈ lw_tbl := lw_at lw_m3 65 rfl
theorem q695 : (Jvm.Cond.methodLink "HiddenCube$Reader" (180 : Nat) ({ cls := "HiddenCube$Reader", name := "newCarrier", desc := "()V" } : Jvm.MethodName)) ∈ lw_all := lw_g (lw_at lw_m3 66 rfl) rfl
theorem q696 : (Jvm.Cond.privateMethod ({ cls := "HiddenCube$Reader", name := "newCarrier", desc := "()V" } : Jvm.MethodName)) ∈ lw_tbl := lw_at lw_m3 67 rfl
theorem q697 : (Jvm.Cond.instanceMethod ({ cls := "HiddenCube$Reader", name := "newCarrier", desc := "()V" } : Jvm.MethodName)) ∈ lw_all := lw_g (lw_at lw_m3 68 rfl) rfl
theorem q698 : (Jvm.Cond.code ({ cls := "HiddenCube$Reader", name := "newCarrier", desc := "()V" } : Jvm.MethodName) prog_3_method_14_code (2 : Nat) (Option.none : Option Jvm.ClassFile.FieldType)) ∈ lw_all := lw_g (lw_at lw_m3 69 rfl) rfl
theorem q699 : (Jvm.Cond.stringRef "HiddenCube$Reader" (145 : Nat) "from") ∈ lw_tbl := lw_at lw_m3 70 rfl
theorem q700 : (Jvm.Cond.stringRef "HiddenCube$Reader" (146 : Nat) "to") ∈ lw_tbl := lw_at lw_m3 71 rfl
theorem q701 : (Jvm.Cond.stringRef "HiddenCube$Reader" (183 : Nat) "warden") ∈ lw_tbl := lw_at lw_m3 72 rfl
theorem q702 : (Jvm.Cond.methodLink "HiddenCube$Reader" (185 : Nat) ({ cls := "HiddenCube$Reader", name := "newWarden", desc := "()V" } : Jvm.MethodName)) ∈ lw_all := lw_g (lw_at lw_m3 73 rfl) rfl
theorem q703 : (Jvm.Cond.privateMethod ({ cls := "HiddenCube$Reader", name := "newWarden", desc := "()V" } : Jvm.MethodName)) ∈ lw_tbl := lw_at lw_m3 74 rfl
theorem q704 : (Jvm.Cond.instanceMethod ({ cls := "HiddenCube$Reader", name := "newWarden", desc := "()V" } : Jvm.MethodName)) ∈ lw_all := lw_g (lw_at lw_m3 75 rfl) rfl
theorem q705 : (Jvm.Cond.code ({ cls := "HiddenCube$Reader", name := "newWarden", desc := "()V" } : Jvm.MethodName) prog_3_method_15_code (1 : Nat) (Option.none : Option Jvm.ClassFile.FieldType)) ∈ lw_all := lw_g (lw_at lw_m3 76 rfl) rfl
theorem q706 : (Jvm.Cond.methodLinkNest "HiddenCube$Reader" (159 : Nat) ({ cls := "HiddenCube", name := "has", desc := "(II)Z" } : Jvm.MethodName) "HiddenCube") ∈ lw_tbl := lw_at lw_m3 77 rfl
theorem in_X6 : ∀ w ∈ wsX60, w ∈ lw_all := lw_in wsX60 [475, 477, 479, 481, 483, 485, 487] (by decide +kernel) (by decide +kernel)
/-! HiddenCube$Fault -/
set_option maxRecDepth 100000
def RX7 : String := "HiddenCube$Fault"
def TX7 : u_T := fun k => match k with
  | 0 => ("java/lang/Throwable", "cause", "Ljava/lang/Throwable;", false)
  | 1 => ("java/lang/Throwable", "stackTrace", "[Ljava/lang/StackTraceElement;", false)
  | 2 => ("java/lang/Throwable", "suppressedExceptions", "Ljava/util/List;", false)
  | 3 => ("java/lang/Throwable", "detailMessage", "Ljava/lang/String;", false)
  | 4 => ("java/lang/Throwable", "backtrace", "Ljava/lang/Object;", false)
  | 5 => ("java/lang/Throwable", "depth", "I", false)
  | 6 => ("HiddenCube$Fault", "kind", "I", true)
  | _ => ("HiddenCube$Fault", "place", "I", true)
def tyX7 : Nat → FieldType := fun k => match k with
  | 0 => .object "java/lang/Throwable"
  | 1 => .array (.object "java/lang/StackTraceElement")
  | 2 => .object "java/util/List"
  | 3 => .object "java/lang/String"
  | 4 => .object "java/lang/Object"
  | 5 => .int
  | 6 => .int
  | _ => .int
abbrev wsX70 : List Cond := u_ws RX7 TX7 8
theorem nmX7 : ∀ a, a < 8 → ∀ b, b < 8 → a ≠ b → (TX7 a).2.1 ≠ (TX7 b).2.1 := by decide +kernel
theorem tyX7_ok : ∀ k, k < 8 → parseFieldDescriptor (TX7 k).2.2.1 = some (tyX7 k) := by decide +kernel
abbrev cX7_init : ByteArray := prog_2_method_1_code
def yX7_init : MethodName := ⟨RX7, "<init>", "(II)V"⟩
def dkwX7_init_0 : List UInt8 := [42, 1, 1, 3, 3, 183, 0, 1, 42, 27, 181, 0, 7, 42, 28, 181, 0, 13, 177]
abbrev dktX7_init_0 : List UInt8 := dkwX7_init_0 ++ []
theorem dksX7_init_0 : cX7_init.data.toList.drop 0 = dktX7_init_0 := by decide +kernel
theorem dX7_init_0 : decode cX7_init 0 = .ok (.aload_n 0, 1) := dk_42 (dk_at dksX7_init_0 0 rfl rfl)
theorem dX7_init_1 : decode cX7_init 1 = .ok (.aconst_null, 1) := dk_1 (dk_at dksX7_init_0 1 rfl rfl)
theorem dX7_init_2 : decode cX7_init 2 = .ok (.aconst_null, 1) := dk_1 (dk_at dksX7_init_0 2 rfl rfl)
theorem dX7_init_3 : decode cX7_init 3 = .ok (.iconst 0, 1) := dk_3 (dk_at dksX7_init_0 3 rfl rfl)
theorem dX7_init_4 : decode cX7_init 4 = .ok (.iconst 0, 1) := dk_3 (dk_at dksX7_init_0 4 rfl rfl)
theorem dX7_init_5 : decode cX7_init 5 = .ok (.invokespecial 1, 3) := dk_183 0 1 (dk_at dksX7_init_0 5 rfl rfl)
theorem dX7_init_8 : decode cX7_init 8 = .ok (.aload_n 0, 1) := dk_42 (dk_at dksX7_init_0 8 rfl rfl)
theorem dX7_init_9 : decode cX7_init 9 = .ok (.iload_n 1, 1) := dk_27 (dk_at dksX7_init_0 9 rfl rfl)
theorem dX7_init_10 : decode cX7_init 10 = .ok (.putfield 7, 3) := dk_181 0 7 (dk_at dksX7_init_0 10 rfl rfl)
theorem dX7_init_13 : decode cX7_init 13 = .ok (.aload_n 0, 1) := dk_42 (dk_at dksX7_init_0 13 rfl rfl)
theorem dX7_init_14 : decode cX7_init 14 = .ok (.iload_n 2, 1) := dk_28 (dk_at dksX7_init_0 14 rfl rfl)
theorem dX7_init_15 : decode cX7_init 15 = .ok (.putfield 13, 3) := dk_181 0 13 (dk_at dksX7_init_0 15 rfl rfl)
theorem dX7_init_18 : decode cX7_init 18 = .ok (.return_, 1) := dk_177 (dk_at dksX7_init_0 18 rfl rfl)
theorem q166 : (Jvm.Cond.initialized "HiddenCube$Fault") ∈ lw_all := lw_g (lw_at lw_m1 17 rfl) rfl
theorem q564 : (Jvm.Cond.instantiable "HiddenCube$Fault" (8 : Nat)) ∈ lw_all := lw_g (lw_at lw_m2 175 rfl) rfl
theorem q565 : (Jvm.Cond.castable "HiddenCube$Fault" "HiddenCube$Fault") ∈ lw_tbl := lw_at lw_m2 176 rfl
theorem q570 : (Jvm.Cond.selects "HiddenCube$Fault" ({ cls := "java/lang/Throwable", name := "fillInStackTrace", desc := "(I)Ljava/lang/Throwable;" } : Jvm.MethodName) ({ cls := "java/lang/Throwable", name := "fillInStackTrace", desc := "(I)Ljava/lang/Throwable;" } : Jvm.MethodName)) ∈ lw_all := lw_g (lw_at lw_m2 181 rfl) rfl
theorem q571 : (Jvm.Cond.selects "HiddenCube$Fault" ({ cls := "java/lang/Throwable", name := "fillInStackTrace", desc := "()Ljava/lang/Throwable;" } : Jvm.MethodName) ({ cls := "java/lang/Throwable", name := "fillInStackTrace", desc := "()Ljava/lang/Throwable;" } : Jvm.MethodName)) ∈ lw_all := lw_g (lw_at lw_m2 182 rfl) rfl
theorem q572 : (Jvm.Cond.lays "HiddenCube$Fault" "java/lang/Throwable" "cause" "Ljava/lang/Throwable;") ∈ lw_all := lw_g (lw_at lw_m2 183 rfl) rfl
theorem q574 : (Jvm.Cond.lays "HiddenCube$Fault" "java/lang/Throwable" "stackTrace" "[Ljava/lang/StackTraceElement;") ∈ lw_all := lw_g (lw_at lw_m2 185 rfl) rfl
theorem q576 : (Jvm.Cond.lays "HiddenCube$Fault" "java/lang/Throwable" "suppressedExceptions" "Ljava/util/List;") ∈ lw_all := lw_g (lw_at lw_m2 187 rfl) rfl
theorem q578 : (Jvm.Cond.lays "HiddenCube$Fault" "java/lang/Throwable" "detailMessage" "Ljava/lang/String;") ∈ lw_all := lw_g (lw_at lw_m2 189 rfl) rfl
theorem q580 : (Jvm.Cond.lays "HiddenCube$Fault" "java/lang/Throwable" "backtrace" "Ljava/lang/Object;") ∈ lw_all := lw_g (lw_at lw_m2 191 rfl) rfl
theorem q618 : (Jvm.Cond.instanceMethod ({ cls := "HiddenCube$Fault", name := "<init>", desc := "(II)V" } : Jvm.MethodName)) ∈ lw_all := lw_g (lw_at lw_m2 229 rfl) rfl
theorem q619 : (Jvm.Cond.code ({ cls := "HiddenCube$Fault", name := "<init>", desc := "(II)V" } : Jvm.MethodName) prog_2_method_1_code (3 : Nat) (Option.none : Option Jvm.ClassFile.FieldType)) ∈ lw_all := lw_g (lw_at lw_m2 230 rfl) rfl
theorem q620 : (Jvm.Cond.methodLink "HiddenCube$Fault" (1 : Nat) ({ cls := "java/lang/Exception", name := "<init>", desc := "(Ljava/lang/String;Ljava/lang/Throwable;ZZ)V" } : Jvm.MethodName)) ∈ lw_all := lw_g (lw_at lw_m2 231 rfl) rfl
theorem q626 : (Jvm.Cond.fieldLink "HiddenCube$Fault" (7 : Nat) "HiddenCube$Fault" "kind" "I") ∈ lw_all := lw_g (lw_at lw_m2 237 rfl) rfl
theorem q628 : (Jvm.Cond.fieldLink "HiddenCube$Fault" (13 : Nat) "HiddenCube$Fault" "place" "I") ∈ lw_all := lw_g (lw_at lw_m2 239 rfl) rfl
theorem q635 : (Jvm.Cond.laysFinal "HiddenCube$Fault" "HiddenCube$Fault" "kind" "I") ∈ lw_all := lw_g (lw_at lw_m3 6 rfl) rfl
theorem q636 : (Jvm.Cond.soleField "HiddenCube$Fault" "kind") ∈ lw_all := lw_g (lw_at lw_m3 7 rfl) rfl
theorem q637 : (Jvm.Cond.laysFinal "HiddenCube$Fault" "HiddenCube$Fault" "place" "I") ∈ lw_all := lw_g (lw_at lw_m3 8 rfl) rfl
theorem q638 : (Jvm.Cond.soleField "HiddenCube$Fault" "place") ∈ lw_all := lw_g (lw_at lw_m3 9 rfl) rfl
theorem q643 : (Jvm.Cond.lays "HiddenCube$Fault" "java/lang/Throwable" "depth" "I") ∈ lw_all := lw_g (lw_at lw_m3 14 rfl) rfl
theorem q646 : (Jvm.Cond.superclass "HiddenCube$Fault" "java/lang/Exception") ∈ lw_all := lw_g (lw_at lw_m3 17 rfl) rfl
theorem in_X7 : ∀ w ∈ wsX70, w ∈ lw_all := lw_in wsX70 [572, 574, 576, 578, 580, 643, 635, 637] (by decide +kernel) (by decide +kernel)
/-! java/lang/Math -/
set_option maxRecDepth 100000
def RJ0 : String := "java/lang/Math"
abbrev cJ0_min : ByteArray := prog_17_method_69_code
def yJ0_min : MethodName := ⟨RJ0, "min", "(II)I"⟩
def dkwJ0_min_0 : List UInt8 := [26, 27, 163, 0, 7, 26, 167, 0, 4, 27, 172]
abbrev dktJ0_min_0 : List UInt8 := dkwJ0_min_0 ++ []
theorem dksJ0_min_0 : cJ0_min.data.toList.drop 0 = dktJ0_min_0 := by decide +kernel
theorem dJ0_min_0 : decode cJ0_min 0 = .ok (.iload_n 0, 1) := dk_26 (dk_at dksJ0_min_0 0 rfl rfl)
theorem dJ0_min_1 : decode cJ0_min 1 = .ok (.iload_n 1, 1) := dk_27 (dk_at dksJ0_min_0 1 rfl rfl)
theorem dJ0_min_2 : decode cJ0_min 2 = .ok (.if_icmp .gt 7, 3) := dk_163 0 7 (dk_at dksJ0_min_0 2 rfl rfl)
theorem dJ0_min_5 : decode cJ0_min 5 = .ok (.iload_n 0, 1) := dk_26 (dk_at dksJ0_min_0 5 rfl rfl)
theorem dJ0_min_6 : decode cJ0_min 6 = .ok (.goto 4, 3) := dk_167 0 4 (dk_at dksJ0_min_0 6 rfl rfl)
theorem dJ0_min_9 : decode cJ0_min 9 = .ok (.iload_n 1, 1) := dk_27 (dk_at dksJ0_min_0 9 rfl rfl)
theorem dJ0_min_10 : decode cJ0_min 10 = .ok (.ireturn, 1) := dk_172 (dk_at dksJ0_min_0 10 rfl rfl)
abbrev cJ0_max : ByteArray := prog_17_method_65_code
def yJ0_max : MethodName := ⟨RJ0, "max", "(II)I"⟩
def dkwJ0_max_0 : List UInt8 := [26, 27, 161, 0, 7, 26, 167, 0, 4, 27, 172]
abbrev dktJ0_max_0 : List UInt8 := dkwJ0_max_0 ++ []
theorem dksJ0_max_0 : cJ0_max.data.toList.drop 0 = dktJ0_max_0 := by decide +kernel
theorem dJ0_max_0 : decode cJ0_max 0 = .ok (.iload_n 0, 1) := dk_26 (dk_at dksJ0_max_0 0 rfl rfl)
theorem dJ0_max_1 : decode cJ0_max 1 = .ok (.iload_n 1, 1) := dk_27 (dk_at dksJ0_max_0 1 rfl rfl)
theorem dJ0_max_2 : decode cJ0_max 2 = .ok (.if_icmp .lt 7, 3) := dk_161 0 7 (dk_at dksJ0_max_0 2 rfl rfl)
theorem dJ0_max_5 : decode cJ0_max 5 = .ok (.iload_n 0, 1) := dk_26 (dk_at dksJ0_max_0 5 rfl rfl)
theorem dJ0_max_6 : decode cJ0_max 6 = .ok (.goto 4, 3) := dk_167 0 4 (dk_at dksJ0_max_0 6 rfl rfl)
theorem dJ0_max_9 : decode cJ0_max 9 = .ok (.iload_n 1, 1) := dk_27 (dk_at dksJ0_max_0 9 rfl rfl)
theorem dJ0_max_10 : decode cJ0_max 10 = .ok (.ireturn, 1) := dk_172 (dk_at dksJ0_max_0 10 rfl rfl)
theorem q159 : (Jvm.Cond.initialized "java/lang/Math") ∈ lw_all := lw_g (lw_at lw_m1 10 rfl) rfl
theorem q460 : (Jvm.Cond.static ({ cls := "java/lang/Math", name := "min", desc := "(II)I" } : Jvm.MethodName)) ∈ lw_all := lw_g (lw_at lw_m2 71 rfl) rfl
theorem q461 : (Jvm.Cond.code ({ cls := "java/lang/Math", name := "min", desc := "(II)I" } : Jvm.MethodName) prog_17_method_69_code (2 : Nat) (Option.some Jvm.ClassFile.FieldType.int)) ∈ lw_all := lw_g (lw_at lw_m2 72 rfl) rfl
theorem q833 : (Jvm.Cond.static ({ cls := "java/lang/Math", name := "max", desc := "(II)I" } : Jvm.MethodName)) ∈ lw_all := lw_g (lw_at lw_m3 204 rfl) rfl
theorem q834 : (Jvm.Cond.code ({ cls := "java/lang/Math", name := "max", desc := "(II)I" } : Jvm.MethodName) prog_17_method_65_code (2 : Nat) (Option.some Jvm.ClassFile.FieldType.int)) ∈ lw_all := lw_g (lw_at lw_m3 205 rfl) rfl
/-! java/lang/Integer -/
set_option maxRecDepth 100000
def RJ7 : String := "java/lang/Integer"
abbrev cJ7_bitCount : ByteArray := prog_16_method_49_code
def yJ7_bitCount : MethodName := ⟨RJ7, "bitCount", "(I)I"⟩
def dkwJ7_bitCount_2 : List UInt8 := [26, 16, 63, 126, 172]
abbrev dktJ7_bitCount_2 : List UInt8 := dkwJ7_bitCount_2 ++ []
def dkwJ7_bitCount_1 : List UInt8 := [26, 26, 7, 124, 96, 19, 1, 11, 126, 59, 26, 26, 16, 8, 124, 96, 59, 26, 26, 16, 16, 124, 96, 59]
abbrev dktJ7_bitCount_1 : List UInt8 := dkwJ7_bitCount_1 ++ dktJ7_bitCount_2
def dkwJ7_bitCount_0 : List UInt8 := [26, 26, 4, 124, 19, 1, 9, 126, 100, 59, 26, 19, 1, 10, 126, 26, 5, 124, 19, 1, 10, 126, 96, 59]
abbrev dktJ7_bitCount_0 : List UInt8 := dkwJ7_bitCount_0 ++ dktJ7_bitCount_1
theorem dksJ7_bitCount_0 : cJ7_bitCount.data.toList.drop 0 = dktJ7_bitCount_0 := by decide +kernel
theorem dksJ7_bitCount_1 : cJ7_bitCount.data.toList.drop 24 = dktJ7_bitCount_1 := dk_seg dksJ7_bitCount_0 24 rfl rfl
theorem dksJ7_bitCount_2 : cJ7_bitCount.data.toList.drop 48 = dktJ7_bitCount_2 := dk_seg dksJ7_bitCount_1 24 rfl rfl
theorem dJ7_bitCount_0 : decode cJ7_bitCount 0 = .ok (.iload_n 0, 1) := dk_26 (dk_at dksJ7_bitCount_0 0 rfl rfl)
theorem dJ7_bitCount_1 : decode cJ7_bitCount 1 = .ok (.iload_n 0, 1) := dk_26 (dk_at dksJ7_bitCount_0 1 rfl rfl)
theorem dJ7_bitCount_2 : decode cJ7_bitCount 2 = .ok (.iconst 1, 1) := dk_4 (dk_at dksJ7_bitCount_0 2 rfl rfl)
theorem dJ7_bitCount_3 : decode cJ7_bitCount 3 = .ok (.iushr, 1) := dk_124 (dk_at dksJ7_bitCount_0 3 rfl rfl)
theorem dJ7_bitCount_4 : decode cJ7_bitCount 4 = .ok (.ldc_w 265, 3) := dk_19 1 9 (dk_at dksJ7_bitCount_0 4 rfl rfl)
theorem dJ7_bitCount_7 : decode cJ7_bitCount 7 = .ok (.iand, 1) := dk_126 (dk_at dksJ7_bitCount_0 7 rfl rfl)
theorem dJ7_bitCount_8 : decode cJ7_bitCount 8 = .ok (.isub, 1) := dk_100 (dk_at dksJ7_bitCount_0 8 rfl rfl)
theorem dJ7_bitCount_9 : decode cJ7_bitCount 9 = .ok (.istore_n 0, 1) := dk_59 (dk_at dksJ7_bitCount_0 9 rfl rfl)
theorem dJ7_bitCount_10 : decode cJ7_bitCount 10 = .ok (.iload_n 0, 1) := dk_26 (dk_at dksJ7_bitCount_0 10 rfl rfl)
theorem dJ7_bitCount_11 : decode cJ7_bitCount 11 = .ok (.ldc_w 266, 3) := dk_19 1 10 (dk_at dksJ7_bitCount_0 11 rfl rfl)
theorem dJ7_bitCount_14 : decode cJ7_bitCount 14 = .ok (.iand, 1) := dk_126 (dk_at dksJ7_bitCount_0 14 rfl rfl)
theorem dJ7_bitCount_15 : decode cJ7_bitCount 15 = .ok (.iload_n 0, 1) := dk_26 (dk_at dksJ7_bitCount_0 15 rfl rfl)
theorem dJ7_bitCount_16 : decode cJ7_bitCount 16 = .ok (.iconst 2, 1) := dk_5 (dk_at dksJ7_bitCount_0 16 rfl rfl)
theorem dJ7_bitCount_17 : decode cJ7_bitCount 17 = .ok (.iushr, 1) := dk_124 (dk_at dksJ7_bitCount_0 17 rfl rfl)
theorem dJ7_bitCount_18 : decode cJ7_bitCount 18 = .ok (.ldc_w 266, 3) := dk_19 1 10 (dk_at dksJ7_bitCount_0 18 rfl rfl)
theorem dJ7_bitCount_21 : decode cJ7_bitCount 21 = .ok (.iand, 1) := dk_126 (dk_at dksJ7_bitCount_0 21 rfl rfl)
theorem dJ7_bitCount_22 : decode cJ7_bitCount 22 = .ok (.iadd, 1) := dk_96 (dk_at dksJ7_bitCount_0 22 rfl rfl)
theorem dJ7_bitCount_23 : decode cJ7_bitCount 23 = .ok (.istore_n 0, 1) := dk_59 (dk_at dksJ7_bitCount_0 23 rfl rfl)
theorem dJ7_bitCount_24 : decode cJ7_bitCount 24 = .ok (.iload_n 0, 1) := dk_26 (dk_at dksJ7_bitCount_1 0 rfl rfl)
theorem dJ7_bitCount_25 : decode cJ7_bitCount 25 = .ok (.iload_n 0, 1) := dk_26 (dk_at dksJ7_bitCount_1 1 rfl rfl)
theorem dJ7_bitCount_26 : decode cJ7_bitCount 26 = .ok (.iconst 4, 1) := dk_7 (dk_at dksJ7_bitCount_1 2 rfl rfl)
theorem dJ7_bitCount_27 : decode cJ7_bitCount 27 = .ok (.iushr, 1) := dk_124 (dk_at dksJ7_bitCount_1 3 rfl rfl)
theorem dJ7_bitCount_28 : decode cJ7_bitCount 28 = .ok (.iadd, 1) := dk_96 (dk_at dksJ7_bitCount_1 4 rfl rfl)
theorem dJ7_bitCount_29 : decode cJ7_bitCount 29 = .ok (.ldc_w 267, 3) := dk_19 1 11 (dk_at dksJ7_bitCount_1 5 rfl rfl)
theorem dJ7_bitCount_32 : decode cJ7_bitCount 32 = .ok (.iand, 1) := dk_126 (dk_at dksJ7_bitCount_1 8 rfl rfl)
theorem dJ7_bitCount_33 : decode cJ7_bitCount 33 = .ok (.istore_n 0, 1) := dk_59 (dk_at dksJ7_bitCount_1 9 rfl rfl)
theorem dJ7_bitCount_34 : decode cJ7_bitCount 34 = .ok (.iload_n 0, 1) := dk_26 (dk_at dksJ7_bitCount_1 10 rfl rfl)
theorem dJ7_bitCount_35 : decode cJ7_bitCount 35 = .ok (.iload_n 0, 1) := dk_26 (dk_at dksJ7_bitCount_1 11 rfl rfl)
theorem dJ7_bitCount_36 : decode cJ7_bitCount 36 = .ok (.bipush 8, 2) := dk_16 8 (dk_at dksJ7_bitCount_1 12 rfl rfl)
theorem dJ7_bitCount_38 : decode cJ7_bitCount 38 = .ok (.iushr, 1) := dk_124 (dk_at dksJ7_bitCount_1 14 rfl rfl)
theorem dJ7_bitCount_39 : decode cJ7_bitCount 39 = .ok (.iadd, 1) := dk_96 (dk_at dksJ7_bitCount_1 15 rfl rfl)
theorem dJ7_bitCount_40 : decode cJ7_bitCount 40 = .ok (.istore_n 0, 1) := dk_59 (dk_at dksJ7_bitCount_1 16 rfl rfl)
theorem dJ7_bitCount_41 : decode cJ7_bitCount 41 = .ok (.iload_n 0, 1) := dk_26 (dk_at dksJ7_bitCount_1 17 rfl rfl)
theorem dJ7_bitCount_42 : decode cJ7_bitCount 42 = .ok (.iload_n 0, 1) := dk_26 (dk_at dksJ7_bitCount_1 18 rfl rfl)
theorem dJ7_bitCount_43 : decode cJ7_bitCount 43 = .ok (.bipush 16, 2) := dk_16 16 (dk_at dksJ7_bitCount_1 19 rfl rfl)
theorem dJ7_bitCount_45 : decode cJ7_bitCount 45 = .ok (.iushr, 1) := dk_124 (dk_at dksJ7_bitCount_1 21 rfl rfl)
theorem dJ7_bitCount_46 : decode cJ7_bitCount 46 = .ok (.iadd, 1) := dk_96 (dk_at dksJ7_bitCount_1 22 rfl rfl)
theorem dJ7_bitCount_47 : decode cJ7_bitCount 47 = .ok (.istore_n 0, 1) := dk_59 (dk_at dksJ7_bitCount_1 23 rfl rfl)
theorem dJ7_bitCount_48 : decode cJ7_bitCount 48 = .ok (.iload_n 0, 1) := dk_26 (dk_at dksJ7_bitCount_2 0 rfl rfl)
theorem dJ7_bitCount_49 : decode cJ7_bitCount 49 = .ok (.bipush 63, 2) := dk_16 63 (dk_at dksJ7_bitCount_2 1 rfl rfl)
theorem dJ7_bitCount_51 : decode cJ7_bitCount 51 = .ok (.iand, 1) := dk_126 (dk_at dksJ7_bitCount_2 3 rfl rfl)
theorem dJ7_bitCount_52 : decode cJ7_bitCount 52 = .ok (.ireturn, 1) := dk_172 (dk_at dksJ7_bitCount_2 4 rfl rfl)
abbrev cJ7_numberOfTrailingZeros : ByteArray := prog_16_method_48_code
def yJ7_numberOfTrailingZeros : MethodName := ⟨RJ7, "numberOfTrailingZeros", "(I)I"⟩
def dkwJ7_numberOfTrailingZeros_3 : List UInt8 := [5, 124, 59, 27, 26, 4, 124, 96, 172]
abbrev dktJ7_numberOfTrailingZeros_3 : List UInt8 := dkwJ7_numberOfTrailingZeros_3 ++ []
def dkwJ7_numberOfTrailingZeros_2 : List UInt8 := [124, 59, 26, 16, 16, 164, 0, 10, 132, 1, 4, 26, 7, 124, 59, 26, 7, 164, 0, 10, 132, 1, 2, 26]
abbrev dktJ7_numberOfTrailingZeros_2 : List UInt8 := dkwJ7_numberOfTrailingZeros_2 ++ dktJ7_numberOfTrailingZeros_3
def dkwJ7_numberOfTrailingZeros_1 : List UInt8 := [164, 0, 11, 132, 1, 16, 26, 16, 16, 124, 59, 26, 17, 1, 0, 164, 0, 11, 132, 1, 8, 26, 16, 8]
abbrev dktJ7_numberOfTrailingZeros_1 : List UInt8 := dkwJ7_numberOfTrailingZeros_1 ++ dktJ7_numberOfTrailingZeros_2
def dkwJ7_numberOfTrailingZeros_0 : List UInt8 := [26, 2, 130, 26, 4, 100, 126, 59, 26, 157, 0, 8, 26, 16, 32, 126, 172, 4, 60, 26, 19, 1, 8]
abbrev dktJ7_numberOfTrailingZeros_0 : List UInt8 := dkwJ7_numberOfTrailingZeros_0 ++ dktJ7_numberOfTrailingZeros_1
theorem dksJ7_numberOfTrailingZeros_0 : cJ7_numberOfTrailingZeros.data.toList.drop 0 = dktJ7_numberOfTrailingZeros_0 := by decide +kernel
theorem dksJ7_numberOfTrailingZeros_1 : cJ7_numberOfTrailingZeros.data.toList.drop 23 = dktJ7_numberOfTrailingZeros_1 := dk_seg dksJ7_numberOfTrailingZeros_0 23 rfl rfl
theorem dksJ7_numberOfTrailingZeros_2 : cJ7_numberOfTrailingZeros.data.toList.drop 47 = dktJ7_numberOfTrailingZeros_2 := dk_seg dksJ7_numberOfTrailingZeros_1 24 rfl rfl
theorem dksJ7_numberOfTrailingZeros_3 : cJ7_numberOfTrailingZeros.data.toList.drop 71 = dktJ7_numberOfTrailingZeros_3 := dk_seg dksJ7_numberOfTrailingZeros_2 24 rfl rfl
theorem dJ7_numberOfTrailingZeros_0 : decode cJ7_numberOfTrailingZeros 0 = .ok (.iload_n 0, 1) := dk_26 (dk_at dksJ7_numberOfTrailingZeros_0 0 rfl rfl)
theorem dJ7_numberOfTrailingZeros_1 : decode cJ7_numberOfTrailingZeros 1 = .ok (.iconst (-1), 1) := dk_2 (dk_at dksJ7_numberOfTrailingZeros_0 1 rfl rfl)
theorem dJ7_numberOfTrailingZeros_2 : decode cJ7_numberOfTrailingZeros 2 = .ok (.ixor, 1) := dk_130 (dk_at dksJ7_numberOfTrailingZeros_0 2 rfl rfl)
theorem dJ7_numberOfTrailingZeros_3 : decode cJ7_numberOfTrailingZeros 3 = .ok (.iload_n 0, 1) := dk_26 (dk_at dksJ7_numberOfTrailingZeros_0 3 rfl rfl)
theorem dJ7_numberOfTrailingZeros_4 : decode cJ7_numberOfTrailingZeros 4 = .ok (.iconst 1, 1) := dk_4 (dk_at dksJ7_numberOfTrailingZeros_0 4 rfl rfl)
theorem dJ7_numberOfTrailingZeros_5 : decode cJ7_numberOfTrailingZeros 5 = .ok (.isub, 1) := dk_100 (dk_at dksJ7_numberOfTrailingZeros_0 5 rfl rfl)
theorem dJ7_numberOfTrailingZeros_6 : decode cJ7_numberOfTrailingZeros 6 = .ok (.iand, 1) := dk_126 (dk_at dksJ7_numberOfTrailingZeros_0 6 rfl rfl)
theorem dJ7_numberOfTrailingZeros_7 : decode cJ7_numberOfTrailingZeros 7 = .ok (.istore_n 0, 1) := dk_59 (dk_at dksJ7_numberOfTrailingZeros_0 7 rfl rfl)
theorem dJ7_numberOfTrailingZeros_8 : decode cJ7_numberOfTrailingZeros 8 = .ok (.iload_n 0, 1) := dk_26 (dk_at dksJ7_numberOfTrailingZeros_0 8 rfl rfl)
theorem dJ7_numberOfTrailingZeros_9 : decode cJ7_numberOfTrailingZeros 9 = .ok (.ifCond .gt 8, 3) := dk_157 0 8 (dk_at dksJ7_numberOfTrailingZeros_0 9 rfl rfl)
theorem dJ7_numberOfTrailingZeros_12 : decode cJ7_numberOfTrailingZeros 12 = .ok (.iload_n 0, 1) := dk_26 (dk_at dksJ7_numberOfTrailingZeros_0 12 rfl rfl)
theorem dJ7_numberOfTrailingZeros_13 : decode cJ7_numberOfTrailingZeros 13 = .ok (.bipush 32, 2) := dk_16 32 (dk_at dksJ7_numberOfTrailingZeros_0 13 rfl rfl)
theorem dJ7_numberOfTrailingZeros_15 : decode cJ7_numberOfTrailingZeros 15 = .ok (.iand, 1) := dk_126 (dk_at dksJ7_numberOfTrailingZeros_0 15 rfl rfl)
theorem dJ7_numberOfTrailingZeros_16 : decode cJ7_numberOfTrailingZeros 16 = .ok (.ireturn, 1) := dk_172 (dk_at dksJ7_numberOfTrailingZeros_0 16 rfl rfl)
theorem dJ7_numberOfTrailingZeros_17 : decode cJ7_numberOfTrailingZeros 17 = .ok (.iconst 1, 1) := dk_4 (dk_at dksJ7_numberOfTrailingZeros_0 17 rfl rfl)
theorem dJ7_numberOfTrailingZeros_18 : decode cJ7_numberOfTrailingZeros 18 = .ok (.istore_n 1, 1) := dk_60 (dk_at dksJ7_numberOfTrailingZeros_0 18 rfl rfl)
theorem dJ7_numberOfTrailingZeros_19 : decode cJ7_numberOfTrailingZeros 19 = .ok (.iload_n 0, 1) := dk_26 (dk_at dksJ7_numberOfTrailingZeros_0 19 rfl rfl)
theorem dJ7_numberOfTrailingZeros_20 : decode cJ7_numberOfTrailingZeros 20 = .ok (.ldc_w 264, 3) := dk_19 1 8 (dk_at dksJ7_numberOfTrailingZeros_0 20 rfl rfl)
theorem dJ7_numberOfTrailingZeros_23 : decode cJ7_numberOfTrailingZeros 23 = .ok (.if_icmp .le 11, 3) := dk_164 0 11 (dk_at dksJ7_numberOfTrailingZeros_1 0 rfl rfl)
theorem dJ7_numberOfTrailingZeros_26 : decode cJ7_numberOfTrailingZeros 26 = .ok (.iinc 1 16, 3) := dk_132 1 16 (dk_at dksJ7_numberOfTrailingZeros_1 3 rfl rfl)
theorem dJ7_numberOfTrailingZeros_29 : decode cJ7_numberOfTrailingZeros 29 = .ok (.iload_n 0, 1) := dk_26 (dk_at dksJ7_numberOfTrailingZeros_1 6 rfl rfl)
theorem dJ7_numberOfTrailingZeros_30 : decode cJ7_numberOfTrailingZeros 30 = .ok (.bipush 16, 2) := dk_16 16 (dk_at dksJ7_numberOfTrailingZeros_1 7 rfl rfl)
theorem dJ7_numberOfTrailingZeros_32 : decode cJ7_numberOfTrailingZeros 32 = .ok (.iushr, 1) := dk_124 (dk_at dksJ7_numberOfTrailingZeros_1 9 rfl rfl)
theorem dJ7_numberOfTrailingZeros_33 : decode cJ7_numberOfTrailingZeros 33 = .ok (.istore_n 0, 1) := dk_59 (dk_at dksJ7_numberOfTrailingZeros_1 10 rfl rfl)
theorem dJ7_numberOfTrailingZeros_34 : decode cJ7_numberOfTrailingZeros 34 = .ok (.iload_n 0, 1) := dk_26 (dk_at dksJ7_numberOfTrailingZeros_1 11 rfl rfl)
theorem dJ7_numberOfTrailingZeros_35 : decode cJ7_numberOfTrailingZeros 35 = .ok (.sipush 256, 3) := dk_17 1 0 (dk_at dksJ7_numberOfTrailingZeros_1 12 rfl rfl)
theorem dJ7_numberOfTrailingZeros_38 : decode cJ7_numberOfTrailingZeros 38 = .ok (.if_icmp .le 11, 3) := dk_164 0 11 (dk_at dksJ7_numberOfTrailingZeros_1 15 rfl rfl)
theorem dJ7_numberOfTrailingZeros_41 : decode cJ7_numberOfTrailingZeros 41 = .ok (.iinc 1 8, 3) := dk_132 1 8 (dk_at dksJ7_numberOfTrailingZeros_1 18 rfl rfl)
theorem dJ7_numberOfTrailingZeros_44 : decode cJ7_numberOfTrailingZeros 44 = .ok (.iload_n 0, 1) := dk_26 (dk_at dksJ7_numberOfTrailingZeros_1 21 rfl rfl)
theorem dJ7_numberOfTrailingZeros_45 : decode cJ7_numberOfTrailingZeros 45 = .ok (.bipush 8, 2) := dk_16 8 (dk_at dksJ7_numberOfTrailingZeros_1 22 rfl rfl)
theorem dJ7_numberOfTrailingZeros_47 : decode cJ7_numberOfTrailingZeros 47 = .ok (.iushr, 1) := dk_124 (dk_at dksJ7_numberOfTrailingZeros_2 0 rfl rfl)
theorem dJ7_numberOfTrailingZeros_48 : decode cJ7_numberOfTrailingZeros 48 = .ok (.istore_n 0, 1) := dk_59 (dk_at dksJ7_numberOfTrailingZeros_2 1 rfl rfl)
theorem dJ7_numberOfTrailingZeros_49 : decode cJ7_numberOfTrailingZeros 49 = .ok (.iload_n 0, 1) := dk_26 (dk_at dksJ7_numberOfTrailingZeros_2 2 rfl rfl)
theorem dJ7_numberOfTrailingZeros_50 : decode cJ7_numberOfTrailingZeros 50 = .ok (.bipush 16, 2) := dk_16 16 (dk_at dksJ7_numberOfTrailingZeros_2 3 rfl rfl)
theorem dJ7_numberOfTrailingZeros_52 : decode cJ7_numberOfTrailingZeros 52 = .ok (.if_icmp .le 10, 3) := dk_164 0 10 (dk_at dksJ7_numberOfTrailingZeros_2 5 rfl rfl)
theorem dJ7_numberOfTrailingZeros_55 : decode cJ7_numberOfTrailingZeros 55 = .ok (.iinc 1 4, 3) := dk_132 1 4 (dk_at dksJ7_numberOfTrailingZeros_2 8 rfl rfl)
theorem dJ7_numberOfTrailingZeros_58 : decode cJ7_numberOfTrailingZeros 58 = .ok (.iload_n 0, 1) := dk_26 (dk_at dksJ7_numberOfTrailingZeros_2 11 rfl rfl)
theorem dJ7_numberOfTrailingZeros_59 : decode cJ7_numberOfTrailingZeros 59 = .ok (.iconst 4, 1) := dk_7 (dk_at dksJ7_numberOfTrailingZeros_2 12 rfl rfl)
theorem dJ7_numberOfTrailingZeros_60 : decode cJ7_numberOfTrailingZeros 60 = .ok (.iushr, 1) := dk_124 (dk_at dksJ7_numberOfTrailingZeros_2 13 rfl rfl)
theorem dJ7_numberOfTrailingZeros_61 : decode cJ7_numberOfTrailingZeros 61 = .ok (.istore_n 0, 1) := dk_59 (dk_at dksJ7_numberOfTrailingZeros_2 14 rfl rfl)
theorem dJ7_numberOfTrailingZeros_62 : decode cJ7_numberOfTrailingZeros 62 = .ok (.iload_n 0, 1) := dk_26 (dk_at dksJ7_numberOfTrailingZeros_2 15 rfl rfl)
theorem dJ7_numberOfTrailingZeros_63 : decode cJ7_numberOfTrailingZeros 63 = .ok (.iconst 4, 1) := dk_7 (dk_at dksJ7_numberOfTrailingZeros_2 16 rfl rfl)
theorem dJ7_numberOfTrailingZeros_64 : decode cJ7_numberOfTrailingZeros 64 = .ok (.if_icmp .le 10, 3) := dk_164 0 10 (dk_at dksJ7_numberOfTrailingZeros_2 17 rfl rfl)
theorem dJ7_numberOfTrailingZeros_67 : decode cJ7_numberOfTrailingZeros 67 = .ok (.iinc 1 2, 3) := dk_132 1 2 (dk_at dksJ7_numberOfTrailingZeros_2 20 rfl rfl)
theorem dJ7_numberOfTrailingZeros_70 : decode cJ7_numberOfTrailingZeros 70 = .ok (.iload_n 0, 1) := dk_26 (dk_at dksJ7_numberOfTrailingZeros_2 23 rfl rfl)
theorem dJ7_numberOfTrailingZeros_71 : decode cJ7_numberOfTrailingZeros 71 = .ok (.iconst 2, 1) := dk_5 (dk_at dksJ7_numberOfTrailingZeros_3 0 rfl rfl)
theorem dJ7_numberOfTrailingZeros_72 : decode cJ7_numberOfTrailingZeros 72 = .ok (.iushr, 1) := dk_124 (dk_at dksJ7_numberOfTrailingZeros_3 1 rfl rfl)
theorem dJ7_numberOfTrailingZeros_73 : decode cJ7_numberOfTrailingZeros 73 = .ok (.istore_n 0, 1) := dk_59 (dk_at dksJ7_numberOfTrailingZeros_3 2 rfl rfl)
theorem dJ7_numberOfTrailingZeros_74 : decode cJ7_numberOfTrailingZeros 74 = .ok (.iload_n 1, 1) := dk_27 (dk_at dksJ7_numberOfTrailingZeros_3 3 rfl rfl)
theorem dJ7_numberOfTrailingZeros_75 : decode cJ7_numberOfTrailingZeros 75 = .ok (.iload_n 0, 1) := dk_26 (dk_at dksJ7_numberOfTrailingZeros_3 4 rfl rfl)
theorem dJ7_numberOfTrailingZeros_76 : decode cJ7_numberOfTrailingZeros 76 = .ok (.iconst 1, 1) := dk_4 (dk_at dksJ7_numberOfTrailingZeros_3 5 rfl rfl)
theorem dJ7_numberOfTrailingZeros_77 : decode cJ7_numberOfTrailingZeros 77 = .ok (.iushr, 1) := dk_124 (dk_at dksJ7_numberOfTrailingZeros_3 6 rfl rfl)
theorem dJ7_numberOfTrailingZeros_78 : decode cJ7_numberOfTrailingZeros 78 = .ok (.iadd, 1) := dk_96 (dk_at dksJ7_numberOfTrailingZeros_3 7 rfl rfl)
theorem dJ7_numberOfTrailingZeros_79 : decode cJ7_numberOfTrailingZeros 79 = .ok (.ireturn, 1) := dk_172 (dk_at dksJ7_numberOfTrailingZeros_3 8 rfl rfl)
theorem q167 : (Jvm.Cond.initialized "java/lang/Integer") ∈ lw_all := lw_g (lw_at lw_m1 18 rfl) rfl
theorem q750 : (Jvm.Cond.static ({ cls := "java/lang/Integer", name := "bitCount", desc := "(I)I" } : Jvm.MethodName)) ∈ lw_all := lw_g (lw_at lw_m3 121 rfl) rfl
theorem q751 : (Jvm.Cond.code ({ cls := "java/lang/Integer", name := "bitCount", desc := "(I)I" } : Jvm.MethodName) prog_16_method_49_code (1 : Nat) (Option.some Jvm.ClassFile.FieldType.int)) ∈ lw_all := lw_g (lw_at lw_m3 122 rfl) rfl
theorem q752 : (Jvm.Cond.constant "java/lang/Integer" (265 : Nat) (1431655765 : Int32)) ∈ lw_all := lw_g (lw_at lw_m3 123 rfl) rfl
theorem q753 : (Jvm.Cond.constant "java/lang/Integer" (266 : Nat) (858993459 : Int32)) ∈ lw_all := lw_g (lw_at lw_m3 124 rfl) rfl
theorem q754 : (Jvm.Cond.constant "java/lang/Integer" (267 : Nat) (252645135 : Int32)) ∈ lw_all := lw_g (lw_at lw_m3 125 rfl) rfl
theorem q816 : (Jvm.Cond.static ({ cls := "java/lang/Integer", name := "numberOfTrailingZeros", desc := "(I)I" } : Jvm.MethodName)) ∈ lw_all := lw_g (lw_at lw_m3 187 rfl) rfl
theorem q817 : (Jvm.Cond.code ({ cls := "java/lang/Integer", name := "numberOfTrailingZeros", desc := "(I)I" } : Jvm.MethodName) prog_16_method_48_code (2 : Nat) (Option.some Jvm.ClassFile.FieldType.int)) ∈ lw_all := lw_g (lw_at lw_m3 188 rfl) rfl
theorem q818 : (Jvm.Cond.constant "java/lang/Integer" (264 : Nat) (65536 : Int32)) ∈ lw_all := lw_g (lw_at lw_m3 189 rfl) rfl
theorem q245 : (Jvm.Cond.arrayClass Jvm.ClassFile.FieldType.byte) ∈ lw_all := lw_g (lw_at lw_m1 96 rfl) rfl
set_option maxRecDepth 100000
theorem q246 : (Jvm.Cond.arrayClass Jvm.ClassFile.FieldType.int) ∈ lw_all := lw_g (lw_at lw_m1 97 rfl) rfl
theorem q283 : (Jvm.Cond.arrayOver (Jvm.ClassFile.FieldType.object "HiddenCube$Slot")) ∈ lw_tbl := lw_at lw_m1 134 rfl
theorem q294 : (Jvm.Cond.arrayClass Jvm.ClassFile.FieldType.boolean) ∈ lw_all := lw_g (lw_at lw_m1 145 rfl) rfl
theorem q295 : (Jvm.Cond.arrayOver (Jvm.ClassFile.FieldType.object "HiddenCube$Town")) ∈ lw_tbl := lw_at lw_m1 146 rfl
theorem q1341 : (Jvm.Cond.arrayClass Jvm.ClassFile.FieldType.short) ∈ lw_all := lw_g (lw_at lw_m5 232 rfl) rfl
theorem q1342 : (Jvm.Cond.arrayClass Jvm.ClassFile.FieldType.long) ∈ lw_all := lw_g (lw_at lw_m5 233 rfl) rfl
theorem q157 : (Jvm.Cond.initialized "java/lang/Enum") ∈ lw_all := lw_g (lw_at lw_m1 8 rfl) rfl
set_option maxRecDepth 100000
theorem q158 : (Jvm.Cond.initialized "HiddenCube$Token") ∈ lw_all := lw_g (lw_at lw_m1 9 rfl) rfl
set_option maxRecDepth 100000
theorem q446 : (Jvm.Cond.laysStatic "HiddenCube$Token" "END" "LHiddenCube$Token;") ∈ lw_tbl := lw_at lw_m2 57 rfl
theorem q457 : (Jvm.Cond.laysStatic "HiddenCube$Token" "WORD" "LHiddenCube$Token;") ∈ lw_tbl := lw_at lw_m2 68 rfl
theorem q463 : (Jvm.Cond.laysStatic "HiddenCube$Token" "NUMBER" "LHiddenCube$Token;") ∈ lw_tbl := lw_at lw_m2 74 rfl
theorem q465 : (Jvm.Cond.laysStatic "HiddenCube$Token" "STOP" "LHiddenCube$Token;") ∈ lw_tbl := lw_at lw_m2 76 rfl
theorem q467 : (Jvm.Cond.laysStatic "HiddenCube$Token" "NONE" "LHiddenCube$Token;") ∈ lw_tbl := lw_at lw_m2 78 rfl
theorem q168 : (Jvm.Cond.initialized "java/lang/System") ∈ lw_all := lw_g (lw_at lw_m1 19 rfl) rfl
set_option maxRecDepth 100000
theorem q961 : (Jvm.Cond.static ({ cls := "java/lang/System", name := "arraycopy", desc := "(Ljava/lang/Object;ILjava/lang/Object;II)V" } : Jvm.MethodName)) ∈ lw_all := lw_g (lw_at lw_m4 92 rfl) rfl
theorem q962 : (Jvm.Cond.native ({ cls := "java/lang/System", name := "arraycopy", desc := "(Ljava/lang/Object;ILjava/lang/Object;II)V" } : Jvm.MethodName)) ∈ lw_all := lw_g (lw_at lw_m4 93 rfl) rfl
