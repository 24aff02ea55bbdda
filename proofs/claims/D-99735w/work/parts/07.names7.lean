/-! DECODE ROWS BY BYTES: one lemma an opcode; a method's code is cut into short pieces once, and a row reads its own piece alone. -/
set_option maxRecDepth 100000
/-- the code has just these bytes from pc on -/
def DkAt (code : ByteArray) (pc : Nat) (bs : List UInt8) : Prop := ∀ (j : Nat) (b : UInt8), bs[j]? = some b → code.data.toList[pc + j]? = some b
/-- the piece W has the bytes bs from its place j on -/
def dkIn (W : List UInt8) (j : Nat) (bs : List UInt8) : Bool := decide ((W.drop j).take bs.length = bs)
theorem dk_seg {l W T : List UInt8} {o o2 : Nat} (h : l.drop o = W ++ T) (n : Nat) (hn : W.length = n) (ho : o + n = o2) : l.drop o2 = T := by
  subst ho
  rw [← List.drop_drop, h, List.drop_left' hn]
theorem dk_at {code : ByteArray} {W T bs : List UInt8} {o pc : Nat} (h : code.data.toList.drop o = W ++ T) (j : Nat) (hp : o + j = pc) (hw : dkIn W j bs = true) : DkAt code pc bs := by
  subst hp
  intro i b e
  have h1 := of_decide_eq_true hw
  have h2 : i < bs.length := (List.getElem?_eq_some_iff.mp e).1
  have h3 : W[j + i]? = some b := by
    rw [← h1, List.getElem?_take, if_pos h2, List.getElem?_drop] at e
    exact e
  have h4 : j + i < W.length := (List.getElem?_eq_some_iff.mp h3).1
  have h5 : (code.data.toList.drop o)[j + i]? = some b := by
    rw [h, List.getElem?_append_left h4]
    exact h3
  rw [List.getElem?_drop, ← Nat.add_assoc] at h5
  exact h5
theorem dk_u1 {A : ByteArray} {p : Nat} {b : UInt8} (h : A.data.toList[p]? = some b) : (Reader.u1 : Reader DecodeError Nat) A p = .ok (b.toNat, p + 1) := by
  obtain ⟨h1, h2⟩ := List.getElem?_eq_some_iff.mp h
  have h3 : p < A.size := by simpa using h1
  have h4 : A[p]'h3 = b := h2
  have e : (Reader.u1 : Reader DecodeError Nat) A p = (if h : p < A.size then .ok (A[p].toNat, p + 1) else .error (HasTruncated.truncated p)) := by
    show (do if h : p < A.size then do set (p + 1); Pure.pure A[p].toNat else MonadExcept.throw (HasTruncated.truncated p) : Reader DecodeError Nat) A p = _
    by_cases hi : p < A.size
    · rw [dif_pos hi, dif_pos hi]; rfl
    · rw [dif_neg hi, dif_neg hi]; rfl
  rw [e, dif_pos h3, h4]
theorem dk_bind {α β : Type} {r : Reader DecodeError α} {f : α → Reader DecodeError β} {A : ByteArray} {p s : Nat} {a : α} (h : r A p = .ok (a, s)) : (r >>= f) A p = f a A s := by
  show (do let (a, s) ← r A p; f a A s : Except DecodeError (β × Nat)) = _
  rw [h]
  rfl
theorem dk_map {α β : Type} {r : Reader DecodeError α} {g : α → β} {A : ByteArray} {p s : Nat} {a : α} (h : r A p = .ok (a, s)) : (g <$> r) A p = .ok (g a, s) := by
  show (do let (a, s) ← r A p; .ok (g a, s) : Except DecodeError (β × Nat)) = _
  rw [h]
  rfl
theorem dk_u2 {A : ByteArray} {p : Nat} {a b : UInt8} (h : A.data.toList[p]? = some a) (h2 : A.data.toList[p + 1]? = some b) : (Reader.u2 : Reader DecodeError Nat) A p = .ok (a.toNat * 256 + b.toNat, p + 2) := by
  show (Reader.u1 >>= fun hi => Reader.u1 >>= fun lo => Pure.pure (hi * 256 + lo) : Reader DecodeError Nat) A p = _
  rw [dk_bind (dk_u1 h), dk_bind (dk_u1 h2)]
  rfl
theorem dk_of {code : ByteArray} {pc n : Nat} {i : Instr} (h : Decoder.instr pc code pc = .ok (i, pc + n)) : decode code pc = .ok (i, n) := by
  have e : decode code pc = (match Decoder.instr pc code pc with | .error x => .error x | .ok (j, s) => .ok (j, s - pc)) := by
    show (do let (j, s) ← Decoder.instr pc code pc; Pure.pure (j, s - pc) : Except DecodeError (Instr × Nat)) = _
    cases Decoder.instr pc code pc <;> rfl
  rw [e, h]
  show Except.ok (i, pc + n - pc) = _
  rw [Nat.add_sub_cancel_left]
theorem dk_1 {code : ByteArray} {pc : Nat} (h : DkAt code pc [1]) : decode code pc = .ok (.aconst_null, 1) := dk_of ((dk_bind (dk_u1 (h 0 _ rfl))).trans rfl)
theorem dk_2 {code : ByteArray} {pc : Nat} (h : DkAt code pc [2]) : decode code pc = .ok (.iconst (-1), 1) := dk_of ((dk_bind (dk_u1 (h 0 _ rfl))).trans rfl)
theorem dk_3 {code : ByteArray} {pc : Nat} (h : DkAt code pc [3]) : decode code pc = .ok (.iconst 0, 1) := dk_of ((dk_bind (dk_u1 (h 0 _ rfl))).trans rfl)
theorem dk_4 {code : ByteArray} {pc : Nat} (h : DkAt code pc [4]) : decode code pc = .ok (.iconst 1, 1) := dk_of ((dk_bind (dk_u1 (h 0 _ rfl))).trans rfl)
theorem dk_5 {code : ByteArray} {pc : Nat} (h : DkAt code pc [5]) : decode code pc = .ok (.iconst 2, 1) := dk_of ((dk_bind (dk_u1 (h 0 _ rfl))).trans rfl)
theorem dk_6 {code : ByteArray} {pc : Nat} (h : DkAt code pc [6]) : decode code pc = .ok (.iconst 3, 1) := dk_of ((dk_bind (dk_u1 (h 0 _ rfl))).trans rfl)
theorem dk_7 {code : ByteArray} {pc : Nat} (h : DkAt code pc [7]) : decode code pc = .ok (.iconst 4, 1) := dk_of ((dk_bind (dk_u1 (h 0 _ rfl))).trans rfl)
theorem dk_8 {code : ByteArray} {pc : Nat} (h : DkAt code pc [8]) : decode code pc = .ok (.iconst 5, 1) := dk_of ((dk_bind (dk_u1 (h 0 _ rfl))).trans rfl)
theorem dk_9 {code : ByteArray} {pc : Nat} (h : DkAt code pc [9]) : decode code pc = .ok (.lconst 0, 1) := dk_of ((dk_bind (dk_u1 (h 0 _ rfl))).trans rfl)
theorem dk_10 {code : ByteArray} {pc : Nat} (h : DkAt code pc [10]) : decode code pc = .ok (.lconst 1, 1) := dk_of ((dk_bind (dk_u1 (h 0 _ rfl))).trans rfl)
theorem dk_16 {code : ByteArray} {pc : Nat} (a : UInt8) (h : DkAt code pc [16, a]) : decode code pc = .ok (.bipush (Reader.signed 8 a.toNat), 2) := dk_of ((dk_bind (dk_u1 (h 0 _ rfl))).trans ((dk_bind (dk_map (dk_u1 (h 1 _ rfl)))).trans rfl))
theorem dk_17 {code : ByteArray} {pc : Nat} (a b : UInt8) (h : DkAt code pc [17, a, b]) : decode code pc = .ok (.sipush (Reader.signed 16 (a.toNat * 256 + b.toNat)), 3) := dk_of ((dk_bind (dk_u1 (h 0 _ rfl))).trans ((dk_bind (dk_map (dk_u2 (h 1 _ rfl) (h 2 _ rfl)))).trans rfl))
theorem dk_18 {code : ByteArray} {pc : Nat} (a : UInt8) (h : DkAt code pc [18, a]) : decode code pc = .ok (.ldc a.toNat, 2) := dk_of ((dk_bind (dk_u1 (h 0 _ rfl))).trans ((dk_bind (dk_u1 (h 1 _ rfl))).trans rfl))
theorem dk_19 {code : ByteArray} {pc : Nat} (a b : UInt8) (h : DkAt code pc [19, a, b]) : decode code pc = .ok (.ldc_w (a.toNat * 256 + b.toNat), 3) := dk_of ((dk_bind (dk_u1 (h 0 _ rfl))).trans ((dk_bind (dk_u2 (h 1 _ rfl) (h 2 _ rfl))).trans rfl))
theorem dk_20 {code : ByteArray} {pc : Nat} (a b : UInt8) (h : DkAt code pc [20, a, b]) : decode code pc = .ok (.ldc2_w (a.toNat * 256 + b.toNat), 3) := dk_of ((dk_bind (dk_u1 (h 0 _ rfl))).trans ((dk_bind (dk_u2 (h 1 _ rfl) (h 2 _ rfl))).trans rfl))
theorem dk_21 {code : ByteArray} {pc : Nat} (a : UInt8) (h : DkAt code pc [21, a]) : decode code pc = .ok (.iload a.toNat, 2) := dk_of ((dk_bind (dk_u1 (h 0 _ rfl))).trans ((dk_bind (dk_u1 (h 1 _ rfl))).trans rfl))
theorem dk_22 {code : ByteArray} {pc : Nat} (a : UInt8) (h : DkAt code pc [22, a]) : decode code pc = .ok (.lload a.toNat, 2) := dk_of ((dk_bind (dk_u1 (h 0 _ rfl))).trans ((dk_bind (dk_u1 (h 1 _ rfl))).trans rfl))
theorem dk_26 {code : ByteArray} {pc : Nat} (h : DkAt code pc [26]) : decode code pc = .ok (.iload_n 0, 1) := dk_of ((dk_bind (dk_u1 (h 0 _ rfl))).trans rfl)
theorem dk_27 {code : ByteArray} {pc : Nat} (h : DkAt code pc [27]) : decode code pc = .ok (.iload_n 1, 1) := dk_of ((dk_bind (dk_u1 (h 0 _ rfl))).trans rfl)
theorem dk_28 {code : ByteArray} {pc : Nat} (h : DkAt code pc [28]) : decode code pc = .ok (.iload_n 2, 1) := dk_of ((dk_bind (dk_u1 (h 0 _ rfl))).trans rfl)
theorem dk_29 {code : ByteArray} {pc : Nat} (h : DkAt code pc [29]) : decode code pc = .ok (.iload_n 3, 1) := dk_of ((dk_bind (dk_u1 (h 0 _ rfl))).trans rfl)
theorem dk_30 {code : ByteArray} {pc : Nat} (h : DkAt code pc [30]) : decode code pc = .ok (.lload_n 0, 1) := dk_of ((dk_bind (dk_u1 (h 0 _ rfl))).trans rfl)
theorem dk_31 {code : ByteArray} {pc : Nat} (h : DkAt code pc [31]) : decode code pc = .ok (.lload_n 1, 1) := dk_of ((dk_bind (dk_u1 (h 0 _ rfl))).trans rfl)
theorem dk_32 {code : ByteArray} {pc : Nat} (h : DkAt code pc [32]) : decode code pc = .ok (.lload_n 2, 1) := dk_of ((dk_bind (dk_u1 (h 0 _ rfl))).trans rfl)
theorem dk_33 {code : ByteArray} {pc : Nat} (h : DkAt code pc [33]) : decode code pc = .ok (.lload_n 3, 1) := dk_of ((dk_bind (dk_u1 (h 0 _ rfl))).trans rfl)
theorem dk_42 {code : ByteArray} {pc : Nat} (h : DkAt code pc [42]) : decode code pc = .ok (.aload_n 0, 1) := dk_of ((dk_bind (dk_u1 (h 0 _ rfl))).trans rfl)
theorem dk_43 {code : ByteArray} {pc : Nat} (h : DkAt code pc [43]) : decode code pc = .ok (.aload_n 1, 1) := dk_of ((dk_bind (dk_u1 (h 0 _ rfl))).trans rfl)
theorem dk_44 {code : ByteArray} {pc : Nat} (h : DkAt code pc [44]) : decode code pc = .ok (.aload_n 2, 1) := dk_of ((dk_bind (dk_u1 (h 0 _ rfl))).trans rfl)
theorem dk_45 {code : ByteArray} {pc : Nat} (h : DkAt code pc [45]) : decode code pc = .ok (.aload_n 3, 1) := dk_of ((dk_bind (dk_u1 (h 0 _ rfl))).trans rfl)
theorem dk_46 {code : ByteArray} {pc : Nat} (h : DkAt code pc [46]) : decode code pc = .ok (.iaload, 1) := dk_of ((dk_bind (dk_u1 (h 0 _ rfl))).trans rfl)
theorem dk_47 {code : ByteArray} {pc : Nat} (h : DkAt code pc [47]) : decode code pc = .ok (.laload, 1) := dk_of ((dk_bind (dk_u1 (h 0 _ rfl))).trans rfl)
theorem dk_50 {code : ByteArray} {pc : Nat} (h : DkAt code pc [50]) : decode code pc = .ok (.aaload, 1) := dk_of ((dk_bind (dk_u1 (h 0 _ rfl))).trans rfl)
theorem dk_51 {code : ByteArray} {pc : Nat} (h : DkAt code pc [51]) : decode code pc = .ok (.baload, 1) := dk_of ((dk_bind (dk_u1 (h 0 _ rfl))).trans rfl)
theorem dk_53 {code : ByteArray} {pc : Nat} (h : DkAt code pc [53]) : decode code pc = .ok (.saload, 1) := dk_of ((dk_bind (dk_u1 (h 0 _ rfl))).trans rfl)
theorem dk_54 {code : ByteArray} {pc : Nat} (a : UInt8) (h : DkAt code pc [54, a]) : decode code pc = .ok (.istore a.toNat, 2) := dk_of ((dk_bind (dk_u1 (h 0 _ rfl))).trans ((dk_bind (dk_u1 (h 1 _ rfl))).trans rfl))
theorem dk_55 {code : ByteArray} {pc : Nat} (a : UInt8) (h : DkAt code pc [55, a]) : decode code pc = .ok (.lstore a.toNat, 2) := dk_of ((dk_bind (dk_u1 (h 0 _ rfl))).trans ((dk_bind (dk_u1 (h 1 _ rfl))).trans rfl))
theorem dk_58 {code : ByteArray} {pc : Nat} (a : UInt8) (h : DkAt code pc [58, a]) : decode code pc = .ok (.astore a.toNat, 2) := dk_of ((dk_bind (dk_u1 (h 0 _ rfl))).trans ((dk_bind (dk_u1 (h 1 _ rfl))).trans rfl))
theorem dk_59 {code : ByteArray} {pc : Nat} (h : DkAt code pc [59]) : decode code pc = .ok (.istore_n 0, 1) := dk_of ((dk_bind (dk_u1 (h 0 _ rfl))).trans rfl)
theorem dk_60 {code : ByteArray} {pc : Nat} (h : DkAt code pc [60]) : decode code pc = .ok (.istore_n 1, 1) := dk_of ((dk_bind (dk_u1 (h 0 _ rfl))).trans rfl)
theorem dk_61 {code : ByteArray} {pc : Nat} (h : DkAt code pc [61]) : decode code pc = .ok (.istore_n 2, 1) := dk_of ((dk_bind (dk_u1 (h 0 _ rfl))).trans rfl)
theorem dk_62 {code : ByteArray} {pc : Nat} (h : DkAt code pc [62]) : decode code pc = .ok (.istore_n 3, 1) := dk_of ((dk_bind (dk_u1 (h 0 _ rfl))).trans rfl)
theorem dk_64 {code : ByteArray} {pc : Nat} (h : DkAt code pc [64]) : decode code pc = .ok (.lstore_n 1, 1) := dk_of ((dk_bind (dk_u1 (h 0 _ rfl))).trans rfl)
theorem dk_65 {code : ByteArray} {pc : Nat} (h : DkAt code pc [65]) : decode code pc = .ok (.lstore_n 2, 1) := dk_of ((dk_bind (dk_u1 (h 0 _ rfl))).trans rfl)
theorem dk_66 {code : ByteArray} {pc : Nat} (h : DkAt code pc [66]) : decode code pc = .ok (.lstore_n 3, 1) := dk_of ((dk_bind (dk_u1 (h 0 _ rfl))).trans rfl)
theorem dk_76 {code : ByteArray} {pc : Nat} (h : DkAt code pc [76]) : decode code pc = .ok (.astore_n 1, 1) := dk_of ((dk_bind (dk_u1 (h 0 _ rfl))).trans rfl)
theorem dk_77 {code : ByteArray} {pc : Nat} (h : DkAt code pc [77]) : decode code pc = .ok (.astore_n 2, 1) := dk_of ((dk_bind (dk_u1 (h 0 _ rfl))).trans rfl)
theorem dk_78 {code : ByteArray} {pc : Nat} (h : DkAt code pc [78]) : decode code pc = .ok (.astore_n 3, 1) := dk_of ((dk_bind (dk_u1 (h 0 _ rfl))).trans rfl)
theorem dk_79 {code : ByteArray} {pc : Nat} (h : DkAt code pc [79]) : decode code pc = .ok (.iastore, 1) := dk_of ((dk_bind (dk_u1 (h 0 _ rfl))).trans rfl)
theorem dk_80 {code : ByteArray} {pc : Nat} (h : DkAt code pc [80]) : decode code pc = .ok (.lastore, 1) := dk_of ((dk_bind (dk_u1 (h 0 _ rfl))).trans rfl)
theorem dk_83 {code : ByteArray} {pc : Nat} (h : DkAt code pc [83]) : decode code pc = .ok (.aastore, 1) := dk_of ((dk_bind (dk_u1 (h 0 _ rfl))).trans rfl)
theorem dk_84 {code : ByteArray} {pc : Nat} (h : DkAt code pc [84]) : decode code pc = .ok (.bastore, 1) := dk_of ((dk_bind (dk_u1 (h 0 _ rfl))).trans rfl)
theorem dk_86 {code : ByteArray} {pc : Nat} (h : DkAt code pc [86]) : decode code pc = .ok (.sastore, 1) := dk_of ((dk_bind (dk_u1 (h 0 _ rfl))).trans rfl)
theorem dk_87 {code : ByteArray} {pc : Nat} (h : DkAt code pc [87]) : decode code pc = .ok (.pop, 1) := dk_of ((dk_bind (dk_u1 (h 0 _ rfl))).trans rfl)
theorem dk_89 {code : ByteArray} {pc : Nat} (h : DkAt code pc [89]) : decode code pc = .ok (.dup, 1) := dk_of ((dk_bind (dk_u1 (h 0 _ rfl))).trans rfl)
theorem dk_90 {code : ByteArray} {pc : Nat} (h : DkAt code pc [90]) : decode code pc = .ok (.dup_x1, 1) := dk_of ((dk_bind (dk_u1 (h 0 _ rfl))).trans rfl)
theorem dk_92 {code : ByteArray} {pc : Nat} (h : DkAt code pc [92]) : decode code pc = .ok (.dup2, 1) := dk_of ((dk_bind (dk_u1 (h 0 _ rfl))).trans rfl)
theorem dk_96 {code : ByteArray} {pc : Nat} (h : DkAt code pc [96]) : decode code pc = .ok (.iadd, 1) := dk_of ((dk_bind (dk_u1 (h 0 _ rfl))).trans rfl)
theorem dk_97 {code : ByteArray} {pc : Nat} (h : DkAt code pc [97]) : decode code pc = .ok (.ladd, 1) := dk_of ((dk_bind (dk_u1 (h 0 _ rfl))).trans rfl)
theorem dk_100 {code : ByteArray} {pc : Nat} (h : DkAt code pc [100]) : decode code pc = .ok (.isub, 1) := dk_of ((dk_bind (dk_u1 (h 0 _ rfl))).trans rfl)
theorem dk_101 {code : ByteArray} {pc : Nat} (h : DkAt code pc [101]) : decode code pc = .ok (.lsub, 1) := dk_of ((dk_bind (dk_u1 (h 0 _ rfl))).trans rfl)
theorem dk_104 {code : ByteArray} {pc : Nat} (h : DkAt code pc [104]) : decode code pc = .ok (.imul, 1) := dk_of ((dk_bind (dk_u1 (h 0 _ rfl))).trans rfl)
theorem dk_105 {code : ByteArray} {pc : Nat} (h : DkAt code pc [105]) : decode code pc = .ok (.lmul, 1) := dk_of ((dk_bind (dk_u1 (h 0 _ rfl))).trans rfl)
theorem dk_108 {code : ByteArray} {pc : Nat} (h : DkAt code pc [108]) : decode code pc = .ok (.idiv, 1) := dk_of ((dk_bind (dk_u1 (h 0 _ rfl))).trans rfl)
theorem dk_109 {code : ByteArray} {pc : Nat} (h : DkAt code pc [109]) : decode code pc = .ok (.ldiv, 1) := dk_of ((dk_bind (dk_u1 (h 0 _ rfl))).trans rfl)
theorem dk_112 {code : ByteArray} {pc : Nat} (h : DkAt code pc [112]) : decode code pc = .ok (.irem, 1) := dk_of ((dk_bind (dk_u1 (h 0 _ rfl))).trans rfl)
theorem dk_113 {code : ByteArray} {pc : Nat} (h : DkAt code pc [113]) : decode code pc = .ok (.lrem, 1) := dk_of ((dk_bind (dk_u1 (h 0 _ rfl))).trans rfl)
theorem dk_117 {code : ByteArray} {pc : Nat} (h : DkAt code pc [117]) : decode code pc = .ok (.lneg, 1) := dk_of ((dk_bind (dk_u1 (h 0 _ rfl))).trans rfl)
theorem dk_120 {code : ByteArray} {pc : Nat} (h : DkAt code pc [120]) : decode code pc = .ok (.ishl, 1) := dk_of ((dk_bind (dk_u1 (h 0 _ rfl))).trans rfl)
theorem dk_121 {code : ByteArray} {pc : Nat} (h : DkAt code pc [121]) : decode code pc = .ok (.lshl, 1) := dk_of ((dk_bind (dk_u1 (h 0 _ rfl))).trans rfl)
theorem dk_122 {code : ByteArray} {pc : Nat} (h : DkAt code pc [122]) : decode code pc = .ok (.ishr, 1) := dk_of ((dk_bind (dk_u1 (h 0 _ rfl))).trans rfl)
theorem dk_124 {code : ByteArray} {pc : Nat} (h : DkAt code pc [124]) : decode code pc = .ok (.iushr, 1) := dk_of ((dk_bind (dk_u1 (h 0 _ rfl))).trans rfl)
theorem dk_126 {code : ByteArray} {pc : Nat} (h : DkAt code pc [126]) : decode code pc = .ok (.iand, 1) := dk_of ((dk_bind (dk_u1 (h 0 _ rfl))).trans rfl)
theorem dk_127 {code : ByteArray} {pc : Nat} (h : DkAt code pc [127]) : decode code pc = .ok (.land, 1) := dk_of ((dk_bind (dk_u1 (h 0 _ rfl))).trans rfl)
theorem dk_128 {code : ByteArray} {pc : Nat} (h : DkAt code pc [128]) : decode code pc = .ok (.ior, 1) := dk_of ((dk_bind (dk_u1 (h 0 _ rfl))).trans rfl)
theorem dk_129 {code : ByteArray} {pc : Nat} (h : DkAt code pc [129]) : decode code pc = .ok (.lor, 1) := dk_of ((dk_bind (dk_u1 (h 0 _ rfl))).trans rfl)
theorem dk_130 {code : ByteArray} {pc : Nat} (h : DkAt code pc [130]) : decode code pc = .ok (.ixor, 1) := dk_of ((dk_bind (dk_u1 (h 0 _ rfl))).trans rfl)
theorem dk_132 {code : ByteArray} {pc : Nat} (a b : UInt8) (h : DkAt code pc [132, a, b]) : decode code pc = .ok (.iinc a.toNat (Reader.signed 8 b.toNat), 3) := dk_of ((dk_bind (dk_u1 (h 0 _ rfl))).trans ((dk_bind (dk_u1 (h 1 _ rfl))).trans ((dk_bind (dk_map (dk_u1 (h 2 _ rfl)))).trans rfl)))
theorem dk_133 {code : ByteArray} {pc : Nat} (h : DkAt code pc [133]) : decode code pc = .ok (.i2l, 1) := dk_of ((dk_bind (dk_u1 (h 0 _ rfl))).trans rfl)
theorem dk_136 {code : ByteArray} {pc : Nat} (h : DkAt code pc [136]) : decode code pc = .ok (.l2i, 1) := dk_of ((dk_bind (dk_u1 (h 0 _ rfl))).trans rfl)
theorem dk_145 {code : ByteArray} {pc : Nat} (h : DkAt code pc [145]) : decode code pc = .ok (.i2b, 1) := dk_of ((dk_bind (dk_u1 (h 0 _ rfl))).trans rfl)
theorem dk_146 {code : ByteArray} {pc : Nat} (h : DkAt code pc [146]) : decode code pc = .ok (.i2c, 1) := dk_of ((dk_bind (dk_u1 (h 0 _ rfl))).trans rfl)
theorem dk_147 {code : ByteArray} {pc : Nat} (h : DkAt code pc [147]) : decode code pc = .ok (.i2s, 1) := dk_of ((dk_bind (dk_u1 (h 0 _ rfl))).trans rfl)
theorem dk_148 {code : ByteArray} {pc : Nat} (h : DkAt code pc [148]) : decode code pc = .ok (.lcmp, 1) := dk_of ((dk_bind (dk_u1 (h 0 _ rfl))).trans rfl)
theorem dk_153 {code : ByteArray} {pc : Nat} (a b : UInt8) (h : DkAt code pc [153, a, b]) : decode code pc = .ok (.ifCond .eq (Reader.signed 16 (a.toNat * 256 + b.toNat)), 3) := dk_of ((dk_bind (dk_u1 (h 0 _ rfl))).trans ((dk_bind (dk_map (dk_u2 (h 1 _ rfl) (h 2 _ rfl)))).trans rfl))
theorem dk_154 {code : ByteArray} {pc : Nat} (a b : UInt8) (h : DkAt code pc [154, a, b]) : decode code pc = .ok (.ifCond .ne (Reader.signed 16 (a.toNat * 256 + b.toNat)), 3) := dk_of ((dk_bind (dk_u1 (h 0 _ rfl))).trans ((dk_bind (dk_map (dk_u2 (h 1 _ rfl) (h 2 _ rfl)))).trans rfl))
theorem dk_155 {code : ByteArray} {pc : Nat} (a b : UInt8) (h : DkAt code pc [155, a, b]) : decode code pc = .ok (.ifCond .lt (Reader.signed 16 (a.toNat * 256 + b.toNat)), 3) := dk_of ((dk_bind (dk_u1 (h 0 _ rfl))).trans ((dk_bind (dk_map (dk_u2 (h 1 _ rfl) (h 2 _ rfl)))).trans rfl))
theorem dk_156 {code : ByteArray} {pc : Nat} (a b : UInt8) (h : DkAt code pc [156, a, b]) : decode code pc = .ok (.ifCond .ge (Reader.signed 16 (a.toNat * 256 + b.toNat)), 3) := dk_of ((dk_bind (dk_u1 (h 0 _ rfl))).trans ((dk_bind (dk_map (dk_u2 (h 1 _ rfl) (h 2 _ rfl)))).trans rfl))
theorem dk_157 {code : ByteArray} {pc : Nat} (a b : UInt8) (h : DkAt code pc [157, a, b]) : decode code pc = .ok (.ifCond .gt (Reader.signed 16 (a.toNat * 256 + b.toNat)), 3) := dk_of ((dk_bind (dk_u1 (h 0 _ rfl))).trans ((dk_bind (dk_map (dk_u2 (h 1 _ rfl) (h 2 _ rfl)))).trans rfl))
theorem dk_158 {code : ByteArray} {pc : Nat} (a b : UInt8) (h : DkAt code pc [158, a, b]) : decode code pc = .ok (.ifCond .le (Reader.signed 16 (a.toNat * 256 + b.toNat)), 3) := dk_of ((dk_bind (dk_u1 (h 0 _ rfl))).trans ((dk_bind (dk_map (dk_u2 (h 1 _ rfl) (h 2 _ rfl)))).trans rfl))
theorem dk_159 {code : ByteArray} {pc : Nat} (a b : UInt8) (h : DkAt code pc [159, a, b]) : decode code pc = .ok (.if_icmp .eq (Reader.signed 16 (a.toNat * 256 + b.toNat)), 3) := dk_of ((dk_bind (dk_u1 (h 0 _ rfl))).trans ((dk_bind (dk_map (dk_u2 (h 1 _ rfl) (h 2 _ rfl)))).trans rfl))
theorem dk_160 {code : ByteArray} {pc : Nat} (a b : UInt8) (h : DkAt code pc [160, a, b]) : decode code pc = .ok (.if_icmp .ne (Reader.signed 16 (a.toNat * 256 + b.toNat)), 3) := dk_of ((dk_bind (dk_u1 (h 0 _ rfl))).trans ((dk_bind (dk_map (dk_u2 (h 1 _ rfl) (h 2 _ rfl)))).trans rfl))
theorem dk_161 {code : ByteArray} {pc : Nat} (a b : UInt8) (h : DkAt code pc [161, a, b]) : decode code pc = .ok (.if_icmp .lt (Reader.signed 16 (a.toNat * 256 + b.toNat)), 3) := dk_of ((dk_bind (dk_u1 (h 0 _ rfl))).trans ((dk_bind (dk_map (dk_u2 (h 1 _ rfl) (h 2 _ rfl)))).trans rfl))
theorem dk_162 {code : ByteArray} {pc : Nat} (a b : UInt8) (h : DkAt code pc [162, a, b]) : decode code pc = .ok (.if_icmp .ge (Reader.signed 16 (a.toNat * 256 + b.toNat)), 3) := dk_of ((dk_bind (dk_u1 (h 0 _ rfl))).trans ((dk_bind (dk_map (dk_u2 (h 1 _ rfl) (h 2 _ rfl)))).trans rfl))
theorem dk_163 {code : ByteArray} {pc : Nat} (a b : UInt8) (h : DkAt code pc [163, a, b]) : decode code pc = .ok (.if_icmp .gt (Reader.signed 16 (a.toNat * 256 + b.toNat)), 3) := dk_of ((dk_bind (dk_u1 (h 0 _ rfl))).trans ((dk_bind (dk_map (dk_u2 (h 1 _ rfl) (h 2 _ rfl)))).trans rfl))
theorem dk_164 {code : ByteArray} {pc : Nat} (a b : UInt8) (h : DkAt code pc [164, a, b]) : decode code pc = .ok (.if_icmp .le (Reader.signed 16 (a.toNat * 256 + b.toNat)), 3) := dk_of ((dk_bind (dk_u1 (h 0 _ rfl))).trans ((dk_bind (dk_map (dk_u2 (h 1 _ rfl) (h 2 _ rfl)))).trans rfl))
theorem dk_165 {code : ByteArray} {pc : Nat} (a b : UInt8) (h : DkAt code pc [165, a, b]) : decode code pc = .ok (.if_acmp .eq (Reader.signed 16 (a.toNat * 256 + b.toNat)), 3) := dk_of ((dk_bind (dk_u1 (h 0 _ rfl))).trans ((dk_bind (dk_map (dk_u2 (h 1 _ rfl) (h 2 _ rfl)))).trans rfl))
theorem dk_166 {code : ByteArray} {pc : Nat} (a b : UInt8) (h : DkAt code pc [166, a, b]) : decode code pc = .ok (.if_acmp .ne (Reader.signed 16 (a.toNat * 256 + b.toNat)), 3) := dk_of ((dk_bind (dk_u1 (h 0 _ rfl))).trans ((dk_bind (dk_map (dk_u2 (h 1 _ rfl) (h 2 _ rfl)))).trans rfl))
theorem dk_167 {code : ByteArray} {pc : Nat} (a b : UInt8) (h : DkAt code pc [167, a, b]) : decode code pc = .ok (.goto (Reader.signed 16 (a.toNat * 256 + b.toNat)), 3) := dk_of ((dk_bind (dk_u1 (h 0 _ rfl))).trans ((dk_bind (dk_map (dk_u2 (h 1 _ rfl) (h 2 _ rfl)))).trans rfl))
theorem dk_172 {code : ByteArray} {pc : Nat} (h : DkAt code pc [172]) : decode code pc = .ok (.ireturn, 1) := dk_of ((dk_bind (dk_u1 (h 0 _ rfl))).trans rfl)
theorem dk_173 {code : ByteArray} {pc : Nat} (h : DkAt code pc [173]) : decode code pc = .ok (.lreturn, 1) := dk_of ((dk_bind (dk_u1 (h 0 _ rfl))).trans rfl)
theorem dk_176 {code : ByteArray} {pc : Nat} (h : DkAt code pc [176]) : decode code pc = .ok (.areturn, 1) := dk_of ((dk_bind (dk_u1 (h 0 _ rfl))).trans rfl)
theorem dk_177 {code : ByteArray} {pc : Nat} (h : DkAt code pc [177]) : decode code pc = .ok (.return_, 1) := dk_of ((dk_bind (dk_u1 (h 0 _ rfl))).trans rfl)
theorem dk_178 {code : ByteArray} {pc : Nat} (a b : UInt8) (h : DkAt code pc [178, a, b]) : decode code pc = .ok (.getstatic (a.toNat * 256 + b.toNat), 3) := dk_of ((dk_bind (dk_u1 (h 0 _ rfl))).trans ((dk_bind (dk_u2 (h 1 _ rfl) (h 2 _ rfl))).trans rfl))
theorem dk_180 {code : ByteArray} {pc : Nat} (a b : UInt8) (h : DkAt code pc [180, a, b]) : decode code pc = .ok (.getfield (a.toNat * 256 + b.toNat), 3) := dk_of ((dk_bind (dk_u1 (h 0 _ rfl))).trans ((dk_bind (dk_u2 (h 1 _ rfl) (h 2 _ rfl))).trans rfl))
theorem dk_181 {code : ByteArray} {pc : Nat} (a b : UInt8) (h : DkAt code pc [181, a, b]) : decode code pc = .ok (.putfield (a.toNat * 256 + b.toNat), 3) := dk_of ((dk_bind (dk_u1 (h 0 _ rfl))).trans ((dk_bind (dk_u2 (h 1 _ rfl) (h 2 _ rfl))).trans rfl))
theorem dk_182 {code : ByteArray} {pc : Nat} (a b : UInt8) (h : DkAt code pc [182, a, b]) : decode code pc = .ok (.invokevirtual (a.toNat * 256 + b.toNat), 3) := dk_of ((dk_bind (dk_u1 (h 0 _ rfl))).trans ((dk_bind (dk_u2 (h 1 _ rfl) (h 2 _ rfl))).trans rfl))
theorem dk_183 {code : ByteArray} {pc : Nat} (a b : UInt8) (h : DkAt code pc [183, a, b]) : decode code pc = .ok (.invokespecial (a.toNat * 256 + b.toNat), 3) := dk_of ((dk_bind (dk_u1 (h 0 _ rfl))).trans ((dk_bind (dk_u2 (h 1 _ rfl) (h 2 _ rfl))).trans rfl))
theorem dk_184 {code : ByteArray} {pc : Nat} (a b : UInt8) (h : DkAt code pc [184, a, b]) : decode code pc = .ok (.invokestatic (a.toNat * 256 + b.toNat), 3) := dk_of ((dk_bind (dk_u1 (h 0 _ rfl))).trans ((dk_bind (dk_u2 (h 1 _ rfl) (h 2 _ rfl))).trans rfl))
theorem dk_187 {code : ByteArray} {pc : Nat} (a b : UInt8) (h : DkAt code pc [187, a, b]) : decode code pc = .ok (.new (a.toNat * 256 + b.toNat), 3) := dk_of ((dk_bind (dk_u1 (h 0 _ rfl))).trans ((dk_bind (dk_u2 (h 1 _ rfl) (h 2 _ rfl))).trans rfl))
theorem dk_188_4 {code : ByteArray} {pc : Nat} (h : DkAt code pc [188, 4]) : decode code pc = .ok (.newarray .boolean, 2) := dk_of ((dk_bind (dk_u1 (h 0 _ rfl))).trans ((dk_bind (dk_u1 (h 1 _ rfl))).trans rfl))
theorem dk_188_8 {code : ByteArray} {pc : Nat} (h : DkAt code pc [188, 8]) : decode code pc = .ok (.newarray .byte, 2) := dk_of ((dk_bind (dk_u1 (h 0 _ rfl))).trans ((dk_bind (dk_u1 (h 1 _ rfl))).trans rfl))
theorem dk_188_9 {code : ByteArray} {pc : Nat} (h : DkAt code pc [188, 9]) : decode code pc = .ok (.newarray .short, 2) := dk_of ((dk_bind (dk_u1 (h 0 _ rfl))).trans ((dk_bind (dk_u1 (h 1 _ rfl))).trans rfl))
theorem dk_188_10 {code : ByteArray} {pc : Nat} (h : DkAt code pc [188, 10]) : decode code pc = .ok (.newarray .int, 2) := dk_of ((dk_bind (dk_u1 (h 0 _ rfl))).trans ((dk_bind (dk_u1 (h 1 _ rfl))).trans rfl))
theorem dk_188_11 {code : ByteArray} {pc : Nat} (h : DkAt code pc [188, 11]) : decode code pc = .ok (.newarray .long, 2) := dk_of ((dk_bind (dk_u1 (h 0 _ rfl))).trans ((dk_bind (dk_u1 (h 1 _ rfl))).trans rfl))
theorem dk_189 {code : ByteArray} {pc : Nat} (a b : UInt8) (h : DkAt code pc [189, a, b]) : decode code pc = .ok (.anewarray (a.toNat * 256 + b.toNat), 3) := dk_of ((dk_bind (dk_u1 (h 0 _ rfl))).trans ((dk_bind (dk_u2 (h 1 _ rfl) (h 2 _ rfl))).trans rfl))
theorem dk_190 {code : ByteArray} {pc : Nat} (h : DkAt code pc [190]) : decode code pc = .ok (.arraylength, 1) := dk_of ((dk_bind (dk_u1 (h 0 _ rfl))).trans rfl)
theorem dk_191 {code : ByteArray} {pc : Nat} (h : DkAt code pc [191]) : decode code pc = .ok (.athrow, 1) := dk_of ((dk_bind (dk_u1 (h 0 _ rfl))).trans rfl)
theorem dk_192 {code : ByteArray} {pc : Nat} (a b : UInt8) (h : DkAt code pc [192, a, b]) : decode code pc = .ok (.checkcast (a.toNat * 256 + b.toNat), 3) := dk_of ((dk_bind (dk_u1 (h 0 _ rfl))).trans ((dk_bind (dk_u2 (h 1 _ rfl) (h 2 _ rfl))).trans rfl))
theorem dk_193 {code : ByteArray} {pc : Nat} (a b : UInt8) (h : DkAt code pc [193, a, b]) : decode code pc = .ok (.instanceof (a.toNat * 256 + b.toNat), 3) := dk_of ((dk_bind (dk_u1 (h 0 _ rfl))).trans ((dk_bind (dk_u2 (h 1 _ rfl) (h 2 _ rfl))).trans rfl))
theorem dk_199 {code : ByteArray} {pc : Nat} (a b : UInt8) (h : DkAt code pc [199, a, b]) : decode code pc = .ok (.ifnonnull (Reader.signed 16 (a.toNat * 256 + b.toNat)), 3) := dk_of ((dk_bind (dk_u1 (h 0 _ rfl))).trans ((dk_bind (dk_map (dk_u2 (h 1 _ rfl) (h 2 _ rfl)))).trans rfl))
/-! SagMemoryModel -/
set_option maxRecDepth 100000
def RX7 : String := "SagMemoryModel"
def TX7 : u_T := fun k => match k with
  | 0 => ("SagMemoryModel", "thrown", "I", false)
  | 1 => ("SagMemoryModel", "width", "[I", true)
  | 2 => ("SagMemoryModel", "many", "[I", true)
  | 3 => ("SagMemoryModel", "cells", "[J", true)
  | 4 => ("SagMemoryModel", "moved", "[J", true)
  | 5 => ("SagMemoryModel", "tape", "[B", true)
  | 6 => ("SagMemoryModel", "taped", "I", false)
  | 7 => ("SagMemoryModel", "spot", "I", false)
  | 8 => ("SagMemoryModel", "token", "I", false)
  | 9 => ("SagMemoryModel", "place", "I", false)
  | 10 => ("SagMemoryModel", "value", "I", false)
  | 11 => ("SagMemoryModel", "word", "J", false)
  | 12 => ("SagMemoryModel", "bad", "I", false)
  | 13 => ("SagMemoryModel", "badPlace", "I", false)
  | 14 => ("SagMemoryModel", "fault", "I", false)
  | 15 => ("SagMemoryModel", "faultPlace", "I", false)
  | 16 => ("SagMemoryModel", "lines", "[I", true)
  | 17 => ("SagMemoryModel", "has", "[I", true)
  | 18 => ("SagMemoryModel", "bridge", "[I", true)
  | 19 => ("SagMemoryModel", "cart", "[I", true)
  | 20 => ("SagMemoryModel", "ward", "[I", true)
  | 21 => ("SagMemoryModel", "frostAt", "[I", true)
  | 22 => ("SagMemoryModel", "act", "[I", true)
  | 23 => ("SagMemoryModel", "isKept", "[Z", true)
  | 24 => ("SagMemoryModel", "law", "I", false)
  | 25 => ("SagMemoryModel", "frosts", "I", false)
  | 26 => ("SagMemoryModel", "absent", "I", false)
  | 27 => ("SagMemoryModel", "loadNow", "[I", true)
  | 28 => ("SagMemoryModel", "byNow", "[I", true)
  | 29 => ("SagMemoryModel", "row", "[I", true)
  | 30 => ("SagMemoryModel", "memory", "[I", true)
  | 31 => ("SagMemoryModel", "whose", "[I", true)
  | 32 => ("SagMemoryModel", "deepNow", "[I", true)
  | 33 => ("SagMemoryModel", "brokenBy", "[I", true)
  | 34 => ("SagMemoryModel", "brokenAt", "[I", true)
  | 35 => ("SagMemoryModel", "goesBy", "[I", true)
  | 36 => ("SagMemoryModel", "comesTo", "[I", true)
  | 37 => ("SagMemoryModel", "sagMore", "[I", true)
  | 38 => ("SagMemoryModel", "creakOf", "[I", true)
  | 39 => ("SagMemoryModel", "wipedBy", "[I", true)
  | 40 => ("SagMemoryModel", "deepAt", "[I", true)
  | 41 => ("SagMemoryModel", "sagAt", "[I", true)
  | 42 => ("SagMemoryModel", "loadAt", "[I", true)
  | 43 => ("SagMemoryModel", "orderLeast", "I", false)
  | 44 => ("SagMemoryModel", "orderMany", "I", false)
  | 45 => ("SagMemoryModel", "orderOver", "I", false)
  | 46 => ("SagMemoryModel", "orderRow", "[I", true)
  | 47 => ("SagMemoryModel", "setMany", "I", false)
  | 48 => ("SagMemoryModel", "setAll", "I", false)
  | 49 => ("SagMemoryModel", "setAny", "I", false)
  | 50 => ("SagMemoryModel", "setFewest", "I", false)
  | 51 => ("SagMemoryModel", "askBest", "I", false)
  | 52 => ("SagMemoryModel", "askLeaves", "I", false)
  | 53 => ("SagMemoryModel", "often", "[I", true)
  | 54 => ("SagMemoryModel", "lieMany", "I", false)
  | 55 => ("SagMemoryModel", "lieLeast", "I", false)
  | 56 => ("SagMemoryModel", "lieMost", "I", false)
  | 57 => ("SagMemoryModel", "lossOne", "[I", true)
  | _ => ("SagMemoryModel", "lossOther", "[I", true)
def tyX7 : Nat → FieldType := fun k => match k with
  | 0 => .int
  | 1 => .array .int
  | 2 => .array .int
  | 3 => .array .long
  | 4 => .array .long
  | 5 => .array .byte
  | 6 => .int
  | 7 => .int
  | 8 => .int
  | 9 => .int
  | 10 => .int
  | 11 => .long
  | 12 => .int
  | 13 => .int
  | 14 => .int
  | 15 => .int
  | 16 => .array .int
  | 17 => .array .int
  | 18 => .array .int
  | 19 => .array .int
  | 20 => .array .int
  | 21 => .array .int
  | 22 => .array .int
  | 23 => .array .boolean
  | 24 => .int
  | 25 => .int
  | 26 => .int
  | 27 => .array .int
  | 28 => .array .int
  | 29 => .array .int
  | 30 => .array .int
  | 31 => .array .int
  | 32 => .array .int
  | 33 => .array .int
  | 34 => .array .int
  | 35 => .array .int
  | 36 => .array .int
  | 37 => .array .int
  | 38 => .array .int
  | 39 => .array .int
  | 40 => .array .int
  | 41 => .array .int
  | 42 => .array .int
  | 43 => .int
  | 44 => .int
  | 45 => .int
  | 46 => .array .int
  | 47 => .int
  | 48 => .int
  | 49 => .int
  | 50 => .int
  | 51 => .int
  | 52 => .int
  | 53 => .array .int
  | 54 => .int
  | 55 => .int
  | 56 => .int
  | 57 => .array .int
  | _ => .array .int
abbrev wsX70 : List Cond := u_ws RX7 TX7 59
set_option maxRecDepth 100000 in
theorem nmX7 : ∀ a, a < 59 → ∀ b, b < 59 → a ≠ b → (TX7 a).2.1 ≠ (TX7 b).2.1 := by decide +kernel
set_option maxRecDepth 100000 in
theorem tyX7_ok : ∀ k, k < 59 → parseFieldDescriptor (TX7 k).2.2.1 = some (tyX7 k) := by decide +kernel
abbrev cX7_init : ByteArray := prog_12_method_1_code
def yX7_init : MethodName := ⟨RX7, "<init>", "()V"⟩
def dkwX7_init_12 : List UInt8 := [27, 2, 79, 132, 1, 1, 167, 255, 241, 177]
abbrev dktX7_init_12 : List UInt8 := dkwX7_init_12 ++ []
def dkwX7_init_11 : List UInt8 := [188, 10, 181, 0, 110, 42, 16, 9, 188, 10, 181, 0, 113, 3, 60, 27, 7, 162, 0, 16, 42, 180, 0, 7]
abbrev dktX7_init_11 : List UInt8 := dkwX7_init_11 ++ dktX7_init_12
def dkwX7_init_10 : List UInt8 := [188, 10, 181, 0, 101, 42, 16, 7, 188, 10, 181, 0, 104, 42, 16, 7, 188, 10, 181, 0, 107, 42, 16, 9]
abbrev dktX7_init_10 : List UInt8 := dkwX7_init_10 ++ dktX7_init_11
def dkwX7_init_9 : List UInt8 := [181, 0, 92, 42, 16, 21, 188, 10, 181, 0, 95, 42, 16, 21, 188, 10, 181, 0, 98, 42, 17, 0, 168]
abbrev dktX7_init_9 : List UInt8 := dkwX7_init_9 ++ dktX7_init_10
def dkwX7_init_8 : List UInt8 := [181, 0, 83, 42, 16, 7, 188, 10, 181, 0, 86, 42, 16, 7, 188, 10, 181, 0, 89, 42, 16, 7, 188, 10]
abbrev dktX7_init_8 : List UInt8 := dkwX7_init_8 ++ dktX7_init_9
def dkwX7_init_7 : List UInt8 := [181, 0, 74, 42, 6, 188, 10, 181, 0, 77, 42, 16, 7, 188, 10, 181, 0, 80, 42, 16, 7, 188, 10]
abbrev dktX7_init_7 : List UInt8 := dkwX7_init_7 ++ dktX7_init_8
def dkwX7_init_6 : List UInt8 := [181, 0, 65, 42, 16, 24, 188, 10, 181, 0, 68, 42, 6, 188, 10, 181, 0, 71, 42, 6, 188, 10]
abbrev dktX7_init_6 : List UInt8 := dkwX7_init_6 ++ dktX7_init_7
def dkwX7_init_5 : List UInt8 := [181, 0, 56, 42, 16, 7, 188, 10, 181, 0, 59, 42, 16, 7, 188, 10, 181, 0, 62, 42, 16, 24, 188, 10]
abbrev dktX7_init_5 : List UInt8 := dkwX7_init_5 ++ dktX7_init_6
def dkwX7_init_4 : List UInt8 := [181, 0, 46, 42, 17, 1, 194, 188, 10, 181, 0, 49, 42, 6, 188, 4, 181, 0, 52, 42, 16, 7, 188, 10]
abbrev dktX7_init_4 : List UInt8 := dkwX7_init_4 ++ dktX7_init_5
def dkwX7_init_3 : List UInt8 := [181, 0, 37, 42, 16, 70, 188, 10, 181, 0, 40, 42, 16, 75, 188, 10, 181, 0, 43, 42, 16, 20, 188, 10]
abbrev dktX7_init_3 : List UInt8 := dkwX7_init_3 ++ dktX7_init_4
def dkwX7_init_2 : List UInt8 := [181, 0, 27, 42, 8, 188, 10, 181, 0, 31, 42, 16, 40, 188, 10, 181, 0, 34, 42, 16, 30, 188, 10]
abbrev dktX7_init_2 : List UInt8 := dkwX7_init_2 ++ dktX7_init_3
def dkwX7_init_1 : List UInt8 := [181, 0, 16, 42, 16, 60, 188, 11, 181, 0, 20, 42, 17, 2, 188, 188, 8, 181, 0, 23, 42, 2]
abbrev dktX7_init_1 : List UInt8 := dkwX7_init_1 ++ dktX7_init_2
def dkwX7_init_0 : List UInt8 := [42, 183, 0, 1, 42, 7, 188, 10, 181, 0, 7, 42, 7, 188, 10, 181, 0, 13, 42, 17, 0, 240, 188, 11]
abbrev dktX7_init_0 : List UInt8 := dkwX7_init_0 ++ dktX7_init_1
theorem dksX7_init_0 : cX7_init.data.toList.drop 0 = dktX7_init_0 := by decide +kernel
theorem dksX7_init_1 : cX7_init.data.toList.drop 24 = dktX7_init_1 := dk_seg dksX7_init_0 24 rfl rfl
theorem dksX7_init_2 : cX7_init.data.toList.drop 46 = dktX7_init_2 := dk_seg dksX7_init_1 22 rfl rfl
theorem dksX7_init_3 : cX7_init.data.toList.drop 69 = dktX7_init_3 := dk_seg dksX7_init_2 23 rfl rfl
theorem dksX7_init_4 : cX7_init.data.toList.drop 93 = dktX7_init_4 := dk_seg dksX7_init_3 24 rfl rfl
theorem dksX7_init_5 : cX7_init.data.toList.drop 117 = dktX7_init_5 := dk_seg dksX7_init_4 24 rfl rfl
theorem dksX7_init_6 : cX7_init.data.toList.drop 141 = dktX7_init_6 := dk_seg dksX7_init_5 24 rfl rfl
theorem dksX7_init_7 : cX7_init.data.toList.drop 163 = dktX7_init_7 := dk_seg dksX7_init_6 22 rfl rfl
theorem dksX7_init_8 : cX7_init.data.toList.drop 186 = dktX7_init_8 := dk_seg dksX7_init_7 23 rfl rfl
theorem dksX7_init_9 : cX7_init.data.toList.drop 210 = dktX7_init_9 := dk_seg dksX7_init_8 24 rfl rfl
theorem dksX7_init_10 : cX7_init.data.toList.drop 233 = dktX7_init_10 := dk_seg dksX7_init_9 23 rfl rfl
theorem dksX7_init_11 : cX7_init.data.toList.drop 257 = dktX7_init_11 := dk_seg dksX7_init_10 24 rfl rfl
theorem dksX7_init_12 : cX7_init.data.toList.drop 281 = dktX7_init_12 := dk_seg dksX7_init_11 24 rfl rfl
theorem dX7_init_0 : decode cX7_init 0 = .ok (.aload_n 0, 1) := dk_42 (dk_at dksX7_init_0 0 rfl rfl)
theorem dX7_init_1 : decode cX7_init 1 = .ok (.invokespecial 1, 3) := dk_183 0 1 (dk_at dksX7_init_0 1 rfl rfl)
theorem dX7_init_4 : decode cX7_init 4 = .ok (.aload_n 0, 1) := dk_42 (dk_at dksX7_init_0 4 rfl rfl)
theorem dX7_init_5 : decode cX7_init 5 = .ok (.iconst 4, 1) := dk_7 (dk_at dksX7_init_0 5 rfl rfl)
theorem dX7_init_6 : decode cX7_init 6 = .ok (.newarray .int, 2) := dk_188_10 (dk_at dksX7_init_0 6 rfl rfl)
theorem dX7_init_8 : decode cX7_init 8 = .ok (.putfield 7, 3) := dk_181 0 7 (dk_at dksX7_init_0 8 rfl rfl)
theorem dX7_init_11 : decode cX7_init 11 = .ok (.aload_n 0, 1) := dk_42 (dk_at dksX7_init_0 11 rfl rfl)
theorem dX7_init_12 : decode cX7_init 12 = .ok (.iconst 4, 1) := dk_7 (dk_at dksX7_init_0 12 rfl rfl)
theorem dX7_init_13 : decode cX7_init 13 = .ok (.newarray .int, 2) := dk_188_10 (dk_at dksX7_init_0 13 rfl rfl)
theorem dX7_init_15 : decode cX7_init 15 = .ok (.putfield 13, 3) := dk_181 0 13 (dk_at dksX7_init_0 15 rfl rfl)
theorem dX7_init_18 : decode cX7_init 18 = .ok (.aload_n 0, 1) := dk_42 (dk_at dksX7_init_0 18 rfl rfl)
theorem dX7_init_19 : decode cX7_init 19 = .ok (.sipush 240, 3) := dk_17 0 240 (dk_at dksX7_init_0 19 rfl rfl)
theorem dX7_init_22 : decode cX7_init 22 = .ok (.newarray .long, 2) := dk_188_11 (dk_at dksX7_init_0 22 rfl rfl)
theorem dX7_init_24 : decode cX7_init 24 = .ok (.putfield 16, 3) := dk_181 0 16 (dk_at dksX7_init_1 0 rfl rfl)
theorem dX7_init_27 : decode cX7_init 27 = .ok (.aload_n 0, 1) := dk_42 (dk_at dksX7_init_1 3 rfl rfl)
theorem dX7_init_28 : decode cX7_init 28 = .ok (.bipush 60, 2) := dk_16 60 (dk_at dksX7_init_1 4 rfl rfl)
theorem dX7_init_30 : decode cX7_init 30 = .ok (.newarray .long, 2) := dk_188_11 (dk_at dksX7_init_1 6 rfl rfl)
theorem dX7_init_32 : decode cX7_init 32 = .ok (.putfield 20, 3) := dk_181 0 20 (dk_at dksX7_init_1 8 rfl rfl)
theorem dX7_init_35 : decode cX7_init 35 = .ok (.aload_n 0, 1) := dk_42 (dk_at dksX7_init_1 11 rfl rfl)
theorem dX7_init_36 : decode cX7_init 36 = .ok (.sipush 700, 3) := dk_17 2 188 (dk_at dksX7_init_1 12 rfl rfl)
theorem dX7_init_39 : decode cX7_init 39 = .ok (.newarray .byte, 2) := dk_188_8 (dk_at dksX7_init_1 15 rfl rfl)
theorem dX7_init_41 : decode cX7_init 41 = .ok (.putfield 23, 3) := dk_181 0 23 (dk_at dksX7_init_1 17 rfl rfl)
theorem dX7_init_44 : decode cX7_init 44 = .ok (.aload_n 0, 1) := dk_42 (dk_at dksX7_init_1 20 rfl rfl)
theorem dX7_init_45 : decode cX7_init 45 = .ok (.iconst (-1), 1) := dk_2 (dk_at dksX7_init_1 21 rfl rfl)
theorem dX7_init_46 : decode cX7_init 46 = .ok (.putfield 27, 3) := dk_181 0 27 (dk_at dksX7_init_2 0 rfl rfl)
theorem dX7_init_49 : decode cX7_init 49 = .ok (.aload_n 0, 1) := dk_42 (dk_at dksX7_init_2 3 rfl rfl)
theorem dX7_init_50 : decode cX7_init 50 = .ok (.iconst 5, 1) := dk_8 (dk_at dksX7_init_2 4 rfl rfl)
theorem dX7_init_51 : decode cX7_init 51 = .ok (.newarray .int, 2) := dk_188_10 (dk_at dksX7_init_2 5 rfl rfl)
theorem dX7_init_53 : decode cX7_init 53 = .ok (.putfield 31, 3) := dk_181 0 31 (dk_at dksX7_init_2 7 rfl rfl)
theorem dX7_init_56 : decode cX7_init 56 = .ok (.aload_n 0, 1) := dk_42 (dk_at dksX7_init_2 10 rfl rfl)
theorem dX7_init_57 : decode cX7_init 57 = .ok (.bipush 40, 2) := dk_16 40 (dk_at dksX7_init_2 11 rfl rfl)
theorem dX7_init_59 : decode cX7_init 59 = .ok (.newarray .int, 2) := dk_188_10 (dk_at dksX7_init_2 13 rfl rfl)
theorem dX7_init_61 : decode cX7_init 61 = .ok (.putfield 34, 3) := dk_181 0 34 (dk_at dksX7_init_2 15 rfl rfl)
theorem dX7_init_64 : decode cX7_init 64 = .ok (.aload_n 0, 1) := dk_42 (dk_at dksX7_init_2 18 rfl rfl)
theorem dX7_init_65 : decode cX7_init 65 = .ok (.bipush 30, 2) := dk_16 30 (dk_at dksX7_init_2 19 rfl rfl)
theorem dX7_init_67 : decode cX7_init 67 = .ok (.newarray .int, 2) := dk_188_10 (dk_at dksX7_init_2 21 rfl rfl)
theorem dX7_init_69 : decode cX7_init 69 = .ok (.putfield 37, 3) := dk_181 0 37 (dk_at dksX7_init_3 0 rfl rfl)
theorem dX7_init_72 : decode cX7_init 72 = .ok (.aload_n 0, 1) := dk_42 (dk_at dksX7_init_3 3 rfl rfl)
theorem dX7_init_73 : decode cX7_init 73 = .ok (.bipush 70, 2) := dk_16 70 (dk_at dksX7_init_3 4 rfl rfl)
theorem dX7_init_75 : decode cX7_init 75 = .ok (.newarray .int, 2) := dk_188_10 (dk_at dksX7_init_3 6 rfl rfl)
theorem dX7_init_77 : decode cX7_init 77 = .ok (.putfield 40, 3) := dk_181 0 40 (dk_at dksX7_init_3 8 rfl rfl)
theorem dX7_init_80 : decode cX7_init 80 = .ok (.aload_n 0, 1) := dk_42 (dk_at dksX7_init_3 11 rfl rfl)
theorem dX7_init_81 : decode cX7_init 81 = .ok (.bipush 75, 2) := dk_16 75 (dk_at dksX7_init_3 12 rfl rfl)
theorem dX7_init_83 : decode cX7_init 83 = .ok (.newarray .int, 2) := dk_188_10 (dk_at dksX7_init_3 14 rfl rfl)
theorem dX7_init_85 : decode cX7_init 85 = .ok (.putfield 43, 3) := dk_181 0 43 (dk_at dksX7_init_3 16 rfl rfl)
theorem dX7_init_88 : decode cX7_init 88 = .ok (.aload_n 0, 1) := dk_42 (dk_at dksX7_init_3 19 rfl rfl)
theorem dX7_init_89 : decode cX7_init 89 = .ok (.bipush 20, 2) := dk_16 20 (dk_at dksX7_init_3 20 rfl rfl)
theorem dX7_init_91 : decode cX7_init 91 = .ok (.newarray .int, 2) := dk_188_10 (dk_at dksX7_init_3 22 rfl rfl)
theorem dX7_init_93 : decode cX7_init 93 = .ok (.putfield 46, 3) := dk_181 0 46 (dk_at dksX7_init_4 0 rfl rfl)
theorem dX7_init_96 : decode cX7_init 96 = .ok (.aload_n 0, 1) := dk_42 (dk_at dksX7_init_4 3 rfl rfl)
theorem dX7_init_97 : decode cX7_init 97 = .ok (.sipush 450, 3) := dk_17 1 194 (dk_at dksX7_init_4 4 rfl rfl)
theorem dX7_init_100 : decode cX7_init 100 = .ok (.newarray .int, 2) := dk_188_10 (dk_at dksX7_init_4 7 rfl rfl)
theorem dX7_init_102 : decode cX7_init 102 = .ok (.putfield 49, 3) := dk_181 0 49 (dk_at dksX7_init_4 9 rfl rfl)
theorem dX7_init_105 : decode cX7_init 105 = .ok (.aload_n 0, 1) := dk_42 (dk_at dksX7_init_4 12 rfl rfl)
theorem dX7_init_106 : decode cX7_init 106 = .ok (.iconst 3, 1) := dk_6 (dk_at dksX7_init_4 13 rfl rfl)
theorem dX7_init_107 : decode cX7_init 107 = .ok (.newarray .boolean, 2) := dk_188_4 (dk_at dksX7_init_4 14 rfl rfl)
theorem dX7_init_109 : decode cX7_init 109 = .ok (.putfield 52, 3) := dk_181 0 52 (dk_at dksX7_init_4 16 rfl rfl)
theorem dX7_init_112 : decode cX7_init 112 = .ok (.aload_n 0, 1) := dk_42 (dk_at dksX7_init_4 19 rfl rfl)
theorem dX7_init_113 : decode cX7_init 113 = .ok (.bipush 7, 2) := dk_16 7 (dk_at dksX7_init_4 20 rfl rfl)
theorem dX7_init_115 : decode cX7_init 115 = .ok (.newarray .int, 2) := dk_188_10 (dk_at dksX7_init_4 22 rfl rfl)
theorem dX7_init_117 : decode cX7_init 117 = .ok (.putfield 56, 3) := dk_181 0 56 (dk_at dksX7_init_5 0 rfl rfl)
theorem dX7_init_120 : decode cX7_init 120 = .ok (.aload_n 0, 1) := dk_42 (dk_at dksX7_init_5 3 rfl rfl)
theorem dX7_init_121 : decode cX7_init 121 = .ok (.bipush 7, 2) := dk_16 7 (dk_at dksX7_init_5 4 rfl rfl)
theorem dX7_init_123 : decode cX7_init 123 = .ok (.newarray .int, 2) := dk_188_10 (dk_at dksX7_init_5 6 rfl rfl)
theorem dX7_init_125 : decode cX7_init 125 = .ok (.putfield 59, 3) := dk_181 0 59 (dk_at dksX7_init_5 8 rfl rfl)
theorem dX7_init_128 : decode cX7_init 128 = .ok (.aload_n 0, 1) := dk_42 (dk_at dksX7_init_5 11 rfl rfl)
theorem dX7_init_129 : decode cX7_init 129 = .ok (.bipush 7, 2) := dk_16 7 (dk_at dksX7_init_5 12 rfl rfl)
theorem dX7_init_131 : decode cX7_init 131 = .ok (.newarray .int, 2) := dk_188_10 (dk_at dksX7_init_5 14 rfl rfl)
theorem dX7_init_133 : decode cX7_init 133 = .ok (.putfield 62, 3) := dk_181 0 62 (dk_at dksX7_init_5 16 rfl rfl)
theorem dX7_init_136 : decode cX7_init 136 = .ok (.aload_n 0, 1) := dk_42 (dk_at dksX7_init_5 19 rfl rfl)
theorem dX7_init_137 : decode cX7_init 137 = .ok (.bipush 24, 2) := dk_16 24 (dk_at dksX7_init_5 20 rfl rfl)
theorem dX7_init_139 : decode cX7_init 139 = .ok (.newarray .int, 2) := dk_188_10 (dk_at dksX7_init_5 22 rfl rfl)
theorem dX7_init_141 : decode cX7_init 141 = .ok (.putfield 65, 3) := dk_181 0 65 (dk_at dksX7_init_6 0 rfl rfl)
theorem dX7_init_144 : decode cX7_init 144 = .ok (.aload_n 0, 1) := dk_42 (dk_at dksX7_init_6 3 rfl rfl)
theorem dX7_init_145 : decode cX7_init 145 = .ok (.bipush 24, 2) := dk_16 24 (dk_at dksX7_init_6 4 rfl rfl)
theorem dX7_init_147 : decode cX7_init 147 = .ok (.newarray .int, 2) := dk_188_10 (dk_at dksX7_init_6 6 rfl rfl)
theorem dX7_init_149 : decode cX7_init 149 = .ok (.putfield 68, 3) := dk_181 0 68 (dk_at dksX7_init_6 8 rfl rfl)
theorem dX7_init_152 : decode cX7_init 152 = .ok (.aload_n 0, 1) := dk_42 (dk_at dksX7_init_6 11 rfl rfl)
theorem dX7_init_153 : decode cX7_init 153 = .ok (.iconst 3, 1) := dk_6 (dk_at dksX7_init_6 12 rfl rfl)
theorem dX7_init_154 : decode cX7_init 154 = .ok (.newarray .int, 2) := dk_188_10 (dk_at dksX7_init_6 13 rfl rfl)
theorem dX7_init_156 : decode cX7_init 156 = .ok (.putfield 71, 3) := dk_181 0 71 (dk_at dksX7_init_6 15 rfl rfl)
theorem dX7_init_159 : decode cX7_init 159 = .ok (.aload_n 0, 1) := dk_42 (dk_at dksX7_init_6 18 rfl rfl)
theorem dX7_init_160 : decode cX7_init 160 = .ok (.iconst 3, 1) := dk_6 (dk_at dksX7_init_6 19 rfl rfl)
theorem dX7_init_161 : decode cX7_init 161 = .ok (.newarray .int, 2) := dk_188_10 (dk_at dksX7_init_6 20 rfl rfl)
theorem dX7_init_163 : decode cX7_init 163 = .ok (.putfield 74, 3) := dk_181 0 74 (dk_at dksX7_init_7 0 rfl rfl)
theorem dX7_init_166 : decode cX7_init 166 = .ok (.aload_n 0, 1) := dk_42 (dk_at dksX7_init_7 3 rfl rfl)
theorem dX7_init_167 : decode cX7_init 167 = .ok (.iconst 3, 1) := dk_6 (dk_at dksX7_init_7 4 rfl rfl)
theorem dX7_init_168 : decode cX7_init 168 = .ok (.newarray .int, 2) := dk_188_10 (dk_at dksX7_init_7 5 rfl rfl)
theorem dX7_init_170 : decode cX7_init 170 = .ok (.putfield 77, 3) := dk_181 0 77 (dk_at dksX7_init_7 7 rfl rfl)
theorem dX7_init_173 : decode cX7_init 173 = .ok (.aload_n 0, 1) := dk_42 (dk_at dksX7_init_7 10 rfl rfl)
theorem dX7_init_174 : decode cX7_init 174 = .ok (.bipush 7, 2) := dk_16 7 (dk_at dksX7_init_7 11 rfl rfl)
theorem dX7_init_176 : decode cX7_init 176 = .ok (.newarray .int, 2) := dk_188_10 (dk_at dksX7_init_7 13 rfl rfl)
theorem dX7_init_178 : decode cX7_init 178 = .ok (.putfield 80, 3) := dk_181 0 80 (dk_at dksX7_init_7 15 rfl rfl)
theorem dX7_init_181 : decode cX7_init 181 = .ok (.aload_n 0, 1) := dk_42 (dk_at dksX7_init_7 18 rfl rfl)
theorem dX7_init_182 : decode cX7_init 182 = .ok (.bipush 7, 2) := dk_16 7 (dk_at dksX7_init_7 19 rfl rfl)
theorem dX7_init_184 : decode cX7_init 184 = .ok (.newarray .int, 2) := dk_188_10 (dk_at dksX7_init_7 21 rfl rfl)
theorem dX7_init_186 : decode cX7_init 186 = .ok (.putfield 83, 3) := dk_181 0 83 (dk_at dksX7_init_8 0 rfl rfl)
theorem dX7_init_189 : decode cX7_init 189 = .ok (.aload_n 0, 1) := dk_42 (dk_at dksX7_init_8 3 rfl rfl)
theorem dX7_init_190 : decode cX7_init 190 = .ok (.bipush 7, 2) := dk_16 7 (dk_at dksX7_init_8 4 rfl rfl)
theorem dX7_init_192 : decode cX7_init 192 = .ok (.newarray .int, 2) := dk_188_10 (dk_at dksX7_init_8 6 rfl rfl)
theorem dX7_init_194 : decode cX7_init 194 = .ok (.putfield 86, 3) := dk_181 0 86 (dk_at dksX7_init_8 8 rfl rfl)
theorem dX7_init_197 : decode cX7_init 197 = .ok (.aload_n 0, 1) := dk_42 (dk_at dksX7_init_8 11 rfl rfl)
theorem dX7_init_198 : decode cX7_init 198 = .ok (.bipush 7, 2) := dk_16 7 (dk_at dksX7_init_8 12 rfl rfl)
theorem dX7_init_200 : decode cX7_init 200 = .ok (.newarray .int, 2) := dk_188_10 (dk_at dksX7_init_8 14 rfl rfl)
theorem dX7_init_202 : decode cX7_init 202 = .ok (.putfield 89, 3) := dk_181 0 89 (dk_at dksX7_init_8 16 rfl rfl)
theorem dX7_init_205 : decode cX7_init 205 = .ok (.aload_n 0, 1) := dk_42 (dk_at dksX7_init_8 19 rfl rfl)
theorem dX7_init_206 : decode cX7_init 206 = .ok (.bipush 7, 2) := dk_16 7 (dk_at dksX7_init_8 20 rfl rfl)
theorem dX7_init_208 : decode cX7_init 208 = .ok (.newarray .int, 2) := dk_188_10 (dk_at dksX7_init_8 22 rfl rfl)
theorem dX7_init_210 : decode cX7_init 210 = .ok (.putfield 92, 3) := dk_181 0 92 (dk_at dksX7_init_9 0 rfl rfl)
theorem dX7_init_213 : decode cX7_init 213 = .ok (.aload_n 0, 1) := dk_42 (dk_at dksX7_init_9 3 rfl rfl)
theorem dX7_init_214 : decode cX7_init 214 = .ok (.bipush 21, 2) := dk_16 21 (dk_at dksX7_init_9 4 rfl rfl)
theorem dX7_init_216 : decode cX7_init 216 = .ok (.newarray .int, 2) := dk_188_10 (dk_at dksX7_init_9 6 rfl rfl)
theorem dX7_init_218 : decode cX7_init 218 = .ok (.putfield 95, 3) := dk_181 0 95 (dk_at dksX7_init_9 8 rfl rfl)
theorem dX7_init_221 : decode cX7_init 221 = .ok (.aload_n 0, 1) := dk_42 (dk_at dksX7_init_9 11 rfl rfl)
theorem dX7_init_222 : decode cX7_init 222 = .ok (.bipush 21, 2) := dk_16 21 (dk_at dksX7_init_9 12 rfl rfl)
theorem dX7_init_224 : decode cX7_init 224 = .ok (.newarray .int, 2) := dk_188_10 (dk_at dksX7_init_9 14 rfl rfl)
theorem dX7_init_226 : decode cX7_init 226 = .ok (.putfield 98, 3) := dk_181 0 98 (dk_at dksX7_init_9 16 rfl rfl)
theorem dX7_init_229 : decode cX7_init 229 = .ok (.aload_n 0, 1) := dk_42 (dk_at dksX7_init_9 19 rfl rfl)
theorem dX7_init_230 : decode cX7_init 230 = .ok (.sipush 168, 3) := dk_17 0 168 (dk_at dksX7_init_9 20 rfl rfl)
theorem dX7_init_233 : decode cX7_init 233 = .ok (.newarray .int, 2) := dk_188_10 (dk_at dksX7_init_10 0 rfl rfl)
theorem dX7_init_235 : decode cX7_init 235 = .ok (.putfield 101, 3) := dk_181 0 101 (dk_at dksX7_init_10 2 rfl rfl)
theorem dX7_init_238 : decode cX7_init 238 = .ok (.aload_n 0, 1) := dk_42 (dk_at dksX7_init_10 5 rfl rfl)
theorem dX7_init_239 : decode cX7_init 239 = .ok (.bipush 7, 2) := dk_16 7 (dk_at dksX7_init_10 6 rfl rfl)
theorem dX7_init_241 : decode cX7_init 241 = .ok (.newarray .int, 2) := dk_188_10 (dk_at dksX7_init_10 8 rfl rfl)
theorem dX7_init_243 : decode cX7_init 243 = .ok (.putfield 104, 3) := dk_181 0 104 (dk_at dksX7_init_10 10 rfl rfl)
theorem dX7_init_246 : decode cX7_init 246 = .ok (.aload_n 0, 1) := dk_42 (dk_at dksX7_init_10 13 rfl rfl)
theorem dX7_init_247 : decode cX7_init 247 = .ok (.bipush 7, 2) := dk_16 7 (dk_at dksX7_init_10 14 rfl rfl)
theorem dX7_init_249 : decode cX7_init 249 = .ok (.newarray .int, 2) := dk_188_10 (dk_at dksX7_init_10 16 rfl rfl)
theorem dX7_init_251 : decode cX7_init 251 = .ok (.putfield 107, 3) := dk_181 0 107 (dk_at dksX7_init_10 18 rfl rfl)
theorem dX7_init_254 : decode cX7_init 254 = .ok (.aload_n 0, 1) := dk_42 (dk_at dksX7_init_10 21 rfl rfl)
theorem dX7_init_255 : decode cX7_init 255 = .ok (.bipush 9, 2) := dk_16 9 (dk_at dksX7_init_10 22 rfl rfl)
theorem dX7_init_257 : decode cX7_init 257 = .ok (.newarray .int, 2) := dk_188_10 (dk_at dksX7_init_11 0 rfl rfl)
theorem dX7_init_259 : decode cX7_init 259 = .ok (.putfield 110, 3) := dk_181 0 110 (dk_at dksX7_init_11 2 rfl rfl)
theorem dX7_init_262 : decode cX7_init 262 = .ok (.aload_n 0, 1) := dk_42 (dk_at dksX7_init_11 5 rfl rfl)
theorem dX7_init_263 : decode cX7_init 263 = .ok (.bipush 9, 2) := dk_16 9 (dk_at dksX7_init_11 6 rfl rfl)
theorem dX7_init_265 : decode cX7_init 265 = .ok (.newarray .int, 2) := dk_188_10 (dk_at dksX7_init_11 8 rfl rfl)
theorem dX7_init_267 : decode cX7_init 267 = .ok (.putfield 113, 3) := dk_181 0 113 (dk_at dksX7_init_11 10 rfl rfl)
theorem dX7_init_270 : decode cX7_init 270 = .ok (.iconst 0, 1) := dk_3 (dk_at dksX7_init_11 13 rfl rfl)
theorem dX7_init_271 : decode cX7_init 271 = .ok (.istore_n 1, 1) := dk_60 (dk_at dksX7_init_11 14 rfl rfl)
theorem dX7_init_272 : decode cX7_init 272 = .ok (.iload_n 1, 1) := dk_27 (dk_at dksX7_init_11 15 rfl rfl)
theorem dX7_init_273 : decode cX7_init 273 = .ok (.iconst 4, 1) := dk_7 (dk_at dksX7_init_11 16 rfl rfl)
theorem dX7_init_274 : decode cX7_init 274 = .ok (.if_icmp .ge 16, 3) := dk_162 0 16 (dk_at dksX7_init_11 17 rfl rfl)
theorem dX7_init_277 : decode cX7_init 277 = .ok (.aload_n 0, 1) := dk_42 (dk_at dksX7_init_11 20 rfl rfl)
theorem dX7_init_278 : decode cX7_init 278 = .ok (.getfield 7, 3) := dk_180 0 7 (dk_at dksX7_init_11 21 rfl rfl)
theorem dX7_init_281 : decode cX7_init 281 = .ok (.iload_n 1, 1) := dk_27 (dk_at dksX7_init_12 0 rfl rfl)
theorem dX7_init_282 : decode cX7_init 282 = .ok (.iconst (-1), 1) := dk_2 (dk_at dksX7_init_12 1 rfl rfl)
theorem dX7_init_283 : decode cX7_init 283 = .ok (.iastore, 1) := dk_79 (dk_at dksX7_init_12 2 rfl rfl)
theorem dX7_init_284 : decode cX7_init 284 = .ok (.iinc 1 1, 3) := dk_132 1 1 (dk_at dksX7_init_12 3 rfl rfl)
theorem dX7_init_287 : decode cX7_init 287 = .ok (.goto (-15), 3) := dk_167 255 241 (dk_at dksX7_init_12 6 rfl rfl)
theorem dX7_init_290 : decode cX7_init 290 = .ok (.return_, 1) := dk_177 (dk_at dksX7_init_12 9 rfl rfl)
abbrev cX7_row : ByteArray := prog_12_method_5_code
def yX7_row : MethodName := ⟨RX7, "row", "(III)I"⟩
def dkwX7_row_3 : List UInt8 := [21, 4, 96, 9, 80, 132, 4, 1, 167, 255, 234, 3, 172]
abbrev dktX7_row_3 : List UInt8 := dkwX7_row_3 ++ []
def dkwX7_row_2 : List UInt8 := [180, 0, 13, 27, 29, 79, 3, 54, 4, 21, 4, 29, 162, 0, 22, 42, 180, 0, 16, 16, 60, 27, 104]
abbrev dktX7_row_2 : List UInt8 := dkwX7_row_2 ++ dktX7_row_3
def dkwX7_row_1 : List UInt8 := [29, 16, 60, 164, 0, 6, 16, 254, 172, 29, 156, 0, 6, 16, 253, 172, 42, 180, 0, 7, 27, 28, 79, 42]
abbrev dktX7_row_1 : List UInt8 := dkwX7_row_1 ++ dktX7_row_2
def dkwX7_row_0 : List UInt8 := [42, 3, 181, 0, 116, 27, 184, 0, 125, 153, 0, 21, 28, 133, 9, 20, 0, 119, 184, 0, 121, 153, 0, 9]
abbrev dktX7_row_0 : List UInt8 := dkwX7_row_0 ++ dktX7_row_1
theorem dksX7_row_0 : cX7_row.data.toList.drop 0 = dktX7_row_0 := by decide +kernel
theorem dksX7_row_1 : cX7_row.data.toList.drop 24 = dktX7_row_1 := dk_seg dksX7_row_0 24 rfl rfl
theorem dksX7_row_2 : cX7_row.data.toList.drop 48 = dktX7_row_2 := dk_seg dksX7_row_1 24 rfl rfl
theorem dksX7_row_3 : cX7_row.data.toList.drop 71 = dktX7_row_3 := dk_seg dksX7_row_2 23 rfl rfl
theorem dX7_row_0 : decode cX7_row 0 = .ok (.aload_n 0, 1) := dk_42 (dk_at dksX7_row_0 0 rfl rfl)
theorem dX7_row_1 : decode cX7_row 1 = .ok (.iconst 0, 1) := dk_3 (dk_at dksX7_row_0 1 rfl rfl)
theorem dX7_row_2 : decode cX7_row 2 = .ok (.putfield 116, 3) := dk_181 0 116 (dk_at dksX7_row_0 2 rfl rfl)
theorem dX7_row_5 : decode cX7_row 5 = .ok (.iload_n 1, 1) := dk_27 (dk_at dksX7_row_0 5 rfl rfl)
theorem dX7_row_6 : decode cX7_row 6 = .ok (.invokestatic 125, 3) := dk_184 0 125 (dk_at dksX7_row_0 6 rfl rfl)
theorem dX7_row_9 : decode cX7_row 9 = .ok (.ifCond .eq 21, 3) := dk_153 0 21 (dk_at dksX7_row_0 9 rfl rfl)
theorem dX7_row_12 : decode cX7_row 12 = .ok (.iload_n 2, 1) := dk_28 (dk_at dksX7_row_0 12 rfl rfl)
theorem dX7_row_13 : decode cX7_row 13 = .ok (.i2l, 1) := dk_133 (dk_at dksX7_row_0 13 rfl rfl)
theorem dX7_row_14 : decode cX7_row 14 = .ok (.lconst 0, 1) := dk_9 (dk_at dksX7_row_0 14 rfl rfl)
theorem dX7_row_15 : decode cX7_row 15 = .ok (.ldc2_w 119, 3) := dk_20 0 119 (dk_at dksX7_row_0 15 rfl rfl)
theorem dX7_row_18 : decode cX7_row 18 = .ok (.invokestatic 121, 3) := dk_184 0 121 (dk_at dksX7_row_0 18 rfl rfl)
theorem dX7_row_21 : decode cX7_row 21 = .ok (.ifCond .eq 9, 3) := dk_153 0 9 (dk_at dksX7_row_0 21 rfl rfl)
theorem dX7_row_24 : decode cX7_row 24 = .ok (.iload_n 3, 1) := dk_29 (dk_at dksX7_row_1 0 rfl rfl)
theorem dX7_row_25 : decode cX7_row 25 = .ok (.bipush 60, 2) := dk_16 60 (dk_at dksX7_row_1 1 rfl rfl)
theorem dX7_row_27 : decode cX7_row 27 = .ok (.if_icmp .le 6, 3) := dk_164 0 6 (dk_at dksX7_row_1 3 rfl rfl)
theorem dX7_row_30 : decode cX7_row 30 = .ok (.bipush (-2), 2) := dk_16 254 (dk_at dksX7_row_1 6 rfl rfl)
theorem dX7_row_32 : decode cX7_row 32 = .ok (.ireturn, 1) := dk_172 (dk_at dksX7_row_1 8 rfl rfl)
theorem dX7_row_33 : decode cX7_row 33 = .ok (.iload_n 3, 1) := dk_29 (dk_at dksX7_row_1 9 rfl rfl)
theorem dX7_row_34 : decode cX7_row 34 = .ok (.ifCond .ge 6, 3) := dk_156 0 6 (dk_at dksX7_row_1 10 rfl rfl)
theorem dX7_row_37 : decode cX7_row 37 = .ok (.bipush (-3), 2) := dk_16 253 (dk_at dksX7_row_1 13 rfl rfl)
theorem dX7_row_39 : decode cX7_row 39 = .ok (.ireturn, 1) := dk_172 (dk_at dksX7_row_1 15 rfl rfl)
theorem dX7_row_40 : decode cX7_row 40 = .ok (.aload_n 0, 1) := dk_42 (dk_at dksX7_row_1 16 rfl rfl)
theorem dX7_row_41 : decode cX7_row 41 = .ok (.getfield 7, 3) := dk_180 0 7 (dk_at dksX7_row_1 17 rfl rfl)
theorem dX7_row_44 : decode cX7_row 44 = .ok (.iload_n 1, 1) := dk_27 (dk_at dksX7_row_1 20 rfl rfl)
theorem dX7_row_45 : decode cX7_row 45 = .ok (.iload_n 2, 1) := dk_28 (dk_at dksX7_row_1 21 rfl rfl)
theorem dX7_row_46 : decode cX7_row 46 = .ok (.iastore, 1) := dk_79 (dk_at dksX7_row_1 22 rfl rfl)
theorem dX7_row_47 : decode cX7_row 47 = .ok (.aload_n 0, 1) := dk_42 (dk_at dksX7_row_1 23 rfl rfl)
theorem dX7_row_48 : decode cX7_row 48 = .ok (.getfield 13, 3) := dk_180 0 13 (dk_at dksX7_row_2 0 rfl rfl)
theorem dX7_row_51 : decode cX7_row 51 = .ok (.iload_n 1, 1) := dk_27 (dk_at dksX7_row_2 3 rfl rfl)
theorem dX7_row_52 : decode cX7_row 52 = .ok (.iload_n 3, 1) := dk_29 (dk_at dksX7_row_2 4 rfl rfl)
theorem dX7_row_53 : decode cX7_row 53 = .ok (.iastore, 1) := dk_79 (dk_at dksX7_row_2 5 rfl rfl)
theorem dX7_row_54 : decode cX7_row 54 = .ok (.iconst 0, 1) := dk_3 (dk_at dksX7_row_2 6 rfl rfl)
theorem dX7_row_55 : decode cX7_row 55 = .ok (.istore 4, 2) := dk_54 4 (dk_at dksX7_row_2 7 rfl rfl)
theorem dX7_row_57 : decode cX7_row 57 = .ok (.iload 4, 2) := dk_21 4 (dk_at dksX7_row_2 9 rfl rfl)
theorem dX7_row_59 : decode cX7_row 59 = .ok (.iload_n 3, 1) := dk_29 (dk_at dksX7_row_2 11 rfl rfl)
theorem dX7_row_60 : decode cX7_row 60 = .ok (.if_icmp .ge 22, 3) := dk_162 0 22 (dk_at dksX7_row_2 12 rfl rfl)
theorem dX7_row_63 : decode cX7_row 63 = .ok (.aload_n 0, 1) := dk_42 (dk_at dksX7_row_2 15 rfl rfl)
theorem dX7_row_64 : decode cX7_row 64 = .ok (.getfield 16, 3) := dk_180 0 16 (dk_at dksX7_row_2 16 rfl rfl)
theorem dX7_row_67 : decode cX7_row 67 = .ok (.bipush 60, 2) := dk_16 60 (dk_at dksX7_row_2 19 rfl rfl)
theorem dX7_row_69 : decode cX7_row 69 = .ok (.iload_n 1, 1) := dk_27 (dk_at dksX7_row_2 21 rfl rfl)
theorem dX7_row_70 : decode cX7_row 70 = .ok (.imul, 1) := dk_104 (dk_at dksX7_row_2 22 rfl rfl)
theorem dX7_row_71 : decode cX7_row 71 = .ok (.iload 4, 2) := dk_21 4 (dk_at dksX7_row_3 0 rfl rfl)
theorem dX7_row_73 : decode cX7_row 73 = .ok (.iadd, 1) := dk_96 (dk_at dksX7_row_3 2 rfl rfl)
theorem dX7_row_74 : decode cX7_row 74 = .ok (.lconst 0, 1) := dk_9 (dk_at dksX7_row_3 3 rfl rfl)
theorem dX7_row_75 : decode cX7_row 75 = .ok (.lastore, 1) := dk_80 (dk_at dksX7_row_3 4 rfl rfl)
theorem dX7_row_76 : decode cX7_row 76 = .ok (.iinc 4 1, 3) := dk_132 4 1 (dk_at dksX7_row_3 5 rfl rfl)
theorem dX7_row_79 : decode cX7_row 79 = .ok (.goto (-22), 3) := dk_167 255 234 (dk_at dksX7_row_3 8 rfl rfl)
theorem dX7_row_82 : decode cX7_row 82 = .ok (.iconst 0, 1) := dk_3 (dk_at dksX7_row_3 11 rfl rfl)
theorem dX7_row_83 : decode cX7_row 83 = .ok (.ireturn, 1) := dk_172 (dk_at dksX7_row_3 12 rfl rfl)
abbrev cX7_isSlot : ByteArray := prog_12_method_4_code
def yX7_isSlot : MethodName := ⟨RX7, "isSlot", "(I)Z"⟩
def dkwX7_isSlot_0 : List UInt8 := [26, 133, 9, 20, 0, 119, 184, 0, 121, 172]
abbrev dktX7_isSlot_0 : List UInt8 := dkwX7_isSlot_0 ++ []
theorem dksX7_isSlot_0 : cX7_isSlot.data.toList.drop 0 = dktX7_isSlot_0 := by decide +kernel
theorem dX7_isSlot_0 : decode cX7_isSlot 0 = .ok (.iload_n 0, 1) := dk_26 (dk_at dksX7_isSlot_0 0 rfl rfl)
theorem dX7_isSlot_1 : decode cX7_isSlot 1 = .ok (.i2l, 1) := dk_133 (dk_at dksX7_isSlot_0 1 rfl rfl)
theorem dX7_isSlot_2 : decode cX7_isSlot 2 = .ok (.lconst 0, 1) := dk_9 (dk_at dksX7_isSlot_0 2 rfl rfl)
theorem dX7_isSlot_3 : decode cX7_isSlot 3 = .ok (.ldc2_w 119, 3) := dk_20 0 119 (dk_at dksX7_isSlot_0 3 rfl rfl)
theorem dX7_isSlot_6 : decode cX7_isSlot 6 = .ok (.invokestatic 121, 3) := dk_184 0 121 (dk_at dksX7_isSlot_0 6 rfl rfl)
theorem dX7_isSlot_9 : decode cX7_isSlot 9 = .ok (.ireturn, 1) := dk_172 (dk_at dksX7_isSlot_0 9 rfl rfl)
abbrev cX7_in : ByteArray := prog_12_method_3_code
def yX7_in : MethodName := ⟨RX7, "in", "(JJJ)Z"⟩
def dkwX7_in_0 : List UInt8 := [30, 32, 148, 155, 0, 14, 30, 22, 4, 148, 157, 0, 7, 4, 167, 0, 4, 3, 172]
abbrev dktX7_in_0 : List UInt8 := dkwX7_in_0 ++ []
theorem dksX7_in_0 : cX7_in.data.toList.drop 0 = dktX7_in_0 := by decide +kernel
theorem dX7_in_0 : decode cX7_in 0 = .ok (.lload_n 0, 1) := dk_30 (dk_at dksX7_in_0 0 rfl rfl)
theorem dX7_in_1 : decode cX7_in 1 = .ok (.lload_n 2, 1) := dk_32 (dk_at dksX7_in_0 1 rfl rfl)
theorem dX7_in_2 : decode cX7_in 2 = .ok (.lcmp, 1) := dk_148 (dk_at dksX7_in_0 2 rfl rfl)
theorem dX7_in_3 : decode cX7_in 3 = .ok (.ifCond .lt 14, 3) := dk_155 0 14 (dk_at dksX7_in_0 3 rfl rfl)
theorem dX7_in_6 : decode cX7_in 6 = .ok (.lload_n 0, 1) := dk_30 (dk_at dksX7_in_0 6 rfl rfl)
theorem dX7_in_7 : decode cX7_in 7 = .ok (.lload 4, 2) := dk_22 4 (dk_at dksX7_in_0 7 rfl rfl)
theorem dX7_in_9 : decode cX7_in 9 = .ok (.lcmp, 1) := dk_148 (dk_at dksX7_in_0 9 rfl rfl)
theorem dX7_in_10 : decode cX7_in 10 = .ok (.ifCond .gt 7, 3) := dk_157 0 7 (dk_at dksX7_in_0 10 rfl rfl)
theorem dX7_in_13 : decode cX7_in 13 = .ok (.iconst 1, 1) := dk_4 (dk_at dksX7_in_0 13 rfl rfl)
theorem dX7_in_14 : decode cX7_in 14 = .ok (.goto 4, 3) := dk_167 0 4 (dk_at dksX7_in_0 14 rfl rfl)
theorem dX7_in_17 : decode cX7_in 17 = .ok (.iconst 0, 1) := dk_3 (dk_at dksX7_in_0 17 rfl rfl)
theorem dX7_in_18 : decode cX7_in 18 = .ok (.ireturn, 1) := dk_172 (dk_at dksX7_in_0 18 rfl rfl)
abbrev cX7_write : ByteArray := prog_12_method_7_code
def yX7_write : MethodName := ⟨RX7, "write", "(IIJ)I"⟩
def dkwX7_write_3 : List UInt8 := [3, 172]
abbrev dktX7_write_3 : List UInt8 := dkwX7_write_3 ++ []
def dkwX7_write_2 : List UInt8 := [16, 249, 172, 42, 180, 0, 16, 16, 60, 27, 104, 28, 96, 33, 42, 180, 0, 7, 27, 46, 184, 0, 129, 80]
abbrev dktX7_write_2 : List UInt8 := dkwX7_write_2 ++ dktX7_write_3
def dkwX7_write_1 : List UInt8 := [160, 0, 6, 16, 250, 172, 28, 133, 9, 42, 180, 0, 13, 27, 46, 4, 100, 133, 184, 0, 121, 154, 0, 6]
abbrev dktX7_write_1 : List UInt8 := dkwX7_write_1 ++ dktX7_write_2
def dkwX7_write_0 : List UInt8 := [42, 3, 181, 0, 116, 27, 184, 0, 125, 154, 0, 6, 16, 254, 172, 42, 180, 0, 7, 27, 46, 2]
abbrev dktX7_write_0 : List UInt8 := dkwX7_write_0 ++ dktX7_write_1
theorem dksX7_write_0 : cX7_write.data.toList.drop 0 = dktX7_write_0 := by decide +kernel
theorem dksX7_write_1 : cX7_write.data.toList.drop 22 = dktX7_write_1 := dk_seg dksX7_write_0 22 rfl rfl
theorem dksX7_write_2 : cX7_write.data.toList.drop 46 = dktX7_write_2 := dk_seg dksX7_write_1 24 rfl rfl
theorem dksX7_write_3 : cX7_write.data.toList.drop 70 = dktX7_write_3 := dk_seg dksX7_write_2 24 rfl rfl
theorem dX7_write_0 : decode cX7_write 0 = .ok (.aload_n 0, 1) := dk_42 (dk_at dksX7_write_0 0 rfl rfl)
theorem dX7_write_1 : decode cX7_write 1 = .ok (.iconst 0, 1) := dk_3 (dk_at dksX7_write_0 1 rfl rfl)
theorem dX7_write_2 : decode cX7_write 2 = .ok (.putfield 116, 3) := dk_181 0 116 (dk_at dksX7_write_0 2 rfl rfl)
theorem dX7_write_5 : decode cX7_write 5 = .ok (.iload_n 1, 1) := dk_27 (dk_at dksX7_write_0 5 rfl rfl)
theorem dX7_write_6 : decode cX7_write 6 = .ok (.invokestatic 125, 3) := dk_184 0 125 (dk_at dksX7_write_0 6 rfl rfl)
theorem dX7_write_9 : decode cX7_write 9 = .ok (.ifCond .ne 6, 3) := dk_154 0 6 (dk_at dksX7_write_0 9 rfl rfl)
theorem dX7_write_12 : decode cX7_write 12 = .ok (.bipush (-2), 2) := dk_16 254 (dk_at dksX7_write_0 12 rfl rfl)
theorem dX7_write_14 : decode cX7_write 14 = .ok (.ireturn, 1) := dk_172 (dk_at dksX7_write_0 14 rfl rfl)
theorem dX7_write_15 : decode cX7_write 15 = .ok (.aload_n 0, 1) := dk_42 (dk_at dksX7_write_0 15 rfl rfl)
theorem dX7_write_16 : decode cX7_write 16 = .ok (.getfield 7, 3) := dk_180 0 7 (dk_at dksX7_write_0 16 rfl rfl)
theorem dX7_write_19 : decode cX7_write 19 = .ok (.iload_n 1, 1) := dk_27 (dk_at dksX7_write_0 19 rfl rfl)
theorem dX7_write_20 : decode cX7_write 20 = .ok (.iaload, 1) := dk_46 (dk_at dksX7_write_0 20 rfl rfl)
theorem dX7_write_21 : decode cX7_write 21 = .ok (.iconst (-1), 1) := dk_2 (dk_at dksX7_write_0 21 rfl rfl)
theorem dX7_write_22 : decode cX7_write 22 = .ok (.if_icmp .ne 6, 3) := dk_160 0 6 (dk_at dksX7_write_1 0 rfl rfl)
theorem dX7_write_25 : decode cX7_write 25 = .ok (.bipush (-6), 2) := dk_16 250 (dk_at dksX7_write_1 3 rfl rfl)
theorem dX7_write_27 : decode cX7_write 27 = .ok (.ireturn, 1) := dk_172 (dk_at dksX7_write_1 5 rfl rfl)
theorem dX7_write_28 : decode cX7_write 28 = .ok (.iload_n 2, 1) := dk_28 (dk_at dksX7_write_1 6 rfl rfl)
theorem dX7_write_29 : decode cX7_write 29 = .ok (.i2l, 1) := dk_133 (dk_at dksX7_write_1 7 rfl rfl)
theorem dX7_write_30 : decode cX7_write 30 = .ok (.lconst 0, 1) := dk_9 (dk_at dksX7_write_1 8 rfl rfl)
theorem dX7_write_31 : decode cX7_write 31 = .ok (.aload_n 0, 1) := dk_42 (dk_at dksX7_write_1 9 rfl rfl)
theorem dX7_write_32 : decode cX7_write 32 = .ok (.getfield 13, 3) := dk_180 0 13 (dk_at dksX7_write_1 10 rfl rfl)
theorem dX7_write_35 : decode cX7_write 35 = .ok (.iload_n 1, 1) := dk_27 (dk_at dksX7_write_1 13 rfl rfl)
theorem dX7_write_36 : decode cX7_write 36 = .ok (.iaload, 1) := dk_46 (dk_at dksX7_write_1 14 rfl rfl)
theorem dX7_write_37 : decode cX7_write 37 = .ok (.iconst 1, 1) := dk_4 (dk_at dksX7_write_1 15 rfl rfl)
theorem dX7_write_38 : decode cX7_write 38 = .ok (.isub, 1) := dk_100 (dk_at dksX7_write_1 16 rfl rfl)
theorem dX7_write_39 : decode cX7_write 39 = .ok (.i2l, 1) := dk_133 (dk_at dksX7_write_1 17 rfl rfl)
theorem dX7_write_40 : decode cX7_write 40 = .ok (.invokestatic 121, 3) := dk_184 0 121 (dk_at dksX7_write_1 18 rfl rfl)
theorem dX7_write_43 : decode cX7_write 43 = .ok (.ifCond .ne 6, 3) := dk_154 0 6 (dk_at dksX7_write_1 21 rfl rfl)
theorem dX7_write_46 : decode cX7_write 46 = .ok (.bipush (-7), 2) := dk_16 249 (dk_at dksX7_write_2 0 rfl rfl)
theorem dX7_write_48 : decode cX7_write 48 = .ok (.ireturn, 1) := dk_172 (dk_at dksX7_write_2 2 rfl rfl)
theorem dX7_write_49 : decode cX7_write 49 = .ok (.aload_n 0, 1) := dk_42 (dk_at dksX7_write_2 3 rfl rfl)
theorem dX7_write_50 : decode cX7_write 50 = .ok (.getfield 16, 3) := dk_180 0 16 (dk_at dksX7_write_2 4 rfl rfl)
theorem dX7_write_53 : decode cX7_write 53 = .ok (.bipush 60, 2) := dk_16 60 (dk_at dksX7_write_2 7 rfl rfl)
theorem dX7_write_55 : decode cX7_write 55 = .ok (.iload_n 1, 1) := dk_27 (dk_at dksX7_write_2 9 rfl rfl)
theorem dX7_write_56 : decode cX7_write 56 = .ok (.imul, 1) := dk_104 (dk_at dksX7_write_2 10 rfl rfl)
theorem dX7_write_57 : decode cX7_write 57 = .ok (.iload_n 2, 1) := dk_28 (dk_at dksX7_write_2 11 rfl rfl)
theorem dX7_write_58 : decode cX7_write 58 = .ok (.iadd, 1) := dk_96 (dk_at dksX7_write_2 12 rfl rfl)
theorem dX7_write_59 : decode cX7_write 59 = .ok (.lload_n 3, 1) := dk_33 (dk_at dksX7_write_2 13 rfl rfl)
theorem dX7_write_60 : decode cX7_write 60 = .ok (.aload_n 0, 1) := dk_42 (dk_at dksX7_write_2 14 rfl rfl)
theorem dX7_write_61 : decode cX7_write 61 = .ok (.getfield 7, 3) := dk_180 0 7 (dk_at dksX7_write_2 15 rfl rfl)
theorem dX7_write_64 : decode cX7_write 64 = .ok (.iload_n 1, 1) := dk_27 (dk_at dksX7_write_2 18 rfl rfl)
theorem dX7_write_65 : decode cX7_write 65 = .ok (.iaload, 1) := dk_46 (dk_at dksX7_write_2 19 rfl rfl)
theorem dX7_write_66 : decode cX7_write 66 = .ok (.invokestatic 129, 3) := dk_184 0 129 (dk_at dksX7_write_2 20 rfl rfl)
theorem dX7_write_69 : decode cX7_write 69 = .ok (.lastore, 1) := dk_80 (dk_at dksX7_write_2 23 rfl rfl)
theorem dX7_write_70 : decode cX7_write 70 = .ok (.iconst 0, 1) := dk_3 (dk_at dksX7_write_3 0 rfl rfl)
theorem dX7_write_71 : decode cX7_write 71 = .ok (.ireturn, 1) := dk_172 (dk_at dksX7_write_3 1 rfl rfl)
abbrev cX7_cut : ByteArray := prog_12_method_6_code
def yX7_cut : MethodName := ⟨RX7, "cut", "(JI)J"⟩
def dkwX7_cut_1 : List UInt8 := [5, 160, 0, 9, 30, 136, 133, 167, 0, 4, 30, 173]
abbrev dktX7_cut_1 : List UInt8 := dkwX7_cut_1 ++ []
def dkwX7_cut_0 : List UInt8 := [28, 154, 0, 10, 30, 136, 145, 133, 167, 0, 27, 28, 4, 160, 0, 10, 30, 136, 147, 133, 167, 0, 15, 28]
abbrev dktX7_cut_0 : List UInt8 := dkwX7_cut_0 ++ dktX7_cut_1
theorem dksX7_cut_0 : cX7_cut.data.toList.drop 0 = dktX7_cut_0 := by decide +kernel
theorem dksX7_cut_1 : cX7_cut.data.toList.drop 24 = dktX7_cut_1 := dk_seg dksX7_cut_0 24 rfl rfl
theorem dX7_cut_0 : decode cX7_cut 0 = .ok (.iload_n 2, 1) := dk_28 (dk_at dksX7_cut_0 0 rfl rfl)
theorem dX7_cut_1 : decode cX7_cut 1 = .ok (.ifCond .ne 10, 3) := dk_154 0 10 (dk_at dksX7_cut_0 1 rfl rfl)
theorem dX7_cut_4 : decode cX7_cut 4 = .ok (.lload_n 0, 1) := dk_30 (dk_at dksX7_cut_0 4 rfl rfl)
theorem dX7_cut_5 : decode cX7_cut 5 = .ok (.l2i, 1) := dk_136 (dk_at dksX7_cut_0 5 rfl rfl)
theorem dX7_cut_6 : decode cX7_cut 6 = .ok (.i2b, 1) := dk_145 (dk_at dksX7_cut_0 6 rfl rfl)
theorem dX7_cut_7 : decode cX7_cut 7 = .ok (.i2l, 1) := dk_133 (dk_at dksX7_cut_0 7 rfl rfl)
theorem dX7_cut_8 : decode cX7_cut 8 = .ok (.goto 27, 3) := dk_167 0 27 (dk_at dksX7_cut_0 8 rfl rfl)
theorem dX7_cut_11 : decode cX7_cut 11 = .ok (.iload_n 2, 1) := dk_28 (dk_at dksX7_cut_0 11 rfl rfl)
theorem dX7_cut_12 : decode cX7_cut 12 = .ok (.iconst 1, 1) := dk_4 (dk_at dksX7_cut_0 12 rfl rfl)
theorem dX7_cut_13 : decode cX7_cut 13 = .ok (.if_icmp .ne 10, 3) := dk_160 0 10 (dk_at dksX7_cut_0 13 rfl rfl)
theorem dX7_cut_16 : decode cX7_cut 16 = .ok (.lload_n 0, 1) := dk_30 (dk_at dksX7_cut_0 16 rfl rfl)
theorem dX7_cut_17 : decode cX7_cut 17 = .ok (.l2i, 1) := dk_136 (dk_at dksX7_cut_0 17 rfl rfl)
theorem dX7_cut_18 : decode cX7_cut 18 = .ok (.i2s, 1) := dk_147 (dk_at dksX7_cut_0 18 rfl rfl)
theorem dX7_cut_19 : decode cX7_cut 19 = .ok (.i2l, 1) := dk_133 (dk_at dksX7_cut_0 19 rfl rfl)
theorem dX7_cut_20 : decode cX7_cut 20 = .ok (.goto 15, 3) := dk_167 0 15 (dk_at dksX7_cut_0 20 rfl rfl)
theorem dX7_cut_23 : decode cX7_cut 23 = .ok (.iload_n 2, 1) := dk_28 (dk_at dksX7_cut_0 23 rfl rfl)
theorem dX7_cut_24 : decode cX7_cut 24 = .ok (.iconst 2, 1) := dk_5 (dk_at dksX7_cut_1 0 rfl rfl)
theorem dX7_cut_25 : decode cX7_cut 25 = .ok (.if_icmp .ne 9, 3) := dk_160 0 9 (dk_at dksX7_cut_1 1 rfl rfl)
theorem dX7_cut_28 : decode cX7_cut 28 = .ok (.lload_n 0, 1) := dk_30 (dk_at dksX7_cut_1 4 rfl rfl)
theorem dX7_cut_29 : decode cX7_cut 29 = .ok (.l2i, 1) := dk_136 (dk_at dksX7_cut_1 5 rfl rfl)
theorem dX7_cut_30 : decode cX7_cut 30 = .ok (.i2l, 1) := dk_133 (dk_at dksX7_cut_1 6 rfl rfl)
theorem dX7_cut_31 : decode cX7_cut 31 = .ok (.goto 4, 3) := dk_167 0 4 (dk_at dksX7_cut_1 7 rfl rfl)
theorem dX7_cut_34 : decode cX7_cut 34 = .ok (.lload_n 0, 1) := dk_30 (dk_at dksX7_cut_1 10 rfl rfl)
theorem dX7_cut_35 : decode cX7_cut 35 = .ok (.lreturn, 1) := dk_173 (dk_at dksX7_cut_1 11 rfl rfl)
abbrev cX7_paste : ByteArray := prog_12_method_8_code
def yX7_paste : MethodName := ⟨RX7, "paste", "(IIIII)I"⟩
def dkwX7_paste_8 : List UInt8 := [167, 255, 224, 3, 172]
abbrev dktX7_paste_8 : List UInt8 := dkwX7_paste_8 ++ []
def dkwX7_paste_7 : List UInt8 := [180, 0, 16, 16, 60, 29, 104, 21, 4, 96, 21, 6, 96, 42, 180, 0, 20, 21, 6, 47, 80, 132, 6, 1]
abbrev dktX7_paste_7 : List UInt8 := dkwX7_paste_7 ++ dktX7_paste_8
def dkwX7_paste_6 : List UInt8 := [28, 96, 21, 6, 96, 47, 80, 132, 6, 1, 167, 255, 225, 3, 54, 6, 21, 6, 21, 5, 162, 0, 31, 42]
abbrev dktX7_paste_6 : List UInt8 := dkwX7_paste_6 ++ dktX7_paste_7
def dkwX7_paste_5 : List UInt8 := [3, 54, 6, 21, 6, 21, 5, 162, 0, 30, 42, 180, 0, 20, 21, 6, 42, 180, 0, 16, 16, 60, 27, 104]
abbrev dktX7_paste_5 : List UInt8 := dkwX7_paste_5 ++ dktX7_paste_6
def dkwX7_paste_4 : List UInt8 := [157, 0, 21, 21, 4, 133, 21, 5, 133, 97, 42, 180, 0, 13, 29, 46, 133, 148, 158, 0, 6, 16, 249, 172]
abbrev dktX7_paste_4 : List UInt8 := dkwX7_paste_4 ++ dktX7_paste_5
def dkwX7_paste_3 : List UInt8 := [155, 0, 43, 21, 5, 155, 0, 38, 28, 133, 21, 5, 133, 97, 42, 180, 0, 13, 27, 46, 133, 148]
abbrev dktX7_paste_3 : List UInt8 := dkwX7_paste_3 ++ dktX7_paste_4
def dkwX7_paste_2 : List UInt8 := [180, 0, 7, 27, 46, 42, 180, 0, 7, 29, 46, 159, 0, 6, 16, 248, 172, 28, 155, 0, 48, 21, 4]
abbrev dktX7_paste_2 : List UInt8 := dkwX7_paste_2 ++ dktX7_paste_3
def dkwX7_paste_1 : List UInt8 := [180, 0, 7, 27, 46, 2, 159, 0, 13, 42, 180, 0, 7, 29, 46, 2, 160, 0, 6, 16, 250, 172, 42]
abbrev dktX7_paste_1 : List UInt8 := dkwX7_paste_1 ++ dktX7_paste_2
def dkwX7_paste_0 : List UInt8 := [42, 3, 181, 0, 116, 27, 184, 0, 125, 153, 0, 10, 29, 184, 0, 125, 154, 0, 6, 16, 254, 172, 42]
abbrev dktX7_paste_0 : List UInt8 := dkwX7_paste_0 ++ dktX7_paste_1
theorem dksX7_paste_0 : cX7_paste.data.toList.drop 0 = dktX7_paste_0 := by decide +kernel
theorem dksX7_paste_1 : cX7_paste.data.toList.drop 23 = dktX7_paste_1 := dk_seg dksX7_paste_0 23 rfl rfl
theorem dksX7_paste_2 : cX7_paste.data.toList.drop 46 = dktX7_paste_2 := dk_seg dksX7_paste_1 23 rfl rfl
theorem dksX7_paste_3 : cX7_paste.data.toList.drop 69 = dktX7_paste_3 := dk_seg dksX7_paste_2 23 rfl rfl
theorem dksX7_paste_4 : cX7_paste.data.toList.drop 91 = dktX7_paste_4 := dk_seg dksX7_paste_3 22 rfl rfl
theorem dksX7_paste_5 : cX7_paste.data.toList.drop 115 = dktX7_paste_5 := dk_seg dksX7_paste_4 24 rfl rfl
theorem dksX7_paste_6 : cX7_paste.data.toList.drop 139 = dktX7_paste_6 := dk_seg dksX7_paste_5 24 rfl rfl
theorem dksX7_paste_7 : cX7_paste.data.toList.drop 163 = dktX7_paste_7 := dk_seg dksX7_paste_6 24 rfl rfl
theorem dksX7_paste_8 : cX7_paste.data.toList.drop 187 = dktX7_paste_8 := dk_seg dksX7_paste_7 24 rfl rfl
theorem dX7_paste_0 : decode cX7_paste 0 = .ok (.aload_n 0, 1) := dk_42 (dk_at dksX7_paste_0 0 rfl rfl)
theorem dX7_paste_1 : decode cX7_paste 1 = .ok (.iconst 0, 1) := dk_3 (dk_at dksX7_paste_0 1 rfl rfl)
theorem dX7_paste_2 : decode cX7_paste 2 = .ok (.putfield 116, 3) := dk_181 0 116 (dk_at dksX7_paste_0 2 rfl rfl)
theorem dX7_paste_5 : decode cX7_paste 5 = .ok (.iload_n 1, 1) := dk_27 (dk_at dksX7_paste_0 5 rfl rfl)
theorem dX7_paste_6 : decode cX7_paste 6 = .ok (.invokestatic 125, 3) := dk_184 0 125 (dk_at dksX7_paste_0 6 rfl rfl)
theorem dX7_paste_9 : decode cX7_paste 9 = .ok (.ifCond .eq 10, 3) := dk_153 0 10 (dk_at dksX7_paste_0 9 rfl rfl)
theorem dX7_paste_12 : decode cX7_paste 12 = .ok (.iload_n 3, 1) := dk_29 (dk_at dksX7_paste_0 12 rfl rfl)
theorem dX7_paste_13 : decode cX7_paste 13 = .ok (.invokestatic 125, 3) := dk_184 0 125 (dk_at dksX7_paste_0 13 rfl rfl)
theorem dX7_paste_16 : decode cX7_paste 16 = .ok (.ifCond .ne 6, 3) := dk_154 0 6 (dk_at dksX7_paste_0 16 rfl rfl)
theorem dX7_paste_19 : decode cX7_paste 19 = .ok (.bipush (-2), 2) := dk_16 254 (dk_at dksX7_paste_0 19 rfl rfl)
theorem dX7_paste_21 : decode cX7_paste 21 = .ok (.ireturn, 1) := dk_172 (dk_at dksX7_paste_0 21 rfl rfl)
theorem dX7_paste_22 : decode cX7_paste 22 = .ok (.aload_n 0, 1) := dk_42 (dk_at dksX7_paste_0 22 rfl rfl)
theorem dX7_paste_23 : decode cX7_paste 23 = .ok (.getfield 7, 3) := dk_180 0 7 (dk_at dksX7_paste_1 0 rfl rfl)
theorem dX7_paste_26 : decode cX7_paste 26 = .ok (.iload_n 1, 1) := dk_27 (dk_at dksX7_paste_1 3 rfl rfl)
theorem dX7_paste_27 : decode cX7_paste 27 = .ok (.iaload, 1) := dk_46 (dk_at dksX7_paste_1 4 rfl rfl)
theorem dX7_paste_28 : decode cX7_paste 28 = .ok (.iconst (-1), 1) := dk_2 (dk_at dksX7_paste_1 5 rfl rfl)
theorem dX7_paste_29 : decode cX7_paste 29 = .ok (.if_icmp .eq 13, 3) := dk_159 0 13 (dk_at dksX7_paste_1 6 rfl rfl)
theorem dX7_paste_32 : decode cX7_paste 32 = .ok (.aload_n 0, 1) := dk_42 (dk_at dksX7_paste_1 9 rfl rfl)
theorem dX7_paste_33 : decode cX7_paste 33 = .ok (.getfield 7, 3) := dk_180 0 7 (dk_at dksX7_paste_1 10 rfl rfl)
theorem dX7_paste_36 : decode cX7_paste 36 = .ok (.iload_n 3, 1) := dk_29 (dk_at dksX7_paste_1 13 rfl rfl)
theorem dX7_paste_37 : decode cX7_paste 37 = .ok (.iaload, 1) := dk_46 (dk_at dksX7_paste_1 14 rfl rfl)
theorem dX7_paste_38 : decode cX7_paste 38 = .ok (.iconst (-1), 1) := dk_2 (dk_at dksX7_paste_1 15 rfl rfl)
theorem dX7_paste_39 : decode cX7_paste 39 = .ok (.if_icmp .ne 6, 3) := dk_160 0 6 (dk_at dksX7_paste_1 16 rfl rfl)
theorem dX7_paste_42 : decode cX7_paste 42 = .ok (.bipush (-6), 2) := dk_16 250 (dk_at dksX7_paste_1 19 rfl rfl)
theorem dX7_paste_44 : decode cX7_paste 44 = .ok (.ireturn, 1) := dk_172 (dk_at dksX7_paste_1 21 rfl rfl)
theorem dX7_paste_45 : decode cX7_paste 45 = .ok (.aload_n 0, 1) := dk_42 (dk_at dksX7_paste_1 22 rfl rfl)
theorem dX7_paste_46 : decode cX7_paste 46 = .ok (.getfield 7, 3) := dk_180 0 7 (dk_at dksX7_paste_2 0 rfl rfl)
theorem dX7_paste_49 : decode cX7_paste 49 = .ok (.iload_n 1, 1) := dk_27 (dk_at dksX7_paste_2 3 rfl rfl)
theorem dX7_paste_50 : decode cX7_paste 50 = .ok (.iaload, 1) := dk_46 (dk_at dksX7_paste_2 4 rfl rfl)
theorem dX7_paste_51 : decode cX7_paste 51 = .ok (.aload_n 0, 1) := dk_42 (dk_at dksX7_paste_2 5 rfl rfl)
theorem dX7_paste_52 : decode cX7_paste 52 = .ok (.getfield 7, 3) := dk_180 0 7 (dk_at dksX7_paste_2 6 rfl rfl)
theorem dX7_paste_55 : decode cX7_paste 55 = .ok (.iload_n 3, 1) := dk_29 (dk_at dksX7_paste_2 9 rfl rfl)
theorem dX7_paste_56 : decode cX7_paste 56 = .ok (.iaload, 1) := dk_46 (dk_at dksX7_paste_2 10 rfl rfl)
theorem dX7_paste_57 : decode cX7_paste 57 = .ok (.if_icmp .eq 6, 3) := dk_159 0 6 (dk_at dksX7_paste_2 11 rfl rfl)
theorem dX7_paste_60 : decode cX7_paste 60 = .ok (.bipush (-8), 2) := dk_16 248 (dk_at dksX7_paste_2 14 rfl rfl)
theorem dX7_paste_62 : decode cX7_paste 62 = .ok (.ireturn, 1) := dk_172 (dk_at dksX7_paste_2 16 rfl rfl)
theorem dX7_paste_63 : decode cX7_paste 63 = .ok (.iload_n 2, 1) := dk_28 (dk_at dksX7_paste_2 17 rfl rfl)
theorem dX7_paste_64 : decode cX7_paste 64 = .ok (.ifCond .lt 48, 3) := dk_155 0 48 (dk_at dksX7_paste_2 18 rfl rfl)
theorem dX7_paste_67 : decode cX7_paste 67 = .ok (.iload 4, 2) := dk_21 4 (dk_at dksX7_paste_2 21 rfl rfl)
theorem dX7_paste_69 : decode cX7_paste 69 = .ok (.ifCond .lt 43, 3) := dk_155 0 43 (dk_at dksX7_paste_3 0 rfl rfl)
theorem dX7_paste_72 : decode cX7_paste 72 = .ok (.iload 5, 2) := dk_21 5 (dk_at dksX7_paste_3 3 rfl rfl)
theorem dX7_paste_74 : decode cX7_paste 74 = .ok (.ifCond .lt 38, 3) := dk_155 0 38 (dk_at dksX7_paste_3 5 rfl rfl)
theorem dX7_paste_77 : decode cX7_paste 77 = .ok (.iload_n 2, 1) := dk_28 (dk_at dksX7_paste_3 8 rfl rfl)
theorem dX7_paste_78 : decode cX7_paste 78 = .ok (.i2l, 1) := dk_133 (dk_at dksX7_paste_3 9 rfl rfl)
theorem dX7_paste_79 : decode cX7_paste 79 = .ok (.iload 5, 2) := dk_21 5 (dk_at dksX7_paste_3 10 rfl rfl)
theorem dX7_paste_81 : decode cX7_paste 81 = .ok (.i2l, 1) := dk_133 (dk_at dksX7_paste_3 12 rfl rfl)
theorem dX7_paste_82 : decode cX7_paste 82 = .ok (.ladd, 1) := dk_97 (dk_at dksX7_paste_3 13 rfl rfl)
theorem dX7_paste_83 : decode cX7_paste 83 = .ok (.aload_n 0, 1) := dk_42 (dk_at dksX7_paste_3 14 rfl rfl)
theorem dX7_paste_84 : decode cX7_paste 84 = .ok (.getfield 13, 3) := dk_180 0 13 (dk_at dksX7_paste_3 15 rfl rfl)
theorem dX7_paste_87 : decode cX7_paste 87 = .ok (.iload_n 1, 1) := dk_27 (dk_at dksX7_paste_3 18 rfl rfl)
theorem dX7_paste_88 : decode cX7_paste 88 = .ok (.iaload, 1) := dk_46 (dk_at dksX7_paste_3 19 rfl rfl)
theorem dX7_paste_89 : decode cX7_paste 89 = .ok (.i2l, 1) := dk_133 (dk_at dksX7_paste_3 20 rfl rfl)
theorem dX7_paste_90 : decode cX7_paste 90 = .ok (.lcmp, 1) := dk_148 (dk_at dksX7_paste_3 21 rfl rfl)
theorem dX7_paste_91 : decode cX7_paste 91 = .ok (.ifCond .gt 21, 3) := dk_157 0 21 (dk_at dksX7_paste_4 0 rfl rfl)
theorem dX7_paste_94 : decode cX7_paste 94 = .ok (.iload 4, 2) := dk_21 4 (dk_at dksX7_paste_4 3 rfl rfl)
theorem dX7_paste_96 : decode cX7_paste 96 = .ok (.i2l, 1) := dk_133 (dk_at dksX7_paste_4 5 rfl rfl)
theorem dX7_paste_97 : decode cX7_paste 97 = .ok (.iload 5, 2) := dk_21 5 (dk_at dksX7_paste_4 6 rfl rfl)
theorem dX7_paste_99 : decode cX7_paste 99 = .ok (.i2l, 1) := dk_133 (dk_at dksX7_paste_4 8 rfl rfl)
theorem dX7_paste_100 : decode cX7_paste 100 = .ok (.ladd, 1) := dk_97 (dk_at dksX7_paste_4 9 rfl rfl)
theorem dX7_paste_101 : decode cX7_paste 101 = .ok (.aload_n 0, 1) := dk_42 (dk_at dksX7_paste_4 10 rfl rfl)
theorem dX7_paste_102 : decode cX7_paste 102 = .ok (.getfield 13, 3) := dk_180 0 13 (dk_at dksX7_paste_4 11 rfl rfl)
theorem dX7_paste_105 : decode cX7_paste 105 = .ok (.iload_n 3, 1) := dk_29 (dk_at dksX7_paste_4 14 rfl rfl)
theorem dX7_paste_106 : decode cX7_paste 106 = .ok (.iaload, 1) := dk_46 (dk_at dksX7_paste_4 15 rfl rfl)
theorem dX7_paste_107 : decode cX7_paste 107 = .ok (.i2l, 1) := dk_133 (dk_at dksX7_paste_4 16 rfl rfl)
theorem dX7_paste_108 : decode cX7_paste 108 = .ok (.lcmp, 1) := dk_148 (dk_at dksX7_paste_4 17 rfl rfl)
theorem dX7_paste_109 : decode cX7_paste 109 = .ok (.ifCond .le 6, 3) := dk_158 0 6 (dk_at dksX7_paste_4 18 rfl rfl)
theorem dX7_paste_112 : decode cX7_paste 112 = .ok (.bipush (-7), 2) := dk_16 249 (dk_at dksX7_paste_4 21 rfl rfl)
theorem dX7_paste_114 : decode cX7_paste 114 = .ok (.ireturn, 1) := dk_172 (dk_at dksX7_paste_4 23 rfl rfl)
theorem dX7_paste_115 : decode cX7_paste 115 = .ok (.iconst 0, 1) := dk_3 (dk_at dksX7_paste_5 0 rfl rfl)
theorem dX7_paste_116 : decode cX7_paste 116 = .ok (.istore 6, 2) := dk_54 6 (dk_at dksX7_paste_5 1 rfl rfl)
theorem dX7_paste_118 : decode cX7_paste 118 = .ok (.iload 6, 2) := dk_21 6 (dk_at dksX7_paste_5 3 rfl rfl)
theorem dX7_paste_120 : decode cX7_paste 120 = .ok (.iload 5, 2) := dk_21 5 (dk_at dksX7_paste_5 5 rfl rfl)
theorem dX7_paste_122 : decode cX7_paste 122 = .ok (.if_icmp .ge 30, 3) := dk_162 0 30 (dk_at dksX7_paste_5 7 rfl rfl)
theorem dX7_paste_125 : decode cX7_paste 125 = .ok (.aload_n 0, 1) := dk_42 (dk_at dksX7_paste_5 10 rfl rfl)
theorem dX7_paste_126 : decode cX7_paste 126 = .ok (.getfield 20, 3) := dk_180 0 20 (dk_at dksX7_paste_5 11 rfl rfl)
theorem dX7_paste_129 : decode cX7_paste 129 = .ok (.iload 6, 2) := dk_21 6 (dk_at dksX7_paste_5 14 rfl rfl)
theorem dX7_paste_131 : decode cX7_paste 131 = .ok (.aload_n 0, 1) := dk_42 (dk_at dksX7_paste_5 16 rfl rfl)
theorem dX7_paste_132 : decode cX7_paste 132 = .ok (.getfield 16, 3) := dk_180 0 16 (dk_at dksX7_paste_5 17 rfl rfl)
theorem dX7_paste_135 : decode cX7_paste 135 = .ok (.bipush 60, 2) := dk_16 60 (dk_at dksX7_paste_5 20 rfl rfl)
theorem dX7_paste_137 : decode cX7_paste 137 = .ok (.iload_n 1, 1) := dk_27 (dk_at dksX7_paste_5 22 rfl rfl)
theorem dX7_paste_138 : decode cX7_paste 138 = .ok (.imul, 1) := dk_104 (dk_at dksX7_paste_5 23 rfl rfl)
theorem dX7_paste_139 : decode cX7_paste 139 = .ok (.iload_n 2, 1) := dk_28 (dk_at dksX7_paste_6 0 rfl rfl)
theorem dX7_paste_140 : decode cX7_paste 140 = .ok (.iadd, 1) := dk_96 (dk_at dksX7_paste_6 1 rfl rfl)
theorem dX7_paste_141 : decode cX7_paste 141 = .ok (.iload 6, 2) := dk_21 6 (dk_at dksX7_paste_6 2 rfl rfl)
theorem dX7_paste_143 : decode cX7_paste 143 = .ok (.iadd, 1) := dk_96 (dk_at dksX7_paste_6 4 rfl rfl)
theorem dX7_paste_144 : decode cX7_paste 144 = .ok (.laload, 1) := dk_47 (dk_at dksX7_paste_6 5 rfl rfl)
theorem dX7_paste_145 : decode cX7_paste 145 = .ok (.lastore, 1) := dk_80 (dk_at dksX7_paste_6 6 rfl rfl)
theorem dX7_paste_146 : decode cX7_paste 146 = .ok (.iinc 6 1, 3) := dk_132 6 1 (dk_at dksX7_paste_6 7 rfl rfl)
theorem dX7_paste_149 : decode cX7_paste 149 = .ok (.goto (-31), 3) := dk_167 255 225 (dk_at dksX7_paste_6 10 rfl rfl)
theorem dX7_paste_152 : decode cX7_paste 152 = .ok (.iconst 0, 1) := dk_3 (dk_at dksX7_paste_6 13 rfl rfl)
theorem dX7_paste_153 : decode cX7_paste 153 = .ok (.istore 6, 2) := dk_54 6 (dk_at dksX7_paste_6 14 rfl rfl)
theorem dX7_paste_155 : decode cX7_paste 155 = .ok (.iload 6, 2) := dk_21 6 (dk_at dksX7_paste_6 16 rfl rfl)
theorem dX7_paste_157 : decode cX7_paste 157 = .ok (.iload 5, 2) := dk_21 5 (dk_at dksX7_paste_6 18 rfl rfl)
theorem dX7_paste_159 : decode cX7_paste 159 = .ok (.if_icmp .ge 31, 3) := dk_162 0 31 (dk_at dksX7_paste_6 20 rfl rfl)
theorem dX7_paste_162 : decode cX7_paste 162 = .ok (.aload_n 0, 1) := dk_42 (dk_at dksX7_paste_6 23 rfl rfl)
theorem dX7_paste_163 : decode cX7_paste 163 = .ok (.getfield 16, 3) := dk_180 0 16 (dk_at dksX7_paste_7 0 rfl rfl)
theorem dX7_paste_166 : decode cX7_paste 166 = .ok (.bipush 60, 2) := dk_16 60 (dk_at dksX7_paste_7 3 rfl rfl)
theorem dX7_paste_168 : decode cX7_paste 168 = .ok (.iload_n 3, 1) := dk_29 (dk_at dksX7_paste_7 5 rfl rfl)
theorem dX7_paste_169 : decode cX7_paste 169 = .ok (.imul, 1) := dk_104 (dk_at dksX7_paste_7 6 rfl rfl)
theorem dX7_paste_170 : decode cX7_paste 170 = .ok (.iload 4, 2) := dk_21 4 (dk_at dksX7_paste_7 7 rfl rfl)
theorem dX7_paste_172 : decode cX7_paste 172 = .ok (.iadd, 1) := dk_96 (dk_at dksX7_paste_7 9 rfl rfl)
theorem dX7_paste_173 : decode cX7_paste 173 = .ok (.iload 6, 2) := dk_21 6 (dk_at dksX7_paste_7 10 rfl rfl)
theorem dX7_paste_175 : decode cX7_paste 175 = .ok (.iadd, 1) := dk_96 (dk_at dksX7_paste_7 12 rfl rfl)
theorem dX7_paste_176 : decode cX7_paste 176 = .ok (.aload_n 0, 1) := dk_42 (dk_at dksX7_paste_7 13 rfl rfl)
theorem dX7_paste_177 : decode cX7_paste 177 = .ok (.getfield 20, 3) := dk_180 0 20 (dk_at dksX7_paste_7 14 rfl rfl)
theorem dX7_paste_180 : decode cX7_paste 180 = .ok (.iload 6, 2) := dk_21 6 (dk_at dksX7_paste_7 17 rfl rfl)
theorem dX7_paste_182 : decode cX7_paste 182 = .ok (.laload, 1) := dk_47 (dk_at dksX7_paste_7 19 rfl rfl)
theorem dX7_paste_183 : decode cX7_paste 183 = .ok (.lastore, 1) := dk_80 (dk_at dksX7_paste_7 20 rfl rfl)
theorem dX7_paste_184 : decode cX7_paste 184 = .ok (.iinc 6 1, 3) := dk_132 6 1 (dk_at dksX7_paste_7 21 rfl rfl)
theorem dX7_paste_187 : decode cX7_paste 187 = .ok (.goto (-32), 3) := dk_167 255 224 (dk_at dksX7_paste_8 0 rfl rfl)
theorem dX7_paste_190 : decode cX7_paste 190 = .ok (.iconst 0, 1) := dk_3 (dk_at dksX7_paste_8 3 rfl rfl)
theorem dX7_paste_191 : decode cX7_paste 191 = .ok (.ireturn, 1) := dk_172 (dk_at dksX7_paste_8 4 rfl rfl)
abbrev cX7_feed : ByteArray := prog_12_method_9_code
def yX7_feed : MethodName := ⟨RX7, "feed", "(IIIII)I"⟩
def dkwX7_feed_2 : List UInt8 := [182, 0, 136, 42, 180, 0, 133, 172]
abbrev dktX7_feed_2 : List UInt8 := dkwX7_feed_2 ++ []
def dkwX7_feed_1 : List UInt8 := [182, 0, 136, 42, 28, 182, 0, 136, 42, 29, 182, 0, 136, 42, 21, 4, 182, 0, 136, 42, 21, 5]
abbrev dktX7_feed_1 : List UInt8 := dkwX7_feed_1 ++ dktX7_feed_2
def dkwX7_feed_0 : List UInt8 := [42, 3, 181, 0, 116, 42, 180, 0, 133, 16, 20, 96, 17, 2, 188, 164, 0, 5, 2, 172, 42, 27]
abbrev dktX7_feed_0 : List UInt8 := dkwX7_feed_0 ++ dktX7_feed_1
theorem dksX7_feed_0 : cX7_feed.data.toList.drop 0 = dktX7_feed_0 := by decide +kernel
theorem dksX7_feed_1 : cX7_feed.data.toList.drop 22 = dktX7_feed_1 := dk_seg dksX7_feed_0 22 rfl rfl
theorem dksX7_feed_2 : cX7_feed.data.toList.drop 44 = dktX7_feed_2 := dk_seg dksX7_feed_1 22 rfl rfl
theorem dX7_feed_0 : decode cX7_feed 0 = .ok (.aload_n 0, 1) := dk_42 (dk_at dksX7_feed_0 0 rfl rfl)
theorem dX7_feed_1 : decode cX7_feed 1 = .ok (.iconst 0, 1) := dk_3 (dk_at dksX7_feed_0 1 rfl rfl)
theorem dX7_feed_2 : decode cX7_feed 2 = .ok (.putfield 116, 3) := dk_181 0 116 (dk_at dksX7_feed_0 2 rfl rfl)
theorem dX7_feed_5 : decode cX7_feed 5 = .ok (.aload_n 0, 1) := dk_42 (dk_at dksX7_feed_0 5 rfl rfl)
theorem dX7_feed_6 : decode cX7_feed 6 = .ok (.getfield 133, 3) := dk_180 0 133 (dk_at dksX7_feed_0 6 rfl rfl)
theorem dX7_feed_9 : decode cX7_feed 9 = .ok (.bipush 20, 2) := dk_16 20 (dk_at dksX7_feed_0 9 rfl rfl)
theorem dX7_feed_11 : decode cX7_feed 11 = .ok (.iadd, 1) := dk_96 (dk_at dksX7_feed_0 11 rfl rfl)
theorem dX7_feed_12 : decode cX7_feed 12 = .ok (.sipush 700, 3) := dk_17 2 188 (dk_at dksX7_feed_0 12 rfl rfl)
theorem dX7_feed_15 : decode cX7_feed 15 = .ok (.if_icmp .le 5, 3) := dk_164 0 5 (dk_at dksX7_feed_0 15 rfl rfl)
theorem dX7_feed_18 : decode cX7_feed 18 = .ok (.iconst (-1), 1) := dk_2 (dk_at dksX7_feed_0 18 rfl rfl)
theorem dX7_feed_19 : decode cX7_feed 19 = .ok (.ireturn, 1) := dk_172 (dk_at dksX7_feed_0 19 rfl rfl)
theorem dX7_feed_20 : decode cX7_feed 20 = .ok (.aload_n 0, 1) := dk_42 (dk_at dksX7_feed_0 20 rfl rfl)
theorem dX7_feed_21 : decode cX7_feed 21 = .ok (.iload_n 1, 1) := dk_27 (dk_at dksX7_feed_0 21 rfl rfl)
theorem dX7_feed_22 : decode cX7_feed 22 = .ok (.invokevirtual 136, 3) := dk_182 0 136 (dk_at dksX7_feed_1 0 rfl rfl)
theorem dX7_feed_25 : decode cX7_feed 25 = .ok (.aload_n 0, 1) := dk_42 (dk_at dksX7_feed_1 3 rfl rfl)
theorem dX7_feed_26 : decode cX7_feed 26 = .ok (.iload_n 2, 1) := dk_28 (dk_at dksX7_feed_1 4 rfl rfl)
theorem dX7_feed_27 : decode cX7_feed 27 = .ok (.invokevirtual 136, 3) := dk_182 0 136 (dk_at dksX7_feed_1 5 rfl rfl)
theorem dX7_feed_30 : decode cX7_feed 30 = .ok (.aload_n 0, 1) := dk_42 (dk_at dksX7_feed_1 8 rfl rfl)
theorem dX7_feed_31 : decode cX7_feed 31 = .ok (.iload_n 3, 1) := dk_29 (dk_at dksX7_feed_1 9 rfl rfl)
theorem dX7_feed_32 : decode cX7_feed 32 = .ok (.invokevirtual 136, 3) := dk_182 0 136 (dk_at dksX7_feed_1 10 rfl rfl)
theorem dX7_feed_35 : decode cX7_feed 35 = .ok (.aload_n 0, 1) := dk_42 (dk_at dksX7_feed_1 13 rfl rfl)
theorem dX7_feed_36 : decode cX7_feed 36 = .ok (.iload 4, 2) := dk_21 4 (dk_at dksX7_feed_1 14 rfl rfl)
theorem dX7_feed_38 : decode cX7_feed 38 = .ok (.invokevirtual 136, 3) := dk_182 0 136 (dk_at dksX7_feed_1 16 rfl rfl)
theorem dX7_feed_41 : decode cX7_feed 41 = .ok (.aload_n 0, 1) := dk_42 (dk_at dksX7_feed_1 19 rfl rfl)
theorem dX7_feed_42 : decode cX7_feed 42 = .ok (.iload 5, 2) := dk_21 5 (dk_at dksX7_feed_1 20 rfl rfl)
theorem dX7_feed_44 : decode cX7_feed 44 = .ok (.invokevirtual 136, 3) := dk_182 0 136 (dk_at dksX7_feed_2 0 rfl rfl)
theorem dX7_feed_47 : decode cX7_feed 47 = .ok (.aload_n 0, 1) := dk_42 (dk_at dksX7_feed_2 3 rfl rfl)
theorem dX7_feed_48 : decode cX7_feed 48 = .ok (.getfield 133, 3) := dk_180 0 133 (dk_at dksX7_feed_2 4 rfl rfl)
theorem dX7_feed_51 : decode cX7_feed 51 = .ok (.ireturn, 1) := dk_172 (dk_at dksX7_feed_2 7 rfl rfl)
abbrev cX7_four : ByteArray := prog_12_method_10_code
def yX7_four : MethodName := ⟨RX7, "four", "(I)V"⟩
def dkwX7_four_1 : List UInt8 := [180, 0, 133, 4, 96, 181, 0, 133, 132, 2, 248, 167, 255, 226, 177]
abbrev dktX7_four_1 : List UInt8 := dkwX7_four_1 ++ []
def dkwX7_four_0 : List UInt8 := [16, 24, 61, 28, 155, 0, 32, 42, 180, 0, 23, 42, 180, 0, 133, 27, 28, 122, 145, 84, 42, 89]
abbrev dktX7_four_0 : List UInt8 := dkwX7_four_0 ++ dktX7_four_1
theorem dksX7_four_0 : cX7_four.data.toList.drop 0 = dktX7_four_0 := by decide +kernel
theorem dksX7_four_1 : cX7_four.data.toList.drop 22 = dktX7_four_1 := dk_seg dksX7_four_0 22 rfl rfl
theorem dX7_four_0 : decode cX7_four 0 = .ok (.bipush 24, 2) := dk_16 24 (dk_at dksX7_four_0 0 rfl rfl)
theorem dX7_four_2 : decode cX7_four 2 = .ok (.istore_n 2, 1) := dk_61 (dk_at dksX7_four_0 2 rfl rfl)
theorem dX7_four_3 : decode cX7_four 3 = .ok (.iload_n 2, 1) := dk_28 (dk_at dksX7_four_0 3 rfl rfl)
theorem dX7_four_4 : decode cX7_four 4 = .ok (.ifCond .lt 32, 3) := dk_155 0 32 (dk_at dksX7_four_0 4 rfl rfl)
theorem dX7_four_7 : decode cX7_four 7 = .ok (.aload_n 0, 1) := dk_42 (dk_at dksX7_four_0 7 rfl rfl)
theorem dX7_four_8 : decode cX7_four 8 = .ok (.getfield 23, 3) := dk_180 0 23 (dk_at dksX7_four_0 8 rfl rfl)
theorem dX7_four_11 : decode cX7_four 11 = .ok (.aload_n 0, 1) := dk_42 (dk_at dksX7_four_0 11 rfl rfl)
theorem dX7_four_12 : decode cX7_four 12 = .ok (.getfield 133, 3) := dk_180 0 133 (dk_at dksX7_four_0 12 rfl rfl)
theorem dX7_four_15 : decode cX7_four 15 = .ok (.iload_n 1, 1) := dk_27 (dk_at dksX7_four_0 15 rfl rfl)
theorem dX7_four_16 : decode cX7_four 16 = .ok (.iload_n 2, 1) := dk_28 (dk_at dksX7_four_0 16 rfl rfl)
theorem dX7_four_17 : decode cX7_four 17 = .ok (.ishr, 1) := dk_122 (dk_at dksX7_four_0 17 rfl rfl)
theorem dX7_four_18 : decode cX7_four 18 = .ok (.i2b, 1) := dk_145 (dk_at dksX7_four_0 18 rfl rfl)
theorem dX7_four_19 : decode cX7_four 19 = .ok (.bastore, 1) := dk_84 (dk_at dksX7_four_0 19 rfl rfl)
theorem dX7_four_20 : decode cX7_four 20 = .ok (.aload_n 0, 1) := dk_42 (dk_at dksX7_four_0 20 rfl rfl)
theorem dX7_four_21 : decode cX7_four 21 = .ok (.dup, 1) := dk_89 (dk_at dksX7_four_0 21 rfl rfl)
theorem dX7_four_22 : decode cX7_four 22 = .ok (.getfield 133, 3) := dk_180 0 133 (dk_at dksX7_four_1 0 rfl rfl)
theorem dX7_four_25 : decode cX7_four 25 = .ok (.iconst 1, 1) := dk_4 (dk_at dksX7_four_1 3 rfl rfl)
theorem dX7_four_26 : decode cX7_four 26 = .ok (.iadd, 1) := dk_96 (dk_at dksX7_four_1 4 rfl rfl)
theorem dX7_four_27 : decode cX7_four 27 = .ok (.putfield 133, 3) := dk_181 0 133 (dk_at dksX7_four_1 5 rfl rfl)
theorem dX7_four_30 : decode cX7_four 30 = .ok (.iinc 2 (-8), 3) := dk_132 2 248 (dk_at dksX7_four_1 8 rfl rfl)
theorem dX7_four_33 : decode cX7_four 33 = .ok (.goto (-30), 3) := dk_167 255 226 (dk_at dksX7_four_1 11 rfl rfl)
theorem dX7_four_36 : decode cX7_four 36 = .ok (.return_, 1) := dk_177 (dk_at dksX7_four_1 14 rfl rfl)
abbrev cX7_end : ByteArray := prog_12_method_11_code
def yX7_end : MethodName := ⟨RX7, "end", "(I)I"⟩
def dkwX7_end_1 : List UInt8 := [181, 0, 133, 27, 172]
abbrev dktX7_end_1 : List UInt8 := dkwX7_end_1 ++ []
def dkwX7_end_0 : List UInt8 := [42, 3, 181, 0, 116, 27, 133, 9, 42, 180, 0, 133, 133, 184, 0, 121, 154, 0, 5, 2, 172, 42, 27]
abbrev dktX7_end_0 : List UInt8 := dkwX7_end_0 ++ dktX7_end_1
theorem dksX7_end_0 : cX7_end.data.toList.drop 0 = dktX7_end_0 := by decide +kernel
theorem dksX7_end_1 : cX7_end.data.toList.drop 23 = dktX7_end_1 := dk_seg dksX7_end_0 23 rfl rfl
theorem dX7_end_0 : decode cX7_end 0 = .ok (.aload_n 0, 1) := dk_42 (dk_at dksX7_end_0 0 rfl rfl)
theorem dX7_end_1 : decode cX7_end 1 = .ok (.iconst 0, 1) := dk_3 (dk_at dksX7_end_0 1 rfl rfl)
theorem dX7_end_2 : decode cX7_end 2 = .ok (.putfield 116, 3) := dk_181 0 116 (dk_at dksX7_end_0 2 rfl rfl)
theorem dX7_end_5 : decode cX7_end 5 = .ok (.iload_n 1, 1) := dk_27 (dk_at dksX7_end_0 5 rfl rfl)
theorem dX7_end_6 : decode cX7_end 6 = .ok (.i2l, 1) := dk_133 (dk_at dksX7_end_0 6 rfl rfl)
theorem dX7_end_7 : decode cX7_end 7 = .ok (.lconst 0, 1) := dk_9 (dk_at dksX7_end_0 7 rfl rfl)
theorem dX7_end_8 : decode cX7_end 8 = .ok (.aload_n 0, 1) := dk_42 (dk_at dksX7_end_0 8 rfl rfl)
theorem dX7_end_9 : decode cX7_end 9 = .ok (.getfield 133, 3) := dk_180 0 133 (dk_at dksX7_end_0 9 rfl rfl)
theorem dX7_end_12 : decode cX7_end 12 = .ok (.i2l, 1) := dk_133 (dk_at dksX7_end_0 12 rfl rfl)
theorem dX7_end_13 : decode cX7_end 13 = .ok (.invokestatic 121, 3) := dk_184 0 121 (dk_at dksX7_end_0 13 rfl rfl)
theorem dX7_end_16 : decode cX7_end 16 = .ok (.ifCond .ne 5, 3) := dk_154 0 5 (dk_at dksX7_end_0 16 rfl rfl)
theorem dX7_end_19 : decode cX7_end 19 = .ok (.iconst (-1), 1) := dk_2 (dk_at dksX7_end_0 19 rfl rfl)
theorem dX7_end_20 : decode cX7_end 20 = .ok (.ireturn, 1) := dk_172 (dk_at dksX7_end_0 20 rfl rfl)
theorem dX7_end_21 : decode cX7_end 21 = .ok (.aload_n 0, 1) := dk_42 (dk_at dksX7_end_0 21 rfl rfl)
theorem dX7_end_22 : decode cX7_end 22 = .ok (.iload_n 1, 1) := dk_27 (dk_at dksX7_end_0 22 rfl rfl)
theorem dX7_end_23 : decode cX7_end 23 = .ok (.putfield 133, 3) := dk_181 0 133 (dk_at dksX7_end_1 0 rfl rfl)
theorem dX7_end_26 : decode cX7_end 26 = .ok (.iload_n 1, 1) := dk_27 (dk_at dksX7_end_1 3 rfl rfl)
theorem dX7_end_27 : decode cX7_end 27 = .ok (.ireturn, 1) := dk_172 (dk_at dksX7_end_1 4 rfl rfl)
abbrev cX7_fault : ByteArray := prog_12_method_24_code
def yX7_fault : MethodName := ⟨RX7, "fault", "(I)I"⟩
def dkwX7_fault_1 : List UInt8 := [180, 0, 27, 167, 0, 4, 2, 172]
abbrev dktX7_fault_1 : List UInt8 := dkwX7_fault_1 ++ []
def dkwX7_fault_0 : List UInt8 := [42, 3, 181, 0, 116, 27, 154, 0, 10, 42, 180, 0, 195, 167, 0, 16, 27, 4, 160, 0, 10, 42]
abbrev dktX7_fault_0 : List UInt8 := dkwX7_fault_0 ++ dktX7_fault_1
theorem dksX7_fault_0 : cX7_fault.data.toList.drop 0 = dktX7_fault_0 := by decide +kernel
theorem dksX7_fault_1 : cX7_fault.data.toList.drop 22 = dktX7_fault_1 := dk_seg dksX7_fault_0 22 rfl rfl
theorem dX7_fault_0 : decode cX7_fault 0 = .ok (.aload_n 0, 1) := dk_42 (dk_at dksX7_fault_0 0 rfl rfl)
theorem dX7_fault_1 : decode cX7_fault 1 = .ok (.iconst 0, 1) := dk_3 (dk_at dksX7_fault_0 1 rfl rfl)
theorem dX7_fault_2 : decode cX7_fault 2 = .ok (.putfield 116, 3) := dk_181 0 116 (dk_at dksX7_fault_0 2 rfl rfl)
theorem dX7_fault_5 : decode cX7_fault 5 = .ok (.iload_n 1, 1) := dk_27 (dk_at dksX7_fault_0 5 rfl rfl)
theorem dX7_fault_6 : decode cX7_fault 6 = .ok (.ifCond .ne 10, 3) := dk_154 0 10 (dk_at dksX7_fault_0 6 rfl rfl)
theorem dX7_fault_9 : decode cX7_fault 9 = .ok (.aload_n 0, 1) := dk_42 (dk_at dksX7_fault_0 9 rfl rfl)
theorem dX7_fault_10 : decode cX7_fault 10 = .ok (.getfield 195, 3) := dk_180 0 195 (dk_at dksX7_fault_0 10 rfl rfl)
theorem dX7_fault_13 : decode cX7_fault 13 = .ok (.goto 16, 3) := dk_167 0 16 (dk_at dksX7_fault_0 13 rfl rfl)
theorem dX7_fault_16 : decode cX7_fault 16 = .ok (.iload_n 1, 1) := dk_27 (dk_at dksX7_fault_0 16 rfl rfl)
theorem dX7_fault_17 : decode cX7_fault 17 = .ok (.iconst 1, 1) := dk_4 (dk_at dksX7_fault_0 17 rfl rfl)
theorem dX7_fault_18 : decode cX7_fault 18 = .ok (.if_icmp .ne 10, 3) := dk_160 0 10 (dk_at dksX7_fault_0 18 rfl rfl)
theorem dX7_fault_21 : decode cX7_fault 21 = .ok (.aload_n 0, 1) := dk_42 (dk_at dksX7_fault_0 21 rfl rfl)
theorem dX7_fault_22 : decode cX7_fault 22 = .ok (.getfield 27, 3) := dk_180 0 27 (dk_at dksX7_fault_1 0 rfl rfl)
theorem dX7_fault_25 : decode cX7_fault 25 = .ok (.goto 4, 3) := dk_167 0 4 (dk_at dksX7_fault_1 3 rfl rfl)
theorem dX7_fault_28 : decode cX7_fault 28 = .ok (.iconst (-1), 1) := dk_2 (dk_at dksX7_fault_1 6 rfl rfl)
theorem dX7_fault_29 : decode cX7_fault 29 = .ok (.ireturn, 1) := dk_172 (dk_at dksX7_fault_1 7 rfl rfl)
abbrev cX7_valley : ByteArray := prog_12_method_35_code
def yX7_valley : MethodName := ⟨RX7, "valley", "()I"⟩
def dkwX7_valley_6 : List UInt8 := [180, 0, 31, 3, 46, 172]
abbrev dktX7_valley_6 : List UInt8 := dkwX7_valley_6 ++ []
def dkwX7_valley_5 : List UInt8 := [167, 255, 154, 42, 182, 1, 17, 42, 180, 0, 168, 153, 0, 6, 16, 252, 172, 42, 7, 3, 182, 1, 20, 42]
abbrev dktX7_valley_5 : List UInt8 := dkwX7_valley_5 ++ dktX7_valley_6
def dkwX7_valley_4 : List UInt8 := [182, 1, 11, 42, 182, 1, 1, 153, 0, 7, 42, 182, 1, 14, 42, 180, 0, 31, 7, 92, 46, 4, 96, 79]
abbrev dktX7_valley_4 : List UInt8 := dkwX7_valley_4 ++ dktX7_valley_5
def dkwX7_valley_3 : List UInt8 := [182, 0, 209, 42, 5, 42, 20, 1, 9, 3, 16, 10, 182, 0, 204, 182, 0, 209, 167, 0, 7, 42]
abbrev dktX7_valley_3 : List UInt8 := dkwX7_valley_3 ++ dktX7_valley_4
def dkwX7_valley_2 : List UInt8 := [20, 1, 7, 3, 6, 182, 0, 204, 182, 0, 209, 42, 4, 42, 20, 0, 246, 4, 16, 50, 182, 0, 204]
abbrev dktX7_valley_2 : List UInt8 := dkwX7_valley_2 ++ dktX7_valley_3
def dkwX7_valley_1 : List UInt8 := [153, 0, 94, 42, 180, 0, 31, 7, 46, 154, 0, 57, 42, 20, 1, 5, 182, 0, 187, 42, 3, 42]
abbrev dktX7_valley_1 : List UInt8 := dkwX7_valley_1 ++ dktX7_valley_2
def dkwX7_valley_0 : List UInt8 := [42, 3, 181, 0, 116, 42, 182, 0, 251, 42, 182, 0, 254, 42, 182, 1, 1, 153, 0, 101, 42, 180, 0, 157]
abbrev dktX7_valley_0 : List UInt8 := dkwX7_valley_0 ++ dktX7_valley_1
theorem dksX7_valley_0 : cX7_valley.data.toList.drop 0 = dktX7_valley_0 := by decide +kernel
theorem dksX7_valley_1 : cX7_valley.data.toList.drop 24 = dktX7_valley_1 := dk_seg dksX7_valley_0 24 rfl rfl
theorem dksX7_valley_2 : cX7_valley.data.toList.drop 46 = dktX7_valley_2 := dk_seg dksX7_valley_1 22 rfl rfl
theorem dksX7_valley_3 : cX7_valley.data.toList.drop 69 = dktX7_valley_3 := dk_seg dksX7_valley_2 23 rfl rfl
theorem dksX7_valley_4 : cX7_valley.data.toList.drop 91 = dktX7_valley_4 := dk_seg dksX7_valley_3 22 rfl rfl
theorem dksX7_valley_5 : cX7_valley.data.toList.drop 115 = dktX7_valley_5 := dk_seg dksX7_valley_4 24 rfl rfl
theorem dksX7_valley_6 : cX7_valley.data.toList.drop 139 = dktX7_valley_6 := dk_seg dksX7_valley_5 24 rfl rfl
theorem dX7_valley_0 : decode cX7_valley 0 = .ok (.aload_n 0, 1) := dk_42 (dk_at dksX7_valley_0 0 rfl rfl)
theorem dX7_valley_1 : decode cX7_valley 1 = .ok (.iconst 0, 1) := dk_3 (dk_at dksX7_valley_0 1 rfl rfl)
theorem dX7_valley_2 : decode cX7_valley 2 = .ok (.putfield 116, 3) := dk_181 0 116 (dk_at dksX7_valley_0 2 rfl rfl)
theorem dX7_valley_5 : decode cX7_valley 5 = .ok (.aload_n 0, 1) := dk_42 (dk_at dksX7_valley_0 5 rfl rfl)
theorem dX7_valley_6 : decode cX7_valley 6 = .ok (.invokevirtual 251, 3) := dk_182 0 251 (dk_at dksX7_valley_0 6 rfl rfl)
theorem dX7_valley_9 : decode cX7_valley 9 = .ok (.aload_n 0, 1) := dk_42 (dk_at dksX7_valley_0 9 rfl rfl)
theorem dX7_valley_10 : decode cX7_valley 10 = .ok (.invokevirtual 254, 3) := dk_182 0 254 (dk_at dksX7_valley_0 10 rfl rfl)
theorem dX7_valley_13 : decode cX7_valley 13 = .ok (.aload_n 0, 1) := dk_42 (dk_at dksX7_valley_0 13 rfl rfl)
theorem dX7_valley_14 : decode cX7_valley 14 = .ok (.invokevirtual 257, 3) := dk_182 1 1 (dk_at dksX7_valley_0 14 rfl rfl)
theorem dX7_valley_17 : decode cX7_valley 17 = .ok (.ifCond .eq 101, 3) := dk_153 0 101 (dk_at dksX7_valley_0 17 rfl rfl)
theorem dX7_valley_20 : decode cX7_valley 20 = .ok (.aload_n 0, 1) := dk_42 (dk_at dksX7_valley_0 20 rfl rfl)
theorem dX7_valley_21 : decode cX7_valley 21 = .ok (.getfield 157, 3) := dk_180 0 157 (dk_at dksX7_valley_0 21 rfl rfl)
theorem dX7_valley_24 : decode cX7_valley 24 = .ok (.ifCond .eq 94, 3) := dk_153 0 94 (dk_at dksX7_valley_1 0 rfl rfl)
theorem dX7_valley_27 : decode cX7_valley 27 = .ok (.aload_n 0, 1) := dk_42 (dk_at dksX7_valley_1 3 rfl rfl)
theorem dX7_valley_28 : decode cX7_valley 28 = .ok (.getfield 31, 3) := dk_180 0 31 (dk_at dksX7_valley_1 4 rfl rfl)
theorem dX7_valley_31 : decode cX7_valley 31 = .ok (.iconst 4, 1) := dk_7 (dk_at dksX7_valley_1 7 rfl rfl)
theorem dX7_valley_32 : decode cX7_valley 32 = .ok (.iaload, 1) := dk_46 (dk_at dksX7_valley_1 8 rfl rfl)
theorem dX7_valley_33 : decode cX7_valley 33 = .ok (.ifCond .ne 57, 3) := dk_154 0 57 (dk_at dksX7_valley_1 9 rfl rfl)
theorem dX7_valley_36 : decode cX7_valley 36 = .ok (.aload_n 0, 1) := dk_42 (dk_at dksX7_valley_1 12 rfl rfl)
theorem dX7_valley_37 : decode cX7_valley 37 = .ok (.ldc2_w 261, 3) := dk_20 1 5 (dk_at dksX7_valley_1 13 rfl rfl)
theorem dX7_valley_40 : decode cX7_valley 40 = .ok (.invokevirtual 187, 3) := dk_182 0 187 (dk_at dksX7_valley_1 16 rfl rfl)
theorem dX7_valley_43 : decode cX7_valley 43 = .ok (.aload_n 0, 1) := dk_42 (dk_at dksX7_valley_1 19 rfl rfl)
theorem dX7_valley_44 : decode cX7_valley 44 = .ok (.iconst 0, 1) := dk_3 (dk_at dksX7_valley_1 20 rfl rfl)
theorem dX7_valley_45 : decode cX7_valley 45 = .ok (.aload_n 0, 1) := dk_42 (dk_at dksX7_valley_1 21 rfl rfl)
theorem dX7_valley_46 : decode cX7_valley 46 = .ok (.ldc2_w 263, 3) := dk_20 1 7 (dk_at dksX7_valley_2 0 rfl rfl)
theorem dX7_valley_49 : decode cX7_valley 49 = .ok (.iconst 0, 1) := dk_3 (dk_at dksX7_valley_2 3 rfl rfl)
theorem dX7_valley_50 : decode cX7_valley 50 = .ok (.iconst 3, 1) := dk_6 (dk_at dksX7_valley_2 4 rfl rfl)
theorem dX7_valley_51 : decode cX7_valley 51 = .ok (.invokevirtual 204, 3) := dk_182 0 204 (dk_at dksX7_valley_2 5 rfl rfl)
theorem dX7_valley_54 : decode cX7_valley 54 = .ok (.invokevirtual 209, 3) := dk_182 0 209 (dk_at dksX7_valley_2 8 rfl rfl)
theorem dX7_valley_57 : decode cX7_valley 57 = .ok (.aload_n 0, 1) := dk_42 (dk_at dksX7_valley_2 11 rfl rfl)
theorem dX7_valley_58 : decode cX7_valley 58 = .ok (.iconst 1, 1) := dk_4 (dk_at dksX7_valley_2 12 rfl rfl)
theorem dX7_valley_59 : decode cX7_valley 59 = .ok (.aload_n 0, 1) := dk_42 (dk_at dksX7_valley_2 13 rfl rfl)
theorem dX7_valley_60 : decode cX7_valley 60 = .ok (.ldc2_w 246, 3) := dk_20 0 246 (dk_at dksX7_valley_2 14 rfl rfl)
theorem dX7_valley_63 : decode cX7_valley 63 = .ok (.iconst 1, 1) := dk_4 (dk_at dksX7_valley_2 17 rfl rfl)
theorem dX7_valley_64 : decode cX7_valley 64 = .ok (.bipush 50, 2) := dk_16 50 (dk_at dksX7_valley_2 18 rfl rfl)
theorem dX7_valley_66 : decode cX7_valley 66 = .ok (.invokevirtual 204, 3) := dk_182 0 204 (dk_at dksX7_valley_2 20 rfl rfl)
theorem dX7_valley_69 : decode cX7_valley 69 = .ok (.invokevirtual 209, 3) := dk_182 0 209 (dk_at dksX7_valley_3 0 rfl rfl)
theorem dX7_valley_72 : decode cX7_valley 72 = .ok (.aload_n 0, 1) := dk_42 (dk_at dksX7_valley_3 3 rfl rfl)
theorem dX7_valley_73 : decode cX7_valley 73 = .ok (.iconst 2, 1) := dk_5 (dk_at dksX7_valley_3 4 rfl rfl)
theorem dX7_valley_74 : decode cX7_valley 74 = .ok (.aload_n 0, 1) := dk_42 (dk_at dksX7_valley_3 5 rfl rfl)
theorem dX7_valley_75 : decode cX7_valley 75 = .ok (.ldc2_w 265, 3) := dk_20 1 9 (dk_at dksX7_valley_3 6 rfl rfl)
theorem dX7_valley_78 : decode cX7_valley 78 = .ok (.iconst 0, 1) := dk_3 (dk_at dksX7_valley_3 9 rfl rfl)
theorem dX7_valley_79 : decode cX7_valley 79 = .ok (.bipush 10, 2) := dk_16 10 (dk_at dksX7_valley_3 10 rfl rfl)
theorem dX7_valley_81 : decode cX7_valley 81 = .ok (.invokevirtual 204, 3) := dk_182 0 204 (dk_at dksX7_valley_3 12 rfl rfl)
theorem dX7_valley_84 : decode cX7_valley 84 = .ok (.invokevirtual 209, 3) := dk_182 0 209 (dk_at dksX7_valley_3 15 rfl rfl)
theorem dX7_valley_87 : decode cX7_valley 87 = .ok (.goto 7, 3) := dk_167 0 7 (dk_at dksX7_valley_3 18 rfl rfl)
theorem dX7_valley_90 : decode cX7_valley 90 = .ok (.aload_n 0, 1) := dk_42 (dk_at dksX7_valley_3 21 rfl rfl)
theorem dX7_valley_91 : decode cX7_valley 91 = .ok (.invokevirtual 267, 3) := dk_182 1 11 (dk_at dksX7_valley_4 0 rfl rfl)
theorem dX7_valley_94 : decode cX7_valley 94 = .ok (.aload_n 0, 1) := dk_42 (dk_at dksX7_valley_4 3 rfl rfl)
theorem dX7_valley_95 : decode cX7_valley 95 = .ok (.invokevirtual 257, 3) := dk_182 1 1 (dk_at dksX7_valley_4 4 rfl rfl)
theorem dX7_valley_98 : decode cX7_valley 98 = .ok (.ifCond .eq 7, 3) := dk_153 0 7 (dk_at dksX7_valley_4 7 rfl rfl)
theorem dX7_valley_101 : decode cX7_valley 101 = .ok (.aload_n 0, 1) := dk_42 (dk_at dksX7_valley_4 10 rfl rfl)
theorem dX7_valley_102 : decode cX7_valley 102 = .ok (.invokevirtual 270, 3) := dk_182 1 14 (dk_at dksX7_valley_4 11 rfl rfl)
theorem dX7_valley_105 : decode cX7_valley 105 = .ok (.aload_n 0, 1) := dk_42 (dk_at dksX7_valley_4 14 rfl rfl)
theorem dX7_valley_106 : decode cX7_valley 106 = .ok (.getfield 31, 3) := dk_180 0 31 (dk_at dksX7_valley_4 15 rfl rfl)
theorem dX7_valley_109 : decode cX7_valley 109 = .ok (.iconst 4, 1) := dk_7 (dk_at dksX7_valley_4 18 rfl rfl)
theorem dX7_valley_110 : decode cX7_valley 110 = .ok (.dup2, 1) := dk_92 (dk_at dksX7_valley_4 19 rfl rfl)
theorem dX7_valley_111 : decode cX7_valley 111 = .ok (.iaload, 1) := dk_46 (dk_at dksX7_valley_4 20 rfl rfl)
theorem dX7_valley_112 : decode cX7_valley 112 = .ok (.iconst 1, 1) := dk_4 (dk_at dksX7_valley_4 21 rfl rfl)
theorem dX7_valley_113 : decode cX7_valley 113 = .ok (.iadd, 1) := dk_96 (dk_at dksX7_valley_4 22 rfl rfl)
theorem dX7_valley_114 : decode cX7_valley 114 = .ok (.iastore, 1) := dk_79 (dk_at dksX7_valley_4 23 rfl rfl)
theorem dX7_valley_115 : decode cX7_valley 115 = .ok (.goto (-102), 3) := dk_167 255 154 (dk_at dksX7_valley_5 0 rfl rfl)
theorem dX7_valley_118 : decode cX7_valley 118 = .ok (.aload_n 0, 1) := dk_42 (dk_at dksX7_valley_5 3 rfl rfl)
theorem dX7_valley_119 : decode cX7_valley 119 = .ok (.invokevirtual 273, 3) := dk_182 1 17 (dk_at dksX7_valley_5 4 rfl rfl)
theorem dX7_valley_122 : decode cX7_valley 122 = .ok (.aload_n 0, 1) := dk_42 (dk_at dksX7_valley_5 7 rfl rfl)
theorem dX7_valley_123 : decode cX7_valley 123 = .ok (.getfield 168, 3) := dk_180 0 168 (dk_at dksX7_valley_5 8 rfl rfl)
theorem dX7_valley_126 : decode cX7_valley 126 = .ok (.ifCond .eq 6, 3) := dk_153 0 6 (dk_at dksX7_valley_5 11 rfl rfl)
theorem dX7_valley_129 : decode cX7_valley 129 = .ok (.bipush (-4), 2) := dk_16 252 (dk_at dksX7_valley_5 14 rfl rfl)
theorem dX7_valley_131 : decode cX7_valley 131 = .ok (.ireturn, 1) := dk_172 (dk_at dksX7_valley_5 16 rfl rfl)
theorem dX7_valley_132 : decode cX7_valley 132 = .ok (.aload_n 0, 1) := dk_42 (dk_at dksX7_valley_5 17 rfl rfl)
theorem dX7_valley_133 : decode cX7_valley 133 = .ok (.iconst 4, 1) := dk_7 (dk_at dksX7_valley_5 18 rfl rfl)
theorem dX7_valley_134 : decode cX7_valley 134 = .ok (.iconst 0, 1) := dk_3 (dk_at dksX7_valley_5 19 rfl rfl)
theorem dX7_valley_135 : decode cX7_valley 135 = .ok (.invokevirtual 276, 3) := dk_182 1 20 (dk_at dksX7_valley_5 20 rfl rfl)
theorem dX7_valley_138 : decode cX7_valley 138 = .ok (.aload_n 0, 1) := dk_42 (dk_at dksX7_valley_5 23 rfl rfl)
theorem dX7_valley_139 : decode cX7_valley 139 = .ok (.getfield 31, 3) := dk_180 0 31 (dk_at dksX7_valley_6 0 rfl rfl)
theorem dX7_valley_142 : decode cX7_valley 142 = .ok (.iconst 0, 1) := dk_3 (dk_at dksX7_valley_6 3 rfl rfl)
theorem dX7_valley_143 : decode cX7_valley 143 = .ok (.iaload, 1) := dk_46 (dk_at dksX7_valley_6 4 rfl rfl)
theorem dX7_valley_144 : decode cX7_valley 144 = .ok (.ireturn, 1) := dk_172 (dk_at dksX7_valley_6 5 rfl rfl)
abbrev cX7_clears : ByteArray := prog_12_method_34_code
def yX7_clears : MethodName := ⟨RX7, "clears", "()V"⟩
def dkwX7_clears_1 : List UInt8 := [167, 255, 241, 177]
abbrev dktX7_clears_1 : List UInt8 := dkwX7_clears_1 ++ []
def dkwX7_clears_0 : List UInt8 := [42, 180, 0, 31, 7, 3, 79, 3, 60, 27, 16, 8, 162, 0, 15, 42, 27, 3, 182, 0, 209, 132, 1, 1]
abbrev dktX7_clears_0 : List UInt8 := dkwX7_clears_0 ++ dktX7_clears_1
theorem dksX7_clears_0 : cX7_clears.data.toList.drop 0 = dktX7_clears_0 := by decide +kernel
theorem dksX7_clears_1 : cX7_clears.data.toList.drop 24 = dktX7_clears_1 := dk_seg dksX7_clears_0 24 rfl rfl
theorem dX7_clears_0 : decode cX7_clears 0 = .ok (.aload_n 0, 1) := dk_42 (dk_at dksX7_clears_0 0 rfl rfl)
theorem dX7_clears_1 : decode cX7_clears 1 = .ok (.getfield 31, 3) := dk_180 0 31 (dk_at dksX7_clears_0 1 rfl rfl)
theorem dX7_clears_4 : decode cX7_clears 4 = .ok (.iconst 4, 1) := dk_7 (dk_at dksX7_clears_0 4 rfl rfl)
theorem dX7_clears_5 : decode cX7_clears 5 = .ok (.iconst 0, 1) := dk_3 (dk_at dksX7_clears_0 5 rfl rfl)
theorem dX7_clears_6 : decode cX7_clears 6 = .ok (.iastore, 1) := dk_79 (dk_at dksX7_clears_0 6 rfl rfl)
theorem dX7_clears_7 : decode cX7_clears 7 = .ok (.iconst 0, 1) := dk_3 (dk_at dksX7_clears_0 7 rfl rfl)
theorem dX7_clears_8 : decode cX7_clears 8 = .ok (.istore_n 1, 1) := dk_60 (dk_at dksX7_clears_0 8 rfl rfl)
theorem dX7_clears_9 : decode cX7_clears 9 = .ok (.iload_n 1, 1) := dk_27 (dk_at dksX7_clears_0 9 rfl rfl)
theorem dX7_clears_10 : decode cX7_clears 10 = .ok (.bipush 8, 2) := dk_16 8 (dk_at dksX7_clears_0 10 rfl rfl)
theorem dX7_clears_12 : decode cX7_clears 12 = .ok (.if_icmp .ge 15, 3) := dk_162 0 15 (dk_at dksX7_clears_0 12 rfl rfl)
theorem dX7_clears_15 : decode cX7_clears 15 = .ok (.aload_n 0, 1) := dk_42 (dk_at dksX7_clears_0 15 rfl rfl)
theorem dX7_clears_16 : decode cX7_clears 16 = .ok (.iload_n 1, 1) := dk_27 (dk_at dksX7_clears_0 16 rfl rfl)
theorem dX7_clears_17 : decode cX7_clears 17 = .ok (.iconst 0, 1) := dk_3 (dk_at dksX7_clears_0 17 rfl rfl)
theorem dX7_clears_18 : decode cX7_clears 18 = .ok (.invokevirtual 209, 3) := dk_182 0 209 (dk_at dksX7_clears_0 18 rfl rfl)
theorem dX7_clears_21 : decode cX7_clears 21 = .ok (.iinc 1 1, 3) := dk_132 1 1 (dk_at dksX7_clears_0 21 rfl rfl)
theorem dX7_clears_24 : decode cX7_clears 24 = .ok (.goto (-15), 3) := dk_167 255 241 (dk_at dksX7_clears_1 0 rfl rfl)
theorem dX7_clears_27 : decode cX7_clears 27 = .ok (.return_, 1) := dk_177 (dk_at dksX7_clears_1 3 rfl rfl)
abbrev cX7_tells : ByteArray := prog_12_method_26_code
def yX7_tells : MethodName := ⟨RX7, "tells", "(II)V"⟩
def dkwX7_tells_0 : List UInt8 := [42, 180, 0, 34, 16, 32, 27, 96, 28, 79, 177]
abbrev dktX7_tells_0 : List UInt8 := dkwX7_tells_0 ++ []
theorem dksX7_tells_0 : cX7_tells.data.toList.drop 0 = dktX7_tells_0 := by decide +kernel
theorem dX7_tells_0 : decode cX7_tells 0 = .ok (.aload_n 0, 1) := dk_42 (dk_at dksX7_tells_0 0 rfl rfl)
theorem dX7_tells_1 : decode cX7_tells 1 = .ok (.getfield 34, 3) := dk_180 0 34 (dk_at dksX7_tells_0 1 rfl rfl)
theorem dX7_tells_4 : decode cX7_tells 4 = .ok (.bipush 32, 2) := dk_16 32 (dk_at dksX7_tells_0 4 rfl rfl)
theorem dX7_tells_6 : decode cX7_tells 6 = .ok (.iload_n 1, 1) := dk_27 (dk_at dksX7_tells_0 6 rfl rfl)
theorem dX7_tells_7 : decode cX7_tells 7 = .ok (.iadd, 1) := dk_96 (dk_at dksX7_tells_0 7 rfl rfl)
theorem dX7_tells_8 : decode cX7_tells 8 = .ok (.iload_n 2, 1) := dk_28 (dk_at dksX7_tells_0 8 rfl rfl)
theorem dX7_tells_9 : decode cX7_tells 9 = .ok (.iastore, 1) := dk_79 (dk_at dksX7_tells_0 9 rfl rfl)
theorem dX7_tells_10 : decode cX7_tells 10 = .ok (.return_, 1) := dk_177 (dk_at dksX7_tells_0 10 rfl rfl)
abbrev cX7_begins : ByteArray := prog_12_method_22_code
def yX7_begins : MethodName := ⟨RX7, "begins", "()V"⟩
def dkwX7_begins_0 : List UInt8 := [42, 3, 181, 0, 168, 42, 2, 181, 0, 171, 42, 3, 181, 0, 140, 42, 182, 0, 178, 177]
abbrev dktX7_begins_0 : List UInt8 := dkwX7_begins_0 ++ []
theorem dksX7_begins_0 : cX7_begins.data.toList.drop 0 = dktX7_begins_0 := by decide +kernel
theorem dX7_begins_0 : decode cX7_begins 0 = .ok (.aload_n 0, 1) := dk_42 (dk_at dksX7_begins_0 0 rfl rfl)
theorem dX7_begins_1 : decode cX7_begins 1 = .ok (.iconst 0, 1) := dk_3 (dk_at dksX7_begins_0 1 rfl rfl)
theorem dX7_begins_2 : decode cX7_begins 2 = .ok (.putfield 168, 3) := dk_181 0 168 (dk_at dksX7_begins_0 2 rfl rfl)
theorem dX7_begins_5 : decode cX7_begins 5 = .ok (.aload_n 0, 1) := dk_42 (dk_at dksX7_begins_0 5 rfl rfl)
theorem dX7_begins_6 : decode cX7_begins 6 = .ok (.iconst (-1), 1) := dk_2 (dk_at dksX7_begins_0 6 rfl rfl)
theorem dX7_begins_7 : decode cX7_begins 7 = .ok (.putfield 171, 3) := dk_181 0 171 (dk_at dksX7_begins_0 7 rfl rfl)
theorem dX7_begins_10 : decode cX7_begins 10 = .ok (.aload_n 0, 1) := dk_42 (dk_at dksX7_begins_0 10 rfl rfl)
theorem dX7_begins_11 : decode cX7_begins 11 = .ok (.iconst 0, 1) := dk_3 (dk_at dksX7_begins_0 11 rfl rfl)
theorem dX7_begins_12 : decode cX7_begins 12 = .ok (.putfield 140, 3) := dk_181 0 140 (dk_at dksX7_begins_0 12 rfl rfl)
theorem dX7_begins_15 : decode cX7_begins 15 = .ok (.aload_n 0, 1) := dk_42 (dk_at dksX7_begins_0 15 rfl rfl)
theorem dX7_begins_16 : decode cX7_begins 16 = .ok (.invokevirtual 178, 3) := dk_182 0 178 (dk_at dksX7_begins_0 16 rfl rfl)
theorem dX7_begins_19 : decode cX7_begins 19 = .ok (.return_, 1) := dk_177 (dk_at dksX7_begins_0 19 rfl rfl)
abbrev cX7_next : ByteArray := prog_12_method_13_code
def yX7_next : MethodName := ⟨RX7, "next", "()V"⟩
def dkwX7_next_13 : List UInt8 := [181, 0, 140, 177]
abbrev dktX7_next_13 : List UInt8 := dkwX7_next_13 ++ []
def dkwX7_next_12 : List UInt8 := [180, 0, 140, 51, 16, 59, 160, 0, 7, 6, 167, 0, 4, 7, 181, 0, 157, 42, 89, 180, 0, 140, 4, 96]
abbrev dktX7_next_12 : List UInt8 := dkwX7_next_12 ++ dktX7_next_13
def dkwX7_next_11 : List UInt8 := [181, 0, 150, 42, 89, 180, 0, 140, 4, 96, 181, 0, 140, 167, 255, 193, 42, 42, 180, 0, 23, 42]
abbrev dktX7_next_11 : List UInt8 := dkwX7_next_11 ++ dktX7_next_12
def dkwX7_next_10 : List UInt8 := [167, 0, 23, 16, 10, 42, 180, 0, 150, 104, 42, 180, 0, 23, 42, 180, 0, 140, 51, 96, 16, 48, 100]
abbrev dktX7_next_10 : List UInt8 := dkwX7_next_10 ++ dktX7_next_11
def dkwX7_next_9 : List UInt8 := [16, 48, 16, 57, 182, 0, 143, 153, 0, 87, 42, 42, 180, 0, 150, 18, 166, 164, 0, 8, 18, 167]
abbrev dktX7_next_9 : List UInt8 := dkwX7_next_9 ++ dktX7_next_10
def dkwX7_next_8 : List UInt8 := [180, 0, 140, 16, 48, 16, 57, 182, 0, 143, 153, 0, 74, 42, 5, 181, 0, 157, 42, 42, 180, 0, 140]
abbrev dktX7_next_8 : List UInt8 := dkwX7_next_8 ++ dktX7_next_9
def dkwX7_next_7 : List UInt8 := [181, 0, 153, 42, 89, 180, 0, 140, 4, 96, 181, 0, 140, 132, 1, 1, 167, 255, 176, 167, 0, 122, 42, 42]
abbrev dktX7_next_7 : List UInt8 := dkwX7_next_7 ++ dktX7_next_8
def dkwX7_next_6 : List UInt8 := [180, 0, 140, 51, 133, 97, 20, 0, 164, 101, 181, 0, 153, 27, 16, 11, 164, 0, 10, 42, 20, 0, 160]
abbrev dktX7_next_6 : List UInt8 := dkwX7_next_6 ++ dktX7_next_7
def dkwX7_next_5 : List UInt8 := [16, 11, 164, 0, 9, 20, 0, 160, 167, 0, 26, 20, 0, 162, 42, 180, 0, 153, 105, 42, 180, 0, 23, 42]
abbrev dktX7_next_5 : List UInt8 := dkwX7_next_5 ++ dktX7_next_6
def dkwX7_next_4 : List UInt8 := [4, 181, 0, 157, 3, 60, 42, 42, 180, 0, 140, 16, 97, 16, 122, 182, 0, 143, 153, 0, 71, 42, 27]
abbrev dktX7_next_4 : List UInt8 := dkwX7_next_4 ++ dktX7_next_5
def dkwX7_next_3 : List UInt8 := [42, 3, 181, 0, 157, 167, 0, 230, 42, 42, 180, 0, 140, 16, 97, 16, 122, 182, 0, 143, 153, 0, 96, 42]
abbrev dktX7_next_3 : List UInt8 := dkwX7_next_3 ++ dktX7_next_4
def dkwX7_next_2 : List UInt8 := [181, 0, 147, 42, 3, 181, 0, 150, 42, 9, 181, 0, 153, 42, 180, 0, 140, 42, 180, 0, 133, 160, 0, 11]
abbrev dktX7_next_2 : List UInt8 := dkwX7_next_2 ++ dktX7_next_3
def dkwX7_next_1 : List UInt8 := [182, 0, 143, 153, 0, 16, 42, 89, 180, 0, 140, 4, 96, 181, 0, 140, 167, 255, 216, 42, 42, 180, 0, 140]
abbrev dktX7_next_1 : List UInt8 := dkwX7_next_1 ++ dktX7_next_2
def dkwX7_next_0 : List UInt8 := [42, 42, 180, 0, 140, 16, 32, 16, 32, 182, 0, 143, 154, 0, 18, 42, 42, 180, 0, 140, 16, 10, 16, 10]
abbrev dktX7_next_0 : List UInt8 := dkwX7_next_0 ++ dktX7_next_1
theorem dksX7_next_0 : cX7_next.data.toList.drop 0 = dktX7_next_0 := by decide +kernel
theorem dksX7_next_1 : cX7_next.data.toList.drop 24 = dktX7_next_1 := dk_seg dksX7_next_0 24 rfl rfl
theorem dksX7_next_2 : cX7_next.data.toList.drop 48 = dktX7_next_2 := dk_seg dksX7_next_1 24 rfl rfl
theorem dksX7_next_3 : cX7_next.data.toList.drop 72 = dktX7_next_3 := dk_seg dksX7_next_2 24 rfl rfl
theorem dksX7_next_4 : cX7_next.data.toList.drop 96 = dktX7_next_4 := dk_seg dksX7_next_3 24 rfl rfl
theorem dksX7_next_5 : cX7_next.data.toList.drop 119 = dktX7_next_5 := dk_seg dksX7_next_4 23 rfl rfl
theorem dksX7_next_6 : cX7_next.data.toList.drop 143 = dktX7_next_6 := dk_seg dksX7_next_5 24 rfl rfl
theorem dksX7_next_7 : cX7_next.data.toList.drop 166 = dktX7_next_7 := dk_seg dksX7_next_6 23 rfl rfl
theorem dksX7_next_8 : cX7_next.data.toList.drop 190 = dktX7_next_8 := dk_seg dksX7_next_7 24 rfl rfl
theorem dksX7_next_9 : cX7_next.data.toList.drop 213 = dktX7_next_9 := dk_seg dksX7_next_8 23 rfl rfl
theorem dksX7_next_10 : cX7_next.data.toList.drop 235 = dktX7_next_10 := dk_seg dksX7_next_9 22 rfl rfl
theorem dksX7_next_11 : cX7_next.data.toList.drop 258 = dktX7_next_11 := dk_seg dksX7_next_10 23 rfl rfl
theorem dksX7_next_12 : cX7_next.data.toList.drop 280 = dktX7_next_12 := dk_seg dksX7_next_11 22 rfl rfl
theorem dksX7_next_13 : cX7_next.data.toList.drop 304 = dktX7_next_13 := dk_seg dksX7_next_12 24 rfl rfl
theorem dX7_next_0 : decode cX7_next 0 = .ok (.aload_n 0, 1) := dk_42 (dk_at dksX7_next_0 0 rfl rfl)
theorem dX7_next_1 : decode cX7_next 1 = .ok (.aload_n 0, 1) := dk_42 (dk_at dksX7_next_0 1 rfl rfl)
theorem dX7_next_2 : decode cX7_next 2 = .ok (.getfield 140, 3) := dk_180 0 140 (dk_at dksX7_next_0 2 rfl rfl)
theorem dX7_next_5 : decode cX7_next 5 = .ok (.bipush 32, 2) := dk_16 32 (dk_at dksX7_next_0 5 rfl rfl)
theorem dX7_next_7 : decode cX7_next 7 = .ok (.bipush 32, 2) := dk_16 32 (dk_at dksX7_next_0 7 rfl rfl)
theorem dX7_next_9 : decode cX7_next 9 = .ok (.invokevirtual 143, 3) := dk_182 0 143 (dk_at dksX7_next_0 9 rfl rfl)
theorem dX7_next_12 : decode cX7_next 12 = .ok (.ifCond .ne 18, 3) := dk_154 0 18 (dk_at dksX7_next_0 12 rfl rfl)
theorem dX7_next_15 : decode cX7_next 15 = .ok (.aload_n 0, 1) := dk_42 (dk_at dksX7_next_0 15 rfl rfl)
theorem dX7_next_16 : decode cX7_next 16 = .ok (.aload_n 0, 1) := dk_42 (dk_at dksX7_next_0 16 rfl rfl)
theorem dX7_next_17 : decode cX7_next 17 = .ok (.getfield 140, 3) := dk_180 0 140 (dk_at dksX7_next_0 17 rfl rfl)
theorem dX7_next_20 : decode cX7_next 20 = .ok (.bipush 10, 2) := dk_16 10 (dk_at dksX7_next_0 20 rfl rfl)
theorem dX7_next_22 : decode cX7_next 22 = .ok (.bipush 10, 2) := dk_16 10 (dk_at dksX7_next_0 22 rfl rfl)
theorem dX7_next_24 : decode cX7_next 24 = .ok (.invokevirtual 143, 3) := dk_182 0 143 (dk_at dksX7_next_1 0 rfl rfl)
theorem dX7_next_27 : decode cX7_next 27 = .ok (.ifCond .eq 16, 3) := dk_153 0 16 (dk_at dksX7_next_1 3 rfl rfl)
theorem dX7_next_30 : decode cX7_next 30 = .ok (.aload_n 0, 1) := dk_42 (dk_at dksX7_next_1 6 rfl rfl)
theorem dX7_next_31 : decode cX7_next 31 = .ok (.dup, 1) := dk_89 (dk_at dksX7_next_1 7 rfl rfl)
theorem dX7_next_32 : decode cX7_next 32 = .ok (.getfield 140, 3) := dk_180 0 140 (dk_at dksX7_next_1 8 rfl rfl)
theorem dX7_next_35 : decode cX7_next 35 = .ok (.iconst 1, 1) := dk_4 (dk_at dksX7_next_1 11 rfl rfl)
theorem dX7_next_36 : decode cX7_next 36 = .ok (.iadd, 1) := dk_96 (dk_at dksX7_next_1 12 rfl rfl)
theorem dX7_next_37 : decode cX7_next 37 = .ok (.putfield 140, 3) := dk_181 0 140 (dk_at dksX7_next_1 13 rfl rfl)
theorem dX7_next_40 : decode cX7_next 40 = .ok (.goto (-40), 3) := dk_167 255 216 (dk_at dksX7_next_1 16 rfl rfl)
theorem dX7_next_43 : decode cX7_next 43 = .ok (.aload_n 0, 1) := dk_42 (dk_at dksX7_next_1 19 rfl rfl)
theorem dX7_next_44 : decode cX7_next 44 = .ok (.aload_n 0, 1) := dk_42 (dk_at dksX7_next_1 20 rfl rfl)
theorem dX7_next_45 : decode cX7_next 45 = .ok (.getfield 140, 3) := dk_180 0 140 (dk_at dksX7_next_1 21 rfl rfl)
theorem dX7_next_48 : decode cX7_next 48 = .ok (.putfield 147, 3) := dk_181 0 147 (dk_at dksX7_next_2 0 rfl rfl)
theorem dX7_next_51 : decode cX7_next 51 = .ok (.aload_n 0, 1) := dk_42 (dk_at dksX7_next_2 3 rfl rfl)
theorem dX7_next_52 : decode cX7_next 52 = .ok (.iconst 0, 1) := dk_3 (dk_at dksX7_next_2 4 rfl rfl)
theorem dX7_next_53 : decode cX7_next 53 = .ok (.putfield 150, 3) := dk_181 0 150 (dk_at dksX7_next_2 5 rfl rfl)
theorem dX7_next_56 : decode cX7_next 56 = .ok (.aload_n 0, 1) := dk_42 (dk_at dksX7_next_2 8 rfl rfl)
theorem dX7_next_57 : decode cX7_next 57 = .ok (.lconst 0, 1) := dk_9 (dk_at dksX7_next_2 9 rfl rfl)
theorem dX7_next_58 : decode cX7_next 58 = .ok (.putfield 153, 3) := dk_181 0 153 (dk_at dksX7_next_2 10 rfl rfl)
theorem dX7_next_61 : decode cX7_next 61 = .ok (.aload_n 0, 1) := dk_42 (dk_at dksX7_next_2 13 rfl rfl)
theorem dX7_next_62 : decode cX7_next 62 = .ok (.getfield 140, 3) := dk_180 0 140 (dk_at dksX7_next_2 14 rfl rfl)
theorem dX7_next_65 : decode cX7_next 65 = .ok (.aload_n 0, 1) := dk_42 (dk_at dksX7_next_2 17 rfl rfl)
theorem dX7_next_66 : decode cX7_next 66 = .ok (.getfield 133, 3) := dk_180 0 133 (dk_at dksX7_next_2 18 rfl rfl)
theorem dX7_next_69 : decode cX7_next 69 = .ok (.if_icmp .ne 11, 3) := dk_160 0 11 (dk_at dksX7_next_2 21 rfl rfl)
theorem dX7_next_72 : decode cX7_next 72 = .ok (.aload_n 0, 1) := dk_42 (dk_at dksX7_next_3 0 rfl rfl)
theorem dX7_next_73 : decode cX7_next 73 = .ok (.iconst 0, 1) := dk_3 (dk_at dksX7_next_3 1 rfl rfl)
theorem dX7_next_74 : decode cX7_next 74 = .ok (.putfield 157, 3) := dk_181 0 157 (dk_at dksX7_next_3 2 rfl rfl)
theorem dX7_next_77 : decode cX7_next 77 = .ok (.goto 230, 3) := dk_167 0 230 (dk_at dksX7_next_3 5 rfl rfl)
theorem dX7_next_80 : decode cX7_next 80 = .ok (.aload_n 0, 1) := dk_42 (dk_at dksX7_next_3 8 rfl rfl)
theorem dX7_next_81 : decode cX7_next 81 = .ok (.aload_n 0, 1) := dk_42 (dk_at dksX7_next_3 9 rfl rfl)
theorem dX7_next_82 : decode cX7_next 82 = .ok (.getfield 140, 3) := dk_180 0 140 (dk_at dksX7_next_3 10 rfl rfl)
theorem dX7_next_85 : decode cX7_next 85 = .ok (.bipush 97, 2) := dk_16 97 (dk_at dksX7_next_3 13 rfl rfl)
theorem dX7_next_87 : decode cX7_next 87 = .ok (.bipush 122, 2) := dk_16 122 (dk_at dksX7_next_3 15 rfl rfl)
theorem dX7_next_89 : decode cX7_next 89 = .ok (.invokevirtual 143, 3) := dk_182 0 143 (dk_at dksX7_next_3 17 rfl rfl)
theorem dX7_next_92 : decode cX7_next 92 = .ok (.ifCond .eq 96, 3) := dk_153 0 96 (dk_at dksX7_next_3 20 rfl rfl)
theorem dX7_next_95 : decode cX7_next 95 = .ok (.aload_n 0, 1) := dk_42 (dk_at dksX7_next_3 23 rfl rfl)
theorem dX7_next_96 : decode cX7_next 96 = .ok (.iconst 1, 1) := dk_4 (dk_at dksX7_next_4 0 rfl rfl)
theorem dX7_next_97 : decode cX7_next 97 = .ok (.putfield 157, 3) := dk_181 0 157 (dk_at dksX7_next_4 1 rfl rfl)
theorem dX7_next_100 : decode cX7_next 100 = .ok (.iconst 0, 1) := dk_3 (dk_at dksX7_next_4 4 rfl rfl)
theorem dX7_next_101 : decode cX7_next 101 = .ok (.istore_n 1, 1) := dk_60 (dk_at dksX7_next_4 5 rfl rfl)
theorem dX7_next_102 : decode cX7_next 102 = .ok (.aload_n 0, 1) := dk_42 (dk_at dksX7_next_4 6 rfl rfl)
theorem dX7_next_103 : decode cX7_next 103 = .ok (.aload_n 0, 1) := dk_42 (dk_at dksX7_next_4 7 rfl rfl)
theorem dX7_next_104 : decode cX7_next 104 = .ok (.getfield 140, 3) := dk_180 0 140 (dk_at dksX7_next_4 8 rfl rfl)
theorem dX7_next_107 : decode cX7_next 107 = .ok (.bipush 97, 2) := dk_16 97 (dk_at dksX7_next_4 11 rfl rfl)
theorem dX7_next_109 : decode cX7_next 109 = .ok (.bipush 122, 2) := dk_16 122 (dk_at dksX7_next_4 13 rfl rfl)
theorem dX7_next_111 : decode cX7_next 111 = .ok (.invokevirtual 143, 3) := dk_182 0 143 (dk_at dksX7_next_4 15 rfl rfl)
theorem dX7_next_114 : decode cX7_next 114 = .ok (.ifCond .eq 71, 3) := dk_153 0 71 (dk_at dksX7_next_4 18 rfl rfl)
theorem dX7_next_117 : decode cX7_next 117 = .ok (.aload_n 0, 1) := dk_42 (dk_at dksX7_next_4 21 rfl rfl)
theorem dX7_next_118 : decode cX7_next 118 = .ok (.iload_n 1, 1) := dk_27 (dk_at dksX7_next_4 22 rfl rfl)
theorem dX7_next_119 : decode cX7_next 119 = .ok (.bipush 11, 2) := dk_16 11 (dk_at dksX7_next_5 0 rfl rfl)
theorem dX7_next_121 : decode cX7_next 121 = .ok (.if_icmp .le 9, 3) := dk_164 0 9 (dk_at dksX7_next_5 2 rfl rfl)
theorem dX7_next_124 : decode cX7_next 124 = .ok (.ldc2_w 160, 3) := dk_20 0 160 (dk_at dksX7_next_5 5 rfl rfl)
theorem dX7_next_127 : decode cX7_next 127 = .ok (.goto 26, 3) := dk_167 0 26 (dk_at dksX7_next_5 8 rfl rfl)
theorem dX7_next_130 : decode cX7_next 130 = .ok (.ldc2_w 162, 3) := dk_20 0 162 (dk_at dksX7_next_5 11 rfl rfl)
theorem dX7_next_133 : decode cX7_next 133 = .ok (.aload_n 0, 1) := dk_42 (dk_at dksX7_next_5 14 rfl rfl)
theorem dX7_next_134 : decode cX7_next 134 = .ok (.getfield 153, 3) := dk_180 0 153 (dk_at dksX7_next_5 15 rfl rfl)
theorem dX7_next_137 : decode cX7_next 137 = .ok (.lmul, 1) := dk_105 (dk_at dksX7_next_5 18 rfl rfl)
theorem dX7_next_138 : decode cX7_next 138 = .ok (.aload_n 0, 1) := dk_42 (dk_at dksX7_next_5 19 rfl rfl)
theorem dX7_next_139 : decode cX7_next 139 = .ok (.getfield 23, 3) := dk_180 0 23 (dk_at dksX7_next_5 20 rfl rfl)
theorem dX7_next_142 : decode cX7_next 142 = .ok (.aload_n 0, 1) := dk_42 (dk_at dksX7_next_5 23 rfl rfl)
theorem dX7_next_143 : decode cX7_next 143 = .ok (.getfield 140, 3) := dk_180 0 140 (dk_at dksX7_next_6 0 rfl rfl)
theorem dX7_next_146 : decode cX7_next 146 = .ok (.baload, 1) := dk_51 (dk_at dksX7_next_6 3 rfl rfl)
theorem dX7_next_147 : decode cX7_next 147 = .ok (.i2l, 1) := dk_133 (dk_at dksX7_next_6 4 rfl rfl)
theorem dX7_next_148 : decode cX7_next 148 = .ok (.ladd, 1) := dk_97 (dk_at dksX7_next_6 5 rfl rfl)
theorem dX7_next_149 : decode cX7_next 149 = .ok (.ldc2_w 164, 3) := dk_20 0 164 (dk_at dksX7_next_6 6 rfl rfl)
theorem dX7_next_152 : decode cX7_next 152 = .ok (.lsub, 1) := dk_101 (dk_at dksX7_next_6 9 rfl rfl)
theorem dX7_next_153 : decode cX7_next 153 = .ok (.putfield 153, 3) := dk_181 0 153 (dk_at dksX7_next_6 10 rfl rfl)
theorem dX7_next_156 : decode cX7_next 156 = .ok (.iload_n 1, 1) := dk_27 (dk_at dksX7_next_6 13 rfl rfl)
theorem dX7_next_157 : decode cX7_next 157 = .ok (.bipush 11, 2) := dk_16 11 (dk_at dksX7_next_6 14 rfl rfl)
theorem dX7_next_159 : decode cX7_next 159 = .ok (.if_icmp .le 10, 3) := dk_164 0 10 (dk_at dksX7_next_6 16 rfl rfl)
theorem dX7_next_162 : decode cX7_next 162 = .ok (.aload_n 0, 1) := dk_42 (dk_at dksX7_next_6 19 rfl rfl)
theorem dX7_next_163 : decode cX7_next 163 = .ok (.ldc2_w 160, 3) := dk_20 0 160 (dk_at dksX7_next_6 20 rfl rfl)
theorem dX7_next_166 : decode cX7_next 166 = .ok (.putfield 153, 3) := dk_181 0 153 (dk_at dksX7_next_7 0 rfl rfl)
theorem dX7_next_169 : decode cX7_next 169 = .ok (.aload_n 0, 1) := dk_42 (dk_at dksX7_next_7 3 rfl rfl)
theorem dX7_next_170 : decode cX7_next 170 = .ok (.dup, 1) := dk_89 (dk_at dksX7_next_7 4 rfl rfl)
theorem dX7_next_171 : decode cX7_next 171 = .ok (.getfield 140, 3) := dk_180 0 140 (dk_at dksX7_next_7 5 rfl rfl)
theorem dX7_next_174 : decode cX7_next 174 = .ok (.iconst 1, 1) := dk_4 (dk_at dksX7_next_7 8 rfl rfl)
theorem dX7_next_175 : decode cX7_next 175 = .ok (.iadd, 1) := dk_96 (dk_at dksX7_next_7 9 rfl rfl)
theorem dX7_next_176 : decode cX7_next 176 = .ok (.putfield 140, 3) := dk_181 0 140 (dk_at dksX7_next_7 10 rfl rfl)
theorem dX7_next_179 : decode cX7_next 179 = .ok (.iinc 1 1, 3) := dk_132 1 1 (dk_at dksX7_next_7 13 rfl rfl)
theorem dX7_next_182 : decode cX7_next 182 = .ok (.goto (-80), 3) := dk_167 255 176 (dk_at dksX7_next_7 16 rfl rfl)
theorem dX7_next_185 : decode cX7_next 185 = .ok (.goto 122, 3) := dk_167 0 122 (dk_at dksX7_next_7 19 rfl rfl)
theorem dX7_next_188 : decode cX7_next 188 = .ok (.aload_n 0, 1) := dk_42 (dk_at dksX7_next_7 22 rfl rfl)
theorem dX7_next_189 : decode cX7_next 189 = .ok (.aload_n 0, 1) := dk_42 (dk_at dksX7_next_7 23 rfl rfl)
theorem dX7_next_190 : decode cX7_next 190 = .ok (.getfield 140, 3) := dk_180 0 140 (dk_at dksX7_next_8 0 rfl rfl)
theorem dX7_next_193 : decode cX7_next 193 = .ok (.bipush 48, 2) := dk_16 48 (dk_at dksX7_next_8 3 rfl rfl)
theorem dX7_next_195 : decode cX7_next 195 = .ok (.bipush 57, 2) := dk_16 57 (dk_at dksX7_next_8 5 rfl rfl)
theorem dX7_next_197 : decode cX7_next 197 = .ok (.invokevirtual 143, 3) := dk_182 0 143 (dk_at dksX7_next_8 7 rfl rfl)
theorem dX7_next_200 : decode cX7_next 200 = .ok (.ifCond .eq 74, 3) := dk_153 0 74 (dk_at dksX7_next_8 10 rfl rfl)
theorem dX7_next_203 : decode cX7_next 203 = .ok (.aload_n 0, 1) := dk_42 (dk_at dksX7_next_8 13 rfl rfl)
theorem dX7_next_204 : decode cX7_next 204 = .ok (.iconst 2, 1) := dk_5 (dk_at dksX7_next_8 14 rfl rfl)
theorem dX7_next_205 : decode cX7_next 205 = .ok (.putfield 157, 3) := dk_181 0 157 (dk_at dksX7_next_8 15 rfl rfl)
theorem dX7_next_208 : decode cX7_next 208 = .ok (.aload_n 0, 1) := dk_42 (dk_at dksX7_next_8 18 rfl rfl)
theorem dX7_next_209 : decode cX7_next 209 = .ok (.aload_n 0, 1) := dk_42 (dk_at dksX7_next_8 19 rfl rfl)
theorem dX7_next_210 : decode cX7_next 210 = .ok (.getfield 140, 3) := dk_180 0 140 (dk_at dksX7_next_8 20 rfl rfl)
theorem dX7_next_213 : decode cX7_next 213 = .ok (.bipush 48, 2) := dk_16 48 (dk_at dksX7_next_9 0 rfl rfl)
theorem dX7_next_215 : decode cX7_next 215 = .ok (.bipush 57, 2) := dk_16 57 (dk_at dksX7_next_9 2 rfl rfl)
theorem dX7_next_217 : decode cX7_next 217 = .ok (.invokevirtual 143, 3) := dk_182 0 143 (dk_at dksX7_next_9 4 rfl rfl)
theorem dX7_next_220 : decode cX7_next 220 = .ok (.ifCond .eq 87, 3) := dk_153 0 87 (dk_at dksX7_next_9 7 rfl rfl)
theorem dX7_next_223 : decode cX7_next 223 = .ok (.aload_n 0, 1) := dk_42 (dk_at dksX7_next_9 10 rfl rfl)
theorem dX7_next_224 : decode cX7_next 224 = .ok (.aload_n 0, 1) := dk_42 (dk_at dksX7_next_9 11 rfl rfl)
theorem dX7_next_225 : decode cX7_next 225 = .ok (.getfield 150, 3) := dk_180 0 150 (dk_at dksX7_next_9 12 rfl rfl)
theorem dX7_next_228 : decode cX7_next 228 = .ok (.ldc 166, 2) := dk_18 166 (dk_at dksX7_next_9 15 rfl rfl)
theorem dX7_next_230 : decode cX7_next 230 = .ok (.if_icmp .le 8, 3) := dk_164 0 8 (dk_at dksX7_next_9 17 rfl rfl)
theorem dX7_next_233 : decode cX7_next 233 = .ok (.ldc 167, 2) := dk_18 167 (dk_at dksX7_next_9 20 rfl rfl)
theorem dX7_next_235 : decode cX7_next 235 = .ok (.goto 23, 3) := dk_167 0 23 (dk_at dksX7_next_10 0 rfl rfl)
theorem dX7_next_238 : decode cX7_next 238 = .ok (.bipush 10, 2) := dk_16 10 (dk_at dksX7_next_10 3 rfl rfl)
theorem dX7_next_240 : decode cX7_next 240 = .ok (.aload_n 0, 1) := dk_42 (dk_at dksX7_next_10 5 rfl rfl)
theorem dX7_next_241 : decode cX7_next 241 = .ok (.getfield 150, 3) := dk_180 0 150 (dk_at dksX7_next_10 6 rfl rfl)
theorem dX7_next_244 : decode cX7_next 244 = .ok (.imul, 1) := dk_104 (dk_at dksX7_next_10 9 rfl rfl)
theorem dX7_next_245 : decode cX7_next 245 = .ok (.aload_n 0, 1) := dk_42 (dk_at dksX7_next_10 10 rfl rfl)
theorem dX7_next_246 : decode cX7_next 246 = .ok (.getfield 23, 3) := dk_180 0 23 (dk_at dksX7_next_10 11 rfl rfl)
theorem dX7_next_249 : decode cX7_next 249 = .ok (.aload_n 0, 1) := dk_42 (dk_at dksX7_next_10 14 rfl rfl)
theorem dX7_next_250 : decode cX7_next 250 = .ok (.getfield 140, 3) := dk_180 0 140 (dk_at dksX7_next_10 15 rfl rfl)
theorem dX7_next_253 : decode cX7_next 253 = .ok (.baload, 1) := dk_51 (dk_at dksX7_next_10 18 rfl rfl)
theorem dX7_next_254 : decode cX7_next 254 = .ok (.iadd, 1) := dk_96 (dk_at dksX7_next_10 19 rfl rfl)
theorem dX7_next_255 : decode cX7_next 255 = .ok (.bipush 48, 2) := dk_16 48 (dk_at dksX7_next_10 20 rfl rfl)
theorem dX7_next_257 : decode cX7_next 257 = .ok (.isub, 1) := dk_100 (dk_at dksX7_next_10 22 rfl rfl)
theorem dX7_next_258 : decode cX7_next 258 = .ok (.putfield 150, 3) := dk_181 0 150 (dk_at dksX7_next_11 0 rfl rfl)
theorem dX7_next_261 : decode cX7_next 261 = .ok (.aload_n 0, 1) := dk_42 (dk_at dksX7_next_11 3 rfl rfl)
theorem dX7_next_262 : decode cX7_next 262 = .ok (.dup, 1) := dk_89 (dk_at dksX7_next_11 4 rfl rfl)
theorem dX7_next_263 : decode cX7_next 263 = .ok (.getfield 140, 3) := dk_180 0 140 (dk_at dksX7_next_11 5 rfl rfl)
theorem dX7_next_266 : decode cX7_next 266 = .ok (.iconst 1, 1) := dk_4 (dk_at dksX7_next_11 8 rfl rfl)
theorem dX7_next_267 : decode cX7_next 267 = .ok (.iadd, 1) := dk_96 (dk_at dksX7_next_11 9 rfl rfl)
theorem dX7_next_268 : decode cX7_next 268 = .ok (.putfield 140, 3) := dk_181 0 140 (dk_at dksX7_next_11 10 rfl rfl)
theorem dX7_next_271 : decode cX7_next 271 = .ok (.goto (-63), 3) := dk_167 255 193 (dk_at dksX7_next_11 13 rfl rfl)
theorem dX7_next_274 : decode cX7_next 274 = .ok (.aload_n 0, 1) := dk_42 (dk_at dksX7_next_11 16 rfl rfl)
theorem dX7_next_275 : decode cX7_next 275 = .ok (.aload_n 0, 1) := dk_42 (dk_at dksX7_next_11 17 rfl rfl)
theorem dX7_next_276 : decode cX7_next 276 = .ok (.getfield 23, 3) := dk_180 0 23 (dk_at dksX7_next_11 18 rfl rfl)
theorem dX7_next_279 : decode cX7_next 279 = .ok (.aload_n 0, 1) := dk_42 (dk_at dksX7_next_11 21 rfl rfl)
theorem dX7_next_280 : decode cX7_next 280 = .ok (.getfield 140, 3) := dk_180 0 140 (dk_at dksX7_next_12 0 rfl rfl)
theorem dX7_next_283 : decode cX7_next 283 = .ok (.baload, 1) := dk_51 (dk_at dksX7_next_12 3 rfl rfl)
theorem dX7_next_284 : decode cX7_next 284 = .ok (.bipush 59, 2) := dk_16 59 (dk_at dksX7_next_12 4 rfl rfl)
theorem dX7_next_286 : decode cX7_next 286 = .ok (.if_icmp .ne 7, 3) := dk_160 0 7 (dk_at dksX7_next_12 6 rfl rfl)
theorem dX7_next_289 : decode cX7_next 289 = .ok (.iconst 3, 1) := dk_6 (dk_at dksX7_next_12 9 rfl rfl)
theorem dX7_next_290 : decode cX7_next 290 = .ok (.goto 4, 3) := dk_167 0 4 (dk_at dksX7_next_12 10 rfl rfl)
theorem dX7_next_293 : decode cX7_next 293 = .ok (.iconst 4, 1) := dk_7 (dk_at dksX7_next_12 13 rfl rfl)
theorem dX7_next_294 : decode cX7_next 294 = .ok (.putfield 157, 3) := dk_181 0 157 (dk_at dksX7_next_12 14 rfl rfl)
theorem dX7_next_297 : decode cX7_next 297 = .ok (.aload_n 0, 1) := dk_42 (dk_at dksX7_next_12 17 rfl rfl)
theorem dX7_next_298 : decode cX7_next 298 = .ok (.dup, 1) := dk_89 (dk_at dksX7_next_12 18 rfl rfl)
theorem dX7_next_299 : decode cX7_next 299 = .ok (.getfield 140, 3) := dk_180 0 140 (dk_at dksX7_next_12 19 rfl rfl)
theorem dX7_next_302 : decode cX7_next 302 = .ok (.iconst 1, 1) := dk_4 (dk_at dksX7_next_12 22 rfl rfl)
theorem dX7_next_303 : decode cX7_next 303 = .ok (.iadd, 1) := dk_96 (dk_at dksX7_next_12 23 rfl rfl)
theorem dX7_next_304 : decode cX7_next 304 = .ok (.putfield 140, 3) := dk_181 0 140 (dk_at dksX7_next_13 0 rfl rfl)
theorem dX7_next_307 : decode cX7_next 307 = .ok (.return_, 1) := dk_177 (dk_at dksX7_next_13 3 rfl rfl)
abbrev cX7_isByte : ByteArray := prog_12_method_12_code
def yX7_isByte : MethodName := ⟨RX7, "isByte", "(III)Z"⟩
def dkwX7_isByte_1 : List UInt8 := [29, 163, 0, 7, 4, 167, 0, 4, 3, 172]
abbrev dktX7_isByte_1 : List UInt8 := dkwX7_isByte_1 ++ []
def dkwX7_isByte_0 : List UInt8 := [27, 42, 180, 0, 133, 162, 0, 27, 42, 180, 0, 23, 27, 51, 28, 161, 0, 17, 42, 180, 0, 23, 27, 51]
abbrev dktX7_isByte_0 : List UInt8 := dkwX7_isByte_0 ++ dktX7_isByte_1
theorem dksX7_isByte_0 : cX7_isByte.data.toList.drop 0 = dktX7_isByte_0 := by decide +kernel
theorem dksX7_isByte_1 : cX7_isByte.data.toList.drop 24 = dktX7_isByte_1 := dk_seg dksX7_isByte_0 24 rfl rfl
theorem dX7_isByte_0 : decode cX7_isByte 0 = .ok (.iload_n 1, 1) := dk_27 (dk_at dksX7_isByte_0 0 rfl rfl)
theorem dX7_isByte_1 : decode cX7_isByte 1 = .ok (.aload_n 0, 1) := dk_42 (dk_at dksX7_isByte_0 1 rfl rfl)
theorem dX7_isByte_2 : decode cX7_isByte 2 = .ok (.getfield 133, 3) := dk_180 0 133 (dk_at dksX7_isByte_0 2 rfl rfl)
theorem dX7_isByte_5 : decode cX7_isByte 5 = .ok (.if_icmp .ge 27, 3) := dk_162 0 27 (dk_at dksX7_isByte_0 5 rfl rfl)
theorem dX7_isByte_8 : decode cX7_isByte 8 = .ok (.aload_n 0, 1) := dk_42 (dk_at dksX7_isByte_0 8 rfl rfl)
theorem dX7_isByte_9 : decode cX7_isByte 9 = .ok (.getfield 23, 3) := dk_180 0 23 (dk_at dksX7_isByte_0 9 rfl rfl)
theorem dX7_isByte_12 : decode cX7_isByte 12 = .ok (.iload_n 1, 1) := dk_27 (dk_at dksX7_isByte_0 12 rfl rfl)
theorem dX7_isByte_13 : decode cX7_isByte 13 = .ok (.baload, 1) := dk_51 (dk_at dksX7_isByte_0 13 rfl rfl)
theorem dX7_isByte_14 : decode cX7_isByte 14 = .ok (.iload_n 2, 1) := dk_28 (dk_at dksX7_isByte_0 14 rfl rfl)
theorem dX7_isByte_15 : decode cX7_isByte 15 = .ok (.if_icmp .lt 17, 3) := dk_161 0 17 (dk_at dksX7_isByte_0 15 rfl rfl)
theorem dX7_isByte_18 : decode cX7_isByte 18 = .ok (.aload_n 0, 1) := dk_42 (dk_at dksX7_isByte_0 18 rfl rfl)
theorem dX7_isByte_19 : decode cX7_isByte 19 = .ok (.getfield 23, 3) := dk_180 0 23 (dk_at dksX7_isByte_0 19 rfl rfl)
theorem dX7_isByte_22 : decode cX7_isByte 22 = .ok (.iload_n 1, 1) := dk_27 (dk_at dksX7_isByte_0 22 rfl rfl)
theorem dX7_isByte_23 : decode cX7_isByte 23 = .ok (.baload, 1) := dk_51 (dk_at dksX7_isByte_0 23 rfl rfl)
theorem dX7_isByte_24 : decode cX7_isByte 24 = .ok (.iload_n 3, 1) := dk_29 (dk_at dksX7_isByte_1 0 rfl rfl)
theorem dX7_isByte_25 : decode cX7_isByte 25 = .ok (.if_icmp .gt 7, 3) := dk_163 0 7 (dk_at dksX7_isByte_1 1 rfl rfl)
theorem dX7_isByte_28 : decode cX7_isByte 28 = .ok (.iconst 1, 1) := dk_4 (dk_at dksX7_isByte_1 4 rfl rfl)
theorem dX7_isByte_29 : decode cX7_isByte 29 = .ok (.goto 4, 3) := dk_167 0 4 (dk_at dksX7_isByte_1 5 rfl rfl)
theorem dX7_isByte_32 : decode cX7_isByte 32 = .ok (.iconst 0, 1) := dk_3 (dk_at dksX7_isByte_1 8 rfl rfl)
theorem dX7_isByte_33 : decode cX7_isByte 33 = .ok (.ireturn, 1) := dk_172 (dk_at dksX7_isByte_1 9 rfl rfl)
abbrev cX7_isGood : ByteArray := prog_12_method_14_code
def yX7_isGood : MethodName := ⟨RX7, "isGood", "()Z"⟩
def dkwX7_isGood_0 : List UInt8 := [42, 180, 0, 168, 154, 0, 7, 4, 167, 0, 4, 3, 172]
abbrev dktX7_isGood_0 : List UInt8 := dkwX7_isGood_0 ++ []
theorem dksX7_isGood_0 : cX7_isGood.data.toList.drop 0 = dktX7_isGood_0 := by decide +kernel
theorem dX7_isGood_0 : decode cX7_isGood 0 = .ok (.aload_n 0, 1) := dk_42 (dk_at dksX7_isGood_0 0 rfl rfl)
theorem dX7_isGood_1 : decode cX7_isGood 1 = .ok (.getfield 168, 3) := dk_180 0 168 (dk_at dksX7_isGood_0 1 rfl rfl)
theorem dX7_isGood_4 : decode cX7_isGood 4 = .ok (.ifCond .ne 7, 3) := dk_154 0 7 (dk_at dksX7_isGood_0 4 rfl rfl)
theorem dX7_isGood_7 : decode cX7_isGood 7 = .ok (.iconst 1, 1) := dk_4 (dk_at dksX7_isGood_0 7 rfl rfl)
theorem dX7_isGood_8 : decode cX7_isGood 8 = .ok (.goto 4, 3) := dk_167 0 4 (dk_at dksX7_isGood_0 8 rfl rfl)
theorem dX7_isGood_11 : decode cX7_isGood 11 = .ok (.iconst 0, 1) := dk_3 (dk_at dksX7_isGood_0 11 rfl rfl)
theorem dX7_isGood_12 : decode cX7_isGood 12 = .ok (.ireturn, 1) := dk_172 (dk_at dksX7_isGood_0 12 rfl rfl)
abbrev cX7_asks : ByteArray := prog_12_method_18_code
def yX7_asks : MethodName := ⟨RX7, "asks", "(J)V"⟩
def dkwX7_asks_0 : List UInt8 := [42, 31, 182, 0, 181, 154, 0, 8, 42, 4, 182, 0, 184, 177]
abbrev dktX7_asks_0 : List UInt8 := dkwX7_asks_0 ++ []
theorem dksX7_asks_0 : cX7_asks.data.toList.drop 0 = dktX7_asks_0 := by decide +kernel
theorem dX7_asks_0 : decode cX7_asks 0 = .ok (.aload_n 0, 1) := dk_42 (dk_at dksX7_asks_0 0 rfl rfl)
theorem dX7_asks_1 : decode cX7_asks 1 = .ok (.lload_n 1, 1) := dk_31 (dk_at dksX7_asks_0 1 rfl rfl)
theorem dX7_asks_2 : decode cX7_asks 2 = .ok (.invokevirtual 181, 3) := dk_182 0 181 (dk_at dksX7_asks_0 2 rfl rfl)
theorem dX7_asks_5 : decode cX7_asks 5 = .ok (.ifCond .ne 8, 3) := dk_154 0 8 (dk_at dksX7_asks_0 5 rfl rfl)
theorem dX7_asks_8 : decode cX7_asks 8 = .ok (.aload_n 0, 1) := dk_42 (dk_at dksX7_asks_0 8 rfl rfl)
theorem dX7_asks_9 : decode cX7_asks 9 = .ok (.iconst 1, 1) := dk_4 (dk_at dksX7_asks_0 9 rfl rfl)
theorem dX7_asks_10 : decode cX7_asks 10 = .ok (.invokevirtual 184, 3) := dk_182 0 184 (dk_at dksX7_asks_0 10 rfl rfl)
theorem dX7_asks_13 : decode cX7_asks 13 = .ok (.return_, 1) := dk_177 (dk_at dksX7_asks_0 13 rfl rfl)
abbrev cX7_takes : ByteArray := prog_12_method_17_code
def yX7_takes : MethodName := ⟨RX7, "takes", "(J)Z"⟩
def dkwX7_takes_0 : List UInt8 := [42, 31, 182, 0, 174, 154, 0, 5, 3, 172, 42, 182, 0, 178, 4, 172]
abbrev dktX7_takes_0 : List UInt8 := dkwX7_takes_0 ++ []
theorem dksX7_takes_0 : cX7_takes.data.toList.drop 0 = dktX7_takes_0 := by decide +kernel
theorem dX7_takes_0 : decode cX7_takes 0 = .ok (.aload_n 0, 1) := dk_42 (dk_at dksX7_takes_0 0 rfl rfl)
theorem dX7_takes_1 : decode cX7_takes 1 = .ok (.lload_n 1, 1) := dk_31 (dk_at dksX7_takes_0 1 rfl rfl)
theorem dX7_takes_2 : decode cX7_takes 2 = .ok (.invokevirtual 174, 3) := dk_182 0 174 (dk_at dksX7_takes_0 2 rfl rfl)
theorem dX7_takes_5 : decode cX7_takes 5 = .ok (.ifCond .ne 5, 3) := dk_154 0 5 (dk_at dksX7_takes_0 5 rfl rfl)
theorem dX7_takes_8 : decode cX7_takes 8 = .ok (.iconst 0, 1) := dk_3 (dk_at dksX7_takes_0 8 rfl rfl)
theorem dX7_takes_9 : decode cX7_takes 9 = .ok (.ireturn, 1) := dk_172 (dk_at dksX7_takes_0 9 rfl rfl)
theorem dX7_takes_10 : decode cX7_takes 10 = .ok (.aload_n 0, 1) := dk_42 (dk_at dksX7_takes_0 10 rfl rfl)
theorem dX7_takes_11 : decode cX7_takes 11 = .ok (.invokevirtual 178, 3) := dk_182 0 178 (dk_at dksX7_takes_0 11 rfl rfl)
theorem dX7_takes_14 : decode cX7_takes 14 = .ok (.iconst 1, 1) := dk_4 (dk_at dksX7_takes_0 14 rfl rfl)
theorem dX7_takes_15 : decode cX7_takes 15 = .ok (.ireturn, 1) := dk_172 (dk_at dksX7_takes_0 15 rfl rfl)
abbrev cX7_is : ByteArray := prog_12_method_16_code
def yX7_is : MethodName := ⟨RX7, "is", "(J)Z"⟩
def dkwX7_is_1 : List UInt8 := [4, 167, 0, 4, 3, 172]
abbrev dktX7_is_1 : List UInt8 := dkwX7_is_1 ++ []
def dkwX7_is_0 : List UInt8 := [42, 180, 0, 168, 154, 0, 24, 42, 180, 0, 157, 4, 160, 0, 16, 42, 180, 0, 153, 31, 148, 154, 0, 7]
abbrev dktX7_is_0 : List UInt8 := dkwX7_is_0 ++ dktX7_is_1
theorem dksX7_is_0 : cX7_is.data.toList.drop 0 = dktX7_is_0 := by decide +kernel
theorem dksX7_is_1 : cX7_is.data.toList.drop 24 = dktX7_is_1 := dk_seg dksX7_is_0 24 rfl rfl
theorem dX7_is_0 : decode cX7_is 0 = .ok (.aload_n 0, 1) := dk_42 (dk_at dksX7_is_0 0 rfl rfl)
theorem dX7_is_1 : decode cX7_is 1 = .ok (.getfield 168, 3) := dk_180 0 168 (dk_at dksX7_is_0 1 rfl rfl)
theorem dX7_is_4 : decode cX7_is 4 = .ok (.ifCond .ne 24, 3) := dk_154 0 24 (dk_at dksX7_is_0 4 rfl rfl)
theorem dX7_is_7 : decode cX7_is 7 = .ok (.aload_n 0, 1) := dk_42 (dk_at dksX7_is_0 7 rfl rfl)
theorem dX7_is_8 : decode cX7_is 8 = .ok (.getfield 157, 3) := dk_180 0 157 (dk_at dksX7_is_0 8 rfl rfl)
theorem dX7_is_11 : decode cX7_is 11 = .ok (.iconst 1, 1) := dk_4 (dk_at dksX7_is_0 11 rfl rfl)
theorem dX7_is_12 : decode cX7_is 12 = .ok (.if_icmp .ne 16, 3) := dk_160 0 16 (dk_at dksX7_is_0 12 rfl rfl)
theorem dX7_is_15 : decode cX7_is 15 = .ok (.aload_n 0, 1) := dk_42 (dk_at dksX7_is_0 15 rfl rfl)
theorem dX7_is_16 : decode cX7_is 16 = .ok (.getfield 153, 3) := dk_180 0 153 (dk_at dksX7_is_0 16 rfl rfl)
theorem dX7_is_19 : decode cX7_is 19 = .ok (.lload_n 1, 1) := dk_31 (dk_at dksX7_is_0 19 rfl rfl)
theorem dX7_is_20 : decode cX7_is 20 = .ok (.lcmp, 1) := dk_148 (dk_at dksX7_is_0 20 rfl rfl)
theorem dX7_is_21 : decode cX7_is 21 = .ok (.ifCond .ne 7, 3) := dk_154 0 7 (dk_at dksX7_is_0 21 rfl rfl)
theorem dX7_is_24 : decode cX7_is 24 = .ok (.iconst 1, 1) := dk_4 (dk_at dksX7_is_1 0 rfl rfl)
theorem dX7_is_25 : decode cX7_is 25 = .ok (.goto 4, 3) := dk_167 0 4 (dk_at dksX7_is_1 1 rfl rfl)
theorem dX7_is_28 : decode cX7_is 28 = .ok (.iconst 0, 1) := dk_3 (dk_at dksX7_is_1 4 rfl rfl)
theorem dX7_is_29 : decode cX7_is 29 = .ok (.ireturn, 1) := dk_172 (dk_at dksX7_is_1 5 rfl rfl)
abbrev cX7_fails : ByteArray := prog_12_method_15_code
def yX7_fails : MethodName := ⟨RX7, "fails", "(I)V"⟩
def dkwX7_fails_0 : List UInt8 := [42, 180, 0, 168, 153, 0, 4, 177, 42, 27, 181, 0, 168, 42, 42, 180, 0, 147, 181, 0, 171, 177]
abbrev dktX7_fails_0 : List UInt8 := dkwX7_fails_0 ++ []
theorem dksX7_fails_0 : cX7_fails.data.toList.drop 0 = dktX7_fails_0 := by decide +kernel
theorem dX7_fails_0 : decode cX7_fails 0 = .ok (.aload_n 0, 1) := dk_42 (dk_at dksX7_fails_0 0 rfl rfl)
theorem dX7_fails_1 : decode cX7_fails 1 = .ok (.getfield 168, 3) := dk_180 0 168 (dk_at dksX7_fails_0 1 rfl rfl)
theorem dX7_fails_4 : decode cX7_fails 4 = .ok (.ifCond .eq 4, 3) := dk_153 0 4 (dk_at dksX7_fails_0 4 rfl rfl)
theorem dX7_fails_7 : decode cX7_fails 7 = .ok (.return_, 1) := dk_177 (dk_at dksX7_fails_0 7 rfl rfl)
theorem dX7_fails_8 : decode cX7_fails 8 = .ok (.aload_n 0, 1) := dk_42 (dk_at dksX7_fails_0 8 rfl rfl)
theorem dX7_fails_9 : decode cX7_fails 9 = .ok (.iload_n 1, 1) := dk_27 (dk_at dksX7_fails_0 9 rfl rfl)
theorem dX7_fails_10 : decode cX7_fails 10 = .ok (.putfield 168, 3) := dk_181 0 168 (dk_at dksX7_fails_0 10 rfl rfl)
theorem dX7_fails_13 : decode cX7_fails 13 = .ok (.aload_n 0, 1) := dk_42 (dk_at dksX7_fails_0 13 rfl rfl)
theorem dX7_fails_14 : decode cX7_fails 14 = .ok (.aload_n 0, 1) := dk_42 (dk_at dksX7_fails_0 14 rfl rfl)
theorem dX7_fails_15 : decode cX7_fails 15 = .ok (.getfield 147, 3) := dk_180 0 147 (dk_at dksX7_fails_0 15 rfl rfl)
theorem dX7_fails_18 : decode cX7_fails 18 = .ok (.putfield 171, 3) := dk_181 0 171 (dk_at dksX7_fails_0 18 rfl rfl)
theorem dX7_fails_21 : decode cX7_fails 21 = .ok (.return_, 1) := dk_177 (dk_at dksX7_fails_0 21 rfl rfl)
abbrev cX7_number : ByteArray := prog_12_method_20_code
def yX7_number : MethodName := ⟨RX7, "number", "(JII)I"⟩
def dkwX7_number_0 : List UInt8 := [42, 31, 182, 0, 187, 42, 29, 21, 4, 182, 0, 191, 172]
abbrev dktX7_number_0 : List UInt8 := dkwX7_number_0 ++ []
theorem dksX7_number_0 : cX7_number.data.toList.drop 0 = dktX7_number_0 := by decide +kernel
theorem dX7_number_0 : decode cX7_number 0 = .ok (.aload_n 0, 1) := dk_42 (dk_at dksX7_number_0 0 rfl rfl)
theorem dX7_number_1 : decode cX7_number 1 = .ok (.lload_n 1, 1) := dk_31 (dk_at dksX7_number_0 1 rfl rfl)
theorem dX7_number_2 : decode cX7_number 2 = .ok (.invokevirtual 187, 3) := dk_182 0 187 (dk_at dksX7_number_0 2 rfl rfl)
theorem dX7_number_5 : decode cX7_number 5 = .ok (.aload_n 0, 1) := dk_42 (dk_at dksX7_number_0 5 rfl rfl)
theorem dX7_number_6 : decode cX7_number 6 = .ok (.iload_n 3, 1) := dk_29 (dk_at dksX7_number_0 6 rfl rfl)
theorem dX7_number_7 : decode cX7_number 7 = .ok (.iload 4, 2) := dk_21 4 (dk_at dksX7_number_0 7 rfl rfl)
theorem dX7_number_9 : decode cX7_number 9 = .ok (.invokevirtual 191, 3) := dk_182 0 191 (dk_at dksX7_number_0 9 rfl rfl)
theorem dX7_number_12 : decode cX7_number 12 = .ok (.ireturn, 1) := dk_172 (dk_at dksX7_number_0 12 rfl rfl)
abbrev cX7_number_2 : ByteArray := prog_12_method_19_code
def yX7_number_2 : MethodName := ⟨RX7, "number", "(II)I"⟩
def dkwX7_number_2_2 : List UInt8 := [180, 0, 150, 62, 42, 182, 0, 178, 29, 172]
abbrev dktX7_number_2_2 : List UInt8 := dkwX7_number_2_2 ++ []
def dkwX7_number_2_1 : List UInt8 := [42, 180, 0, 150, 133, 27, 133, 28, 133, 184, 0, 121, 154, 0, 10, 42, 5, 182, 0, 184, 27, 172, 42]
abbrev dktX7_number_2_1 : List UInt8 := dkwX7_number_2_1 ++ dktX7_number_2_2
def dkwX7_number_2_0 : List UInt8 := [42, 180, 0, 168, 153, 0, 5, 27, 172, 42, 180, 0, 157, 5, 159, 0, 10, 42, 4, 182, 0, 184, 27, 172]
abbrev dktX7_number_2_0 : List UInt8 := dkwX7_number_2_0 ++ dktX7_number_2_1
theorem dksX7_number_2_0 : cX7_number_2.data.toList.drop 0 = dktX7_number_2_0 := by decide +kernel
theorem dksX7_number_2_1 : cX7_number_2.data.toList.drop 24 = dktX7_number_2_1 := dk_seg dksX7_number_2_0 24 rfl rfl
theorem dksX7_number_2_2 : cX7_number_2.data.toList.drop 47 = dktX7_number_2_2 := dk_seg dksX7_number_2_1 23 rfl rfl
theorem dX7_number_2_0 : decode cX7_number_2 0 = .ok (.aload_n 0, 1) := dk_42 (dk_at dksX7_number_2_0 0 rfl rfl)
theorem dX7_number_2_1 : decode cX7_number_2 1 = .ok (.getfield 168, 3) := dk_180 0 168 (dk_at dksX7_number_2_0 1 rfl rfl)
theorem dX7_number_2_4 : decode cX7_number_2 4 = .ok (.ifCond .eq 5, 3) := dk_153 0 5 (dk_at dksX7_number_2_0 4 rfl rfl)
theorem dX7_number_2_7 : decode cX7_number_2 7 = .ok (.iload_n 1, 1) := dk_27 (dk_at dksX7_number_2_0 7 rfl rfl)
theorem dX7_number_2_8 : decode cX7_number_2 8 = .ok (.ireturn, 1) := dk_172 (dk_at dksX7_number_2_0 8 rfl rfl)
theorem dX7_number_2_9 : decode cX7_number_2 9 = .ok (.aload_n 0, 1) := dk_42 (dk_at dksX7_number_2_0 9 rfl rfl)
theorem dX7_number_2_10 : decode cX7_number_2 10 = .ok (.getfield 157, 3) := dk_180 0 157 (dk_at dksX7_number_2_0 10 rfl rfl)
theorem dX7_number_2_13 : decode cX7_number_2 13 = .ok (.iconst 2, 1) := dk_5 (dk_at dksX7_number_2_0 13 rfl rfl)
theorem dX7_number_2_14 : decode cX7_number_2 14 = .ok (.if_icmp .eq 10, 3) := dk_159 0 10 (dk_at dksX7_number_2_0 14 rfl rfl)
theorem dX7_number_2_17 : decode cX7_number_2 17 = .ok (.aload_n 0, 1) := dk_42 (dk_at dksX7_number_2_0 17 rfl rfl)
theorem dX7_number_2_18 : decode cX7_number_2 18 = .ok (.iconst 1, 1) := dk_4 (dk_at dksX7_number_2_0 18 rfl rfl)
theorem dX7_number_2_19 : decode cX7_number_2 19 = .ok (.invokevirtual 184, 3) := dk_182 0 184 (dk_at dksX7_number_2_0 19 rfl rfl)
theorem dX7_number_2_22 : decode cX7_number_2 22 = .ok (.iload_n 1, 1) := dk_27 (dk_at dksX7_number_2_0 22 rfl rfl)
theorem dX7_number_2_23 : decode cX7_number_2 23 = .ok (.ireturn, 1) := dk_172 (dk_at dksX7_number_2_0 23 rfl rfl)
theorem dX7_number_2_24 : decode cX7_number_2 24 = .ok (.aload_n 0, 1) := dk_42 (dk_at dksX7_number_2_1 0 rfl rfl)
theorem dX7_number_2_25 : decode cX7_number_2 25 = .ok (.getfield 150, 3) := dk_180 0 150 (dk_at dksX7_number_2_1 1 rfl rfl)
theorem dX7_number_2_28 : decode cX7_number_2 28 = .ok (.i2l, 1) := dk_133 (dk_at dksX7_number_2_1 4 rfl rfl)
theorem dX7_number_2_29 : decode cX7_number_2 29 = .ok (.iload_n 1, 1) := dk_27 (dk_at dksX7_number_2_1 5 rfl rfl)
theorem dX7_number_2_30 : decode cX7_number_2 30 = .ok (.i2l, 1) := dk_133 (dk_at dksX7_number_2_1 6 rfl rfl)
theorem dX7_number_2_31 : decode cX7_number_2 31 = .ok (.iload_n 2, 1) := dk_28 (dk_at dksX7_number_2_1 7 rfl rfl)
theorem dX7_number_2_32 : decode cX7_number_2 32 = .ok (.i2l, 1) := dk_133 (dk_at dksX7_number_2_1 8 rfl rfl)
theorem dX7_number_2_33 : decode cX7_number_2 33 = .ok (.invokestatic 121, 3) := dk_184 0 121 (dk_at dksX7_number_2_1 9 rfl rfl)
theorem dX7_number_2_36 : decode cX7_number_2 36 = .ok (.ifCond .ne 10, 3) := dk_154 0 10 (dk_at dksX7_number_2_1 12 rfl rfl)
theorem dX7_number_2_39 : decode cX7_number_2 39 = .ok (.aload_n 0, 1) := dk_42 (dk_at dksX7_number_2_1 15 rfl rfl)
theorem dX7_number_2_40 : decode cX7_number_2 40 = .ok (.iconst 2, 1) := dk_5 (dk_at dksX7_number_2_1 16 rfl rfl)
theorem dX7_number_2_41 : decode cX7_number_2 41 = .ok (.invokevirtual 184, 3) := dk_182 0 184 (dk_at dksX7_number_2_1 17 rfl rfl)
theorem dX7_number_2_44 : decode cX7_number_2 44 = .ok (.iload_n 1, 1) := dk_27 (dk_at dksX7_number_2_1 20 rfl rfl)
theorem dX7_number_2_45 : decode cX7_number_2 45 = .ok (.ireturn, 1) := dk_172 (dk_at dksX7_number_2_1 21 rfl rfl)
theorem dX7_number_2_46 : decode cX7_number_2 46 = .ok (.aload_n 0, 1) := dk_42 (dk_at dksX7_number_2_1 22 rfl rfl)
theorem dX7_number_2_47 : decode cX7_number_2 47 = .ok (.getfield 150, 3) := dk_180 0 150 (dk_at dksX7_number_2_2 0 rfl rfl)
theorem dX7_number_2_50 : decode cX7_number_2 50 = .ok (.istore_n 3, 1) := dk_62 (dk_at dksX7_number_2_2 3 rfl rfl)
theorem dX7_number_2_51 : decode cX7_number_2 51 = .ok (.aload_n 0, 1) := dk_42 (dk_at dksX7_number_2_2 4 rfl rfl)
theorem dX7_number_2_52 : decode cX7_number_2 52 = .ok (.invokevirtual 178, 3) := dk_182 0 178 (dk_at dksX7_number_2_2 5 rfl rfl)
theorem dX7_number_2_55 : decode cX7_number_2 55 = .ok (.iload_n 3, 1) := dk_29 (dk_at dksX7_number_2_2 8 rfl rfl)
theorem dX7_number_2_56 : decode cX7_number_2 56 = .ok (.ireturn, 1) := dk_172 (dk_at dksX7_number_2_2 9 rfl rfl)
abbrev cX7_lineHere : ByteArray := prog_12_method_33_code
def yX7_lineHere : MethodName := ⟨RX7, "lineHere", "()V"⟩
def dkwX7_lineHere_5 : List UInt8 := [180, 0, 168, 154, 0, 8, 42, 4, 182, 0, 184, 177]
abbrev dktX7_lineHere_5 : List UInt8 := dkwX7_lineHere_5 ++ []
def dkwX7_lineHere_4 : List UInt8 := [20, 0, 246, 182, 0, 174, 16, 6, 7, 182, 0, 229, 153, 0, 10, 42, 182, 0, 248, 167, 0, 15, 42]
abbrev dktX7_lineHere_4 : List UInt8 := dkwX7_lineHere_4 ++ dktX7_lineHere_5
def dkwX7_lineHere_3 : List UInt8 := [182, 0, 229, 153, 0, 10, 42, 182, 0, 243, 167, 0, 46, 42, 180, 0, 168, 154, 0, 27, 42, 42]
abbrev dktX7_lineHere_3 : List UInt8 := dkwX7_lineHere_3 ++ dktX7_lineHere_4
def dkwX7_lineHere_2 : List UInt8 := [182, 0, 238, 167, 0, 76, 42, 180, 0, 168, 154, 0, 26, 42, 42, 20, 0, 241, 182, 0, 174, 8, 8]
abbrev dktX7_lineHere_2 : List UInt8 := dkwX7_lineHere_2 ++ dktX7_lineHere_3
def dkwX7_lineHere_1 : List UInt8 := [180, 0, 168, 154, 0, 27, 42, 42, 20, 0, 236, 182, 0, 174, 7, 16, 7, 182, 0, 229, 153, 0, 10, 42]
abbrev dktX7_lineHere_1 : List UInt8 := dkwX7_lineHere_1 ++ dktX7_lineHere_2
def dkwX7_lineHere_0 : List UInt8 := [42, 42, 20, 0, 227, 182, 0, 174, 6, 6, 182, 0, 229, 153, 0, 10, 42, 182, 0, 233, 167, 0, 107, 42]
abbrev dktX7_lineHere_0 : List UInt8 := dkwX7_lineHere_0 ++ dktX7_lineHere_1
theorem dksX7_lineHere_0 : cX7_lineHere.data.toList.drop 0 = dktX7_lineHere_0 := by decide +kernel
theorem dksX7_lineHere_1 : cX7_lineHere.data.toList.drop 24 = dktX7_lineHere_1 := dk_seg dksX7_lineHere_0 24 rfl rfl
theorem dksX7_lineHere_2 : cX7_lineHere.data.toList.drop 48 = dktX7_lineHere_2 := dk_seg dksX7_lineHere_1 24 rfl rfl
theorem dksX7_lineHere_3 : cX7_lineHere.data.toList.drop 71 = dktX7_lineHere_3 := dk_seg dksX7_lineHere_2 23 rfl rfl
theorem dksX7_lineHere_4 : cX7_lineHere.data.toList.drop 93 = dktX7_lineHere_4 := dk_seg dksX7_lineHere_3 22 rfl rfl
theorem dksX7_lineHere_5 : cX7_lineHere.data.toList.drop 116 = dktX7_lineHere_5 := dk_seg dksX7_lineHere_4 23 rfl rfl
theorem dX7_lineHere_0 : decode cX7_lineHere 0 = .ok (.aload_n 0, 1) := dk_42 (dk_at dksX7_lineHere_0 0 rfl rfl)
theorem dX7_lineHere_1 : decode cX7_lineHere 1 = .ok (.aload_n 0, 1) := dk_42 (dk_at dksX7_lineHere_0 1 rfl rfl)
theorem dX7_lineHere_2 : decode cX7_lineHere 2 = .ok (.ldc2_w 227, 3) := dk_20 0 227 (dk_at dksX7_lineHere_0 2 rfl rfl)
theorem dX7_lineHere_5 : decode cX7_lineHere 5 = .ok (.invokevirtual 174, 3) := dk_182 0 174 (dk_at dksX7_lineHere_0 5 rfl rfl)
theorem dX7_lineHere_8 : decode cX7_lineHere 8 = .ok (.iconst 3, 1) := dk_6 (dk_at dksX7_lineHere_0 8 rfl rfl)
theorem dX7_lineHere_9 : decode cX7_lineHere 9 = .ok (.iconst 3, 1) := dk_6 (dk_at dksX7_lineHere_0 9 rfl rfl)
theorem dX7_lineHere_10 : decode cX7_lineHere 10 = .ok (.invokevirtual 229, 3) := dk_182 0 229 (dk_at dksX7_lineHere_0 10 rfl rfl)
theorem dX7_lineHere_13 : decode cX7_lineHere 13 = .ok (.ifCond .eq 10, 3) := dk_153 0 10 (dk_at dksX7_lineHere_0 13 rfl rfl)
theorem dX7_lineHere_16 : decode cX7_lineHere 16 = .ok (.aload_n 0, 1) := dk_42 (dk_at dksX7_lineHere_0 16 rfl rfl)
theorem dX7_lineHere_17 : decode cX7_lineHere 17 = .ok (.invokevirtual 233, 3) := dk_182 0 233 (dk_at dksX7_lineHere_0 17 rfl rfl)
theorem dX7_lineHere_20 : decode cX7_lineHere 20 = .ok (.goto 107, 3) := dk_167 0 107 (dk_at dksX7_lineHere_0 20 rfl rfl)
theorem dX7_lineHere_23 : decode cX7_lineHere 23 = .ok (.aload_n 0, 1) := dk_42 (dk_at dksX7_lineHere_0 23 rfl rfl)
theorem dX7_lineHere_24 : decode cX7_lineHere 24 = .ok (.getfield 168, 3) := dk_180 0 168 (dk_at dksX7_lineHere_1 0 rfl rfl)
theorem dX7_lineHere_27 : decode cX7_lineHere 27 = .ok (.ifCond .ne 27, 3) := dk_154 0 27 (dk_at dksX7_lineHere_1 3 rfl rfl)
theorem dX7_lineHere_30 : decode cX7_lineHere 30 = .ok (.aload_n 0, 1) := dk_42 (dk_at dksX7_lineHere_1 6 rfl rfl)
theorem dX7_lineHere_31 : decode cX7_lineHere 31 = .ok (.aload_n 0, 1) := dk_42 (dk_at dksX7_lineHere_1 7 rfl rfl)
theorem dX7_lineHere_32 : decode cX7_lineHere 32 = .ok (.ldc2_w 236, 3) := dk_20 0 236 (dk_at dksX7_lineHere_1 8 rfl rfl)
theorem dX7_lineHere_35 : decode cX7_lineHere 35 = .ok (.invokevirtual 174, 3) := dk_182 0 174 (dk_at dksX7_lineHere_1 11 rfl rfl)
theorem dX7_lineHere_38 : decode cX7_lineHere 38 = .ok (.iconst 4, 1) := dk_7 (dk_at dksX7_lineHere_1 14 rfl rfl)
theorem dX7_lineHere_39 : decode cX7_lineHere 39 = .ok (.bipush 7, 2) := dk_16 7 (dk_at dksX7_lineHere_1 15 rfl rfl)
theorem dX7_lineHere_41 : decode cX7_lineHere 41 = .ok (.invokevirtual 229, 3) := dk_182 0 229 (dk_at dksX7_lineHere_1 17 rfl rfl)
theorem dX7_lineHere_44 : decode cX7_lineHere 44 = .ok (.ifCond .eq 10, 3) := dk_153 0 10 (dk_at dksX7_lineHere_1 20 rfl rfl)
theorem dX7_lineHere_47 : decode cX7_lineHere 47 = .ok (.aload_n 0, 1) := dk_42 (dk_at dksX7_lineHere_1 23 rfl rfl)
theorem dX7_lineHere_48 : decode cX7_lineHere 48 = .ok (.invokevirtual 238, 3) := dk_182 0 238 (dk_at dksX7_lineHere_2 0 rfl rfl)
theorem dX7_lineHere_51 : decode cX7_lineHere 51 = .ok (.goto 76, 3) := dk_167 0 76 (dk_at dksX7_lineHere_2 3 rfl rfl)
theorem dX7_lineHere_54 : decode cX7_lineHere 54 = .ok (.aload_n 0, 1) := dk_42 (dk_at dksX7_lineHere_2 6 rfl rfl)
theorem dX7_lineHere_55 : decode cX7_lineHere 55 = .ok (.getfield 168, 3) := dk_180 0 168 (dk_at dksX7_lineHere_2 7 rfl rfl)
theorem dX7_lineHere_58 : decode cX7_lineHere 58 = .ok (.ifCond .ne 26, 3) := dk_154 0 26 (dk_at dksX7_lineHere_2 10 rfl rfl)
theorem dX7_lineHere_61 : decode cX7_lineHere 61 = .ok (.aload_n 0, 1) := dk_42 (dk_at dksX7_lineHere_2 13 rfl rfl)
theorem dX7_lineHere_62 : decode cX7_lineHere 62 = .ok (.aload_n 0, 1) := dk_42 (dk_at dksX7_lineHere_2 14 rfl rfl)
theorem dX7_lineHere_63 : decode cX7_lineHere 63 = .ok (.ldc2_w 241, 3) := dk_20 0 241 (dk_at dksX7_lineHere_2 15 rfl rfl)
theorem dX7_lineHere_66 : decode cX7_lineHere 66 = .ok (.invokevirtual 174, 3) := dk_182 0 174 (dk_at dksX7_lineHere_2 18 rfl rfl)
theorem dX7_lineHere_69 : decode cX7_lineHere 69 = .ok (.iconst 5, 1) := dk_8 (dk_at dksX7_lineHere_2 21 rfl rfl)
theorem dX7_lineHere_70 : decode cX7_lineHere 70 = .ok (.iconst 5, 1) := dk_8 (dk_at dksX7_lineHere_2 22 rfl rfl)
theorem dX7_lineHere_71 : decode cX7_lineHere 71 = .ok (.invokevirtual 229, 3) := dk_182 0 229 (dk_at dksX7_lineHere_3 0 rfl rfl)
theorem dX7_lineHere_74 : decode cX7_lineHere 74 = .ok (.ifCond .eq 10, 3) := dk_153 0 10 (dk_at dksX7_lineHere_3 3 rfl rfl)
theorem dX7_lineHere_77 : decode cX7_lineHere 77 = .ok (.aload_n 0, 1) := dk_42 (dk_at dksX7_lineHere_3 6 rfl rfl)
theorem dX7_lineHere_78 : decode cX7_lineHere 78 = .ok (.invokevirtual 243, 3) := dk_182 0 243 (dk_at dksX7_lineHere_3 7 rfl rfl)
theorem dX7_lineHere_81 : decode cX7_lineHere 81 = .ok (.goto 46, 3) := dk_167 0 46 (dk_at dksX7_lineHere_3 10 rfl rfl)
theorem dX7_lineHere_84 : decode cX7_lineHere 84 = .ok (.aload_n 0, 1) := dk_42 (dk_at dksX7_lineHere_3 13 rfl rfl)
theorem dX7_lineHere_85 : decode cX7_lineHere 85 = .ok (.getfield 168, 3) := dk_180 0 168 (dk_at dksX7_lineHere_3 14 rfl rfl)
theorem dX7_lineHere_88 : decode cX7_lineHere 88 = .ok (.ifCond .ne 27, 3) := dk_154 0 27 (dk_at dksX7_lineHere_3 17 rfl rfl)
theorem dX7_lineHere_91 : decode cX7_lineHere 91 = .ok (.aload_n 0, 1) := dk_42 (dk_at dksX7_lineHere_3 20 rfl rfl)
theorem dX7_lineHere_92 : decode cX7_lineHere 92 = .ok (.aload_n 0, 1) := dk_42 (dk_at dksX7_lineHere_3 21 rfl rfl)
theorem dX7_lineHere_93 : decode cX7_lineHere 93 = .ok (.ldc2_w 246, 3) := dk_20 0 246 (dk_at dksX7_lineHere_4 0 rfl rfl)
theorem dX7_lineHere_96 : decode cX7_lineHere 96 = .ok (.invokevirtual 174, 3) := dk_182 0 174 (dk_at dksX7_lineHere_4 3 rfl rfl)
theorem dX7_lineHere_99 : decode cX7_lineHere 99 = .ok (.bipush 6, 2) := dk_16 6 (dk_at dksX7_lineHere_4 6 rfl rfl)
theorem dX7_lineHere_101 : decode cX7_lineHere 101 = .ok (.iconst 4, 1) := dk_7 (dk_at dksX7_lineHere_4 8 rfl rfl)
theorem dX7_lineHere_102 : decode cX7_lineHere 102 = .ok (.invokevirtual 229, 3) := dk_182 0 229 (dk_at dksX7_lineHere_4 9 rfl rfl)
theorem dX7_lineHere_105 : decode cX7_lineHere 105 = .ok (.ifCond .eq 10, 3) := dk_153 0 10 (dk_at dksX7_lineHere_4 12 rfl rfl)
theorem dX7_lineHere_108 : decode cX7_lineHere 108 = .ok (.aload_n 0, 1) := dk_42 (dk_at dksX7_lineHere_4 15 rfl rfl)
theorem dX7_lineHere_109 : decode cX7_lineHere 109 = .ok (.invokevirtual 248, 3) := dk_182 0 248 (dk_at dksX7_lineHere_4 16 rfl rfl)
theorem dX7_lineHere_112 : decode cX7_lineHere 112 = .ok (.goto 15, 3) := dk_167 0 15 (dk_at dksX7_lineHere_4 19 rfl rfl)
theorem dX7_lineHere_115 : decode cX7_lineHere 115 = .ok (.aload_n 0, 1) := dk_42 (dk_at dksX7_lineHere_4 22 rfl rfl)
theorem dX7_lineHere_116 : decode cX7_lineHere 116 = .ok (.getfield 168, 3) := dk_180 0 168 (dk_at dksX7_lineHere_5 0 rfl rfl)
theorem dX7_lineHere_119 : decode cX7_lineHere 119 = .ok (.ifCond .ne 8, 3) := dk_154 0 8 (dk_at dksX7_lineHere_5 3 rfl rfl)
theorem dX7_lineHere_122 : decode cX7_lineHere 122 = .ok (.aload_n 0, 1) := dk_42 (dk_at dksX7_lineHere_5 6 rfl rfl)
theorem dX7_lineHere_123 : decode cX7_lineHere 123 = .ok (.iconst 1, 1) := dk_4 (dk_at dksX7_lineHere_5 7 rfl rfl)
theorem dX7_lineHere_124 : decode cX7_lineHere 124 = .ok (.invokevirtual 184, 3) := dk_182 0 184 (dk_at dksX7_lineHere_5 8 rfl rfl)
theorem dX7_lineHere_127 : decode cX7_lineHere 127 = .ok (.return_, 1) := dk_177 (dk_at dksX7_lineHere_5 11 rfl rfl)
abbrev cX7_isRoom : ByteArray := prog_12_method_32_code
def yX7_isRoom : MethodName := ⟨RX7, "isRoom", "(ZII)Z"⟩
def dkwX7_isRoom_2 : List UInt8 := [167, 0, 4, 3, 172]
abbrev dktX7_isRoom_2 : List UInt8 := dkwX7_isRoom_2 ++ []
def dkwX7_isRoom_1 : List UInt8 := [180, 0, 168, 154, 0, 7, 42, 182, 0, 178, 27, 153, 0, 14, 42, 180, 0, 168, 154, 0, 7, 4]
abbrev dktX7_isRoom_1 : List UInt8 := dkwX7_isRoom_1 ++ dktX7_isRoom_2
def dkwX7_isRoom_0 : List UInt8 := [27, 153, 0, 17, 42, 28, 182, 0, 198, 29, 160, 0, 8, 42, 6, 182, 0, 184, 27, 153, 0, 14, 42]
abbrev dktX7_isRoom_0 : List UInt8 := dkwX7_isRoom_0 ++ dktX7_isRoom_1
theorem dksX7_isRoom_0 : cX7_isRoom.data.toList.drop 0 = dktX7_isRoom_0 := by decide +kernel
theorem dksX7_isRoom_1 : cX7_isRoom.data.toList.drop 23 = dktX7_isRoom_1 := dk_seg dksX7_isRoom_0 23 rfl rfl
theorem dksX7_isRoom_2 : cX7_isRoom.data.toList.drop 45 = dktX7_isRoom_2 := dk_seg dksX7_isRoom_1 22 rfl rfl
theorem dX7_isRoom_0 : decode cX7_isRoom 0 = .ok (.iload_n 1, 1) := dk_27 (dk_at dksX7_isRoom_0 0 rfl rfl)
theorem dX7_isRoom_1 : decode cX7_isRoom 1 = .ok (.ifCond .eq 17, 3) := dk_153 0 17 (dk_at dksX7_isRoom_0 1 rfl rfl)
theorem dX7_isRoom_4 : decode cX7_isRoom 4 = .ok (.aload_n 0, 1) := dk_42 (dk_at dksX7_isRoom_0 4 rfl rfl)
theorem dX7_isRoom_5 : decode cX7_isRoom 5 = .ok (.iload_n 2, 1) := dk_28 (dk_at dksX7_isRoom_0 5 rfl rfl)
theorem dX7_isRoom_6 : decode cX7_isRoom 6 = .ok (.invokevirtual 198, 3) := dk_182 0 198 (dk_at dksX7_isRoom_0 6 rfl rfl)
theorem dX7_isRoom_9 : decode cX7_isRoom 9 = .ok (.iload_n 3, 1) := dk_29 (dk_at dksX7_isRoom_0 9 rfl rfl)
theorem dX7_isRoom_10 : decode cX7_isRoom 10 = .ok (.if_icmp .ne 8, 3) := dk_160 0 8 (dk_at dksX7_isRoom_0 10 rfl rfl)
theorem dX7_isRoom_13 : decode cX7_isRoom 13 = .ok (.aload_n 0, 1) := dk_42 (dk_at dksX7_isRoom_0 13 rfl rfl)
theorem dX7_isRoom_14 : decode cX7_isRoom 14 = .ok (.iconst 3, 1) := dk_6 (dk_at dksX7_isRoom_0 14 rfl rfl)
theorem dX7_isRoom_15 : decode cX7_isRoom 15 = .ok (.invokevirtual 184, 3) := dk_182 0 184 (dk_at dksX7_isRoom_0 15 rfl rfl)
theorem dX7_isRoom_18 : decode cX7_isRoom 18 = .ok (.iload_n 1, 1) := dk_27 (dk_at dksX7_isRoom_0 18 rfl rfl)
theorem dX7_isRoom_19 : decode cX7_isRoom 19 = .ok (.ifCond .eq 14, 3) := dk_153 0 14 (dk_at dksX7_isRoom_0 19 rfl rfl)
theorem dX7_isRoom_22 : decode cX7_isRoom 22 = .ok (.aload_n 0, 1) := dk_42 (dk_at dksX7_isRoom_0 22 rfl rfl)
theorem dX7_isRoom_23 : decode cX7_isRoom 23 = .ok (.getfield 168, 3) := dk_180 0 168 (dk_at dksX7_isRoom_1 0 rfl rfl)
theorem dX7_isRoom_26 : decode cX7_isRoom 26 = .ok (.ifCond .ne 7, 3) := dk_154 0 7 (dk_at dksX7_isRoom_1 3 rfl rfl)
theorem dX7_isRoom_29 : decode cX7_isRoom 29 = .ok (.aload_n 0, 1) := dk_42 (dk_at dksX7_isRoom_1 6 rfl rfl)
theorem dX7_isRoom_30 : decode cX7_isRoom 30 = .ok (.invokevirtual 178, 3) := dk_182 0 178 (dk_at dksX7_isRoom_1 7 rfl rfl)
theorem dX7_isRoom_33 : decode cX7_isRoom 33 = .ok (.iload_n 1, 1) := dk_27 (dk_at dksX7_isRoom_1 10 rfl rfl)
theorem dX7_isRoom_34 : decode cX7_isRoom 34 = .ok (.ifCond .eq 14, 3) := dk_153 0 14 (dk_at dksX7_isRoom_1 11 rfl rfl)
theorem dX7_isRoom_37 : decode cX7_isRoom 37 = .ok (.aload_n 0, 1) := dk_42 (dk_at dksX7_isRoom_1 14 rfl rfl)
theorem dX7_isRoom_38 : decode cX7_isRoom 38 = .ok (.getfield 168, 3) := dk_180 0 168 (dk_at dksX7_isRoom_1 15 rfl rfl)
theorem dX7_isRoom_41 : decode cX7_isRoom 41 = .ok (.ifCond .ne 7, 3) := dk_154 0 7 (dk_at dksX7_isRoom_1 18 rfl rfl)
theorem dX7_isRoom_44 : decode cX7_isRoom 44 = .ok (.iconst 1, 1) := dk_4 (dk_at dksX7_isRoom_1 21 rfl rfl)
theorem dX7_isRoom_45 : decode cX7_isRoom 45 = .ok (.goto 4, 3) := dk_167 0 4 (dk_at dksX7_isRoom_2 0 rfl rfl)
theorem dX7_isRoom_48 : decode cX7_isRoom 48 = .ok (.iconst 0, 1) := dk_3 (dk_at dksX7_isRoom_2 3 rfl rfl)
theorem dX7_isRoom_49 : decode cX7_isRoom 49 = .ok (.ireturn, 1) := dk_172 (dk_at dksX7_isRoom_2 4 rfl rfl)
abbrev cX7_hasRead : ByteArray := prog_12_method_25_code
def yX7_hasRead : MethodName := ⟨RX7, "hasRead", "(I)I"⟩
def dkwX7_hasRead_0 : List UInt8 := [42, 180, 0, 34, 16, 32, 27, 96, 46, 172]
abbrev dktX7_hasRead_0 : List UInt8 := dkwX7_hasRead_0 ++ []
theorem dksX7_hasRead_0 : cX7_hasRead.data.toList.drop 0 = dktX7_hasRead_0 := by decide +kernel
theorem dX7_hasRead_0 : decode cX7_hasRead 0 = .ok (.aload_n 0, 1) := dk_42 (dk_at dksX7_hasRead_0 0 rfl rfl)
theorem dX7_hasRead_1 : decode cX7_hasRead 1 = .ok (.getfield 34, 3) := dk_180 0 34 (dk_at dksX7_hasRead_0 1 rfl rfl)
theorem dX7_hasRead_4 : decode cX7_hasRead 4 = .ok (.bipush 32, 2) := dk_16 32 (dk_at dksX7_hasRead_0 4 rfl rfl)
theorem dX7_hasRead_6 : decode cX7_hasRead 6 = .ok (.iload_n 1, 1) := dk_27 (dk_at dksX7_hasRead_0 6 rfl rfl)
theorem dX7_hasRead_7 : decode cX7_hasRead 7 = .ok (.iadd, 1) := dk_96 (dk_at dksX7_hasRead_0 7 rfl rfl)
theorem dX7_hasRead_8 : decode cX7_hasRead 8 = .ok (.iaload, 1) := dk_46 (dk_at dksX7_hasRead_0 8 rfl rfl)
theorem dX7_hasRead_9 : decode cX7_hasRead 9 = .ok (.ireturn, 1) := dk_172 (dk_at dksX7_hasRead_0 9 rfl rfl)
abbrev cX7_bridgeLine : ByteArray := prog_12_method_28_code
def yX7_bridgeLine : MethodName := ⟨RX7, "bridgeLine", "()V"⟩
def dkwX7_bridgeLine_2 : List UInt8 := [42, 6, 182, 0, 198, 4, 96, 182, 0, 209, 177]
abbrev dktX7_bridgeLine_2 : List UInt8 := dkwX7_bridgeLine_2 ++ []
def dkwX7_bridgeLine_1 : List UInt8 := [182, 0, 204, 79, 42, 180, 0, 37, 27, 4, 96, 42, 20, 0, 207, 3, 16, 9, 182, 0, 204, 79, 42, 6]
abbrev dktX7_bridgeLine_1 : List UInt8 := dkwX7_bridgeLine_1 ++ dktX7_bridgeLine_2
def dkwX7_bridgeLine_0 : List UInt8 := [5, 16, 12, 42, 6, 182, 0, 198, 96, 104, 60, 42, 180, 0, 37, 27, 42, 20, 0, 202, 4, 17, 1, 44]
abbrev dktX7_bridgeLine_0 : List UInt8 := dkwX7_bridgeLine_0 ++ dktX7_bridgeLine_1
theorem dksX7_bridgeLine_0 : cX7_bridgeLine.data.toList.drop 0 = dktX7_bridgeLine_0 := by decide +kernel
theorem dksX7_bridgeLine_1 : cX7_bridgeLine.data.toList.drop 24 = dktX7_bridgeLine_1 := dk_seg dksX7_bridgeLine_0 24 rfl rfl
theorem dksX7_bridgeLine_2 : cX7_bridgeLine.data.toList.drop 48 = dktX7_bridgeLine_2 := dk_seg dksX7_bridgeLine_1 24 rfl rfl
theorem dX7_bridgeLine_0 : decode cX7_bridgeLine 0 = .ok (.iconst 2, 1) := dk_5 (dk_at dksX7_bridgeLine_0 0 rfl rfl)
theorem dX7_bridgeLine_1 : decode cX7_bridgeLine 1 = .ok (.bipush 12, 2) := dk_16 12 (dk_at dksX7_bridgeLine_0 1 rfl rfl)
theorem dX7_bridgeLine_3 : decode cX7_bridgeLine 3 = .ok (.aload_n 0, 1) := dk_42 (dk_at dksX7_bridgeLine_0 3 rfl rfl)
theorem dX7_bridgeLine_4 : decode cX7_bridgeLine 4 = .ok (.iconst 3, 1) := dk_6 (dk_at dksX7_bridgeLine_0 4 rfl rfl)
theorem dX7_bridgeLine_5 : decode cX7_bridgeLine 5 = .ok (.invokevirtual 198, 3) := dk_182 0 198 (dk_at dksX7_bridgeLine_0 5 rfl rfl)
theorem dX7_bridgeLine_8 : decode cX7_bridgeLine 8 = .ok (.iadd, 1) := dk_96 (dk_at dksX7_bridgeLine_0 8 rfl rfl)
theorem dX7_bridgeLine_9 : decode cX7_bridgeLine 9 = .ok (.imul, 1) := dk_104 (dk_at dksX7_bridgeLine_0 9 rfl rfl)
theorem dX7_bridgeLine_10 : decode cX7_bridgeLine 10 = .ok (.istore_n 1, 1) := dk_60 (dk_at dksX7_bridgeLine_0 10 rfl rfl)
theorem dX7_bridgeLine_11 : decode cX7_bridgeLine 11 = .ok (.aload_n 0, 1) := dk_42 (dk_at dksX7_bridgeLine_0 11 rfl rfl)
theorem dX7_bridgeLine_12 : decode cX7_bridgeLine 12 = .ok (.getfield 37, 3) := dk_180 0 37 (dk_at dksX7_bridgeLine_0 12 rfl rfl)
theorem dX7_bridgeLine_15 : decode cX7_bridgeLine 15 = .ok (.iload_n 1, 1) := dk_27 (dk_at dksX7_bridgeLine_0 15 rfl rfl)
theorem dX7_bridgeLine_16 : decode cX7_bridgeLine 16 = .ok (.aload_n 0, 1) := dk_42 (dk_at dksX7_bridgeLine_0 16 rfl rfl)
theorem dX7_bridgeLine_17 : decode cX7_bridgeLine 17 = .ok (.ldc2_w 202, 3) := dk_20 0 202 (dk_at dksX7_bridgeLine_0 17 rfl rfl)
theorem dX7_bridgeLine_20 : decode cX7_bridgeLine 20 = .ok (.iconst 1, 1) := dk_4 (dk_at dksX7_bridgeLine_0 20 rfl rfl)
theorem dX7_bridgeLine_21 : decode cX7_bridgeLine 21 = .ok (.sipush 300, 3) := dk_17 1 44 (dk_at dksX7_bridgeLine_0 21 rfl rfl)
theorem dX7_bridgeLine_24 : decode cX7_bridgeLine 24 = .ok (.invokevirtual 204, 3) := dk_182 0 204 (dk_at dksX7_bridgeLine_1 0 rfl rfl)
theorem dX7_bridgeLine_27 : decode cX7_bridgeLine 27 = .ok (.iastore, 1) := dk_79 (dk_at dksX7_bridgeLine_1 3 rfl rfl)
theorem dX7_bridgeLine_28 : decode cX7_bridgeLine 28 = .ok (.aload_n 0, 1) := dk_42 (dk_at dksX7_bridgeLine_1 4 rfl rfl)
theorem dX7_bridgeLine_29 : decode cX7_bridgeLine 29 = .ok (.getfield 37, 3) := dk_180 0 37 (dk_at dksX7_bridgeLine_1 5 rfl rfl)
theorem dX7_bridgeLine_32 : decode cX7_bridgeLine 32 = .ok (.iload_n 1, 1) := dk_27 (dk_at dksX7_bridgeLine_1 8 rfl rfl)
theorem dX7_bridgeLine_33 : decode cX7_bridgeLine 33 = .ok (.iconst 1, 1) := dk_4 (dk_at dksX7_bridgeLine_1 9 rfl rfl)
theorem dX7_bridgeLine_34 : decode cX7_bridgeLine 34 = .ok (.iadd, 1) := dk_96 (dk_at dksX7_bridgeLine_1 10 rfl rfl)
theorem dX7_bridgeLine_35 : decode cX7_bridgeLine 35 = .ok (.aload_n 0, 1) := dk_42 (dk_at dksX7_bridgeLine_1 11 rfl rfl)
theorem dX7_bridgeLine_36 : decode cX7_bridgeLine 36 = .ok (.ldc2_w 207, 3) := dk_20 0 207 (dk_at dksX7_bridgeLine_1 12 rfl rfl)
theorem dX7_bridgeLine_39 : decode cX7_bridgeLine 39 = .ok (.iconst 0, 1) := dk_3 (dk_at dksX7_bridgeLine_1 15 rfl rfl)
theorem dX7_bridgeLine_40 : decode cX7_bridgeLine 40 = .ok (.bipush 9, 2) := dk_16 9 (dk_at dksX7_bridgeLine_1 16 rfl rfl)
theorem dX7_bridgeLine_42 : decode cX7_bridgeLine 42 = .ok (.invokevirtual 204, 3) := dk_182 0 204 (dk_at dksX7_bridgeLine_1 18 rfl rfl)
theorem dX7_bridgeLine_45 : decode cX7_bridgeLine 45 = .ok (.iastore, 1) := dk_79 (dk_at dksX7_bridgeLine_1 21 rfl rfl)
theorem dX7_bridgeLine_46 : decode cX7_bridgeLine 46 = .ok (.aload_n 0, 1) := dk_42 (dk_at dksX7_bridgeLine_1 22 rfl rfl)
theorem dX7_bridgeLine_47 : decode cX7_bridgeLine 47 = .ok (.iconst 3, 1) := dk_6 (dk_at dksX7_bridgeLine_1 23 rfl rfl)
theorem dX7_bridgeLine_48 : decode cX7_bridgeLine 48 = .ok (.aload_n 0, 1) := dk_42 (dk_at dksX7_bridgeLine_2 0 rfl rfl)
theorem dX7_bridgeLine_49 : decode cX7_bridgeLine 49 = .ok (.iconst 3, 1) := dk_6 (dk_at dksX7_bridgeLine_2 1 rfl rfl)
theorem dX7_bridgeLine_50 : decode cX7_bridgeLine 50 = .ok (.invokevirtual 198, 3) := dk_182 0 198 (dk_at dksX7_bridgeLine_2 2 rfl rfl)
theorem dX7_bridgeLine_53 : decode cX7_bridgeLine 53 = .ok (.iconst 1, 1) := dk_4 (dk_at dksX7_bridgeLine_2 5 rfl rfl)
theorem dX7_bridgeLine_54 : decode cX7_bridgeLine 54 = .ok (.iadd, 1) := dk_96 (dk_at dksX7_bridgeLine_2 6 rfl rfl)
theorem dX7_bridgeLine_55 : decode cX7_bridgeLine 55 = .ok (.invokevirtual 209, 3) := dk_182 0 209 (dk_at dksX7_bridgeLine_2 7 rfl rfl)
theorem dX7_bridgeLine_58 : decode cX7_bridgeLine 58 = .ok (.return_, 1) := dk_177 (dk_at dksX7_bridgeLine_2 10 rfl rfl)
abbrev cX7_cartLine : ByteArray := prog_12_method_29_code
def yX7_cartLine : MethodName := ⟨RX7, "cartLine", "()V"⟩
def dkwX7_cartLine_2 : List UInt8 := [182, 0, 198, 4, 96, 182, 0, 209, 177]
abbrev dktX7_cartLine_2 : List UInt8 := dkwX7_cartLine_2 ++ []
def dkwX7_cartLine_1 : List UInt8 := [42, 20, 0, 213, 182, 0, 187, 42, 180, 0, 40, 27, 4, 96, 42, 182, 0, 215, 79, 42, 7, 42, 7]
abbrev dktX7_cartLine_1 : List UInt8 := dkwX7_cartLine_1 ++ dktX7_cartLine_2
def dkwX7_cartLine_0 : List UInt8 := [5, 16, 28, 42, 7, 182, 0, 198, 96, 104, 60, 42, 180, 0, 40, 27, 42, 4, 16, 99, 182, 0, 191, 79]
abbrev dktX7_cartLine_0 : List UInt8 := dkwX7_cartLine_0 ++ dktX7_cartLine_1
theorem dksX7_cartLine_0 : cX7_cartLine.data.toList.drop 0 = dktX7_cartLine_0 := by decide +kernel
theorem dksX7_cartLine_1 : cX7_cartLine.data.toList.drop 24 = dktX7_cartLine_1 := dk_seg dksX7_cartLine_0 24 rfl rfl
theorem dksX7_cartLine_2 : cX7_cartLine.data.toList.drop 47 = dktX7_cartLine_2 := dk_seg dksX7_cartLine_1 23 rfl rfl
theorem dX7_cartLine_0 : decode cX7_cartLine 0 = .ok (.iconst 2, 1) := dk_5 (dk_at dksX7_cartLine_0 0 rfl rfl)
theorem dX7_cartLine_1 : decode cX7_cartLine 1 = .ok (.bipush 28, 2) := dk_16 28 (dk_at dksX7_cartLine_0 1 rfl rfl)
theorem dX7_cartLine_3 : decode cX7_cartLine 3 = .ok (.aload_n 0, 1) := dk_42 (dk_at dksX7_cartLine_0 3 rfl rfl)
theorem dX7_cartLine_4 : decode cX7_cartLine 4 = .ok (.iconst 4, 1) := dk_7 (dk_at dksX7_cartLine_0 4 rfl rfl)
theorem dX7_cartLine_5 : decode cX7_cartLine 5 = .ok (.invokevirtual 198, 3) := dk_182 0 198 (dk_at dksX7_cartLine_0 5 rfl rfl)
theorem dX7_cartLine_8 : decode cX7_cartLine 8 = .ok (.iadd, 1) := dk_96 (dk_at dksX7_cartLine_0 8 rfl rfl)
theorem dX7_cartLine_9 : decode cX7_cartLine 9 = .ok (.imul, 1) := dk_104 (dk_at dksX7_cartLine_0 9 rfl rfl)
theorem dX7_cartLine_10 : decode cX7_cartLine 10 = .ok (.istore_n 1, 1) := dk_60 (dk_at dksX7_cartLine_0 10 rfl rfl)
theorem dX7_cartLine_11 : decode cX7_cartLine 11 = .ok (.aload_n 0, 1) := dk_42 (dk_at dksX7_cartLine_0 11 rfl rfl)
theorem dX7_cartLine_12 : decode cX7_cartLine 12 = .ok (.getfield 40, 3) := dk_180 0 40 (dk_at dksX7_cartLine_0 12 rfl rfl)
theorem dX7_cartLine_15 : decode cX7_cartLine 15 = .ok (.iload_n 1, 1) := dk_27 (dk_at dksX7_cartLine_0 15 rfl rfl)
theorem dX7_cartLine_16 : decode cX7_cartLine 16 = .ok (.aload_n 0, 1) := dk_42 (dk_at dksX7_cartLine_0 16 rfl rfl)
theorem dX7_cartLine_17 : decode cX7_cartLine 17 = .ok (.iconst 1, 1) := dk_4 (dk_at dksX7_cartLine_0 17 rfl rfl)
theorem dX7_cartLine_18 : decode cX7_cartLine 18 = .ok (.bipush 99, 2) := dk_16 99 (dk_at dksX7_cartLine_0 18 rfl rfl)
theorem dX7_cartLine_20 : decode cX7_cartLine 20 = .ok (.invokevirtual 191, 3) := dk_182 0 191 (dk_at dksX7_cartLine_0 20 rfl rfl)
theorem dX7_cartLine_23 : decode cX7_cartLine 23 = .ok (.iastore, 1) := dk_79 (dk_at dksX7_cartLine_0 23 rfl rfl)
theorem dX7_cartLine_24 : decode cX7_cartLine 24 = .ok (.aload_n 0, 1) := dk_42 (dk_at dksX7_cartLine_1 0 rfl rfl)
theorem dX7_cartLine_25 : decode cX7_cartLine 25 = .ok (.ldc2_w 213, 3) := dk_20 0 213 (dk_at dksX7_cartLine_1 1 rfl rfl)
theorem dX7_cartLine_28 : decode cX7_cartLine 28 = .ok (.invokevirtual 187, 3) := dk_182 0 187 (dk_at dksX7_cartLine_1 4 rfl rfl)
theorem dX7_cartLine_31 : decode cX7_cartLine 31 = .ok (.aload_n 0, 1) := dk_42 (dk_at dksX7_cartLine_1 7 rfl rfl)
theorem dX7_cartLine_32 : decode cX7_cartLine 32 = .ok (.getfield 40, 3) := dk_180 0 40 (dk_at dksX7_cartLine_1 8 rfl rfl)
theorem dX7_cartLine_35 : decode cX7_cartLine 35 = .ok (.iload_n 1, 1) := dk_27 (dk_at dksX7_cartLine_1 11 rfl rfl)
theorem dX7_cartLine_36 : decode cX7_cartLine 36 = .ok (.iconst 1, 1) := dk_4 (dk_at dksX7_cartLine_1 12 rfl rfl)
theorem dX7_cartLine_37 : decode cX7_cartLine 37 = .ok (.iadd, 1) := dk_96 (dk_at dksX7_cartLine_1 13 rfl rfl)
theorem dX7_cartLine_38 : decode cX7_cartLine 38 = .ok (.aload_n 0, 1) := dk_42 (dk_at dksX7_cartLine_1 14 rfl rfl)
theorem dX7_cartLine_39 : decode cX7_cartLine 39 = .ok (.invokevirtual 215, 3) := dk_182 0 215 (dk_at dksX7_cartLine_1 15 rfl rfl)
theorem dX7_cartLine_42 : decode cX7_cartLine 42 = .ok (.iastore, 1) := dk_79 (dk_at dksX7_cartLine_1 18 rfl rfl)
theorem dX7_cartLine_43 : decode cX7_cartLine 43 = .ok (.aload_n 0, 1) := dk_42 (dk_at dksX7_cartLine_1 19 rfl rfl)
theorem dX7_cartLine_44 : decode cX7_cartLine 44 = .ok (.iconst 4, 1) := dk_7 (dk_at dksX7_cartLine_1 20 rfl rfl)
theorem dX7_cartLine_45 : decode cX7_cartLine 45 = .ok (.aload_n 0, 1) := dk_42 (dk_at dksX7_cartLine_1 21 rfl rfl)
theorem dX7_cartLine_46 : decode cX7_cartLine 46 = .ok (.iconst 4, 1) := dk_7 (dk_at dksX7_cartLine_1 22 rfl rfl)
theorem dX7_cartLine_47 : decode cX7_cartLine 47 = .ok (.invokevirtual 198, 3) := dk_182 0 198 (dk_at dksX7_cartLine_2 0 rfl rfl)
theorem dX7_cartLine_50 : decode cX7_cartLine 50 = .ok (.iconst 1, 1) := dk_4 (dk_at dksX7_cartLine_2 3 rfl rfl)
theorem dX7_cartLine_51 : decode cX7_cartLine 51 = .ok (.iadd, 1) := dk_96 (dk_at dksX7_cartLine_2 4 rfl rfl)
theorem dX7_cartLine_52 : decode cX7_cartLine 52 = .ok (.invokevirtual 209, 3) := dk_182 0 209 (dk_at dksX7_cartLine_2 5 rfl rfl)
theorem dX7_cartLine_55 : decode cX7_cartLine 55 = .ok (.return_, 1) := dk_177 (dk_at dksX7_cartLine_2 8 rfl rfl)
abbrev cX7_bridgeHere : ByteArray := prog_12_method_27_code
def yX7_bridgeHere : MethodName := ⟨RX7, "bridgeHere", "()I"⟩
def dkwX7_bridgeHere_0 : List UInt8 := [42, 3, 42, 6, 182, 0, 198, 4, 100, 182, 0, 191, 172]
abbrev dktX7_bridgeHere_0 : List UInt8 := dkwX7_bridgeHere_0 ++ []
theorem dksX7_bridgeHere_0 : cX7_bridgeHere.data.toList.drop 0 = dktX7_bridgeHere_0 := by decide +kernel
theorem dX7_bridgeHere_0 : decode cX7_bridgeHere 0 = .ok (.aload_n 0, 1) := dk_42 (dk_at dksX7_bridgeHere_0 0 rfl rfl)
theorem dX7_bridgeHere_1 : decode cX7_bridgeHere 1 = .ok (.iconst 0, 1) := dk_3 (dk_at dksX7_bridgeHere_0 1 rfl rfl)
theorem dX7_bridgeHere_2 : decode cX7_bridgeHere 2 = .ok (.aload_n 0, 1) := dk_42 (dk_at dksX7_bridgeHere_0 2 rfl rfl)
theorem dX7_bridgeHere_3 : decode cX7_bridgeHere 3 = .ok (.iconst 3, 1) := dk_6 (dk_at dksX7_bridgeHere_0 3 rfl rfl)
theorem dX7_bridgeHere_4 : decode cX7_bridgeHere 4 = .ok (.invokevirtual 198, 3) := dk_182 0 198 (dk_at dksX7_bridgeHere_0 4 rfl rfl)
theorem dX7_bridgeHere_7 : decode cX7_bridgeHere 7 = .ok (.iconst 1, 1) := dk_4 (dk_at dksX7_bridgeHere_0 7 rfl rfl)
theorem dX7_bridgeHere_8 : decode cX7_bridgeHere 8 = .ok (.isub, 1) := dk_100 (dk_at dksX7_bridgeHere_0 8 rfl rfl)
theorem dX7_bridgeHere_9 : decode cX7_bridgeHere 9 = .ok (.invokevirtual 191, 3) := dk_182 0 191 (dk_at dksX7_bridgeHere_0 9 rfl rfl)
theorem dX7_bridgeHere_12 : decode cX7_bridgeHere 12 = .ok (.ireturn, 1) := dk_172 (dk_at dksX7_bridgeHere_0 12 rfl rfl)
abbrev cX7_wardLine : ByteArray := prog_12_method_30_code
def yX7_wardLine : MethodName := ⟨RX7, "wardLine", "()V"⟩
def dkwX7_wardLine_5 : List UInt8 := [182, 0, 215, 79, 42, 8, 42, 8, 182, 0, 198, 4, 96, 182, 0, 209, 177]
abbrev dktX7_wardLine_5 : List UInt8 := dkwX7_wardLine_5 ++ []
def dkwX7_wardLine_4 : List UInt8 := [42, 180, 0, 43, 27, 46, 160, 0, 8, 42, 5, 182, 0, 184, 42, 180, 0, 43, 27, 5, 96, 42]
abbrev dktX7_wardLine_4 : List UInt8 := dkwX7_wardLine_4 ++ dktX7_wardLine_5
def dkwX7_wardLine_3 : List UInt8 := [2, 79, 167, 0, 48, 42, 180, 0, 168, 154, 0, 29, 42, 180, 0, 157, 5, 160, 0, 21, 42, 180, 0, 150]
abbrev dktX7_wardLine_3 : List UInt8 := dkwX7_wardLine_3 ++ dktX7_wardLine_4
def dkwX7_wardLine_2 : List UInt8 := [42, 180, 0, 168, 154, 0, 25, 42, 20, 0, 223, 182, 0, 181, 153, 0, 15, 42, 180, 0, 43, 27, 5, 96]
abbrev dktX7_wardLine_2 : List UInt8 := dkwX7_wardLine_2 ++ dktX7_wardLine_3
def dkwX7_wardLine_1 : List UInt8 := [180, 0, 43, 27, 4, 96, 42, 20, 0, 219, 3, 16, 99, 182, 0, 204, 79, 42, 20, 0, 221, 182, 0, 187]
abbrev dktX7_wardLine_1 : List UInt8 := dkwX7_wardLine_1 ++ dktX7_wardLine_2
def dkwX7_wardLine_0 : List UInt8 := [6, 16, 20, 42, 8, 182, 0, 198, 96, 104, 60, 42, 180, 0, 43, 27, 42, 182, 0, 215, 79, 42]
abbrev dktX7_wardLine_0 : List UInt8 := dkwX7_wardLine_0 ++ dktX7_wardLine_1
theorem dksX7_wardLine_0 : cX7_wardLine.data.toList.drop 0 = dktX7_wardLine_0 := by decide +kernel
theorem dksX7_wardLine_1 : cX7_wardLine.data.toList.drop 22 = dktX7_wardLine_1 := dk_seg dksX7_wardLine_0 22 rfl rfl
theorem dksX7_wardLine_2 : cX7_wardLine.data.toList.drop 46 = dktX7_wardLine_2 := dk_seg dksX7_wardLine_1 24 rfl rfl
theorem dksX7_wardLine_3 : cX7_wardLine.data.toList.drop 70 = dktX7_wardLine_3 := dk_seg dksX7_wardLine_2 24 rfl rfl
theorem dksX7_wardLine_4 : cX7_wardLine.data.toList.drop 94 = dktX7_wardLine_4 := dk_seg dksX7_wardLine_3 24 rfl rfl
theorem dksX7_wardLine_5 : cX7_wardLine.data.toList.drop 116 = dktX7_wardLine_5 := dk_seg dksX7_wardLine_4 22 rfl rfl
theorem dX7_wardLine_0 : decode cX7_wardLine 0 = .ok (.iconst 3, 1) := dk_6 (dk_at dksX7_wardLine_0 0 rfl rfl)
theorem dX7_wardLine_1 : decode cX7_wardLine 1 = .ok (.bipush 20, 2) := dk_16 20 (dk_at dksX7_wardLine_0 1 rfl rfl)
theorem dX7_wardLine_3 : decode cX7_wardLine 3 = .ok (.aload_n 0, 1) := dk_42 (dk_at dksX7_wardLine_0 3 rfl rfl)
theorem dX7_wardLine_4 : decode cX7_wardLine 4 = .ok (.iconst 5, 1) := dk_8 (dk_at dksX7_wardLine_0 4 rfl rfl)
theorem dX7_wardLine_5 : decode cX7_wardLine 5 = .ok (.invokevirtual 198, 3) := dk_182 0 198 (dk_at dksX7_wardLine_0 5 rfl rfl)
theorem dX7_wardLine_8 : decode cX7_wardLine 8 = .ok (.iadd, 1) := dk_96 (dk_at dksX7_wardLine_0 8 rfl rfl)
theorem dX7_wardLine_9 : decode cX7_wardLine 9 = .ok (.imul, 1) := dk_104 (dk_at dksX7_wardLine_0 9 rfl rfl)
theorem dX7_wardLine_10 : decode cX7_wardLine 10 = .ok (.istore_n 1, 1) := dk_60 (dk_at dksX7_wardLine_0 10 rfl rfl)
theorem dX7_wardLine_11 : decode cX7_wardLine 11 = .ok (.aload_n 0, 1) := dk_42 (dk_at dksX7_wardLine_0 11 rfl rfl)
theorem dX7_wardLine_12 : decode cX7_wardLine 12 = .ok (.getfield 43, 3) := dk_180 0 43 (dk_at dksX7_wardLine_0 12 rfl rfl)
theorem dX7_wardLine_15 : decode cX7_wardLine 15 = .ok (.iload_n 1, 1) := dk_27 (dk_at dksX7_wardLine_0 15 rfl rfl)
theorem dX7_wardLine_16 : decode cX7_wardLine 16 = .ok (.aload_n 0, 1) := dk_42 (dk_at dksX7_wardLine_0 16 rfl rfl)
theorem dX7_wardLine_17 : decode cX7_wardLine 17 = .ok (.invokevirtual 215, 3) := dk_182 0 215 (dk_at dksX7_wardLine_0 17 rfl rfl)
theorem dX7_wardLine_20 : decode cX7_wardLine 20 = .ok (.iastore, 1) := dk_79 (dk_at dksX7_wardLine_0 20 rfl rfl)
theorem dX7_wardLine_21 : decode cX7_wardLine 21 = .ok (.aload_n 0, 1) := dk_42 (dk_at dksX7_wardLine_0 21 rfl rfl)
theorem dX7_wardLine_22 : decode cX7_wardLine 22 = .ok (.getfield 43, 3) := dk_180 0 43 (dk_at dksX7_wardLine_1 0 rfl rfl)
theorem dX7_wardLine_25 : decode cX7_wardLine 25 = .ok (.iload_n 1, 1) := dk_27 (dk_at dksX7_wardLine_1 3 rfl rfl)
theorem dX7_wardLine_26 : decode cX7_wardLine 26 = .ok (.iconst 1, 1) := dk_4 (dk_at dksX7_wardLine_1 4 rfl rfl)
theorem dX7_wardLine_27 : decode cX7_wardLine 27 = .ok (.iadd, 1) := dk_96 (dk_at dksX7_wardLine_1 5 rfl rfl)
theorem dX7_wardLine_28 : decode cX7_wardLine 28 = .ok (.aload_n 0, 1) := dk_42 (dk_at dksX7_wardLine_1 6 rfl rfl)
theorem dX7_wardLine_29 : decode cX7_wardLine 29 = .ok (.ldc2_w 219, 3) := dk_20 0 219 (dk_at dksX7_wardLine_1 7 rfl rfl)
theorem dX7_wardLine_32 : decode cX7_wardLine 32 = .ok (.iconst 0, 1) := dk_3 (dk_at dksX7_wardLine_1 10 rfl rfl)
theorem dX7_wardLine_33 : decode cX7_wardLine 33 = .ok (.bipush 99, 2) := dk_16 99 (dk_at dksX7_wardLine_1 11 rfl rfl)
theorem dX7_wardLine_35 : decode cX7_wardLine 35 = .ok (.invokevirtual 204, 3) := dk_182 0 204 (dk_at dksX7_wardLine_1 13 rfl rfl)
theorem dX7_wardLine_38 : decode cX7_wardLine 38 = .ok (.iastore, 1) := dk_79 (dk_at dksX7_wardLine_1 16 rfl rfl)
theorem dX7_wardLine_39 : decode cX7_wardLine 39 = .ok (.aload_n 0, 1) := dk_42 (dk_at dksX7_wardLine_1 17 rfl rfl)
theorem dX7_wardLine_40 : decode cX7_wardLine 40 = .ok (.ldc2_w 221, 3) := dk_20 0 221 (dk_at dksX7_wardLine_1 18 rfl rfl)
theorem dX7_wardLine_43 : decode cX7_wardLine 43 = .ok (.invokevirtual 187, 3) := dk_182 0 187 (dk_at dksX7_wardLine_1 21 rfl rfl)
theorem dX7_wardLine_46 : decode cX7_wardLine 46 = .ok (.aload_n 0, 1) := dk_42 (dk_at dksX7_wardLine_2 0 rfl rfl)
theorem dX7_wardLine_47 : decode cX7_wardLine 47 = .ok (.getfield 168, 3) := dk_180 0 168 (dk_at dksX7_wardLine_2 1 rfl rfl)
theorem dX7_wardLine_50 : decode cX7_wardLine 50 = .ok (.ifCond .ne 25, 3) := dk_154 0 25 (dk_at dksX7_wardLine_2 4 rfl rfl)
theorem dX7_wardLine_53 : decode cX7_wardLine 53 = .ok (.aload_n 0, 1) := dk_42 (dk_at dksX7_wardLine_2 7 rfl rfl)
theorem dX7_wardLine_54 : decode cX7_wardLine 54 = .ok (.ldc2_w 223, 3) := dk_20 0 223 (dk_at dksX7_wardLine_2 8 rfl rfl)
theorem dX7_wardLine_57 : decode cX7_wardLine 57 = .ok (.invokevirtual 181, 3) := dk_182 0 181 (dk_at dksX7_wardLine_2 11 rfl rfl)
theorem dX7_wardLine_60 : decode cX7_wardLine 60 = .ok (.ifCond .eq 15, 3) := dk_153 0 15 (dk_at dksX7_wardLine_2 14 rfl rfl)
theorem dX7_wardLine_63 : decode cX7_wardLine 63 = .ok (.aload_n 0, 1) := dk_42 (dk_at dksX7_wardLine_2 17 rfl rfl)
theorem dX7_wardLine_64 : decode cX7_wardLine 64 = .ok (.getfield 43, 3) := dk_180 0 43 (dk_at dksX7_wardLine_2 18 rfl rfl)
theorem dX7_wardLine_67 : decode cX7_wardLine 67 = .ok (.iload_n 1, 1) := dk_27 (dk_at dksX7_wardLine_2 21 rfl rfl)
theorem dX7_wardLine_68 : decode cX7_wardLine 68 = .ok (.iconst 2, 1) := dk_5 (dk_at dksX7_wardLine_2 22 rfl rfl)
theorem dX7_wardLine_69 : decode cX7_wardLine 69 = .ok (.iadd, 1) := dk_96 (dk_at dksX7_wardLine_2 23 rfl rfl)
theorem dX7_wardLine_70 : decode cX7_wardLine 70 = .ok (.iconst (-1), 1) := dk_2 (dk_at dksX7_wardLine_3 0 rfl rfl)
theorem dX7_wardLine_71 : decode cX7_wardLine 71 = .ok (.iastore, 1) := dk_79 (dk_at dksX7_wardLine_3 1 rfl rfl)
theorem dX7_wardLine_72 : decode cX7_wardLine 72 = .ok (.goto 48, 3) := dk_167 0 48 (dk_at dksX7_wardLine_3 2 rfl rfl)
theorem dX7_wardLine_75 : decode cX7_wardLine 75 = .ok (.aload_n 0, 1) := dk_42 (dk_at dksX7_wardLine_3 5 rfl rfl)
theorem dX7_wardLine_76 : decode cX7_wardLine 76 = .ok (.getfield 168, 3) := dk_180 0 168 (dk_at dksX7_wardLine_3 6 rfl rfl)
theorem dX7_wardLine_79 : decode cX7_wardLine 79 = .ok (.ifCond .ne 29, 3) := dk_154 0 29 (dk_at dksX7_wardLine_3 9 rfl rfl)
theorem dX7_wardLine_82 : decode cX7_wardLine 82 = .ok (.aload_n 0, 1) := dk_42 (dk_at dksX7_wardLine_3 12 rfl rfl)
theorem dX7_wardLine_83 : decode cX7_wardLine 83 = .ok (.getfield 157, 3) := dk_180 0 157 (dk_at dksX7_wardLine_3 13 rfl rfl)
theorem dX7_wardLine_86 : decode cX7_wardLine 86 = .ok (.iconst 2, 1) := dk_5 (dk_at dksX7_wardLine_3 16 rfl rfl)
theorem dX7_wardLine_87 : decode cX7_wardLine 87 = .ok (.if_icmp .ne 21, 3) := dk_160 0 21 (dk_at dksX7_wardLine_3 17 rfl rfl)
theorem dX7_wardLine_90 : decode cX7_wardLine 90 = .ok (.aload_n 0, 1) := dk_42 (dk_at dksX7_wardLine_3 20 rfl rfl)
theorem dX7_wardLine_91 : decode cX7_wardLine 91 = .ok (.getfield 150, 3) := dk_180 0 150 (dk_at dksX7_wardLine_3 21 rfl rfl)
theorem dX7_wardLine_94 : decode cX7_wardLine 94 = .ok (.aload_n 0, 1) := dk_42 (dk_at dksX7_wardLine_4 0 rfl rfl)
theorem dX7_wardLine_95 : decode cX7_wardLine 95 = .ok (.getfield 43, 3) := dk_180 0 43 (dk_at dksX7_wardLine_4 1 rfl rfl)
theorem dX7_wardLine_98 : decode cX7_wardLine 98 = .ok (.iload_n 1, 1) := dk_27 (dk_at dksX7_wardLine_4 4 rfl rfl)
theorem dX7_wardLine_99 : decode cX7_wardLine 99 = .ok (.iaload, 1) := dk_46 (dk_at dksX7_wardLine_4 5 rfl rfl)
theorem dX7_wardLine_100 : decode cX7_wardLine 100 = .ok (.if_icmp .ne 8, 3) := dk_160 0 8 (dk_at dksX7_wardLine_4 6 rfl rfl)
theorem dX7_wardLine_103 : decode cX7_wardLine 103 = .ok (.aload_n 0, 1) := dk_42 (dk_at dksX7_wardLine_4 9 rfl rfl)
theorem dX7_wardLine_104 : decode cX7_wardLine 104 = .ok (.iconst 2, 1) := dk_5 (dk_at dksX7_wardLine_4 10 rfl rfl)
theorem dX7_wardLine_105 : decode cX7_wardLine 105 = .ok (.invokevirtual 184, 3) := dk_182 0 184 (dk_at dksX7_wardLine_4 11 rfl rfl)
theorem dX7_wardLine_108 : decode cX7_wardLine 108 = .ok (.aload_n 0, 1) := dk_42 (dk_at dksX7_wardLine_4 14 rfl rfl)
theorem dX7_wardLine_109 : decode cX7_wardLine 109 = .ok (.getfield 43, 3) := dk_180 0 43 (dk_at dksX7_wardLine_4 15 rfl rfl)
theorem dX7_wardLine_112 : decode cX7_wardLine 112 = .ok (.iload_n 1, 1) := dk_27 (dk_at dksX7_wardLine_4 18 rfl rfl)
theorem dX7_wardLine_113 : decode cX7_wardLine 113 = .ok (.iconst 2, 1) := dk_5 (dk_at dksX7_wardLine_4 19 rfl rfl)
theorem dX7_wardLine_114 : decode cX7_wardLine 114 = .ok (.iadd, 1) := dk_96 (dk_at dksX7_wardLine_4 20 rfl rfl)
theorem dX7_wardLine_115 : decode cX7_wardLine 115 = .ok (.aload_n 0, 1) := dk_42 (dk_at dksX7_wardLine_4 21 rfl rfl)
theorem dX7_wardLine_116 : decode cX7_wardLine 116 = .ok (.invokevirtual 215, 3) := dk_182 0 215 (dk_at dksX7_wardLine_5 0 rfl rfl)
theorem dX7_wardLine_119 : decode cX7_wardLine 119 = .ok (.iastore, 1) := dk_79 (dk_at dksX7_wardLine_5 3 rfl rfl)
theorem dX7_wardLine_120 : decode cX7_wardLine 120 = .ok (.aload_n 0, 1) := dk_42 (dk_at dksX7_wardLine_5 4 rfl rfl)
theorem dX7_wardLine_121 : decode cX7_wardLine 121 = .ok (.iconst 5, 1) := dk_8 (dk_at dksX7_wardLine_5 5 rfl rfl)
theorem dX7_wardLine_122 : decode cX7_wardLine 122 = .ok (.aload_n 0, 1) := dk_42 (dk_at dksX7_wardLine_5 6 rfl rfl)
theorem dX7_wardLine_123 : decode cX7_wardLine 123 = .ok (.iconst 5, 1) := dk_8 (dk_at dksX7_wardLine_5 7 rfl rfl)
theorem dX7_wardLine_124 : decode cX7_wardLine 124 = .ok (.invokevirtual 198, 3) := dk_182 0 198 (dk_at dksX7_wardLine_5 8 rfl rfl)
theorem dX7_wardLine_127 : decode cX7_wardLine 127 = .ok (.iconst 1, 1) := dk_4 (dk_at dksX7_wardLine_5 11 rfl rfl)
theorem dX7_wardLine_128 : decode cX7_wardLine 128 = .ok (.iadd, 1) := dk_96 (dk_at dksX7_wardLine_5 12 rfl rfl)
theorem dX7_wardLine_129 : decode cX7_wardLine 129 = .ok (.invokevirtual 209, 3) := dk_182 0 209 (dk_at dksX7_wardLine_5 13 rfl rfl)
theorem dX7_wardLine_132 : decode cX7_wardLine 132 = .ok (.return_, 1) := dk_177 (dk_at dksX7_wardLine_5 16 rfl rfl)
abbrev cX7_frostLine : ByteArray := prog_12_method_31_code
def yX7_frostLine : MethodName := ⟨RX7, "frostLine", "()V"⟩
def dkwX7_frostLine_1 : List UInt8 := [42, 16, 6, 42, 16, 6, 182, 0, 198, 4, 96, 182, 0, 209, 177]
abbrev dktX7_frostLine_1 : List UInt8 := dkwX7_frostLine_1 ++ []
def dkwX7_frostLine_0 : List UInt8 := [42, 180, 0, 46, 16, 16, 42, 16, 6, 182, 0, 198, 96, 42, 20, 0, 225, 3, 16, 6, 182, 0, 204, 79]
abbrev dktX7_frostLine_0 : List UInt8 := dkwX7_frostLine_0 ++ dktX7_frostLine_1
theorem dksX7_frostLine_0 : cX7_frostLine.data.toList.drop 0 = dktX7_frostLine_0 := by decide +kernel
theorem dksX7_frostLine_1 : cX7_frostLine.data.toList.drop 24 = dktX7_frostLine_1 := dk_seg dksX7_frostLine_0 24 rfl rfl
theorem dX7_frostLine_0 : decode cX7_frostLine 0 = .ok (.aload_n 0, 1) := dk_42 (dk_at dksX7_frostLine_0 0 rfl rfl)
theorem dX7_frostLine_1 : decode cX7_frostLine 1 = .ok (.getfield 46, 3) := dk_180 0 46 (dk_at dksX7_frostLine_0 1 rfl rfl)
theorem dX7_frostLine_4 : decode cX7_frostLine 4 = .ok (.bipush 16, 2) := dk_16 16 (dk_at dksX7_frostLine_0 4 rfl rfl)
theorem dX7_frostLine_6 : decode cX7_frostLine 6 = .ok (.aload_n 0, 1) := dk_42 (dk_at dksX7_frostLine_0 6 rfl rfl)
theorem dX7_frostLine_7 : decode cX7_frostLine 7 = .ok (.bipush 6, 2) := dk_16 6 (dk_at dksX7_frostLine_0 7 rfl rfl)
theorem dX7_frostLine_9 : decode cX7_frostLine 9 = .ok (.invokevirtual 198, 3) := dk_182 0 198 (dk_at dksX7_frostLine_0 9 rfl rfl)
theorem dX7_frostLine_12 : decode cX7_frostLine 12 = .ok (.iadd, 1) := dk_96 (dk_at dksX7_frostLine_0 12 rfl rfl)
theorem dX7_frostLine_13 : decode cX7_frostLine 13 = .ok (.aload_n 0, 1) := dk_42 (dk_at dksX7_frostLine_0 13 rfl rfl)
theorem dX7_frostLine_14 : decode cX7_frostLine 14 = .ok (.ldc2_w 225, 3) := dk_20 0 225 (dk_at dksX7_frostLine_0 14 rfl rfl)
theorem dX7_frostLine_17 : decode cX7_frostLine 17 = .ok (.iconst 0, 1) := dk_3 (dk_at dksX7_frostLine_0 17 rfl rfl)
theorem dX7_frostLine_18 : decode cX7_frostLine 18 = .ok (.bipush 6, 2) := dk_16 6 (dk_at dksX7_frostLine_0 18 rfl rfl)
theorem dX7_frostLine_20 : decode cX7_frostLine 20 = .ok (.invokevirtual 204, 3) := dk_182 0 204 (dk_at dksX7_frostLine_0 20 rfl rfl)
theorem dX7_frostLine_23 : decode cX7_frostLine 23 = .ok (.iastore, 1) := dk_79 (dk_at dksX7_frostLine_0 23 rfl rfl)
theorem dX7_frostLine_24 : decode cX7_frostLine 24 = .ok (.aload_n 0, 1) := dk_42 (dk_at dksX7_frostLine_1 0 rfl rfl)
theorem dX7_frostLine_25 : decode cX7_frostLine 25 = .ok (.bipush 6, 2) := dk_16 6 (dk_at dksX7_frostLine_1 1 rfl rfl)
theorem dX7_frostLine_27 : decode cX7_frostLine 27 = .ok (.aload_n 0, 1) := dk_42 (dk_at dksX7_frostLine_1 3 rfl rfl)
theorem dX7_frostLine_28 : decode cX7_frostLine 28 = .ok (.bipush 6, 2) := dk_16 6 (dk_at dksX7_frostLine_1 4 rfl rfl)
theorem dX7_frostLine_30 : decode cX7_frostLine 30 = .ok (.invokevirtual 198, 3) := dk_182 0 198 (dk_at dksX7_frostLine_1 6 rfl rfl)
theorem dX7_frostLine_33 : decode cX7_frostLine 33 = .ok (.iconst 1, 1) := dk_4 (dk_at dksX7_frostLine_1 9 rfl rfl)
theorem dX7_frostLine_34 : decode cX7_frostLine 34 = .ok (.iadd, 1) := dk_96 (dk_at dksX7_frostLine_1 10 rfl rfl)
theorem dX7_frostLine_35 : decode cX7_frostLine 35 = .ok (.invokevirtual 209, 3) := dk_182 0 209 (dk_at dksX7_frostLine_1 11 rfl rfl)
theorem dX7_frostLine_38 : decode cX7_frostLine 38 = .ok (.return_, 1) := dk_177 (dk_at dksX7_frostLine_1 14 rfl rfl)
abbrev cX7_ends : ByteArray := prog_12_method_21_code
def yX7_ends : MethodName := ⟨RX7, "ends", "()V"⟩
def dkwX7_ends_1 : List UInt8 := [177]
abbrev dktX7_ends_1 : List UInt8 := dkwX7_ends_1 ++ []
def dkwX7_ends_0 : List UInt8 := [42, 180, 0, 157, 6, 159, 0, 8, 42, 4, 182, 0, 184, 42, 180, 0, 168, 154, 0, 7, 42, 182, 0, 178]
abbrev dktX7_ends_0 : List UInt8 := dkwX7_ends_0 ++ dktX7_ends_1
theorem dksX7_ends_0 : cX7_ends.data.toList.drop 0 = dktX7_ends_0 := by decide +kernel
theorem dksX7_ends_1 : cX7_ends.data.toList.drop 24 = dktX7_ends_1 := dk_seg dksX7_ends_0 24 rfl rfl
theorem dX7_ends_0 : decode cX7_ends 0 = .ok (.aload_n 0, 1) := dk_42 (dk_at dksX7_ends_0 0 rfl rfl)
theorem dX7_ends_1 : decode cX7_ends 1 = .ok (.getfield 157, 3) := dk_180 0 157 (dk_at dksX7_ends_0 1 rfl rfl)
theorem dX7_ends_4 : decode cX7_ends 4 = .ok (.iconst 3, 1) := dk_6 (dk_at dksX7_ends_0 4 rfl rfl)
theorem dX7_ends_5 : decode cX7_ends 5 = .ok (.if_icmp .eq 8, 3) := dk_159 0 8 (dk_at dksX7_ends_0 5 rfl rfl)
theorem dX7_ends_8 : decode cX7_ends 8 = .ok (.aload_n 0, 1) := dk_42 (dk_at dksX7_ends_0 8 rfl rfl)
theorem dX7_ends_9 : decode cX7_ends 9 = .ok (.iconst 1, 1) := dk_4 (dk_at dksX7_ends_0 9 rfl rfl)
theorem dX7_ends_10 : decode cX7_ends 10 = .ok (.invokevirtual 184, 3) := dk_182 0 184 (dk_at dksX7_ends_0 10 rfl rfl)
theorem dX7_ends_13 : decode cX7_ends 13 = .ok (.aload_n 0, 1) := dk_42 (dk_at dksX7_ends_0 13 rfl rfl)
theorem dX7_ends_14 : decode cX7_ends 14 = .ok (.getfield 168, 3) := dk_180 0 168 (dk_at dksX7_ends_0 14 rfl rfl)
theorem dX7_ends_17 : decode cX7_ends 17 = .ok (.ifCond .ne 7, 3) := dk_154 0 7 (dk_at dksX7_ends_0 17 rfl rfl)
theorem dX7_ends_20 : decode cX7_ends 20 = .ok (.aload_n 0, 1) := dk_42 (dk_at dksX7_ends_0 20 rfl rfl)
theorem dX7_ends_21 : decode cX7_ends 21 = .ok (.invokevirtual 178, 3) := dk_182 0 178 (dk_at dksX7_ends_0 21 rfl rfl)
theorem dX7_ends_24 : decode cX7_ends 24 = .ok (.return_, 1) := dk_177 (dk_at dksX7_ends_1 0 rfl rfl)
abbrev cX7_isOver : ByteArray := prog_12_method_23_code
def yX7_isOver : MethodName := ⟨RX7, "isOver", "()V"⟩
def dkwX7_isOver_1 : List UInt8 := [167, 0, 7, 42, 180, 0, 171, 181, 0, 27, 177]
abbrev dktX7_isOver_1 : List UInt8 := dkwX7_isOver_1 ++ []
def dkwX7_isOver_0 : List UInt8 := [42, 3, 181, 0, 133, 42, 42, 180, 0, 168, 181, 0, 195, 42, 42, 180, 0, 168, 154, 0, 7, 2]
abbrev dktX7_isOver_0 : List UInt8 := dkwX7_isOver_0 ++ dktX7_isOver_1
theorem dksX7_isOver_0 : cX7_isOver.data.toList.drop 0 = dktX7_isOver_0 := by decide +kernel
theorem dksX7_isOver_1 : cX7_isOver.data.toList.drop 22 = dktX7_isOver_1 := dk_seg dksX7_isOver_0 22 rfl rfl
theorem dX7_isOver_0 : decode cX7_isOver 0 = .ok (.aload_n 0, 1) := dk_42 (dk_at dksX7_isOver_0 0 rfl rfl)
theorem dX7_isOver_1 : decode cX7_isOver 1 = .ok (.iconst 0, 1) := dk_3 (dk_at dksX7_isOver_0 1 rfl rfl)
theorem dX7_isOver_2 : decode cX7_isOver 2 = .ok (.putfield 133, 3) := dk_181 0 133 (dk_at dksX7_isOver_0 2 rfl rfl)
theorem dX7_isOver_5 : decode cX7_isOver 5 = .ok (.aload_n 0, 1) := dk_42 (dk_at dksX7_isOver_0 5 rfl rfl)
theorem dX7_isOver_6 : decode cX7_isOver 6 = .ok (.aload_n 0, 1) := dk_42 (dk_at dksX7_isOver_0 6 rfl rfl)
theorem dX7_isOver_7 : decode cX7_isOver 7 = .ok (.getfield 168, 3) := dk_180 0 168 (dk_at dksX7_isOver_0 7 rfl rfl)
theorem dX7_isOver_10 : decode cX7_isOver 10 = .ok (.putfield 195, 3) := dk_181 0 195 (dk_at dksX7_isOver_0 10 rfl rfl)
theorem dX7_isOver_13 : decode cX7_isOver 13 = .ok (.aload_n 0, 1) := dk_42 (dk_at dksX7_isOver_0 13 rfl rfl)
theorem dX7_isOver_14 : decode cX7_isOver 14 = .ok (.aload_n 0, 1) := dk_42 (dk_at dksX7_isOver_0 14 rfl rfl)
theorem dX7_isOver_15 : decode cX7_isOver 15 = .ok (.getfield 168, 3) := dk_180 0 168 (dk_at dksX7_isOver_0 15 rfl rfl)
theorem dX7_isOver_18 : decode cX7_isOver 18 = .ok (.ifCond .ne 7, 3) := dk_154 0 7 (dk_at dksX7_isOver_0 18 rfl rfl)
theorem dX7_isOver_21 : decode cX7_isOver 21 = .ok (.iconst (-1), 1) := dk_2 (dk_at dksX7_isOver_0 21 rfl rfl)
theorem dX7_isOver_22 : decode cX7_isOver 22 = .ok (.goto 7, 3) := dk_167 0 7 (dk_at dksX7_isOver_1 0 rfl rfl)
theorem dX7_isOver_25 : decode cX7_isOver 25 = .ok (.aload_n 0, 1) := dk_42 (dk_at dksX7_isOver_1 3 rfl rfl)
theorem dX7_isOver_26 : decode cX7_isOver 26 = .ok (.getfield 171, 3) := dk_180 0 171 (dk_at dksX7_isOver_1 4 rfl rfl)
theorem dX7_isOver_29 : decode cX7_isOver 29 = .ok (.putfield 27, 3) := dk_181 0 27 (dk_at dksX7_isOver_1 7 rfl rfl)
theorem dX7_isOver_32 : decode cX7_isOver 32 = .ok (.return_, 1) := dk_177 (dk_at dksX7_isOver_1 10 rfl rfl)
abbrev cX7_copyValley : ByteArray := prog_12_method_37_code
def yX7_copyValley : MethodName := ⟨RX7, "copyValley", "(II)V"⟩
def dkwX7_copyValley_3 : List UInt8 := [16, 90, 27, 28, 184, 1, 23, 177]
abbrev dktX7_copyValley_3 : List UInt8 := dkwX7_copyValley_3 ++ []
def dkwX7_copyValley_2 : List UInt8 := [180, 0, 43, 16, 15, 27, 28, 184, 1, 23, 42, 180, 0, 46, 7, 27, 28, 184, 1, 23, 42, 180, 0, 49]
abbrev dktX7_copyValley_2 : List UInt8 := dkwX7_copyValley_2 ++ dktX7_copyValley_3
def dkwX7_copyValley_1 : List UInt8 := [180, 0, 37, 16, 6, 27, 28, 184, 1, 23, 42, 180, 0, 40, 16, 14, 27, 28, 184, 1, 23, 42]
abbrev dktX7_copyValley_1 : List UInt8 := dkwX7_copyValley_1 ++ dktX7_copyValley_2
def dkwX7_copyValley_0 : List UInt8 := [42, 180, 0, 31, 4, 27, 28, 184, 1, 23, 42, 180, 0, 34, 16, 8, 27, 28, 184, 1, 23, 42]
abbrev dktX7_copyValley_0 : List UInt8 := dkwX7_copyValley_0 ++ dktX7_copyValley_1
theorem dksX7_copyValley_0 : cX7_copyValley.data.toList.drop 0 = dktX7_copyValley_0 := by decide +kernel
theorem dksX7_copyValley_1 : cX7_copyValley.data.toList.drop 22 = dktX7_copyValley_1 := dk_seg dksX7_copyValley_0 22 rfl rfl
theorem dksX7_copyValley_2 : cX7_copyValley.data.toList.drop 44 = dktX7_copyValley_2 := dk_seg dksX7_copyValley_1 22 rfl rfl
theorem dksX7_copyValley_3 : cX7_copyValley.data.toList.drop 68 = dktX7_copyValley_3 := dk_seg dksX7_copyValley_2 24 rfl rfl
theorem dX7_copyValley_0 : decode cX7_copyValley 0 = .ok (.aload_n 0, 1) := dk_42 (dk_at dksX7_copyValley_0 0 rfl rfl)
theorem dX7_copyValley_1 : decode cX7_copyValley 1 = .ok (.getfield 31, 3) := dk_180 0 31 (dk_at dksX7_copyValley_0 1 rfl rfl)
theorem dX7_copyValley_4 : decode cX7_copyValley 4 = .ok (.iconst 1, 1) := dk_4 (dk_at dksX7_copyValley_0 4 rfl rfl)
theorem dX7_copyValley_5 : decode cX7_copyValley 5 = .ok (.iload_n 1, 1) := dk_27 (dk_at dksX7_copyValley_0 5 rfl rfl)
theorem dX7_copyValley_6 : decode cX7_copyValley 6 = .ok (.iload_n 2, 1) := dk_28 (dk_at dksX7_copyValley_0 6 rfl rfl)
theorem dX7_copyValley_7 : decode cX7_copyValley 7 = .ok (.invokestatic 279, 3) := dk_184 1 23 (dk_at dksX7_copyValley_0 7 rfl rfl)
theorem dX7_copyValley_10 : decode cX7_copyValley 10 = .ok (.aload_n 0, 1) := dk_42 (dk_at dksX7_copyValley_0 10 rfl rfl)
theorem dX7_copyValley_11 : decode cX7_copyValley 11 = .ok (.getfield 34, 3) := dk_180 0 34 (dk_at dksX7_copyValley_0 11 rfl rfl)
theorem dX7_copyValley_14 : decode cX7_copyValley 14 = .ok (.bipush 8, 2) := dk_16 8 (dk_at dksX7_copyValley_0 14 rfl rfl)
theorem dX7_copyValley_16 : decode cX7_copyValley 16 = .ok (.iload_n 1, 1) := dk_27 (dk_at dksX7_copyValley_0 16 rfl rfl)
theorem dX7_copyValley_17 : decode cX7_copyValley 17 = .ok (.iload_n 2, 1) := dk_28 (dk_at dksX7_copyValley_0 17 rfl rfl)
theorem dX7_copyValley_18 : decode cX7_copyValley 18 = .ok (.invokestatic 279, 3) := dk_184 1 23 (dk_at dksX7_copyValley_0 18 rfl rfl)
theorem dX7_copyValley_21 : decode cX7_copyValley 21 = .ok (.aload_n 0, 1) := dk_42 (dk_at dksX7_copyValley_0 21 rfl rfl)
theorem dX7_copyValley_22 : decode cX7_copyValley 22 = .ok (.getfield 37, 3) := dk_180 0 37 (dk_at dksX7_copyValley_1 0 rfl rfl)
theorem dX7_copyValley_25 : decode cX7_copyValley 25 = .ok (.bipush 6, 2) := dk_16 6 (dk_at dksX7_copyValley_1 3 rfl rfl)
theorem dX7_copyValley_27 : decode cX7_copyValley 27 = .ok (.iload_n 1, 1) := dk_27 (dk_at dksX7_copyValley_1 5 rfl rfl)
theorem dX7_copyValley_28 : decode cX7_copyValley 28 = .ok (.iload_n 2, 1) := dk_28 (dk_at dksX7_copyValley_1 6 rfl rfl)
theorem dX7_copyValley_29 : decode cX7_copyValley 29 = .ok (.invokestatic 279, 3) := dk_184 1 23 (dk_at dksX7_copyValley_1 7 rfl rfl)
theorem dX7_copyValley_32 : decode cX7_copyValley 32 = .ok (.aload_n 0, 1) := dk_42 (dk_at dksX7_copyValley_1 10 rfl rfl)
theorem dX7_copyValley_33 : decode cX7_copyValley 33 = .ok (.getfield 40, 3) := dk_180 0 40 (dk_at dksX7_copyValley_1 11 rfl rfl)
theorem dX7_copyValley_36 : decode cX7_copyValley 36 = .ok (.bipush 14, 2) := dk_16 14 (dk_at dksX7_copyValley_1 14 rfl rfl)
theorem dX7_copyValley_38 : decode cX7_copyValley 38 = .ok (.iload_n 1, 1) := dk_27 (dk_at dksX7_copyValley_1 16 rfl rfl)
theorem dX7_copyValley_39 : decode cX7_copyValley 39 = .ok (.iload_n 2, 1) := dk_28 (dk_at dksX7_copyValley_1 17 rfl rfl)
theorem dX7_copyValley_40 : decode cX7_copyValley 40 = .ok (.invokestatic 279, 3) := dk_184 1 23 (dk_at dksX7_copyValley_1 18 rfl rfl)
theorem dX7_copyValley_43 : decode cX7_copyValley 43 = .ok (.aload_n 0, 1) := dk_42 (dk_at dksX7_copyValley_1 21 rfl rfl)
theorem dX7_copyValley_44 : decode cX7_copyValley 44 = .ok (.getfield 43, 3) := dk_180 0 43 (dk_at dksX7_copyValley_2 0 rfl rfl)
theorem dX7_copyValley_47 : decode cX7_copyValley 47 = .ok (.bipush 15, 2) := dk_16 15 (dk_at dksX7_copyValley_2 3 rfl rfl)
theorem dX7_copyValley_49 : decode cX7_copyValley 49 = .ok (.iload_n 1, 1) := dk_27 (dk_at dksX7_copyValley_2 5 rfl rfl)
theorem dX7_copyValley_50 : decode cX7_copyValley 50 = .ok (.iload_n 2, 1) := dk_28 (dk_at dksX7_copyValley_2 6 rfl rfl)
theorem dX7_copyValley_51 : decode cX7_copyValley 51 = .ok (.invokestatic 279, 3) := dk_184 1 23 (dk_at dksX7_copyValley_2 7 rfl rfl)
theorem dX7_copyValley_54 : decode cX7_copyValley 54 = .ok (.aload_n 0, 1) := dk_42 (dk_at dksX7_copyValley_2 10 rfl rfl)
theorem dX7_copyValley_55 : decode cX7_copyValley 55 = .ok (.getfield 46, 3) := dk_180 0 46 (dk_at dksX7_copyValley_2 11 rfl rfl)
theorem dX7_copyValley_58 : decode cX7_copyValley 58 = .ok (.iconst 4, 1) := dk_7 (dk_at dksX7_copyValley_2 14 rfl rfl)
theorem dX7_copyValley_59 : decode cX7_copyValley 59 = .ok (.iload_n 1, 1) := dk_27 (dk_at dksX7_copyValley_2 15 rfl rfl)
theorem dX7_copyValley_60 : decode cX7_copyValley 60 = .ok (.iload_n 2, 1) := dk_28 (dk_at dksX7_copyValley_2 16 rfl rfl)
theorem dX7_copyValley_61 : decode cX7_copyValley 61 = .ok (.invokestatic 279, 3) := dk_184 1 23 (dk_at dksX7_copyValley_2 17 rfl rfl)
theorem dX7_copyValley_64 : decode cX7_copyValley 64 = .ok (.aload_n 0, 1) := dk_42 (dk_at dksX7_copyValley_2 20 rfl rfl)
theorem dX7_copyValley_65 : decode cX7_copyValley 65 = .ok (.getfield 49, 3) := dk_180 0 49 (dk_at dksX7_copyValley_2 21 rfl rfl)
theorem dX7_copyValley_68 : decode cX7_copyValley 68 = .ok (.bipush 90, 2) := dk_16 90 (dk_at dksX7_copyValley_3 0 rfl rfl)
theorem dX7_copyValley_70 : decode cX7_copyValley 70 = .ok (.iload_n 1, 1) := dk_27 (dk_at dksX7_copyValley_3 2 rfl rfl)
theorem dX7_copyValley_71 : decode cX7_copyValley 71 = .ok (.iload_n 2, 1) := dk_28 (dk_at dksX7_copyValley_3 3 rfl rfl)
theorem dX7_copyValley_72 : decode cX7_copyValley 72 = .ok (.invokestatic 279, 3) := dk_184 1 23 (dk_at dksX7_copyValley_3 4 rfl rfl)
theorem dX7_copyValley_75 : decode cX7_copyValley 75 = .ok (.return_, 1) := dk_177 (dk_at dksX7_copyValley_3 7 rfl rfl)
abbrev cX7_copyRow : ByteArray := prog_12_method_36_code
def yX7_copyRow : MethodName := ⟨RX7, "copyRow", "([IIII)V"⟩
def dkwX7_copyRow_1 : List UInt8 := [79, 132, 4, 1, 167, 255, 231, 177]
abbrev dktX7_copyRow_1 : List UInt8 := dkwX7_copyRow_1 ++ []
def dkwX7_copyRow_0 : List UInt8 := [3, 54, 4, 21, 4, 27, 162, 0, 25, 42, 27, 29, 104, 21, 4, 96, 42, 27, 28, 104, 21, 4, 96, 46]
abbrev dktX7_copyRow_0 : List UInt8 := dkwX7_copyRow_0 ++ dktX7_copyRow_1
theorem dksX7_copyRow_0 : cX7_copyRow.data.toList.drop 0 = dktX7_copyRow_0 := by decide +kernel
theorem dksX7_copyRow_1 : cX7_copyRow.data.toList.drop 24 = dktX7_copyRow_1 := dk_seg dksX7_copyRow_0 24 rfl rfl
theorem dX7_copyRow_0 : decode cX7_copyRow 0 = .ok (.iconst 0, 1) := dk_3 (dk_at dksX7_copyRow_0 0 rfl rfl)
theorem dX7_copyRow_1 : decode cX7_copyRow 1 = .ok (.istore 4, 2) := dk_54 4 (dk_at dksX7_copyRow_0 1 rfl rfl)
theorem dX7_copyRow_3 : decode cX7_copyRow 3 = .ok (.iload 4, 2) := dk_21 4 (dk_at dksX7_copyRow_0 3 rfl rfl)
theorem dX7_copyRow_5 : decode cX7_copyRow 5 = .ok (.iload_n 1, 1) := dk_27 (dk_at dksX7_copyRow_0 5 rfl rfl)
theorem dX7_copyRow_6 : decode cX7_copyRow 6 = .ok (.if_icmp .ge 25, 3) := dk_162 0 25 (dk_at dksX7_copyRow_0 6 rfl rfl)
theorem dX7_copyRow_9 : decode cX7_copyRow 9 = .ok (.aload_n 0, 1) := dk_42 (dk_at dksX7_copyRow_0 9 rfl rfl)
theorem dX7_copyRow_10 : decode cX7_copyRow 10 = .ok (.iload_n 1, 1) := dk_27 (dk_at dksX7_copyRow_0 10 rfl rfl)
theorem dX7_copyRow_11 : decode cX7_copyRow 11 = .ok (.iload_n 3, 1) := dk_29 (dk_at dksX7_copyRow_0 11 rfl rfl)
theorem dX7_copyRow_12 : decode cX7_copyRow 12 = .ok (.imul, 1) := dk_104 (dk_at dksX7_copyRow_0 12 rfl rfl)
theorem dX7_copyRow_13 : decode cX7_copyRow 13 = .ok (.iload 4, 2) := dk_21 4 (dk_at dksX7_copyRow_0 13 rfl rfl)
theorem dX7_copyRow_15 : decode cX7_copyRow 15 = .ok (.iadd, 1) := dk_96 (dk_at dksX7_copyRow_0 15 rfl rfl)
theorem dX7_copyRow_16 : decode cX7_copyRow 16 = .ok (.aload_n 0, 1) := dk_42 (dk_at dksX7_copyRow_0 16 rfl rfl)
theorem dX7_copyRow_17 : decode cX7_copyRow 17 = .ok (.iload_n 1, 1) := dk_27 (dk_at dksX7_copyRow_0 17 rfl rfl)
theorem dX7_copyRow_18 : decode cX7_copyRow 18 = .ok (.iload_n 2, 1) := dk_28 (dk_at dksX7_copyRow_0 18 rfl rfl)
theorem dX7_copyRow_19 : decode cX7_copyRow 19 = .ok (.imul, 1) := dk_104 (dk_at dksX7_copyRow_0 19 rfl rfl)
theorem dX7_copyRow_20 : decode cX7_copyRow 20 = .ok (.iload 4, 2) := dk_21 4 (dk_at dksX7_copyRow_0 20 rfl rfl)
theorem dX7_copyRow_22 : decode cX7_copyRow 22 = .ok (.iadd, 1) := dk_96 (dk_at dksX7_copyRow_0 22 rfl rfl)
theorem dX7_copyRow_23 : decode cX7_copyRow 23 = .ok (.iaload, 1) := dk_46 (dk_at dksX7_copyRow_0 23 rfl rfl)
theorem dX7_copyRow_24 : decode cX7_copyRow 24 = .ok (.iastore, 1) := dk_79 (dk_at dksX7_copyRow_1 0 rfl rfl)
theorem dX7_copyRow_25 : decode cX7_copyRow 25 = .ok (.iinc 4 1, 3) := dk_132 4 1 (dk_at dksX7_copyRow_1 1 rfl rfl)
theorem dX7_copyRow_28 : decode cX7_copyRow 28 = .ok (.goto (-25), 3) := dk_167 255 231 (dk_at dksX7_copyRow_1 4 rfl rfl)
theorem dX7_copyRow_31 : decode cX7_copyRow 31 = .ok (.return_, 1) := dk_177 (dk_at dksX7_copyRow_1 7 rfl rfl)
abbrev cX7_bridge : ByteArray := prog_12_method_62_code
def yX7_bridge : MethodName := ⟨RX7, "bridge", "(II)I"⟩
def dkwX7_bridge_1 : List UInt8 := [180, 0, 37, 5, 27, 104, 28, 96, 46, 167, 0, 5, 16, 254, 172]
abbrev dktX7_bridge_1 : List UInt8 := dkwX7_bridge_1 ++ []
def dkwX7_bridge_0 : List UInt8 := [42, 3, 181, 0, 116, 42, 27, 133, 182, 1, 36, 153, 0, 23, 28, 184, 1, 86, 153, 0, 16, 42]
abbrev dktX7_bridge_0 : List UInt8 := dkwX7_bridge_0 ++ dktX7_bridge_1
theorem dksX7_bridge_0 : cX7_bridge.data.toList.drop 0 = dktX7_bridge_0 := by decide +kernel
theorem dksX7_bridge_1 : cX7_bridge.data.toList.drop 22 = dktX7_bridge_1 := dk_seg dksX7_bridge_0 22 rfl rfl
theorem dX7_bridge_0 : decode cX7_bridge 0 = .ok (.aload_n 0, 1) := dk_42 (dk_at dksX7_bridge_0 0 rfl rfl)
theorem dX7_bridge_1 : decode cX7_bridge 1 = .ok (.iconst 0, 1) := dk_3 (dk_at dksX7_bridge_0 1 rfl rfl)
theorem dX7_bridge_2 : decode cX7_bridge 2 = .ok (.putfield 116, 3) := dk_181 0 116 (dk_at dksX7_bridge_0 2 rfl rfl)
theorem dX7_bridge_5 : decode cX7_bridge 5 = .ok (.aload_n 0, 1) := dk_42 (dk_at dksX7_bridge_0 5 rfl rfl)
theorem dX7_bridge_6 : decode cX7_bridge 6 = .ok (.iload_n 1, 1) := dk_27 (dk_at dksX7_bridge_0 6 rfl rfl)
theorem dX7_bridge_7 : decode cX7_bridge 7 = .ok (.i2l, 1) := dk_133 (dk_at dksX7_bridge_0 7 rfl rfl)
theorem dX7_bridge_8 : decode cX7_bridge 8 = .ok (.invokevirtual 292, 3) := dk_182 1 36 (dk_at dksX7_bridge_0 8 rfl rfl)
theorem dX7_bridge_11 : decode cX7_bridge 11 = .ok (.ifCond .eq 23, 3) := dk_153 0 23 (dk_at dksX7_bridge_0 11 rfl rfl)
theorem dX7_bridge_14 : decode cX7_bridge 14 = .ok (.iload_n 2, 1) := dk_28 (dk_at dksX7_bridge_0 14 rfl rfl)
theorem dX7_bridge_15 : decode cX7_bridge 15 = .ok (.invokestatic 342, 3) := dk_184 1 86 (dk_at dksX7_bridge_0 15 rfl rfl)
theorem dX7_bridge_18 : decode cX7_bridge 18 = .ok (.ifCond .eq 16, 3) := dk_153 0 16 (dk_at dksX7_bridge_0 18 rfl rfl)
theorem dX7_bridge_21 : decode cX7_bridge 21 = .ok (.aload_n 0, 1) := dk_42 (dk_at dksX7_bridge_0 21 rfl rfl)
theorem dX7_bridge_22 : decode cX7_bridge 22 = .ok (.getfield 37, 3) := dk_180 0 37 (dk_at dksX7_bridge_1 0 rfl rfl)
theorem dX7_bridge_25 : decode cX7_bridge 25 = .ok (.iconst 2, 1) := dk_5 (dk_at dksX7_bridge_1 3 rfl rfl)
theorem dX7_bridge_26 : decode cX7_bridge 26 = .ok (.iload_n 1, 1) := dk_27 (dk_at dksX7_bridge_1 4 rfl rfl)
theorem dX7_bridge_27 : decode cX7_bridge 27 = .ok (.imul, 1) := dk_104 (dk_at dksX7_bridge_1 5 rfl rfl)
theorem dX7_bridge_28 : decode cX7_bridge 28 = .ok (.iload_n 2, 1) := dk_28 (dk_at dksX7_bridge_1 6 rfl rfl)
theorem dX7_bridge_29 : decode cX7_bridge 29 = .ok (.iadd, 1) := dk_96 (dk_at dksX7_bridge_1 7 rfl rfl)
theorem dX7_bridge_30 : decode cX7_bridge 30 = .ok (.iaload, 1) := dk_46 (dk_at dksX7_bridge_1 8 rfl rfl)
theorem dX7_bridge_31 : decode cX7_bridge 31 = .ok (.goto 5, 3) := dk_167 0 5 (dk_at dksX7_bridge_1 9 rfl rfl)
theorem dX7_bridge_34 : decode cX7_bridge 34 = .ok (.bipush (-2), 2) := dk_16 254 (dk_at dksX7_bridge_1 12 rfl rfl)
theorem dX7_bridge_36 : decode cX7_bridge 36 = .ok (.ireturn, 1) := dk_172 (dk_at dksX7_bridge_1 14 rfl rfl)
abbrev cX7_isBridge : ByteArray := prog_12_method_41_code
def yX7_isBridge : MethodName := ⟨RX7, "isBridge", "(J)Z"⟩
def dkwX7_isBridge_0 : List UInt8 := [31, 9, 42, 182, 1, 27, 133, 10, 101, 184, 0, 121, 172]
abbrev dktX7_isBridge_0 : List UInt8 := dkwX7_isBridge_0 ++ []
theorem dksX7_isBridge_0 : cX7_isBridge.data.toList.drop 0 = dktX7_isBridge_0 := by decide +kernel
theorem dX7_isBridge_0 : decode cX7_isBridge 0 = .ok (.lload_n 1, 1) := dk_31 (dk_at dksX7_isBridge_0 0 rfl rfl)
theorem dX7_isBridge_1 : decode cX7_isBridge 1 = .ok (.lconst 0, 1) := dk_9 (dk_at dksX7_isBridge_0 1 rfl rfl)
theorem dX7_isBridge_2 : decode cX7_isBridge 2 = .ok (.aload_n 0, 1) := dk_42 (dk_at dksX7_isBridge_0 2 rfl rfl)
theorem dX7_isBridge_3 : decode cX7_isBridge 3 = .ok (.invokevirtual 283, 3) := dk_182 1 27 (dk_at dksX7_isBridge_0 3 rfl rfl)
theorem dX7_isBridge_6 : decode cX7_isBridge 6 = .ok (.i2l, 1) := dk_133 (dk_at dksX7_isBridge_0 6 rfl rfl)
theorem dX7_isBridge_7 : decode cX7_isBridge 7 = .ok (.lconst 1, 1) := dk_10 (dk_at dksX7_isBridge_0 7 rfl rfl)
theorem dX7_isBridge_8 : decode cX7_isBridge 8 = .ok (.lsub, 1) := dk_101 (dk_at dksX7_isBridge_0 8 rfl rfl)
theorem dX7_isBridge_9 : decode cX7_isBridge 9 = .ok (.invokestatic 121, 3) := dk_184 0 121 (dk_at dksX7_isBridge_0 9 rfl rfl)
theorem dX7_isBridge_12 : decode cX7_isBridge 12 = .ok (.ireturn, 1) := dk_172 (dk_at dksX7_isBridge_0 12 rfl rfl)
abbrev cX7_bridges : ByteArray := prog_12_method_39_code
def yX7_bridges : MethodName := ⟨RX7, "bridges", "()I"⟩
def dkwX7_bridges_0 : List UInt8 := [42, 180, 0, 34, 6, 46, 172]
abbrev dktX7_bridges_0 : List UInt8 := dkwX7_bridges_0 ++ []
theorem dksX7_bridges_0 : cX7_bridges.data.toList.drop 0 = dktX7_bridges_0 := by decide +kernel
theorem dX7_bridges_0 : decode cX7_bridges 0 = .ok (.aload_n 0, 1) := dk_42 (dk_at dksX7_bridges_0 0 rfl rfl)
theorem dX7_bridges_1 : decode cX7_bridges 1 = .ok (.getfield 34, 3) := dk_180 0 34 (dk_at dksX7_bridges_0 1 rfl rfl)
theorem dX7_bridges_4 : decode cX7_bridges 4 = .ok (.iconst 3, 1) := dk_6 (dk_at dksX7_bridges_0 4 rfl rfl)
theorem dX7_bridges_5 : decode cX7_bridges 5 = .ok (.iaload, 1) := dk_46 (dk_at dksX7_bridges_0 5 rfl rfl)
theorem dX7_bridges_6 : decode cX7_bridges 6 = .ok (.ireturn, 1) := dk_172 (dk_at dksX7_bridges_0 6 rfl rfl)
abbrev cX7_isHalf : ByteArray := prog_12_method_45_code
def yX7_isHalf : MethodName := ⟨RX7, "isHalf", "(I)Z"⟩
def dkwX7_isHalf_0 : List UInt8 := [26, 133, 9, 10, 184, 0, 121, 172]
abbrev dktX7_isHalf_0 : List UInt8 := dkwX7_isHalf_0 ++ []
theorem dksX7_isHalf_0 : cX7_isHalf.data.toList.drop 0 = dktX7_isHalf_0 := by decide +kernel
theorem dX7_isHalf_0 : decode cX7_isHalf 0 = .ok (.iload_n 0, 1) := dk_26 (dk_at dksX7_isHalf_0 0 rfl rfl)
theorem dX7_isHalf_1 : decode cX7_isHalf 1 = .ok (.i2l, 1) := dk_133 (dk_at dksX7_isHalf_0 1 rfl rfl)
theorem dX7_isHalf_2 : decode cX7_isHalf 2 = .ok (.lconst 0, 1) := dk_9 (dk_at dksX7_isHalf_0 2 rfl rfl)
theorem dX7_isHalf_3 : decode cX7_isHalf 3 = .ok (.lconst 1, 1) := dk_10 (dk_at dksX7_isHalf_0 3 rfl rfl)
theorem dX7_isHalf_4 : decode cX7_isHalf 4 = .ok (.invokestatic 121, 3) := dk_184 0 121 (dk_at dksX7_isHalf_0 4 rfl rfl)
theorem dX7_isHalf_7 : decode cX7_isHalf 7 = .ok (.ireturn, 1) := dk_172 (dk_at dksX7_isHalf_0 7 rfl rfl)
abbrev cX7_cart : ByteArray := prog_12_method_63_code
def yX7_cart : MethodName := ⟨RX7, "cart", "(II)I"⟩
def dkwX7_cart_1 : List UInt8 := [180, 0, 40, 5, 27, 104, 28, 96, 46, 167, 0, 5, 16, 254, 172]
abbrev dktX7_cart_1 : List UInt8 := dkwX7_cart_1 ++ []
def dkwX7_cart_0 : List UInt8 := [42, 3, 181, 0, 116, 42, 27, 133, 182, 1, 33, 153, 0, 23, 28, 184, 1, 86, 153, 0, 16, 42]
abbrev dktX7_cart_0 : List UInt8 := dkwX7_cart_0 ++ dktX7_cart_1
theorem dksX7_cart_0 : cX7_cart.data.toList.drop 0 = dktX7_cart_0 := by decide +kernel
theorem dksX7_cart_1 : cX7_cart.data.toList.drop 22 = dktX7_cart_1 := dk_seg dksX7_cart_0 22 rfl rfl
theorem dX7_cart_0 : decode cX7_cart 0 = .ok (.aload_n 0, 1) := dk_42 (dk_at dksX7_cart_0 0 rfl rfl)
theorem dX7_cart_1 : decode cX7_cart 1 = .ok (.iconst 0, 1) := dk_3 (dk_at dksX7_cart_0 1 rfl rfl)
theorem dX7_cart_2 : decode cX7_cart 2 = .ok (.putfield 116, 3) := dk_181 0 116 (dk_at dksX7_cart_0 2 rfl rfl)
theorem dX7_cart_5 : decode cX7_cart 5 = .ok (.aload_n 0, 1) := dk_42 (dk_at dksX7_cart_0 5 rfl rfl)
theorem dX7_cart_6 : decode cX7_cart 6 = .ok (.iload_n 1, 1) := dk_27 (dk_at dksX7_cart_0 6 rfl rfl)
theorem dX7_cart_7 : decode cX7_cart 7 = .ok (.i2l, 1) := dk_133 (dk_at dksX7_cart_0 7 rfl rfl)
theorem dX7_cart_8 : decode cX7_cart 8 = .ok (.invokevirtual 289, 3) := dk_182 1 33 (dk_at dksX7_cart_0 8 rfl rfl)
theorem dX7_cart_11 : decode cX7_cart 11 = .ok (.ifCond .eq 23, 3) := dk_153 0 23 (dk_at dksX7_cart_0 11 rfl rfl)
theorem dX7_cart_14 : decode cX7_cart 14 = .ok (.iload_n 2, 1) := dk_28 (dk_at dksX7_cart_0 14 rfl rfl)
theorem dX7_cart_15 : decode cX7_cart 15 = .ok (.invokestatic 342, 3) := dk_184 1 86 (dk_at dksX7_cart_0 15 rfl rfl)
theorem dX7_cart_18 : decode cX7_cart 18 = .ok (.ifCond .eq 16, 3) := dk_153 0 16 (dk_at dksX7_cart_0 18 rfl rfl)
theorem dX7_cart_21 : decode cX7_cart 21 = .ok (.aload_n 0, 1) := dk_42 (dk_at dksX7_cart_0 21 rfl rfl)
theorem dX7_cart_22 : decode cX7_cart 22 = .ok (.getfield 40, 3) := dk_180 0 40 (dk_at dksX7_cart_1 0 rfl rfl)
theorem dX7_cart_25 : decode cX7_cart 25 = .ok (.iconst 2, 1) := dk_5 (dk_at dksX7_cart_1 3 rfl rfl)
theorem dX7_cart_26 : decode cX7_cart 26 = .ok (.iload_n 1, 1) := dk_27 (dk_at dksX7_cart_1 4 rfl rfl)
theorem dX7_cart_27 : decode cX7_cart 27 = .ok (.imul, 1) := dk_104 (dk_at dksX7_cart_1 5 rfl rfl)
theorem dX7_cart_28 : decode cX7_cart 28 = .ok (.iload_n 2, 1) := dk_28 (dk_at dksX7_cart_1 6 rfl rfl)
theorem dX7_cart_29 : decode cX7_cart 29 = .ok (.iadd, 1) := dk_96 (dk_at dksX7_cart_1 7 rfl rfl)
theorem dX7_cart_30 : decode cX7_cart 30 = .ok (.iaload, 1) := dk_46 (dk_at dksX7_cart_1 8 rfl rfl)
theorem dX7_cart_31 : decode cX7_cart 31 = .ok (.goto 5, 3) := dk_167 0 5 (dk_at dksX7_cart_1 9 rfl rfl)
theorem dX7_cart_34 : decode cX7_cart 34 = .ok (.bipush (-2), 2) := dk_16 254 (dk_at dksX7_cart_1 12 rfl rfl)
theorem dX7_cart_36 : decode cX7_cart 36 = .ok (.ireturn, 1) := dk_172 (dk_at dksX7_cart_1 14 rfl rfl)
abbrev cX7_isCart : ByteArray := prog_12_method_42_code
def yX7_isCart : MethodName := ⟨RX7, "isCart", "(J)Z"⟩
def dkwX7_isCart_0 : List UInt8 := [31, 9, 42, 182, 1, 30, 133, 10, 101, 184, 0, 121, 172]
abbrev dktX7_isCart_0 : List UInt8 := dkwX7_isCart_0 ++ []
theorem dksX7_isCart_0 : cX7_isCart.data.toList.drop 0 = dktX7_isCart_0 := by decide +kernel
theorem dX7_isCart_0 : decode cX7_isCart 0 = .ok (.lload_n 1, 1) := dk_31 (dk_at dksX7_isCart_0 0 rfl rfl)
theorem dX7_isCart_1 : decode cX7_isCart 1 = .ok (.lconst 0, 1) := dk_9 (dk_at dksX7_isCart_0 1 rfl rfl)
theorem dX7_isCart_2 : decode cX7_isCart 2 = .ok (.aload_n 0, 1) := dk_42 (dk_at dksX7_isCart_0 2 rfl rfl)
theorem dX7_isCart_3 : decode cX7_isCart 3 = .ok (.invokevirtual 286, 3) := dk_182 1 30 (dk_at dksX7_isCart_0 3 rfl rfl)
theorem dX7_isCart_6 : decode cX7_isCart 6 = .ok (.i2l, 1) := dk_133 (dk_at dksX7_isCart_0 6 rfl rfl)
theorem dX7_isCart_7 : decode cX7_isCart 7 = .ok (.lconst 1, 1) := dk_10 (dk_at dksX7_isCart_0 7 rfl rfl)
theorem dX7_isCart_8 : decode cX7_isCart 8 = .ok (.lsub, 1) := dk_101 (dk_at dksX7_isCart_0 8 rfl rfl)
theorem dX7_isCart_9 : decode cX7_isCart 9 = .ok (.invokestatic 121, 3) := dk_184 0 121 (dk_at dksX7_isCart_0 9 rfl rfl)
theorem dX7_isCart_12 : decode cX7_isCart 12 = .ok (.ireturn, 1) := dk_172 (dk_at dksX7_isCart_0 12 rfl rfl)
abbrev cX7_carts : ByteArray := prog_12_method_40_code
def yX7_carts : MethodName := ⟨RX7, "carts", "()I"⟩
def dkwX7_carts_0 : List UInt8 := [42, 180, 0, 34, 7, 46, 172]
abbrev dktX7_carts_0 : List UInt8 := dkwX7_carts_0 ++ []
theorem dksX7_carts_0 : cX7_carts.data.toList.drop 0 = dktX7_carts_0 := by decide +kernel
theorem dX7_carts_0 : decode cX7_carts 0 = .ok (.aload_n 0, 1) := dk_42 (dk_at dksX7_carts_0 0 rfl rfl)
theorem dX7_carts_1 : decode cX7_carts 1 = .ok (.getfield 34, 3) := dk_180 0 34 (dk_at dksX7_carts_0 1 rfl rfl)
theorem dX7_carts_4 : decode cX7_carts 4 = .ok (.iconst 4, 1) := dk_7 (dk_at dksX7_carts_0 4 rfl rfl)
theorem dX7_carts_5 : decode cX7_carts 5 = .ok (.iaload, 1) := dk_46 (dk_at dksX7_carts_0 5 rfl rfl)
theorem dX7_carts_6 : decode cX7_carts 6 = .ok (.ireturn, 1) := dk_172 (dk_at dksX7_carts_0 6 rfl rfl)
abbrev cX7_ward : ByteArray := prog_12_method_64_code
def yX7_ward : MethodName := ⟨RX7, "ward", "(II)I"⟩
def dkwX7_ward_2 : List UInt8 := [16, 254, 172]
abbrev dktX7_ward_2 : List UInt8 := dkwX7_ward_2 ++ []
def dkwX7_ward_1 : List UInt8 := [133, 9, 20, 1, 89, 184, 0, 121, 153, 0, 16, 42, 180, 0, 43, 6, 27, 104, 28, 96, 46, 167, 0, 5]
abbrev dktX7_ward_1 : List UInt8 := dkwX7_ward_1 ++ dktX7_ward_2
def dkwX7_ward_0 : List UInt8 := [42, 3, 181, 0, 116, 27, 133, 9, 42, 180, 0, 34, 8, 46, 133, 10, 101, 184, 0, 121, 153, 0, 28, 28]
abbrev dktX7_ward_0 : List UInt8 := dkwX7_ward_0 ++ dktX7_ward_1
theorem dksX7_ward_0 : cX7_ward.data.toList.drop 0 = dktX7_ward_0 := by decide +kernel
theorem dksX7_ward_1 : cX7_ward.data.toList.drop 24 = dktX7_ward_1 := dk_seg dksX7_ward_0 24 rfl rfl
theorem dksX7_ward_2 : cX7_ward.data.toList.drop 48 = dktX7_ward_2 := dk_seg dksX7_ward_1 24 rfl rfl
theorem dX7_ward_0 : decode cX7_ward 0 = .ok (.aload_n 0, 1) := dk_42 (dk_at dksX7_ward_0 0 rfl rfl)
theorem dX7_ward_1 : decode cX7_ward 1 = .ok (.iconst 0, 1) := dk_3 (dk_at dksX7_ward_0 1 rfl rfl)
theorem dX7_ward_2 : decode cX7_ward 2 = .ok (.putfield 116, 3) := dk_181 0 116 (dk_at dksX7_ward_0 2 rfl rfl)
theorem dX7_ward_5 : decode cX7_ward 5 = .ok (.iload_n 1, 1) := dk_27 (dk_at dksX7_ward_0 5 rfl rfl)
theorem dX7_ward_6 : decode cX7_ward 6 = .ok (.i2l, 1) := dk_133 (dk_at dksX7_ward_0 6 rfl rfl)
theorem dX7_ward_7 : decode cX7_ward 7 = .ok (.lconst 0, 1) := dk_9 (dk_at dksX7_ward_0 7 rfl rfl)
theorem dX7_ward_8 : decode cX7_ward 8 = .ok (.aload_n 0, 1) := dk_42 (dk_at dksX7_ward_0 8 rfl rfl)
theorem dX7_ward_9 : decode cX7_ward 9 = .ok (.getfield 34, 3) := dk_180 0 34 (dk_at dksX7_ward_0 9 rfl rfl)
theorem dX7_ward_12 : decode cX7_ward 12 = .ok (.iconst 5, 1) := dk_8 (dk_at dksX7_ward_0 12 rfl rfl)
theorem dX7_ward_13 : decode cX7_ward 13 = .ok (.iaload, 1) := dk_46 (dk_at dksX7_ward_0 13 rfl rfl)
theorem dX7_ward_14 : decode cX7_ward 14 = .ok (.i2l, 1) := dk_133 (dk_at dksX7_ward_0 14 rfl rfl)
theorem dX7_ward_15 : decode cX7_ward 15 = .ok (.lconst 1, 1) := dk_10 (dk_at dksX7_ward_0 15 rfl rfl)
theorem dX7_ward_16 : decode cX7_ward 16 = .ok (.lsub, 1) := dk_101 (dk_at dksX7_ward_0 16 rfl rfl)
theorem dX7_ward_17 : decode cX7_ward 17 = .ok (.invokestatic 121, 3) := dk_184 0 121 (dk_at dksX7_ward_0 17 rfl rfl)
theorem dX7_ward_20 : decode cX7_ward 20 = .ok (.ifCond .eq 28, 3) := dk_153 0 28 (dk_at dksX7_ward_0 20 rfl rfl)
theorem dX7_ward_23 : decode cX7_ward 23 = .ok (.iload_n 2, 1) := dk_28 (dk_at dksX7_ward_0 23 rfl rfl)
theorem dX7_ward_24 : decode cX7_ward 24 = .ok (.i2l, 1) := dk_133 (dk_at dksX7_ward_1 0 rfl rfl)
theorem dX7_ward_25 : decode cX7_ward 25 = .ok (.lconst 0, 1) := dk_9 (dk_at dksX7_ward_1 1 rfl rfl)
theorem dX7_ward_26 : decode cX7_ward 26 = .ok (.ldc2_w 345, 3) := dk_20 1 89 (dk_at dksX7_ward_1 2 rfl rfl)
theorem dX7_ward_29 : decode cX7_ward 29 = .ok (.invokestatic 121, 3) := dk_184 0 121 (dk_at dksX7_ward_1 5 rfl rfl)
theorem dX7_ward_32 : decode cX7_ward 32 = .ok (.ifCond .eq 16, 3) := dk_153 0 16 (dk_at dksX7_ward_1 8 rfl rfl)
theorem dX7_ward_35 : decode cX7_ward 35 = .ok (.aload_n 0, 1) := dk_42 (dk_at dksX7_ward_1 11 rfl rfl)
theorem dX7_ward_36 : decode cX7_ward 36 = .ok (.getfield 43, 3) := dk_180 0 43 (dk_at dksX7_ward_1 12 rfl rfl)
theorem dX7_ward_39 : decode cX7_ward 39 = .ok (.iconst 3, 1) := dk_6 (dk_at dksX7_ward_1 15 rfl rfl)
theorem dX7_ward_40 : decode cX7_ward 40 = .ok (.iload_n 1, 1) := dk_27 (dk_at dksX7_ward_1 16 rfl rfl)
theorem dX7_ward_41 : decode cX7_ward 41 = .ok (.imul, 1) := dk_104 (dk_at dksX7_ward_1 17 rfl rfl)
theorem dX7_ward_42 : decode cX7_ward 42 = .ok (.iload_n 2, 1) := dk_28 (dk_at dksX7_ward_1 18 rfl rfl)
theorem dX7_ward_43 : decode cX7_ward 43 = .ok (.iadd, 1) := dk_96 (dk_at dksX7_ward_1 19 rfl rfl)
theorem dX7_ward_44 : decode cX7_ward 44 = .ok (.iaload, 1) := dk_46 (dk_at dksX7_ward_1 20 rfl rfl)
theorem dX7_ward_45 : decode cX7_ward 45 = .ok (.goto 5, 3) := dk_167 0 5 (dk_at dksX7_ward_1 21 rfl rfl)
theorem dX7_ward_48 : decode cX7_ward 48 = .ok (.bipush (-2), 2) := dk_16 254 (dk_at dksX7_ward_2 0 rfl rfl)
theorem dX7_ward_50 : decode cX7_ward 50 = .ok (.ireturn, 1) := dk_172 (dk_at dksX7_ward_2 2 rfl rfl)
abbrev cX7_cold : ByteArray := prog_12_method_65_code
def yX7_cold : MethodName := ⟨RX7, "cold", "(I)I"⟩
def dkwX7_cold_1 : List UInt8 := [180, 1, 42, 27, 184, 1, 51, 153, 0, 7, 4, 167, 0, 4, 3, 172]
abbrev dktX7_cold_1 : List UInt8 := dkwX7_cold_1 ++ []
def dkwX7_cold_0 : List UInt8 := [42, 3, 181, 0, 116, 42, 27, 133, 182, 1, 33, 154, 0, 6, 16, 254, 172, 42, 182, 1, 74, 42]
abbrev dktX7_cold_0 : List UInt8 := dkwX7_cold_0 ++ dktX7_cold_1
theorem dksX7_cold_0 : cX7_cold.data.toList.drop 0 = dktX7_cold_0 := by decide +kernel
theorem dksX7_cold_1 : cX7_cold.data.toList.drop 22 = dktX7_cold_1 := dk_seg dksX7_cold_0 22 rfl rfl
theorem dX7_cold_0 : decode cX7_cold 0 = .ok (.aload_n 0, 1) := dk_42 (dk_at dksX7_cold_0 0 rfl rfl)
theorem dX7_cold_1 : decode cX7_cold 1 = .ok (.iconst 0, 1) := dk_3 (dk_at dksX7_cold_0 1 rfl rfl)
theorem dX7_cold_2 : decode cX7_cold 2 = .ok (.putfield 116, 3) := dk_181 0 116 (dk_at dksX7_cold_0 2 rfl rfl)
theorem dX7_cold_5 : decode cX7_cold 5 = .ok (.aload_n 0, 1) := dk_42 (dk_at dksX7_cold_0 5 rfl rfl)
theorem dX7_cold_6 : decode cX7_cold 6 = .ok (.iload_n 1, 1) := dk_27 (dk_at dksX7_cold_0 6 rfl rfl)
theorem dX7_cold_7 : decode cX7_cold 7 = .ok (.i2l, 1) := dk_133 (dk_at dksX7_cold_0 7 rfl rfl)
theorem dX7_cold_8 : decode cX7_cold 8 = .ok (.invokevirtual 289, 3) := dk_182 1 33 (dk_at dksX7_cold_0 8 rfl rfl)
theorem dX7_cold_11 : decode cX7_cold 11 = .ok (.ifCond .ne 6, 3) := dk_154 0 6 (dk_at dksX7_cold_0 11 rfl rfl)
theorem dX7_cold_14 : decode cX7_cold 14 = .ok (.bipush (-2), 2) := dk_16 254 (dk_at dksX7_cold_0 14 rfl rfl)
theorem dX7_cold_16 : decode cX7_cold 16 = .ok (.ireturn, 1) := dk_172 (dk_at dksX7_cold_0 16 rfl rfl)
theorem dX7_cold_17 : decode cX7_cold 17 = .ok (.aload_n 0, 1) := dk_42 (dk_at dksX7_cold_0 17 rfl rfl)
theorem dX7_cold_18 : decode cX7_cold 18 = .ok (.invokevirtual 330, 3) := dk_182 1 74 (dk_at dksX7_cold_0 18 rfl rfl)
theorem dX7_cold_21 : decode cX7_cold 21 = .ok (.aload_n 0, 1) := dk_42 (dk_at dksX7_cold_0 21 rfl rfl)
theorem dX7_cold_22 : decode cX7_cold 22 = .ok (.getfield 298, 3) := dk_180 1 42 (dk_at dksX7_cold_1 0 rfl rfl)
theorem dX7_cold_25 : decode cX7_cold 25 = .ok (.iload_n 1, 1) := dk_27 (dk_at dksX7_cold_1 3 rfl rfl)
theorem dX7_cold_26 : decode cX7_cold 26 = .ok (.invokestatic 307, 3) := dk_184 1 51 (dk_at dksX7_cold_1 4 rfl rfl)
theorem dX7_cold_29 : decode cX7_cold 29 = .ok (.ifCond .eq 7, 3) := dk_153 0 7 (dk_at dksX7_cold_1 7 rfl rfl)
theorem dX7_cold_32 : decode cX7_cold 32 = .ok (.iconst 1, 1) := dk_4 (dk_at dksX7_cold_1 10 rfl rfl)
theorem dX7_cold_33 : decode cX7_cold 33 = .ok (.goto 4, 3) := dk_167 0 4 (dk_at dksX7_cold_1 11 rfl rfl)
theorem dX7_cold_36 : decode cX7_cold 36 = .ok (.iconst 0, 1) := dk_3 (dk_at dksX7_cold_1 14 rfl rfl)
theorem dX7_cold_37 : decode cX7_cold 37 = .ok (.ireturn, 1) := dk_172 (dk_at dksX7_cold_1 15 rfl rfl)
abbrev cX7_lays : ByteArray := prog_12_method_48_code
def yX7_lays : MethodName := ⟨RX7, "lays", "()V"⟩
def dkwX7_lays_8 : List UInt8 := [180, 1, 42, 4, 28, 120, 2, 130, 126, 181, 1, 42, 132, 1, 1, 167, 255, 164, 177]
abbrev dktX7_lays_8 : List UInt8 := dkwX7_lays_8 ++ []
def dkwX7_lays_7 : List UInt8 := [180, 0, 49, 6, 27, 104, 46, 4, 160, 0, 14, 42, 180, 1, 42, 4, 28, 120, 128, 167, 0, 13, 42]
abbrev dktX7_lays_7 : List UInt8 := dkwX7_lays_7 ++ dktX7_lays_8
def dkwX7_lays_6 : List UInt8 := [154, 0, 22, 42, 180, 0, 59, 28, 42, 180, 0, 49, 6, 27, 104, 5, 96, 46, 79, 167, 0, 40, 42, 42]
abbrev dktX7_lays_6 : List UInt8 := dkwX7_lays_6 ++ dktX7_lays_7
def dkwX7_lays_5 : List UInt8 := [162, 0, 87, 42, 180, 0, 49, 6, 27, 104, 4, 96, 46, 61, 42, 180, 0, 49, 6, 27, 104, 46]
abbrev dktX7_lays_5 : List UInt8 := dkwX7_lays_5 ++ dktX7_lays_6
def dkwX7_lays_4 : List UInt8 := [79, 42, 180, 0, 62, 27, 27, 79, 132, 1, 1, 167, 255, 208, 3, 60, 27, 42, 180, 0, 34, 16, 7, 46]
abbrev dktX7_lays_4 : List UInt8 := dkwX7_lays_4 ++ dktX7_lays_5
def dkwX7_lays_3 : List UInt8 := [42, 180, 0, 40, 5, 27, 104, 46, 79, 42, 180, 0, 59, 27, 42, 180, 0, 40, 5, 27, 104, 4, 96, 46]
abbrev dktX7_lays_3 : List UInt8 := dkwX7_lays_3 ++ dktX7_lays_4
def dkwX7_lays_2 : List UInt8 := [181, 1, 42, 132, 1, 1, 167, 255, 225, 3, 60, 27, 42, 182, 1, 30, 162, 0, 46, 42, 180, 0, 56, 27]
abbrev dktX7_lays_2 : List UInt8 := dkwX7_lays_2 ++ dktX7_lays_3
def dkwX7_lays_1 : List UInt8 := [180, 0, 34, 16, 6, 46, 162, 0, 26, 42, 89, 180, 1, 42, 4, 42, 180, 0, 46, 27, 46, 120, 128]
abbrev dktX7_lays_1 : List UInt8 := dkwX7_lays_1 ++ dktX7_lays_2
def dkwX7_lays_0 : List UInt8 := [42, 42, 180, 0, 34, 3, 46, 181, 1, 39, 42, 3, 181, 1, 42, 42, 3, 181, 1, 45, 3, 60, 27, 42]
abbrev dktX7_lays_0 : List UInt8 := dkwX7_lays_0 ++ dktX7_lays_1
theorem dksX7_lays_0 : cX7_lays.data.toList.drop 0 = dktX7_lays_0 := by decide +kernel
theorem dksX7_lays_1 : cX7_lays.data.toList.drop 24 = dktX7_lays_1 := dk_seg dksX7_lays_0 24 rfl rfl
theorem dksX7_lays_2 : cX7_lays.data.toList.drop 47 = dktX7_lays_2 := dk_seg dksX7_lays_1 23 rfl rfl
theorem dksX7_lays_3 : cX7_lays.data.toList.drop 71 = dktX7_lays_3 := dk_seg dksX7_lays_2 24 rfl rfl
theorem dksX7_lays_4 : cX7_lays.data.toList.drop 95 = dktX7_lays_4 := dk_seg dksX7_lays_3 24 rfl rfl
theorem dksX7_lays_5 : cX7_lays.data.toList.drop 119 = dktX7_lays_5 := dk_seg dksX7_lays_4 24 rfl rfl
theorem dksX7_lays_6 : cX7_lays.data.toList.drop 141 = dktX7_lays_6 := dk_seg dksX7_lays_5 22 rfl rfl
theorem dksX7_lays_7 : cX7_lays.data.toList.drop 165 = dktX7_lays_7 := dk_seg dksX7_lays_6 24 rfl rfl
theorem dksX7_lays_8 : cX7_lays.data.toList.drop 188 = dktX7_lays_8 := dk_seg dksX7_lays_7 23 rfl rfl
theorem dX7_lays_0 : decode cX7_lays 0 = .ok (.aload_n 0, 1) := dk_42 (dk_at dksX7_lays_0 0 rfl rfl)
theorem dX7_lays_1 : decode cX7_lays 1 = .ok (.aload_n 0, 1) := dk_42 (dk_at dksX7_lays_0 1 rfl rfl)
theorem dX7_lays_2 : decode cX7_lays 2 = .ok (.getfield 34, 3) := dk_180 0 34 (dk_at dksX7_lays_0 2 rfl rfl)
theorem dX7_lays_5 : decode cX7_lays 5 = .ok (.iconst 0, 1) := dk_3 (dk_at dksX7_lays_0 5 rfl rfl)
theorem dX7_lays_6 : decode cX7_lays 6 = .ok (.iaload, 1) := dk_46 (dk_at dksX7_lays_0 6 rfl rfl)
theorem dX7_lays_7 : decode cX7_lays 7 = .ok (.putfield 295, 3) := dk_181 1 39 (dk_at dksX7_lays_0 7 rfl rfl)
theorem dX7_lays_10 : decode cX7_lays 10 = .ok (.aload_n 0, 1) := dk_42 (dk_at dksX7_lays_0 10 rfl rfl)
theorem dX7_lays_11 : decode cX7_lays 11 = .ok (.iconst 0, 1) := dk_3 (dk_at dksX7_lays_0 11 rfl rfl)
theorem dX7_lays_12 : decode cX7_lays 12 = .ok (.putfield 298, 3) := dk_181 1 42 (dk_at dksX7_lays_0 12 rfl rfl)
theorem dX7_lays_15 : decode cX7_lays 15 = .ok (.aload_n 0, 1) := dk_42 (dk_at dksX7_lays_0 15 rfl rfl)
theorem dX7_lays_16 : decode cX7_lays 16 = .ok (.iconst 0, 1) := dk_3 (dk_at dksX7_lays_0 16 rfl rfl)
theorem dX7_lays_17 : decode cX7_lays 17 = .ok (.putfield 301, 3) := dk_181 1 45 (dk_at dksX7_lays_0 17 rfl rfl)
theorem dX7_lays_20 : decode cX7_lays 20 = .ok (.iconst 0, 1) := dk_3 (dk_at dksX7_lays_0 20 rfl rfl)
theorem dX7_lays_21 : decode cX7_lays 21 = .ok (.istore_n 1, 1) := dk_60 (dk_at dksX7_lays_0 21 rfl rfl)
theorem dX7_lays_22 : decode cX7_lays 22 = .ok (.iload_n 1, 1) := dk_27 (dk_at dksX7_lays_0 22 rfl rfl)
theorem dX7_lays_23 : decode cX7_lays 23 = .ok (.aload_n 0, 1) := dk_42 (dk_at dksX7_lays_0 23 rfl rfl)
theorem dX7_lays_24 : decode cX7_lays 24 = .ok (.getfield 34, 3) := dk_180 0 34 (dk_at dksX7_lays_1 0 rfl rfl)
theorem dX7_lays_27 : decode cX7_lays 27 = .ok (.bipush 6, 2) := dk_16 6 (dk_at dksX7_lays_1 3 rfl rfl)
theorem dX7_lays_29 : decode cX7_lays 29 = .ok (.iaload, 1) := dk_46 (dk_at dksX7_lays_1 5 rfl rfl)
theorem dX7_lays_30 : decode cX7_lays 30 = .ok (.if_icmp .ge 26, 3) := dk_162 0 26 (dk_at dksX7_lays_1 6 rfl rfl)
theorem dX7_lays_33 : decode cX7_lays 33 = .ok (.aload_n 0, 1) := dk_42 (dk_at dksX7_lays_1 9 rfl rfl)
theorem dX7_lays_34 : decode cX7_lays 34 = .ok (.dup, 1) := dk_89 (dk_at dksX7_lays_1 10 rfl rfl)
theorem dX7_lays_35 : decode cX7_lays 35 = .ok (.getfield 298, 3) := dk_180 1 42 (dk_at dksX7_lays_1 11 rfl rfl)
theorem dX7_lays_38 : decode cX7_lays 38 = .ok (.iconst 1, 1) := dk_4 (dk_at dksX7_lays_1 14 rfl rfl)
theorem dX7_lays_39 : decode cX7_lays 39 = .ok (.aload_n 0, 1) := dk_42 (dk_at dksX7_lays_1 15 rfl rfl)
theorem dX7_lays_40 : decode cX7_lays 40 = .ok (.getfield 46, 3) := dk_180 0 46 (dk_at dksX7_lays_1 16 rfl rfl)
theorem dX7_lays_43 : decode cX7_lays 43 = .ok (.iload_n 1, 1) := dk_27 (dk_at dksX7_lays_1 19 rfl rfl)
theorem dX7_lays_44 : decode cX7_lays 44 = .ok (.iaload, 1) := dk_46 (dk_at dksX7_lays_1 20 rfl rfl)
theorem dX7_lays_45 : decode cX7_lays 45 = .ok (.ishl, 1) := dk_120 (dk_at dksX7_lays_1 21 rfl rfl)
theorem dX7_lays_46 : decode cX7_lays 46 = .ok (.ior, 1) := dk_128 (dk_at dksX7_lays_1 22 rfl rfl)
theorem dX7_lays_47 : decode cX7_lays 47 = .ok (.putfield 298, 3) := dk_181 1 42 (dk_at dksX7_lays_2 0 rfl rfl)
theorem dX7_lays_50 : decode cX7_lays 50 = .ok (.iinc 1 1, 3) := dk_132 1 1 (dk_at dksX7_lays_2 3 rfl rfl)
theorem dX7_lays_53 : decode cX7_lays 53 = .ok (.goto (-31), 3) := dk_167 255 225 (dk_at dksX7_lays_2 6 rfl rfl)
theorem dX7_lays_56 : decode cX7_lays 56 = .ok (.iconst 0, 1) := dk_3 (dk_at dksX7_lays_2 9 rfl rfl)
theorem dX7_lays_57 : decode cX7_lays 57 = .ok (.istore_n 1, 1) := dk_60 (dk_at dksX7_lays_2 10 rfl rfl)
theorem dX7_lays_58 : decode cX7_lays 58 = .ok (.iload_n 1, 1) := dk_27 (dk_at dksX7_lays_2 11 rfl rfl)
theorem dX7_lays_59 : decode cX7_lays 59 = .ok (.aload_n 0, 1) := dk_42 (dk_at dksX7_lays_2 12 rfl rfl)
theorem dX7_lays_60 : decode cX7_lays 60 = .ok (.invokevirtual 286, 3) := dk_182 1 30 (dk_at dksX7_lays_2 13 rfl rfl)
theorem dX7_lays_63 : decode cX7_lays 63 = .ok (.if_icmp .ge 46, 3) := dk_162 0 46 (dk_at dksX7_lays_2 16 rfl rfl)
theorem dX7_lays_66 : decode cX7_lays 66 = .ok (.aload_n 0, 1) := dk_42 (dk_at dksX7_lays_2 19 rfl rfl)
theorem dX7_lays_67 : decode cX7_lays 67 = .ok (.getfield 56, 3) := dk_180 0 56 (dk_at dksX7_lays_2 20 rfl rfl)
theorem dX7_lays_70 : decode cX7_lays 70 = .ok (.iload_n 1, 1) := dk_27 (dk_at dksX7_lays_2 23 rfl rfl)
theorem dX7_lays_71 : decode cX7_lays 71 = .ok (.aload_n 0, 1) := dk_42 (dk_at dksX7_lays_3 0 rfl rfl)
theorem dX7_lays_72 : decode cX7_lays 72 = .ok (.getfield 40, 3) := dk_180 0 40 (dk_at dksX7_lays_3 1 rfl rfl)
theorem dX7_lays_75 : decode cX7_lays 75 = .ok (.iconst 2, 1) := dk_5 (dk_at dksX7_lays_3 4 rfl rfl)
theorem dX7_lays_76 : decode cX7_lays 76 = .ok (.iload_n 1, 1) := dk_27 (dk_at dksX7_lays_3 5 rfl rfl)
theorem dX7_lays_77 : decode cX7_lays 77 = .ok (.imul, 1) := dk_104 (dk_at dksX7_lays_3 6 rfl rfl)
theorem dX7_lays_78 : decode cX7_lays 78 = .ok (.iaload, 1) := dk_46 (dk_at dksX7_lays_3 7 rfl rfl)
theorem dX7_lays_79 : decode cX7_lays 79 = .ok (.iastore, 1) := dk_79 (dk_at dksX7_lays_3 8 rfl rfl)
theorem dX7_lays_80 : decode cX7_lays 80 = .ok (.aload_n 0, 1) := dk_42 (dk_at dksX7_lays_3 9 rfl rfl)
theorem dX7_lays_81 : decode cX7_lays 81 = .ok (.getfield 59, 3) := dk_180 0 59 (dk_at dksX7_lays_3 10 rfl rfl)
theorem dX7_lays_84 : decode cX7_lays 84 = .ok (.iload_n 1, 1) := dk_27 (dk_at dksX7_lays_3 13 rfl rfl)
theorem dX7_lays_85 : decode cX7_lays 85 = .ok (.aload_n 0, 1) := dk_42 (dk_at dksX7_lays_3 14 rfl rfl)
theorem dX7_lays_86 : decode cX7_lays 86 = .ok (.getfield 40, 3) := dk_180 0 40 (dk_at dksX7_lays_3 15 rfl rfl)
theorem dX7_lays_89 : decode cX7_lays 89 = .ok (.iconst 2, 1) := dk_5 (dk_at dksX7_lays_3 18 rfl rfl)
theorem dX7_lays_90 : decode cX7_lays 90 = .ok (.iload_n 1, 1) := dk_27 (dk_at dksX7_lays_3 19 rfl rfl)
theorem dX7_lays_91 : decode cX7_lays 91 = .ok (.imul, 1) := dk_104 (dk_at dksX7_lays_3 20 rfl rfl)
theorem dX7_lays_92 : decode cX7_lays 92 = .ok (.iconst 1, 1) := dk_4 (dk_at dksX7_lays_3 21 rfl rfl)
theorem dX7_lays_93 : decode cX7_lays 93 = .ok (.iadd, 1) := dk_96 (dk_at dksX7_lays_3 22 rfl rfl)
theorem dX7_lays_94 : decode cX7_lays 94 = .ok (.iaload, 1) := dk_46 (dk_at dksX7_lays_3 23 rfl rfl)
theorem dX7_lays_95 : decode cX7_lays 95 = .ok (.iastore, 1) := dk_79 (dk_at dksX7_lays_4 0 rfl rfl)
theorem dX7_lays_96 : decode cX7_lays 96 = .ok (.aload_n 0, 1) := dk_42 (dk_at dksX7_lays_4 1 rfl rfl)
theorem dX7_lays_97 : decode cX7_lays 97 = .ok (.getfield 62, 3) := dk_180 0 62 (dk_at dksX7_lays_4 2 rfl rfl)
theorem dX7_lays_100 : decode cX7_lays 100 = .ok (.iload_n 1, 1) := dk_27 (dk_at dksX7_lays_4 5 rfl rfl)
theorem dX7_lays_101 : decode cX7_lays 101 = .ok (.iload_n 1, 1) := dk_27 (dk_at dksX7_lays_4 6 rfl rfl)
theorem dX7_lays_102 : decode cX7_lays 102 = .ok (.iastore, 1) := dk_79 (dk_at dksX7_lays_4 7 rfl rfl)
theorem dX7_lays_103 : decode cX7_lays 103 = .ok (.iinc 1 1, 3) := dk_132 1 1 (dk_at dksX7_lays_4 8 rfl rfl)
theorem dX7_lays_106 : decode cX7_lays 106 = .ok (.goto (-48), 3) := dk_167 255 208 (dk_at dksX7_lays_4 11 rfl rfl)
theorem dX7_lays_109 : decode cX7_lays 109 = .ok (.iconst 0, 1) := dk_3 (dk_at dksX7_lays_4 14 rfl rfl)
theorem dX7_lays_110 : decode cX7_lays 110 = .ok (.istore_n 1, 1) := dk_60 (dk_at dksX7_lays_4 15 rfl rfl)
theorem dX7_lays_111 : decode cX7_lays 111 = .ok (.iload_n 1, 1) := dk_27 (dk_at dksX7_lays_4 16 rfl rfl)
theorem dX7_lays_112 : decode cX7_lays 112 = .ok (.aload_n 0, 1) := dk_42 (dk_at dksX7_lays_4 17 rfl rfl)
theorem dX7_lays_113 : decode cX7_lays 113 = .ok (.getfield 34, 3) := dk_180 0 34 (dk_at dksX7_lays_4 18 rfl rfl)
theorem dX7_lays_116 : decode cX7_lays 116 = .ok (.bipush 7, 2) := dk_16 7 (dk_at dksX7_lays_4 21 rfl rfl)
theorem dX7_lays_118 : decode cX7_lays 118 = .ok (.iaload, 1) := dk_46 (dk_at dksX7_lays_4 23 rfl rfl)
theorem dX7_lays_119 : decode cX7_lays 119 = .ok (.if_icmp .ge 87, 3) := dk_162 0 87 (dk_at dksX7_lays_5 0 rfl rfl)
theorem dX7_lays_122 : decode cX7_lays 122 = .ok (.aload_n 0, 1) := dk_42 (dk_at dksX7_lays_5 3 rfl rfl)
theorem dX7_lays_123 : decode cX7_lays 123 = .ok (.getfield 49, 3) := dk_180 0 49 (dk_at dksX7_lays_5 4 rfl rfl)
theorem dX7_lays_126 : decode cX7_lays 126 = .ok (.iconst 3, 1) := dk_6 (dk_at dksX7_lays_5 7 rfl rfl)
theorem dX7_lays_127 : decode cX7_lays 127 = .ok (.iload_n 1, 1) := dk_27 (dk_at dksX7_lays_5 8 rfl rfl)
theorem dX7_lays_128 : decode cX7_lays 128 = .ok (.imul, 1) := dk_104 (dk_at dksX7_lays_5 9 rfl rfl)
theorem dX7_lays_129 : decode cX7_lays 129 = .ok (.iconst 1, 1) := dk_4 (dk_at dksX7_lays_5 10 rfl rfl)
theorem dX7_lays_130 : decode cX7_lays 130 = .ok (.iadd, 1) := dk_96 (dk_at dksX7_lays_5 11 rfl rfl)
theorem dX7_lays_131 : decode cX7_lays 131 = .ok (.iaload, 1) := dk_46 (dk_at dksX7_lays_5 12 rfl rfl)
theorem dX7_lays_132 : decode cX7_lays 132 = .ok (.istore_n 2, 1) := dk_61 (dk_at dksX7_lays_5 13 rfl rfl)
theorem dX7_lays_133 : decode cX7_lays 133 = .ok (.aload_n 0, 1) := dk_42 (dk_at dksX7_lays_5 14 rfl rfl)
theorem dX7_lays_134 : decode cX7_lays 134 = .ok (.getfield 49, 3) := dk_180 0 49 (dk_at dksX7_lays_5 15 rfl rfl)
theorem dX7_lays_137 : decode cX7_lays 137 = .ok (.iconst 3, 1) := dk_6 (dk_at dksX7_lays_5 18 rfl rfl)
theorem dX7_lays_138 : decode cX7_lays 138 = .ok (.iload_n 1, 1) := dk_27 (dk_at dksX7_lays_5 19 rfl rfl)
theorem dX7_lays_139 : decode cX7_lays 139 = .ok (.imul, 1) := dk_104 (dk_at dksX7_lays_5 20 rfl rfl)
theorem dX7_lays_140 : decode cX7_lays 140 = .ok (.iaload, 1) := dk_46 (dk_at dksX7_lays_5 21 rfl rfl)
theorem dX7_lays_141 : decode cX7_lays 141 = .ok (.ifCond .ne 22, 3) := dk_154 0 22 (dk_at dksX7_lays_6 0 rfl rfl)
theorem dX7_lays_144 : decode cX7_lays 144 = .ok (.aload_n 0, 1) := dk_42 (dk_at dksX7_lays_6 3 rfl rfl)
theorem dX7_lays_145 : decode cX7_lays 145 = .ok (.getfield 59, 3) := dk_180 0 59 (dk_at dksX7_lays_6 4 rfl rfl)
theorem dX7_lays_148 : decode cX7_lays 148 = .ok (.iload_n 2, 1) := dk_28 (dk_at dksX7_lays_6 7 rfl rfl)
theorem dX7_lays_149 : decode cX7_lays 149 = .ok (.aload_n 0, 1) := dk_42 (dk_at dksX7_lays_6 8 rfl rfl)
theorem dX7_lays_150 : decode cX7_lays 150 = .ok (.getfield 49, 3) := dk_180 0 49 (dk_at dksX7_lays_6 9 rfl rfl)
theorem dX7_lays_153 : decode cX7_lays 153 = .ok (.iconst 3, 1) := dk_6 (dk_at dksX7_lays_6 12 rfl rfl)
theorem dX7_lays_154 : decode cX7_lays 154 = .ok (.iload_n 1, 1) := dk_27 (dk_at dksX7_lays_6 13 rfl rfl)
theorem dX7_lays_155 : decode cX7_lays 155 = .ok (.imul, 1) := dk_104 (dk_at dksX7_lays_6 14 rfl rfl)
theorem dX7_lays_156 : decode cX7_lays 156 = .ok (.iconst 2, 1) := dk_5 (dk_at dksX7_lays_6 15 rfl rfl)
theorem dX7_lays_157 : decode cX7_lays 157 = .ok (.iadd, 1) := dk_96 (dk_at dksX7_lays_6 16 rfl rfl)
theorem dX7_lays_158 : decode cX7_lays 158 = .ok (.iaload, 1) := dk_46 (dk_at dksX7_lays_6 17 rfl rfl)
theorem dX7_lays_159 : decode cX7_lays 159 = .ok (.iastore, 1) := dk_79 (dk_at dksX7_lays_6 18 rfl rfl)
theorem dX7_lays_160 : decode cX7_lays 160 = .ok (.goto 40, 3) := dk_167 0 40 (dk_at dksX7_lays_6 19 rfl rfl)
theorem dX7_lays_163 : decode cX7_lays 163 = .ok (.aload_n 0, 1) := dk_42 (dk_at dksX7_lays_6 22 rfl rfl)
theorem dX7_lays_164 : decode cX7_lays 164 = .ok (.aload_n 0, 1) := dk_42 (dk_at dksX7_lays_6 23 rfl rfl)
theorem dX7_lays_165 : decode cX7_lays 165 = .ok (.getfield 49, 3) := dk_180 0 49 (dk_at dksX7_lays_7 0 rfl rfl)
theorem dX7_lays_168 : decode cX7_lays 168 = .ok (.iconst 3, 1) := dk_6 (dk_at dksX7_lays_7 3 rfl rfl)
theorem dX7_lays_169 : decode cX7_lays 169 = .ok (.iload_n 1, 1) := dk_27 (dk_at dksX7_lays_7 4 rfl rfl)
theorem dX7_lays_170 : decode cX7_lays 170 = .ok (.imul, 1) := dk_104 (dk_at dksX7_lays_7 5 rfl rfl)
theorem dX7_lays_171 : decode cX7_lays 171 = .ok (.iaload, 1) := dk_46 (dk_at dksX7_lays_7 6 rfl rfl)
theorem dX7_lays_172 : decode cX7_lays 172 = .ok (.iconst 1, 1) := dk_4 (dk_at dksX7_lays_7 7 rfl rfl)
theorem dX7_lays_173 : decode cX7_lays 173 = .ok (.if_icmp .ne 14, 3) := dk_160 0 14 (dk_at dksX7_lays_7 8 rfl rfl)
theorem dX7_lays_176 : decode cX7_lays 176 = .ok (.aload_n 0, 1) := dk_42 (dk_at dksX7_lays_7 11 rfl rfl)
theorem dX7_lays_177 : decode cX7_lays 177 = .ok (.getfield 298, 3) := dk_180 1 42 (dk_at dksX7_lays_7 12 rfl rfl)
theorem dX7_lays_180 : decode cX7_lays 180 = .ok (.iconst 1, 1) := dk_4 (dk_at dksX7_lays_7 15 rfl rfl)
theorem dX7_lays_181 : decode cX7_lays 181 = .ok (.iload_n 2, 1) := dk_28 (dk_at dksX7_lays_7 16 rfl rfl)
theorem dX7_lays_182 : decode cX7_lays 182 = .ok (.ishl, 1) := dk_120 (dk_at dksX7_lays_7 17 rfl rfl)
theorem dX7_lays_183 : decode cX7_lays 183 = .ok (.ior, 1) := dk_128 (dk_at dksX7_lays_7 18 rfl rfl)
theorem dX7_lays_184 : decode cX7_lays 184 = .ok (.goto 13, 3) := dk_167 0 13 (dk_at dksX7_lays_7 19 rfl rfl)
theorem dX7_lays_187 : decode cX7_lays 187 = .ok (.aload_n 0, 1) := dk_42 (dk_at dksX7_lays_7 22 rfl rfl)
theorem dX7_lays_188 : decode cX7_lays 188 = .ok (.getfield 298, 3) := dk_180 1 42 (dk_at dksX7_lays_8 0 rfl rfl)
theorem dX7_lays_191 : decode cX7_lays 191 = .ok (.iconst 1, 1) := dk_4 (dk_at dksX7_lays_8 3 rfl rfl)
theorem dX7_lays_192 : decode cX7_lays 192 = .ok (.iload_n 2, 1) := dk_28 (dk_at dksX7_lays_8 4 rfl rfl)
theorem dX7_lays_193 : decode cX7_lays 193 = .ok (.ishl, 1) := dk_120 (dk_at dksX7_lays_8 5 rfl rfl)
theorem dX7_lays_194 : decode cX7_lays 194 = .ok (.iconst (-1), 1) := dk_2 (dk_at dksX7_lays_8 6 rfl rfl)
theorem dX7_lays_195 : decode cX7_lays 195 = .ok (.ixor, 1) := dk_130 (dk_at dksX7_lays_8 7 rfl rfl)
theorem dX7_lays_196 : decode cX7_lays 196 = .ok (.iand, 1) := dk_126 (dk_at dksX7_lays_8 8 rfl rfl)
theorem dX7_lays_197 : decode cX7_lays 197 = .ok (.putfield 298, 3) := dk_181 1 42 (dk_at dksX7_lays_8 9 rfl rfl)
theorem dX7_lays_200 : decode cX7_lays 200 = .ok (.iinc 1 1, 3) := dk_132 1 1 (dk_at dksX7_lays_8 12 rfl rfl)
theorem dX7_lays_203 : decode cX7_lays 203 = .ok (.goto (-92), 3) := dk_167 255 164 (dk_at dksX7_lays_8 15 rfl rfl)
theorem dX7_lays_206 : decode cX7_lays 206 = .ok (.return_, 1) := dk_177 (dk_at dksX7_lays_8 18 rfl rfl)
abbrev cX7_isBit : ByteArray := prog_12_method_46_code
def yX7_isBit : MethodName := ⟨RX7, "isBit", "(II)Z"⟩
def dkwX7_isBit_0 : List UInt8 := [26, 27, 122, 4, 126, 4, 160, 0, 7, 4, 167, 0, 4, 3, 172]
abbrev dktX7_isBit_0 : List UInt8 := dkwX7_isBit_0 ++ []
theorem dksX7_isBit_0 : cX7_isBit.data.toList.drop 0 = dktX7_isBit_0 := by decide +kernel
theorem dX7_isBit_0 : decode cX7_isBit 0 = .ok (.iload_n 0, 1) := dk_26 (dk_at dksX7_isBit_0 0 rfl rfl)
theorem dX7_isBit_1 : decode cX7_isBit 1 = .ok (.iload_n 1, 1) := dk_27 (dk_at dksX7_isBit_0 1 rfl rfl)
theorem dX7_isBit_2 : decode cX7_isBit 2 = .ok (.ishr, 1) := dk_122 (dk_at dksX7_isBit_0 2 rfl rfl)
theorem dX7_isBit_3 : decode cX7_isBit 3 = .ok (.iconst 1, 1) := dk_4 (dk_at dksX7_isBit_0 3 rfl rfl)
theorem dX7_isBit_4 : decode cX7_isBit 4 = .ok (.iand, 1) := dk_126 (dk_at dksX7_isBit_0 4 rfl rfl)
theorem dX7_isBit_5 : decode cX7_isBit 5 = .ok (.iconst 1, 1) := dk_4 (dk_at dksX7_isBit_0 5 rfl rfl)
theorem dX7_isBit_6 : decode cX7_isBit 6 = .ok (.if_icmp .ne 7, 3) := dk_160 0 7 (dk_at dksX7_isBit_0 6 rfl rfl)
theorem dX7_isBit_9 : decode cX7_isBit 9 = .ok (.iconst 1, 1) := dk_4 (dk_at dksX7_isBit_0 9 rfl rfl)
theorem dX7_isBit_10 : decode cX7_isBit 10 = .ok (.goto 4, 3) := dk_167 0 4 (dk_at dksX7_isBit_0 10 rfl rfl)
theorem dX7_isBit_13 : decode cX7_isBit 13 = .ok (.iconst 0, 1) := dk_3 (dk_at dksX7_isBit_0 13 rfl rfl)
theorem dX7_isBit_14 : decode cX7_isBit 14 = .ok (.ireturn, 1) := dk_172 (dk_at dksX7_isBit_0 14 rfl rfl)
abbrev cX7_goes : ByteArray := prog_12_method_66_code
def yX7_goes : MethodName := ⟨RX7, "goes", "(I)I"⟩
def dkwX7_goes_1 : List UInt8 := [180, 0, 80, 27, 46, 172]
abbrev dktX7_goes_1 : List UInt8 := dkwX7_goes_1 ++ []
def dkwX7_goes_0 : List UInt8 := [42, 3, 181, 0, 116, 42, 27, 133, 182, 1, 33, 154, 0, 6, 16, 254, 172, 42, 182, 1, 80, 42]
abbrev dktX7_goes_0 : List UInt8 := dkwX7_goes_0 ++ dktX7_goes_1
theorem dksX7_goes_0 : cX7_goes.data.toList.drop 0 = dktX7_goes_0 := by decide +kernel
theorem dksX7_goes_1 : cX7_goes.data.toList.drop 22 = dktX7_goes_1 := dk_seg dksX7_goes_0 22 rfl rfl
theorem dX7_goes_0 : decode cX7_goes 0 = .ok (.aload_n 0, 1) := dk_42 (dk_at dksX7_goes_0 0 rfl rfl)
theorem dX7_goes_1 : decode cX7_goes 1 = .ok (.iconst 0, 1) := dk_3 (dk_at dksX7_goes_0 1 rfl rfl)
theorem dX7_goes_2 : decode cX7_goes 2 = .ok (.putfield 116, 3) := dk_181 0 116 (dk_at dksX7_goes_0 2 rfl rfl)
theorem dX7_goes_5 : decode cX7_goes 5 = .ok (.aload_n 0, 1) := dk_42 (dk_at dksX7_goes_0 5 rfl rfl)
theorem dX7_goes_6 : decode cX7_goes 6 = .ok (.iload_n 1, 1) := dk_27 (dk_at dksX7_goes_0 6 rfl rfl)
theorem dX7_goes_7 : decode cX7_goes 7 = .ok (.i2l, 1) := dk_133 (dk_at dksX7_goes_0 7 rfl rfl)
theorem dX7_goes_8 : decode cX7_goes 8 = .ok (.invokevirtual 289, 3) := dk_182 1 33 (dk_at dksX7_goes_0 8 rfl rfl)
theorem dX7_goes_11 : decode cX7_goes 11 = .ok (.ifCond .ne 6, 3) := dk_154 0 6 (dk_at dksX7_goes_0 11 rfl rfl)
theorem dX7_goes_14 : decode cX7_goes 14 = .ok (.bipush (-2), 2) := dk_16 254 (dk_at dksX7_goes_0 14 rfl rfl)
theorem dX7_goes_16 : decode cX7_goes 16 = .ok (.ireturn, 1) := dk_172 (dk_at dksX7_goes_0 16 rfl rfl)
theorem dX7_goes_17 : decode cX7_goes 17 = .ok (.aload_n 0, 1) := dk_42 (dk_at dksX7_goes_0 17 rfl rfl)
theorem dX7_goes_18 : decode cX7_goes 18 = .ok (.invokevirtual 336, 3) := dk_182 1 80 (dk_at dksX7_goes_0 18 rfl rfl)
theorem dX7_goes_21 : decode cX7_goes 21 = .ok (.aload_n 0, 1) := dk_42 (dk_at dksX7_goes_0 21 rfl rfl)
theorem dX7_goes_22 : decode cX7_goes 22 = .ok (.getfield 80, 3) := dk_180 0 80 (dk_at dksX7_goes_1 0 rfl rfl)
theorem dX7_goes_25 : decode cX7_goes 25 = .ok (.iload_n 1, 1) := dk_27 (dk_at dksX7_goes_1 3 rfl rfl)
theorem dX7_goes_26 : decode cX7_goes 26 = .ok (.iaload, 1) := dk_46 (dk_at dksX7_goes_1 4 rfl rfl)
theorem dX7_goes_27 : decode cX7_goes 27 = .ok (.ireturn, 1) := dk_172 (dk_at dksX7_goes_1 5 rfl rfl)
abbrev cX7_laysNow : ByteArray := prog_12_method_57_code
def yX7_laysNow : MethodName := ⟨RX7, "laysNow", "()V"⟩
def dkwX7_laysNow_0 : List UInt8 := [42, 182, 1, 74, 42, 182, 1, 77, 177]
abbrev dktX7_laysNow_0 : List UInt8 := dkwX7_laysNow_0 ++ []
theorem dksX7_laysNow_0 : cX7_laysNow.data.toList.drop 0 = dktX7_laysNow_0 := by decide +kernel
theorem dX7_laysNow_0 : decode cX7_laysNow 0 = .ok (.aload_n 0, 1) := dk_42 (dk_at dksX7_laysNow_0 0 rfl rfl)
theorem dX7_laysNow_1 : decode cX7_laysNow 1 = .ok (.invokevirtual 330, 3) := dk_182 1 74 (dk_at dksX7_laysNow_0 1 rfl rfl)
theorem dX7_laysNow_4 : decode cX7_laysNow 4 = .ok (.aload_n 0, 1) := dk_42 (dk_at dksX7_laysNow_0 4 rfl rfl)
theorem dX7_laysNow_5 : decode cX7_laysNow 5 = .ok (.invokevirtual 333, 3) := dk_182 1 77 (dk_at dksX7_laysNow_0 5 rfl rfl)
theorem dX7_laysNow_8 : decode cX7_laysNow 8 = .ok (.return_, 1) := dk_177 (dk_at dksX7_laysNow_0 8 rfl rfl)
abbrev cX7_runs : ByteArray := prog_12_method_56_code
def yX7_runs : MethodName := ⟨RX7, "runs", "()V"⟩
def dkwX7_runs_4 : List UInt8 := [104, 29, 96, 46, 79, 132, 3, 1, 167, 255, 217, 132, 2, 1, 167, 255, 170, 132, 1, 1, 167, 255, 149, 177]
abbrev dktX7_runs_4 : List UInt8 := dkwX7_runs_4 ++ []
def dkwX7_runs_3 : List UInt8 := [162, 0, 35, 42, 180, 0, 101, 16, 8, 6, 27, 104, 28, 96, 104, 29, 96, 42, 180, 0, 65, 16, 8, 28]
abbrev dktX7_runs_3 : List UInt8 := dkwX7_runs_3 ++ dktX7_runs_4
def dkwX7_runs_2 : List UInt8 := [180, 0, 98, 6, 27, 104, 28, 96, 42, 28, 182, 1, 61, 79, 3, 62, 29, 42, 180, 0, 71, 28, 46]
abbrev dktX7_runs_2 : List UInt8 := dkwX7_runs_2 ++ dktX7_runs_3
def dkwX7_runs_1 : List UInt8 := [182, 1, 27, 162, 0, 84, 42, 180, 0, 95, 6, 27, 104, 28, 96, 42, 180, 0, 71, 28, 46, 79, 42]
abbrev dktX7_runs_1 : List UInt8 := dkwX7_runs_1 ++ dktX7_runs_2
def dkwX7_runs_0 : List UInt8 := [42, 182, 1, 68, 3, 60, 27, 42, 182, 1, 30, 162, 0, 105, 42, 27, 182, 1, 71, 3, 61, 28, 42]
abbrev dktX7_runs_0 : List UInt8 := dkwX7_runs_0 ++ dktX7_runs_1
theorem dksX7_runs_0 : cX7_runs.data.toList.drop 0 = dktX7_runs_0 := by decide +kernel
theorem dksX7_runs_1 : cX7_runs.data.toList.drop 23 = dktX7_runs_1 := dk_seg dksX7_runs_0 23 rfl rfl
theorem dksX7_runs_2 : cX7_runs.data.toList.drop 46 = dktX7_runs_2 := dk_seg dksX7_runs_1 23 rfl rfl
theorem dksX7_runs_3 : cX7_runs.data.toList.drop 69 = dktX7_runs_3 := dk_seg dksX7_runs_2 23 rfl rfl
theorem dksX7_runs_4 : cX7_runs.data.toList.drop 93 = dktX7_runs_4 := dk_seg dksX7_runs_3 24 rfl rfl
theorem dX7_runs_0 : decode cX7_runs 0 = .ok (.aload_n 0, 1) := dk_42 (dk_at dksX7_runs_0 0 rfl rfl)
theorem dX7_runs_1 : decode cX7_runs 1 = .ok (.invokevirtual 324, 3) := dk_182 1 68 (dk_at dksX7_runs_0 1 rfl rfl)
theorem dX7_runs_4 : decode cX7_runs 4 = .ok (.iconst 0, 1) := dk_3 (dk_at dksX7_runs_0 4 rfl rfl)
theorem dX7_runs_5 : decode cX7_runs 5 = .ok (.istore_n 1, 1) := dk_60 (dk_at dksX7_runs_0 5 rfl rfl)
theorem dX7_runs_6 : decode cX7_runs 6 = .ok (.iload_n 1, 1) := dk_27 (dk_at dksX7_runs_0 6 rfl rfl)
theorem dX7_runs_7 : decode cX7_runs 7 = .ok (.aload_n 0, 1) := dk_42 (dk_at dksX7_runs_0 7 rfl rfl)
theorem dX7_runs_8 : decode cX7_runs 8 = .ok (.invokevirtual 286, 3) := dk_182 1 30 (dk_at dksX7_runs_0 8 rfl rfl)
theorem dX7_runs_11 : decode cX7_runs 11 = .ok (.if_icmp .ge 105, 3) := dk_162 0 105 (dk_at dksX7_runs_0 11 rfl rfl)
theorem dX7_runs_14 : decode cX7_runs 14 = .ok (.aload_n 0, 1) := dk_42 (dk_at dksX7_runs_0 14 rfl rfl)
theorem dX7_runs_15 : decode cX7_runs 15 = .ok (.iload_n 1, 1) := dk_27 (dk_at dksX7_runs_0 15 rfl rfl)
theorem dX7_runs_16 : decode cX7_runs 16 = .ok (.invokevirtual 327, 3) := dk_182 1 71 (dk_at dksX7_runs_0 16 rfl rfl)
theorem dX7_runs_19 : decode cX7_runs 19 = .ok (.iconst 0, 1) := dk_3 (dk_at dksX7_runs_0 19 rfl rfl)
theorem dX7_runs_20 : decode cX7_runs 20 = .ok (.istore_n 2, 1) := dk_61 (dk_at dksX7_runs_0 20 rfl rfl)
theorem dX7_runs_21 : decode cX7_runs 21 = .ok (.iload_n 2, 1) := dk_28 (dk_at dksX7_runs_0 21 rfl rfl)
theorem dX7_runs_22 : decode cX7_runs 22 = .ok (.aload_n 0, 1) := dk_42 (dk_at dksX7_runs_0 22 rfl rfl)
theorem dX7_runs_23 : decode cX7_runs 23 = .ok (.invokevirtual 283, 3) := dk_182 1 27 (dk_at dksX7_runs_1 0 rfl rfl)
theorem dX7_runs_26 : decode cX7_runs 26 = .ok (.if_icmp .ge 84, 3) := dk_162 0 84 (dk_at dksX7_runs_1 3 rfl rfl)
theorem dX7_runs_29 : decode cX7_runs 29 = .ok (.aload_n 0, 1) := dk_42 (dk_at dksX7_runs_1 6 rfl rfl)
theorem dX7_runs_30 : decode cX7_runs 30 = .ok (.getfield 95, 3) := dk_180 0 95 (dk_at dksX7_runs_1 7 rfl rfl)
theorem dX7_runs_33 : decode cX7_runs 33 = .ok (.iconst 3, 1) := dk_6 (dk_at dksX7_runs_1 10 rfl rfl)
theorem dX7_runs_34 : decode cX7_runs 34 = .ok (.iload_n 1, 1) := dk_27 (dk_at dksX7_runs_1 11 rfl rfl)
theorem dX7_runs_35 : decode cX7_runs 35 = .ok (.imul, 1) := dk_104 (dk_at dksX7_runs_1 12 rfl rfl)
theorem dX7_runs_36 : decode cX7_runs 36 = .ok (.iload_n 2, 1) := dk_28 (dk_at dksX7_runs_1 13 rfl rfl)
theorem dX7_runs_37 : decode cX7_runs 37 = .ok (.iadd, 1) := dk_96 (dk_at dksX7_runs_1 14 rfl rfl)
theorem dX7_runs_38 : decode cX7_runs 38 = .ok (.aload_n 0, 1) := dk_42 (dk_at dksX7_runs_1 15 rfl rfl)
theorem dX7_runs_39 : decode cX7_runs 39 = .ok (.getfield 71, 3) := dk_180 0 71 (dk_at dksX7_runs_1 16 rfl rfl)
theorem dX7_runs_42 : decode cX7_runs 42 = .ok (.iload_n 2, 1) := dk_28 (dk_at dksX7_runs_1 19 rfl rfl)
theorem dX7_runs_43 : decode cX7_runs 43 = .ok (.iaload, 1) := dk_46 (dk_at dksX7_runs_1 20 rfl rfl)
theorem dX7_runs_44 : decode cX7_runs 44 = .ok (.iastore, 1) := dk_79 (dk_at dksX7_runs_1 21 rfl rfl)
theorem dX7_runs_45 : decode cX7_runs 45 = .ok (.aload_n 0, 1) := dk_42 (dk_at dksX7_runs_1 22 rfl rfl)
theorem dX7_runs_46 : decode cX7_runs 46 = .ok (.getfield 98, 3) := dk_180 0 98 (dk_at dksX7_runs_2 0 rfl rfl)
theorem dX7_runs_49 : decode cX7_runs 49 = .ok (.iconst 3, 1) := dk_6 (dk_at dksX7_runs_2 3 rfl rfl)
theorem dX7_runs_50 : decode cX7_runs 50 = .ok (.iload_n 1, 1) := dk_27 (dk_at dksX7_runs_2 4 rfl rfl)
theorem dX7_runs_51 : decode cX7_runs 51 = .ok (.imul, 1) := dk_104 (dk_at dksX7_runs_2 5 rfl rfl)
theorem dX7_runs_52 : decode cX7_runs 52 = .ok (.iload_n 2, 1) := dk_28 (dk_at dksX7_runs_2 6 rfl rfl)
theorem dX7_runs_53 : decode cX7_runs 53 = .ok (.iadd, 1) := dk_96 (dk_at dksX7_runs_2 7 rfl rfl)
theorem dX7_runs_54 : decode cX7_runs 54 = .ok (.aload_n 0, 1) := dk_42 (dk_at dksX7_runs_2 8 rfl rfl)
theorem dX7_runs_55 : decode cX7_runs 55 = .ok (.iload_n 2, 1) := dk_28 (dk_at dksX7_runs_2 9 rfl rfl)
theorem dX7_runs_56 : decode cX7_runs 56 = .ok (.invokevirtual 317, 3) := dk_182 1 61 (dk_at dksX7_runs_2 10 rfl rfl)
theorem dX7_runs_59 : decode cX7_runs 59 = .ok (.iastore, 1) := dk_79 (dk_at dksX7_runs_2 13 rfl rfl)
theorem dX7_runs_60 : decode cX7_runs 60 = .ok (.iconst 0, 1) := dk_3 (dk_at dksX7_runs_2 14 rfl rfl)
theorem dX7_runs_61 : decode cX7_runs 61 = .ok (.istore_n 3, 1) := dk_62 (dk_at dksX7_runs_2 15 rfl rfl)
theorem dX7_runs_62 : decode cX7_runs 62 = .ok (.iload_n 3, 1) := dk_29 (dk_at dksX7_runs_2 16 rfl rfl)
theorem dX7_runs_63 : decode cX7_runs 63 = .ok (.aload_n 0, 1) := dk_42 (dk_at dksX7_runs_2 17 rfl rfl)
theorem dX7_runs_64 : decode cX7_runs 64 = .ok (.getfield 71, 3) := dk_180 0 71 (dk_at dksX7_runs_2 18 rfl rfl)
theorem dX7_runs_67 : decode cX7_runs 67 = .ok (.iload_n 2, 1) := dk_28 (dk_at dksX7_runs_2 21 rfl rfl)
theorem dX7_runs_68 : decode cX7_runs 68 = .ok (.iaload, 1) := dk_46 (dk_at dksX7_runs_2 22 rfl rfl)
theorem dX7_runs_69 : decode cX7_runs 69 = .ok (.if_icmp .ge 35, 3) := dk_162 0 35 (dk_at dksX7_runs_3 0 rfl rfl)
theorem dX7_runs_72 : decode cX7_runs 72 = .ok (.aload_n 0, 1) := dk_42 (dk_at dksX7_runs_3 3 rfl rfl)
theorem dX7_runs_73 : decode cX7_runs 73 = .ok (.getfield 101, 3) := dk_180 0 101 (dk_at dksX7_runs_3 4 rfl rfl)
theorem dX7_runs_76 : decode cX7_runs 76 = .ok (.bipush 8, 2) := dk_16 8 (dk_at dksX7_runs_3 7 rfl rfl)
theorem dX7_runs_78 : decode cX7_runs 78 = .ok (.iconst 3, 1) := dk_6 (dk_at dksX7_runs_3 9 rfl rfl)
theorem dX7_runs_79 : decode cX7_runs 79 = .ok (.iload_n 1, 1) := dk_27 (dk_at dksX7_runs_3 10 rfl rfl)
theorem dX7_runs_80 : decode cX7_runs 80 = .ok (.imul, 1) := dk_104 (dk_at dksX7_runs_3 11 rfl rfl)
theorem dX7_runs_81 : decode cX7_runs 81 = .ok (.iload_n 2, 1) := dk_28 (dk_at dksX7_runs_3 12 rfl rfl)
theorem dX7_runs_82 : decode cX7_runs 82 = .ok (.iadd, 1) := dk_96 (dk_at dksX7_runs_3 13 rfl rfl)
theorem dX7_runs_83 : decode cX7_runs 83 = .ok (.imul, 1) := dk_104 (dk_at dksX7_runs_3 14 rfl rfl)
theorem dX7_runs_84 : decode cX7_runs 84 = .ok (.iload_n 3, 1) := dk_29 (dk_at dksX7_runs_3 15 rfl rfl)
theorem dX7_runs_85 : decode cX7_runs 85 = .ok (.iadd, 1) := dk_96 (dk_at dksX7_runs_3 16 rfl rfl)
theorem dX7_runs_86 : decode cX7_runs 86 = .ok (.aload_n 0, 1) := dk_42 (dk_at dksX7_runs_3 17 rfl rfl)
theorem dX7_runs_87 : decode cX7_runs 87 = .ok (.getfield 65, 3) := dk_180 0 65 (dk_at dksX7_runs_3 18 rfl rfl)
theorem dX7_runs_90 : decode cX7_runs 90 = .ok (.bipush 8, 2) := dk_16 8 (dk_at dksX7_runs_3 21 rfl rfl)
theorem dX7_runs_92 : decode cX7_runs 92 = .ok (.iload_n 2, 1) := dk_28 (dk_at dksX7_runs_3 23 rfl rfl)
theorem dX7_runs_93 : decode cX7_runs 93 = .ok (.imul, 1) := dk_104 (dk_at dksX7_runs_4 0 rfl rfl)
theorem dX7_runs_94 : decode cX7_runs 94 = .ok (.iload_n 3, 1) := dk_29 (dk_at dksX7_runs_4 1 rfl rfl)
theorem dX7_runs_95 : decode cX7_runs 95 = .ok (.iadd, 1) := dk_96 (dk_at dksX7_runs_4 2 rfl rfl)
theorem dX7_runs_96 : decode cX7_runs 96 = .ok (.iaload, 1) := dk_46 (dk_at dksX7_runs_4 3 rfl rfl)
theorem dX7_runs_97 : decode cX7_runs 97 = .ok (.iastore, 1) := dk_79 (dk_at dksX7_runs_4 4 rfl rfl)
theorem dX7_runs_98 : decode cX7_runs 98 = .ok (.iinc 3 1, 3) := dk_132 3 1 (dk_at dksX7_runs_4 5 rfl rfl)
theorem dX7_runs_101 : decode cX7_runs 101 = .ok (.goto (-39), 3) := dk_167 255 217 (dk_at dksX7_runs_4 8 rfl rfl)
theorem dX7_runs_104 : decode cX7_runs 104 = .ok (.iinc 2 1, 3) := dk_132 2 1 (dk_at dksX7_runs_4 11 rfl rfl)
theorem dX7_runs_107 : decode cX7_runs 107 = .ok (.goto (-86), 3) := dk_167 255 170 (dk_at dksX7_runs_4 14 rfl rfl)
theorem dX7_runs_110 : decode cX7_runs 110 = .ok (.iinc 1 1, 3) := dk_132 1 1 (dk_at dksX7_runs_4 17 rfl rfl)
theorem dX7_runs_113 : decode cX7_runs 113 = .ok (.goto (-107), 3) := dk_167 255 149 (dk_at dksX7_runs_4 20 rfl rfl)
theorem dX7_runs_116 : decode cX7_runs 116 = .ok (.return_, 1) := dk_177 (dk_at dksX7_runs_4 23 rfl rfl)
abbrev cX7_begin : ByteArray := prog_12_method_55_code
def yX7_begin : MethodName := ⟨RX7, "begin", "()V"⟩
def dkwX7_begin_1 : List UInt8 := [180, 0, 77, 27, 18, 166, 79, 132, 1, 1, 167, 255, 226, 177]
abbrev dktX7_begin_1 : List UInt8 := dkwX7_begin_1 ++ []
def dkwX7_begin_0 : List UInt8 := [3, 60, 27, 6, 162, 0, 31, 42, 180, 0, 71, 27, 3, 79, 42, 180, 0, 74, 27, 2, 79, 42]
abbrev dktX7_begin_0 : List UInt8 := dkwX7_begin_0 ++ dktX7_begin_1
theorem dksX7_begin_0 : cX7_begin.data.toList.drop 0 = dktX7_begin_0 := by decide +kernel
theorem dksX7_begin_1 : cX7_begin.data.toList.drop 22 = dktX7_begin_1 := dk_seg dksX7_begin_0 22 rfl rfl
theorem dX7_begin_0 : decode cX7_begin 0 = .ok (.iconst 0, 1) := dk_3 (dk_at dksX7_begin_0 0 rfl rfl)
theorem dX7_begin_1 : decode cX7_begin 1 = .ok (.istore_n 1, 1) := dk_60 (dk_at dksX7_begin_0 1 rfl rfl)
theorem dX7_begin_2 : decode cX7_begin 2 = .ok (.iload_n 1, 1) := dk_27 (dk_at dksX7_begin_0 2 rfl rfl)
theorem dX7_begin_3 : decode cX7_begin 3 = .ok (.iconst 3, 1) := dk_6 (dk_at dksX7_begin_0 3 rfl rfl)
theorem dX7_begin_4 : decode cX7_begin 4 = .ok (.if_icmp .ge 31, 3) := dk_162 0 31 (dk_at dksX7_begin_0 4 rfl rfl)
theorem dX7_begin_7 : decode cX7_begin 7 = .ok (.aload_n 0, 1) := dk_42 (dk_at dksX7_begin_0 7 rfl rfl)
theorem dX7_begin_8 : decode cX7_begin 8 = .ok (.getfield 71, 3) := dk_180 0 71 (dk_at dksX7_begin_0 8 rfl rfl)
theorem dX7_begin_11 : decode cX7_begin 11 = .ok (.iload_n 1, 1) := dk_27 (dk_at dksX7_begin_0 11 rfl rfl)
theorem dX7_begin_12 : decode cX7_begin 12 = .ok (.iconst 0, 1) := dk_3 (dk_at dksX7_begin_0 12 rfl rfl)
theorem dX7_begin_13 : decode cX7_begin 13 = .ok (.iastore, 1) := dk_79 (dk_at dksX7_begin_0 13 rfl rfl)
theorem dX7_begin_14 : decode cX7_begin 14 = .ok (.aload_n 0, 1) := dk_42 (dk_at dksX7_begin_0 14 rfl rfl)
theorem dX7_begin_15 : decode cX7_begin 15 = .ok (.getfield 74, 3) := dk_180 0 74 (dk_at dksX7_begin_0 15 rfl rfl)
theorem dX7_begin_18 : decode cX7_begin 18 = .ok (.iload_n 1, 1) := dk_27 (dk_at dksX7_begin_0 18 rfl rfl)
theorem dX7_begin_19 : decode cX7_begin 19 = .ok (.iconst (-1), 1) := dk_2 (dk_at dksX7_begin_0 19 rfl rfl)
theorem dX7_begin_20 : decode cX7_begin 20 = .ok (.iastore, 1) := dk_79 (dk_at dksX7_begin_0 20 rfl rfl)
theorem dX7_begin_21 : decode cX7_begin 21 = .ok (.aload_n 0, 1) := dk_42 (dk_at dksX7_begin_0 21 rfl rfl)
theorem dX7_begin_22 : decode cX7_begin 22 = .ok (.getfield 77, 3) := dk_180 0 77 (dk_at dksX7_begin_1 0 rfl rfl)
theorem dX7_begin_25 : decode cX7_begin 25 = .ok (.iload_n 1, 1) := dk_27 (dk_at dksX7_begin_1 3 rfl rfl)
theorem dX7_begin_26 : decode cX7_begin 26 = .ok (.ldc 166, 2) := dk_18 166 (dk_at dksX7_begin_1 4 rfl rfl)
theorem dX7_begin_28 : decode cX7_begin 28 = .ok (.iastore, 1) := dk_79 (dk_at dksX7_begin_1 6 rfl rfl)
theorem dX7_begin_29 : decode cX7_begin 29 = .ok (.iinc 1 1, 3) := dk_132 1 1 (dk_at dksX7_begin_1 7 rfl rfl)
theorem dX7_begin_32 : decode cX7_begin 32 = .ok (.goto (-30), 3) := dk_167 255 226 (dk_at dksX7_begin_1 10 rfl rfl)
theorem dX7_begin_35 : decode cX7_begin 35 = .ok (.return_, 1) := dk_177 (dk_at dksX7_begin_1 13 rfl rfl)
abbrev cX7_turn : ByteArray := prog_12_method_54_code
def yX7_turn : MethodName := ⟨RX7, "turn", "(I)V"⟩
def dkwX7_turn_8 : List UInt8 := [29, 104, 46, 163, 0, 4, 177, 42, 180, 0, 74, 29, 28, 79, 42, 180, 0, 77, 29, 27, 79, 177]
abbrev dktX7_turn_8 : List UInt8 := dkwX7_turn_8 ++ []
def dkwX7_turn_7 : List UInt8 := [42, 180, 0, 86, 28, 42, 29, 182, 1, 61, 21, 4, 100, 79, 42, 29, 182, 1, 61, 42, 180, 0, 37, 5]
abbrev dktX7_turn_7 : List UInt8 := dkwX7_turn_7 ++ dktX7_turn_8
def dkwX7_turn_6 : List UInt8 := [100, 167, 0, 4, 3, 79, 42, 180, 0, 92, 28, 42, 29, 42, 180, 0, 56, 28, 46, 28, 182, 1, 64, 79]
abbrev dktX7_turn_6 : List UInt8 := dkwX7_turn_6 ++ dktX7_turn_7
def dkwX7_turn_5 : List UInt8 := [180, 0, 56, 28, 46, 42, 29, 182, 1, 48, 164, 0, 18, 42, 180, 0, 56, 28, 46, 42, 29, 182, 1, 48]
abbrev dktX7_turn_5 : List UInt8 := dkwX7_turn_5 ++ dktX7_turn_6
def dkwX7_turn_4 : List UInt8 := [159, 0, 4, 177, 42, 180, 0, 80, 28, 29, 79, 42, 29, 182, 1, 61, 54, 4, 42, 180, 0, 89, 28, 42]
abbrev dktX7_turn_4 : List UInt8 := dkwX7_turn_4 ++ dktX7_turn_5
def dkwX7_turn_3 : List UInt8 := [182, 1, 58, 62, 42, 180, 0, 83, 28, 29, 79, 29, 2, 159, 0, 13, 42, 180, 0, 74, 29, 46, 2]
abbrev dktX7_turn_3 : List UInt8 := dkwX7_turn_3 ++ dktX7_turn_4
def dkwX7_turn_2 : List UInt8 := [28, 3, 79, 42, 180, 0, 92, 28, 3, 79, 42, 180, 1, 45, 28, 184, 1, 51, 153, 0, 4, 177, 42, 28]
abbrev dktX7_turn_2 : List UInt8 := dkwX7_turn_2 ++ dktX7_turn_3
def dkwX7_turn_1 : List UInt8 := [180, 0, 80, 28, 2, 79, 42, 180, 0, 83, 28, 2, 79, 42, 180, 0, 86, 28, 3, 79, 42, 180, 0, 89]
abbrev dktX7_turn_1 : List UInt8 := dkwX7_turn_1 ++ dktX7_turn_2
def dkwX7_turn_0 : List UInt8 := [42, 180, 1, 42, 27, 184, 1, 51, 153, 0, 7, 42, 182, 1, 55, 42, 180, 0, 62, 27, 46, 61, 42]
abbrev dktX7_turn_0 : List UInt8 := dkwX7_turn_0 ++ dktX7_turn_1
theorem dksX7_turn_0 : cX7_turn.data.toList.drop 0 = dktX7_turn_0 := by decide +kernel
theorem dksX7_turn_1 : cX7_turn.data.toList.drop 23 = dktX7_turn_1 := dk_seg dksX7_turn_0 23 rfl rfl
theorem dksX7_turn_2 : cX7_turn.data.toList.drop 47 = dktX7_turn_2 := dk_seg dksX7_turn_1 24 rfl rfl
theorem dksX7_turn_3 : cX7_turn.data.toList.drop 71 = dktX7_turn_3 := dk_seg dksX7_turn_2 24 rfl rfl
theorem dksX7_turn_4 : cX7_turn.data.toList.drop 94 = dktX7_turn_4 := dk_seg dksX7_turn_3 23 rfl rfl
theorem dksX7_turn_5 : cX7_turn.data.toList.drop 118 = dktX7_turn_5 := dk_seg dksX7_turn_4 24 rfl rfl
theorem dksX7_turn_6 : cX7_turn.data.toList.drop 142 = dktX7_turn_6 := dk_seg dksX7_turn_5 24 rfl rfl
theorem dksX7_turn_7 : cX7_turn.data.toList.drop 166 = dktX7_turn_7 := dk_seg dksX7_turn_6 24 rfl rfl
theorem dksX7_turn_8 : cX7_turn.data.toList.drop 190 = dktX7_turn_8 := dk_seg dksX7_turn_7 24 rfl rfl
theorem dX7_turn_0 : decode cX7_turn 0 = .ok (.aload_n 0, 1) := dk_42 (dk_at dksX7_turn_0 0 rfl rfl)
theorem dX7_turn_1 : decode cX7_turn 1 = .ok (.getfield 298, 3) := dk_180 1 42 (dk_at dksX7_turn_0 1 rfl rfl)
theorem dX7_turn_4 : decode cX7_turn 4 = .ok (.iload_n 1, 1) := dk_27 (dk_at dksX7_turn_0 4 rfl rfl)
theorem dX7_turn_5 : decode cX7_turn 5 = .ok (.invokestatic 307, 3) := dk_184 1 51 (dk_at dksX7_turn_0 5 rfl rfl)
theorem dX7_turn_8 : decode cX7_turn 8 = .ok (.ifCond .eq 7, 3) := dk_153 0 7 (dk_at dksX7_turn_0 8 rfl rfl)
theorem dX7_turn_11 : decode cX7_turn 11 = .ok (.aload_n 0, 1) := dk_42 (dk_at dksX7_turn_0 11 rfl rfl)
theorem dX7_turn_12 : decode cX7_turn 12 = .ok (.invokevirtual 311, 3) := dk_182 1 55 (dk_at dksX7_turn_0 12 rfl rfl)
theorem dX7_turn_15 : decode cX7_turn 15 = .ok (.aload_n 0, 1) := dk_42 (dk_at dksX7_turn_0 15 rfl rfl)
theorem dX7_turn_16 : decode cX7_turn 16 = .ok (.getfield 62, 3) := dk_180 0 62 (dk_at dksX7_turn_0 16 rfl rfl)
theorem dX7_turn_19 : decode cX7_turn 19 = .ok (.iload_n 1, 1) := dk_27 (dk_at dksX7_turn_0 19 rfl rfl)
theorem dX7_turn_20 : decode cX7_turn 20 = .ok (.iaload, 1) := dk_46 (dk_at dksX7_turn_0 20 rfl rfl)
theorem dX7_turn_21 : decode cX7_turn 21 = .ok (.istore_n 2, 1) := dk_61 (dk_at dksX7_turn_0 21 rfl rfl)
theorem dX7_turn_22 : decode cX7_turn 22 = .ok (.aload_n 0, 1) := dk_42 (dk_at dksX7_turn_0 22 rfl rfl)
theorem dX7_turn_23 : decode cX7_turn 23 = .ok (.getfield 80, 3) := dk_180 0 80 (dk_at dksX7_turn_1 0 rfl rfl)
theorem dX7_turn_26 : decode cX7_turn 26 = .ok (.iload_n 2, 1) := dk_28 (dk_at dksX7_turn_1 3 rfl rfl)
theorem dX7_turn_27 : decode cX7_turn 27 = .ok (.iconst (-1), 1) := dk_2 (dk_at dksX7_turn_1 4 rfl rfl)
theorem dX7_turn_28 : decode cX7_turn 28 = .ok (.iastore, 1) := dk_79 (dk_at dksX7_turn_1 5 rfl rfl)
theorem dX7_turn_29 : decode cX7_turn 29 = .ok (.aload_n 0, 1) := dk_42 (dk_at dksX7_turn_1 6 rfl rfl)
theorem dX7_turn_30 : decode cX7_turn 30 = .ok (.getfield 83, 3) := dk_180 0 83 (dk_at dksX7_turn_1 7 rfl rfl)
theorem dX7_turn_33 : decode cX7_turn 33 = .ok (.iload_n 2, 1) := dk_28 (dk_at dksX7_turn_1 10 rfl rfl)
theorem dX7_turn_34 : decode cX7_turn 34 = .ok (.iconst (-1), 1) := dk_2 (dk_at dksX7_turn_1 11 rfl rfl)
theorem dX7_turn_35 : decode cX7_turn 35 = .ok (.iastore, 1) := dk_79 (dk_at dksX7_turn_1 12 rfl rfl)
theorem dX7_turn_36 : decode cX7_turn 36 = .ok (.aload_n 0, 1) := dk_42 (dk_at dksX7_turn_1 13 rfl rfl)
theorem dX7_turn_37 : decode cX7_turn 37 = .ok (.getfield 86, 3) := dk_180 0 86 (dk_at dksX7_turn_1 14 rfl rfl)
theorem dX7_turn_40 : decode cX7_turn 40 = .ok (.iload_n 2, 1) := dk_28 (dk_at dksX7_turn_1 17 rfl rfl)
theorem dX7_turn_41 : decode cX7_turn 41 = .ok (.iconst 0, 1) := dk_3 (dk_at dksX7_turn_1 18 rfl rfl)
theorem dX7_turn_42 : decode cX7_turn 42 = .ok (.iastore, 1) := dk_79 (dk_at dksX7_turn_1 19 rfl rfl)
theorem dX7_turn_43 : decode cX7_turn 43 = .ok (.aload_n 0, 1) := dk_42 (dk_at dksX7_turn_1 20 rfl rfl)
theorem dX7_turn_44 : decode cX7_turn 44 = .ok (.getfield 89, 3) := dk_180 0 89 (dk_at dksX7_turn_1 21 rfl rfl)
theorem dX7_turn_47 : decode cX7_turn 47 = .ok (.iload_n 2, 1) := dk_28 (dk_at dksX7_turn_2 0 rfl rfl)
theorem dX7_turn_48 : decode cX7_turn 48 = .ok (.iconst 0, 1) := dk_3 (dk_at dksX7_turn_2 1 rfl rfl)
theorem dX7_turn_49 : decode cX7_turn 49 = .ok (.iastore, 1) := dk_79 (dk_at dksX7_turn_2 2 rfl rfl)
theorem dX7_turn_50 : decode cX7_turn 50 = .ok (.aload_n 0, 1) := dk_42 (dk_at dksX7_turn_2 3 rfl rfl)
theorem dX7_turn_51 : decode cX7_turn 51 = .ok (.getfield 92, 3) := dk_180 0 92 (dk_at dksX7_turn_2 4 rfl rfl)
theorem dX7_turn_54 : decode cX7_turn 54 = .ok (.iload_n 2, 1) := dk_28 (dk_at dksX7_turn_2 7 rfl rfl)
theorem dX7_turn_55 : decode cX7_turn 55 = .ok (.iconst 0, 1) := dk_3 (dk_at dksX7_turn_2 8 rfl rfl)
theorem dX7_turn_56 : decode cX7_turn 56 = .ok (.iastore, 1) := dk_79 (dk_at dksX7_turn_2 9 rfl rfl)
theorem dX7_turn_57 : decode cX7_turn 57 = .ok (.aload_n 0, 1) := dk_42 (dk_at dksX7_turn_2 10 rfl rfl)
theorem dX7_turn_58 : decode cX7_turn 58 = .ok (.getfield 301, 3) := dk_180 1 45 (dk_at dksX7_turn_2 11 rfl rfl)
theorem dX7_turn_61 : decode cX7_turn 61 = .ok (.iload_n 2, 1) := dk_28 (dk_at dksX7_turn_2 14 rfl rfl)
theorem dX7_turn_62 : decode cX7_turn 62 = .ok (.invokestatic 307, 3) := dk_184 1 51 (dk_at dksX7_turn_2 15 rfl rfl)
theorem dX7_turn_65 : decode cX7_turn 65 = .ok (.ifCond .eq 4, 3) := dk_153 0 4 (dk_at dksX7_turn_2 18 rfl rfl)
theorem dX7_turn_68 : decode cX7_turn 68 = .ok (.return_, 1) := dk_177 (dk_at dksX7_turn_2 21 rfl rfl)
theorem dX7_turn_69 : decode cX7_turn 69 = .ok (.aload_n 0, 1) := dk_42 (dk_at dksX7_turn_2 22 rfl rfl)
theorem dX7_turn_70 : decode cX7_turn 70 = .ok (.iload_n 2, 1) := dk_28 (dk_at dksX7_turn_2 23 rfl rfl)
theorem dX7_turn_71 : decode cX7_turn 71 = .ok (.invokevirtual 314, 3) := dk_182 1 58 (dk_at dksX7_turn_3 0 rfl rfl)
theorem dX7_turn_74 : decode cX7_turn 74 = .ok (.istore_n 3, 1) := dk_62 (dk_at dksX7_turn_3 3 rfl rfl)
theorem dX7_turn_75 : decode cX7_turn 75 = .ok (.aload_n 0, 1) := dk_42 (dk_at dksX7_turn_3 4 rfl rfl)
theorem dX7_turn_76 : decode cX7_turn 76 = .ok (.getfield 83, 3) := dk_180 0 83 (dk_at dksX7_turn_3 5 rfl rfl)
theorem dX7_turn_79 : decode cX7_turn 79 = .ok (.iload_n 2, 1) := dk_28 (dk_at dksX7_turn_3 8 rfl rfl)
theorem dX7_turn_80 : decode cX7_turn 80 = .ok (.iload_n 3, 1) := dk_29 (dk_at dksX7_turn_3 9 rfl rfl)
theorem dX7_turn_81 : decode cX7_turn 81 = .ok (.iastore, 1) := dk_79 (dk_at dksX7_turn_3 10 rfl rfl)
theorem dX7_turn_82 : decode cX7_turn 82 = .ok (.iload_n 3, 1) := dk_29 (dk_at dksX7_turn_3 11 rfl rfl)
theorem dX7_turn_83 : decode cX7_turn 83 = .ok (.iconst (-1), 1) := dk_2 (dk_at dksX7_turn_3 12 rfl rfl)
theorem dX7_turn_84 : decode cX7_turn 84 = .ok (.if_icmp .eq 13, 3) := dk_159 0 13 (dk_at dksX7_turn_3 13 rfl rfl)
theorem dX7_turn_87 : decode cX7_turn 87 = .ok (.aload_n 0, 1) := dk_42 (dk_at dksX7_turn_3 16 rfl rfl)
theorem dX7_turn_88 : decode cX7_turn 88 = .ok (.getfield 74, 3) := dk_180 0 74 (dk_at dksX7_turn_3 17 rfl rfl)
theorem dX7_turn_91 : decode cX7_turn 91 = .ok (.iload_n 3, 1) := dk_29 (dk_at dksX7_turn_3 20 rfl rfl)
theorem dX7_turn_92 : decode cX7_turn 92 = .ok (.iaload, 1) := dk_46 (dk_at dksX7_turn_3 21 rfl rfl)
theorem dX7_turn_93 : decode cX7_turn 93 = .ok (.iconst (-1), 1) := dk_2 (dk_at dksX7_turn_3 22 rfl rfl)
theorem dX7_turn_94 : decode cX7_turn 94 = .ok (.if_icmp .eq 4, 3) := dk_159 0 4 (dk_at dksX7_turn_4 0 rfl rfl)
theorem dX7_turn_97 : decode cX7_turn 97 = .ok (.return_, 1) := dk_177 (dk_at dksX7_turn_4 3 rfl rfl)
theorem dX7_turn_98 : decode cX7_turn 98 = .ok (.aload_n 0, 1) := dk_42 (dk_at dksX7_turn_4 4 rfl rfl)
theorem dX7_turn_99 : decode cX7_turn 99 = .ok (.getfield 80, 3) := dk_180 0 80 (dk_at dksX7_turn_4 5 rfl rfl)
theorem dX7_turn_102 : decode cX7_turn 102 = .ok (.iload_n 2, 1) := dk_28 (dk_at dksX7_turn_4 8 rfl rfl)
theorem dX7_turn_103 : decode cX7_turn 103 = .ok (.iload_n 3, 1) := dk_29 (dk_at dksX7_turn_4 9 rfl rfl)
theorem dX7_turn_104 : decode cX7_turn 104 = .ok (.iastore, 1) := dk_79 (dk_at dksX7_turn_4 10 rfl rfl)
theorem dX7_turn_105 : decode cX7_turn 105 = .ok (.aload_n 0, 1) := dk_42 (dk_at dksX7_turn_4 11 rfl rfl)
theorem dX7_turn_106 : decode cX7_turn 106 = .ok (.iload_n 3, 1) := dk_29 (dk_at dksX7_turn_4 12 rfl rfl)
theorem dX7_turn_107 : decode cX7_turn 107 = .ok (.invokevirtual 317, 3) := dk_182 1 61 (dk_at dksX7_turn_4 13 rfl rfl)
theorem dX7_turn_110 : decode cX7_turn 110 = .ok (.istore 4, 2) := dk_54 4 (dk_at dksX7_turn_4 16 rfl rfl)
theorem dX7_turn_112 : decode cX7_turn 112 = .ok (.aload_n 0, 1) := dk_42 (dk_at dksX7_turn_4 18 rfl rfl)
theorem dX7_turn_113 : decode cX7_turn 113 = .ok (.getfield 89, 3) := dk_180 0 89 (dk_at dksX7_turn_4 19 rfl rfl)
theorem dX7_turn_116 : decode cX7_turn 116 = .ok (.iload_n 2, 1) := dk_28 (dk_at dksX7_turn_4 22 rfl rfl)
theorem dX7_turn_117 : decode cX7_turn 117 = .ok (.aload_n 0, 1) := dk_42 (dk_at dksX7_turn_4 23 rfl rfl)
theorem dX7_turn_118 : decode cX7_turn 118 = .ok (.getfield 56, 3) := dk_180 0 56 (dk_at dksX7_turn_5 0 rfl rfl)
theorem dX7_turn_121 : decode cX7_turn 121 = .ok (.iload_n 2, 1) := dk_28 (dk_at dksX7_turn_5 3 rfl rfl)
theorem dX7_turn_122 : decode cX7_turn 122 = .ok (.iaload, 1) := dk_46 (dk_at dksX7_turn_5 4 rfl rfl)
theorem dX7_turn_123 : decode cX7_turn 123 = .ok (.aload_n 0, 1) := dk_42 (dk_at dksX7_turn_5 5 rfl rfl)
theorem dX7_turn_124 : decode cX7_turn 124 = .ok (.iload_n 3, 1) := dk_29 (dk_at dksX7_turn_5 6 rfl rfl)
theorem dX7_turn_125 : decode cX7_turn 125 = .ok (.invokevirtual 304, 3) := dk_182 1 48 (dk_at dksX7_turn_5 7 rfl rfl)
theorem dX7_turn_128 : decode cX7_turn 128 = .ok (.if_icmp .le 18, 3) := dk_164 0 18 (dk_at dksX7_turn_5 10 rfl rfl)
theorem dX7_turn_131 : decode cX7_turn 131 = .ok (.aload_n 0, 1) := dk_42 (dk_at dksX7_turn_5 13 rfl rfl)
theorem dX7_turn_132 : decode cX7_turn 132 = .ok (.getfield 56, 3) := dk_180 0 56 (dk_at dksX7_turn_5 14 rfl rfl)
theorem dX7_turn_135 : decode cX7_turn 135 = .ok (.iload_n 2, 1) := dk_28 (dk_at dksX7_turn_5 17 rfl rfl)
theorem dX7_turn_136 : decode cX7_turn 136 = .ok (.iaload, 1) := dk_46 (dk_at dksX7_turn_5 18 rfl rfl)
theorem dX7_turn_137 : decode cX7_turn 137 = .ok (.aload_n 0, 1) := dk_42 (dk_at dksX7_turn_5 19 rfl rfl)
theorem dX7_turn_138 : decode cX7_turn 138 = .ok (.iload_n 3, 1) := dk_29 (dk_at dksX7_turn_5 20 rfl rfl)
theorem dX7_turn_139 : decode cX7_turn 139 = .ok (.invokevirtual 304, 3) := dk_182 1 48 (dk_at dksX7_turn_5 21 rfl rfl)
theorem dX7_turn_142 : decode cX7_turn 142 = .ok (.isub, 1) := dk_100 (dk_at dksX7_turn_6 0 rfl rfl)
theorem dX7_turn_143 : decode cX7_turn 143 = .ok (.goto 4, 3) := dk_167 0 4 (dk_at dksX7_turn_6 1 rfl rfl)
theorem dX7_turn_146 : decode cX7_turn 146 = .ok (.iconst 0, 1) := dk_3 (dk_at dksX7_turn_6 4 rfl rfl)
theorem dX7_turn_147 : decode cX7_turn 147 = .ok (.iastore, 1) := dk_79 (dk_at dksX7_turn_6 5 rfl rfl)
theorem dX7_turn_148 : decode cX7_turn 148 = .ok (.aload_n 0, 1) := dk_42 (dk_at dksX7_turn_6 6 rfl rfl)
theorem dX7_turn_149 : decode cX7_turn 149 = .ok (.getfield 92, 3) := dk_180 0 92 (dk_at dksX7_turn_6 7 rfl rfl)
theorem dX7_turn_152 : decode cX7_turn 152 = .ok (.iload_n 2, 1) := dk_28 (dk_at dksX7_turn_6 10 rfl rfl)
theorem dX7_turn_153 : decode cX7_turn 153 = .ok (.aload_n 0, 1) := dk_42 (dk_at dksX7_turn_6 11 rfl rfl)
theorem dX7_turn_154 : decode cX7_turn 154 = .ok (.iload_n 3, 1) := dk_29 (dk_at dksX7_turn_6 12 rfl rfl)
theorem dX7_turn_155 : decode cX7_turn 155 = .ok (.aload_n 0, 1) := dk_42 (dk_at dksX7_turn_6 13 rfl rfl)
theorem dX7_turn_156 : decode cX7_turn 156 = .ok (.getfield 56, 3) := dk_180 0 56 (dk_at dksX7_turn_6 14 rfl rfl)
theorem dX7_turn_159 : decode cX7_turn 159 = .ok (.iload_n 2, 1) := dk_28 (dk_at dksX7_turn_6 17 rfl rfl)
theorem dX7_turn_160 : decode cX7_turn 160 = .ok (.iaload, 1) := dk_46 (dk_at dksX7_turn_6 18 rfl rfl)
theorem dX7_turn_161 : decode cX7_turn 161 = .ok (.iload_n 2, 1) := dk_28 (dk_at dksX7_turn_6 19 rfl rfl)
theorem dX7_turn_162 : decode cX7_turn 162 = .ok (.invokevirtual 320, 3) := dk_182 1 64 (dk_at dksX7_turn_6 20 rfl rfl)
theorem dX7_turn_165 : decode cX7_turn 165 = .ok (.iastore, 1) := dk_79 (dk_at dksX7_turn_6 23 rfl rfl)
theorem dX7_turn_166 : decode cX7_turn 166 = .ok (.aload_n 0, 1) := dk_42 (dk_at dksX7_turn_7 0 rfl rfl)
theorem dX7_turn_167 : decode cX7_turn 167 = .ok (.getfield 86, 3) := dk_180 0 86 (dk_at dksX7_turn_7 1 rfl rfl)
theorem dX7_turn_170 : decode cX7_turn 170 = .ok (.iload_n 2, 1) := dk_28 (dk_at dksX7_turn_7 4 rfl rfl)
theorem dX7_turn_171 : decode cX7_turn 171 = .ok (.aload_n 0, 1) := dk_42 (dk_at dksX7_turn_7 5 rfl rfl)
theorem dX7_turn_172 : decode cX7_turn 172 = .ok (.iload_n 3, 1) := dk_29 (dk_at dksX7_turn_7 6 rfl rfl)
theorem dX7_turn_173 : decode cX7_turn 173 = .ok (.invokevirtual 317, 3) := dk_182 1 61 (dk_at dksX7_turn_7 7 rfl rfl)
theorem dX7_turn_176 : decode cX7_turn 176 = .ok (.iload 4, 2) := dk_21 4 (dk_at dksX7_turn_7 10 rfl rfl)
theorem dX7_turn_178 : decode cX7_turn 178 = .ok (.isub, 1) := dk_100 (dk_at dksX7_turn_7 12 rfl rfl)
theorem dX7_turn_179 : decode cX7_turn 179 = .ok (.iastore, 1) := dk_79 (dk_at dksX7_turn_7 13 rfl rfl)
theorem dX7_turn_180 : decode cX7_turn 180 = .ok (.aload_n 0, 1) := dk_42 (dk_at dksX7_turn_7 14 rfl rfl)
theorem dX7_turn_181 : decode cX7_turn 181 = .ok (.iload_n 3, 1) := dk_29 (dk_at dksX7_turn_7 15 rfl rfl)
theorem dX7_turn_182 : decode cX7_turn 182 = .ok (.invokevirtual 317, 3) := dk_182 1 61 (dk_at dksX7_turn_7 16 rfl rfl)
theorem dX7_turn_185 : decode cX7_turn 185 = .ok (.aload_n 0, 1) := dk_42 (dk_at dksX7_turn_7 19 rfl rfl)
theorem dX7_turn_186 : decode cX7_turn 186 = .ok (.getfield 37, 3) := dk_180 0 37 (dk_at dksX7_turn_7 20 rfl rfl)
theorem dX7_turn_189 : decode cX7_turn 189 = .ok (.iconst 2, 1) := dk_5 (dk_at dksX7_turn_7 23 rfl rfl)
theorem dX7_turn_190 : decode cX7_turn 190 = .ok (.iload_n 3, 1) := dk_29 (dk_at dksX7_turn_8 0 rfl rfl)
theorem dX7_turn_191 : decode cX7_turn 191 = .ok (.imul, 1) := dk_104 (dk_at dksX7_turn_8 1 rfl rfl)
theorem dX7_turn_192 : decode cX7_turn 192 = .ok (.iaload, 1) := dk_46 (dk_at dksX7_turn_8 2 rfl rfl)
theorem dX7_turn_193 : decode cX7_turn 193 = .ok (.if_icmp .gt 4, 3) := dk_163 0 4 (dk_at dksX7_turn_8 3 rfl rfl)
theorem dX7_turn_196 : decode cX7_turn 196 = .ok (.return_, 1) := dk_177 (dk_at dksX7_turn_8 6 rfl rfl)
theorem dX7_turn_197 : decode cX7_turn 197 = .ok (.aload_n 0, 1) := dk_42 (dk_at dksX7_turn_8 7 rfl rfl)
theorem dX7_turn_198 : decode cX7_turn 198 = .ok (.getfield 74, 3) := dk_180 0 74 (dk_at dksX7_turn_8 8 rfl rfl)
theorem dX7_turn_201 : decode cX7_turn 201 = .ok (.iload_n 3, 1) := dk_29 (dk_at dksX7_turn_8 11 rfl rfl)
theorem dX7_turn_202 : decode cX7_turn 202 = .ok (.iload_n 2, 1) := dk_28 (dk_at dksX7_turn_8 12 rfl rfl)
theorem dX7_turn_203 : decode cX7_turn 203 = .ok (.iastore, 1) := dk_79 (dk_at dksX7_turn_8 13 rfl rfl)
theorem dX7_turn_204 : decode cX7_turn 204 = .ok (.aload_n 0, 1) := dk_42 (dk_at dksX7_turn_8 14 rfl rfl)
theorem dX7_turn_205 : decode cX7_turn 205 = .ok (.getfield 77, 3) := dk_180 0 77 (dk_at dksX7_turn_8 15 rfl rfl)
theorem dX7_turn_208 : decode cX7_turn 208 = .ok (.iload_n 3, 1) := dk_29 (dk_at dksX7_turn_8 18 rfl rfl)
theorem dX7_turn_209 : decode cX7_turn 209 = .ok (.iload_n 1, 1) := dk_27 (dk_at dksX7_turn_8 19 rfl rfl)
theorem dX7_turn_210 : decode cX7_turn 210 = .ok (.iastore, 1) := dk_79 (dk_at dksX7_turn_8 20 rfl rfl)
theorem dX7_turn_211 : decode cX7_turn 211 = .ok (.return_, 1) := dk_177 (dk_at dksX7_turn_8 21 rfl rfl)
abbrev cX7_freezes : ByteArray := prog_12_method_52_code
def yX7_freezes : MethodName := ⟨RX7, "freezes", "()V"⟩
def dkwX7_freezes_4 : List UInt8 := [167, 255, 177, 42, 180, 0, 71, 27, 28, 79, 132, 1, 1, 167, 255, 152, 177]
abbrev dktX7_freezes_4 : List UInt8 := dkwX7_freezes_4 ++ []
def dkwX7_freezes_3 : List UInt8 := [16, 8, 27, 104, 28, 96, 42, 180, 0, 68, 16, 8, 27, 104, 29, 96, 46, 79, 132, 2, 1, 132, 3, 1]
abbrev dktX7_freezes_3 : List UInt8 := dkwX7_freezes_3 ++ dktX7_freezes_4
def dkwX7_freezes_2 : List UInt8 := [157, 0, 6, 167, 0, 41, 42, 180, 0, 65, 16, 8, 27, 104, 28, 96, 21, 4, 79, 42, 180, 0, 68]
abbrev dktX7_freezes_2 : List UInt8 := dkwX7_freezes_2 ++ dktX7_freezes_3
def dkwX7_freezes_1 : List UInt8 := [42, 180, 0, 65, 16, 8, 27, 104, 29, 96, 46, 42, 180, 0, 34, 4, 46, 100, 54, 4, 21, 4]
abbrev dktX7_freezes_1 : List UInt8 := dkwX7_freezes_1 ++ dktX7_freezes_2
def dkwX7_freezes_0 : List UInt8 := [3, 60, 27, 42, 182, 1, 27, 162, 0, 102, 3, 61, 3, 62, 29, 42, 180, 0, 71, 27, 46, 162, 0, 75]
abbrev dktX7_freezes_0 : List UInt8 := dkwX7_freezes_0 ++ dktX7_freezes_1
theorem dksX7_freezes_0 : cX7_freezes.data.toList.drop 0 = dktX7_freezes_0 := by decide +kernel
theorem dksX7_freezes_1 : cX7_freezes.data.toList.drop 24 = dktX7_freezes_1 := dk_seg dksX7_freezes_0 24 rfl rfl
theorem dksX7_freezes_2 : cX7_freezes.data.toList.drop 46 = dktX7_freezes_2 := dk_seg dksX7_freezes_1 22 rfl rfl
theorem dksX7_freezes_3 : cX7_freezes.data.toList.drop 69 = dktX7_freezes_3 := dk_seg dksX7_freezes_2 23 rfl rfl
theorem dksX7_freezes_4 : cX7_freezes.data.toList.drop 93 = dktX7_freezes_4 := dk_seg dksX7_freezes_3 24 rfl rfl
theorem dX7_freezes_0 : decode cX7_freezes 0 = .ok (.iconst 0, 1) := dk_3 (dk_at dksX7_freezes_0 0 rfl rfl)
theorem dX7_freezes_1 : decode cX7_freezes 1 = .ok (.istore_n 1, 1) := dk_60 (dk_at dksX7_freezes_0 1 rfl rfl)
theorem dX7_freezes_2 : decode cX7_freezes 2 = .ok (.iload_n 1, 1) := dk_27 (dk_at dksX7_freezes_0 2 rfl rfl)
theorem dX7_freezes_3 : decode cX7_freezes 3 = .ok (.aload_n 0, 1) := dk_42 (dk_at dksX7_freezes_0 3 rfl rfl)
theorem dX7_freezes_4 : decode cX7_freezes 4 = .ok (.invokevirtual 283, 3) := dk_182 1 27 (dk_at dksX7_freezes_0 4 rfl rfl)
theorem dX7_freezes_7 : decode cX7_freezes 7 = .ok (.if_icmp .ge 102, 3) := dk_162 0 102 (dk_at dksX7_freezes_0 7 rfl rfl)
theorem dX7_freezes_10 : decode cX7_freezes 10 = .ok (.iconst 0, 1) := dk_3 (dk_at dksX7_freezes_0 10 rfl rfl)
theorem dX7_freezes_11 : decode cX7_freezes 11 = .ok (.istore_n 2, 1) := dk_61 (dk_at dksX7_freezes_0 11 rfl rfl)
theorem dX7_freezes_12 : decode cX7_freezes 12 = .ok (.iconst 0, 1) := dk_3 (dk_at dksX7_freezes_0 12 rfl rfl)
theorem dX7_freezes_13 : decode cX7_freezes 13 = .ok (.istore_n 3, 1) := dk_62 (dk_at dksX7_freezes_0 13 rfl rfl)
theorem dX7_freezes_14 : decode cX7_freezes 14 = .ok (.iload_n 3, 1) := dk_29 (dk_at dksX7_freezes_0 14 rfl rfl)
theorem dX7_freezes_15 : decode cX7_freezes 15 = .ok (.aload_n 0, 1) := dk_42 (dk_at dksX7_freezes_0 15 rfl rfl)
theorem dX7_freezes_16 : decode cX7_freezes 16 = .ok (.getfield 71, 3) := dk_180 0 71 (dk_at dksX7_freezes_0 16 rfl rfl)
theorem dX7_freezes_19 : decode cX7_freezes 19 = .ok (.iload_n 1, 1) := dk_27 (dk_at dksX7_freezes_0 19 rfl rfl)
theorem dX7_freezes_20 : decode cX7_freezes 20 = .ok (.iaload, 1) := dk_46 (dk_at dksX7_freezes_0 20 rfl rfl)
theorem dX7_freezes_21 : decode cX7_freezes 21 = .ok (.if_icmp .ge 75, 3) := dk_162 0 75 (dk_at dksX7_freezes_0 21 rfl rfl)
theorem dX7_freezes_24 : decode cX7_freezes 24 = .ok (.aload_n 0, 1) := dk_42 (dk_at dksX7_freezes_1 0 rfl rfl)
theorem dX7_freezes_25 : decode cX7_freezes 25 = .ok (.getfield 65, 3) := dk_180 0 65 (dk_at dksX7_freezes_1 1 rfl rfl)
theorem dX7_freezes_28 : decode cX7_freezes 28 = .ok (.bipush 8, 2) := dk_16 8 (dk_at dksX7_freezes_1 4 rfl rfl)
theorem dX7_freezes_30 : decode cX7_freezes 30 = .ok (.iload_n 1, 1) := dk_27 (dk_at dksX7_freezes_1 6 rfl rfl)
theorem dX7_freezes_31 : decode cX7_freezes 31 = .ok (.imul, 1) := dk_104 (dk_at dksX7_freezes_1 7 rfl rfl)
theorem dX7_freezes_32 : decode cX7_freezes 32 = .ok (.iload_n 3, 1) := dk_29 (dk_at dksX7_freezes_1 8 rfl rfl)
theorem dX7_freezes_33 : decode cX7_freezes 33 = .ok (.iadd, 1) := dk_96 (dk_at dksX7_freezes_1 9 rfl rfl)
theorem dX7_freezes_34 : decode cX7_freezes 34 = .ok (.iaload, 1) := dk_46 (dk_at dksX7_freezes_1 10 rfl rfl)
theorem dX7_freezes_35 : decode cX7_freezes 35 = .ok (.aload_n 0, 1) := dk_42 (dk_at dksX7_freezes_1 11 rfl rfl)
theorem dX7_freezes_36 : decode cX7_freezes 36 = .ok (.getfield 34, 3) := dk_180 0 34 (dk_at dksX7_freezes_1 12 rfl rfl)
theorem dX7_freezes_39 : decode cX7_freezes 39 = .ok (.iconst 1, 1) := dk_4 (dk_at dksX7_freezes_1 15 rfl rfl)
theorem dX7_freezes_40 : decode cX7_freezes 40 = .ok (.iaload, 1) := dk_46 (dk_at dksX7_freezes_1 16 rfl rfl)
theorem dX7_freezes_41 : decode cX7_freezes 41 = .ok (.isub, 1) := dk_100 (dk_at dksX7_freezes_1 17 rfl rfl)
theorem dX7_freezes_42 : decode cX7_freezes 42 = .ok (.istore 4, 2) := dk_54 4 (dk_at dksX7_freezes_1 18 rfl rfl)
theorem dX7_freezes_44 : decode cX7_freezes 44 = .ok (.iload 4, 2) := dk_21 4 (dk_at dksX7_freezes_1 20 rfl rfl)
theorem dX7_freezes_46 : decode cX7_freezes 46 = .ok (.ifCond .gt 6, 3) := dk_157 0 6 (dk_at dksX7_freezes_2 0 rfl rfl)
theorem dX7_freezes_49 : decode cX7_freezes 49 = .ok (.goto 41, 3) := dk_167 0 41 (dk_at dksX7_freezes_2 3 rfl rfl)
theorem dX7_freezes_52 : decode cX7_freezes 52 = .ok (.aload_n 0, 1) := dk_42 (dk_at dksX7_freezes_2 6 rfl rfl)
theorem dX7_freezes_53 : decode cX7_freezes 53 = .ok (.getfield 65, 3) := dk_180 0 65 (dk_at dksX7_freezes_2 7 rfl rfl)
theorem dX7_freezes_56 : decode cX7_freezes 56 = .ok (.bipush 8, 2) := dk_16 8 (dk_at dksX7_freezes_2 10 rfl rfl)
theorem dX7_freezes_58 : decode cX7_freezes 58 = .ok (.iload_n 1, 1) := dk_27 (dk_at dksX7_freezes_2 12 rfl rfl)
theorem dX7_freezes_59 : decode cX7_freezes 59 = .ok (.imul, 1) := dk_104 (dk_at dksX7_freezes_2 13 rfl rfl)
theorem dX7_freezes_60 : decode cX7_freezes 60 = .ok (.iload_n 2, 1) := dk_28 (dk_at dksX7_freezes_2 14 rfl rfl)
theorem dX7_freezes_61 : decode cX7_freezes 61 = .ok (.iadd, 1) := dk_96 (dk_at dksX7_freezes_2 15 rfl rfl)
theorem dX7_freezes_62 : decode cX7_freezes 62 = .ok (.iload 4, 2) := dk_21 4 (dk_at dksX7_freezes_2 16 rfl rfl)
theorem dX7_freezes_64 : decode cX7_freezes 64 = .ok (.iastore, 1) := dk_79 (dk_at dksX7_freezes_2 18 rfl rfl)
theorem dX7_freezes_65 : decode cX7_freezes 65 = .ok (.aload_n 0, 1) := dk_42 (dk_at dksX7_freezes_2 19 rfl rfl)
theorem dX7_freezes_66 : decode cX7_freezes 66 = .ok (.getfield 68, 3) := dk_180 0 68 (dk_at dksX7_freezes_2 20 rfl rfl)
theorem dX7_freezes_69 : decode cX7_freezes 69 = .ok (.bipush 8, 2) := dk_16 8 (dk_at dksX7_freezes_3 0 rfl rfl)
theorem dX7_freezes_71 : decode cX7_freezes 71 = .ok (.iload_n 1, 1) := dk_27 (dk_at dksX7_freezes_3 2 rfl rfl)
theorem dX7_freezes_72 : decode cX7_freezes 72 = .ok (.imul, 1) := dk_104 (dk_at dksX7_freezes_3 3 rfl rfl)
theorem dX7_freezes_73 : decode cX7_freezes 73 = .ok (.iload_n 2, 1) := dk_28 (dk_at dksX7_freezes_3 4 rfl rfl)
theorem dX7_freezes_74 : decode cX7_freezes 74 = .ok (.iadd, 1) := dk_96 (dk_at dksX7_freezes_3 5 rfl rfl)
theorem dX7_freezes_75 : decode cX7_freezes 75 = .ok (.aload_n 0, 1) := dk_42 (dk_at dksX7_freezes_3 6 rfl rfl)
theorem dX7_freezes_76 : decode cX7_freezes 76 = .ok (.getfield 68, 3) := dk_180 0 68 (dk_at dksX7_freezes_3 7 rfl rfl)
theorem dX7_freezes_79 : decode cX7_freezes 79 = .ok (.bipush 8, 2) := dk_16 8 (dk_at dksX7_freezes_3 10 rfl rfl)
theorem dX7_freezes_81 : decode cX7_freezes 81 = .ok (.iload_n 1, 1) := dk_27 (dk_at dksX7_freezes_3 12 rfl rfl)
theorem dX7_freezes_82 : decode cX7_freezes 82 = .ok (.imul, 1) := dk_104 (dk_at dksX7_freezes_3 13 rfl rfl)
theorem dX7_freezes_83 : decode cX7_freezes 83 = .ok (.iload_n 3, 1) := dk_29 (dk_at dksX7_freezes_3 14 rfl rfl)
theorem dX7_freezes_84 : decode cX7_freezes 84 = .ok (.iadd, 1) := dk_96 (dk_at dksX7_freezes_3 15 rfl rfl)
theorem dX7_freezes_85 : decode cX7_freezes 85 = .ok (.iaload, 1) := dk_46 (dk_at dksX7_freezes_3 16 rfl rfl)
theorem dX7_freezes_86 : decode cX7_freezes 86 = .ok (.iastore, 1) := dk_79 (dk_at dksX7_freezes_3 17 rfl rfl)
theorem dX7_freezes_87 : decode cX7_freezes 87 = .ok (.iinc 2 1, 3) := dk_132 2 1 (dk_at dksX7_freezes_3 18 rfl rfl)
theorem dX7_freezes_90 : decode cX7_freezes 90 = .ok (.iinc 3 1, 3) := dk_132 3 1 (dk_at dksX7_freezes_3 21 rfl rfl)
theorem dX7_freezes_93 : decode cX7_freezes 93 = .ok (.goto (-79), 3) := dk_167 255 177 (dk_at dksX7_freezes_4 0 rfl rfl)
theorem dX7_freezes_96 : decode cX7_freezes 96 = .ok (.aload_n 0, 1) := dk_42 (dk_at dksX7_freezes_4 3 rfl rfl)
theorem dX7_freezes_97 : decode cX7_freezes 97 = .ok (.getfield 71, 3) := dk_180 0 71 (dk_at dksX7_freezes_4 4 rfl rfl)
theorem dX7_freezes_100 : decode cX7_freezes 100 = .ok (.iload_n 1, 1) := dk_27 (dk_at dksX7_freezes_4 7 rfl rfl)
theorem dX7_freezes_101 : decode cX7_freezes 101 = .ok (.iload_n 2, 1) := dk_28 (dk_at dksX7_freezes_4 8 rfl rfl)
theorem dX7_freezes_102 : decode cX7_freezes 102 = .ok (.iastore, 1) := dk_79 (dk_at dksX7_freezes_4 9 rfl rfl)
theorem dX7_freezes_103 : decode cX7_freezes 103 = .ok (.iinc 1 1, 3) := dk_132 1 1 (dk_at dksX7_freezes_4 10 rfl rfl)
theorem dX7_freezes_106 : decode cX7_freezes 106 = .ok (.goto (-104), 3) := dk_167 255 152 (dk_at dksX7_freezes_4 13 rfl rfl)
theorem dX7_freezes_109 : decode cX7_freezes 109 = .ok (.return_, 1) := dk_177 (dk_at dksX7_freezes_4 16 rfl rfl)
abbrev cX7_wayOf : ByteArray := prog_12_method_53_code
def yX7_wayOf : MethodName := ⟨RX7, "wayOf", "(I)I"⟩
def dkwX7_wayOf_3 : List UInt8 := [167, 255, 196, 28, 172]
abbrev dktX7_wayOf_3 : List UInt8 := dkwX7_wayOf_3 ++ []
def dkwX7_wayOf_2 : List UInt8 := [180, 0, 56, 27, 46, 162, 0, 14, 42, 180, 0, 43, 6, 29, 104, 5, 96, 46, 172, 132, 3, 1]
abbrev dktX7_wayOf_2 : List UInt8 := dkwX7_wayOf_2 ++ dktX7_wayOf_3
def dkwX7_wayOf_1 : List UInt8 := [42, 180, 0, 43, 6, 29, 104, 46, 28, 160, 0, 33, 42, 180, 0, 43, 6, 29, 104, 4, 96, 46, 42]
abbrev dktX7_wayOf_1 : List UInt8 := dkwX7_wayOf_1 ++ dktX7_wayOf_2
def dkwX7_wayOf_0 : List UInt8 := [42, 180, 0, 59, 27, 46, 61, 3, 62, 29, 42, 180, 0, 34, 8, 46, 162, 0, 56, 28, 2, 159, 0, 51]
abbrev dktX7_wayOf_0 : List UInt8 := dkwX7_wayOf_0 ++ dktX7_wayOf_1
theorem dksX7_wayOf_0 : cX7_wayOf.data.toList.drop 0 = dktX7_wayOf_0 := by decide +kernel
theorem dksX7_wayOf_1 : cX7_wayOf.data.toList.drop 24 = dktX7_wayOf_1 := dk_seg dksX7_wayOf_0 24 rfl rfl
theorem dksX7_wayOf_2 : cX7_wayOf.data.toList.drop 47 = dktX7_wayOf_2 := dk_seg dksX7_wayOf_1 23 rfl rfl
theorem dksX7_wayOf_3 : cX7_wayOf.data.toList.drop 69 = dktX7_wayOf_3 := dk_seg dksX7_wayOf_2 22 rfl rfl
theorem dX7_wayOf_0 : decode cX7_wayOf 0 = .ok (.aload_n 0, 1) := dk_42 (dk_at dksX7_wayOf_0 0 rfl rfl)
theorem dX7_wayOf_1 : decode cX7_wayOf 1 = .ok (.getfield 59, 3) := dk_180 0 59 (dk_at dksX7_wayOf_0 1 rfl rfl)
theorem dX7_wayOf_4 : decode cX7_wayOf 4 = .ok (.iload_n 1, 1) := dk_27 (dk_at dksX7_wayOf_0 4 rfl rfl)
theorem dX7_wayOf_5 : decode cX7_wayOf 5 = .ok (.iaload, 1) := dk_46 (dk_at dksX7_wayOf_0 5 rfl rfl)
theorem dX7_wayOf_6 : decode cX7_wayOf 6 = .ok (.istore_n 2, 1) := dk_61 (dk_at dksX7_wayOf_0 6 rfl rfl)
theorem dX7_wayOf_7 : decode cX7_wayOf 7 = .ok (.iconst 0, 1) := dk_3 (dk_at dksX7_wayOf_0 7 rfl rfl)
theorem dX7_wayOf_8 : decode cX7_wayOf 8 = .ok (.istore_n 3, 1) := dk_62 (dk_at dksX7_wayOf_0 8 rfl rfl)
theorem dX7_wayOf_9 : decode cX7_wayOf 9 = .ok (.iload_n 3, 1) := dk_29 (dk_at dksX7_wayOf_0 9 rfl rfl)
theorem dX7_wayOf_10 : decode cX7_wayOf 10 = .ok (.aload_n 0, 1) := dk_42 (dk_at dksX7_wayOf_0 10 rfl rfl)
theorem dX7_wayOf_11 : decode cX7_wayOf 11 = .ok (.getfield 34, 3) := dk_180 0 34 (dk_at dksX7_wayOf_0 11 rfl rfl)
theorem dX7_wayOf_14 : decode cX7_wayOf 14 = .ok (.iconst 5, 1) := dk_8 (dk_at dksX7_wayOf_0 14 rfl rfl)
theorem dX7_wayOf_15 : decode cX7_wayOf 15 = .ok (.iaload, 1) := dk_46 (dk_at dksX7_wayOf_0 15 rfl rfl)
theorem dX7_wayOf_16 : decode cX7_wayOf 16 = .ok (.if_icmp .ge 56, 3) := dk_162 0 56 (dk_at dksX7_wayOf_0 16 rfl rfl)
theorem dX7_wayOf_19 : decode cX7_wayOf 19 = .ok (.iload_n 2, 1) := dk_28 (dk_at dksX7_wayOf_0 19 rfl rfl)
theorem dX7_wayOf_20 : decode cX7_wayOf 20 = .ok (.iconst (-1), 1) := dk_2 (dk_at dksX7_wayOf_0 20 rfl rfl)
theorem dX7_wayOf_21 : decode cX7_wayOf 21 = .ok (.if_icmp .eq 51, 3) := dk_159 0 51 (dk_at dksX7_wayOf_0 21 rfl rfl)
theorem dX7_wayOf_24 : decode cX7_wayOf 24 = .ok (.aload_n 0, 1) := dk_42 (dk_at dksX7_wayOf_1 0 rfl rfl)
theorem dX7_wayOf_25 : decode cX7_wayOf 25 = .ok (.getfield 43, 3) := dk_180 0 43 (dk_at dksX7_wayOf_1 1 rfl rfl)
theorem dX7_wayOf_28 : decode cX7_wayOf 28 = .ok (.iconst 3, 1) := dk_6 (dk_at dksX7_wayOf_1 4 rfl rfl)
theorem dX7_wayOf_29 : decode cX7_wayOf 29 = .ok (.iload_n 3, 1) := dk_29 (dk_at dksX7_wayOf_1 5 rfl rfl)
theorem dX7_wayOf_30 : decode cX7_wayOf 30 = .ok (.imul, 1) := dk_104 (dk_at dksX7_wayOf_1 6 rfl rfl)
theorem dX7_wayOf_31 : decode cX7_wayOf 31 = .ok (.iaload, 1) := dk_46 (dk_at dksX7_wayOf_1 7 rfl rfl)
theorem dX7_wayOf_32 : decode cX7_wayOf 32 = .ok (.iload_n 2, 1) := dk_28 (dk_at dksX7_wayOf_1 8 rfl rfl)
theorem dX7_wayOf_33 : decode cX7_wayOf 33 = .ok (.if_icmp .ne 33, 3) := dk_160 0 33 (dk_at dksX7_wayOf_1 9 rfl rfl)
theorem dX7_wayOf_36 : decode cX7_wayOf 36 = .ok (.aload_n 0, 1) := dk_42 (dk_at dksX7_wayOf_1 12 rfl rfl)
theorem dX7_wayOf_37 : decode cX7_wayOf 37 = .ok (.getfield 43, 3) := dk_180 0 43 (dk_at dksX7_wayOf_1 13 rfl rfl)
theorem dX7_wayOf_40 : decode cX7_wayOf 40 = .ok (.iconst 3, 1) := dk_6 (dk_at dksX7_wayOf_1 16 rfl rfl)
theorem dX7_wayOf_41 : decode cX7_wayOf 41 = .ok (.iload_n 3, 1) := dk_29 (dk_at dksX7_wayOf_1 17 rfl rfl)
theorem dX7_wayOf_42 : decode cX7_wayOf 42 = .ok (.imul, 1) := dk_104 (dk_at dksX7_wayOf_1 18 rfl rfl)
theorem dX7_wayOf_43 : decode cX7_wayOf 43 = .ok (.iconst 1, 1) := dk_4 (dk_at dksX7_wayOf_1 19 rfl rfl)
theorem dX7_wayOf_44 : decode cX7_wayOf 44 = .ok (.iadd, 1) := dk_96 (dk_at dksX7_wayOf_1 20 rfl rfl)
theorem dX7_wayOf_45 : decode cX7_wayOf 45 = .ok (.iaload, 1) := dk_46 (dk_at dksX7_wayOf_1 21 rfl rfl)
theorem dX7_wayOf_46 : decode cX7_wayOf 46 = .ok (.aload_n 0, 1) := dk_42 (dk_at dksX7_wayOf_1 22 rfl rfl)
theorem dX7_wayOf_47 : decode cX7_wayOf 47 = .ok (.getfield 56, 3) := dk_180 0 56 (dk_at dksX7_wayOf_2 0 rfl rfl)
theorem dX7_wayOf_50 : decode cX7_wayOf 50 = .ok (.iload_n 1, 1) := dk_27 (dk_at dksX7_wayOf_2 3 rfl rfl)
theorem dX7_wayOf_51 : decode cX7_wayOf 51 = .ok (.iaload, 1) := dk_46 (dk_at dksX7_wayOf_2 4 rfl rfl)
theorem dX7_wayOf_52 : decode cX7_wayOf 52 = .ok (.if_icmp .ge 14, 3) := dk_162 0 14 (dk_at dksX7_wayOf_2 5 rfl rfl)
theorem dX7_wayOf_55 : decode cX7_wayOf 55 = .ok (.aload_n 0, 1) := dk_42 (dk_at dksX7_wayOf_2 8 rfl rfl)
theorem dX7_wayOf_56 : decode cX7_wayOf 56 = .ok (.getfield 43, 3) := dk_180 0 43 (dk_at dksX7_wayOf_2 9 rfl rfl)
theorem dX7_wayOf_59 : decode cX7_wayOf 59 = .ok (.iconst 3, 1) := dk_6 (dk_at dksX7_wayOf_2 12 rfl rfl)
theorem dX7_wayOf_60 : decode cX7_wayOf 60 = .ok (.iload_n 3, 1) := dk_29 (dk_at dksX7_wayOf_2 13 rfl rfl)
theorem dX7_wayOf_61 : decode cX7_wayOf 61 = .ok (.imul, 1) := dk_104 (dk_at dksX7_wayOf_2 14 rfl rfl)
theorem dX7_wayOf_62 : decode cX7_wayOf 62 = .ok (.iconst 2, 1) := dk_5 (dk_at dksX7_wayOf_2 15 rfl rfl)
theorem dX7_wayOf_63 : decode cX7_wayOf 63 = .ok (.iadd, 1) := dk_96 (dk_at dksX7_wayOf_2 16 rfl rfl)
theorem dX7_wayOf_64 : decode cX7_wayOf 64 = .ok (.iaload, 1) := dk_46 (dk_at dksX7_wayOf_2 17 rfl rfl)
theorem dX7_wayOf_65 : decode cX7_wayOf 65 = .ok (.ireturn, 1) := dk_172 (dk_at dksX7_wayOf_2 18 rfl rfl)
theorem dX7_wayOf_66 : decode cX7_wayOf 66 = .ok (.iinc 3 1, 3) := dk_132 3 1 (dk_at dksX7_wayOf_2 19 rfl rfl)
theorem dX7_wayOf_69 : decode cX7_wayOf 69 = .ok (.goto (-60), 3) := dk_167 255 196 (dk_at dksX7_wayOf_3 0 rfl rfl)
theorem dX7_wayOf_72 : decode cX7_wayOf 72 = .ok (.iload_n 2, 1) := dk_28 (dk_at dksX7_wayOf_3 3 rfl rfl)
theorem dX7_wayOf_73 : decode cX7_wayOf 73 = .ok (.ireturn, 1) := dk_172 (dk_at dksX7_wayOf_3 4 rfl rfl)
abbrev cX7_sagOf : ByteArray := prog_12_method_49_code
def yX7_sagOf : MethodName := ⟨RX7, "sagOf", "(I)I"⟩
def dkwX7_sagOf_1 : List UInt8 := [96, 46, 29, 4, 96, 108, 96, 61, 132, 3, 1, 167, 255, 225, 28, 172]
abbrev dktX7_sagOf_1 : List UInt8 := dkwX7_sagOf_1 ++ []
def dkwX7_sagOf_0 : List UInt8 := [3, 61, 3, 62, 29, 42, 180, 0, 71, 27, 46, 162, 0, 27, 28, 42, 180, 0, 65, 16, 8, 27, 104, 29]
abbrev dktX7_sagOf_0 : List UInt8 := dkwX7_sagOf_0 ++ dktX7_sagOf_1
theorem dksX7_sagOf_0 : cX7_sagOf.data.toList.drop 0 = dktX7_sagOf_0 := by decide +kernel
theorem dksX7_sagOf_1 : cX7_sagOf.data.toList.drop 24 = dktX7_sagOf_1 := dk_seg dksX7_sagOf_0 24 rfl rfl
theorem dX7_sagOf_0 : decode cX7_sagOf 0 = .ok (.iconst 0, 1) := dk_3 (dk_at dksX7_sagOf_0 0 rfl rfl)
theorem dX7_sagOf_1 : decode cX7_sagOf 1 = .ok (.istore_n 2, 1) := dk_61 (dk_at dksX7_sagOf_0 1 rfl rfl)
theorem dX7_sagOf_2 : decode cX7_sagOf 2 = .ok (.iconst 0, 1) := dk_3 (dk_at dksX7_sagOf_0 2 rfl rfl)
theorem dX7_sagOf_3 : decode cX7_sagOf 3 = .ok (.istore_n 3, 1) := dk_62 (dk_at dksX7_sagOf_0 3 rfl rfl)
theorem dX7_sagOf_4 : decode cX7_sagOf 4 = .ok (.iload_n 3, 1) := dk_29 (dk_at dksX7_sagOf_0 4 rfl rfl)
theorem dX7_sagOf_5 : decode cX7_sagOf 5 = .ok (.aload_n 0, 1) := dk_42 (dk_at dksX7_sagOf_0 5 rfl rfl)
theorem dX7_sagOf_6 : decode cX7_sagOf 6 = .ok (.getfield 71, 3) := dk_180 0 71 (dk_at dksX7_sagOf_0 6 rfl rfl)
theorem dX7_sagOf_9 : decode cX7_sagOf 9 = .ok (.iload_n 1, 1) := dk_27 (dk_at dksX7_sagOf_0 9 rfl rfl)
theorem dX7_sagOf_10 : decode cX7_sagOf 10 = .ok (.iaload, 1) := dk_46 (dk_at dksX7_sagOf_0 10 rfl rfl)
theorem dX7_sagOf_11 : decode cX7_sagOf 11 = .ok (.if_icmp .ge 27, 3) := dk_162 0 27 (dk_at dksX7_sagOf_0 11 rfl rfl)
theorem dX7_sagOf_14 : decode cX7_sagOf 14 = .ok (.iload_n 2, 1) := dk_28 (dk_at dksX7_sagOf_0 14 rfl rfl)
theorem dX7_sagOf_15 : decode cX7_sagOf 15 = .ok (.aload_n 0, 1) := dk_42 (dk_at dksX7_sagOf_0 15 rfl rfl)
theorem dX7_sagOf_16 : decode cX7_sagOf 16 = .ok (.getfield 65, 3) := dk_180 0 65 (dk_at dksX7_sagOf_0 16 rfl rfl)
theorem dX7_sagOf_19 : decode cX7_sagOf 19 = .ok (.bipush 8, 2) := dk_16 8 (dk_at dksX7_sagOf_0 19 rfl rfl)
theorem dX7_sagOf_21 : decode cX7_sagOf 21 = .ok (.iload_n 1, 1) := dk_27 (dk_at dksX7_sagOf_0 21 rfl rfl)
theorem dX7_sagOf_22 : decode cX7_sagOf 22 = .ok (.imul, 1) := dk_104 (dk_at dksX7_sagOf_0 22 rfl rfl)
theorem dX7_sagOf_23 : decode cX7_sagOf 23 = .ok (.iload_n 3, 1) := dk_29 (dk_at dksX7_sagOf_0 23 rfl rfl)
theorem dX7_sagOf_24 : decode cX7_sagOf 24 = .ok (.iadd, 1) := dk_96 (dk_at dksX7_sagOf_1 0 rfl rfl)
theorem dX7_sagOf_25 : decode cX7_sagOf 25 = .ok (.iaload, 1) := dk_46 (dk_at dksX7_sagOf_1 1 rfl rfl)
theorem dX7_sagOf_26 : decode cX7_sagOf 26 = .ok (.iload_n 3, 1) := dk_29 (dk_at dksX7_sagOf_1 2 rfl rfl)
theorem dX7_sagOf_27 : decode cX7_sagOf 27 = .ok (.iconst 1, 1) := dk_4 (dk_at dksX7_sagOf_1 3 rfl rfl)
theorem dX7_sagOf_28 : decode cX7_sagOf 28 = .ok (.iadd, 1) := dk_96 (dk_at dksX7_sagOf_1 4 rfl rfl)
theorem dX7_sagOf_29 : decode cX7_sagOf 29 = .ok (.idiv, 1) := dk_108 (dk_at dksX7_sagOf_1 5 rfl rfl)
theorem dX7_sagOf_30 : decode cX7_sagOf 30 = .ok (.iadd, 1) := dk_96 (dk_at dksX7_sagOf_1 6 rfl rfl)
theorem dX7_sagOf_31 : decode cX7_sagOf 31 = .ok (.istore_n 2, 1) := dk_61 (dk_at dksX7_sagOf_1 7 rfl rfl)
theorem dX7_sagOf_32 : decode cX7_sagOf 32 = .ok (.iinc 3 1, 3) := dk_132 3 1 (dk_at dksX7_sagOf_1 8 rfl rfl)
theorem dX7_sagOf_35 : decode cX7_sagOf 35 = .ok (.goto (-31), 3) := dk_167 255 225 (dk_at dksX7_sagOf_1 11 rfl rfl)
theorem dX7_sagOf_38 : decode cX7_sagOf 38 = .ok (.iload_n 2, 1) := dk_28 (dk_at dksX7_sagOf_1 14 rfl rfl)
theorem dX7_sagOf_39 : decode cX7_sagOf 39 = .ok (.ireturn, 1) := dk_172 (dk_at dksX7_sagOf_1 15 rfl rfl)
abbrev cX7_lastOf : ByteArray := prog_12_method_50_code
def yX7_lastOf : MethodName := ⟨RX7, "lastOf", "(I)I"⟩
def dkwX7_lastOf_1 : List UInt8 := [180, 0, 71, 27, 46, 96, 4, 100, 46, 172]
abbrev dktX7_lastOf_1 : List UInt8 := dkwX7_lastOf_1 ++ []
def dkwX7_lastOf_0 : List UInt8 := [42, 180, 0, 71, 27, 46, 154, 0, 7, 3, 167, 0, 21, 42, 180, 0, 65, 16, 8, 27, 104, 42]
abbrev dktX7_lastOf_0 : List UInt8 := dkwX7_lastOf_0 ++ dktX7_lastOf_1
theorem dksX7_lastOf_0 : cX7_lastOf.data.toList.drop 0 = dktX7_lastOf_0 := by decide +kernel
theorem dksX7_lastOf_1 : cX7_lastOf.data.toList.drop 22 = dktX7_lastOf_1 := dk_seg dksX7_lastOf_0 22 rfl rfl
theorem dX7_lastOf_0 : decode cX7_lastOf 0 = .ok (.aload_n 0, 1) := dk_42 (dk_at dksX7_lastOf_0 0 rfl rfl)
theorem dX7_lastOf_1 : decode cX7_lastOf 1 = .ok (.getfield 71, 3) := dk_180 0 71 (dk_at dksX7_lastOf_0 1 rfl rfl)
theorem dX7_lastOf_4 : decode cX7_lastOf 4 = .ok (.iload_n 1, 1) := dk_27 (dk_at dksX7_lastOf_0 4 rfl rfl)
theorem dX7_lastOf_5 : decode cX7_lastOf 5 = .ok (.iaload, 1) := dk_46 (dk_at dksX7_lastOf_0 5 rfl rfl)
theorem dX7_lastOf_6 : decode cX7_lastOf 6 = .ok (.ifCond .ne 7, 3) := dk_154 0 7 (dk_at dksX7_lastOf_0 6 rfl rfl)
theorem dX7_lastOf_9 : decode cX7_lastOf 9 = .ok (.iconst 0, 1) := dk_3 (dk_at dksX7_lastOf_0 9 rfl rfl)
theorem dX7_lastOf_10 : decode cX7_lastOf 10 = .ok (.goto 21, 3) := dk_167 0 21 (dk_at dksX7_lastOf_0 10 rfl rfl)
theorem dX7_lastOf_13 : decode cX7_lastOf 13 = .ok (.aload_n 0, 1) := dk_42 (dk_at dksX7_lastOf_0 13 rfl rfl)
theorem dX7_lastOf_14 : decode cX7_lastOf 14 = .ok (.getfield 65, 3) := dk_180 0 65 (dk_at dksX7_lastOf_0 14 rfl rfl)
theorem dX7_lastOf_17 : decode cX7_lastOf 17 = .ok (.bipush 8, 2) := dk_16 8 (dk_at dksX7_lastOf_0 17 rfl rfl)
theorem dX7_lastOf_19 : decode cX7_lastOf 19 = .ok (.iload_n 1, 1) := dk_27 (dk_at dksX7_lastOf_0 19 rfl rfl)
theorem dX7_lastOf_20 : decode cX7_lastOf 20 = .ok (.imul, 1) := dk_104 (dk_at dksX7_lastOf_0 20 rfl rfl)
theorem dX7_lastOf_21 : decode cX7_lastOf 21 = .ok (.aload_n 0, 1) := dk_42 (dk_at dksX7_lastOf_0 21 rfl rfl)
theorem dX7_lastOf_22 : decode cX7_lastOf 22 = .ok (.getfield 71, 3) := dk_180 0 71 (dk_at dksX7_lastOf_1 0 rfl rfl)
theorem dX7_lastOf_25 : decode cX7_lastOf 25 = .ok (.iload_n 1, 1) := dk_27 (dk_at dksX7_lastOf_1 3 rfl rfl)
theorem dX7_lastOf_26 : decode cX7_lastOf 26 = .ok (.iaload, 1) := dk_46 (dk_at dksX7_lastOf_1 4 rfl rfl)
theorem dX7_lastOf_27 : decode cX7_lastOf 27 = .ok (.iadd, 1) := dk_96 (dk_at dksX7_lastOf_1 5 rfl rfl)
theorem dX7_lastOf_28 : decode cX7_lastOf 28 = .ok (.iconst 1, 1) := dk_4 (dk_at dksX7_lastOf_1 6 rfl rfl)
theorem dX7_lastOf_29 : decode cX7_lastOf 29 = .ok (.isub, 1) := dk_100 (dk_at dksX7_lastOf_1 7 rfl rfl)
theorem dX7_lastOf_30 : decode cX7_lastOf 30 = .ok (.iaload, 1) := dk_46 (dk_at dksX7_lastOf_1 8 rfl rfl)
theorem dX7_lastOf_31 : decode cX7_lastOf 31 = .ok (.ireturn, 1) := dk_172 (dk_at dksX7_lastOf_1 9 rfl rfl)
abbrev cX7_crosses : ByteArray := prog_12_method_51_code
def yX7_crosses : MethodName := ⟨RX7, "crosses", "(III)I"⟩
def dkwX7_crosses_7 : List UInt8 := [180, 0, 71, 27, 46, 96, 29, 79, 42, 180, 0, 71, 27, 92, 46, 4, 96, 79, 21, 6, 172]
abbrev dktX7_crosses_7 : List UInt8 := dkwX7_crosses_7 ++ []
def dkwX7_crosses_6 : List UInt8 := [16, 8, 27, 104, 42, 180, 0, 71, 27, 46, 96, 28, 79, 42, 180, 0, 68, 16, 8, 27, 104, 42]
abbrev dktX7_crosses_6 : List UInt8 := dkwX7_crosses_6 ++ dktX7_crosses_7
def dkwX7_crosses_5 : List UInt8 := [163, 0, 19, 42, 180, 0, 71, 27, 92, 46, 4, 100, 79, 132, 6, 1, 167, 255, 225, 42, 180, 0, 65]
abbrev dktX7_crosses_5 : List UInt8 := dkwX7_crosses_5 ++ dktX7_crosses_6
def dkwX7_crosses_4 : List UInt8 := [100, 79, 4, 172, 3, 54, 6, 42, 180, 0, 71, 27, 46, 158, 0, 28, 42, 27, 182, 1, 48, 28]
abbrev dktX7_crosses_4 : List UInt8 := dkwX7_crosses_4 ++ dktX7_crosses_5
def dkwX7_crosses_3 : List UInt8 := [180, 0, 71, 27, 46, 158, 0, 23, 5, 28, 104, 21, 4, 162, 0, 15, 42, 180, 0, 71, 27, 92, 46, 4]
abbrev dktX7_crosses_3 : List UInt8 := dkwX7_crosses_3 ++ dktX7_crosses_4
def dkwX7_crosses_2 : List UInt8 := [180, 0, 71, 27, 46, 158, 0, 13, 5, 28, 104, 21, 4, 163, 0, 5, 3, 172, 21, 5, 153, 0, 32, 42]
abbrev dktX7_crosses_2 : List UInt8 := dkwX7_crosses_2 ++ dktX7_crosses_3
def dkwX7_crosses_1 : List UInt8 := [5, 112, 4, 160, 0, 7, 4, 167, 0, 4, 3, 54, 5, 42, 180, 1, 39, 5, 160, 0, 22, 42]
abbrev dktX7_crosses_1 : List UInt8 := dkwX7_crosses_1 ++ dktX7_crosses_2
def dkwX7_crosses_0 : List UInt8 := [42, 27, 182, 1, 48, 54, 4, 42, 180, 1, 39, 4, 159, 0, 18, 42, 180, 1, 39, 6, 160, 0, 14, 28]
abbrev dktX7_crosses_0 : List UInt8 := dkwX7_crosses_0 ++ dktX7_crosses_1
theorem dksX7_crosses_0 : cX7_crosses.data.toList.drop 0 = dktX7_crosses_0 := by decide +kernel
theorem dksX7_crosses_1 : cX7_crosses.data.toList.drop 24 = dktX7_crosses_1 := dk_seg dksX7_crosses_0 24 rfl rfl
theorem dksX7_crosses_2 : cX7_crosses.data.toList.drop 46 = dktX7_crosses_2 := dk_seg dksX7_crosses_1 22 rfl rfl
theorem dksX7_crosses_3 : cX7_crosses.data.toList.drop 70 = dktX7_crosses_3 := dk_seg dksX7_crosses_2 24 rfl rfl
theorem dksX7_crosses_4 : cX7_crosses.data.toList.drop 94 = dktX7_crosses_4 := dk_seg dksX7_crosses_3 24 rfl rfl
theorem dksX7_crosses_5 : cX7_crosses.data.toList.drop 116 = dktX7_crosses_5 := dk_seg dksX7_crosses_4 22 rfl rfl
theorem dksX7_crosses_6 : cX7_crosses.data.toList.drop 139 = dktX7_crosses_6 := dk_seg dksX7_crosses_5 23 rfl rfl
theorem dksX7_crosses_7 : cX7_crosses.data.toList.drop 161 = dktX7_crosses_7 := dk_seg dksX7_crosses_6 22 rfl rfl
theorem dX7_crosses_0 : decode cX7_crosses 0 = .ok (.aload_n 0, 1) := dk_42 (dk_at dksX7_crosses_0 0 rfl rfl)
theorem dX7_crosses_1 : decode cX7_crosses 1 = .ok (.iload_n 1, 1) := dk_27 (dk_at dksX7_crosses_0 1 rfl rfl)
theorem dX7_crosses_2 : decode cX7_crosses 2 = .ok (.invokevirtual 304, 3) := dk_182 1 48 (dk_at dksX7_crosses_0 2 rfl rfl)
theorem dX7_crosses_5 : decode cX7_crosses 5 = .ok (.istore 4, 2) := dk_54 4 (dk_at dksX7_crosses_0 5 rfl rfl)
theorem dX7_crosses_7 : decode cX7_crosses 7 = .ok (.aload_n 0, 1) := dk_42 (dk_at dksX7_crosses_0 7 rfl rfl)
theorem dX7_crosses_8 : decode cX7_crosses 8 = .ok (.getfield 295, 3) := dk_180 1 39 (dk_at dksX7_crosses_0 8 rfl rfl)
theorem dX7_crosses_11 : decode cX7_crosses 11 = .ok (.iconst 1, 1) := dk_4 (dk_at dksX7_crosses_0 11 rfl rfl)
theorem dX7_crosses_12 : decode cX7_crosses 12 = .ok (.if_icmp .eq 18, 3) := dk_159 0 18 (dk_at dksX7_crosses_0 12 rfl rfl)
theorem dX7_crosses_15 : decode cX7_crosses 15 = .ok (.aload_n 0, 1) := dk_42 (dk_at dksX7_crosses_0 15 rfl rfl)
theorem dX7_crosses_16 : decode cX7_crosses 16 = .ok (.getfield 295, 3) := dk_180 1 39 (dk_at dksX7_crosses_0 16 rfl rfl)
theorem dX7_crosses_19 : decode cX7_crosses 19 = .ok (.iconst 3, 1) := dk_6 (dk_at dksX7_crosses_0 19 rfl rfl)
theorem dX7_crosses_20 : decode cX7_crosses 20 = .ok (.if_icmp .ne 14, 3) := dk_160 0 14 (dk_at dksX7_crosses_0 20 rfl rfl)
theorem dX7_crosses_23 : decode cX7_crosses 23 = .ok (.iload_n 2, 1) := dk_28 (dk_at dksX7_crosses_0 23 rfl rfl)
theorem dX7_crosses_24 : decode cX7_crosses 24 = .ok (.iconst 2, 1) := dk_5 (dk_at dksX7_crosses_1 0 rfl rfl)
theorem dX7_crosses_25 : decode cX7_crosses 25 = .ok (.irem, 1) := dk_112 (dk_at dksX7_crosses_1 1 rfl rfl)
theorem dX7_crosses_26 : decode cX7_crosses 26 = .ok (.iconst 1, 1) := dk_4 (dk_at dksX7_crosses_1 2 rfl rfl)
theorem dX7_crosses_27 : decode cX7_crosses 27 = .ok (.if_icmp .ne 7, 3) := dk_160 0 7 (dk_at dksX7_crosses_1 3 rfl rfl)
theorem dX7_crosses_30 : decode cX7_crosses 30 = .ok (.iconst 1, 1) := dk_4 (dk_at dksX7_crosses_1 6 rfl rfl)
theorem dX7_crosses_31 : decode cX7_crosses 31 = .ok (.goto 4, 3) := dk_167 0 4 (dk_at dksX7_crosses_1 7 rfl rfl)
theorem dX7_crosses_34 : decode cX7_crosses 34 = .ok (.iconst 0, 1) := dk_3 (dk_at dksX7_crosses_1 10 rfl rfl)
theorem dX7_crosses_35 : decode cX7_crosses 35 = .ok (.istore 5, 2) := dk_54 5 (dk_at dksX7_crosses_1 11 rfl rfl)
theorem dX7_crosses_37 : decode cX7_crosses 37 = .ok (.aload_n 0, 1) := dk_42 (dk_at dksX7_crosses_1 13 rfl rfl)
theorem dX7_crosses_38 : decode cX7_crosses 38 = .ok (.getfield 295, 3) := dk_180 1 39 (dk_at dksX7_crosses_1 14 rfl rfl)
theorem dX7_crosses_41 : decode cX7_crosses 41 = .ok (.iconst 2, 1) := dk_5 (dk_at dksX7_crosses_1 17 rfl rfl)
theorem dX7_crosses_42 : decode cX7_crosses 42 = .ok (.if_icmp .ne 22, 3) := dk_160 0 22 (dk_at dksX7_crosses_1 18 rfl rfl)
theorem dX7_crosses_45 : decode cX7_crosses 45 = .ok (.aload_n 0, 1) := dk_42 (dk_at dksX7_crosses_1 21 rfl rfl)
theorem dX7_crosses_46 : decode cX7_crosses 46 = .ok (.getfield 71, 3) := dk_180 0 71 (dk_at dksX7_crosses_2 0 rfl rfl)
theorem dX7_crosses_49 : decode cX7_crosses 49 = .ok (.iload_n 1, 1) := dk_27 (dk_at dksX7_crosses_2 3 rfl rfl)
theorem dX7_crosses_50 : decode cX7_crosses 50 = .ok (.iaload, 1) := dk_46 (dk_at dksX7_crosses_2 4 rfl rfl)
theorem dX7_crosses_51 : decode cX7_crosses 51 = .ok (.ifCond .le 13, 3) := dk_158 0 13 (dk_at dksX7_crosses_2 5 rfl rfl)
theorem dX7_crosses_54 : decode cX7_crosses 54 = .ok (.iconst 2, 1) := dk_5 (dk_at dksX7_crosses_2 8 rfl rfl)
theorem dX7_crosses_55 : decode cX7_crosses 55 = .ok (.iload_n 2, 1) := dk_28 (dk_at dksX7_crosses_2 9 rfl rfl)
theorem dX7_crosses_56 : decode cX7_crosses 56 = .ok (.imul, 1) := dk_104 (dk_at dksX7_crosses_2 10 rfl rfl)
theorem dX7_crosses_57 : decode cX7_crosses 57 = .ok (.iload 4, 2) := dk_21 4 (dk_at dksX7_crosses_2 11 rfl rfl)
theorem dX7_crosses_59 : decode cX7_crosses 59 = .ok (.if_icmp .gt 5, 3) := dk_163 0 5 (dk_at dksX7_crosses_2 13 rfl rfl)
theorem dX7_crosses_62 : decode cX7_crosses 62 = .ok (.iconst 0, 1) := dk_3 (dk_at dksX7_crosses_2 16 rfl rfl)
theorem dX7_crosses_63 : decode cX7_crosses 63 = .ok (.ireturn, 1) := dk_172 (dk_at dksX7_crosses_2 17 rfl rfl)
theorem dX7_crosses_64 : decode cX7_crosses 64 = .ok (.iload 5, 2) := dk_21 5 (dk_at dksX7_crosses_2 18 rfl rfl)
theorem dX7_crosses_66 : decode cX7_crosses 66 = .ok (.ifCond .eq 32, 3) := dk_153 0 32 (dk_at dksX7_crosses_2 20 rfl rfl)
theorem dX7_crosses_69 : decode cX7_crosses 69 = .ok (.aload_n 0, 1) := dk_42 (dk_at dksX7_crosses_2 23 rfl rfl)
theorem dX7_crosses_70 : decode cX7_crosses 70 = .ok (.getfield 71, 3) := dk_180 0 71 (dk_at dksX7_crosses_3 0 rfl rfl)
theorem dX7_crosses_73 : decode cX7_crosses 73 = .ok (.iload_n 1, 1) := dk_27 (dk_at dksX7_crosses_3 3 rfl rfl)
theorem dX7_crosses_74 : decode cX7_crosses 74 = .ok (.iaload, 1) := dk_46 (dk_at dksX7_crosses_3 4 rfl rfl)
theorem dX7_crosses_75 : decode cX7_crosses 75 = .ok (.ifCond .le 23, 3) := dk_158 0 23 (dk_at dksX7_crosses_3 5 rfl rfl)
theorem dX7_crosses_78 : decode cX7_crosses 78 = .ok (.iconst 2, 1) := dk_5 (dk_at dksX7_crosses_3 8 rfl rfl)
theorem dX7_crosses_79 : decode cX7_crosses 79 = .ok (.iload_n 2, 1) := dk_28 (dk_at dksX7_crosses_3 9 rfl rfl)
theorem dX7_crosses_80 : decode cX7_crosses 80 = .ok (.imul, 1) := dk_104 (dk_at dksX7_crosses_3 10 rfl rfl)
theorem dX7_crosses_81 : decode cX7_crosses 81 = .ok (.iload 4, 2) := dk_21 4 (dk_at dksX7_crosses_3 11 rfl rfl)
theorem dX7_crosses_83 : decode cX7_crosses 83 = .ok (.if_icmp .ge 15, 3) := dk_162 0 15 (dk_at dksX7_crosses_3 13 rfl rfl)
theorem dX7_crosses_86 : decode cX7_crosses 86 = .ok (.aload_n 0, 1) := dk_42 (dk_at dksX7_crosses_3 16 rfl rfl)
theorem dX7_crosses_87 : decode cX7_crosses 87 = .ok (.getfield 71, 3) := dk_180 0 71 (dk_at dksX7_crosses_3 17 rfl rfl)
theorem dX7_crosses_90 : decode cX7_crosses 90 = .ok (.iload_n 1, 1) := dk_27 (dk_at dksX7_crosses_3 20 rfl rfl)
theorem dX7_crosses_91 : decode cX7_crosses 91 = .ok (.dup2, 1) := dk_92 (dk_at dksX7_crosses_3 21 rfl rfl)
theorem dX7_crosses_92 : decode cX7_crosses 92 = .ok (.iaload, 1) := dk_46 (dk_at dksX7_crosses_3 22 rfl rfl)
theorem dX7_crosses_93 : decode cX7_crosses 93 = .ok (.iconst 1, 1) := dk_4 (dk_at dksX7_crosses_3 23 rfl rfl)
theorem dX7_crosses_94 : decode cX7_crosses 94 = .ok (.isub, 1) := dk_100 (dk_at dksX7_crosses_4 0 rfl rfl)
theorem dX7_crosses_95 : decode cX7_crosses 95 = .ok (.iastore, 1) := dk_79 (dk_at dksX7_crosses_4 1 rfl rfl)
theorem dX7_crosses_96 : decode cX7_crosses 96 = .ok (.iconst 1, 1) := dk_4 (dk_at dksX7_crosses_4 2 rfl rfl)
theorem dX7_crosses_97 : decode cX7_crosses 97 = .ok (.ireturn, 1) := dk_172 (dk_at dksX7_crosses_4 3 rfl rfl)
theorem dX7_crosses_98 : decode cX7_crosses 98 = .ok (.iconst 0, 1) := dk_3 (dk_at dksX7_crosses_4 4 rfl rfl)
theorem dX7_crosses_99 : decode cX7_crosses 99 = .ok (.istore 6, 2) := dk_54 6 (dk_at dksX7_crosses_4 5 rfl rfl)
theorem dX7_crosses_101 : decode cX7_crosses 101 = .ok (.aload_n 0, 1) := dk_42 (dk_at dksX7_crosses_4 7 rfl rfl)
theorem dX7_crosses_102 : decode cX7_crosses 102 = .ok (.getfield 71, 3) := dk_180 0 71 (dk_at dksX7_crosses_4 8 rfl rfl)
theorem dX7_crosses_105 : decode cX7_crosses 105 = .ok (.iload_n 1, 1) := dk_27 (dk_at dksX7_crosses_4 11 rfl rfl)
theorem dX7_crosses_106 : decode cX7_crosses 106 = .ok (.iaload, 1) := dk_46 (dk_at dksX7_crosses_4 12 rfl rfl)
theorem dX7_crosses_107 : decode cX7_crosses 107 = .ok (.ifCond .le 28, 3) := dk_158 0 28 (dk_at dksX7_crosses_4 13 rfl rfl)
theorem dX7_crosses_110 : decode cX7_crosses 110 = .ok (.aload_n 0, 1) := dk_42 (dk_at dksX7_crosses_4 16 rfl rfl)
theorem dX7_crosses_111 : decode cX7_crosses 111 = .ok (.iload_n 1, 1) := dk_27 (dk_at dksX7_crosses_4 17 rfl rfl)
theorem dX7_crosses_112 : decode cX7_crosses 112 = .ok (.invokevirtual 304, 3) := dk_182 1 48 (dk_at dksX7_crosses_4 18 rfl rfl)
theorem dX7_crosses_115 : decode cX7_crosses 115 = .ok (.iload_n 2, 1) := dk_28 (dk_at dksX7_crosses_4 21 rfl rfl)
theorem dX7_crosses_116 : decode cX7_crosses 116 = .ok (.if_icmp .gt 19, 3) := dk_163 0 19 (dk_at dksX7_crosses_5 0 rfl rfl)
theorem dX7_crosses_119 : decode cX7_crosses 119 = .ok (.aload_n 0, 1) := dk_42 (dk_at dksX7_crosses_5 3 rfl rfl)
theorem dX7_crosses_120 : decode cX7_crosses 120 = .ok (.getfield 71, 3) := dk_180 0 71 (dk_at dksX7_crosses_5 4 rfl rfl)
theorem dX7_crosses_123 : decode cX7_crosses 123 = .ok (.iload_n 1, 1) := dk_27 (dk_at dksX7_crosses_5 7 rfl rfl)
theorem dX7_crosses_124 : decode cX7_crosses 124 = .ok (.dup2, 1) := dk_92 (dk_at dksX7_crosses_5 8 rfl rfl)
theorem dX7_crosses_125 : decode cX7_crosses 125 = .ok (.iaload, 1) := dk_46 (dk_at dksX7_crosses_5 9 rfl rfl)
theorem dX7_crosses_126 : decode cX7_crosses 126 = .ok (.iconst 1, 1) := dk_4 (dk_at dksX7_crosses_5 10 rfl rfl)
theorem dX7_crosses_127 : decode cX7_crosses 127 = .ok (.isub, 1) := dk_100 (dk_at dksX7_crosses_5 11 rfl rfl)
theorem dX7_crosses_128 : decode cX7_crosses 128 = .ok (.iastore, 1) := dk_79 (dk_at dksX7_crosses_5 12 rfl rfl)
theorem dX7_crosses_129 : decode cX7_crosses 129 = .ok (.iinc 6 1, 3) := dk_132 6 1 (dk_at dksX7_crosses_5 13 rfl rfl)
theorem dX7_crosses_132 : decode cX7_crosses 132 = .ok (.goto (-31), 3) := dk_167 255 225 (dk_at dksX7_crosses_5 16 rfl rfl)
theorem dX7_crosses_135 : decode cX7_crosses 135 = .ok (.aload_n 0, 1) := dk_42 (dk_at dksX7_crosses_5 19 rfl rfl)
theorem dX7_crosses_136 : decode cX7_crosses 136 = .ok (.getfield 65, 3) := dk_180 0 65 (dk_at dksX7_crosses_5 20 rfl rfl)
theorem dX7_crosses_139 : decode cX7_crosses 139 = .ok (.bipush 8, 2) := dk_16 8 (dk_at dksX7_crosses_6 0 rfl rfl)
theorem dX7_crosses_141 : decode cX7_crosses 141 = .ok (.iload_n 1, 1) := dk_27 (dk_at dksX7_crosses_6 2 rfl rfl)
theorem dX7_crosses_142 : decode cX7_crosses 142 = .ok (.imul, 1) := dk_104 (dk_at dksX7_crosses_6 3 rfl rfl)
theorem dX7_crosses_143 : decode cX7_crosses 143 = .ok (.aload_n 0, 1) := dk_42 (dk_at dksX7_crosses_6 4 rfl rfl)
theorem dX7_crosses_144 : decode cX7_crosses 144 = .ok (.getfield 71, 3) := dk_180 0 71 (dk_at dksX7_crosses_6 5 rfl rfl)
theorem dX7_crosses_147 : decode cX7_crosses 147 = .ok (.iload_n 1, 1) := dk_27 (dk_at dksX7_crosses_6 8 rfl rfl)
theorem dX7_crosses_148 : decode cX7_crosses 148 = .ok (.iaload, 1) := dk_46 (dk_at dksX7_crosses_6 9 rfl rfl)
theorem dX7_crosses_149 : decode cX7_crosses 149 = .ok (.iadd, 1) := dk_96 (dk_at dksX7_crosses_6 10 rfl rfl)
theorem dX7_crosses_150 : decode cX7_crosses 150 = .ok (.iload_n 2, 1) := dk_28 (dk_at dksX7_crosses_6 11 rfl rfl)
theorem dX7_crosses_151 : decode cX7_crosses 151 = .ok (.iastore, 1) := dk_79 (dk_at dksX7_crosses_6 12 rfl rfl)
theorem dX7_crosses_152 : decode cX7_crosses 152 = .ok (.aload_n 0, 1) := dk_42 (dk_at dksX7_crosses_6 13 rfl rfl)
theorem dX7_crosses_153 : decode cX7_crosses 153 = .ok (.getfield 68, 3) := dk_180 0 68 (dk_at dksX7_crosses_6 14 rfl rfl)
theorem dX7_crosses_156 : decode cX7_crosses 156 = .ok (.bipush 8, 2) := dk_16 8 (dk_at dksX7_crosses_6 17 rfl rfl)
theorem dX7_crosses_158 : decode cX7_crosses 158 = .ok (.iload_n 1, 1) := dk_27 (dk_at dksX7_crosses_6 19 rfl rfl)
theorem dX7_crosses_159 : decode cX7_crosses 159 = .ok (.imul, 1) := dk_104 (dk_at dksX7_crosses_6 20 rfl rfl)
theorem dX7_crosses_160 : decode cX7_crosses 160 = .ok (.aload_n 0, 1) := dk_42 (dk_at dksX7_crosses_6 21 rfl rfl)
theorem dX7_crosses_161 : decode cX7_crosses 161 = .ok (.getfield 71, 3) := dk_180 0 71 (dk_at dksX7_crosses_7 0 rfl rfl)
theorem dX7_crosses_164 : decode cX7_crosses 164 = .ok (.iload_n 1, 1) := dk_27 (dk_at dksX7_crosses_7 3 rfl rfl)
theorem dX7_crosses_165 : decode cX7_crosses 165 = .ok (.iaload, 1) := dk_46 (dk_at dksX7_crosses_7 4 rfl rfl)
theorem dX7_crosses_166 : decode cX7_crosses 166 = .ok (.iadd, 1) := dk_96 (dk_at dksX7_crosses_7 5 rfl rfl)
theorem dX7_crosses_167 : decode cX7_crosses 167 = .ok (.iload_n 3, 1) := dk_29 (dk_at dksX7_crosses_7 6 rfl rfl)
theorem dX7_crosses_168 : decode cX7_crosses 168 = .ok (.iastore, 1) := dk_79 (dk_at dksX7_crosses_7 7 rfl rfl)
theorem dX7_crosses_169 : decode cX7_crosses 169 = .ok (.aload_n 0, 1) := dk_42 (dk_at dksX7_crosses_7 8 rfl rfl)
theorem dX7_crosses_170 : decode cX7_crosses 170 = .ok (.getfield 71, 3) := dk_180 0 71 (dk_at dksX7_crosses_7 9 rfl rfl)
theorem dX7_crosses_173 : decode cX7_crosses 173 = .ok (.iload_n 1, 1) := dk_27 (dk_at dksX7_crosses_7 12 rfl rfl)
theorem dX7_crosses_174 : decode cX7_crosses 174 = .ok (.dup2, 1) := dk_92 (dk_at dksX7_crosses_7 13 rfl rfl)
theorem dX7_crosses_175 : decode cX7_crosses 175 = .ok (.iaload, 1) := dk_46 (dk_at dksX7_crosses_7 14 rfl rfl)
theorem dX7_crosses_176 : decode cX7_crosses 176 = .ok (.iconst 1, 1) := dk_4 (dk_at dksX7_crosses_7 15 rfl rfl)
theorem dX7_crosses_177 : decode cX7_crosses 177 = .ok (.iadd, 1) := dk_96 (dk_at dksX7_crosses_7 16 rfl rfl)
theorem dX7_crosses_178 : decode cX7_crosses 178 = .ok (.iastore, 1) := dk_79 (dk_at dksX7_crosses_7 17 rfl rfl)
theorem dX7_crosses_179 : decode cX7_crosses 179 = .ok (.iload 6, 2) := dk_21 6 (dk_at dksX7_crosses_7 18 rfl rfl)
theorem dX7_crosses_181 : decode cX7_crosses 181 = .ok (.ireturn, 1) := dk_172 (dk_at dksX7_crosses_7 20 rfl rfl)
abbrev cX7_comes : ByteArray := prog_12_method_67_code
def yX7_comes : MethodName := ⟨RX7, "comes", "(I)I"⟩
def dkwX7_comes_1 : List UInt8 := [180, 0, 83, 27, 46, 172]
abbrev dktX7_comes_1 : List UInt8 := dkwX7_comes_1 ++ []
def dkwX7_comes_0 : List UInt8 := [42, 3, 181, 0, 116, 42, 27, 133, 182, 1, 33, 154, 0, 6, 16, 254, 172, 42, 182, 1, 80, 42]
abbrev dktX7_comes_0 : List UInt8 := dkwX7_comes_0 ++ dktX7_comes_1
theorem dksX7_comes_0 : cX7_comes.data.toList.drop 0 = dktX7_comes_0 := by decide +kernel
theorem dksX7_comes_1 : cX7_comes.data.toList.drop 22 = dktX7_comes_1 := dk_seg dksX7_comes_0 22 rfl rfl
theorem dX7_comes_0 : decode cX7_comes 0 = .ok (.aload_n 0, 1) := dk_42 (dk_at dksX7_comes_0 0 rfl rfl)
theorem dX7_comes_1 : decode cX7_comes 1 = .ok (.iconst 0, 1) := dk_3 (dk_at dksX7_comes_0 1 rfl rfl)
theorem dX7_comes_2 : decode cX7_comes 2 = .ok (.putfield 116, 3) := dk_181 0 116 (dk_at dksX7_comes_0 2 rfl rfl)
theorem dX7_comes_5 : decode cX7_comes 5 = .ok (.aload_n 0, 1) := dk_42 (dk_at dksX7_comes_0 5 rfl rfl)
theorem dX7_comes_6 : decode cX7_comes 6 = .ok (.iload_n 1, 1) := dk_27 (dk_at dksX7_comes_0 6 rfl rfl)
theorem dX7_comes_7 : decode cX7_comes 7 = .ok (.i2l, 1) := dk_133 (dk_at dksX7_comes_0 7 rfl rfl)
theorem dX7_comes_8 : decode cX7_comes 8 = .ok (.invokevirtual 289, 3) := dk_182 1 33 (dk_at dksX7_comes_0 8 rfl rfl)
theorem dX7_comes_11 : decode cX7_comes 11 = .ok (.ifCond .ne 6, 3) := dk_154 0 6 (dk_at dksX7_comes_0 11 rfl rfl)
theorem dX7_comes_14 : decode cX7_comes 14 = .ok (.bipush (-2), 2) := dk_16 254 (dk_at dksX7_comes_0 14 rfl rfl)
theorem dX7_comes_16 : decode cX7_comes 16 = .ok (.ireturn, 1) := dk_172 (dk_at dksX7_comes_0 16 rfl rfl)
theorem dX7_comes_17 : decode cX7_comes 17 = .ok (.aload_n 0, 1) := dk_42 (dk_at dksX7_comes_0 17 rfl rfl)
theorem dX7_comes_18 : decode cX7_comes 18 = .ok (.invokevirtual 336, 3) := dk_182 1 80 (dk_at dksX7_comes_0 18 rfl rfl)
theorem dX7_comes_21 : decode cX7_comes 21 = .ok (.aload_n 0, 1) := dk_42 (dk_at dksX7_comes_0 21 rfl rfl)
theorem dX7_comes_22 : decode cX7_comes 22 = .ok (.getfield 83, 3) := dk_180 0 83 (dk_at dksX7_comes_1 0 rfl rfl)
theorem dX7_comes_25 : decode cX7_comes 25 = .ok (.iload_n 1, 1) := dk_27 (dk_at dksX7_comes_1 3 rfl rfl)
theorem dX7_comes_26 : decode cX7_comes 26 = .ok (.iaload, 1) := dk_46 (dk_at dksX7_comes_1 4 rfl rfl)
theorem dX7_comes_27 : decode cX7_comes 27 = .ok (.ireturn, 1) := dk_172 (dk_at dksX7_comes_1 5 rfl rfl)
abbrev cX7_over : ByteArray := prog_12_method_69_code
def yX7_over : MethodName := ⟨RX7, "over", "(I)I"⟩
def dkwX7_over_1 : List UInt8 := [182, 1, 91, 172]
abbrev dktX7_over_1 : List UInt8 := dkwX7_over_1 ++ []
def dkwX7_over_0 : List UInt8 := [42, 3, 181, 0, 116, 42, 27, 133, 182, 1, 36, 154, 0, 6, 16, 254, 172, 42, 182, 1, 80, 42, 27]
abbrev dktX7_over_0 : List UInt8 := dkwX7_over_0 ++ dktX7_over_1
theorem dksX7_over_0 : cX7_over.data.toList.drop 0 = dktX7_over_0 := by decide +kernel
theorem dksX7_over_1 : cX7_over.data.toList.drop 23 = dktX7_over_1 := dk_seg dksX7_over_0 23 rfl rfl
theorem dX7_over_0 : decode cX7_over 0 = .ok (.aload_n 0, 1) := dk_42 (dk_at dksX7_over_0 0 rfl rfl)
theorem dX7_over_1 : decode cX7_over 1 = .ok (.iconst 0, 1) := dk_3 (dk_at dksX7_over_0 1 rfl rfl)
theorem dX7_over_2 : decode cX7_over 2 = .ok (.putfield 116, 3) := dk_181 0 116 (dk_at dksX7_over_0 2 rfl rfl)
theorem dX7_over_5 : decode cX7_over 5 = .ok (.aload_n 0, 1) := dk_42 (dk_at dksX7_over_0 5 rfl rfl)
theorem dX7_over_6 : decode cX7_over 6 = .ok (.iload_n 1, 1) := dk_27 (dk_at dksX7_over_0 6 rfl rfl)
theorem dX7_over_7 : decode cX7_over 7 = .ok (.i2l, 1) := dk_133 (dk_at dksX7_over_0 7 rfl rfl)
theorem dX7_over_8 : decode cX7_over 8 = .ok (.invokevirtual 292, 3) := dk_182 1 36 (dk_at dksX7_over_0 8 rfl rfl)
theorem dX7_over_11 : decode cX7_over 11 = .ok (.ifCond .ne 6, 3) := dk_154 0 6 (dk_at dksX7_over_0 11 rfl rfl)
theorem dX7_over_14 : decode cX7_over 14 = .ok (.bipush (-2), 2) := dk_16 254 (dk_at dksX7_over_0 14 rfl rfl)
theorem dX7_over_16 : decode cX7_over 16 = .ok (.ireturn, 1) := dk_172 (dk_at dksX7_over_0 16 rfl rfl)
theorem dX7_over_17 : decode cX7_over 17 = .ok (.aload_n 0, 1) := dk_42 (dk_at dksX7_over_0 17 rfl rfl)
theorem dX7_over_18 : decode cX7_over 18 = .ok (.invokevirtual 336, 3) := dk_182 1 80 (dk_at dksX7_over_0 18 rfl rfl)
theorem dX7_over_21 : decode cX7_over 21 = .ok (.aload_n 0, 1) := dk_42 (dk_at dksX7_over_0 21 rfl rfl)
theorem dX7_over_22 : decode cX7_over 22 = .ok (.iload_n 1, 1) := dk_27 (dk_at dksX7_over_0 22 rfl rfl)
theorem dX7_over_23 : decode cX7_over 23 = .ok (.invokevirtual 347, 3) := dk_182 1 91 (dk_at dksX7_over_1 0 rfl rfl)
theorem dX7_over_26 : decode cX7_over 26 = .ok (.ireturn, 1) := dk_172 (dk_at dksX7_over_1 3 rfl rfl)
abbrev cX7_overOf : ByteArray := prog_12_method_68_code
def yX7_overOf : MethodName := ⟨RX7, "overOf", "(I)I"⟩
def dkwX7_overOf_1 : List UInt8 := [29, 120, 167, 0, 4, 3, 128, 61, 132, 3, 1, 167, 255, 225, 28, 172]
abbrev dktX7_overOf_1 : List UInt8 := dkwX7_overOf_1 ++ []
def dkwX7_overOf_0 : List UInt8 := [3, 61, 3, 62, 29, 42, 182, 1, 30, 162, 0, 29, 28, 42, 180, 0, 80, 29, 46, 27, 160, 0, 9, 4]
abbrev dktX7_overOf_0 : List UInt8 := dkwX7_overOf_0 ++ dktX7_overOf_1
theorem dksX7_overOf_0 : cX7_overOf.data.toList.drop 0 = dktX7_overOf_0 := by decide +kernel
theorem dksX7_overOf_1 : cX7_overOf.data.toList.drop 24 = dktX7_overOf_1 := dk_seg dksX7_overOf_0 24 rfl rfl
theorem dX7_overOf_0 : decode cX7_overOf 0 = .ok (.iconst 0, 1) := dk_3 (dk_at dksX7_overOf_0 0 rfl rfl)
theorem dX7_overOf_1 : decode cX7_overOf 1 = .ok (.istore_n 2, 1) := dk_61 (dk_at dksX7_overOf_0 1 rfl rfl)
theorem dX7_overOf_2 : decode cX7_overOf 2 = .ok (.iconst 0, 1) := dk_3 (dk_at dksX7_overOf_0 2 rfl rfl)
theorem dX7_overOf_3 : decode cX7_overOf 3 = .ok (.istore_n 3, 1) := dk_62 (dk_at dksX7_overOf_0 3 rfl rfl)
theorem dX7_overOf_4 : decode cX7_overOf 4 = .ok (.iload_n 3, 1) := dk_29 (dk_at dksX7_overOf_0 4 rfl rfl)
theorem dX7_overOf_5 : decode cX7_overOf 5 = .ok (.aload_n 0, 1) := dk_42 (dk_at dksX7_overOf_0 5 rfl rfl)
theorem dX7_overOf_6 : decode cX7_overOf 6 = .ok (.invokevirtual 286, 3) := dk_182 1 30 (dk_at dksX7_overOf_0 6 rfl rfl)
theorem dX7_overOf_9 : decode cX7_overOf 9 = .ok (.if_icmp .ge 29, 3) := dk_162 0 29 (dk_at dksX7_overOf_0 9 rfl rfl)
theorem dX7_overOf_12 : decode cX7_overOf 12 = .ok (.iload_n 2, 1) := dk_28 (dk_at dksX7_overOf_0 12 rfl rfl)
theorem dX7_overOf_13 : decode cX7_overOf 13 = .ok (.aload_n 0, 1) := dk_42 (dk_at dksX7_overOf_0 13 rfl rfl)
theorem dX7_overOf_14 : decode cX7_overOf 14 = .ok (.getfield 80, 3) := dk_180 0 80 (dk_at dksX7_overOf_0 14 rfl rfl)
theorem dX7_overOf_17 : decode cX7_overOf 17 = .ok (.iload_n 3, 1) := dk_29 (dk_at dksX7_overOf_0 17 rfl rfl)
theorem dX7_overOf_18 : decode cX7_overOf 18 = .ok (.iaload, 1) := dk_46 (dk_at dksX7_overOf_0 18 rfl rfl)
theorem dX7_overOf_19 : decode cX7_overOf 19 = .ok (.iload_n 1, 1) := dk_27 (dk_at dksX7_overOf_0 19 rfl rfl)
theorem dX7_overOf_20 : decode cX7_overOf 20 = .ok (.if_icmp .ne 9, 3) := dk_160 0 9 (dk_at dksX7_overOf_0 20 rfl rfl)
theorem dX7_overOf_23 : decode cX7_overOf 23 = .ok (.iconst 1, 1) := dk_4 (dk_at dksX7_overOf_0 23 rfl rfl)
theorem dX7_overOf_24 : decode cX7_overOf 24 = .ok (.iload_n 3, 1) := dk_29 (dk_at dksX7_overOf_1 0 rfl rfl)
theorem dX7_overOf_25 : decode cX7_overOf 25 = .ok (.ishl, 1) := dk_120 (dk_at dksX7_overOf_1 1 rfl rfl)
theorem dX7_overOf_26 : decode cX7_overOf 26 = .ok (.goto 4, 3) := dk_167 0 4 (dk_at dksX7_overOf_1 2 rfl rfl)
theorem dX7_overOf_29 : decode cX7_overOf 29 = .ok (.iconst 0, 1) := dk_3 (dk_at dksX7_overOf_1 5 rfl rfl)
theorem dX7_overOf_30 : decode cX7_overOf 30 = .ok (.ior, 1) := dk_128 (dk_at dksX7_overOf_1 6 rfl rfl)
theorem dX7_overOf_31 : decode cX7_overOf 31 = .ok (.istore_n 2, 1) := dk_61 (dk_at dksX7_overOf_1 7 rfl rfl)
theorem dX7_overOf_32 : decode cX7_overOf 32 = .ok (.iinc 3 1, 3) := dk_132 3 1 (dk_at dksX7_overOf_1 8 rfl rfl)
theorem dX7_overOf_35 : decode cX7_overOf 35 = .ok (.goto (-31), 3) := dk_167 255 225 (dk_at dksX7_overOf_1 11 rfl rfl)
theorem dX7_overOf_38 : decode cX7_overOf 38 = .ok (.iload_n 2, 1) := dk_28 (dk_at dksX7_overOf_1 14 rfl rfl)
theorem dX7_overOf_39 : decode cX7_overOf 39 = .ok (.ireturn, 1) := dk_172 (dk_at dksX7_overOf_1 15 rfl rfl)
abbrev cX7_waits : ByteArray := prog_12_method_70_code
def yX7_waits : MethodName := ⟨RX7, "waits", "()I"⟩
def dkwX7_waits_1 : List UInt8 := [172]
abbrev dktX7_waits_1 : List UInt8 := dkwX7_waits_1 ++ []
def dkwX7_waits_0 : List UInt8 := [42, 3, 181, 0, 116, 42, 182, 1, 94, 154, 0, 6, 16, 254, 172, 42, 182, 1, 80, 42, 2, 182, 1, 91]
abbrev dktX7_waits_0 : List UInt8 := dkwX7_waits_0 ++ dktX7_waits_1
theorem dksX7_waits_0 : cX7_waits.data.toList.drop 0 = dktX7_waits_0 := by decide +kernel
theorem dksX7_waits_1 : cX7_waits.data.toList.drop 24 = dktX7_waits_1 := dk_seg dksX7_waits_0 24 rfl rfl
theorem dX7_waits_0 : decode cX7_waits 0 = .ok (.aload_n 0, 1) := dk_42 (dk_at dksX7_waits_0 0 rfl rfl)
theorem dX7_waits_1 : decode cX7_waits 1 = .ok (.iconst 0, 1) := dk_3 (dk_at dksX7_waits_0 1 rfl rfl)
theorem dX7_waits_2 : decode cX7_waits 2 = .ok (.putfield 116, 3) := dk_181 0 116 (dk_at dksX7_waits_0 2 rfl rfl)
theorem dX7_waits_5 : decode cX7_waits 5 = .ok (.aload_n 0, 1) := dk_42 (dk_at dksX7_waits_0 5 rfl rfl)
theorem dX7_waits_6 : decode cX7_waits 6 = .ok (.invokevirtual 350, 3) := dk_182 1 94 (dk_at dksX7_waits_0 6 rfl rfl)
theorem dX7_waits_9 : decode cX7_waits 9 = .ok (.ifCond .ne 6, 3) := dk_154 0 6 (dk_at dksX7_waits_0 9 rfl rfl)
theorem dX7_waits_12 : decode cX7_waits 12 = .ok (.bipush (-2), 2) := dk_16 254 (dk_at dksX7_waits_0 12 rfl rfl)
theorem dX7_waits_14 : decode cX7_waits 14 = .ok (.ireturn, 1) := dk_172 (dk_at dksX7_waits_0 14 rfl rfl)
theorem dX7_waits_15 : decode cX7_waits 15 = .ok (.aload_n 0, 1) := dk_42 (dk_at dksX7_waits_0 15 rfl rfl)
theorem dX7_waits_16 : decode cX7_waits 16 = .ok (.invokevirtual 336, 3) := dk_182 1 80 (dk_at dksX7_waits_0 16 rfl rfl)
theorem dX7_waits_19 : decode cX7_waits 19 = .ok (.aload_n 0, 1) := dk_42 (dk_at dksX7_waits_0 19 rfl rfl)
theorem dX7_waits_20 : decode cX7_waits 20 = .ok (.iconst (-1), 1) := dk_2 (dk_at dksX7_waits_0 20 rfl rfl)
theorem dX7_waits_21 : decode cX7_waits 21 = .ok (.invokevirtual 347, 3) := dk_182 1 91 (dk_at dksX7_waits_0 21 rfl rfl)
theorem dX7_waits_24 : decode cX7_waits 24 = .ok (.ireturn, 1) := dk_172 (dk_at dksX7_waits_1 0 rfl rfl)
abbrev cX7_isValley : ByteArray := prog_12_method_38_code
def yX7_isValley : MethodName := ⟨RX7, "isValley", "()Z"⟩
def dkwX7_isValley_0 : List UInt8 := [42, 180, 0, 31, 3, 46, 158, 0, 7, 4, 167, 0, 4, 3, 172]
abbrev dktX7_isValley_0 : List UInt8 := dkwX7_isValley_0 ++ []
theorem dksX7_isValley_0 : cX7_isValley.data.toList.drop 0 = dktX7_isValley_0 := by decide +kernel
theorem dX7_isValley_0 : decode cX7_isValley 0 = .ok (.aload_n 0, 1) := dk_42 (dk_at dksX7_isValley_0 0 rfl rfl)
theorem dX7_isValley_1 : decode cX7_isValley 1 = .ok (.getfield 31, 3) := dk_180 0 31 (dk_at dksX7_isValley_0 1 rfl rfl)
theorem dX7_isValley_4 : decode cX7_isValley 4 = .ok (.iconst 0, 1) := dk_3 (dk_at dksX7_isValley_0 4 rfl rfl)
theorem dX7_isValley_5 : decode cX7_isValley 5 = .ok (.iaload, 1) := dk_46 (dk_at dksX7_isValley_0 5 rfl rfl)
theorem dX7_isValley_6 : decode cX7_isValley 6 = .ok (.ifCond .le 7, 3) := dk_158 0 7 (dk_at dksX7_isValley_0 6 rfl rfl)
theorem dX7_isValley_9 : decode cX7_isValley 9 = .ok (.iconst 1, 1) := dk_4 (dk_at dksX7_isValley_0 9 rfl rfl)
theorem dX7_isValley_10 : decode cX7_isValley 10 = .ok (.goto 4, 3) := dk_167 0 4 (dk_at dksX7_isValley_0 10 rfl rfl)
theorem dX7_isValley_13 : decode cX7_isValley 13 = .ok (.iconst 0, 1) := dk_3 (dk_at dksX7_isValley_0 13 rfl rfl)
theorem dX7_isValley_14 : decode cX7_isValley 14 = .ok (.ireturn, 1) := dk_172 (dk_at dksX7_isValley_0 14 rfl rfl)
abbrev cX7_deep : ByteArray := prog_12_method_71_code
def yX7_deep : MethodName := ⟨RX7, "deep", "(II)I"⟩
def dkwX7_deep_1 : List UInt8 := [180, 0, 95, 6, 28, 104, 27, 96, 46, 172]
abbrev dktX7_deep_1 : List UInt8 := dkwX7_deep_1 ++ []
def dkwX7_deep_0 : List UInt8 := [42, 3, 181, 0, 116, 42, 27, 28, 182, 1, 97, 154, 0, 6, 16, 254, 172, 42, 182, 1, 80, 42]
abbrev dktX7_deep_0 : List UInt8 := dkwX7_deep_0 ++ dktX7_deep_1
theorem dksX7_deep_0 : cX7_deep.data.toList.drop 0 = dktX7_deep_0 := by decide +kernel
theorem dksX7_deep_1 : cX7_deep.data.toList.drop 22 = dktX7_deep_1 := dk_seg dksX7_deep_0 22 rfl rfl
theorem dX7_deep_0 : decode cX7_deep 0 = .ok (.aload_n 0, 1) := dk_42 (dk_at dksX7_deep_0 0 rfl rfl)
theorem dX7_deep_1 : decode cX7_deep 1 = .ok (.iconst 0, 1) := dk_3 (dk_at dksX7_deep_0 1 rfl rfl)
theorem dX7_deep_2 : decode cX7_deep 2 = .ok (.putfield 116, 3) := dk_181 0 116 (dk_at dksX7_deep_0 2 rfl rfl)
theorem dX7_deep_5 : decode cX7_deep 5 = .ok (.aload_n 0, 1) := dk_42 (dk_at dksX7_deep_0 5 rfl rfl)
theorem dX7_deep_6 : decode cX7_deep 6 = .ok (.iload_n 1, 1) := dk_27 (dk_at dksX7_deep_0 6 rfl rfl)
theorem dX7_deep_7 : decode cX7_deep 7 = .ok (.iload_n 2, 1) := dk_28 (dk_at dksX7_deep_0 7 rfl rfl)
theorem dX7_deep_8 : decode cX7_deep 8 = .ok (.invokevirtual 353, 3) := dk_182 1 97 (dk_at dksX7_deep_0 8 rfl rfl)
theorem dX7_deep_11 : decode cX7_deep 11 = .ok (.ifCond .ne 6, 3) := dk_154 0 6 (dk_at dksX7_deep_0 11 rfl rfl)
theorem dX7_deep_14 : decode cX7_deep 14 = .ok (.bipush (-2), 2) := dk_16 254 (dk_at dksX7_deep_0 14 rfl rfl)
theorem dX7_deep_16 : decode cX7_deep 16 = .ok (.ireturn, 1) := dk_172 (dk_at dksX7_deep_0 16 rfl rfl)
theorem dX7_deep_17 : decode cX7_deep 17 = .ok (.aload_n 0, 1) := dk_42 (dk_at dksX7_deep_0 17 rfl rfl)
theorem dX7_deep_18 : decode cX7_deep 18 = .ok (.invokevirtual 336, 3) := dk_182 1 80 (dk_at dksX7_deep_0 18 rfl rfl)
theorem dX7_deep_21 : decode cX7_deep 21 = .ok (.aload_n 0, 1) := dk_42 (dk_at dksX7_deep_0 21 rfl rfl)
theorem dX7_deep_22 : decode cX7_deep 22 = .ok (.getfield 95, 3) := dk_180 0 95 (dk_at dksX7_deep_1 0 rfl rfl)
theorem dX7_deep_25 : decode cX7_deep 25 = .ok (.iconst 3, 1) := dk_6 (dk_at dksX7_deep_1 3 rfl rfl)
theorem dX7_deep_26 : decode cX7_deep 26 = .ok (.iload_n 2, 1) := dk_28 (dk_at dksX7_deep_1 4 rfl rfl)
theorem dX7_deep_27 : decode cX7_deep 27 = .ok (.imul, 1) := dk_104 (dk_at dksX7_deep_1 5 rfl rfl)
theorem dX7_deep_28 : decode cX7_deep 28 = .ok (.iload_n 1, 1) := dk_27 (dk_at dksX7_deep_1 6 rfl rfl)
theorem dX7_deep_29 : decode cX7_deep 29 = .ok (.iadd, 1) := dk_96 (dk_at dksX7_deep_1 7 rfl rfl)
theorem dX7_deep_30 : decode cX7_deep 30 = .ok (.iaload, 1) := dk_46 (dk_at dksX7_deep_1 8 rfl rfl)
theorem dX7_deep_31 : decode cX7_deep 31 = .ok (.ireturn, 1) := dk_172 (dk_at dksX7_deep_1 9 rfl rfl)
abbrev cX7_isThen : ByteArray := prog_12_method_44_code
def yX7_isThen : MethodName := ⟨RX7, "isThen", "(II)Z"⟩
def dkwX7_isThen_0 : List UInt8 := [42, 27, 133, 182, 1, 36, 153, 0, 16, 42, 28, 133, 182, 1, 33, 153, 0, 7, 4, 167, 0, 4, 3, 172]
abbrev dktX7_isThen_0 : List UInt8 := dkwX7_isThen_0 ++ []
theorem dksX7_isThen_0 : cX7_isThen.data.toList.drop 0 = dktX7_isThen_0 := by decide +kernel
theorem dX7_isThen_0 : decode cX7_isThen 0 = .ok (.aload_n 0, 1) := dk_42 (dk_at dksX7_isThen_0 0 rfl rfl)
theorem dX7_isThen_1 : decode cX7_isThen 1 = .ok (.iload_n 1, 1) := dk_27 (dk_at dksX7_isThen_0 1 rfl rfl)
theorem dX7_isThen_2 : decode cX7_isThen 2 = .ok (.i2l, 1) := dk_133 (dk_at dksX7_isThen_0 2 rfl rfl)
theorem dX7_isThen_3 : decode cX7_isThen 3 = .ok (.invokevirtual 292, 3) := dk_182 1 36 (dk_at dksX7_isThen_0 3 rfl rfl)
theorem dX7_isThen_6 : decode cX7_isThen 6 = .ok (.ifCond .eq 16, 3) := dk_153 0 16 (dk_at dksX7_isThen_0 6 rfl rfl)
theorem dX7_isThen_9 : decode cX7_isThen 9 = .ok (.aload_n 0, 1) := dk_42 (dk_at dksX7_isThen_0 9 rfl rfl)
theorem dX7_isThen_10 : decode cX7_isThen 10 = .ok (.iload_n 2, 1) := dk_28 (dk_at dksX7_isThen_0 10 rfl rfl)
theorem dX7_isThen_11 : decode cX7_isThen 11 = .ok (.i2l, 1) := dk_133 (dk_at dksX7_isThen_0 11 rfl rfl)
theorem dX7_isThen_12 : decode cX7_isThen 12 = .ok (.invokevirtual 289, 3) := dk_182 1 33 (dk_at dksX7_isThen_0 12 rfl rfl)
theorem dX7_isThen_15 : decode cX7_isThen 15 = .ok (.ifCond .eq 7, 3) := dk_153 0 7 (dk_at dksX7_isThen_0 15 rfl rfl)
theorem dX7_isThen_18 : decode cX7_isThen 18 = .ok (.iconst 1, 1) := dk_4 (dk_at dksX7_isThen_0 18 rfl rfl)
theorem dX7_isThen_19 : decode cX7_isThen 19 = .ok (.goto 4, 3) := dk_167 0 4 (dk_at dksX7_isThen_0 19 rfl rfl)
theorem dX7_isThen_22 : decode cX7_isThen 22 = .ok (.iconst 0, 1) := dk_3 (dk_at dksX7_isThen_0 22 rfl rfl)
theorem dX7_isThen_23 : decode cX7_isThen 23 = .ok (.ireturn, 1) := dk_172 (dk_at dksX7_isThen_0 23 rfl rfl)
abbrev cX7_load : ByteArray := prog_12_method_72_code
def yX7_load : MethodName := ⟨RX7, "load", "(III)I"⟩
def dkwX7_load_2 : List UInt8 := [16, 8, 6, 28, 104, 27, 96, 104, 29, 96, 46, 167, 0, 4, 2, 172]
abbrev dktX7_load_2 : List UInt8 := dkwX7_load_2 ++ []
def dkwX7_load_1 : List UInt8 := [42, 180, 0, 95, 6, 28, 104, 27, 96, 46, 133, 10, 101, 184, 0, 121, 153, 0, 21, 42, 180, 0, 101]
abbrev dktX7_load_1 : List UInt8 := dkwX7_load_1 ++ dktX7_load_2
def dkwX7_load_0 : List UInt8 := [42, 3, 181, 0, 116, 42, 27, 28, 182, 1, 97, 154, 0, 6, 16, 254, 172, 42, 182, 1, 80, 29, 133, 9]
abbrev dktX7_load_0 : List UInt8 := dkwX7_load_0 ++ dktX7_load_1
theorem dksX7_load_0 : cX7_load.data.toList.drop 0 = dktX7_load_0 := by decide +kernel
theorem dksX7_load_1 : cX7_load.data.toList.drop 24 = dktX7_load_1 := dk_seg dksX7_load_0 24 rfl rfl
theorem dksX7_load_2 : cX7_load.data.toList.drop 47 = dktX7_load_2 := dk_seg dksX7_load_1 23 rfl rfl
theorem dX7_load_0 : decode cX7_load 0 = .ok (.aload_n 0, 1) := dk_42 (dk_at dksX7_load_0 0 rfl rfl)
theorem dX7_load_1 : decode cX7_load 1 = .ok (.iconst 0, 1) := dk_3 (dk_at dksX7_load_0 1 rfl rfl)
theorem dX7_load_2 : decode cX7_load 2 = .ok (.putfield 116, 3) := dk_181 0 116 (dk_at dksX7_load_0 2 rfl rfl)
theorem dX7_load_5 : decode cX7_load 5 = .ok (.aload_n 0, 1) := dk_42 (dk_at dksX7_load_0 5 rfl rfl)
theorem dX7_load_6 : decode cX7_load 6 = .ok (.iload_n 1, 1) := dk_27 (dk_at dksX7_load_0 6 rfl rfl)
theorem dX7_load_7 : decode cX7_load 7 = .ok (.iload_n 2, 1) := dk_28 (dk_at dksX7_load_0 7 rfl rfl)
theorem dX7_load_8 : decode cX7_load 8 = .ok (.invokevirtual 353, 3) := dk_182 1 97 (dk_at dksX7_load_0 8 rfl rfl)
theorem dX7_load_11 : decode cX7_load 11 = .ok (.ifCond .ne 6, 3) := dk_154 0 6 (dk_at dksX7_load_0 11 rfl rfl)
theorem dX7_load_14 : decode cX7_load 14 = .ok (.bipush (-2), 2) := dk_16 254 (dk_at dksX7_load_0 14 rfl rfl)
theorem dX7_load_16 : decode cX7_load 16 = .ok (.ireturn, 1) := dk_172 (dk_at dksX7_load_0 16 rfl rfl)
theorem dX7_load_17 : decode cX7_load 17 = .ok (.aload_n 0, 1) := dk_42 (dk_at dksX7_load_0 17 rfl rfl)
theorem dX7_load_18 : decode cX7_load 18 = .ok (.invokevirtual 336, 3) := dk_182 1 80 (dk_at dksX7_load_0 18 rfl rfl)
theorem dX7_load_21 : decode cX7_load 21 = .ok (.iload_n 3, 1) := dk_29 (dk_at dksX7_load_0 21 rfl rfl)
theorem dX7_load_22 : decode cX7_load 22 = .ok (.i2l, 1) := dk_133 (dk_at dksX7_load_0 22 rfl rfl)
theorem dX7_load_23 : decode cX7_load 23 = .ok (.lconst 0, 1) := dk_9 (dk_at dksX7_load_0 23 rfl rfl)
theorem dX7_load_24 : decode cX7_load 24 = .ok (.aload_n 0, 1) := dk_42 (dk_at dksX7_load_1 0 rfl rfl)
theorem dX7_load_25 : decode cX7_load 25 = .ok (.getfield 95, 3) := dk_180 0 95 (dk_at dksX7_load_1 1 rfl rfl)
theorem dX7_load_28 : decode cX7_load 28 = .ok (.iconst 3, 1) := dk_6 (dk_at dksX7_load_1 4 rfl rfl)
theorem dX7_load_29 : decode cX7_load 29 = .ok (.iload_n 2, 1) := dk_28 (dk_at dksX7_load_1 5 rfl rfl)
theorem dX7_load_30 : decode cX7_load 30 = .ok (.imul, 1) := dk_104 (dk_at dksX7_load_1 6 rfl rfl)
theorem dX7_load_31 : decode cX7_load 31 = .ok (.iload_n 1, 1) := dk_27 (dk_at dksX7_load_1 7 rfl rfl)
theorem dX7_load_32 : decode cX7_load 32 = .ok (.iadd, 1) := dk_96 (dk_at dksX7_load_1 8 rfl rfl)
theorem dX7_load_33 : decode cX7_load 33 = .ok (.iaload, 1) := dk_46 (dk_at dksX7_load_1 9 rfl rfl)
theorem dX7_load_34 : decode cX7_load 34 = .ok (.i2l, 1) := dk_133 (dk_at dksX7_load_1 10 rfl rfl)
theorem dX7_load_35 : decode cX7_load 35 = .ok (.lconst 1, 1) := dk_10 (dk_at dksX7_load_1 11 rfl rfl)
theorem dX7_load_36 : decode cX7_load 36 = .ok (.lsub, 1) := dk_101 (dk_at dksX7_load_1 12 rfl rfl)
theorem dX7_load_37 : decode cX7_load 37 = .ok (.invokestatic 121, 3) := dk_184 0 121 (dk_at dksX7_load_1 13 rfl rfl)
theorem dX7_load_40 : decode cX7_load 40 = .ok (.ifCond .eq 21, 3) := dk_153 0 21 (dk_at dksX7_load_1 16 rfl rfl)
theorem dX7_load_43 : decode cX7_load 43 = .ok (.aload_n 0, 1) := dk_42 (dk_at dksX7_load_1 19 rfl rfl)
theorem dX7_load_44 : decode cX7_load 44 = .ok (.getfield 101, 3) := dk_180 0 101 (dk_at dksX7_load_1 20 rfl rfl)
theorem dX7_load_47 : decode cX7_load 47 = .ok (.bipush 8, 2) := dk_16 8 (dk_at dksX7_load_2 0 rfl rfl)
theorem dX7_load_49 : decode cX7_load 49 = .ok (.iconst 3, 1) := dk_6 (dk_at dksX7_load_2 2 rfl rfl)
theorem dX7_load_50 : decode cX7_load 50 = .ok (.iload_n 2, 1) := dk_28 (dk_at dksX7_load_2 3 rfl rfl)
theorem dX7_load_51 : decode cX7_load 51 = .ok (.imul, 1) := dk_104 (dk_at dksX7_load_2 4 rfl rfl)
theorem dX7_load_52 : decode cX7_load 52 = .ok (.iload_n 1, 1) := dk_27 (dk_at dksX7_load_2 5 rfl rfl)
theorem dX7_load_53 : decode cX7_load 53 = .ok (.iadd, 1) := dk_96 (dk_at dksX7_load_2 6 rfl rfl)
theorem dX7_load_54 : decode cX7_load 54 = .ok (.imul, 1) := dk_104 (dk_at dksX7_load_2 7 rfl rfl)
theorem dX7_load_55 : decode cX7_load 55 = .ok (.iload_n 3, 1) := dk_29 (dk_at dksX7_load_2 8 rfl rfl)
theorem dX7_load_56 : decode cX7_load 56 = .ok (.iadd, 1) := dk_96 (dk_at dksX7_load_2 9 rfl rfl)
theorem dX7_load_57 : decode cX7_load 57 = .ok (.iaload, 1) := dk_46 (dk_at dksX7_load_2 10 rfl rfl)
theorem dX7_load_58 : decode cX7_load 58 = .ok (.goto 4, 3) := dk_167 0 4 (dk_at dksX7_load_2 11 rfl rfl)
theorem dX7_load_61 : decode cX7_load 61 = .ok (.iconst (-1), 1) := dk_2 (dk_at dksX7_load_2 14 rfl rfl)
theorem dX7_load_62 : decode cX7_load 62 = .ok (.ireturn, 1) := dk_172 (dk_at dksX7_load_2 15 rfl rfl)
abbrev cX7_sag : ByteArray := prog_12_method_73_code
def yX7_sag : MethodName := ⟨RX7, "sag", "(II)I"⟩
def dkwX7_sag_1 : List UInt8 := [180, 0, 98, 6, 28, 104, 27, 96, 46, 172]
abbrev dktX7_sag_1 : List UInt8 := dkwX7_sag_1 ++ []
def dkwX7_sag_0 : List UInt8 := [42, 3, 181, 0, 116, 42, 27, 28, 182, 1, 97, 154, 0, 6, 16, 254, 172, 42, 182, 1, 80, 42]
abbrev dktX7_sag_0 : List UInt8 := dkwX7_sag_0 ++ dktX7_sag_1
theorem dksX7_sag_0 : cX7_sag.data.toList.drop 0 = dktX7_sag_0 := by decide +kernel
theorem dksX7_sag_1 : cX7_sag.data.toList.drop 22 = dktX7_sag_1 := dk_seg dksX7_sag_0 22 rfl rfl
theorem dX7_sag_0 : decode cX7_sag 0 = .ok (.aload_n 0, 1) := dk_42 (dk_at dksX7_sag_0 0 rfl rfl)
theorem dX7_sag_1 : decode cX7_sag 1 = .ok (.iconst 0, 1) := dk_3 (dk_at dksX7_sag_0 1 rfl rfl)
theorem dX7_sag_2 : decode cX7_sag 2 = .ok (.putfield 116, 3) := dk_181 0 116 (dk_at dksX7_sag_0 2 rfl rfl)
theorem dX7_sag_5 : decode cX7_sag 5 = .ok (.aload_n 0, 1) := dk_42 (dk_at dksX7_sag_0 5 rfl rfl)
theorem dX7_sag_6 : decode cX7_sag 6 = .ok (.iload_n 1, 1) := dk_27 (dk_at dksX7_sag_0 6 rfl rfl)
theorem dX7_sag_7 : decode cX7_sag 7 = .ok (.iload_n 2, 1) := dk_28 (dk_at dksX7_sag_0 7 rfl rfl)
theorem dX7_sag_8 : decode cX7_sag 8 = .ok (.invokevirtual 353, 3) := dk_182 1 97 (dk_at dksX7_sag_0 8 rfl rfl)
theorem dX7_sag_11 : decode cX7_sag 11 = .ok (.ifCond .ne 6, 3) := dk_154 0 6 (dk_at dksX7_sag_0 11 rfl rfl)
theorem dX7_sag_14 : decode cX7_sag 14 = .ok (.bipush (-2), 2) := dk_16 254 (dk_at dksX7_sag_0 14 rfl rfl)
theorem dX7_sag_16 : decode cX7_sag 16 = .ok (.ireturn, 1) := dk_172 (dk_at dksX7_sag_0 16 rfl rfl)
theorem dX7_sag_17 : decode cX7_sag 17 = .ok (.aload_n 0, 1) := dk_42 (dk_at dksX7_sag_0 17 rfl rfl)
theorem dX7_sag_18 : decode cX7_sag 18 = .ok (.invokevirtual 336, 3) := dk_182 1 80 (dk_at dksX7_sag_0 18 rfl rfl)
theorem dX7_sag_21 : decode cX7_sag 21 = .ok (.aload_n 0, 1) := dk_42 (dk_at dksX7_sag_0 21 rfl rfl)
theorem dX7_sag_22 : decode cX7_sag 22 = .ok (.getfield 98, 3) := dk_180 0 98 (dk_at dksX7_sag_1 0 rfl rfl)
theorem dX7_sag_25 : decode cX7_sag 25 = .ok (.iconst 3, 1) := dk_6 (dk_at dksX7_sag_1 3 rfl rfl)
theorem dX7_sag_26 : decode cX7_sag 26 = .ok (.iload_n 2, 1) := dk_28 (dk_at dksX7_sag_1 4 rfl rfl)
theorem dX7_sag_27 : decode cX7_sag 27 = .ok (.imul, 1) := dk_104 (dk_at dksX7_sag_1 5 rfl rfl)
theorem dX7_sag_28 : decode cX7_sag 28 = .ok (.iload_n 1, 1) := dk_27 (dk_at dksX7_sag_1 6 rfl rfl)
theorem dX7_sag_29 : decode cX7_sag 29 = .ok (.iadd, 1) := dk_96 (dk_at dksX7_sag_1 7 rfl rfl)
theorem dX7_sag_30 : decode cX7_sag 30 = .ok (.iaload, 1) := dk_46 (dk_at dksX7_sag_1 8 rfl rfl)
theorem dX7_sag_31 : decode cX7_sag 31 = .ok (.ireturn, 1) := dk_172 (dk_at dksX7_sag_1 9 rfl rfl)
abbrev cX7_all : ByteArray := prog_12_method_74_code
def yX7_all : MethodName := ⟨RX7, "all", "(I)I"⟩
def dkwX7_all_2 : List UInt8 := [132, 3, 1, 167, 255, 232, 28, 172]
abbrev dktX7_all_2 : List UInt8 := dkwX7_all_2 ++ []
def dkwX7_all_1 : List UInt8 := [62, 29, 42, 182, 1, 27, 162, 0, 22, 28, 42, 180, 0, 98, 6, 27, 104, 29, 96, 46, 96, 61]
abbrev dktX7_all_1 : List UInt8 := dkwX7_all_1 ++ dktX7_all_2
def dkwX7_all_0 : List UInt8 := [42, 3, 181, 0, 116, 42, 27, 133, 182, 1, 33, 154, 0, 6, 16, 254, 172, 42, 182, 1, 80, 3, 61, 3]
abbrev dktX7_all_0 : List UInt8 := dkwX7_all_0 ++ dktX7_all_1
theorem dksX7_all_0 : cX7_all.data.toList.drop 0 = dktX7_all_0 := by decide +kernel
theorem dksX7_all_1 : cX7_all.data.toList.drop 24 = dktX7_all_1 := dk_seg dksX7_all_0 24 rfl rfl
theorem dksX7_all_2 : cX7_all.data.toList.drop 46 = dktX7_all_2 := dk_seg dksX7_all_1 22 rfl rfl
theorem dX7_all_0 : decode cX7_all 0 = .ok (.aload_n 0, 1) := dk_42 (dk_at dksX7_all_0 0 rfl rfl)
theorem dX7_all_1 : decode cX7_all 1 = .ok (.iconst 0, 1) := dk_3 (dk_at dksX7_all_0 1 rfl rfl)
theorem dX7_all_2 : decode cX7_all 2 = .ok (.putfield 116, 3) := dk_181 0 116 (dk_at dksX7_all_0 2 rfl rfl)
theorem dX7_all_5 : decode cX7_all 5 = .ok (.aload_n 0, 1) := dk_42 (dk_at dksX7_all_0 5 rfl rfl)
theorem dX7_all_6 : decode cX7_all 6 = .ok (.iload_n 1, 1) := dk_27 (dk_at dksX7_all_0 6 rfl rfl)
theorem dX7_all_7 : decode cX7_all 7 = .ok (.i2l, 1) := dk_133 (dk_at dksX7_all_0 7 rfl rfl)
theorem dX7_all_8 : decode cX7_all 8 = .ok (.invokevirtual 289, 3) := dk_182 1 33 (dk_at dksX7_all_0 8 rfl rfl)
theorem dX7_all_11 : decode cX7_all 11 = .ok (.ifCond .ne 6, 3) := dk_154 0 6 (dk_at dksX7_all_0 11 rfl rfl)
theorem dX7_all_14 : decode cX7_all 14 = .ok (.bipush (-2), 2) := dk_16 254 (dk_at dksX7_all_0 14 rfl rfl)
theorem dX7_all_16 : decode cX7_all 16 = .ok (.ireturn, 1) := dk_172 (dk_at dksX7_all_0 16 rfl rfl)
theorem dX7_all_17 : decode cX7_all 17 = .ok (.aload_n 0, 1) := dk_42 (dk_at dksX7_all_0 17 rfl rfl)
theorem dX7_all_18 : decode cX7_all 18 = .ok (.invokevirtual 336, 3) := dk_182 1 80 (dk_at dksX7_all_0 18 rfl rfl)
theorem dX7_all_21 : decode cX7_all 21 = .ok (.iconst 0, 1) := dk_3 (dk_at dksX7_all_0 21 rfl rfl)
theorem dX7_all_22 : decode cX7_all 22 = .ok (.istore_n 2, 1) := dk_61 (dk_at dksX7_all_0 22 rfl rfl)
theorem dX7_all_23 : decode cX7_all 23 = .ok (.iconst 0, 1) := dk_3 (dk_at dksX7_all_0 23 rfl rfl)
theorem dX7_all_24 : decode cX7_all 24 = .ok (.istore_n 3, 1) := dk_62 (dk_at dksX7_all_1 0 rfl rfl)
theorem dX7_all_25 : decode cX7_all 25 = .ok (.iload_n 3, 1) := dk_29 (dk_at dksX7_all_1 1 rfl rfl)
theorem dX7_all_26 : decode cX7_all 26 = .ok (.aload_n 0, 1) := dk_42 (dk_at dksX7_all_1 2 rfl rfl)
theorem dX7_all_27 : decode cX7_all 27 = .ok (.invokevirtual 283, 3) := dk_182 1 27 (dk_at dksX7_all_1 3 rfl rfl)
theorem dX7_all_30 : decode cX7_all 30 = .ok (.if_icmp .ge 22, 3) := dk_162 0 22 (dk_at dksX7_all_1 6 rfl rfl)
theorem dX7_all_33 : decode cX7_all 33 = .ok (.iload_n 2, 1) := dk_28 (dk_at dksX7_all_1 9 rfl rfl)
theorem dX7_all_34 : decode cX7_all 34 = .ok (.aload_n 0, 1) := dk_42 (dk_at dksX7_all_1 10 rfl rfl)
theorem dX7_all_35 : decode cX7_all 35 = .ok (.getfield 98, 3) := dk_180 0 98 (dk_at dksX7_all_1 11 rfl rfl)
theorem dX7_all_38 : decode cX7_all 38 = .ok (.iconst 3, 1) := dk_6 (dk_at dksX7_all_1 14 rfl rfl)
theorem dX7_all_39 : decode cX7_all 39 = .ok (.iload_n 1, 1) := dk_27 (dk_at dksX7_all_1 15 rfl rfl)
theorem dX7_all_40 : decode cX7_all 40 = .ok (.imul, 1) := dk_104 (dk_at dksX7_all_1 16 rfl rfl)
theorem dX7_all_41 : decode cX7_all 41 = .ok (.iload_n 3, 1) := dk_29 (dk_at dksX7_all_1 17 rfl rfl)
theorem dX7_all_42 : decode cX7_all 42 = .ok (.iadd, 1) := dk_96 (dk_at dksX7_all_1 18 rfl rfl)
theorem dX7_all_43 : decode cX7_all 43 = .ok (.iaload, 1) := dk_46 (dk_at dksX7_all_1 19 rfl rfl)
theorem dX7_all_44 : decode cX7_all 44 = .ok (.iadd, 1) := dk_96 (dk_at dksX7_all_1 20 rfl rfl)
theorem dX7_all_45 : decode cX7_all 45 = .ok (.istore_n 2, 1) := dk_61 (dk_at dksX7_all_1 21 rfl rfl)
theorem dX7_all_46 : decode cX7_all 46 = .ok (.iinc 3 1, 3) := dk_132 3 1 (dk_at dksX7_all_2 0 rfl rfl)
theorem dX7_all_49 : decode cX7_all 49 = .ok (.goto (-24), 3) := dk_167 255 232 (dk_at dksX7_all_2 3 rfl rfl)
theorem dX7_all_52 : decode cX7_all 52 = .ok (.iload_n 2, 1) := dk_28 (dk_at dksX7_all_2 6 rfl rfl)
theorem dX7_all_53 : decode cX7_all 53 = .ok (.ireturn, 1) := dk_172 (dk_at dksX7_all_2 7 rfl rfl)
abbrev cX7_deepest : ByteArray := prog_12_method_75_code
def yX7_deepest : MethodName := ⟨RX7, "deepest", "(I)I"⟩
def dkwX7_deepest_2 : List UInt8 := [42, 180, 0, 98, 6, 27, 104, 28, 96, 46, 164, 0, 5, 29, 61, 132, 3, 1, 167, 255, 215, 28, 172]
abbrev dktX7_deepest_2 : List UInt8 := dkwX7_deepest_2 ++ []
def dkwX7_deepest_1 : List UInt8 := [62, 29, 42, 182, 1, 27, 162, 0, 39, 28, 2, 159, 0, 26, 42, 180, 0, 98, 6, 27, 104, 29, 96, 46]
abbrev dktX7_deepest_1 : List UInt8 := dkwX7_deepest_1 ++ dktX7_deepest_2
def dkwX7_deepest_0 : List UInt8 := [42, 3, 181, 0, 116, 42, 27, 133, 182, 1, 33, 154, 0, 6, 16, 254, 172, 42, 182, 1, 80, 2, 61, 3]
abbrev dktX7_deepest_0 : List UInt8 := dkwX7_deepest_0 ++ dktX7_deepest_1
theorem dksX7_deepest_0 : cX7_deepest.data.toList.drop 0 = dktX7_deepest_0 := by decide +kernel
theorem dksX7_deepest_1 : cX7_deepest.data.toList.drop 24 = dktX7_deepest_1 := dk_seg dksX7_deepest_0 24 rfl rfl
theorem dksX7_deepest_2 : cX7_deepest.data.toList.drop 48 = dktX7_deepest_2 := dk_seg dksX7_deepest_1 24 rfl rfl
theorem dX7_deepest_0 : decode cX7_deepest 0 = .ok (.aload_n 0, 1) := dk_42 (dk_at dksX7_deepest_0 0 rfl rfl)
theorem dX7_deepest_1 : decode cX7_deepest 1 = .ok (.iconst 0, 1) := dk_3 (dk_at dksX7_deepest_0 1 rfl rfl)
theorem dX7_deepest_2 : decode cX7_deepest 2 = .ok (.putfield 116, 3) := dk_181 0 116 (dk_at dksX7_deepest_0 2 rfl rfl)
theorem dX7_deepest_5 : decode cX7_deepest 5 = .ok (.aload_n 0, 1) := dk_42 (dk_at dksX7_deepest_0 5 rfl rfl)
theorem dX7_deepest_6 : decode cX7_deepest 6 = .ok (.iload_n 1, 1) := dk_27 (dk_at dksX7_deepest_0 6 rfl rfl)
theorem dX7_deepest_7 : decode cX7_deepest 7 = .ok (.i2l, 1) := dk_133 (dk_at dksX7_deepest_0 7 rfl rfl)
theorem dX7_deepest_8 : decode cX7_deepest 8 = .ok (.invokevirtual 289, 3) := dk_182 1 33 (dk_at dksX7_deepest_0 8 rfl rfl)
theorem dX7_deepest_11 : decode cX7_deepest 11 = .ok (.ifCond .ne 6, 3) := dk_154 0 6 (dk_at dksX7_deepest_0 11 rfl rfl)
theorem dX7_deepest_14 : decode cX7_deepest 14 = .ok (.bipush (-2), 2) := dk_16 254 (dk_at dksX7_deepest_0 14 rfl rfl)
theorem dX7_deepest_16 : decode cX7_deepest 16 = .ok (.ireturn, 1) := dk_172 (dk_at dksX7_deepest_0 16 rfl rfl)
theorem dX7_deepest_17 : decode cX7_deepest 17 = .ok (.aload_n 0, 1) := dk_42 (dk_at dksX7_deepest_0 17 rfl rfl)
theorem dX7_deepest_18 : decode cX7_deepest 18 = .ok (.invokevirtual 336, 3) := dk_182 1 80 (dk_at dksX7_deepest_0 18 rfl rfl)
theorem dX7_deepest_21 : decode cX7_deepest 21 = .ok (.iconst (-1), 1) := dk_2 (dk_at dksX7_deepest_0 21 rfl rfl)
theorem dX7_deepest_22 : decode cX7_deepest 22 = .ok (.istore_n 2, 1) := dk_61 (dk_at dksX7_deepest_0 22 rfl rfl)
theorem dX7_deepest_23 : decode cX7_deepest 23 = .ok (.iconst 0, 1) := dk_3 (dk_at dksX7_deepest_0 23 rfl rfl)
theorem dX7_deepest_24 : decode cX7_deepest 24 = .ok (.istore_n 3, 1) := dk_62 (dk_at dksX7_deepest_1 0 rfl rfl)
theorem dX7_deepest_25 : decode cX7_deepest 25 = .ok (.iload_n 3, 1) := dk_29 (dk_at dksX7_deepest_1 1 rfl rfl)
theorem dX7_deepest_26 : decode cX7_deepest 26 = .ok (.aload_n 0, 1) := dk_42 (dk_at dksX7_deepest_1 2 rfl rfl)
theorem dX7_deepest_27 : decode cX7_deepest 27 = .ok (.invokevirtual 283, 3) := dk_182 1 27 (dk_at dksX7_deepest_1 3 rfl rfl)
theorem dX7_deepest_30 : decode cX7_deepest 30 = .ok (.if_icmp .ge 39, 3) := dk_162 0 39 (dk_at dksX7_deepest_1 6 rfl rfl)
theorem dX7_deepest_33 : decode cX7_deepest 33 = .ok (.iload_n 2, 1) := dk_28 (dk_at dksX7_deepest_1 9 rfl rfl)
theorem dX7_deepest_34 : decode cX7_deepest 34 = .ok (.iconst (-1), 1) := dk_2 (dk_at dksX7_deepest_1 10 rfl rfl)
theorem dX7_deepest_35 : decode cX7_deepest 35 = .ok (.if_icmp .eq 26, 3) := dk_159 0 26 (dk_at dksX7_deepest_1 11 rfl rfl)
theorem dX7_deepest_38 : decode cX7_deepest 38 = .ok (.aload_n 0, 1) := dk_42 (dk_at dksX7_deepest_1 14 rfl rfl)
theorem dX7_deepest_39 : decode cX7_deepest 39 = .ok (.getfield 98, 3) := dk_180 0 98 (dk_at dksX7_deepest_1 15 rfl rfl)
theorem dX7_deepest_42 : decode cX7_deepest 42 = .ok (.iconst 3, 1) := dk_6 (dk_at dksX7_deepest_1 18 rfl rfl)
theorem dX7_deepest_43 : decode cX7_deepest 43 = .ok (.iload_n 1, 1) := dk_27 (dk_at dksX7_deepest_1 19 rfl rfl)
theorem dX7_deepest_44 : decode cX7_deepest 44 = .ok (.imul, 1) := dk_104 (dk_at dksX7_deepest_1 20 rfl rfl)
theorem dX7_deepest_45 : decode cX7_deepest 45 = .ok (.iload_n 3, 1) := dk_29 (dk_at dksX7_deepest_1 21 rfl rfl)
theorem dX7_deepest_46 : decode cX7_deepest 46 = .ok (.iadd, 1) := dk_96 (dk_at dksX7_deepest_1 22 rfl rfl)
theorem dX7_deepest_47 : decode cX7_deepest 47 = .ok (.iaload, 1) := dk_46 (dk_at dksX7_deepest_1 23 rfl rfl)
theorem dX7_deepest_48 : decode cX7_deepest 48 = .ok (.aload_n 0, 1) := dk_42 (dk_at dksX7_deepest_2 0 rfl rfl)
theorem dX7_deepest_49 : decode cX7_deepest 49 = .ok (.getfield 98, 3) := dk_180 0 98 (dk_at dksX7_deepest_2 1 rfl rfl)
theorem dX7_deepest_52 : decode cX7_deepest 52 = .ok (.iconst 3, 1) := dk_6 (dk_at dksX7_deepest_2 4 rfl rfl)
theorem dX7_deepest_53 : decode cX7_deepest 53 = .ok (.iload_n 1, 1) := dk_27 (dk_at dksX7_deepest_2 5 rfl rfl)
theorem dX7_deepest_54 : decode cX7_deepest 54 = .ok (.imul, 1) := dk_104 (dk_at dksX7_deepest_2 6 rfl rfl)
theorem dX7_deepest_55 : decode cX7_deepest 55 = .ok (.iload_n 2, 1) := dk_28 (dk_at dksX7_deepest_2 7 rfl rfl)
theorem dX7_deepest_56 : decode cX7_deepest 56 = .ok (.iadd, 1) := dk_96 (dk_at dksX7_deepest_2 8 rfl rfl)
theorem dX7_deepest_57 : decode cX7_deepest 57 = .ok (.iaload, 1) := dk_46 (dk_at dksX7_deepest_2 9 rfl rfl)
theorem dX7_deepest_58 : decode cX7_deepest 58 = .ok (.if_icmp .le 5, 3) := dk_164 0 5 (dk_at dksX7_deepest_2 10 rfl rfl)
theorem dX7_deepest_61 : decode cX7_deepest 61 = .ok (.iload_n 3, 1) := dk_29 (dk_at dksX7_deepest_2 13 rfl rfl)
theorem dX7_deepest_62 : decode cX7_deepest 62 = .ok (.istore_n 2, 1) := dk_61 (dk_at dksX7_deepest_2 14 rfl rfl)
theorem dX7_deepest_63 : decode cX7_deepest 63 = .ok (.iinc 3 1, 3) := dk_132 3 1 (dk_at dksX7_deepest_2 15 rfl rfl)
theorem dX7_deepest_66 : decode cX7_deepest 66 = .ok (.goto (-41), 3) := dk_167 255 215 (dk_at dksX7_deepest_2 18 rfl rfl)
theorem dX7_deepest_69 : decode cX7_deepest 69 = .ok (.iload_n 2, 1) := dk_28 (dk_at dksX7_deepest_2 21 rfl rfl)
theorem dX7_deepest_70 : decode cX7_deepest 70 = .ok (.ireturn, 1) := dk_172 (dk_at dksX7_deepest_2 22 rfl rfl)
abbrev cX7_gives : ByteArray := prog_12_method_76_code
def yX7_gives : MethodName := ⟨RX7, "gives", "(I)I"⟩
def dkwX7_gives_1 : List UInt8 := [180, 0, 86, 27, 46, 172]
abbrev dktX7_gives_1 : List UInt8 := dkwX7_gives_1 ++ []
def dkwX7_gives_0 : List UInt8 := [42, 3, 181, 0, 116, 42, 27, 133, 182, 1, 33, 154, 0, 7, 17, 252, 24, 172, 42, 182, 1, 80, 42]
abbrev dktX7_gives_0 : List UInt8 := dkwX7_gives_0 ++ dktX7_gives_1
theorem dksX7_gives_0 : cX7_gives.data.toList.drop 0 = dktX7_gives_0 := by decide +kernel
theorem dksX7_gives_1 : cX7_gives.data.toList.drop 23 = dktX7_gives_1 := dk_seg dksX7_gives_0 23 rfl rfl
theorem dX7_gives_0 : decode cX7_gives 0 = .ok (.aload_n 0, 1) := dk_42 (dk_at dksX7_gives_0 0 rfl rfl)
theorem dX7_gives_1 : decode cX7_gives 1 = .ok (.iconst 0, 1) := dk_3 (dk_at dksX7_gives_0 1 rfl rfl)
theorem dX7_gives_2 : decode cX7_gives 2 = .ok (.putfield 116, 3) := dk_181 0 116 (dk_at dksX7_gives_0 2 rfl rfl)
theorem dX7_gives_5 : decode cX7_gives 5 = .ok (.aload_n 0, 1) := dk_42 (dk_at dksX7_gives_0 5 rfl rfl)
theorem dX7_gives_6 : decode cX7_gives 6 = .ok (.iload_n 1, 1) := dk_27 (dk_at dksX7_gives_0 6 rfl rfl)
theorem dX7_gives_7 : decode cX7_gives 7 = .ok (.i2l, 1) := dk_133 (dk_at dksX7_gives_0 7 rfl rfl)
theorem dX7_gives_8 : decode cX7_gives 8 = .ok (.invokevirtual 289, 3) := dk_182 1 33 (dk_at dksX7_gives_0 8 rfl rfl)
theorem dX7_gives_11 : decode cX7_gives 11 = .ok (.ifCond .ne 7, 3) := dk_154 0 7 (dk_at dksX7_gives_0 11 rfl rfl)
theorem dX7_gives_14 : decode cX7_gives 14 = .ok (.sipush (-1000), 3) := dk_17 252 24 (dk_at dksX7_gives_0 14 rfl rfl)
theorem dX7_gives_17 : decode cX7_gives 17 = .ok (.ireturn, 1) := dk_172 (dk_at dksX7_gives_0 17 rfl rfl)
theorem dX7_gives_18 : decode cX7_gives 18 = .ok (.aload_n 0, 1) := dk_42 (dk_at dksX7_gives_0 18 rfl rfl)
theorem dX7_gives_19 : decode cX7_gives 19 = .ok (.invokevirtual 336, 3) := dk_182 1 80 (dk_at dksX7_gives_0 19 rfl rfl)
theorem dX7_gives_22 : decode cX7_gives 22 = .ok (.aload_n 0, 1) := dk_42 (dk_at dksX7_gives_0 22 rfl rfl)
theorem dX7_gives_23 : decode cX7_gives 23 = .ok (.getfield 86, 3) := dk_180 0 86 (dk_at dksX7_gives_1 0 rfl rfl)
theorem dX7_gives_26 : decode cX7_gives 26 = .ok (.iload_n 1, 1) := dk_27 (dk_at dksX7_gives_1 3 rfl rfl)
theorem dX7_gives_27 : decode cX7_gives 27 = .ok (.iaload, 1) := dk_46 (dk_at dksX7_gives_1 4 rfl rfl)
theorem dX7_gives_28 : decode cX7_gives 28 = .ok (.ireturn, 1) := dk_172 (dk_at dksX7_gives_1 5 rfl rfl)
abbrev cX7_creak : ByteArray := prog_12_method_77_code
def yX7_creak : MethodName := ⟨RX7, "creak", "(I)I"⟩
def dkwX7_creak_1 : List UInt8 := [180, 0, 89, 27, 46, 172]
abbrev dktX7_creak_1 : List UInt8 := dkwX7_creak_1 ++ []
def dkwX7_creak_0 : List UInt8 := [42, 3, 181, 0, 116, 42, 27, 133, 182, 1, 33, 154, 0, 6, 16, 254, 172, 42, 182, 1, 80, 42]
abbrev dktX7_creak_0 : List UInt8 := dkwX7_creak_0 ++ dktX7_creak_1
theorem dksX7_creak_0 : cX7_creak.data.toList.drop 0 = dktX7_creak_0 := by decide +kernel
theorem dksX7_creak_1 : cX7_creak.data.toList.drop 22 = dktX7_creak_1 := dk_seg dksX7_creak_0 22 rfl rfl
theorem dX7_creak_0 : decode cX7_creak 0 = .ok (.aload_n 0, 1) := dk_42 (dk_at dksX7_creak_0 0 rfl rfl)
theorem dX7_creak_1 : decode cX7_creak 1 = .ok (.iconst 0, 1) := dk_3 (dk_at dksX7_creak_0 1 rfl rfl)
theorem dX7_creak_2 : decode cX7_creak 2 = .ok (.putfield 116, 3) := dk_181 0 116 (dk_at dksX7_creak_0 2 rfl rfl)
theorem dX7_creak_5 : decode cX7_creak 5 = .ok (.aload_n 0, 1) := dk_42 (dk_at dksX7_creak_0 5 rfl rfl)
theorem dX7_creak_6 : decode cX7_creak 6 = .ok (.iload_n 1, 1) := dk_27 (dk_at dksX7_creak_0 6 rfl rfl)
theorem dX7_creak_7 : decode cX7_creak 7 = .ok (.i2l, 1) := dk_133 (dk_at dksX7_creak_0 7 rfl rfl)
theorem dX7_creak_8 : decode cX7_creak 8 = .ok (.invokevirtual 289, 3) := dk_182 1 33 (dk_at dksX7_creak_0 8 rfl rfl)
theorem dX7_creak_11 : decode cX7_creak 11 = .ok (.ifCond .ne 6, 3) := dk_154 0 6 (dk_at dksX7_creak_0 11 rfl rfl)
theorem dX7_creak_14 : decode cX7_creak 14 = .ok (.bipush (-2), 2) := dk_16 254 (dk_at dksX7_creak_0 14 rfl rfl)
theorem dX7_creak_16 : decode cX7_creak 16 = .ok (.ireturn, 1) := dk_172 (dk_at dksX7_creak_0 16 rfl rfl)
theorem dX7_creak_17 : decode cX7_creak 17 = .ok (.aload_n 0, 1) := dk_42 (dk_at dksX7_creak_0 17 rfl rfl)
theorem dX7_creak_18 : decode cX7_creak 18 = .ok (.invokevirtual 336, 3) := dk_182 1 80 (dk_at dksX7_creak_0 18 rfl rfl)
theorem dX7_creak_21 : decode cX7_creak 21 = .ok (.aload_n 0, 1) := dk_42 (dk_at dksX7_creak_0 21 rfl rfl)
theorem dX7_creak_22 : decode cX7_creak 22 = .ok (.getfield 89, 3) := dk_180 0 89 (dk_at dksX7_creak_1 0 rfl rfl)
theorem dX7_creak_25 : decode cX7_creak 25 = .ok (.iload_n 1, 1) := dk_27 (dk_at dksX7_creak_1 3 rfl rfl)
theorem dX7_creak_26 : decode cX7_creak 26 = .ok (.iaload, 1) := dk_46 (dk_at dksX7_creak_1 4 rfl rfl)
theorem dX7_creak_27 : decode cX7_creak 27 = .ok (.ireturn, 1) := dk_172 (dk_at dksX7_creak_1 5 rfl rfl)
abbrev cX7_loudest : ByteArray := prog_12_method_78_code
def yX7_loudest : MethodName := ⟨RX7, "loudest", "()I"⟩
def dkwX7_loudest_2 : List UInt8 := [42, 180, 0, 89, 29, 46, 61, 132, 3, 1, 167, 255, 223, 27, 172]
abbrev dktX7_loudest_2 : List UInt8 := dkwX7_loudest_2 ++ []
def dkwX7_loudest_1 : List UInt8 := [62, 29, 42, 182, 1, 30, 162, 0, 31, 42, 180, 0, 89, 29, 46, 28, 163, 0, 6, 167, 0, 12, 29, 60]
abbrev dktX7_loudest_1 : List UInt8 := dkwX7_loudest_1 ++ dktX7_loudest_2
def dkwX7_loudest_0 : List UInt8 := [42, 3, 181, 0, 116, 42, 182, 1, 94, 154, 0, 6, 16, 254, 172, 42, 182, 1, 80, 2, 60, 3, 61, 3]
abbrev dktX7_loudest_0 : List UInt8 := dkwX7_loudest_0 ++ dktX7_loudest_1
theorem dksX7_loudest_0 : cX7_loudest.data.toList.drop 0 = dktX7_loudest_0 := by decide +kernel
theorem dksX7_loudest_1 : cX7_loudest.data.toList.drop 24 = dktX7_loudest_1 := dk_seg dksX7_loudest_0 24 rfl rfl
theorem dksX7_loudest_2 : cX7_loudest.data.toList.drop 48 = dktX7_loudest_2 := dk_seg dksX7_loudest_1 24 rfl rfl
theorem dX7_loudest_0 : decode cX7_loudest 0 = .ok (.aload_n 0, 1) := dk_42 (dk_at dksX7_loudest_0 0 rfl rfl)
theorem dX7_loudest_1 : decode cX7_loudest 1 = .ok (.iconst 0, 1) := dk_3 (dk_at dksX7_loudest_0 1 rfl rfl)
theorem dX7_loudest_2 : decode cX7_loudest 2 = .ok (.putfield 116, 3) := dk_181 0 116 (dk_at dksX7_loudest_0 2 rfl rfl)
theorem dX7_loudest_5 : decode cX7_loudest 5 = .ok (.aload_n 0, 1) := dk_42 (dk_at dksX7_loudest_0 5 rfl rfl)
theorem dX7_loudest_6 : decode cX7_loudest 6 = .ok (.invokevirtual 350, 3) := dk_182 1 94 (dk_at dksX7_loudest_0 6 rfl rfl)
theorem dX7_loudest_9 : decode cX7_loudest 9 = .ok (.ifCond .ne 6, 3) := dk_154 0 6 (dk_at dksX7_loudest_0 9 rfl rfl)
theorem dX7_loudest_12 : decode cX7_loudest 12 = .ok (.bipush (-2), 2) := dk_16 254 (dk_at dksX7_loudest_0 12 rfl rfl)
theorem dX7_loudest_14 : decode cX7_loudest 14 = .ok (.ireturn, 1) := dk_172 (dk_at dksX7_loudest_0 14 rfl rfl)
theorem dX7_loudest_15 : decode cX7_loudest 15 = .ok (.aload_n 0, 1) := dk_42 (dk_at dksX7_loudest_0 15 rfl rfl)
theorem dX7_loudest_16 : decode cX7_loudest 16 = .ok (.invokevirtual 336, 3) := dk_182 1 80 (dk_at dksX7_loudest_0 16 rfl rfl)
theorem dX7_loudest_19 : decode cX7_loudest 19 = .ok (.iconst (-1), 1) := dk_2 (dk_at dksX7_loudest_0 19 rfl rfl)
theorem dX7_loudest_20 : decode cX7_loudest 20 = .ok (.istore_n 1, 1) := dk_60 (dk_at dksX7_loudest_0 20 rfl rfl)
theorem dX7_loudest_21 : decode cX7_loudest 21 = .ok (.iconst 0, 1) := dk_3 (dk_at dksX7_loudest_0 21 rfl rfl)
theorem dX7_loudest_22 : decode cX7_loudest 22 = .ok (.istore_n 2, 1) := dk_61 (dk_at dksX7_loudest_0 22 rfl rfl)
theorem dX7_loudest_23 : decode cX7_loudest 23 = .ok (.iconst 0, 1) := dk_3 (dk_at dksX7_loudest_0 23 rfl rfl)
theorem dX7_loudest_24 : decode cX7_loudest 24 = .ok (.istore_n 3, 1) := dk_62 (dk_at dksX7_loudest_1 0 rfl rfl)
theorem dX7_loudest_25 : decode cX7_loudest 25 = .ok (.iload_n 3, 1) := dk_29 (dk_at dksX7_loudest_1 1 rfl rfl)
theorem dX7_loudest_26 : decode cX7_loudest 26 = .ok (.aload_n 0, 1) := dk_42 (dk_at dksX7_loudest_1 2 rfl rfl)
theorem dX7_loudest_27 : decode cX7_loudest 27 = .ok (.invokevirtual 286, 3) := dk_182 1 30 (dk_at dksX7_loudest_1 3 rfl rfl)
theorem dX7_loudest_30 : decode cX7_loudest 30 = .ok (.if_icmp .ge 31, 3) := dk_162 0 31 (dk_at dksX7_loudest_1 6 rfl rfl)
theorem dX7_loudest_33 : decode cX7_loudest 33 = .ok (.aload_n 0, 1) := dk_42 (dk_at dksX7_loudest_1 9 rfl rfl)
theorem dX7_loudest_34 : decode cX7_loudest 34 = .ok (.getfield 89, 3) := dk_180 0 89 (dk_at dksX7_loudest_1 10 rfl rfl)
theorem dX7_loudest_37 : decode cX7_loudest 37 = .ok (.iload_n 3, 1) := dk_29 (dk_at dksX7_loudest_1 13 rfl rfl)
theorem dX7_loudest_38 : decode cX7_loudest 38 = .ok (.iaload, 1) := dk_46 (dk_at dksX7_loudest_1 14 rfl rfl)
theorem dX7_loudest_39 : decode cX7_loudest 39 = .ok (.iload_n 2, 1) := dk_28 (dk_at dksX7_loudest_1 15 rfl rfl)
theorem dX7_loudest_40 : decode cX7_loudest 40 = .ok (.if_icmp .gt 6, 3) := dk_163 0 6 (dk_at dksX7_loudest_1 16 rfl rfl)
theorem dX7_loudest_43 : decode cX7_loudest 43 = .ok (.goto 12, 3) := dk_167 0 12 (dk_at dksX7_loudest_1 19 rfl rfl)
theorem dX7_loudest_46 : decode cX7_loudest 46 = .ok (.iload_n 3, 1) := dk_29 (dk_at dksX7_loudest_1 22 rfl rfl)
theorem dX7_loudest_47 : decode cX7_loudest 47 = .ok (.istore_n 1, 1) := dk_60 (dk_at dksX7_loudest_1 23 rfl rfl)
theorem dX7_loudest_48 : decode cX7_loudest 48 = .ok (.aload_n 0, 1) := dk_42 (dk_at dksX7_loudest_2 0 rfl rfl)
theorem dX7_loudest_49 : decode cX7_loudest 49 = .ok (.getfield 89, 3) := dk_180 0 89 (dk_at dksX7_loudest_2 1 rfl rfl)
theorem dX7_loudest_52 : decode cX7_loudest 52 = .ok (.iload_n 3, 1) := dk_29 (dk_at dksX7_loudest_2 4 rfl rfl)
theorem dX7_loudest_53 : decode cX7_loudest 53 = .ok (.iaload, 1) := dk_46 (dk_at dksX7_loudest_2 5 rfl rfl)
theorem dX7_loudest_54 : decode cX7_loudest 54 = .ok (.istore_n 2, 1) := dk_61 (dk_at dksX7_loudest_2 6 rfl rfl)
theorem dX7_loudest_55 : decode cX7_loudest 55 = .ok (.iinc 3 1, 3) := dk_132 3 1 (dk_at dksX7_loudest_2 7 rfl rfl)
theorem dX7_loudest_58 : decode cX7_loudest 58 = .ok (.goto (-33), 3) := dk_167 255 223 (dk_at dksX7_loudest_2 10 rfl rfl)
theorem dX7_loudest_61 : decode cX7_loudest 61 = .ok (.iload_n 1, 1) := dk_27 (dk_at dksX7_loudest_2 13 rfl rfl)
theorem dX7_loudest_62 : decode cX7_loudest 62 = .ok (.ireturn, 1) := dk_172 (dk_at dksX7_loudest_2 14 rfl rfl)
abbrev cX7_pays : ByteArray := prog_12_method_79_code
def yX7_pays : MethodName := ⟨RX7, "pays", "(I)I"⟩
def dkwX7_pays_1 : List UInt8 := [182, 1, 100, 172]
abbrev dktX7_pays_1 : List UInt8 := dkwX7_pays_1 ++ []
def dkwX7_pays_0 : List UInt8 := [42, 3, 181, 0, 116, 42, 27, 133, 182, 1, 33, 154, 0, 6, 16, 254, 172, 42, 182, 1, 80, 42, 27]
abbrev dktX7_pays_0 : List UInt8 := dkwX7_pays_0 ++ dktX7_pays_1
theorem dksX7_pays_0 : cX7_pays.data.toList.drop 0 = dktX7_pays_0 := by decide +kernel
theorem dksX7_pays_1 : cX7_pays.data.toList.drop 23 = dktX7_pays_1 := dk_seg dksX7_pays_0 23 rfl rfl
theorem dX7_pays_0 : decode cX7_pays 0 = .ok (.aload_n 0, 1) := dk_42 (dk_at dksX7_pays_0 0 rfl rfl)
theorem dX7_pays_1 : decode cX7_pays 1 = .ok (.iconst 0, 1) := dk_3 (dk_at dksX7_pays_0 1 rfl rfl)
theorem dX7_pays_2 : decode cX7_pays 2 = .ok (.putfield 116, 3) := dk_181 0 116 (dk_at dksX7_pays_0 2 rfl rfl)
theorem dX7_pays_5 : decode cX7_pays 5 = .ok (.aload_n 0, 1) := dk_42 (dk_at dksX7_pays_0 5 rfl rfl)
theorem dX7_pays_6 : decode cX7_pays 6 = .ok (.iload_n 1, 1) := dk_27 (dk_at dksX7_pays_0 6 rfl rfl)
theorem dX7_pays_7 : decode cX7_pays 7 = .ok (.i2l, 1) := dk_133 (dk_at dksX7_pays_0 7 rfl rfl)
theorem dX7_pays_8 : decode cX7_pays 8 = .ok (.invokevirtual 289, 3) := dk_182 1 33 (dk_at dksX7_pays_0 8 rfl rfl)
theorem dX7_pays_11 : decode cX7_pays 11 = .ok (.ifCond .ne 6, 3) := dk_154 0 6 (dk_at dksX7_pays_0 11 rfl rfl)
theorem dX7_pays_14 : decode cX7_pays 14 = .ok (.bipush (-2), 2) := dk_16 254 (dk_at dksX7_pays_0 14 rfl rfl)
theorem dX7_pays_16 : decode cX7_pays 16 = .ok (.ireturn, 1) := dk_172 (dk_at dksX7_pays_0 16 rfl rfl)
theorem dX7_pays_17 : decode cX7_pays 17 = .ok (.aload_n 0, 1) := dk_42 (dk_at dksX7_pays_0 17 rfl rfl)
theorem dX7_pays_18 : decode cX7_pays 18 = .ok (.invokevirtual 336, 3) := dk_182 1 80 (dk_at dksX7_pays_0 18 rfl rfl)
theorem dX7_pays_21 : decode cX7_pays 21 = .ok (.aload_n 0, 1) := dk_42 (dk_at dksX7_pays_0 21 rfl rfl)
theorem dX7_pays_22 : decode cX7_pays 22 = .ok (.iload_n 1, 1) := dk_27 (dk_at dksX7_pays_0 22 rfl rfl)
theorem dX7_pays_23 : decode cX7_pays 23 = .ok (.invokevirtual 356, 3) := dk_182 1 100 (dk_at dksX7_pays_1 0 rfl rfl)
theorem dX7_pays_26 : decode cX7_pays 26 = .ok (.ireturn, 1) := dk_172 (dk_at dksX7_pays_1 3 rfl rfl)
abbrev cX7_paysOf : ByteArray := prog_12_method_61_code
def yX7_paysOf : MethodName := ⟨RX7, "paysOf", "(I)I"⟩
def dkwX7_paysOf_1 : List UInt8 := [180, 0, 37, 5, 42, 180, 0, 80, 27, 46, 104, 4, 96, 46, 42, 180, 0, 86, 27, 46, 104, 172]
abbrev dktX7_paysOf_1 : List UInt8 := dkwX7_paysOf_1 ++ []
def dkwX7_paysOf_0 : List UInt8 := [42, 180, 0, 80, 27, 46, 2, 159, 0, 12, 42, 180, 0, 86, 27, 46, 156, 0, 7, 3, 167, 0, 25, 42]
abbrev dktX7_paysOf_0 : List UInt8 := dkwX7_paysOf_0 ++ dktX7_paysOf_1
theorem dksX7_paysOf_0 : cX7_paysOf.data.toList.drop 0 = dktX7_paysOf_0 := by decide +kernel
theorem dksX7_paysOf_1 : cX7_paysOf.data.toList.drop 24 = dktX7_paysOf_1 := dk_seg dksX7_paysOf_0 24 rfl rfl
theorem dX7_paysOf_0 : decode cX7_paysOf 0 = .ok (.aload_n 0, 1) := dk_42 (dk_at dksX7_paysOf_0 0 rfl rfl)
theorem dX7_paysOf_1 : decode cX7_paysOf 1 = .ok (.getfield 80, 3) := dk_180 0 80 (dk_at dksX7_paysOf_0 1 rfl rfl)
theorem dX7_paysOf_4 : decode cX7_paysOf 4 = .ok (.iload_n 1, 1) := dk_27 (dk_at dksX7_paysOf_0 4 rfl rfl)
theorem dX7_paysOf_5 : decode cX7_paysOf 5 = .ok (.iaload, 1) := dk_46 (dk_at dksX7_paysOf_0 5 rfl rfl)
theorem dX7_paysOf_6 : decode cX7_paysOf 6 = .ok (.iconst (-1), 1) := dk_2 (dk_at dksX7_paysOf_0 6 rfl rfl)
theorem dX7_paysOf_7 : decode cX7_paysOf 7 = .ok (.if_icmp .eq 12, 3) := dk_159 0 12 (dk_at dksX7_paysOf_0 7 rfl rfl)
theorem dX7_paysOf_10 : decode cX7_paysOf 10 = .ok (.aload_n 0, 1) := dk_42 (dk_at dksX7_paysOf_0 10 rfl rfl)
theorem dX7_paysOf_11 : decode cX7_paysOf 11 = .ok (.getfield 86, 3) := dk_180 0 86 (dk_at dksX7_paysOf_0 11 rfl rfl)
theorem dX7_paysOf_14 : decode cX7_paysOf 14 = .ok (.iload_n 1, 1) := dk_27 (dk_at dksX7_paysOf_0 14 rfl rfl)
theorem dX7_paysOf_15 : decode cX7_paysOf 15 = .ok (.iaload, 1) := dk_46 (dk_at dksX7_paysOf_0 15 rfl rfl)
theorem dX7_paysOf_16 : decode cX7_paysOf 16 = .ok (.ifCond .ge 7, 3) := dk_156 0 7 (dk_at dksX7_paysOf_0 16 rfl rfl)
theorem dX7_paysOf_19 : decode cX7_paysOf 19 = .ok (.iconst 0, 1) := dk_3 (dk_at dksX7_paysOf_0 19 rfl rfl)
theorem dX7_paysOf_20 : decode cX7_paysOf 20 = .ok (.goto 25, 3) := dk_167 0 25 (dk_at dksX7_paysOf_0 20 rfl rfl)
theorem dX7_paysOf_23 : decode cX7_paysOf 23 = .ok (.aload_n 0, 1) := dk_42 (dk_at dksX7_paysOf_0 23 rfl rfl)
theorem dX7_paysOf_24 : decode cX7_paysOf 24 = .ok (.getfield 37, 3) := dk_180 0 37 (dk_at dksX7_paysOf_1 0 rfl rfl)
theorem dX7_paysOf_27 : decode cX7_paysOf 27 = .ok (.iconst 2, 1) := dk_5 (dk_at dksX7_paysOf_1 3 rfl rfl)
theorem dX7_paysOf_28 : decode cX7_paysOf 28 = .ok (.aload_n 0, 1) := dk_42 (dk_at dksX7_paysOf_1 4 rfl rfl)
theorem dX7_paysOf_29 : decode cX7_paysOf 29 = .ok (.getfield 80, 3) := dk_180 0 80 (dk_at dksX7_paysOf_1 5 rfl rfl)
theorem dX7_paysOf_32 : decode cX7_paysOf 32 = .ok (.iload_n 1, 1) := dk_27 (dk_at dksX7_paysOf_1 8 rfl rfl)
theorem dX7_paysOf_33 : decode cX7_paysOf 33 = .ok (.iaload, 1) := dk_46 (dk_at dksX7_paysOf_1 9 rfl rfl)
theorem dX7_paysOf_34 : decode cX7_paysOf 34 = .ok (.imul, 1) := dk_104 (dk_at dksX7_paysOf_1 10 rfl rfl)
theorem dX7_paysOf_35 : decode cX7_paysOf 35 = .ok (.iconst 1, 1) := dk_4 (dk_at dksX7_paysOf_1 11 rfl rfl)
theorem dX7_paysOf_36 : decode cX7_paysOf 36 = .ok (.iadd, 1) := dk_96 (dk_at dksX7_paysOf_1 12 rfl rfl)
theorem dX7_paysOf_37 : decode cX7_paysOf 37 = .ok (.iaload, 1) := dk_46 (dk_at dksX7_paysOf_1 13 rfl rfl)
theorem dX7_paysOf_38 : decode cX7_paysOf 38 = .ok (.aload_n 0, 1) := dk_42 (dk_at dksX7_paysOf_1 14 rfl rfl)
theorem dX7_paysOf_39 : decode cX7_paysOf 39 = .ok (.getfield 86, 3) := dk_180 0 86 (dk_at dksX7_paysOf_1 15 rfl rfl)
theorem dX7_paysOf_42 : decode cX7_paysOf 42 = .ok (.iload_n 1, 1) := dk_27 (dk_at dksX7_paysOf_1 18 rfl rfl)
theorem dX7_paysOf_43 : decode cX7_paysOf 43 = .ok (.iaload, 1) := dk_46 (dk_at dksX7_paysOf_1 19 rfl rfl)
theorem dX7_paysOf_44 : decode cX7_paysOf 44 = .ok (.imul, 1) := dk_104 (dk_at dksX7_paysOf_1 20 rfl rfl)
theorem dX7_paysOf_45 : decode cX7_paysOf 45 = .ok (.ireturn, 1) := dk_172 (dk_at dksX7_paysOf_1 21 rfl rfl)
abbrev cX7_tolls : ByteArray := prog_12_method_80_code
def yX7_tolls : MethodName := ⟨RX7, "tolls", "()I"⟩
def dkwX7_tolls_1 : List UInt8 := [42, 182, 1, 30, 162, 0, 17, 27, 42, 28, 182, 1, 100, 96, 60, 132, 2, 1, 167, 255, 237, 27, 172]
abbrev dktX7_tolls_1 : List UInt8 := dkwX7_tolls_1 ++ []
def dkwX7_tolls_0 : List UInt8 := [42, 3, 181, 0, 116, 42, 182, 1, 94, 154, 0, 6, 16, 254, 172, 42, 182, 1, 80, 3, 60, 3, 61, 28]
abbrev dktX7_tolls_0 : List UInt8 := dkwX7_tolls_0 ++ dktX7_tolls_1
theorem dksX7_tolls_0 : cX7_tolls.data.toList.drop 0 = dktX7_tolls_0 := by decide +kernel
theorem dksX7_tolls_1 : cX7_tolls.data.toList.drop 24 = dktX7_tolls_1 := dk_seg dksX7_tolls_0 24 rfl rfl
theorem dX7_tolls_0 : decode cX7_tolls 0 = .ok (.aload_n 0, 1) := dk_42 (dk_at dksX7_tolls_0 0 rfl rfl)
theorem dX7_tolls_1 : decode cX7_tolls 1 = .ok (.iconst 0, 1) := dk_3 (dk_at dksX7_tolls_0 1 rfl rfl)
theorem dX7_tolls_2 : decode cX7_tolls 2 = .ok (.putfield 116, 3) := dk_181 0 116 (dk_at dksX7_tolls_0 2 rfl rfl)
theorem dX7_tolls_5 : decode cX7_tolls 5 = .ok (.aload_n 0, 1) := dk_42 (dk_at dksX7_tolls_0 5 rfl rfl)
theorem dX7_tolls_6 : decode cX7_tolls 6 = .ok (.invokevirtual 350, 3) := dk_182 1 94 (dk_at dksX7_tolls_0 6 rfl rfl)
theorem dX7_tolls_9 : decode cX7_tolls 9 = .ok (.ifCond .ne 6, 3) := dk_154 0 6 (dk_at dksX7_tolls_0 9 rfl rfl)
theorem dX7_tolls_12 : decode cX7_tolls 12 = .ok (.bipush (-2), 2) := dk_16 254 (dk_at dksX7_tolls_0 12 rfl rfl)
theorem dX7_tolls_14 : decode cX7_tolls 14 = .ok (.ireturn, 1) := dk_172 (dk_at dksX7_tolls_0 14 rfl rfl)
theorem dX7_tolls_15 : decode cX7_tolls 15 = .ok (.aload_n 0, 1) := dk_42 (dk_at dksX7_tolls_0 15 rfl rfl)
theorem dX7_tolls_16 : decode cX7_tolls 16 = .ok (.invokevirtual 336, 3) := dk_182 1 80 (dk_at dksX7_tolls_0 16 rfl rfl)
theorem dX7_tolls_19 : decode cX7_tolls 19 = .ok (.iconst 0, 1) := dk_3 (dk_at dksX7_tolls_0 19 rfl rfl)
theorem dX7_tolls_20 : decode cX7_tolls 20 = .ok (.istore_n 1, 1) := dk_60 (dk_at dksX7_tolls_0 20 rfl rfl)
theorem dX7_tolls_21 : decode cX7_tolls 21 = .ok (.iconst 0, 1) := dk_3 (dk_at dksX7_tolls_0 21 rfl rfl)
theorem dX7_tolls_22 : decode cX7_tolls 22 = .ok (.istore_n 2, 1) := dk_61 (dk_at dksX7_tolls_0 22 rfl rfl)
theorem dX7_tolls_23 : decode cX7_tolls 23 = .ok (.iload_n 2, 1) := dk_28 (dk_at dksX7_tolls_0 23 rfl rfl)
theorem dX7_tolls_24 : decode cX7_tolls 24 = .ok (.aload_n 0, 1) := dk_42 (dk_at dksX7_tolls_1 0 rfl rfl)
theorem dX7_tolls_25 : decode cX7_tolls 25 = .ok (.invokevirtual 286, 3) := dk_182 1 30 (dk_at dksX7_tolls_1 1 rfl rfl)
theorem dX7_tolls_28 : decode cX7_tolls 28 = .ok (.if_icmp .ge 17, 3) := dk_162 0 17 (dk_at dksX7_tolls_1 4 rfl rfl)
theorem dX7_tolls_31 : decode cX7_tolls 31 = .ok (.iload_n 1, 1) := dk_27 (dk_at dksX7_tolls_1 7 rfl rfl)
theorem dX7_tolls_32 : decode cX7_tolls 32 = .ok (.aload_n 0, 1) := dk_42 (dk_at dksX7_tolls_1 8 rfl rfl)
theorem dX7_tolls_33 : decode cX7_tolls 33 = .ok (.iload_n 2, 1) := dk_28 (dk_at dksX7_tolls_1 9 rfl rfl)
theorem dX7_tolls_34 : decode cX7_tolls 34 = .ok (.invokevirtual 356, 3) := dk_182 1 100 (dk_at dksX7_tolls_1 10 rfl rfl)
theorem dX7_tolls_37 : decode cX7_tolls 37 = .ok (.iadd, 1) := dk_96 (dk_at dksX7_tolls_1 13 rfl rfl)
theorem dX7_tolls_38 : decode cX7_tolls 38 = .ok (.istore_n 1, 1) := dk_60 (dk_at dksX7_tolls_1 14 rfl rfl)
theorem dX7_tolls_39 : decode cX7_tolls 39 = .ok (.iinc 2 1, 3) := dk_132 2 1 (dk_at dksX7_tolls_1 15 rfl rfl)
theorem dX7_tolls_42 : decode cX7_tolls 42 = .ok (.goto (-19), 3) := dk_167 255 237 (dk_at dksX7_tolls_1 18 rfl rfl)
theorem dX7_tolls_45 : decode cX7_tolls 45 = .ok (.iload_n 1, 1) := dk_27 (dk_at dksX7_tolls_1 21 rfl rfl)
theorem dX7_tolls_46 : decode cX7_tolls 46 = .ok (.ireturn, 1) := dk_172 (dk_at dksX7_tolls_1 22 rfl rfl)
abbrev cX7_wipes : ByteArray := prog_12_method_81_code
def yX7_wipes : MethodName := ⟨RX7, "wipes", "(I)I"⟩
def dkwX7_wipes_1 : List UInt8 := [180, 0, 92, 27, 46, 172]
abbrev dktX7_wipes_1 : List UInt8 := dkwX7_wipes_1 ++ []
def dkwX7_wipes_0 : List UInt8 := [42, 3, 181, 0, 116, 42, 27, 133, 182, 1, 33, 154, 0, 6, 16, 254, 172, 42, 182, 1, 80, 42]
abbrev dktX7_wipes_0 : List UInt8 := dkwX7_wipes_0 ++ dktX7_wipes_1
theorem dksX7_wipes_0 : cX7_wipes.data.toList.drop 0 = dktX7_wipes_0 := by decide +kernel
theorem dksX7_wipes_1 : cX7_wipes.data.toList.drop 22 = dktX7_wipes_1 := dk_seg dksX7_wipes_0 22 rfl rfl
theorem dX7_wipes_0 : decode cX7_wipes 0 = .ok (.aload_n 0, 1) := dk_42 (dk_at dksX7_wipes_0 0 rfl rfl)
theorem dX7_wipes_1 : decode cX7_wipes 1 = .ok (.iconst 0, 1) := dk_3 (dk_at dksX7_wipes_0 1 rfl rfl)
theorem dX7_wipes_2 : decode cX7_wipes 2 = .ok (.putfield 116, 3) := dk_181 0 116 (dk_at dksX7_wipes_0 2 rfl rfl)
theorem dX7_wipes_5 : decode cX7_wipes 5 = .ok (.aload_n 0, 1) := dk_42 (dk_at dksX7_wipes_0 5 rfl rfl)
theorem dX7_wipes_6 : decode cX7_wipes 6 = .ok (.iload_n 1, 1) := dk_27 (dk_at dksX7_wipes_0 6 rfl rfl)
theorem dX7_wipes_7 : decode cX7_wipes 7 = .ok (.i2l, 1) := dk_133 (dk_at dksX7_wipes_0 7 rfl rfl)
theorem dX7_wipes_8 : decode cX7_wipes 8 = .ok (.invokevirtual 289, 3) := dk_182 1 33 (dk_at dksX7_wipes_0 8 rfl rfl)
theorem dX7_wipes_11 : decode cX7_wipes 11 = .ok (.ifCond .ne 6, 3) := dk_154 0 6 (dk_at dksX7_wipes_0 11 rfl rfl)
theorem dX7_wipes_14 : decode cX7_wipes 14 = .ok (.bipush (-2), 2) := dk_16 254 (dk_at dksX7_wipes_0 14 rfl rfl)
theorem dX7_wipes_16 : decode cX7_wipes 16 = .ok (.ireturn, 1) := dk_172 (dk_at dksX7_wipes_0 16 rfl rfl)
theorem dX7_wipes_17 : decode cX7_wipes 17 = .ok (.aload_n 0, 1) := dk_42 (dk_at dksX7_wipes_0 17 rfl rfl)
theorem dX7_wipes_18 : decode cX7_wipes 18 = .ok (.invokevirtual 336, 3) := dk_182 1 80 (dk_at dksX7_wipes_0 18 rfl rfl)
theorem dX7_wipes_21 : decode cX7_wipes 21 = .ok (.aload_n 0, 1) := dk_42 (dk_at dksX7_wipes_0 21 rfl rfl)
theorem dX7_wipes_22 : decode cX7_wipes 22 = .ok (.getfield 92, 3) := dk_180 0 92 (dk_at dksX7_wipes_1 0 rfl rfl)
theorem dX7_wipes_25 : decode cX7_wipes 25 = .ok (.iload_n 1, 1) := dk_27 (dk_at dksX7_wipes_1 3 rfl rfl)
theorem dX7_wipes_26 : decode cX7_wipes 26 = .ok (.iaload, 1) := dk_46 (dk_at dksX7_wipes_1 4 rfl rfl)
theorem dX7_wipes_27 : decode cX7_wipes 27 = .ok (.ireturn, 1) := dk_172 (dk_at dksX7_wipes_1 5 rfl rfl)
abbrev cX7_breaks : ByteArray := prog_12_method_82_code
def yX7_breaks : MethodName := ⟨RX7, "breaks", "(I)I"⟩
def dkwX7_breaks_1 : List UInt8 := [180, 0, 74, 27, 46, 172]
abbrev dktX7_breaks_1 : List UInt8 := dkwX7_breaks_1 ++ []
def dkwX7_breaks_0 : List UInt8 := [42, 3, 181, 0, 116, 42, 27, 133, 182, 1, 36, 154, 0, 6, 16, 254, 172, 42, 182, 1, 80, 42]
abbrev dktX7_breaks_0 : List UInt8 := dkwX7_breaks_0 ++ dktX7_breaks_1
theorem dksX7_breaks_0 : cX7_breaks.data.toList.drop 0 = dktX7_breaks_0 := by decide +kernel
theorem dksX7_breaks_1 : cX7_breaks.data.toList.drop 22 = dktX7_breaks_1 := dk_seg dksX7_breaks_0 22 rfl rfl
theorem dX7_breaks_0 : decode cX7_breaks 0 = .ok (.aload_n 0, 1) := dk_42 (dk_at dksX7_breaks_0 0 rfl rfl)
theorem dX7_breaks_1 : decode cX7_breaks 1 = .ok (.iconst 0, 1) := dk_3 (dk_at dksX7_breaks_0 1 rfl rfl)
theorem dX7_breaks_2 : decode cX7_breaks 2 = .ok (.putfield 116, 3) := dk_181 0 116 (dk_at dksX7_breaks_0 2 rfl rfl)
theorem dX7_breaks_5 : decode cX7_breaks 5 = .ok (.aload_n 0, 1) := dk_42 (dk_at dksX7_breaks_0 5 rfl rfl)
theorem dX7_breaks_6 : decode cX7_breaks 6 = .ok (.iload_n 1, 1) := dk_27 (dk_at dksX7_breaks_0 6 rfl rfl)
theorem dX7_breaks_7 : decode cX7_breaks 7 = .ok (.i2l, 1) := dk_133 (dk_at dksX7_breaks_0 7 rfl rfl)
theorem dX7_breaks_8 : decode cX7_breaks 8 = .ok (.invokevirtual 292, 3) := dk_182 1 36 (dk_at dksX7_breaks_0 8 rfl rfl)
theorem dX7_breaks_11 : decode cX7_breaks 11 = .ok (.ifCond .ne 6, 3) := dk_154 0 6 (dk_at dksX7_breaks_0 11 rfl rfl)
theorem dX7_breaks_14 : decode cX7_breaks 14 = .ok (.bipush (-2), 2) := dk_16 254 (dk_at dksX7_breaks_0 14 rfl rfl)
theorem dX7_breaks_16 : decode cX7_breaks 16 = .ok (.ireturn, 1) := dk_172 (dk_at dksX7_breaks_0 16 rfl rfl)
theorem dX7_breaks_17 : decode cX7_breaks 17 = .ok (.aload_n 0, 1) := dk_42 (dk_at dksX7_breaks_0 17 rfl rfl)
theorem dX7_breaks_18 : decode cX7_breaks 18 = .ok (.invokevirtual 336, 3) := dk_182 1 80 (dk_at dksX7_breaks_0 18 rfl rfl)
theorem dX7_breaks_21 : decode cX7_breaks 21 = .ok (.aload_n 0, 1) := dk_42 (dk_at dksX7_breaks_0 21 rfl rfl)
theorem dX7_breaks_22 : decode cX7_breaks 22 = .ok (.getfield 74, 3) := dk_180 0 74 (dk_at dksX7_breaks_1 0 rfl rfl)
theorem dX7_breaks_25 : decode cX7_breaks 25 = .ok (.iload_n 1, 1) := dk_27 (dk_at dksX7_breaks_1 3 rfl rfl)
theorem dX7_breaks_26 : decode cX7_breaks 26 = .ok (.iaload, 1) := dk_46 (dk_at dksX7_breaks_1 4 rfl rfl)
theorem dX7_breaks_27 : decode cX7_breaks 27 = .ok (.ireturn, 1) := dk_172 (dk_at dksX7_breaks_1 5 rfl rfl)
abbrev cX7_fails_2 : ByteArray := prog_12_method_83_code
def yX7_fails_2 : MethodName := ⟨RX7, "fails", "()I"⟩
def dkwX7_fails_2_2 : List UInt8 := [167, 0, 4, 27, 60, 132, 2, 1, 167, 255, 224, 27, 18, 166, 160, 0, 7, 2, 167, 0, 4, 27, 172]
abbrev dktX7_fails_2_2 : List UInt8 := dkwX7_fails_2_2 ++ []
def dkwX7_fails_2_1 : List UInt8 := [28, 42, 182, 1, 27, 162, 0, 30, 42, 180, 0, 77, 28, 46, 27, 162, 0, 12, 42, 180, 0, 77, 28, 46]
abbrev dktX7_fails_2_1 : List UInt8 := dkwX7_fails_2_1 ++ dktX7_fails_2_2
def dkwX7_fails_2_0 : List UInt8 := [42, 3, 181, 0, 116, 42, 182, 1, 94, 154, 0, 6, 16, 254, 172, 42, 182, 1, 80, 18, 166, 60, 3, 61]
abbrev dktX7_fails_2_0 : List UInt8 := dkwX7_fails_2_0 ++ dktX7_fails_2_1
theorem dksX7_fails_2_0 : cX7_fails_2.data.toList.drop 0 = dktX7_fails_2_0 := by decide +kernel
theorem dksX7_fails_2_1 : cX7_fails_2.data.toList.drop 24 = dktX7_fails_2_1 := dk_seg dksX7_fails_2_0 24 rfl rfl
theorem dksX7_fails_2_2 : cX7_fails_2.data.toList.drop 48 = dktX7_fails_2_2 := dk_seg dksX7_fails_2_1 24 rfl rfl
theorem dX7_fails_2_0 : decode cX7_fails_2 0 = .ok (.aload_n 0, 1) := dk_42 (dk_at dksX7_fails_2_0 0 rfl rfl)
theorem dX7_fails_2_1 : decode cX7_fails_2 1 = .ok (.iconst 0, 1) := dk_3 (dk_at dksX7_fails_2_0 1 rfl rfl)
theorem dX7_fails_2_2 : decode cX7_fails_2 2 = .ok (.putfield 116, 3) := dk_181 0 116 (dk_at dksX7_fails_2_0 2 rfl rfl)
theorem dX7_fails_2_5 : decode cX7_fails_2 5 = .ok (.aload_n 0, 1) := dk_42 (dk_at dksX7_fails_2_0 5 rfl rfl)
theorem dX7_fails_2_6 : decode cX7_fails_2 6 = .ok (.invokevirtual 350, 3) := dk_182 1 94 (dk_at dksX7_fails_2_0 6 rfl rfl)
theorem dX7_fails_2_9 : decode cX7_fails_2 9 = .ok (.ifCond .ne 6, 3) := dk_154 0 6 (dk_at dksX7_fails_2_0 9 rfl rfl)
theorem dX7_fails_2_12 : decode cX7_fails_2 12 = .ok (.bipush (-2), 2) := dk_16 254 (dk_at dksX7_fails_2_0 12 rfl rfl)
theorem dX7_fails_2_14 : decode cX7_fails_2 14 = .ok (.ireturn, 1) := dk_172 (dk_at dksX7_fails_2_0 14 rfl rfl)
theorem dX7_fails_2_15 : decode cX7_fails_2 15 = .ok (.aload_n 0, 1) := dk_42 (dk_at dksX7_fails_2_0 15 rfl rfl)
theorem dX7_fails_2_16 : decode cX7_fails_2 16 = .ok (.invokevirtual 336, 3) := dk_182 1 80 (dk_at dksX7_fails_2_0 16 rfl rfl)
theorem dX7_fails_2_19 : decode cX7_fails_2 19 = .ok (.ldc 166, 2) := dk_18 166 (dk_at dksX7_fails_2_0 19 rfl rfl)
theorem dX7_fails_2_21 : decode cX7_fails_2 21 = .ok (.istore_n 1, 1) := dk_60 (dk_at dksX7_fails_2_0 21 rfl rfl)
theorem dX7_fails_2_22 : decode cX7_fails_2 22 = .ok (.iconst 0, 1) := dk_3 (dk_at dksX7_fails_2_0 22 rfl rfl)
theorem dX7_fails_2_23 : decode cX7_fails_2 23 = .ok (.istore_n 2, 1) := dk_61 (dk_at dksX7_fails_2_0 23 rfl rfl)
theorem dX7_fails_2_24 : decode cX7_fails_2 24 = .ok (.iload_n 2, 1) := dk_28 (dk_at dksX7_fails_2_1 0 rfl rfl)
theorem dX7_fails_2_25 : decode cX7_fails_2 25 = .ok (.aload_n 0, 1) := dk_42 (dk_at dksX7_fails_2_1 1 rfl rfl)
theorem dX7_fails_2_26 : decode cX7_fails_2 26 = .ok (.invokevirtual 283, 3) := dk_182 1 27 (dk_at dksX7_fails_2_1 2 rfl rfl)
theorem dX7_fails_2_29 : decode cX7_fails_2 29 = .ok (.if_icmp .ge 30, 3) := dk_162 0 30 (dk_at dksX7_fails_2_1 5 rfl rfl)
theorem dX7_fails_2_32 : decode cX7_fails_2 32 = .ok (.aload_n 0, 1) := dk_42 (dk_at dksX7_fails_2_1 8 rfl rfl)
theorem dX7_fails_2_33 : decode cX7_fails_2 33 = .ok (.getfield 77, 3) := dk_180 0 77 (dk_at dksX7_fails_2_1 9 rfl rfl)
theorem dX7_fails_2_36 : decode cX7_fails_2 36 = .ok (.iload_n 2, 1) := dk_28 (dk_at dksX7_fails_2_1 12 rfl rfl)
theorem dX7_fails_2_37 : decode cX7_fails_2 37 = .ok (.iaload, 1) := dk_46 (dk_at dksX7_fails_2_1 13 rfl rfl)
theorem dX7_fails_2_38 : decode cX7_fails_2 38 = .ok (.iload_n 1, 1) := dk_27 (dk_at dksX7_fails_2_1 14 rfl rfl)
theorem dX7_fails_2_39 : decode cX7_fails_2 39 = .ok (.if_icmp .ge 12, 3) := dk_162 0 12 (dk_at dksX7_fails_2_1 15 rfl rfl)
theorem dX7_fails_2_42 : decode cX7_fails_2 42 = .ok (.aload_n 0, 1) := dk_42 (dk_at dksX7_fails_2_1 18 rfl rfl)
theorem dX7_fails_2_43 : decode cX7_fails_2 43 = .ok (.getfield 77, 3) := dk_180 0 77 (dk_at dksX7_fails_2_1 19 rfl rfl)
theorem dX7_fails_2_46 : decode cX7_fails_2 46 = .ok (.iload_n 2, 1) := dk_28 (dk_at dksX7_fails_2_1 22 rfl rfl)
theorem dX7_fails_2_47 : decode cX7_fails_2 47 = .ok (.iaload, 1) := dk_46 (dk_at dksX7_fails_2_1 23 rfl rfl)
theorem dX7_fails_2_48 : decode cX7_fails_2 48 = .ok (.goto 4, 3) := dk_167 0 4 (dk_at dksX7_fails_2_2 0 rfl rfl)
theorem dX7_fails_2_51 : decode cX7_fails_2 51 = .ok (.iload_n 1, 1) := dk_27 (dk_at dksX7_fails_2_2 3 rfl rfl)
theorem dX7_fails_2_52 : decode cX7_fails_2 52 = .ok (.istore_n 1, 1) := dk_60 (dk_at dksX7_fails_2_2 4 rfl rfl)
theorem dX7_fails_2_53 : decode cX7_fails_2 53 = .ok (.iinc 2 1, 3) := dk_132 2 1 (dk_at dksX7_fails_2_2 5 rfl rfl)
theorem dX7_fails_2_56 : decode cX7_fails_2 56 = .ok (.goto (-32), 3) := dk_167 255 224 (dk_at dksX7_fails_2_2 8 rfl rfl)
theorem dX7_fails_2_59 : decode cX7_fails_2 59 = .ok (.iload_n 1, 1) := dk_27 (dk_at dksX7_fails_2_2 11 rfl rfl)
theorem dX7_fails_2_60 : decode cX7_fails_2 60 = .ok (.ldc 166, 2) := dk_18 166 (dk_at dksX7_fails_2_2 12 rfl rfl)
theorem dX7_fails_2_62 : decode cX7_fails_2 62 = .ok (.if_icmp .ne 7, 3) := dk_160 0 7 (dk_at dksX7_fails_2_2 14 rfl rfl)
theorem dX7_fails_2_65 : decode cX7_fails_2 65 = .ok (.iconst (-1), 1) := dk_2 (dk_at dksX7_fails_2_2 17 rfl rfl)
theorem dX7_fails_2_66 : decode cX7_fails_2 66 = .ok (.goto 4, 3) := dk_167 0 4 (dk_at dksX7_fails_2_2 18 rfl rfl)
theorem dX7_fails_2_69 : decode cX7_fails_2 69 = .ok (.iload_n 1, 1) := dk_27 (dk_at dksX7_fails_2_2 21 rfl rfl)
theorem dX7_fails_2_70 : decode cX7_fails_2 70 = .ok (.ireturn, 1) := dk_172 (dk_at dksX7_fails_2_2 22 rfl rfl)
abbrev cX7_spare : ByteArray := prog_12_method_84_code
def yX7_spare : MethodName := ⟨RX7, "spare", "(I)I"⟩
def dkwX7_spare_1 : List UInt8 := [180, 0, 37, 5, 27, 104, 46, 42, 27, 182, 1, 61, 100, 172]
abbrev dktX7_spare_1 : List UInt8 := dkwX7_spare_1 ++ []
def dkwX7_spare_0 : List UInt8 := [42, 3, 181, 0, 116, 42, 27, 133, 182, 1, 36, 154, 0, 7, 17, 252, 24, 172, 42, 182, 1, 80, 42]
abbrev dktX7_spare_0 : List UInt8 := dkwX7_spare_0 ++ dktX7_spare_1
theorem dksX7_spare_0 : cX7_spare.data.toList.drop 0 = dktX7_spare_0 := by decide +kernel
theorem dksX7_spare_1 : cX7_spare.data.toList.drop 23 = dktX7_spare_1 := dk_seg dksX7_spare_0 23 rfl rfl
theorem dX7_spare_0 : decode cX7_spare 0 = .ok (.aload_n 0, 1) := dk_42 (dk_at dksX7_spare_0 0 rfl rfl)
theorem dX7_spare_1 : decode cX7_spare 1 = .ok (.iconst 0, 1) := dk_3 (dk_at dksX7_spare_0 1 rfl rfl)
theorem dX7_spare_2 : decode cX7_spare 2 = .ok (.putfield 116, 3) := dk_181 0 116 (dk_at dksX7_spare_0 2 rfl rfl)
theorem dX7_spare_5 : decode cX7_spare 5 = .ok (.aload_n 0, 1) := dk_42 (dk_at dksX7_spare_0 5 rfl rfl)
theorem dX7_spare_6 : decode cX7_spare 6 = .ok (.iload_n 1, 1) := dk_27 (dk_at dksX7_spare_0 6 rfl rfl)
theorem dX7_spare_7 : decode cX7_spare 7 = .ok (.i2l, 1) := dk_133 (dk_at dksX7_spare_0 7 rfl rfl)
theorem dX7_spare_8 : decode cX7_spare 8 = .ok (.invokevirtual 292, 3) := dk_182 1 36 (dk_at dksX7_spare_0 8 rfl rfl)
theorem dX7_spare_11 : decode cX7_spare 11 = .ok (.ifCond .ne 7, 3) := dk_154 0 7 (dk_at dksX7_spare_0 11 rfl rfl)
theorem dX7_spare_14 : decode cX7_spare 14 = .ok (.sipush (-1000), 3) := dk_17 252 24 (dk_at dksX7_spare_0 14 rfl rfl)
theorem dX7_spare_17 : decode cX7_spare 17 = .ok (.ireturn, 1) := dk_172 (dk_at dksX7_spare_0 17 rfl rfl)
theorem dX7_spare_18 : decode cX7_spare 18 = .ok (.aload_n 0, 1) := dk_42 (dk_at dksX7_spare_0 18 rfl rfl)
theorem dX7_spare_19 : decode cX7_spare 19 = .ok (.invokevirtual 336, 3) := dk_182 1 80 (dk_at dksX7_spare_0 19 rfl rfl)
theorem dX7_spare_22 : decode cX7_spare 22 = .ok (.aload_n 0, 1) := dk_42 (dk_at dksX7_spare_0 22 rfl rfl)
theorem dX7_spare_23 : decode cX7_spare 23 = .ok (.getfield 37, 3) := dk_180 0 37 (dk_at dksX7_spare_1 0 rfl rfl)
theorem dX7_spare_26 : decode cX7_spare 26 = .ok (.iconst 2, 1) := dk_5 (dk_at dksX7_spare_1 3 rfl rfl)
theorem dX7_spare_27 : decode cX7_spare 27 = .ok (.iload_n 1, 1) := dk_27 (dk_at dksX7_spare_1 4 rfl rfl)
theorem dX7_spare_28 : decode cX7_spare 28 = .ok (.imul, 1) := dk_104 (dk_at dksX7_spare_1 5 rfl rfl)
theorem dX7_spare_29 : decode cX7_spare 29 = .ok (.iaload, 1) := dk_46 (dk_at dksX7_spare_1 6 rfl rfl)
theorem dX7_spare_30 : decode cX7_spare 30 = .ok (.aload_n 0, 1) := dk_42 (dk_at dksX7_spare_1 7 rfl rfl)
theorem dX7_spare_31 : decode cX7_spare 31 = .ok (.iload_n 1, 1) := dk_27 (dk_at dksX7_spare_1 8 rfl rfl)
theorem dX7_spare_32 : decode cX7_spare 32 = .ok (.invokevirtual 317, 3) := dk_182 1 61 (dk_at dksX7_spare_1 9 rfl rfl)
theorem dX7_spare_35 : decode cX7_spare 35 = .ok (.isub, 1) := dk_100 (dk_at dksX7_spare_1 12 rfl rfl)
theorem dX7_spare_36 : decode cX7_spare 36 = .ok (.ireturn, 1) := dk_172 (dk_at dksX7_spare_1 13 rfl rfl)
abbrev cX7_kept : ByteArray := prog_12_method_85_code
def yX7_kept : MethodName := ⟨RX7, "kept", "(I)I"⟩
def dkwX7_kept_2 : List UInt8 := [120, 128, 61, 132, 3, 1, 167, 255, 227, 28, 172]
abbrev dktX7_kept_2 : List UInt8 := dkwX7_kept_2 ++ []
def dkwX7_kept_1 : List UInt8 := [62, 29, 42, 180, 0, 71, 27, 46, 162, 0, 25, 28, 4, 42, 180, 0, 68, 16, 8, 27, 104, 29, 96, 46]
abbrev dktX7_kept_1 : List UInt8 := dkwX7_kept_1 ++ dktX7_kept_2
def dkwX7_kept_0 : List UInt8 := [42, 3, 181, 0, 116, 42, 27, 133, 182, 1, 36, 154, 0, 6, 16, 254, 172, 42, 182, 1, 80, 3, 61, 3]
abbrev dktX7_kept_0 : List UInt8 := dkwX7_kept_0 ++ dktX7_kept_1
theorem dksX7_kept_0 : cX7_kept.data.toList.drop 0 = dktX7_kept_0 := by decide +kernel
theorem dksX7_kept_1 : cX7_kept.data.toList.drop 24 = dktX7_kept_1 := dk_seg dksX7_kept_0 24 rfl rfl
theorem dksX7_kept_2 : cX7_kept.data.toList.drop 48 = dktX7_kept_2 := dk_seg dksX7_kept_1 24 rfl rfl
theorem dX7_kept_0 : decode cX7_kept 0 = .ok (.aload_n 0, 1) := dk_42 (dk_at dksX7_kept_0 0 rfl rfl)
theorem dX7_kept_1 : decode cX7_kept 1 = .ok (.iconst 0, 1) := dk_3 (dk_at dksX7_kept_0 1 rfl rfl)
theorem dX7_kept_2 : decode cX7_kept 2 = .ok (.putfield 116, 3) := dk_181 0 116 (dk_at dksX7_kept_0 2 rfl rfl)
theorem dX7_kept_5 : decode cX7_kept 5 = .ok (.aload_n 0, 1) := dk_42 (dk_at dksX7_kept_0 5 rfl rfl)
theorem dX7_kept_6 : decode cX7_kept 6 = .ok (.iload_n 1, 1) := dk_27 (dk_at dksX7_kept_0 6 rfl rfl)
theorem dX7_kept_7 : decode cX7_kept 7 = .ok (.i2l, 1) := dk_133 (dk_at dksX7_kept_0 7 rfl rfl)
theorem dX7_kept_8 : decode cX7_kept 8 = .ok (.invokevirtual 292, 3) := dk_182 1 36 (dk_at dksX7_kept_0 8 rfl rfl)
theorem dX7_kept_11 : decode cX7_kept 11 = .ok (.ifCond .ne 6, 3) := dk_154 0 6 (dk_at dksX7_kept_0 11 rfl rfl)
theorem dX7_kept_14 : decode cX7_kept 14 = .ok (.bipush (-2), 2) := dk_16 254 (dk_at dksX7_kept_0 14 rfl rfl)
theorem dX7_kept_16 : decode cX7_kept 16 = .ok (.ireturn, 1) := dk_172 (dk_at dksX7_kept_0 16 rfl rfl)
theorem dX7_kept_17 : decode cX7_kept 17 = .ok (.aload_n 0, 1) := dk_42 (dk_at dksX7_kept_0 17 rfl rfl)
theorem dX7_kept_18 : decode cX7_kept 18 = .ok (.invokevirtual 336, 3) := dk_182 1 80 (dk_at dksX7_kept_0 18 rfl rfl)
theorem dX7_kept_21 : decode cX7_kept 21 = .ok (.iconst 0, 1) := dk_3 (dk_at dksX7_kept_0 21 rfl rfl)
theorem dX7_kept_22 : decode cX7_kept 22 = .ok (.istore_n 2, 1) := dk_61 (dk_at dksX7_kept_0 22 rfl rfl)
theorem dX7_kept_23 : decode cX7_kept 23 = .ok (.iconst 0, 1) := dk_3 (dk_at dksX7_kept_0 23 rfl rfl)
theorem dX7_kept_24 : decode cX7_kept 24 = .ok (.istore_n 3, 1) := dk_62 (dk_at dksX7_kept_1 0 rfl rfl)
theorem dX7_kept_25 : decode cX7_kept 25 = .ok (.iload_n 3, 1) := dk_29 (dk_at dksX7_kept_1 1 rfl rfl)
theorem dX7_kept_26 : decode cX7_kept 26 = .ok (.aload_n 0, 1) := dk_42 (dk_at dksX7_kept_1 2 rfl rfl)
theorem dX7_kept_27 : decode cX7_kept 27 = .ok (.getfield 71, 3) := dk_180 0 71 (dk_at dksX7_kept_1 3 rfl rfl)
theorem dX7_kept_30 : decode cX7_kept 30 = .ok (.iload_n 1, 1) := dk_27 (dk_at dksX7_kept_1 6 rfl rfl)
theorem dX7_kept_31 : decode cX7_kept 31 = .ok (.iaload, 1) := dk_46 (dk_at dksX7_kept_1 7 rfl rfl)
theorem dX7_kept_32 : decode cX7_kept 32 = .ok (.if_icmp .ge 25, 3) := dk_162 0 25 (dk_at dksX7_kept_1 8 rfl rfl)
theorem dX7_kept_35 : decode cX7_kept 35 = .ok (.iload_n 2, 1) := dk_28 (dk_at dksX7_kept_1 11 rfl rfl)
theorem dX7_kept_36 : decode cX7_kept 36 = .ok (.iconst 1, 1) := dk_4 (dk_at dksX7_kept_1 12 rfl rfl)
theorem dX7_kept_37 : decode cX7_kept 37 = .ok (.aload_n 0, 1) := dk_42 (dk_at dksX7_kept_1 13 rfl rfl)
theorem dX7_kept_38 : decode cX7_kept 38 = .ok (.getfield 68, 3) := dk_180 0 68 (dk_at dksX7_kept_1 14 rfl rfl)
theorem dX7_kept_41 : decode cX7_kept 41 = .ok (.bipush 8, 2) := dk_16 8 (dk_at dksX7_kept_1 17 rfl rfl)
theorem dX7_kept_43 : decode cX7_kept 43 = .ok (.iload_n 1, 1) := dk_27 (dk_at dksX7_kept_1 19 rfl rfl)
theorem dX7_kept_44 : decode cX7_kept 44 = .ok (.imul, 1) := dk_104 (dk_at dksX7_kept_1 20 rfl rfl)
theorem dX7_kept_45 : decode cX7_kept 45 = .ok (.iload_n 3, 1) := dk_29 (dk_at dksX7_kept_1 21 rfl rfl)
theorem dX7_kept_46 : decode cX7_kept 46 = .ok (.iadd, 1) := dk_96 (dk_at dksX7_kept_1 22 rfl rfl)
theorem dX7_kept_47 : decode cX7_kept 47 = .ok (.iaload, 1) := dk_46 (dk_at dksX7_kept_1 23 rfl rfl)
theorem dX7_kept_48 : decode cX7_kept 48 = .ok (.ishl, 1) := dk_120 (dk_at dksX7_kept_2 0 rfl rfl)
theorem dX7_kept_49 : decode cX7_kept 49 = .ok (.ior, 1) := dk_128 (dk_at dksX7_kept_2 1 rfl rfl)
theorem dX7_kept_50 : decode cX7_kept 50 = .ok (.istore_n 2, 1) := dk_61 (dk_at dksX7_kept_2 2 rfl rfl)
theorem dX7_kept_51 : decode cX7_kept 51 = .ok (.iinc 3 1, 3) := dk_132 3 1 (dk_at dksX7_kept_2 3 rfl rfl)
theorem dX7_kept_54 : decode cX7_kept 54 = .ok (.goto (-29), 3) := dk_167 255 227 (dk_at dksX7_kept_2 6 rfl rfl)
theorem dX7_kept_57 : decode cX7_kept 57 = .ok (.iload_n 2, 1) := dk_28 (dk_at dksX7_kept_2 9 rfl rfl)
theorem dX7_kept_58 : decode cX7_kept 58 = .ok (.ireturn, 1) := dk_172 (dk_at dksX7_kept_2 10 rfl rfl)
abbrev cX7_last : ByteArray := prog_12_method_86_code
def yX7_last : MethodName := ⟨RX7, "last", "(II)I"⟩
def dkwX7_last_2 : List UInt8 := [6, 28, 104, 27, 96, 104, 29, 96, 4, 100, 46, 172]
abbrev dktX7_last_2 : List UInt8 := dkwX7_last_2 ++ []
def dkwX7_last_1 : List UInt8 := [180, 0, 95, 6, 28, 104, 27, 96, 46, 62, 29, 154, 0, 7, 2, 167, 0, 20, 42, 180, 0, 101, 16, 8]
abbrev dktX7_last_1 : List UInt8 := dkwX7_last_1 ++ dktX7_last_2
def dkwX7_last_0 : List UInt8 := [42, 3, 181, 0, 116, 42, 27, 28, 182, 1, 97, 154, 0, 6, 16, 254, 172, 42, 182, 1, 80, 42]
abbrev dktX7_last_0 : List UInt8 := dkwX7_last_0 ++ dktX7_last_1
theorem dksX7_last_0 : cX7_last.data.toList.drop 0 = dktX7_last_0 := by decide +kernel
theorem dksX7_last_1 : cX7_last.data.toList.drop 22 = dktX7_last_1 := dk_seg dksX7_last_0 22 rfl rfl
theorem dksX7_last_2 : cX7_last.data.toList.drop 46 = dktX7_last_2 := dk_seg dksX7_last_1 24 rfl rfl
theorem dX7_last_0 : decode cX7_last 0 = .ok (.aload_n 0, 1) := dk_42 (dk_at dksX7_last_0 0 rfl rfl)
theorem dX7_last_1 : decode cX7_last 1 = .ok (.iconst 0, 1) := dk_3 (dk_at dksX7_last_0 1 rfl rfl)
theorem dX7_last_2 : decode cX7_last 2 = .ok (.putfield 116, 3) := dk_181 0 116 (dk_at dksX7_last_0 2 rfl rfl)
theorem dX7_last_5 : decode cX7_last 5 = .ok (.aload_n 0, 1) := dk_42 (dk_at dksX7_last_0 5 rfl rfl)
theorem dX7_last_6 : decode cX7_last 6 = .ok (.iload_n 1, 1) := dk_27 (dk_at dksX7_last_0 6 rfl rfl)
theorem dX7_last_7 : decode cX7_last 7 = .ok (.iload_n 2, 1) := dk_28 (dk_at dksX7_last_0 7 rfl rfl)
theorem dX7_last_8 : decode cX7_last 8 = .ok (.invokevirtual 353, 3) := dk_182 1 97 (dk_at dksX7_last_0 8 rfl rfl)
theorem dX7_last_11 : decode cX7_last 11 = .ok (.ifCond .ne 6, 3) := dk_154 0 6 (dk_at dksX7_last_0 11 rfl rfl)
theorem dX7_last_14 : decode cX7_last 14 = .ok (.bipush (-2), 2) := dk_16 254 (dk_at dksX7_last_0 14 rfl rfl)
theorem dX7_last_16 : decode cX7_last 16 = .ok (.ireturn, 1) := dk_172 (dk_at dksX7_last_0 16 rfl rfl)
theorem dX7_last_17 : decode cX7_last 17 = .ok (.aload_n 0, 1) := dk_42 (dk_at dksX7_last_0 17 rfl rfl)
theorem dX7_last_18 : decode cX7_last 18 = .ok (.invokevirtual 336, 3) := dk_182 1 80 (dk_at dksX7_last_0 18 rfl rfl)
theorem dX7_last_21 : decode cX7_last 21 = .ok (.aload_n 0, 1) := dk_42 (dk_at dksX7_last_0 21 rfl rfl)
theorem dX7_last_22 : decode cX7_last 22 = .ok (.getfield 95, 3) := dk_180 0 95 (dk_at dksX7_last_1 0 rfl rfl)
theorem dX7_last_25 : decode cX7_last 25 = .ok (.iconst 3, 1) := dk_6 (dk_at dksX7_last_1 3 rfl rfl)
theorem dX7_last_26 : decode cX7_last 26 = .ok (.iload_n 2, 1) := dk_28 (dk_at dksX7_last_1 4 rfl rfl)
theorem dX7_last_27 : decode cX7_last 27 = .ok (.imul, 1) := dk_104 (dk_at dksX7_last_1 5 rfl rfl)
theorem dX7_last_28 : decode cX7_last 28 = .ok (.iload_n 1, 1) := dk_27 (dk_at dksX7_last_1 6 rfl rfl)
theorem dX7_last_29 : decode cX7_last 29 = .ok (.iadd, 1) := dk_96 (dk_at dksX7_last_1 7 rfl rfl)
theorem dX7_last_30 : decode cX7_last 30 = .ok (.iaload, 1) := dk_46 (dk_at dksX7_last_1 8 rfl rfl)
theorem dX7_last_31 : decode cX7_last 31 = .ok (.istore_n 3, 1) := dk_62 (dk_at dksX7_last_1 9 rfl rfl)
theorem dX7_last_32 : decode cX7_last 32 = .ok (.iload_n 3, 1) := dk_29 (dk_at dksX7_last_1 10 rfl rfl)
theorem dX7_last_33 : decode cX7_last 33 = .ok (.ifCond .ne 7, 3) := dk_154 0 7 (dk_at dksX7_last_1 11 rfl rfl)
theorem dX7_last_36 : decode cX7_last 36 = .ok (.iconst (-1), 1) := dk_2 (dk_at dksX7_last_1 14 rfl rfl)
theorem dX7_last_37 : decode cX7_last 37 = .ok (.goto 20, 3) := dk_167 0 20 (dk_at dksX7_last_1 15 rfl rfl)
theorem dX7_last_40 : decode cX7_last 40 = .ok (.aload_n 0, 1) := dk_42 (dk_at dksX7_last_1 18 rfl rfl)
theorem dX7_last_41 : decode cX7_last 41 = .ok (.getfield 101, 3) := dk_180 0 101 (dk_at dksX7_last_1 19 rfl rfl)
theorem dX7_last_44 : decode cX7_last 44 = .ok (.bipush 8, 2) := dk_16 8 (dk_at dksX7_last_1 22 rfl rfl)
theorem dX7_last_46 : decode cX7_last 46 = .ok (.iconst 3, 1) := dk_6 (dk_at dksX7_last_2 0 rfl rfl)
theorem dX7_last_47 : decode cX7_last 47 = .ok (.iload_n 2, 1) := dk_28 (dk_at dksX7_last_2 1 rfl rfl)
theorem dX7_last_48 : decode cX7_last 48 = .ok (.imul, 1) := dk_104 (dk_at dksX7_last_2 2 rfl rfl)
theorem dX7_last_49 : decode cX7_last 49 = .ok (.iload_n 1, 1) := dk_27 (dk_at dksX7_last_2 3 rfl rfl)
theorem dX7_last_50 : decode cX7_last 50 = .ok (.iadd, 1) := dk_96 (dk_at dksX7_last_2 4 rfl rfl)
theorem dX7_last_51 : decode cX7_last 51 = .ok (.imul, 1) := dk_104 (dk_at dksX7_last_2 5 rfl rfl)
theorem dX7_last_52 : decode cX7_last 52 = .ok (.iload_n 3, 1) := dk_29 (dk_at dksX7_last_2 6 rfl rfl)
theorem dX7_last_53 : decode cX7_last 53 = .ok (.iadd, 1) := dk_96 (dk_at dksX7_last_2 7 rfl rfl)
theorem dX7_last_54 : decode cX7_last 54 = .ok (.iconst 1, 1) := dk_4 (dk_at dksX7_last_2 8 rfl rfl)
theorem dX7_last_55 : decode cX7_last 55 = .ok (.isub, 1) := dk_100 (dk_at dksX7_last_2 9 rfl rfl)
theorem dX7_last_56 : decode cX7_last 56 = .ok (.iaload, 1) := dk_46 (dk_at dksX7_last_2 10 rfl rfl)
theorem dX7_last_57 : decode cX7_last 57 = .ok (.ireturn, 1) := dk_172 (dk_at dksX7_last_2 11 rfl rfl)
abbrev cX7_broken : ByteArray := prog_12_method_87_code
def yX7_broken : MethodName := ⟨RX7, "broken", "(I)I"⟩
def dkwX7_broken_2 : List UInt8 := [167, 0, 4, 3, 128, 61, 132, 3, 1, 167, 255, 225, 28, 172]
abbrev dktX7_broken_2 : List UInt8 := dkwX7_broken_2 ++ []
def dkwX7_broken_1 : List UInt8 := [62, 29, 42, 182, 1, 27, 162, 0, 29, 28, 42, 180, 0, 77, 29, 46, 27, 163, 0, 9, 4, 29, 120]
abbrev dktX7_broken_1 : List UInt8 := dkwX7_broken_1 ++ dktX7_broken_2
def dkwX7_broken_0 : List UInt8 := [42, 3, 181, 0, 116, 42, 27, 133, 182, 1, 33, 154, 0, 6, 16, 254, 172, 42, 182, 1, 80, 3, 61, 3]
abbrev dktX7_broken_0 : List UInt8 := dkwX7_broken_0 ++ dktX7_broken_1
theorem dksX7_broken_0 : cX7_broken.data.toList.drop 0 = dktX7_broken_0 := by decide +kernel
theorem dksX7_broken_1 : cX7_broken.data.toList.drop 24 = dktX7_broken_1 := dk_seg dksX7_broken_0 24 rfl rfl
theorem dksX7_broken_2 : cX7_broken.data.toList.drop 47 = dktX7_broken_2 := dk_seg dksX7_broken_1 23 rfl rfl
theorem dX7_broken_0 : decode cX7_broken 0 = .ok (.aload_n 0, 1) := dk_42 (dk_at dksX7_broken_0 0 rfl rfl)
theorem dX7_broken_1 : decode cX7_broken 1 = .ok (.iconst 0, 1) := dk_3 (dk_at dksX7_broken_0 1 rfl rfl)
theorem dX7_broken_2 : decode cX7_broken 2 = .ok (.putfield 116, 3) := dk_181 0 116 (dk_at dksX7_broken_0 2 rfl rfl)
theorem dX7_broken_5 : decode cX7_broken 5 = .ok (.aload_n 0, 1) := dk_42 (dk_at dksX7_broken_0 5 rfl rfl)
theorem dX7_broken_6 : decode cX7_broken 6 = .ok (.iload_n 1, 1) := dk_27 (dk_at dksX7_broken_0 6 rfl rfl)
theorem dX7_broken_7 : decode cX7_broken 7 = .ok (.i2l, 1) := dk_133 (dk_at dksX7_broken_0 7 rfl rfl)
theorem dX7_broken_8 : decode cX7_broken 8 = .ok (.invokevirtual 289, 3) := dk_182 1 33 (dk_at dksX7_broken_0 8 rfl rfl)
theorem dX7_broken_11 : decode cX7_broken 11 = .ok (.ifCond .ne 6, 3) := dk_154 0 6 (dk_at dksX7_broken_0 11 rfl rfl)
theorem dX7_broken_14 : decode cX7_broken 14 = .ok (.bipush (-2), 2) := dk_16 254 (dk_at dksX7_broken_0 14 rfl rfl)
theorem dX7_broken_16 : decode cX7_broken 16 = .ok (.ireturn, 1) := dk_172 (dk_at dksX7_broken_0 16 rfl rfl)
theorem dX7_broken_17 : decode cX7_broken 17 = .ok (.aload_n 0, 1) := dk_42 (dk_at dksX7_broken_0 17 rfl rfl)
theorem dX7_broken_18 : decode cX7_broken 18 = .ok (.invokevirtual 336, 3) := dk_182 1 80 (dk_at dksX7_broken_0 18 rfl rfl)
theorem dX7_broken_21 : decode cX7_broken 21 = .ok (.iconst 0, 1) := dk_3 (dk_at dksX7_broken_0 21 rfl rfl)
theorem dX7_broken_22 : decode cX7_broken 22 = .ok (.istore_n 2, 1) := dk_61 (dk_at dksX7_broken_0 22 rfl rfl)
theorem dX7_broken_23 : decode cX7_broken 23 = .ok (.iconst 0, 1) := dk_3 (dk_at dksX7_broken_0 23 rfl rfl)
theorem dX7_broken_24 : decode cX7_broken 24 = .ok (.istore_n 3, 1) := dk_62 (dk_at dksX7_broken_1 0 rfl rfl)
theorem dX7_broken_25 : decode cX7_broken 25 = .ok (.iload_n 3, 1) := dk_29 (dk_at dksX7_broken_1 1 rfl rfl)
theorem dX7_broken_26 : decode cX7_broken 26 = .ok (.aload_n 0, 1) := dk_42 (dk_at dksX7_broken_1 2 rfl rfl)
theorem dX7_broken_27 : decode cX7_broken 27 = .ok (.invokevirtual 283, 3) := dk_182 1 27 (dk_at dksX7_broken_1 3 rfl rfl)
theorem dX7_broken_30 : decode cX7_broken 30 = .ok (.if_icmp .ge 29, 3) := dk_162 0 29 (dk_at dksX7_broken_1 6 rfl rfl)
theorem dX7_broken_33 : decode cX7_broken 33 = .ok (.iload_n 2, 1) := dk_28 (dk_at dksX7_broken_1 9 rfl rfl)
theorem dX7_broken_34 : decode cX7_broken 34 = .ok (.aload_n 0, 1) := dk_42 (dk_at dksX7_broken_1 10 rfl rfl)
theorem dX7_broken_35 : decode cX7_broken 35 = .ok (.getfield 77, 3) := dk_180 0 77 (dk_at dksX7_broken_1 11 rfl rfl)
theorem dX7_broken_38 : decode cX7_broken 38 = .ok (.iload_n 3, 1) := dk_29 (dk_at dksX7_broken_1 14 rfl rfl)
theorem dX7_broken_39 : decode cX7_broken 39 = .ok (.iaload, 1) := dk_46 (dk_at dksX7_broken_1 15 rfl rfl)
theorem dX7_broken_40 : decode cX7_broken 40 = .ok (.iload_n 1, 1) := dk_27 (dk_at dksX7_broken_1 16 rfl rfl)
theorem dX7_broken_41 : decode cX7_broken 41 = .ok (.if_icmp .gt 9, 3) := dk_163 0 9 (dk_at dksX7_broken_1 17 rfl rfl)
theorem dX7_broken_44 : decode cX7_broken 44 = .ok (.iconst 1, 1) := dk_4 (dk_at dksX7_broken_1 20 rfl rfl)
theorem dX7_broken_45 : decode cX7_broken 45 = .ok (.iload_n 3, 1) := dk_29 (dk_at dksX7_broken_1 21 rfl rfl)
theorem dX7_broken_46 : decode cX7_broken 46 = .ok (.ishl, 1) := dk_120 (dk_at dksX7_broken_1 22 rfl rfl)
theorem dX7_broken_47 : decode cX7_broken 47 = .ok (.goto 4, 3) := dk_167 0 4 (dk_at dksX7_broken_2 0 rfl rfl)
theorem dX7_broken_50 : decode cX7_broken 50 = .ok (.iconst 0, 1) := dk_3 (dk_at dksX7_broken_2 3 rfl rfl)
theorem dX7_broken_51 : decode cX7_broken 51 = .ok (.ior, 1) := dk_128 (dk_at dksX7_broken_2 4 rfl rfl)
theorem dX7_broken_52 : decode cX7_broken 52 = .ok (.istore_n 2, 1) := dk_61 (dk_at dksX7_broken_2 5 rfl rfl)
theorem dX7_broken_53 : decode cX7_broken 53 = .ok (.iinc 3 1, 3) := dk_132 3 1 (dk_at dksX7_broken_2 6 rfl rfl)
theorem dX7_broken_56 : decode cX7_broken 56 = .ok (.goto (-31), 3) := dk_167 255 225 (dk_at dksX7_broken_2 9 rfl rfl)
theorem dX7_broken_59 : decode cX7_broken 59 = .ok (.iload_n 2, 1) := dk_28 (dk_at dksX7_broken_2 12 rfl rfl)
theorem dX7_broken_60 : decode cX7_broken 60 = .ok (.ireturn, 1) := dk_172 (dk_at dksX7_broken_2 13 rfl rfl)
abbrev cX7_free : ByteArray := prog_12_method_89_code
def yX7_free : MethodName := ⟨RX7, "free", "(II)I"⟩
def dkwX7_free_2 : List UInt8 := [132, 3, 255, 167, 255, 229, 29, 172]
abbrev dktX7_free_2 : List UInt8 := dkwX7_free_2 ++ []
def dkwX7_free_1 : List UInt8 := [29, 158, 0, 29, 42, 27, 28, 29, 182, 1, 103, 42, 180, 0, 98, 6, 28, 104, 27, 96, 46, 164, 0, 9]
abbrev dktX7_free_1 : List UInt8 := dkwX7_free_1 ++ dktX7_free_2
def dkwX7_free_0 : List UInt8 := [42, 3, 181, 0, 116, 42, 27, 28, 182, 1, 97, 154, 0, 6, 16, 254, 172, 42, 182, 1, 80, 16, 99, 62]
abbrev dktX7_free_0 : List UInt8 := dkwX7_free_0 ++ dktX7_free_1
theorem dksX7_free_0 : cX7_free.data.toList.drop 0 = dktX7_free_0 := by decide +kernel
theorem dksX7_free_1 : cX7_free.data.toList.drop 24 = dktX7_free_1 := dk_seg dksX7_free_0 24 rfl rfl
theorem dksX7_free_2 : cX7_free.data.toList.drop 48 = dktX7_free_2 := dk_seg dksX7_free_1 24 rfl rfl
theorem dX7_free_0 : decode cX7_free 0 = .ok (.aload_n 0, 1) := dk_42 (dk_at dksX7_free_0 0 rfl rfl)
theorem dX7_free_1 : decode cX7_free 1 = .ok (.iconst 0, 1) := dk_3 (dk_at dksX7_free_0 1 rfl rfl)
theorem dX7_free_2 : decode cX7_free 2 = .ok (.putfield 116, 3) := dk_181 0 116 (dk_at dksX7_free_0 2 rfl rfl)
theorem dX7_free_5 : decode cX7_free 5 = .ok (.aload_n 0, 1) := dk_42 (dk_at dksX7_free_0 5 rfl rfl)
theorem dX7_free_6 : decode cX7_free 6 = .ok (.iload_n 1, 1) := dk_27 (dk_at dksX7_free_0 6 rfl rfl)
theorem dX7_free_7 : decode cX7_free 7 = .ok (.iload_n 2, 1) := dk_28 (dk_at dksX7_free_0 7 rfl rfl)
theorem dX7_free_8 : decode cX7_free 8 = .ok (.invokevirtual 353, 3) := dk_182 1 97 (dk_at dksX7_free_0 8 rfl rfl)
theorem dX7_free_11 : decode cX7_free 11 = .ok (.ifCond .ne 6, 3) := dk_154 0 6 (dk_at dksX7_free_0 11 rfl rfl)
theorem dX7_free_14 : decode cX7_free 14 = .ok (.bipush (-2), 2) := dk_16 254 (dk_at dksX7_free_0 14 rfl rfl)
theorem dX7_free_16 : decode cX7_free 16 = .ok (.ireturn, 1) := dk_172 (dk_at dksX7_free_0 16 rfl rfl)
theorem dX7_free_17 : decode cX7_free 17 = .ok (.aload_n 0, 1) := dk_42 (dk_at dksX7_free_0 17 rfl rfl)
theorem dX7_free_18 : decode cX7_free 18 = .ok (.invokevirtual 336, 3) := dk_182 1 80 (dk_at dksX7_free_0 18 rfl rfl)
theorem dX7_free_21 : decode cX7_free 21 = .ok (.bipush 99, 2) := dk_16 99 (dk_at dksX7_free_0 21 rfl rfl)
theorem dX7_free_23 : decode cX7_free 23 = .ok (.istore_n 3, 1) := dk_62 (dk_at dksX7_free_0 23 rfl rfl)
theorem dX7_free_24 : decode cX7_free 24 = .ok (.iload_n 3, 1) := dk_29 (dk_at dksX7_free_1 0 rfl rfl)
theorem dX7_free_25 : decode cX7_free 25 = .ok (.ifCond .le 29, 3) := dk_158 0 29 (dk_at dksX7_free_1 1 rfl rfl)
theorem dX7_free_28 : decode cX7_free 28 = .ok (.aload_n 0, 1) := dk_42 (dk_at dksX7_free_1 4 rfl rfl)
theorem dX7_free_29 : decode cX7_free 29 = .ok (.iload_n 1, 1) := dk_27 (dk_at dksX7_free_1 5 rfl rfl)
theorem dX7_free_30 : decode cX7_free 30 = .ok (.iload_n 2, 1) := dk_28 (dk_at dksX7_free_1 6 rfl rfl)
theorem dX7_free_31 : decode cX7_free 31 = .ok (.iload_n 3, 1) := dk_29 (dk_at dksX7_free_1 7 rfl rfl)
theorem dX7_free_32 : decode cX7_free 32 = .ok (.invokevirtual 359, 3) := dk_182 1 103 (dk_at dksX7_free_1 8 rfl rfl)
theorem dX7_free_35 : decode cX7_free 35 = .ok (.aload_n 0, 1) := dk_42 (dk_at dksX7_free_1 11 rfl rfl)
theorem dX7_free_36 : decode cX7_free 36 = .ok (.getfield 98, 3) := dk_180 0 98 (dk_at dksX7_free_1 12 rfl rfl)
theorem dX7_free_39 : decode cX7_free 39 = .ok (.iconst 3, 1) := dk_6 (dk_at dksX7_free_1 15 rfl rfl)
theorem dX7_free_40 : decode cX7_free 40 = .ok (.iload_n 2, 1) := dk_28 (dk_at dksX7_free_1 16 rfl rfl)
theorem dX7_free_41 : decode cX7_free 41 = .ok (.imul, 1) := dk_104 (dk_at dksX7_free_1 17 rfl rfl)
theorem dX7_free_42 : decode cX7_free 42 = .ok (.iload_n 1, 1) := dk_27 (dk_at dksX7_free_1 18 rfl rfl)
theorem dX7_free_43 : decode cX7_free 43 = .ok (.iadd, 1) := dk_96 (dk_at dksX7_free_1 19 rfl rfl)
theorem dX7_free_44 : decode cX7_free 44 = .ok (.iaload, 1) := dk_46 (dk_at dksX7_free_1 20 rfl rfl)
theorem dX7_free_45 : decode cX7_free 45 = .ok (.if_icmp .le 9, 3) := dk_164 0 9 (dk_at dksX7_free_1 21 rfl rfl)
theorem dX7_free_48 : decode cX7_free 48 = .ok (.iinc 3 (-1), 3) := dk_132 3 255 (dk_at dksX7_free_2 0 rfl rfl)
theorem dX7_free_51 : decode cX7_free 51 = .ok (.goto (-27), 3) := dk_167 255 229 (dk_at dksX7_free_2 3 rfl rfl)
theorem dX7_free_54 : decode cX7_free 54 = .ok (.iload_n 3, 1) := dk_29 (dk_at dksX7_free_2 6 rfl rfl)
theorem dX7_free_55 : decode cX7_free 55 = .ok (.ireturn, 1) := dk_172 (dk_at dksX7_free_2 7 rfl rfl)
abbrev cX7_sagWith : ByteArray := prog_12_method_88_code
def yX7_sagWith : MethodName := ⟨RX7, "sagWith", "(III)I"⟩
def dkwX7_sagWith_3 : List UInt8 := [182, 1, 64, 87, 42, 27, 182, 1, 61, 172]
abbrev dktX7_sagWith_3 : List UInt8 := dkwX7_sagWith_3 ++ []
def dkwX7_sagWith_2 : List UInt8 := [16, 8, 6, 28, 104, 27, 96, 104, 21, 4, 96, 46, 79, 132, 4, 1, 167, 255, 214, 42, 27, 29, 3]
abbrev dktX7_sagWith_2 : List UInt8 := dkwX7_sagWith_2 ++ dktX7_sagWith_3
def dkwX7_sagWith_1 : List UInt8 := [180, 0, 71, 27, 46, 162, 0, 37, 42, 180, 0, 65, 16, 8, 27, 104, 21, 4, 96, 42, 180, 0, 101]
abbrev dktX7_sagWith_1 : List UInt8 := dkwX7_sagWith_1 ++ dktX7_sagWith_2
def dkwX7_sagWith_0 : List UInt8 := [42, 180, 0, 71, 27, 42, 180, 0, 95, 6, 28, 104, 27, 96, 46, 79, 3, 54, 4, 21, 4, 42]
abbrev dktX7_sagWith_0 : List UInt8 := dkwX7_sagWith_0 ++ dktX7_sagWith_1
theorem dksX7_sagWith_0 : cX7_sagWith.data.toList.drop 0 = dktX7_sagWith_0 := by decide +kernel
theorem dksX7_sagWith_1 : cX7_sagWith.data.toList.drop 22 = dktX7_sagWith_1 := dk_seg dksX7_sagWith_0 22 rfl rfl
theorem dksX7_sagWith_2 : cX7_sagWith.data.toList.drop 45 = dktX7_sagWith_2 := dk_seg dksX7_sagWith_1 23 rfl rfl
theorem dksX7_sagWith_3 : cX7_sagWith.data.toList.drop 68 = dktX7_sagWith_3 := dk_seg dksX7_sagWith_2 23 rfl rfl
theorem dX7_sagWith_0 : decode cX7_sagWith 0 = .ok (.aload_n 0, 1) := dk_42 (dk_at dksX7_sagWith_0 0 rfl rfl)
theorem dX7_sagWith_1 : decode cX7_sagWith 1 = .ok (.getfield 71, 3) := dk_180 0 71 (dk_at dksX7_sagWith_0 1 rfl rfl)
theorem dX7_sagWith_4 : decode cX7_sagWith 4 = .ok (.iload_n 1, 1) := dk_27 (dk_at dksX7_sagWith_0 4 rfl rfl)
theorem dX7_sagWith_5 : decode cX7_sagWith 5 = .ok (.aload_n 0, 1) := dk_42 (dk_at dksX7_sagWith_0 5 rfl rfl)
theorem dX7_sagWith_6 : decode cX7_sagWith 6 = .ok (.getfield 95, 3) := dk_180 0 95 (dk_at dksX7_sagWith_0 6 rfl rfl)
theorem dX7_sagWith_9 : decode cX7_sagWith 9 = .ok (.iconst 3, 1) := dk_6 (dk_at dksX7_sagWith_0 9 rfl rfl)
theorem dX7_sagWith_10 : decode cX7_sagWith 10 = .ok (.iload_n 2, 1) := dk_28 (dk_at dksX7_sagWith_0 10 rfl rfl)
theorem dX7_sagWith_11 : decode cX7_sagWith 11 = .ok (.imul, 1) := dk_104 (dk_at dksX7_sagWith_0 11 rfl rfl)
theorem dX7_sagWith_12 : decode cX7_sagWith 12 = .ok (.iload_n 1, 1) := dk_27 (dk_at dksX7_sagWith_0 12 rfl rfl)
theorem dX7_sagWith_13 : decode cX7_sagWith 13 = .ok (.iadd, 1) := dk_96 (dk_at dksX7_sagWith_0 13 rfl rfl)
theorem dX7_sagWith_14 : decode cX7_sagWith 14 = .ok (.iaload, 1) := dk_46 (dk_at dksX7_sagWith_0 14 rfl rfl)
theorem dX7_sagWith_15 : decode cX7_sagWith 15 = .ok (.iastore, 1) := dk_79 (dk_at dksX7_sagWith_0 15 rfl rfl)
theorem dX7_sagWith_16 : decode cX7_sagWith 16 = .ok (.iconst 0, 1) := dk_3 (dk_at dksX7_sagWith_0 16 rfl rfl)
theorem dX7_sagWith_17 : decode cX7_sagWith 17 = .ok (.istore 4, 2) := dk_54 4 (dk_at dksX7_sagWith_0 17 rfl rfl)
theorem dX7_sagWith_19 : decode cX7_sagWith 19 = .ok (.iload 4, 2) := dk_21 4 (dk_at dksX7_sagWith_0 19 rfl rfl)
theorem dX7_sagWith_21 : decode cX7_sagWith 21 = .ok (.aload_n 0, 1) := dk_42 (dk_at dksX7_sagWith_0 21 rfl rfl)
theorem dX7_sagWith_22 : decode cX7_sagWith 22 = .ok (.getfield 71, 3) := dk_180 0 71 (dk_at dksX7_sagWith_1 0 rfl rfl)
theorem dX7_sagWith_25 : decode cX7_sagWith 25 = .ok (.iload_n 1, 1) := dk_27 (dk_at dksX7_sagWith_1 3 rfl rfl)
theorem dX7_sagWith_26 : decode cX7_sagWith 26 = .ok (.iaload, 1) := dk_46 (dk_at dksX7_sagWith_1 4 rfl rfl)
theorem dX7_sagWith_27 : decode cX7_sagWith 27 = .ok (.if_icmp .ge 37, 3) := dk_162 0 37 (dk_at dksX7_sagWith_1 5 rfl rfl)
theorem dX7_sagWith_30 : decode cX7_sagWith 30 = .ok (.aload_n 0, 1) := dk_42 (dk_at dksX7_sagWith_1 8 rfl rfl)
theorem dX7_sagWith_31 : decode cX7_sagWith 31 = .ok (.getfield 65, 3) := dk_180 0 65 (dk_at dksX7_sagWith_1 9 rfl rfl)
theorem dX7_sagWith_34 : decode cX7_sagWith 34 = .ok (.bipush 8, 2) := dk_16 8 (dk_at dksX7_sagWith_1 12 rfl rfl)
theorem dX7_sagWith_36 : decode cX7_sagWith 36 = .ok (.iload_n 1, 1) := dk_27 (dk_at dksX7_sagWith_1 14 rfl rfl)
theorem dX7_sagWith_37 : decode cX7_sagWith 37 = .ok (.imul, 1) := dk_104 (dk_at dksX7_sagWith_1 15 rfl rfl)
theorem dX7_sagWith_38 : decode cX7_sagWith 38 = .ok (.iload 4, 2) := dk_21 4 (dk_at dksX7_sagWith_1 16 rfl rfl)
theorem dX7_sagWith_40 : decode cX7_sagWith 40 = .ok (.iadd, 1) := dk_96 (dk_at dksX7_sagWith_1 18 rfl rfl)
theorem dX7_sagWith_41 : decode cX7_sagWith 41 = .ok (.aload_n 0, 1) := dk_42 (dk_at dksX7_sagWith_1 19 rfl rfl)
theorem dX7_sagWith_42 : decode cX7_sagWith 42 = .ok (.getfield 101, 3) := dk_180 0 101 (dk_at dksX7_sagWith_1 20 rfl rfl)
theorem dX7_sagWith_45 : decode cX7_sagWith 45 = .ok (.bipush 8, 2) := dk_16 8 (dk_at dksX7_sagWith_2 0 rfl rfl)
theorem dX7_sagWith_47 : decode cX7_sagWith 47 = .ok (.iconst 3, 1) := dk_6 (dk_at dksX7_sagWith_2 2 rfl rfl)
theorem dX7_sagWith_48 : decode cX7_sagWith 48 = .ok (.iload_n 2, 1) := dk_28 (dk_at dksX7_sagWith_2 3 rfl rfl)
theorem dX7_sagWith_49 : decode cX7_sagWith 49 = .ok (.imul, 1) := dk_104 (dk_at dksX7_sagWith_2 4 rfl rfl)
theorem dX7_sagWith_50 : decode cX7_sagWith 50 = .ok (.iload_n 1, 1) := dk_27 (dk_at dksX7_sagWith_2 5 rfl rfl)
theorem dX7_sagWith_51 : decode cX7_sagWith 51 = .ok (.iadd, 1) := dk_96 (dk_at dksX7_sagWith_2 6 rfl rfl)
theorem dX7_sagWith_52 : decode cX7_sagWith 52 = .ok (.imul, 1) := dk_104 (dk_at dksX7_sagWith_2 7 rfl rfl)
theorem dX7_sagWith_53 : decode cX7_sagWith 53 = .ok (.iload 4, 2) := dk_21 4 (dk_at dksX7_sagWith_2 8 rfl rfl)
theorem dX7_sagWith_55 : decode cX7_sagWith 55 = .ok (.iadd, 1) := dk_96 (dk_at dksX7_sagWith_2 10 rfl rfl)
theorem dX7_sagWith_56 : decode cX7_sagWith 56 = .ok (.iaload, 1) := dk_46 (dk_at dksX7_sagWith_2 11 rfl rfl)
theorem dX7_sagWith_57 : decode cX7_sagWith 57 = .ok (.iastore, 1) := dk_79 (dk_at dksX7_sagWith_2 12 rfl rfl)
theorem dX7_sagWith_58 : decode cX7_sagWith 58 = .ok (.iinc 4 1, 3) := dk_132 4 1 (dk_at dksX7_sagWith_2 13 rfl rfl)
theorem dX7_sagWith_61 : decode cX7_sagWith 61 = .ok (.goto (-42), 3) := dk_167 255 214 (dk_at dksX7_sagWith_2 16 rfl rfl)
theorem dX7_sagWith_64 : decode cX7_sagWith 64 = .ok (.aload_n 0, 1) := dk_42 (dk_at dksX7_sagWith_2 19 rfl rfl)
theorem dX7_sagWith_65 : decode cX7_sagWith 65 = .ok (.iload_n 1, 1) := dk_27 (dk_at dksX7_sagWith_2 20 rfl rfl)
theorem dX7_sagWith_66 : decode cX7_sagWith 66 = .ok (.iload_n 3, 1) := dk_29 (dk_at dksX7_sagWith_2 21 rfl rfl)
theorem dX7_sagWith_67 : decode cX7_sagWith 67 = .ok (.iconst 0, 1) := dk_3 (dk_at dksX7_sagWith_2 22 rfl rfl)
theorem dX7_sagWith_68 : decode cX7_sagWith 68 = .ok (.invokevirtual 320, 3) := dk_182 1 64 (dk_at dksX7_sagWith_3 0 rfl rfl)
theorem dX7_sagWith_71 : decode cX7_sagWith 71 = .ok (.pop, 1) := dk_87 (dk_at dksX7_sagWith_3 3 rfl rfl)
theorem dX7_sagWith_72 : decode cX7_sagWith 72 = .ok (.aload_n 0, 1) := dk_42 (dk_at dksX7_sagWith_3 4 rfl rfl)
theorem dX7_sagWith_73 : decode cX7_sagWith 73 = .ok (.iload_n 1, 1) := dk_27 (dk_at dksX7_sagWith_3 5 rfl rfl)
theorem dX7_sagWith_74 : decode cX7_sagWith 74 = .ok (.invokevirtual 317, 3) := dk_182 1 61 (dk_at dksX7_sagWith_3 6 rfl rfl)
theorem dX7_sagWith_77 : decode cX7_sagWith 77 = .ok (.ireturn, 1) := dk_172 (dk_at dksX7_sagWith_3 9 rfl rfl)
abbrev cX7_most : ByteArray := prog_12_method_90_code
def yX7_most : MethodName := ⟨RX7, "most", "(II)I"⟩
def dkwX7_most_2 : List UInt8 := [180, 0, 37, 5, 27, 104, 46, 164, 0, 5, 29, 172, 132, 3, 1, 167, 255, 217, 2, 172]
abbrev dktX7_most_2 : List UInt8 := dkwX7_most_2 ++ []
def dkwX7_most_1 : List UInt8 := [16, 99, 163, 0, 39, 42, 180, 0, 77, 27, 46, 28, 164, 0, 29, 42, 27, 28, 29, 182, 1, 103, 42]
abbrev dktX7_most_1 : List UInt8 := dkwX7_most_1 ++ dktX7_most_2
def dkwX7_most_0 : List UInt8 := [42, 3, 181, 0, 116, 42, 27, 28, 182, 1, 97, 154, 0, 6, 16, 254, 172, 42, 182, 1, 80, 4, 62, 29]
abbrev dktX7_most_0 : List UInt8 := dkwX7_most_0 ++ dktX7_most_1
theorem dksX7_most_0 : cX7_most.data.toList.drop 0 = dktX7_most_0 := by decide +kernel
theorem dksX7_most_1 : cX7_most.data.toList.drop 24 = dktX7_most_1 := dk_seg dksX7_most_0 24 rfl rfl
theorem dksX7_most_2 : cX7_most.data.toList.drop 47 = dktX7_most_2 := dk_seg dksX7_most_1 23 rfl rfl
theorem dX7_most_0 : decode cX7_most 0 = .ok (.aload_n 0, 1) := dk_42 (dk_at dksX7_most_0 0 rfl rfl)
theorem dX7_most_1 : decode cX7_most 1 = .ok (.iconst 0, 1) := dk_3 (dk_at dksX7_most_0 1 rfl rfl)
theorem dX7_most_2 : decode cX7_most 2 = .ok (.putfield 116, 3) := dk_181 0 116 (dk_at dksX7_most_0 2 rfl rfl)
theorem dX7_most_5 : decode cX7_most 5 = .ok (.aload_n 0, 1) := dk_42 (dk_at dksX7_most_0 5 rfl rfl)
theorem dX7_most_6 : decode cX7_most 6 = .ok (.iload_n 1, 1) := dk_27 (dk_at dksX7_most_0 6 rfl rfl)
theorem dX7_most_7 : decode cX7_most 7 = .ok (.iload_n 2, 1) := dk_28 (dk_at dksX7_most_0 7 rfl rfl)
theorem dX7_most_8 : decode cX7_most 8 = .ok (.invokevirtual 353, 3) := dk_182 1 97 (dk_at dksX7_most_0 8 rfl rfl)
theorem dX7_most_11 : decode cX7_most 11 = .ok (.ifCond .ne 6, 3) := dk_154 0 6 (dk_at dksX7_most_0 11 rfl rfl)
theorem dX7_most_14 : decode cX7_most 14 = .ok (.bipush (-2), 2) := dk_16 254 (dk_at dksX7_most_0 14 rfl rfl)
theorem dX7_most_16 : decode cX7_most 16 = .ok (.ireturn, 1) := dk_172 (dk_at dksX7_most_0 16 rfl rfl)
theorem dX7_most_17 : decode cX7_most 17 = .ok (.aload_n 0, 1) := dk_42 (dk_at dksX7_most_0 17 rfl rfl)
theorem dX7_most_18 : decode cX7_most 18 = .ok (.invokevirtual 336, 3) := dk_182 1 80 (dk_at dksX7_most_0 18 rfl rfl)
theorem dX7_most_21 : decode cX7_most 21 = .ok (.iconst 1, 1) := dk_4 (dk_at dksX7_most_0 21 rfl rfl)
theorem dX7_most_22 : decode cX7_most 22 = .ok (.istore_n 3, 1) := dk_62 (dk_at dksX7_most_0 22 rfl rfl)
theorem dX7_most_23 : decode cX7_most 23 = .ok (.iload_n 3, 1) := dk_29 (dk_at dksX7_most_0 23 rfl rfl)
theorem dX7_most_24 : decode cX7_most 24 = .ok (.bipush 99, 2) := dk_16 99 (dk_at dksX7_most_1 0 rfl rfl)
theorem dX7_most_26 : decode cX7_most 26 = .ok (.if_icmp .gt 39, 3) := dk_163 0 39 (dk_at dksX7_most_1 2 rfl rfl)
theorem dX7_most_29 : decode cX7_most 29 = .ok (.aload_n 0, 1) := dk_42 (dk_at dksX7_most_1 5 rfl rfl)
theorem dX7_most_30 : decode cX7_most 30 = .ok (.getfield 77, 3) := dk_180 0 77 (dk_at dksX7_most_1 6 rfl rfl)
theorem dX7_most_33 : decode cX7_most 33 = .ok (.iload_n 1, 1) := dk_27 (dk_at dksX7_most_1 9 rfl rfl)
theorem dX7_most_34 : decode cX7_most 34 = .ok (.iaload, 1) := dk_46 (dk_at dksX7_most_1 10 rfl rfl)
theorem dX7_most_35 : decode cX7_most 35 = .ok (.iload_n 2, 1) := dk_28 (dk_at dksX7_most_1 11 rfl rfl)
theorem dX7_most_36 : decode cX7_most 36 = .ok (.if_icmp .le 29, 3) := dk_164 0 29 (dk_at dksX7_most_1 12 rfl rfl)
theorem dX7_most_39 : decode cX7_most 39 = .ok (.aload_n 0, 1) := dk_42 (dk_at dksX7_most_1 15 rfl rfl)
theorem dX7_most_40 : decode cX7_most 40 = .ok (.iload_n 1, 1) := dk_27 (dk_at dksX7_most_1 16 rfl rfl)
theorem dX7_most_41 : decode cX7_most 41 = .ok (.iload_n 2, 1) := dk_28 (dk_at dksX7_most_1 17 rfl rfl)
theorem dX7_most_42 : decode cX7_most 42 = .ok (.iload_n 3, 1) := dk_29 (dk_at dksX7_most_1 18 rfl rfl)
theorem dX7_most_43 : decode cX7_most 43 = .ok (.invokevirtual 359, 3) := dk_182 1 103 (dk_at dksX7_most_1 19 rfl rfl)
theorem dX7_most_46 : decode cX7_most 46 = .ok (.aload_n 0, 1) := dk_42 (dk_at dksX7_most_1 22 rfl rfl)
theorem dX7_most_47 : decode cX7_most 47 = .ok (.getfield 37, 3) := dk_180 0 37 (dk_at dksX7_most_2 0 rfl rfl)
theorem dX7_most_50 : decode cX7_most 50 = .ok (.iconst 2, 1) := dk_5 (dk_at dksX7_most_2 3 rfl rfl)
theorem dX7_most_51 : decode cX7_most 51 = .ok (.iload_n 1, 1) := dk_27 (dk_at dksX7_most_2 4 rfl rfl)
theorem dX7_most_52 : decode cX7_most 52 = .ok (.imul, 1) := dk_104 (dk_at dksX7_most_2 5 rfl rfl)
theorem dX7_most_53 : decode cX7_most 53 = .ok (.iaload, 1) := dk_46 (dk_at dksX7_most_2 6 rfl rfl)
theorem dX7_most_54 : decode cX7_most 54 = .ok (.if_icmp .le 5, 3) := dk_164 0 5 (dk_at dksX7_most_2 7 rfl rfl)
theorem dX7_most_57 : decode cX7_most 57 = .ok (.iload_n 3, 1) := dk_29 (dk_at dksX7_most_2 10 rfl rfl)
theorem dX7_most_58 : decode cX7_most 58 = .ok (.ireturn, 1) := dk_172 (dk_at dksX7_most_2 11 rfl rfl)
theorem dX7_most_59 : decode cX7_most 59 = .ok (.iinc 3 1, 3) := dk_132 3 1 (dk_at dksX7_most_2 12 rfl rfl)
theorem dX7_most_62 : decode cX7_most 62 = .ok (.goto (-39), 3) := dk_167 255 217 (dk_at dksX7_most_2 15 rfl rfl)
theorem dX7_most_65 : decode cX7_most 65 = .ok (.iconst (-1), 1) := dk_2 (dk_at dksX7_most_2 18 rfl rfl)
theorem dX7_most_66 : decode cX7_most 66 = .ok (.ireturn, 1) := dk_172 (dk_at dksX7_most_2 19 rfl rfl)
abbrev cX7_least : ByteArray := prog_12_method_93_code
def yX7_least : MethodName := ⟨RX7, "least", "()I"⟩
def dkwX7_least_0 : List UInt8 := [42, 3, 181, 0, 116, 42, 182, 1, 94, 154, 0, 6, 16, 254, 172, 42, 182, 1, 121, 42, 180, 1, 106, 172]
abbrev dktX7_least_0 : List UInt8 := dkwX7_least_0 ++ []
theorem dksX7_least_0 : cX7_least.data.toList.drop 0 = dktX7_least_0 := by decide +kernel
theorem dX7_least_0 : decode cX7_least 0 = .ok (.aload_n 0, 1) := dk_42 (dk_at dksX7_least_0 0 rfl rfl)
theorem dX7_least_1 : decode cX7_least 1 = .ok (.iconst 0, 1) := dk_3 (dk_at dksX7_least_0 1 rfl rfl)
theorem dX7_least_2 : decode cX7_least 2 = .ok (.putfield 116, 3) := dk_181 0 116 (dk_at dksX7_least_0 2 rfl rfl)
theorem dX7_least_5 : decode cX7_least 5 = .ok (.aload_n 0, 1) := dk_42 (dk_at dksX7_least_0 5 rfl rfl)
theorem dX7_least_6 : decode cX7_least 6 = .ok (.invokevirtual 350, 3) := dk_182 1 94 (dk_at dksX7_least_0 6 rfl rfl)
theorem dX7_least_9 : decode cX7_least 9 = .ok (.ifCond .ne 6, 3) := dk_154 0 6 (dk_at dksX7_least_0 9 rfl rfl)
theorem dX7_least_12 : decode cX7_least 12 = .ok (.bipush (-2), 2) := dk_16 254 (dk_at dksX7_least_0 12 rfl rfl)
theorem dX7_least_14 : decode cX7_least 14 = .ok (.ireturn, 1) := dk_172 (dk_at dksX7_least_0 14 rfl rfl)
theorem dX7_least_15 : decode cX7_least 15 = .ok (.aload_n 0, 1) := dk_42 (dk_at dksX7_least_0 15 rfl rfl)
theorem dX7_least_16 : decode cX7_least 16 = .ok (.invokevirtual 377, 3) := dk_182 1 121 (dk_at dksX7_least_0 16 rfl rfl)
theorem dX7_least_19 : decode cX7_least 19 = .ok (.aload_n 0, 1) := dk_42 (dk_at dksX7_least_0 19 rfl rfl)
theorem dX7_least_20 : decode cX7_least 20 = .ok (.getfield 362, 3) := dk_180 1 106 (dk_at dksX7_least_0 20 rfl rfl)
theorem dX7_least_23 : decode cX7_least 23 = .ok (.ireturn, 1) := dk_172 (dk_at dksX7_least_0 23 rfl rfl)
abbrev cX7_laysOrders : ByteArray := prog_12_method_92_code
def yX7_laysOrders : MethodName := ⟨RX7, "laysOrders", "()V"⟩
def dkwX7_laysOrders_0 : List UInt8 := [42, 182, 1, 74, 42, 18, 166, 181, 1, 106, 42, 3, 181, 1, 115, 42, 3, 3, 182, 1, 118, 177]
abbrev dktX7_laysOrders_0 : List UInt8 := dkwX7_laysOrders_0 ++ []
theorem dksX7_laysOrders_0 : cX7_laysOrders.data.toList.drop 0 = dktX7_laysOrders_0 := by decide +kernel
theorem dX7_laysOrders_0 : decode cX7_laysOrders 0 = .ok (.aload_n 0, 1) := dk_42 (dk_at dksX7_laysOrders_0 0 rfl rfl)
theorem dX7_laysOrders_1 : decode cX7_laysOrders 1 = .ok (.invokevirtual 330, 3) := dk_182 1 74 (dk_at dksX7_laysOrders_0 1 rfl rfl)
theorem dX7_laysOrders_4 : decode cX7_laysOrders 4 = .ok (.aload_n 0, 1) := dk_42 (dk_at dksX7_laysOrders_0 4 rfl rfl)
theorem dX7_laysOrders_5 : decode cX7_laysOrders 5 = .ok (.ldc 166, 2) := dk_18 166 (dk_at dksX7_laysOrders_0 5 rfl rfl)
theorem dX7_laysOrders_7 : decode cX7_laysOrders 7 = .ok (.putfield 362, 3) := dk_181 1 106 (dk_at dksX7_laysOrders_0 7 rfl rfl)
theorem dX7_laysOrders_10 : decode cX7_laysOrders 10 = .ok (.aload_n 0, 1) := dk_42 (dk_at dksX7_laysOrders_0 10 rfl rfl)
theorem dX7_laysOrders_11 : decode cX7_laysOrders 11 = .ok (.iconst 0, 1) := dk_3 (dk_at dksX7_laysOrders_0 11 rfl rfl)
theorem dX7_laysOrders_12 : decode cX7_laysOrders 12 = .ok (.putfield 371, 3) := dk_181 1 115 (dk_at dksX7_laysOrders_0 12 rfl rfl)
theorem dX7_laysOrders_15 : decode cX7_laysOrders 15 = .ok (.aload_n 0, 1) := dk_42 (dk_at dksX7_laysOrders_0 15 rfl rfl)
theorem dX7_laysOrders_16 : decode cX7_laysOrders 16 = .ok (.iconst 0, 1) := dk_3 (dk_at dksX7_laysOrders_0 16 rfl rfl)
theorem dX7_laysOrders_17 : decode cX7_laysOrders 17 = .ok (.iconst 0, 1) := dk_3 (dk_at dksX7_laysOrders_0 17 rfl rfl)
theorem dX7_laysOrders_18 : decode cX7_laysOrders 18 = .ok (.invokevirtual 374, 3) := dk_182 1 118 (dk_at dksX7_laysOrders_0 18 rfl rfl)
theorem dX7_laysOrders_21 : decode cX7_laysOrders 21 = .ok (.return_, 1) := dk_177 (dk_at dksX7_laysOrders_0 21 rfl rfl)
abbrev cX7_ordersFrom : ByteArray := prog_12_method_91_code
def yX7_ordersFrom : MethodName := ⟨RX7, "ordersFrom", "(II)V"⟩
def dkwX7_ordersFrom_6 : List UInt8 := [79, 42, 27, 4, 96, 28, 4, 29, 120, 128, 182, 1, 118, 132, 3, 1, 167, 255, 215, 177]
abbrev dktX7_ordersFrom_6 : List UInt8 := dkwX7_ordersFrom_6 ++ []
def dkwX7_ordersFrom_5 : List UInt8 := [42, 182, 1, 30, 162, 0, 39, 28, 29, 184, 1, 51, 153, 0, 6, 167, 0, 22, 42, 180, 0, 62, 27, 29]
abbrev dktX7_ordersFrom_5 : List UInt8 := dkwX7_ordersFrom_5 ++ dktX7_ordersFrom_6
def dkwX7_ordersFrom_4 : List UInt8 := [180, 1, 115, 164, 0, 10, 42, 182, 1, 112, 167, 0, 7, 42, 180, 1, 115, 181, 1, 115, 177, 3, 62, 29]
abbrev dktX7_ordersFrom_4 : List UInt8 := dkwX7_ordersFrom_4 ++ dktX7_ordersFrom_5
def dkwX7_ordersFrom_3 : List UInt8 := [29, 42, 180, 1, 106, 160, 0, 7, 4, 167, 0, 4, 3, 96, 181, 1, 109, 42, 42, 182, 1, 112, 42]
abbrev dktX7_ordersFrom_3 : List UInt8 := dkwX7_ordersFrom_3 ++ dktX7_ordersFrom_4
def dkwX7_ordersFrom_2 : List UInt8 := [180, 0, 104, 21, 4, 42, 180, 0, 62, 21, 4, 46, 79, 132, 4, 1, 167, 255, 233, 42, 89, 180, 1, 109]
abbrev dktX7_ordersFrom_2 : List UInt8 := dkwX7_ordersFrom_2 ++ dktX7_ordersFrom_3
def dkwX7_ordersFrom_1 : List UInt8 := [162, 0, 42, 42, 29, 181, 1, 106, 42, 3, 181, 1, 109, 3, 54, 4, 21, 4, 27, 162, 0, 23, 42]
abbrev dktX7_ordersFrom_1 : List UInt8 := dkwX7_ordersFrom_1 ++ dktX7_ordersFrom_2
def dkwX7_ordersFrom_0 : List UInt8 := [27, 42, 182, 1, 30, 160, 0, 108, 42, 182, 1, 77, 42, 182, 1, 83, 62, 29, 42, 180, 1, 106]
abbrev dktX7_ordersFrom_0 : List UInt8 := dkwX7_ordersFrom_0 ++ dktX7_ordersFrom_1
theorem dksX7_ordersFrom_0 : cX7_ordersFrom.data.toList.drop 0 = dktX7_ordersFrom_0 := by decide +kernel
theorem dksX7_ordersFrom_1 : cX7_ordersFrom.data.toList.drop 22 = dktX7_ordersFrom_1 := dk_seg dksX7_ordersFrom_0 22 rfl rfl
theorem dksX7_ordersFrom_2 : cX7_ordersFrom.data.toList.drop 45 = dktX7_ordersFrom_2 := dk_seg dksX7_ordersFrom_1 23 rfl rfl
theorem dksX7_ordersFrom_3 : cX7_ordersFrom.data.toList.drop 69 = dktX7_ordersFrom_3 := dk_seg dksX7_ordersFrom_2 24 rfl rfl
theorem dksX7_ordersFrom_4 : cX7_ordersFrom.data.toList.drop 92 = dktX7_ordersFrom_4 := dk_seg dksX7_ordersFrom_3 23 rfl rfl
theorem dksX7_ordersFrom_5 : cX7_ordersFrom.data.toList.drop 116 = dktX7_ordersFrom_5 := dk_seg dksX7_ordersFrom_4 24 rfl rfl
theorem dksX7_ordersFrom_6 : cX7_ordersFrom.data.toList.drop 140 = dktX7_ordersFrom_6 := dk_seg dksX7_ordersFrom_5 24 rfl rfl
theorem dX7_ordersFrom_0 : decode cX7_ordersFrom 0 = .ok (.iload_n 1, 1) := dk_27 (dk_at dksX7_ordersFrom_0 0 rfl rfl)
theorem dX7_ordersFrom_1 : decode cX7_ordersFrom 1 = .ok (.aload_n 0, 1) := dk_42 (dk_at dksX7_ordersFrom_0 1 rfl rfl)
theorem dX7_ordersFrom_2 : decode cX7_ordersFrom 2 = .ok (.invokevirtual 286, 3) := dk_182 1 30 (dk_at dksX7_ordersFrom_0 2 rfl rfl)
theorem dX7_ordersFrom_5 : decode cX7_ordersFrom 5 = .ok (.if_icmp .ne 108, 3) := dk_160 0 108 (dk_at dksX7_ordersFrom_0 5 rfl rfl)
theorem dX7_ordersFrom_8 : decode cX7_ordersFrom 8 = .ok (.aload_n 0, 1) := dk_42 (dk_at dksX7_ordersFrom_0 8 rfl rfl)
theorem dX7_ordersFrom_9 : decode cX7_ordersFrom 9 = .ok (.invokevirtual 333, 3) := dk_182 1 77 (dk_at dksX7_ordersFrom_0 9 rfl rfl)
theorem dX7_ordersFrom_12 : decode cX7_ordersFrom 12 = .ok (.aload_n 0, 1) := dk_42 (dk_at dksX7_ordersFrom_0 12 rfl rfl)
theorem dX7_ordersFrom_13 : decode cX7_ordersFrom 13 = .ok (.invokevirtual 339, 3) := dk_182 1 83 (dk_at dksX7_ordersFrom_0 13 rfl rfl)
theorem dX7_ordersFrom_16 : decode cX7_ordersFrom 16 = .ok (.istore_n 3, 1) := dk_62 (dk_at dksX7_ordersFrom_0 16 rfl rfl)
theorem dX7_ordersFrom_17 : decode cX7_ordersFrom 17 = .ok (.iload_n 3, 1) := dk_29 (dk_at dksX7_ordersFrom_0 17 rfl rfl)
theorem dX7_ordersFrom_18 : decode cX7_ordersFrom 18 = .ok (.aload_n 0, 1) := dk_42 (dk_at dksX7_ordersFrom_0 18 rfl rfl)
theorem dX7_ordersFrom_19 : decode cX7_ordersFrom 19 = .ok (.getfield 362, 3) := dk_180 1 106 (dk_at dksX7_ordersFrom_0 19 rfl rfl)
theorem dX7_ordersFrom_22 : decode cX7_ordersFrom 22 = .ok (.if_icmp .ge 42, 3) := dk_162 0 42 (dk_at dksX7_ordersFrom_1 0 rfl rfl)
theorem dX7_ordersFrom_25 : decode cX7_ordersFrom 25 = .ok (.aload_n 0, 1) := dk_42 (dk_at dksX7_ordersFrom_1 3 rfl rfl)
theorem dX7_ordersFrom_26 : decode cX7_ordersFrom 26 = .ok (.iload_n 3, 1) := dk_29 (dk_at dksX7_ordersFrom_1 4 rfl rfl)
theorem dX7_ordersFrom_27 : decode cX7_ordersFrom 27 = .ok (.putfield 362, 3) := dk_181 1 106 (dk_at dksX7_ordersFrom_1 5 rfl rfl)
theorem dX7_ordersFrom_30 : decode cX7_ordersFrom 30 = .ok (.aload_n 0, 1) := dk_42 (dk_at dksX7_ordersFrom_1 8 rfl rfl)
theorem dX7_ordersFrom_31 : decode cX7_ordersFrom 31 = .ok (.iconst 0, 1) := dk_3 (dk_at dksX7_ordersFrom_1 9 rfl rfl)
theorem dX7_ordersFrom_32 : decode cX7_ordersFrom 32 = .ok (.putfield 365, 3) := dk_181 1 109 (dk_at dksX7_ordersFrom_1 10 rfl rfl)
theorem dX7_ordersFrom_35 : decode cX7_ordersFrom 35 = .ok (.iconst 0, 1) := dk_3 (dk_at dksX7_ordersFrom_1 13 rfl rfl)
theorem dX7_ordersFrom_36 : decode cX7_ordersFrom 36 = .ok (.istore 4, 2) := dk_54 4 (dk_at dksX7_ordersFrom_1 14 rfl rfl)
theorem dX7_ordersFrom_38 : decode cX7_ordersFrom 38 = .ok (.iload 4, 2) := dk_21 4 (dk_at dksX7_ordersFrom_1 16 rfl rfl)
theorem dX7_ordersFrom_40 : decode cX7_ordersFrom 40 = .ok (.iload_n 1, 1) := dk_27 (dk_at dksX7_ordersFrom_1 18 rfl rfl)
theorem dX7_ordersFrom_41 : decode cX7_ordersFrom 41 = .ok (.if_icmp .ge 23, 3) := dk_162 0 23 (dk_at dksX7_ordersFrom_1 19 rfl rfl)
theorem dX7_ordersFrom_44 : decode cX7_ordersFrom 44 = .ok (.aload_n 0, 1) := dk_42 (dk_at dksX7_ordersFrom_1 22 rfl rfl)
theorem dX7_ordersFrom_45 : decode cX7_ordersFrom 45 = .ok (.getfield 104, 3) := dk_180 0 104 (dk_at dksX7_ordersFrom_2 0 rfl rfl)
theorem dX7_ordersFrom_48 : decode cX7_ordersFrom 48 = .ok (.iload 4, 2) := dk_21 4 (dk_at dksX7_ordersFrom_2 3 rfl rfl)
theorem dX7_ordersFrom_50 : decode cX7_ordersFrom 50 = .ok (.aload_n 0, 1) := dk_42 (dk_at dksX7_ordersFrom_2 5 rfl rfl)
theorem dX7_ordersFrom_51 : decode cX7_ordersFrom 51 = .ok (.getfield 62, 3) := dk_180 0 62 (dk_at dksX7_ordersFrom_2 6 rfl rfl)
theorem dX7_ordersFrom_54 : decode cX7_ordersFrom 54 = .ok (.iload 4, 2) := dk_21 4 (dk_at dksX7_ordersFrom_2 9 rfl rfl)
theorem dX7_ordersFrom_56 : decode cX7_ordersFrom 56 = .ok (.iaload, 1) := dk_46 (dk_at dksX7_ordersFrom_2 11 rfl rfl)
theorem dX7_ordersFrom_57 : decode cX7_ordersFrom 57 = .ok (.iastore, 1) := dk_79 (dk_at dksX7_ordersFrom_2 12 rfl rfl)
theorem dX7_ordersFrom_58 : decode cX7_ordersFrom 58 = .ok (.iinc 4 1, 3) := dk_132 4 1 (dk_at dksX7_ordersFrom_2 13 rfl rfl)
theorem dX7_ordersFrom_61 : decode cX7_ordersFrom 61 = .ok (.goto (-23), 3) := dk_167 255 233 (dk_at dksX7_ordersFrom_2 16 rfl rfl)
theorem dX7_ordersFrom_64 : decode cX7_ordersFrom 64 = .ok (.aload_n 0, 1) := dk_42 (dk_at dksX7_ordersFrom_2 19 rfl rfl)
theorem dX7_ordersFrom_65 : decode cX7_ordersFrom 65 = .ok (.dup, 1) := dk_89 (dk_at dksX7_ordersFrom_2 20 rfl rfl)
theorem dX7_ordersFrom_66 : decode cX7_ordersFrom 66 = .ok (.getfield 365, 3) := dk_180 1 109 (dk_at dksX7_ordersFrom_2 21 rfl rfl)
theorem dX7_ordersFrom_69 : decode cX7_ordersFrom 69 = .ok (.iload_n 3, 1) := dk_29 (dk_at dksX7_ordersFrom_3 0 rfl rfl)
theorem dX7_ordersFrom_70 : decode cX7_ordersFrom 70 = .ok (.aload_n 0, 1) := dk_42 (dk_at dksX7_ordersFrom_3 1 rfl rfl)
theorem dX7_ordersFrom_71 : decode cX7_ordersFrom 71 = .ok (.getfield 362, 3) := dk_180 1 106 (dk_at dksX7_ordersFrom_3 2 rfl rfl)
theorem dX7_ordersFrom_74 : decode cX7_ordersFrom 74 = .ok (.if_icmp .ne 7, 3) := dk_160 0 7 (dk_at dksX7_ordersFrom_3 5 rfl rfl)
theorem dX7_ordersFrom_77 : decode cX7_ordersFrom 77 = .ok (.iconst 1, 1) := dk_4 (dk_at dksX7_ordersFrom_3 8 rfl rfl)
theorem dX7_ordersFrom_78 : decode cX7_ordersFrom 78 = .ok (.goto 4, 3) := dk_167 0 4 (dk_at dksX7_ordersFrom_3 9 rfl rfl)
theorem dX7_ordersFrom_81 : decode cX7_ordersFrom 81 = .ok (.iconst 0, 1) := dk_3 (dk_at dksX7_ordersFrom_3 12 rfl rfl)
theorem dX7_ordersFrom_82 : decode cX7_ordersFrom 82 = .ok (.iadd, 1) := dk_96 (dk_at dksX7_ordersFrom_3 13 rfl rfl)
theorem dX7_ordersFrom_83 : decode cX7_ordersFrom 83 = .ok (.putfield 365, 3) := dk_181 1 109 (dk_at dksX7_ordersFrom_3 14 rfl rfl)
theorem dX7_ordersFrom_86 : decode cX7_ordersFrom 86 = .ok (.aload_n 0, 1) := dk_42 (dk_at dksX7_ordersFrom_3 17 rfl rfl)
theorem dX7_ordersFrom_87 : decode cX7_ordersFrom 87 = .ok (.aload_n 0, 1) := dk_42 (dk_at dksX7_ordersFrom_3 18 rfl rfl)
theorem dX7_ordersFrom_88 : decode cX7_ordersFrom 88 = .ok (.invokevirtual 368, 3) := dk_182 1 112 (dk_at dksX7_ordersFrom_3 19 rfl rfl)
theorem dX7_ordersFrom_91 : decode cX7_ordersFrom 91 = .ok (.aload_n 0, 1) := dk_42 (dk_at dksX7_ordersFrom_3 22 rfl rfl)
theorem dX7_ordersFrom_92 : decode cX7_ordersFrom 92 = .ok (.getfield 371, 3) := dk_180 1 115 (dk_at dksX7_ordersFrom_4 0 rfl rfl)
theorem dX7_ordersFrom_95 : decode cX7_ordersFrom 95 = .ok (.if_icmp .le 10, 3) := dk_164 0 10 (dk_at dksX7_ordersFrom_4 3 rfl rfl)
theorem dX7_ordersFrom_98 : decode cX7_ordersFrom 98 = .ok (.aload_n 0, 1) := dk_42 (dk_at dksX7_ordersFrom_4 6 rfl rfl)
theorem dX7_ordersFrom_99 : decode cX7_ordersFrom 99 = .ok (.invokevirtual 368, 3) := dk_182 1 112 (dk_at dksX7_ordersFrom_4 7 rfl rfl)
theorem dX7_ordersFrom_102 : decode cX7_ordersFrom 102 = .ok (.goto 7, 3) := dk_167 0 7 (dk_at dksX7_ordersFrom_4 10 rfl rfl)
theorem dX7_ordersFrom_105 : decode cX7_ordersFrom 105 = .ok (.aload_n 0, 1) := dk_42 (dk_at dksX7_ordersFrom_4 13 rfl rfl)
theorem dX7_ordersFrom_106 : decode cX7_ordersFrom 106 = .ok (.getfield 371, 3) := dk_180 1 115 (dk_at dksX7_ordersFrom_4 14 rfl rfl)
theorem dX7_ordersFrom_109 : decode cX7_ordersFrom 109 = .ok (.putfield 371, 3) := dk_181 1 115 (dk_at dksX7_ordersFrom_4 17 rfl rfl)
theorem dX7_ordersFrom_112 : decode cX7_ordersFrom 112 = .ok (.return_, 1) := dk_177 (dk_at dksX7_ordersFrom_4 20 rfl rfl)
theorem dX7_ordersFrom_113 : decode cX7_ordersFrom 113 = .ok (.iconst 0, 1) := dk_3 (dk_at dksX7_ordersFrom_4 21 rfl rfl)
theorem dX7_ordersFrom_114 : decode cX7_ordersFrom 114 = .ok (.istore_n 3, 1) := dk_62 (dk_at dksX7_ordersFrom_4 22 rfl rfl)
theorem dX7_ordersFrom_115 : decode cX7_ordersFrom 115 = .ok (.iload_n 3, 1) := dk_29 (dk_at dksX7_ordersFrom_4 23 rfl rfl)
theorem dX7_ordersFrom_116 : decode cX7_ordersFrom 116 = .ok (.aload_n 0, 1) := dk_42 (dk_at dksX7_ordersFrom_5 0 rfl rfl)
theorem dX7_ordersFrom_117 : decode cX7_ordersFrom 117 = .ok (.invokevirtual 286, 3) := dk_182 1 30 (dk_at dksX7_ordersFrom_5 1 rfl rfl)
theorem dX7_ordersFrom_120 : decode cX7_ordersFrom 120 = .ok (.if_icmp .ge 39, 3) := dk_162 0 39 (dk_at dksX7_ordersFrom_5 4 rfl rfl)
theorem dX7_ordersFrom_123 : decode cX7_ordersFrom 123 = .ok (.iload_n 2, 1) := dk_28 (dk_at dksX7_ordersFrom_5 7 rfl rfl)
theorem dX7_ordersFrom_124 : decode cX7_ordersFrom 124 = .ok (.iload_n 3, 1) := dk_29 (dk_at dksX7_ordersFrom_5 8 rfl rfl)
theorem dX7_ordersFrom_125 : decode cX7_ordersFrom 125 = .ok (.invokestatic 307, 3) := dk_184 1 51 (dk_at dksX7_ordersFrom_5 9 rfl rfl)
theorem dX7_ordersFrom_128 : decode cX7_ordersFrom 128 = .ok (.ifCond .eq 6, 3) := dk_153 0 6 (dk_at dksX7_ordersFrom_5 12 rfl rfl)
theorem dX7_ordersFrom_131 : decode cX7_ordersFrom 131 = .ok (.goto 22, 3) := dk_167 0 22 (dk_at dksX7_ordersFrom_5 15 rfl rfl)
theorem dX7_ordersFrom_134 : decode cX7_ordersFrom 134 = .ok (.aload_n 0, 1) := dk_42 (dk_at dksX7_ordersFrom_5 18 rfl rfl)
theorem dX7_ordersFrom_135 : decode cX7_ordersFrom 135 = .ok (.getfield 62, 3) := dk_180 0 62 (dk_at dksX7_ordersFrom_5 19 rfl rfl)
theorem dX7_ordersFrom_138 : decode cX7_ordersFrom 138 = .ok (.iload_n 1, 1) := dk_27 (dk_at dksX7_ordersFrom_5 22 rfl rfl)
theorem dX7_ordersFrom_139 : decode cX7_ordersFrom 139 = .ok (.iload_n 3, 1) := dk_29 (dk_at dksX7_ordersFrom_5 23 rfl rfl)
theorem dX7_ordersFrom_140 : decode cX7_ordersFrom 140 = .ok (.iastore, 1) := dk_79 (dk_at dksX7_ordersFrom_6 0 rfl rfl)
theorem dX7_ordersFrom_141 : decode cX7_ordersFrom 141 = .ok (.aload_n 0, 1) := dk_42 (dk_at dksX7_ordersFrom_6 1 rfl rfl)
theorem dX7_ordersFrom_142 : decode cX7_ordersFrom 142 = .ok (.iload_n 1, 1) := dk_27 (dk_at dksX7_ordersFrom_6 2 rfl rfl)
theorem dX7_ordersFrom_143 : decode cX7_ordersFrom 143 = .ok (.iconst 1, 1) := dk_4 (dk_at dksX7_ordersFrom_6 3 rfl rfl)
theorem dX7_ordersFrom_144 : decode cX7_ordersFrom 144 = .ok (.iadd, 1) := dk_96 (dk_at dksX7_ordersFrom_6 4 rfl rfl)
theorem dX7_ordersFrom_145 : decode cX7_ordersFrom 145 = .ok (.iload_n 2, 1) := dk_28 (dk_at dksX7_ordersFrom_6 5 rfl rfl)
theorem dX7_ordersFrom_146 : decode cX7_ordersFrom 146 = .ok (.iconst 1, 1) := dk_4 (dk_at dksX7_ordersFrom_6 6 rfl rfl)
theorem dX7_ordersFrom_147 : decode cX7_ordersFrom 147 = .ok (.iload_n 3, 1) := dk_29 (dk_at dksX7_ordersFrom_6 7 rfl rfl)
theorem dX7_ordersFrom_148 : decode cX7_ordersFrom 148 = .ok (.ishl, 1) := dk_120 (dk_at dksX7_ordersFrom_6 8 rfl rfl)
theorem dX7_ordersFrom_149 : decode cX7_ordersFrom 149 = .ok (.ior, 1) := dk_128 (dk_at dksX7_ordersFrom_6 9 rfl rfl)
theorem dX7_ordersFrom_150 : decode cX7_ordersFrom 150 = .ok (.invokevirtual 374, 3) := dk_182 1 118 (dk_at dksX7_ordersFrom_6 10 rfl rfl)
theorem dX7_ordersFrom_153 : decode cX7_ordersFrom 153 = .ok (.iinc 3 1, 3) := dk_132 3 1 (dk_at dksX7_ordersFrom_6 13 rfl rfl)
theorem dX7_ordersFrom_156 : decode cX7_ordersFrom 156 = .ok (.goto (-41), 3) := dk_167 255 215 (dk_at dksX7_ordersFrom_6 16 rfl rfl)
theorem dX7_ordersFrom_159 : decode cX7_ordersFrom 159 = .ok (.return_, 1) := dk_177 (dk_at dksX7_ordersFrom_6 19 rfl rfl)
abbrev cX7_sagAll : ByteArray := prog_12_method_58_code
def yX7_sagAll : MethodName := ⟨RX7, "sagAll", "()I"⟩
def dkwX7_sagAll_1 : List UInt8 := [167, 255, 237, 27, 172]
abbrev dktX7_sagAll_1 : List UInt8 := dkwX7_sagAll_1 ++ []
def dkwX7_sagAll_0 : List UInt8 := [3, 60, 3, 61, 28, 42, 182, 1, 27, 162, 0, 17, 27, 42, 28, 182, 1, 61, 96, 60, 132, 2, 1]
abbrev dktX7_sagAll_0 : List UInt8 := dkwX7_sagAll_0 ++ dktX7_sagAll_1
theorem dksX7_sagAll_0 : cX7_sagAll.data.toList.drop 0 = dktX7_sagAll_0 := by decide +kernel
theorem dksX7_sagAll_1 : cX7_sagAll.data.toList.drop 23 = dktX7_sagAll_1 := dk_seg dksX7_sagAll_0 23 rfl rfl
theorem dX7_sagAll_0 : decode cX7_sagAll 0 = .ok (.iconst 0, 1) := dk_3 (dk_at dksX7_sagAll_0 0 rfl rfl)
theorem dX7_sagAll_1 : decode cX7_sagAll 1 = .ok (.istore_n 1, 1) := dk_60 (dk_at dksX7_sagAll_0 1 rfl rfl)
theorem dX7_sagAll_2 : decode cX7_sagAll 2 = .ok (.iconst 0, 1) := dk_3 (dk_at dksX7_sagAll_0 2 rfl rfl)
theorem dX7_sagAll_3 : decode cX7_sagAll 3 = .ok (.istore_n 2, 1) := dk_61 (dk_at dksX7_sagAll_0 3 rfl rfl)
theorem dX7_sagAll_4 : decode cX7_sagAll 4 = .ok (.iload_n 2, 1) := dk_28 (dk_at dksX7_sagAll_0 4 rfl rfl)
theorem dX7_sagAll_5 : decode cX7_sagAll 5 = .ok (.aload_n 0, 1) := dk_42 (dk_at dksX7_sagAll_0 5 rfl rfl)
theorem dX7_sagAll_6 : decode cX7_sagAll 6 = .ok (.invokevirtual 283, 3) := dk_182 1 27 (dk_at dksX7_sagAll_0 6 rfl rfl)
theorem dX7_sagAll_9 : decode cX7_sagAll 9 = .ok (.if_icmp .ge 17, 3) := dk_162 0 17 (dk_at dksX7_sagAll_0 9 rfl rfl)
theorem dX7_sagAll_12 : decode cX7_sagAll 12 = .ok (.iload_n 1, 1) := dk_27 (dk_at dksX7_sagAll_0 12 rfl rfl)
theorem dX7_sagAll_13 : decode cX7_sagAll 13 = .ok (.aload_n 0, 1) := dk_42 (dk_at dksX7_sagAll_0 13 rfl rfl)
theorem dX7_sagAll_14 : decode cX7_sagAll 14 = .ok (.iload_n 2, 1) := dk_28 (dk_at dksX7_sagAll_0 14 rfl rfl)
theorem dX7_sagAll_15 : decode cX7_sagAll 15 = .ok (.invokevirtual 317, 3) := dk_182 1 61 (dk_at dksX7_sagAll_0 15 rfl rfl)
theorem dX7_sagAll_18 : decode cX7_sagAll 18 = .ok (.iadd, 1) := dk_96 (dk_at dksX7_sagAll_0 18 rfl rfl)
theorem dX7_sagAll_19 : decode cX7_sagAll 19 = .ok (.istore_n 1, 1) := dk_60 (dk_at dksX7_sagAll_0 19 rfl rfl)
theorem dX7_sagAll_20 : decode cX7_sagAll 20 = .ok (.iinc 2 1, 3) := dk_132 2 1 (dk_at dksX7_sagAll_0 20 rfl rfl)
theorem dX7_sagAll_23 : decode cX7_sagAll 23 = .ok (.goto (-19), 3) := dk_167 255 237 (dk_at dksX7_sagAll_1 0 rfl rfl)
theorem dX7_sagAll_26 : decode cX7_sagAll 26 = .ok (.iload_n 1, 1) := dk_27 (dk_at dksX7_sagAll_1 3 rfl rfl)
theorem dX7_sagAll_27 : decode cX7_sagAll 27 = .ok (.ireturn, 1) := dk_172 (dk_at dksX7_sagAll_1 4 rfl rfl)
abbrev cX7_overAll : ByteArray := prog_12_method_60_code
def yX7_overAll : MethodName := ⟨RX7, "overAll", "()I"⟩
def dkwX7_overAll_1 : List UInt8 := [167, 0, 4, 4, 96, 60, 132, 2, 1, 167, 255, 227, 27, 172]
abbrev dktX7_overAll_1 : List UInt8 := dkwX7_overAll_1 ++ []
def dkwX7_overAll_0 : List UInt8 := [3, 60, 3, 61, 28, 42, 182, 1, 30, 162, 0, 27, 27, 42, 180, 0, 80, 28, 46, 2, 160, 0, 7, 3]
abbrev dktX7_overAll_0 : List UInt8 := dkwX7_overAll_0 ++ dktX7_overAll_1
theorem dksX7_overAll_0 : cX7_overAll.data.toList.drop 0 = dktX7_overAll_0 := by decide +kernel
theorem dksX7_overAll_1 : cX7_overAll.data.toList.drop 24 = dktX7_overAll_1 := dk_seg dksX7_overAll_0 24 rfl rfl
theorem dX7_overAll_0 : decode cX7_overAll 0 = .ok (.iconst 0, 1) := dk_3 (dk_at dksX7_overAll_0 0 rfl rfl)
theorem dX7_overAll_1 : decode cX7_overAll 1 = .ok (.istore_n 1, 1) := dk_60 (dk_at dksX7_overAll_0 1 rfl rfl)
theorem dX7_overAll_2 : decode cX7_overAll 2 = .ok (.iconst 0, 1) := dk_3 (dk_at dksX7_overAll_0 2 rfl rfl)
theorem dX7_overAll_3 : decode cX7_overAll 3 = .ok (.istore_n 2, 1) := dk_61 (dk_at dksX7_overAll_0 3 rfl rfl)
theorem dX7_overAll_4 : decode cX7_overAll 4 = .ok (.iload_n 2, 1) := dk_28 (dk_at dksX7_overAll_0 4 rfl rfl)
theorem dX7_overAll_5 : decode cX7_overAll 5 = .ok (.aload_n 0, 1) := dk_42 (dk_at dksX7_overAll_0 5 rfl rfl)
theorem dX7_overAll_6 : decode cX7_overAll 6 = .ok (.invokevirtual 286, 3) := dk_182 1 30 (dk_at dksX7_overAll_0 6 rfl rfl)
theorem dX7_overAll_9 : decode cX7_overAll 9 = .ok (.if_icmp .ge 27, 3) := dk_162 0 27 (dk_at dksX7_overAll_0 9 rfl rfl)
theorem dX7_overAll_12 : decode cX7_overAll 12 = .ok (.iload_n 1, 1) := dk_27 (dk_at dksX7_overAll_0 12 rfl rfl)
theorem dX7_overAll_13 : decode cX7_overAll 13 = .ok (.aload_n 0, 1) := dk_42 (dk_at dksX7_overAll_0 13 rfl rfl)
theorem dX7_overAll_14 : decode cX7_overAll 14 = .ok (.getfield 80, 3) := dk_180 0 80 (dk_at dksX7_overAll_0 14 rfl rfl)
theorem dX7_overAll_17 : decode cX7_overAll 17 = .ok (.iload_n 2, 1) := dk_28 (dk_at dksX7_overAll_0 17 rfl rfl)
theorem dX7_overAll_18 : decode cX7_overAll 18 = .ok (.iaload, 1) := dk_46 (dk_at dksX7_overAll_0 18 rfl rfl)
theorem dX7_overAll_19 : decode cX7_overAll 19 = .ok (.iconst (-1), 1) := dk_2 (dk_at dksX7_overAll_0 19 rfl rfl)
theorem dX7_overAll_20 : decode cX7_overAll 20 = .ok (.if_icmp .ne 7, 3) := dk_160 0 7 (dk_at dksX7_overAll_0 20 rfl rfl)
theorem dX7_overAll_23 : decode cX7_overAll 23 = .ok (.iconst 0, 1) := dk_3 (dk_at dksX7_overAll_0 23 rfl rfl)
theorem dX7_overAll_24 : decode cX7_overAll 24 = .ok (.goto 4, 3) := dk_167 0 4 (dk_at dksX7_overAll_1 0 rfl rfl)
theorem dX7_overAll_27 : decode cX7_overAll 27 = .ok (.iconst 1, 1) := dk_4 (dk_at dksX7_overAll_1 3 rfl rfl)
theorem dX7_overAll_28 : decode cX7_overAll 28 = .ok (.iadd, 1) := dk_96 (dk_at dksX7_overAll_1 4 rfl rfl)
theorem dX7_overAll_29 : decode cX7_overAll 29 = .ok (.istore_n 1, 1) := dk_60 (dk_at dksX7_overAll_1 5 rfl rfl)
theorem dX7_overAll_30 : decode cX7_overAll 30 = .ok (.iinc 2 1, 3) := dk_132 2 1 (dk_at dksX7_overAll_1 6 rfl rfl)
theorem dX7_overAll_33 : decode cX7_overAll 33 = .ok (.goto (-29), 3) := dk_167 255 227 (dk_at dksX7_overAll_1 9 rfl rfl)
theorem dX7_overAll_36 : decode cX7_overAll 36 = .ok (.iload_n 1, 1) := dk_27 (dk_at dksX7_overAll_1 12 rfl rfl)
theorem dX7_overAll_37 : decode cX7_overAll 37 = .ok (.ireturn, 1) := dk_172 (dk_at dksX7_overAll_1 13 rfl rfl)
abbrev cX7_order : ByteArray := prog_12_method_94_code
def yX7_order : MethodName := ⟨RX7, "order", "(I)I"⟩
def dkwX7_order_1 : List UInt8 := [180, 0, 104, 27, 46, 172]
abbrev dktX7_order_1 : List UInt8 := dkwX7_order_1 ++ []
def dkwX7_order_0 : List UInt8 := [42, 3, 181, 0, 116, 42, 27, 133, 182, 1, 33, 154, 0, 6, 16, 254, 172, 42, 182, 1, 121, 42]
abbrev dktX7_order_0 : List UInt8 := dkwX7_order_0 ++ dktX7_order_1
theorem dksX7_order_0 : cX7_order.data.toList.drop 0 = dktX7_order_0 := by decide +kernel
theorem dksX7_order_1 : cX7_order.data.toList.drop 22 = dktX7_order_1 := dk_seg dksX7_order_0 22 rfl rfl
theorem dX7_order_0 : decode cX7_order 0 = .ok (.aload_n 0, 1) := dk_42 (dk_at dksX7_order_0 0 rfl rfl)
theorem dX7_order_1 : decode cX7_order 1 = .ok (.iconst 0, 1) := dk_3 (dk_at dksX7_order_0 1 rfl rfl)
theorem dX7_order_2 : decode cX7_order 2 = .ok (.putfield 116, 3) := dk_181 0 116 (dk_at dksX7_order_0 2 rfl rfl)
theorem dX7_order_5 : decode cX7_order 5 = .ok (.aload_n 0, 1) := dk_42 (dk_at dksX7_order_0 5 rfl rfl)
theorem dX7_order_6 : decode cX7_order 6 = .ok (.iload_n 1, 1) := dk_27 (dk_at dksX7_order_0 6 rfl rfl)
theorem dX7_order_7 : decode cX7_order 7 = .ok (.i2l, 1) := dk_133 (dk_at dksX7_order_0 7 rfl rfl)
theorem dX7_order_8 : decode cX7_order 8 = .ok (.invokevirtual 289, 3) := dk_182 1 33 (dk_at dksX7_order_0 8 rfl rfl)
theorem dX7_order_11 : decode cX7_order 11 = .ok (.ifCond .ne 6, 3) := dk_154 0 6 (dk_at dksX7_order_0 11 rfl rfl)
theorem dX7_order_14 : decode cX7_order 14 = .ok (.bipush (-2), 2) := dk_16 254 (dk_at dksX7_order_0 14 rfl rfl)
theorem dX7_order_16 : decode cX7_order 16 = .ok (.ireturn, 1) := dk_172 (dk_at dksX7_order_0 16 rfl rfl)
theorem dX7_order_17 : decode cX7_order 17 = .ok (.aload_n 0, 1) := dk_42 (dk_at dksX7_order_0 17 rfl rfl)
theorem dX7_order_18 : decode cX7_order 18 = .ok (.invokevirtual 377, 3) := dk_182 1 121 (dk_at dksX7_order_0 18 rfl rfl)
theorem dX7_order_21 : decode cX7_order 21 = .ok (.aload_n 0, 1) := dk_42 (dk_at dksX7_order_0 21 rfl rfl)
theorem dX7_order_22 : decode cX7_order 22 = .ok (.getfield 104, 3) := dk_180 0 104 (dk_at dksX7_order_1 0 rfl rfl)
theorem dX7_order_25 : decode cX7_order 25 = .ok (.iload_n 1, 1) := dk_27 (dk_at dksX7_order_1 3 rfl rfl)
theorem dX7_order_26 : decode cX7_order 26 = .ok (.iaload, 1) := dk_46 (dk_at dksX7_order_1 4 rfl rfl)
theorem dX7_order_27 : decode cX7_order 27 = .ok (.ireturn, 1) := dk_172 (dk_at dksX7_order_1 5 rfl rfl)
abbrev cX7_orders : ByteArray := prog_12_method_95_code
def yX7_orders : MethodName := ⟨RX7, "orders", "()I"⟩
def dkwX7_orders_0 : List UInt8 := [42, 3, 181, 0, 116, 42, 182, 1, 94, 154, 0, 6, 16, 254, 172, 42, 182, 1, 121, 42, 180, 1, 109, 172]
abbrev dktX7_orders_0 : List UInt8 := dkwX7_orders_0 ++ []
theorem dksX7_orders_0 : cX7_orders.data.toList.drop 0 = dktX7_orders_0 := by decide +kernel
theorem dX7_orders_0 : decode cX7_orders 0 = .ok (.aload_n 0, 1) := dk_42 (dk_at dksX7_orders_0 0 rfl rfl)
theorem dX7_orders_1 : decode cX7_orders 1 = .ok (.iconst 0, 1) := dk_3 (dk_at dksX7_orders_0 1 rfl rfl)
theorem dX7_orders_2 : decode cX7_orders 2 = .ok (.putfield 116, 3) := dk_181 0 116 (dk_at dksX7_orders_0 2 rfl rfl)
theorem dX7_orders_5 : decode cX7_orders 5 = .ok (.aload_n 0, 1) := dk_42 (dk_at dksX7_orders_0 5 rfl rfl)
theorem dX7_orders_6 : decode cX7_orders 6 = .ok (.invokevirtual 350, 3) := dk_182 1 94 (dk_at dksX7_orders_0 6 rfl rfl)
theorem dX7_orders_9 : decode cX7_orders 9 = .ok (.ifCond .ne 6, 3) := dk_154 0 6 (dk_at dksX7_orders_0 9 rfl rfl)
theorem dX7_orders_12 : decode cX7_orders 12 = .ok (.bipush (-2), 2) := dk_16 254 (dk_at dksX7_orders_0 12 rfl rfl)
theorem dX7_orders_14 : decode cX7_orders 14 = .ok (.ireturn, 1) := dk_172 (dk_at dksX7_orders_0 14 rfl rfl)
theorem dX7_orders_15 : decode cX7_orders 15 = .ok (.aload_n 0, 1) := dk_42 (dk_at dksX7_orders_0 15 rfl rfl)
theorem dX7_orders_16 : decode cX7_orders 16 = .ok (.invokevirtual 377, 3) := dk_182 1 121 (dk_at dksX7_orders_0 16 rfl rfl)
theorem dX7_orders_19 : decode cX7_orders 19 = .ok (.aload_n 0, 1) := dk_42 (dk_at dksX7_orders_0 19 rfl rfl)
theorem dX7_orders_20 : decode cX7_orders 20 = .ok (.getfield 365, 3) := dk_180 1 109 (dk_at dksX7_orders_0 20 rfl rfl)
theorem dX7_orders_23 : decode cX7_orders 23 = .ok (.ireturn, 1) := dk_172 (dk_at dksX7_orders_0 23 rfl rfl)
abbrev cX7_across : ByteArray := prog_12_method_96_code
def yX7_across : MethodName := ⟨RX7, "across", "()I"⟩
def dkwX7_across_0 : List UInt8 := [42, 3, 181, 0, 116, 42, 182, 1, 94, 154, 0, 6, 16, 254, 172, 42, 182, 1, 121, 42, 180, 1, 115, 172]
abbrev dktX7_across_0 : List UInt8 := dkwX7_across_0 ++ []
theorem dksX7_across_0 : cX7_across.data.toList.drop 0 = dktX7_across_0 := by decide +kernel
theorem dX7_across_0 : decode cX7_across 0 = .ok (.aload_n 0, 1) := dk_42 (dk_at dksX7_across_0 0 rfl rfl)
theorem dX7_across_1 : decode cX7_across 1 = .ok (.iconst 0, 1) := dk_3 (dk_at dksX7_across_0 1 rfl rfl)
theorem dX7_across_2 : decode cX7_across 2 = .ok (.putfield 116, 3) := dk_181 0 116 (dk_at dksX7_across_0 2 rfl rfl)
theorem dX7_across_5 : decode cX7_across 5 = .ok (.aload_n 0, 1) := dk_42 (dk_at dksX7_across_0 5 rfl rfl)
theorem dX7_across_6 : decode cX7_across 6 = .ok (.invokevirtual 350, 3) := dk_182 1 94 (dk_at dksX7_across_0 6 rfl rfl)
theorem dX7_across_9 : decode cX7_across 9 = .ok (.ifCond .ne 6, 3) := dk_154 0 6 (dk_at dksX7_across_0 9 rfl rfl)
theorem dX7_across_12 : decode cX7_across 12 = .ok (.bipush (-2), 2) := dk_16 254 (dk_at dksX7_across_0 12 rfl rfl)
theorem dX7_across_14 : decode cX7_across 14 = .ok (.ireturn, 1) := dk_172 (dk_at dksX7_across_0 14 rfl rfl)
theorem dX7_across_15 : decode cX7_across 15 = .ok (.aload_n 0, 1) := dk_42 (dk_at dksX7_across_0 15 rfl rfl)
theorem dX7_across_16 : decode cX7_across 16 = .ok (.invokevirtual 377, 3) := dk_182 1 121 (dk_at dksX7_across_0 16 rfl rfl)
theorem dX7_across_19 : decode cX7_across 19 = .ok (.aload_n 0, 1) := dk_42 (dk_at dksX7_across_0 19 rfl rfl)
theorem dX7_across_20 : decode cX7_across 20 = .ok (.getfield 371, 3) := dk_180 1 115 (dk_at dksX7_across_0 20 rfl rfl)
theorem dX7_across_23 : decode cX7_across 23 = .ok (.ireturn, 1) := dk_172 (dk_at dksX7_across_0 23 rfl rfl)
abbrev cX7_routes : ByteArray := prog_12_method_99_code
def yX7_routes : MethodName := ⟨RX7, "routes", "()I"⟩
def dkwX7_routes_0 : List UInt8 := [42, 3, 181, 0, 116, 42, 182, 1, 94, 154, 0, 6, 16, 254, 172, 42, 182, 1, 127, 42, 180, 1, 106, 172]
abbrev dktX7_routes_0 : List UInt8 := dkwX7_routes_0 ++ []
theorem dksX7_routes_0 : cX7_routes.data.toList.drop 0 = dktX7_routes_0 := by decide +kernel
theorem dX7_routes_0 : decode cX7_routes 0 = .ok (.aload_n 0, 1) := dk_42 (dk_at dksX7_routes_0 0 rfl rfl)
theorem dX7_routes_1 : decode cX7_routes 1 = .ok (.iconst 0, 1) := dk_3 (dk_at dksX7_routes_0 1 rfl rfl)
theorem dX7_routes_2 : decode cX7_routes 2 = .ok (.putfield 116, 3) := dk_181 0 116 (dk_at dksX7_routes_0 2 rfl rfl)
theorem dX7_routes_5 : decode cX7_routes 5 = .ok (.aload_n 0, 1) := dk_42 (dk_at dksX7_routes_0 5 rfl rfl)
theorem dX7_routes_6 : decode cX7_routes 6 = .ok (.invokevirtual 350, 3) := dk_182 1 94 (dk_at dksX7_routes_0 6 rfl rfl)
theorem dX7_routes_9 : decode cX7_routes 9 = .ok (.ifCond .ne 6, 3) := dk_154 0 6 (dk_at dksX7_routes_0 9 rfl rfl)
theorem dX7_routes_12 : decode cX7_routes 12 = .ok (.bipush (-2), 2) := dk_16 254 (dk_at dksX7_routes_0 12 rfl rfl)
theorem dX7_routes_14 : decode cX7_routes 14 = .ok (.ireturn, 1) := dk_172 (dk_at dksX7_routes_0 14 rfl rfl)
theorem dX7_routes_15 : decode cX7_routes 15 = .ok (.aload_n 0, 1) := dk_42 (dk_at dksX7_routes_0 15 rfl rfl)
theorem dX7_routes_16 : decode cX7_routes 16 = .ok (.invokevirtual 383, 3) := dk_182 1 127 (dk_at dksX7_routes_0 16 rfl rfl)
theorem dX7_routes_19 : decode cX7_routes 19 = .ok (.aload_n 0, 1) := dk_42 (dk_at dksX7_routes_0 19 rfl rfl)
theorem dX7_routes_20 : decode cX7_routes 20 = .ok (.getfield 362, 3) := dk_180 1 106 (dk_at dksX7_routes_0 20 rfl rfl)
theorem dX7_routes_23 : decode cX7_routes 23 = .ok (.ireturn, 1) := dk_172 (dk_at dksX7_routes_0 23 rfl rfl)
abbrev cX7_laysRoutes : ByteArray := prog_12_method_98_code
def yX7_laysRoutes : MethodName := ⟨RX7, "laysRoutes", "()V"⟩
def dkwX7_laysRoutes_0 : List UInt8 := [42, 182, 1, 74, 42, 18, 166, 181, 1, 106, 42, 3, 181, 1, 115, 42, 3, 182, 1, 124, 177]
abbrev dktX7_laysRoutes_0 : List UInt8 := dkwX7_laysRoutes_0 ++ []
theorem dksX7_laysRoutes_0 : cX7_laysRoutes.data.toList.drop 0 = dktX7_laysRoutes_0 := by decide +kernel
theorem dX7_laysRoutes_0 : decode cX7_laysRoutes 0 = .ok (.aload_n 0, 1) := dk_42 (dk_at dksX7_laysRoutes_0 0 rfl rfl)
theorem dX7_laysRoutes_1 : decode cX7_laysRoutes 1 = .ok (.invokevirtual 330, 3) := dk_182 1 74 (dk_at dksX7_laysRoutes_0 1 rfl rfl)
theorem dX7_laysRoutes_4 : decode cX7_laysRoutes 4 = .ok (.aload_n 0, 1) := dk_42 (dk_at dksX7_laysRoutes_0 4 rfl rfl)
theorem dX7_laysRoutes_5 : decode cX7_laysRoutes 5 = .ok (.ldc 166, 2) := dk_18 166 (dk_at dksX7_laysRoutes_0 5 rfl rfl)
theorem dX7_laysRoutes_7 : decode cX7_laysRoutes 7 = .ok (.putfield 362, 3) := dk_181 1 106 (dk_at dksX7_laysRoutes_0 7 rfl rfl)
theorem dX7_laysRoutes_10 : decode cX7_laysRoutes 10 = .ok (.aload_n 0, 1) := dk_42 (dk_at dksX7_laysRoutes_0 10 rfl rfl)
theorem dX7_laysRoutes_11 : decode cX7_laysRoutes 11 = .ok (.iconst 0, 1) := dk_3 (dk_at dksX7_laysRoutes_0 11 rfl rfl)
theorem dX7_laysRoutes_12 : decode cX7_laysRoutes 12 = .ok (.putfield 371, 3) := dk_181 1 115 (dk_at dksX7_laysRoutes_0 12 rfl rfl)
theorem dX7_laysRoutes_15 : decode cX7_laysRoutes 15 = .ok (.aload_n 0, 1) := dk_42 (dk_at dksX7_laysRoutes_0 15 rfl rfl)
theorem dX7_laysRoutes_16 : decode cX7_laysRoutes 16 = .ok (.iconst 0, 1) := dk_3 (dk_at dksX7_laysRoutes_0 16 rfl rfl)
theorem dX7_laysRoutes_17 : decode cX7_laysRoutes 17 = .ok (.invokevirtual 380, 3) := dk_182 1 124 (dk_at dksX7_laysRoutes_0 17 rfl rfl)
theorem dX7_laysRoutes_20 : decode cX7_laysRoutes 20 = .ok (.return_, 1) := dk_177 (dk_at dksX7_laysRoutes_0 20 rfl rfl)
abbrev cX7_routesFrom : ByteArray := prog_12_method_97_code
def yX7_routesFrom : MethodName := ⟨RX7, "routesFrom", "(I)V"⟩
def dkwX7_routesFrom_4 : List UInt8 := [180, 0, 59, 27, 28, 79, 42, 27, 4, 96, 182, 1, 124, 132, 2, 1, 167, 255, 231, 177]
abbrev dktX7_routesFrom_4 : List UInt8 := dkwX7_routesFrom_4 ++ []
def dkwX7_routesFrom_3 : List UInt8 := [167, 0, 7, 42, 180, 1, 115, 181, 1, 115, 177, 3, 61, 28, 42, 182, 1, 27, 162, 0, 23, 42]
abbrev dktX7_routesFrom_3 : List UInt8 := dkwX7_routesFrom_3 ++ dktX7_routesFrom_4
def dkwX7_routesFrom_2 : List UInt8 := [46, 79, 132, 2, 1, 167, 255, 236, 42, 42, 182, 1, 112, 42, 180, 1, 115, 164, 0, 10, 42, 182, 1, 112]
abbrev dktX7_routesFrom_2 : List UInt8 := dkwX7_routesFrom_2 ++ dktX7_routesFrom_3
def dkwX7_routesFrom_1 : List UInt8 := [42, 182, 1, 83, 181, 1, 106, 3, 61, 28, 27, 162, 0, 21, 42, 180, 0, 104, 28, 42, 180, 0, 59, 28]
abbrev dktX7_routesFrom_1 : List UInt8 := dkwX7_routesFrom_1 ++ dktX7_routesFrom_2
def dkwX7_routesFrom_0 : List UInt8 := [27, 42, 182, 1, 30, 160, 0, 78, 42, 182, 1, 77, 42, 182, 1, 83, 42, 180, 1, 106, 162, 0, 36, 42]
abbrev dktX7_routesFrom_0 : List UInt8 := dkwX7_routesFrom_0 ++ dktX7_routesFrom_1
theorem dksX7_routesFrom_0 : cX7_routesFrom.data.toList.drop 0 = dktX7_routesFrom_0 := by decide +kernel
theorem dksX7_routesFrom_1 : cX7_routesFrom.data.toList.drop 24 = dktX7_routesFrom_1 := dk_seg dksX7_routesFrom_0 24 rfl rfl
theorem dksX7_routesFrom_2 : cX7_routesFrom.data.toList.drop 48 = dktX7_routesFrom_2 := dk_seg dksX7_routesFrom_1 24 rfl rfl
theorem dksX7_routesFrom_3 : cX7_routesFrom.data.toList.drop 72 = dktX7_routesFrom_3 := dk_seg dksX7_routesFrom_2 24 rfl rfl
theorem dksX7_routesFrom_4 : cX7_routesFrom.data.toList.drop 94 = dktX7_routesFrom_4 := dk_seg dksX7_routesFrom_3 22 rfl rfl
theorem dX7_routesFrom_0 : decode cX7_routesFrom 0 = .ok (.iload_n 1, 1) := dk_27 (dk_at dksX7_routesFrom_0 0 rfl rfl)
theorem dX7_routesFrom_1 : decode cX7_routesFrom 1 = .ok (.aload_n 0, 1) := dk_42 (dk_at dksX7_routesFrom_0 1 rfl rfl)
theorem dX7_routesFrom_2 : decode cX7_routesFrom 2 = .ok (.invokevirtual 286, 3) := dk_182 1 30 (dk_at dksX7_routesFrom_0 2 rfl rfl)
theorem dX7_routesFrom_5 : decode cX7_routesFrom 5 = .ok (.if_icmp .ne 78, 3) := dk_160 0 78 (dk_at dksX7_routesFrom_0 5 rfl rfl)
theorem dX7_routesFrom_8 : decode cX7_routesFrom 8 = .ok (.aload_n 0, 1) := dk_42 (dk_at dksX7_routesFrom_0 8 rfl rfl)
theorem dX7_routesFrom_9 : decode cX7_routesFrom 9 = .ok (.invokevirtual 333, 3) := dk_182 1 77 (dk_at dksX7_routesFrom_0 9 rfl rfl)
theorem dX7_routesFrom_12 : decode cX7_routesFrom 12 = .ok (.aload_n 0, 1) := dk_42 (dk_at dksX7_routesFrom_0 12 rfl rfl)
theorem dX7_routesFrom_13 : decode cX7_routesFrom 13 = .ok (.invokevirtual 339, 3) := dk_182 1 83 (dk_at dksX7_routesFrom_0 13 rfl rfl)
theorem dX7_routesFrom_16 : decode cX7_routesFrom 16 = .ok (.aload_n 0, 1) := dk_42 (dk_at dksX7_routesFrom_0 16 rfl rfl)
theorem dX7_routesFrom_17 : decode cX7_routesFrom 17 = .ok (.getfield 362, 3) := dk_180 1 106 (dk_at dksX7_routesFrom_0 17 rfl rfl)
theorem dX7_routesFrom_20 : decode cX7_routesFrom 20 = .ok (.if_icmp .ge 36, 3) := dk_162 0 36 (dk_at dksX7_routesFrom_0 20 rfl rfl)
theorem dX7_routesFrom_23 : decode cX7_routesFrom 23 = .ok (.aload_n 0, 1) := dk_42 (dk_at dksX7_routesFrom_0 23 rfl rfl)
theorem dX7_routesFrom_24 : decode cX7_routesFrom 24 = .ok (.aload_n 0, 1) := dk_42 (dk_at dksX7_routesFrom_1 0 rfl rfl)
theorem dX7_routesFrom_25 : decode cX7_routesFrom 25 = .ok (.invokevirtual 339, 3) := dk_182 1 83 (dk_at dksX7_routesFrom_1 1 rfl rfl)
theorem dX7_routesFrom_28 : decode cX7_routesFrom 28 = .ok (.putfield 362, 3) := dk_181 1 106 (dk_at dksX7_routesFrom_1 4 rfl rfl)
theorem dX7_routesFrom_31 : decode cX7_routesFrom 31 = .ok (.iconst 0, 1) := dk_3 (dk_at dksX7_routesFrom_1 7 rfl rfl)
theorem dX7_routesFrom_32 : decode cX7_routesFrom 32 = .ok (.istore_n 2, 1) := dk_61 (dk_at dksX7_routesFrom_1 8 rfl rfl)
theorem dX7_routesFrom_33 : decode cX7_routesFrom 33 = .ok (.iload_n 2, 1) := dk_28 (dk_at dksX7_routesFrom_1 9 rfl rfl)
theorem dX7_routesFrom_34 : decode cX7_routesFrom 34 = .ok (.iload_n 1, 1) := dk_27 (dk_at dksX7_routesFrom_1 10 rfl rfl)
theorem dX7_routesFrom_35 : decode cX7_routesFrom 35 = .ok (.if_icmp .ge 21, 3) := dk_162 0 21 (dk_at dksX7_routesFrom_1 11 rfl rfl)
theorem dX7_routesFrom_38 : decode cX7_routesFrom 38 = .ok (.aload_n 0, 1) := dk_42 (dk_at dksX7_routesFrom_1 14 rfl rfl)
theorem dX7_routesFrom_39 : decode cX7_routesFrom 39 = .ok (.getfield 104, 3) := dk_180 0 104 (dk_at dksX7_routesFrom_1 15 rfl rfl)
theorem dX7_routesFrom_42 : decode cX7_routesFrom 42 = .ok (.iload_n 2, 1) := dk_28 (dk_at dksX7_routesFrom_1 18 rfl rfl)
theorem dX7_routesFrom_43 : decode cX7_routesFrom 43 = .ok (.aload_n 0, 1) := dk_42 (dk_at dksX7_routesFrom_1 19 rfl rfl)
theorem dX7_routesFrom_44 : decode cX7_routesFrom 44 = .ok (.getfield 59, 3) := dk_180 0 59 (dk_at dksX7_routesFrom_1 20 rfl rfl)
theorem dX7_routesFrom_47 : decode cX7_routesFrom 47 = .ok (.iload_n 2, 1) := dk_28 (dk_at dksX7_routesFrom_1 23 rfl rfl)
theorem dX7_routesFrom_48 : decode cX7_routesFrom 48 = .ok (.iaload, 1) := dk_46 (dk_at dksX7_routesFrom_2 0 rfl rfl)
theorem dX7_routesFrom_49 : decode cX7_routesFrom 49 = .ok (.iastore, 1) := dk_79 (dk_at dksX7_routesFrom_2 1 rfl rfl)
theorem dX7_routesFrom_50 : decode cX7_routesFrom 50 = .ok (.iinc 2 1, 3) := dk_132 2 1 (dk_at dksX7_routesFrom_2 2 rfl rfl)
theorem dX7_routesFrom_53 : decode cX7_routesFrom 53 = .ok (.goto (-20), 3) := dk_167 255 236 (dk_at dksX7_routesFrom_2 5 rfl rfl)
theorem dX7_routesFrom_56 : decode cX7_routesFrom 56 = .ok (.aload_n 0, 1) := dk_42 (dk_at dksX7_routesFrom_2 8 rfl rfl)
theorem dX7_routesFrom_57 : decode cX7_routesFrom 57 = .ok (.aload_n 0, 1) := dk_42 (dk_at dksX7_routesFrom_2 9 rfl rfl)
theorem dX7_routesFrom_58 : decode cX7_routesFrom 58 = .ok (.invokevirtual 368, 3) := dk_182 1 112 (dk_at dksX7_routesFrom_2 10 rfl rfl)
theorem dX7_routesFrom_61 : decode cX7_routesFrom 61 = .ok (.aload_n 0, 1) := dk_42 (dk_at dksX7_routesFrom_2 13 rfl rfl)
theorem dX7_routesFrom_62 : decode cX7_routesFrom 62 = .ok (.getfield 371, 3) := dk_180 1 115 (dk_at dksX7_routesFrom_2 14 rfl rfl)
theorem dX7_routesFrom_65 : decode cX7_routesFrom 65 = .ok (.if_icmp .le 10, 3) := dk_164 0 10 (dk_at dksX7_routesFrom_2 17 rfl rfl)
theorem dX7_routesFrom_68 : decode cX7_routesFrom 68 = .ok (.aload_n 0, 1) := dk_42 (dk_at dksX7_routesFrom_2 20 rfl rfl)
theorem dX7_routesFrom_69 : decode cX7_routesFrom 69 = .ok (.invokevirtual 368, 3) := dk_182 1 112 (dk_at dksX7_routesFrom_2 21 rfl rfl)
theorem dX7_routesFrom_72 : decode cX7_routesFrom 72 = .ok (.goto 7, 3) := dk_167 0 7 (dk_at dksX7_routesFrom_3 0 rfl rfl)
theorem dX7_routesFrom_75 : decode cX7_routesFrom 75 = .ok (.aload_n 0, 1) := dk_42 (dk_at dksX7_routesFrom_3 3 rfl rfl)
theorem dX7_routesFrom_76 : decode cX7_routesFrom 76 = .ok (.getfield 371, 3) := dk_180 1 115 (dk_at dksX7_routesFrom_3 4 rfl rfl)
theorem dX7_routesFrom_79 : decode cX7_routesFrom 79 = .ok (.putfield 371, 3) := dk_181 1 115 (dk_at dksX7_routesFrom_3 7 rfl rfl)
theorem dX7_routesFrom_82 : decode cX7_routesFrom 82 = .ok (.return_, 1) := dk_177 (dk_at dksX7_routesFrom_3 10 rfl rfl)
theorem dX7_routesFrom_83 : decode cX7_routesFrom 83 = .ok (.iconst 0, 1) := dk_3 (dk_at dksX7_routesFrom_3 11 rfl rfl)
theorem dX7_routesFrom_84 : decode cX7_routesFrom 84 = .ok (.istore_n 2, 1) := dk_61 (dk_at dksX7_routesFrom_3 12 rfl rfl)
theorem dX7_routesFrom_85 : decode cX7_routesFrom 85 = .ok (.iload_n 2, 1) := dk_28 (dk_at dksX7_routesFrom_3 13 rfl rfl)
theorem dX7_routesFrom_86 : decode cX7_routesFrom 86 = .ok (.aload_n 0, 1) := dk_42 (dk_at dksX7_routesFrom_3 14 rfl rfl)
theorem dX7_routesFrom_87 : decode cX7_routesFrom 87 = .ok (.invokevirtual 283, 3) := dk_182 1 27 (dk_at dksX7_routesFrom_3 15 rfl rfl)
theorem dX7_routesFrom_90 : decode cX7_routesFrom 90 = .ok (.if_icmp .ge 23, 3) := dk_162 0 23 (dk_at dksX7_routesFrom_3 18 rfl rfl)
theorem dX7_routesFrom_93 : decode cX7_routesFrom 93 = .ok (.aload_n 0, 1) := dk_42 (dk_at dksX7_routesFrom_3 21 rfl rfl)
theorem dX7_routesFrom_94 : decode cX7_routesFrom 94 = .ok (.getfield 59, 3) := dk_180 0 59 (dk_at dksX7_routesFrom_4 0 rfl rfl)
theorem dX7_routesFrom_97 : decode cX7_routesFrom 97 = .ok (.iload_n 1, 1) := dk_27 (dk_at dksX7_routesFrom_4 3 rfl rfl)
theorem dX7_routesFrom_98 : decode cX7_routesFrom 98 = .ok (.iload_n 2, 1) := dk_28 (dk_at dksX7_routesFrom_4 4 rfl rfl)
theorem dX7_routesFrom_99 : decode cX7_routesFrom 99 = .ok (.iastore, 1) := dk_79 (dk_at dksX7_routesFrom_4 5 rfl rfl)
theorem dX7_routesFrom_100 : decode cX7_routesFrom 100 = .ok (.aload_n 0, 1) := dk_42 (dk_at dksX7_routesFrom_4 6 rfl rfl)
theorem dX7_routesFrom_101 : decode cX7_routesFrom 101 = .ok (.iload_n 1, 1) := dk_27 (dk_at dksX7_routesFrom_4 7 rfl rfl)
theorem dX7_routesFrom_102 : decode cX7_routesFrom 102 = .ok (.iconst 1, 1) := dk_4 (dk_at dksX7_routesFrom_4 8 rfl rfl)
theorem dX7_routesFrom_103 : decode cX7_routesFrom 103 = .ok (.iadd, 1) := dk_96 (dk_at dksX7_routesFrom_4 9 rfl rfl)
theorem dX7_routesFrom_104 : decode cX7_routesFrom 104 = .ok (.invokevirtual 380, 3) := dk_182 1 124 (dk_at dksX7_routesFrom_4 10 rfl rfl)
theorem dX7_routesFrom_107 : decode cX7_routesFrom 107 = .ok (.iinc 2 1, 3) := dk_132 2 1 (dk_at dksX7_routesFrom_4 13 rfl rfl)
theorem dX7_routesFrom_110 : decode cX7_routesFrom 110 = .ok (.goto (-25), 3) := dk_167 255 231 (dk_at dksX7_routesFrom_4 16 rfl rfl)
theorem dX7_routesFrom_113 : decode cX7_routesFrom 113 = .ok (.return_, 1) := dk_177 (dk_at dksX7_routesFrom_4 19 rfl rfl)
abbrev cX7_route : ByteArray := prog_12_method_100_code
def yX7_route : MethodName := ⟨RX7, "route", "(I)I"⟩
def dkwX7_route_1 : List UInt8 := [180, 0, 104, 27, 46, 172]
abbrev dktX7_route_1 : List UInt8 := dkwX7_route_1 ++ []
def dkwX7_route_0 : List UInt8 := [42, 3, 181, 0, 116, 42, 27, 133, 182, 1, 33, 154, 0, 6, 16, 254, 172, 42, 182, 1, 127, 42]
abbrev dktX7_route_0 : List UInt8 := dkwX7_route_0 ++ dktX7_route_1
theorem dksX7_route_0 : cX7_route.data.toList.drop 0 = dktX7_route_0 := by decide +kernel
theorem dksX7_route_1 : cX7_route.data.toList.drop 22 = dktX7_route_1 := dk_seg dksX7_route_0 22 rfl rfl
theorem dX7_route_0 : decode cX7_route 0 = .ok (.aload_n 0, 1) := dk_42 (dk_at dksX7_route_0 0 rfl rfl)
theorem dX7_route_1 : decode cX7_route 1 = .ok (.iconst 0, 1) := dk_3 (dk_at dksX7_route_0 1 rfl rfl)
theorem dX7_route_2 : decode cX7_route 2 = .ok (.putfield 116, 3) := dk_181 0 116 (dk_at dksX7_route_0 2 rfl rfl)
theorem dX7_route_5 : decode cX7_route 5 = .ok (.aload_n 0, 1) := dk_42 (dk_at dksX7_route_0 5 rfl rfl)
theorem dX7_route_6 : decode cX7_route 6 = .ok (.iload_n 1, 1) := dk_27 (dk_at dksX7_route_0 6 rfl rfl)
theorem dX7_route_7 : decode cX7_route 7 = .ok (.i2l, 1) := dk_133 (dk_at dksX7_route_0 7 rfl rfl)
theorem dX7_route_8 : decode cX7_route 8 = .ok (.invokevirtual 289, 3) := dk_182 1 33 (dk_at dksX7_route_0 8 rfl rfl)
theorem dX7_route_11 : decode cX7_route 11 = .ok (.ifCond .ne 6, 3) := dk_154 0 6 (dk_at dksX7_route_0 11 rfl rfl)
theorem dX7_route_14 : decode cX7_route 14 = .ok (.bipush (-2), 2) := dk_16 254 (dk_at dksX7_route_0 14 rfl rfl)
theorem dX7_route_16 : decode cX7_route 16 = .ok (.ireturn, 1) := dk_172 (dk_at dksX7_route_0 16 rfl rfl)
theorem dX7_route_17 : decode cX7_route 17 = .ok (.aload_n 0, 1) := dk_42 (dk_at dksX7_route_0 17 rfl rfl)
theorem dX7_route_18 : decode cX7_route 18 = .ok (.invokevirtual 383, 3) := dk_182 1 127 (dk_at dksX7_route_0 18 rfl rfl)
theorem dX7_route_21 : decode cX7_route 21 = .ok (.aload_n 0, 1) := dk_42 (dk_at dksX7_route_0 21 rfl rfl)
theorem dX7_route_22 : decode cX7_route 22 = .ok (.getfield 104, 3) := dk_180 0 104 (dk_at dksX7_route_1 0 rfl rfl)
theorem dX7_route_25 : decode cX7_route 25 = .ok (.iload_n 1, 1) := dk_27 (dk_at dksX7_route_1 3 rfl rfl)
theorem dX7_route_26 : decode cX7_route 26 = .ok (.iaload, 1) := dk_46 (dk_at dksX7_route_1 4 rfl rfl)
theorem dX7_route_27 : decode cX7_route 27 = .ok (.ireturn, 1) := dk_172 (dk_at dksX7_route_1 5 rfl rfl)
abbrev cX7_safe : ByteArray := prog_12_method_101_code
def yX7_safe : MethodName := ⟨RX7, "safe", "()I"⟩
def dkwX7_safe_0 : List UInt8 := [42, 3, 181, 0, 116, 42, 182, 1, 94, 154, 0, 6, 16, 254, 172, 42, 182, 1, 127, 42, 180, 1, 115, 172]
abbrev dktX7_safe_0 : List UInt8 := dkwX7_safe_0 ++ []
theorem dksX7_safe_0 : cX7_safe.data.toList.drop 0 = dktX7_safe_0 := by decide +kernel
theorem dX7_safe_0 : decode cX7_safe 0 = .ok (.aload_n 0, 1) := dk_42 (dk_at dksX7_safe_0 0 rfl rfl)
theorem dX7_safe_1 : decode cX7_safe 1 = .ok (.iconst 0, 1) := dk_3 (dk_at dksX7_safe_0 1 rfl rfl)
theorem dX7_safe_2 : decode cX7_safe 2 = .ok (.putfield 116, 3) := dk_181 0 116 (dk_at dksX7_safe_0 2 rfl rfl)
theorem dX7_safe_5 : decode cX7_safe 5 = .ok (.aload_n 0, 1) := dk_42 (dk_at dksX7_safe_0 5 rfl rfl)
theorem dX7_safe_6 : decode cX7_safe 6 = .ok (.invokevirtual 350, 3) := dk_182 1 94 (dk_at dksX7_safe_0 6 rfl rfl)
theorem dX7_safe_9 : decode cX7_safe 9 = .ok (.ifCond .ne 6, 3) := dk_154 0 6 (dk_at dksX7_safe_0 9 rfl rfl)
theorem dX7_safe_12 : decode cX7_safe 12 = .ok (.bipush (-2), 2) := dk_16 254 (dk_at dksX7_safe_0 12 rfl rfl)
theorem dX7_safe_14 : decode cX7_safe 14 = .ok (.ireturn, 1) := dk_172 (dk_at dksX7_safe_0 14 rfl rfl)
theorem dX7_safe_15 : decode cX7_safe 15 = .ok (.aload_n 0, 1) := dk_42 (dk_at dksX7_safe_0 15 rfl rfl)
theorem dX7_safe_16 : decode cX7_safe 16 = .ok (.invokevirtual 383, 3) := dk_182 1 127 (dk_at dksX7_safe_0 16 rfl rfl)
theorem dX7_safe_19 : decode cX7_safe 19 = .ok (.aload_n 0, 1) := dk_42 (dk_at dksX7_safe_0 19 rfl rfl)
theorem dX7_safe_20 : decode cX7_safe 20 = .ok (.getfield 371, 3) := dk_180 1 115 (dk_at dksX7_safe_0 20 rfl rfl)
theorem dX7_safe_23 : decode cX7_safe 23 = .ok (.ireturn, 1) := dk_172 (dk_at dksX7_safe_0 23 rfl rfl)
abbrev cX7_spared : ByteArray := prog_12_method_103_code
def yX7_spared : MethodName := ⟨RX7, "spared", "(I)I"⟩
def dkwX7_spared_1 : List UInt8 := [27, 120, 182, 1, 133, 100, 172]
abbrev dktX7_spared_1 : List UInt8 := dkwX7_spared_1 ++ []
def dkwX7_spared_0 : List UInt8 := [42, 3, 181, 0, 116, 42, 27, 133, 182, 1, 33, 154, 0, 7, 17, 252, 24, 172, 42, 182, 1, 130, 42, 4]
abbrev dktX7_spared_0 : List UInt8 := dkwX7_spared_0 ++ dktX7_spared_1
theorem dksX7_spared_0 : cX7_spared.data.toList.drop 0 = dktX7_spared_0 := by decide +kernel
theorem dksX7_spared_1 : cX7_spared.data.toList.drop 24 = dktX7_spared_1 := dk_seg dksX7_spared_0 24 rfl rfl
theorem dX7_spared_0 : decode cX7_spared 0 = .ok (.aload_n 0, 1) := dk_42 (dk_at dksX7_spared_0 0 rfl rfl)
theorem dX7_spared_1 : decode cX7_spared 1 = .ok (.iconst 0, 1) := dk_3 (dk_at dksX7_spared_0 1 rfl rfl)
theorem dX7_spared_2 : decode cX7_spared 2 = .ok (.putfield 116, 3) := dk_181 0 116 (dk_at dksX7_spared_0 2 rfl rfl)
theorem dX7_spared_5 : decode cX7_spared 5 = .ok (.aload_n 0, 1) := dk_42 (dk_at dksX7_spared_0 5 rfl rfl)
theorem dX7_spared_6 : decode cX7_spared 6 = .ok (.iload_n 1, 1) := dk_27 (dk_at dksX7_spared_0 6 rfl rfl)
theorem dX7_spared_7 : decode cX7_spared 7 = .ok (.i2l, 1) := dk_133 (dk_at dksX7_spared_0 7 rfl rfl)
theorem dX7_spared_8 : decode cX7_spared 8 = .ok (.invokevirtual 289, 3) := dk_182 1 33 (dk_at dksX7_spared_0 8 rfl rfl)
theorem dX7_spared_11 : decode cX7_spared 11 = .ok (.ifCond .ne 7, 3) := dk_154 0 7 (dk_at dksX7_spared_0 11 rfl rfl)
theorem dX7_spared_14 : decode cX7_spared 14 = .ok (.sipush (-1000), 3) := dk_17 252 24 (dk_at dksX7_spared_0 14 rfl rfl)
theorem dX7_spared_17 : decode cX7_spared 17 = .ok (.ireturn, 1) := dk_172 (dk_at dksX7_spared_0 17 rfl rfl)
theorem dX7_spared_18 : decode cX7_spared 18 = .ok (.aload_n 0, 1) := dk_42 (dk_at dksX7_spared_0 18 rfl rfl)
theorem dX7_spared_19 : decode cX7_spared 19 = .ok (.invokevirtual 386, 3) := dk_182 1 130 (dk_at dksX7_spared_0 19 rfl rfl)
theorem dX7_spared_22 : decode cX7_spared 22 = .ok (.aload_n 0, 1) := dk_42 (dk_at dksX7_spared_0 22 rfl rfl)
theorem dX7_spared_23 : decode cX7_spared 23 = .ok (.iconst 1, 1) := dk_4 (dk_at dksX7_spared_0 23 rfl rfl)
theorem dX7_spared_24 : decode cX7_spared 24 = .ok (.iload_n 1, 1) := dk_27 (dk_at dksX7_spared_1 0 rfl rfl)
theorem dX7_spared_25 : decode cX7_spared 25 = .ok (.ishl, 1) := dk_120 (dk_at dksX7_spared_1 1 rfl rfl)
theorem dX7_spared_26 : decode cX7_spared 26 = .ok (.invokevirtual 389, 3) := dk_182 1 133 (dk_at dksX7_spared_1 2 rfl rfl)
theorem dX7_spared_29 : decode cX7_spared 29 = .ok (.isub, 1) := dk_100 (dk_at dksX7_spared_1 5 rfl rfl)
theorem dX7_spared_30 : decode cX7_spared 30 = .ok (.ireturn, 1) := dk_172 (dk_at dksX7_spared_1 6 rfl rfl)
abbrev cX7_sagsNow : ByteArray := prog_12_method_59_code
def yX7_sagsNow : MethodName := ⟨RX7, "sagsNow", "()I"⟩
def dkwX7_sagsNow_0 : List UInt8 := [42, 182, 1, 80, 42, 182, 1, 83, 172]
abbrev dktX7_sagsNow_0 : List UInt8 := dkwX7_sagsNow_0 ++ []
theorem dksX7_sagsNow_0 : cX7_sagsNow.data.toList.drop 0 = dktX7_sagsNow_0 := by decide +kernel
theorem dX7_sagsNow_0 : decode cX7_sagsNow 0 = .ok (.aload_n 0, 1) := dk_42 (dk_at dksX7_sagsNow_0 0 rfl rfl)
theorem dX7_sagsNow_1 : decode cX7_sagsNow 1 = .ok (.invokevirtual 336, 3) := dk_182 1 80 (dk_at dksX7_sagsNow_0 1 rfl rfl)
theorem dX7_sagsNow_4 : decode cX7_sagsNow 4 = .ok (.aload_n 0, 1) := dk_42 (dk_at dksX7_sagsNow_0 4 rfl rfl)
theorem dX7_sagsNow_5 : decode cX7_sagsNow 5 = .ok (.invokevirtual 339, 3) := dk_182 1 83 (dk_at dksX7_sagsNow_0 5 rfl rfl)
theorem dX7_sagsNow_8 : decode cX7_sagsNow 8 = .ok (.ireturn, 1) := dk_172 (dk_at dksX7_sagsNow_0 8 rfl rfl)
abbrev cX7_sagWithout : ByteArray := prog_12_method_102_code
def yX7_sagWithout : MethodName := ⟨RX7, "sagWithout", "(I)I"⟩
def dkwX7_sagWithout_0 : List UInt8 := [42, 182, 1, 74, 42, 27, 181, 1, 45, 42, 182, 1, 77, 42, 182, 1, 83, 172]
abbrev dktX7_sagWithout_0 : List UInt8 := dkwX7_sagWithout_0 ++ []
theorem dksX7_sagWithout_0 : cX7_sagWithout.data.toList.drop 0 = dktX7_sagWithout_0 := by decide +kernel
theorem dX7_sagWithout_0 : decode cX7_sagWithout 0 = .ok (.aload_n 0, 1) := dk_42 (dk_at dksX7_sagWithout_0 0 rfl rfl)
theorem dX7_sagWithout_1 : decode cX7_sagWithout 1 = .ok (.invokevirtual 330, 3) := dk_182 1 74 (dk_at dksX7_sagWithout_0 1 rfl rfl)
theorem dX7_sagWithout_4 : decode cX7_sagWithout 4 = .ok (.aload_n 0, 1) := dk_42 (dk_at dksX7_sagWithout_0 4 rfl rfl)
theorem dX7_sagWithout_5 : decode cX7_sagWithout 5 = .ok (.iload_n 1, 1) := dk_27 (dk_at dksX7_sagWithout_0 5 rfl rfl)
theorem dX7_sagWithout_6 : decode cX7_sagWithout 6 = .ok (.putfield 301, 3) := dk_181 1 45 (dk_at dksX7_sagWithout_0 6 rfl rfl)
theorem dX7_sagWithout_9 : decode cX7_sagWithout 9 = .ok (.aload_n 0, 1) := dk_42 (dk_at dksX7_sagWithout_0 9 rfl rfl)
theorem dX7_sagWithout_10 : decode cX7_sagWithout 10 = .ok (.invokevirtual 333, 3) := dk_182 1 77 (dk_at dksX7_sagWithout_0 10 rfl rfl)
theorem dX7_sagWithout_13 : decode cX7_sagWithout 13 = .ok (.aload_n 0, 1) := dk_42 (dk_at dksX7_sagWithout_0 13 rfl rfl)
theorem dX7_sagWithout_14 : decode cX7_sagWithout 14 = .ok (.invokevirtual 339, 3) := dk_182 1 83 (dk_at dksX7_sagWithout_0 14 rfl rfl)
theorem dX7_sagWithout_17 : decode cX7_sagWithout 17 = .ok (.ireturn, 1) := dk_172 (dk_at dksX7_sagWithout_0 17 rfl rfl)
abbrev cX7_worst : ByteArray := prog_12_method_104_code
def yX7_worst : MethodName := ⟨RX7, "worst", "()I"⟩
def dkwX7_worst_2 : List UInt8 := [167, 0, 8, 29, 60, 21, 4, 61, 132, 3, 1, 167, 255, 222, 27, 172]
abbrev dktX7_worst_2 : List UInt8 := dkwX7_worst_2 ++ []
def dkwX7_worst_1 : List UInt8 := [29, 42, 182, 1, 30, 162, 0, 32, 42, 4, 29, 120, 182, 1, 133, 54, 4, 21, 4, 28, 161, 0, 6]
abbrev dktX7_worst_1 : List UInt8 := dkwX7_worst_1 ++ dktX7_worst_2
def dkwX7_worst_0 : List UInt8 := [42, 3, 181, 0, 116, 42, 182, 1, 94, 154, 0, 6, 16, 254, 172, 2, 60, 42, 182, 1, 130, 61, 3, 62]
abbrev dktX7_worst_0 : List UInt8 := dkwX7_worst_0 ++ dktX7_worst_1
theorem dksX7_worst_0 : cX7_worst.data.toList.drop 0 = dktX7_worst_0 := by decide +kernel
theorem dksX7_worst_1 : cX7_worst.data.toList.drop 24 = dktX7_worst_1 := dk_seg dksX7_worst_0 24 rfl rfl
theorem dksX7_worst_2 : cX7_worst.data.toList.drop 47 = dktX7_worst_2 := dk_seg dksX7_worst_1 23 rfl rfl
theorem dX7_worst_0 : decode cX7_worst 0 = .ok (.aload_n 0, 1) := dk_42 (dk_at dksX7_worst_0 0 rfl rfl)
theorem dX7_worst_1 : decode cX7_worst 1 = .ok (.iconst 0, 1) := dk_3 (dk_at dksX7_worst_0 1 rfl rfl)
theorem dX7_worst_2 : decode cX7_worst 2 = .ok (.putfield 116, 3) := dk_181 0 116 (dk_at dksX7_worst_0 2 rfl rfl)
theorem dX7_worst_5 : decode cX7_worst 5 = .ok (.aload_n 0, 1) := dk_42 (dk_at dksX7_worst_0 5 rfl rfl)
theorem dX7_worst_6 : decode cX7_worst 6 = .ok (.invokevirtual 350, 3) := dk_182 1 94 (dk_at dksX7_worst_0 6 rfl rfl)
theorem dX7_worst_9 : decode cX7_worst 9 = .ok (.ifCond .ne 6, 3) := dk_154 0 6 (dk_at dksX7_worst_0 9 rfl rfl)
theorem dX7_worst_12 : decode cX7_worst 12 = .ok (.bipush (-2), 2) := dk_16 254 (dk_at dksX7_worst_0 12 rfl rfl)
theorem dX7_worst_14 : decode cX7_worst 14 = .ok (.ireturn, 1) := dk_172 (dk_at dksX7_worst_0 14 rfl rfl)
theorem dX7_worst_15 : decode cX7_worst 15 = .ok (.iconst (-1), 1) := dk_2 (dk_at dksX7_worst_0 15 rfl rfl)
theorem dX7_worst_16 : decode cX7_worst 16 = .ok (.istore_n 1, 1) := dk_60 (dk_at dksX7_worst_0 16 rfl rfl)
theorem dX7_worst_17 : decode cX7_worst 17 = .ok (.aload_n 0, 1) := dk_42 (dk_at dksX7_worst_0 17 rfl rfl)
theorem dX7_worst_18 : decode cX7_worst 18 = .ok (.invokevirtual 386, 3) := dk_182 1 130 (dk_at dksX7_worst_0 18 rfl rfl)
theorem dX7_worst_21 : decode cX7_worst 21 = .ok (.istore_n 2, 1) := dk_61 (dk_at dksX7_worst_0 21 rfl rfl)
theorem dX7_worst_22 : decode cX7_worst 22 = .ok (.iconst 0, 1) := dk_3 (dk_at dksX7_worst_0 22 rfl rfl)
theorem dX7_worst_23 : decode cX7_worst 23 = .ok (.istore_n 3, 1) := dk_62 (dk_at dksX7_worst_0 23 rfl rfl)
theorem dX7_worst_24 : decode cX7_worst 24 = .ok (.iload_n 3, 1) := dk_29 (dk_at dksX7_worst_1 0 rfl rfl)
theorem dX7_worst_25 : decode cX7_worst 25 = .ok (.aload_n 0, 1) := dk_42 (dk_at dksX7_worst_1 1 rfl rfl)
theorem dX7_worst_26 : decode cX7_worst 26 = .ok (.invokevirtual 286, 3) := dk_182 1 30 (dk_at dksX7_worst_1 2 rfl rfl)
theorem dX7_worst_29 : decode cX7_worst 29 = .ok (.if_icmp .ge 32, 3) := dk_162 0 32 (dk_at dksX7_worst_1 5 rfl rfl)
theorem dX7_worst_32 : decode cX7_worst 32 = .ok (.aload_n 0, 1) := dk_42 (dk_at dksX7_worst_1 8 rfl rfl)
theorem dX7_worst_33 : decode cX7_worst 33 = .ok (.iconst 1, 1) := dk_4 (dk_at dksX7_worst_1 9 rfl rfl)
theorem dX7_worst_34 : decode cX7_worst 34 = .ok (.iload_n 3, 1) := dk_29 (dk_at dksX7_worst_1 10 rfl rfl)
theorem dX7_worst_35 : decode cX7_worst 35 = .ok (.ishl, 1) := dk_120 (dk_at dksX7_worst_1 11 rfl rfl)
theorem dX7_worst_36 : decode cX7_worst 36 = .ok (.invokevirtual 389, 3) := dk_182 1 133 (dk_at dksX7_worst_1 12 rfl rfl)
theorem dX7_worst_39 : decode cX7_worst 39 = .ok (.istore 4, 2) := dk_54 4 (dk_at dksX7_worst_1 15 rfl rfl)
theorem dX7_worst_41 : decode cX7_worst 41 = .ok (.iload 4, 2) := dk_21 4 (dk_at dksX7_worst_1 17 rfl rfl)
theorem dX7_worst_43 : decode cX7_worst 43 = .ok (.iload_n 2, 1) := dk_28 (dk_at dksX7_worst_1 19 rfl rfl)
theorem dX7_worst_44 : decode cX7_worst 44 = .ok (.if_icmp .lt 6, 3) := dk_161 0 6 (dk_at dksX7_worst_1 20 rfl rfl)
theorem dX7_worst_47 : decode cX7_worst 47 = .ok (.goto 8, 3) := dk_167 0 8 (dk_at dksX7_worst_2 0 rfl rfl)
theorem dX7_worst_50 : decode cX7_worst 50 = .ok (.iload_n 3, 1) := dk_29 (dk_at dksX7_worst_2 3 rfl rfl)
theorem dX7_worst_51 : decode cX7_worst 51 = .ok (.istore_n 1, 1) := dk_60 (dk_at dksX7_worst_2 4 rfl rfl)
theorem dX7_worst_52 : decode cX7_worst 52 = .ok (.iload 4, 2) := dk_21 4 (dk_at dksX7_worst_2 5 rfl rfl)
theorem dX7_worst_54 : decode cX7_worst 54 = .ok (.istore_n 2, 1) := dk_61 (dk_at dksX7_worst_2 7 rfl rfl)
theorem dX7_worst_55 : decode cX7_worst 55 = .ok (.iinc 3 1, 3) := dk_132 3 1 (dk_at dksX7_worst_2 8 rfl rfl)
theorem dX7_worst_58 : decode cX7_worst 58 = .ok (.goto (-34), 3) := dk_167 255 222 (dk_at dksX7_worst_2 11 rfl rfl)
theorem dX7_worst_61 : decode cX7_worst 61 = .ok (.iload_n 1, 1) := dk_27 (dk_at dksX7_worst_2 14 rfl rfl)
theorem dX7_worst_62 : decode cX7_worst 62 = .ok (.ireturn, 1) := dk_172 (dk_at dksX7_worst_2 15 rfl rfl)
abbrev cX7_forget : ByteArray := prog_12_method_105_code
def yX7_forget : MethodName := ⟨RX7, "forget", "()I"⟩
def dkwX7_forget_3 : List UInt8 := [132, 3, 1, 167, 255, 207, 27, 172]
abbrev dktX7_forget_3 : List UInt8 := dkwX7_forget_3 ++ []
def dkwX7_forget_2 : List UInt8 := [42, 182, 1, 77, 42, 182, 1, 83, 28, 161, 0, 6, 167, 0, 10, 29, 60, 42, 182, 1, 83, 61]
abbrev dktX7_forget_2 : List UInt8 := dkwX7_forget_2 ++ dktX7_forget_3
def dkwX7_forget_1 : List UInt8 := [29, 42, 182, 1, 30, 162, 0, 47, 42, 182, 1, 74, 42, 89, 180, 1, 42, 4, 29, 120, 128, 181, 1, 42]
abbrev dktX7_forget_1 : List UInt8 := dkwX7_forget_1 ++ dktX7_forget_2
def dkwX7_forget_0 : List UInt8 := [42, 3, 181, 0, 116, 42, 182, 1, 94, 154, 0, 6, 16, 254, 172, 2, 60, 42, 182, 1, 130, 61, 3, 62]
abbrev dktX7_forget_0 : List UInt8 := dkwX7_forget_0 ++ dktX7_forget_1
theorem dksX7_forget_0 : cX7_forget.data.toList.drop 0 = dktX7_forget_0 := by decide +kernel
theorem dksX7_forget_1 : cX7_forget.data.toList.drop 24 = dktX7_forget_1 := dk_seg dksX7_forget_0 24 rfl rfl
theorem dksX7_forget_2 : cX7_forget.data.toList.drop 48 = dktX7_forget_2 := dk_seg dksX7_forget_1 24 rfl rfl
theorem dksX7_forget_3 : cX7_forget.data.toList.drop 70 = dktX7_forget_3 := dk_seg dksX7_forget_2 22 rfl rfl
theorem dX7_forget_0 : decode cX7_forget 0 = .ok (.aload_n 0, 1) := dk_42 (dk_at dksX7_forget_0 0 rfl rfl)
theorem dX7_forget_1 : decode cX7_forget 1 = .ok (.iconst 0, 1) := dk_3 (dk_at dksX7_forget_0 1 rfl rfl)
theorem dX7_forget_2 : decode cX7_forget 2 = .ok (.putfield 116, 3) := dk_181 0 116 (dk_at dksX7_forget_0 2 rfl rfl)
theorem dX7_forget_5 : decode cX7_forget 5 = .ok (.aload_n 0, 1) := dk_42 (dk_at dksX7_forget_0 5 rfl rfl)
theorem dX7_forget_6 : decode cX7_forget 6 = .ok (.invokevirtual 350, 3) := dk_182 1 94 (dk_at dksX7_forget_0 6 rfl rfl)
theorem dX7_forget_9 : decode cX7_forget 9 = .ok (.ifCond .ne 6, 3) := dk_154 0 6 (dk_at dksX7_forget_0 9 rfl rfl)
theorem dX7_forget_12 : decode cX7_forget 12 = .ok (.bipush (-2), 2) := dk_16 254 (dk_at dksX7_forget_0 12 rfl rfl)
theorem dX7_forget_14 : decode cX7_forget 14 = .ok (.ireturn, 1) := dk_172 (dk_at dksX7_forget_0 14 rfl rfl)
theorem dX7_forget_15 : decode cX7_forget 15 = .ok (.iconst (-1), 1) := dk_2 (dk_at dksX7_forget_0 15 rfl rfl)
theorem dX7_forget_16 : decode cX7_forget 16 = .ok (.istore_n 1, 1) := dk_60 (dk_at dksX7_forget_0 16 rfl rfl)
theorem dX7_forget_17 : decode cX7_forget 17 = .ok (.aload_n 0, 1) := dk_42 (dk_at dksX7_forget_0 17 rfl rfl)
theorem dX7_forget_18 : decode cX7_forget 18 = .ok (.invokevirtual 386, 3) := dk_182 1 130 (dk_at dksX7_forget_0 18 rfl rfl)
theorem dX7_forget_21 : decode cX7_forget 21 = .ok (.istore_n 2, 1) := dk_61 (dk_at dksX7_forget_0 21 rfl rfl)
theorem dX7_forget_22 : decode cX7_forget 22 = .ok (.iconst 0, 1) := dk_3 (dk_at dksX7_forget_0 22 rfl rfl)
theorem dX7_forget_23 : decode cX7_forget 23 = .ok (.istore_n 3, 1) := dk_62 (dk_at dksX7_forget_0 23 rfl rfl)
theorem dX7_forget_24 : decode cX7_forget 24 = .ok (.iload_n 3, 1) := dk_29 (dk_at dksX7_forget_1 0 rfl rfl)
theorem dX7_forget_25 : decode cX7_forget 25 = .ok (.aload_n 0, 1) := dk_42 (dk_at dksX7_forget_1 1 rfl rfl)
theorem dX7_forget_26 : decode cX7_forget 26 = .ok (.invokevirtual 286, 3) := dk_182 1 30 (dk_at dksX7_forget_1 2 rfl rfl)
theorem dX7_forget_29 : decode cX7_forget 29 = .ok (.if_icmp .ge 47, 3) := dk_162 0 47 (dk_at dksX7_forget_1 5 rfl rfl)
theorem dX7_forget_32 : decode cX7_forget 32 = .ok (.aload_n 0, 1) := dk_42 (dk_at dksX7_forget_1 8 rfl rfl)
theorem dX7_forget_33 : decode cX7_forget 33 = .ok (.invokevirtual 330, 3) := dk_182 1 74 (dk_at dksX7_forget_1 9 rfl rfl)
theorem dX7_forget_36 : decode cX7_forget 36 = .ok (.aload_n 0, 1) := dk_42 (dk_at dksX7_forget_1 12 rfl rfl)
theorem dX7_forget_37 : decode cX7_forget 37 = .ok (.dup, 1) := dk_89 (dk_at dksX7_forget_1 13 rfl rfl)
theorem dX7_forget_38 : decode cX7_forget 38 = .ok (.getfield 298, 3) := dk_180 1 42 (dk_at dksX7_forget_1 14 rfl rfl)
theorem dX7_forget_41 : decode cX7_forget 41 = .ok (.iconst 1, 1) := dk_4 (dk_at dksX7_forget_1 17 rfl rfl)
theorem dX7_forget_42 : decode cX7_forget 42 = .ok (.iload_n 3, 1) := dk_29 (dk_at dksX7_forget_1 18 rfl rfl)
theorem dX7_forget_43 : decode cX7_forget 43 = .ok (.ishl, 1) := dk_120 (dk_at dksX7_forget_1 19 rfl rfl)
theorem dX7_forget_44 : decode cX7_forget 44 = .ok (.ior, 1) := dk_128 (dk_at dksX7_forget_1 20 rfl rfl)
theorem dX7_forget_45 : decode cX7_forget 45 = .ok (.putfield 298, 3) := dk_181 1 42 (dk_at dksX7_forget_1 21 rfl rfl)
theorem dX7_forget_48 : decode cX7_forget 48 = .ok (.aload_n 0, 1) := dk_42 (dk_at dksX7_forget_2 0 rfl rfl)
theorem dX7_forget_49 : decode cX7_forget 49 = .ok (.invokevirtual 333, 3) := dk_182 1 77 (dk_at dksX7_forget_2 1 rfl rfl)
theorem dX7_forget_52 : decode cX7_forget 52 = .ok (.aload_n 0, 1) := dk_42 (dk_at dksX7_forget_2 4 rfl rfl)
theorem dX7_forget_53 : decode cX7_forget 53 = .ok (.invokevirtual 339, 3) := dk_182 1 83 (dk_at dksX7_forget_2 5 rfl rfl)
theorem dX7_forget_56 : decode cX7_forget 56 = .ok (.iload_n 2, 1) := dk_28 (dk_at dksX7_forget_2 8 rfl rfl)
theorem dX7_forget_57 : decode cX7_forget 57 = .ok (.if_icmp .lt 6, 3) := dk_161 0 6 (dk_at dksX7_forget_2 9 rfl rfl)
theorem dX7_forget_60 : decode cX7_forget 60 = .ok (.goto 10, 3) := dk_167 0 10 (dk_at dksX7_forget_2 12 rfl rfl)
theorem dX7_forget_63 : decode cX7_forget 63 = .ok (.iload_n 3, 1) := dk_29 (dk_at dksX7_forget_2 15 rfl rfl)
theorem dX7_forget_64 : decode cX7_forget 64 = .ok (.istore_n 1, 1) := dk_60 (dk_at dksX7_forget_2 16 rfl rfl)
theorem dX7_forget_65 : decode cX7_forget 65 = .ok (.aload_n 0, 1) := dk_42 (dk_at dksX7_forget_2 17 rfl rfl)
theorem dX7_forget_66 : decode cX7_forget 66 = .ok (.invokevirtual 339, 3) := dk_182 1 83 (dk_at dksX7_forget_2 18 rfl rfl)
theorem dX7_forget_69 : decode cX7_forget 69 = .ok (.istore_n 2, 1) := dk_61 (dk_at dksX7_forget_2 21 rfl rfl)
theorem dX7_forget_70 : decode cX7_forget 70 = .ok (.iinc 3 1, 3) := dk_132 3 1 (dk_at dksX7_forget_3 0 rfl rfl)
theorem dX7_forget_73 : decode cX7_forget 73 = .ok (.goto (-49), 3) := dk_167 255 207 (dk_at dksX7_forget_3 3 rfl rfl)
theorem dX7_forget_76 : decode cX7_forget 76 = .ok (.iload_n 1, 1) := dk_27 (dk_at dksX7_forget_3 6 rfl rfl)
theorem dX7_forget_77 : decode cX7_forget 77 = .ok (.ireturn, 1) := dk_172 (dk_at dksX7_forget_3 7 rfl rfl)
abbrev cX7_sets : ByteArray := prog_12_method_109_code
def yX7_sets : MethodName := ⟨RX7, "sets", "(II)I"⟩
def dkwX7_sets_1 : List UInt8 := [42, 180, 1, 136, 172]
abbrev dktX7_sets_1 : List UInt8 := dkwX7_sets_1 ++ []
def dkwX7_sets_0 : List UInt8 := [42, 3, 181, 0, 116, 42, 27, 28, 182, 1, 160, 62, 29, 153, 0, 5, 29, 172, 42, 27, 28, 182, 1, 163]
abbrev dktX7_sets_0 : List UInt8 := dkwX7_sets_0 ++ dktX7_sets_1
theorem dksX7_sets_0 : cX7_sets.data.toList.drop 0 = dktX7_sets_0 := by decide +kernel
theorem dksX7_sets_1 : cX7_sets.data.toList.drop 24 = dktX7_sets_1 := dk_seg dksX7_sets_0 24 rfl rfl
theorem dX7_sets_0 : decode cX7_sets 0 = .ok (.aload_n 0, 1) := dk_42 (dk_at dksX7_sets_0 0 rfl rfl)
theorem dX7_sets_1 : decode cX7_sets 1 = .ok (.iconst 0, 1) := dk_3 (dk_at dksX7_sets_0 1 rfl rfl)
theorem dX7_sets_2 : decode cX7_sets 2 = .ok (.putfield 116, 3) := dk_181 0 116 (dk_at dksX7_sets_0 2 rfl rfl)
theorem dX7_sets_5 : decode cX7_sets 5 = .ok (.aload_n 0, 1) := dk_42 (dk_at dksX7_sets_0 5 rfl rfl)
theorem dX7_sets_6 : decode cX7_sets 6 = .ok (.iload_n 1, 1) := dk_27 (dk_at dksX7_sets_0 6 rfl rfl)
theorem dX7_sets_7 : decode cX7_sets 7 = .ok (.iload_n 2, 1) := dk_28 (dk_at dksX7_sets_0 7 rfl rfl)
theorem dX7_sets_8 : decode cX7_sets 8 = .ok (.invokevirtual 416, 3) := dk_182 1 160 (dk_at dksX7_sets_0 8 rfl rfl)
theorem dX7_sets_11 : decode cX7_sets 11 = .ok (.istore_n 3, 1) := dk_62 (dk_at dksX7_sets_0 11 rfl rfl)
theorem dX7_sets_12 : decode cX7_sets 12 = .ok (.iload_n 3, 1) := dk_29 (dk_at dksX7_sets_0 12 rfl rfl)
theorem dX7_sets_13 : decode cX7_sets 13 = .ok (.ifCond .eq 5, 3) := dk_153 0 5 (dk_at dksX7_sets_0 13 rfl rfl)
theorem dX7_sets_16 : decode cX7_sets 16 = .ok (.iload_n 3, 1) := dk_29 (dk_at dksX7_sets_0 16 rfl rfl)
theorem dX7_sets_17 : decode cX7_sets 17 = .ok (.ireturn, 1) := dk_172 (dk_at dksX7_sets_0 17 rfl rfl)
theorem dX7_sets_18 : decode cX7_sets 18 = .ok (.aload_n 0, 1) := dk_42 (dk_at dksX7_sets_0 18 rfl rfl)
theorem dX7_sets_19 : decode cX7_sets 19 = .ok (.iload_n 1, 1) := dk_27 (dk_at dksX7_sets_0 19 rfl rfl)
theorem dX7_sets_20 : decode cX7_sets 20 = .ok (.iload_n 2, 1) := dk_28 (dk_at dksX7_sets_0 20 rfl rfl)
theorem dX7_sets_21 : decode cX7_sets 21 = .ok (.invokevirtual 419, 3) := dk_182 1 163 (dk_at dksX7_sets_0 21 rfl rfl)
theorem dX7_sets_24 : decode cX7_sets 24 = .ok (.aload_n 0, 1) := dk_42 (dk_at dksX7_sets_1 0 rfl rfl)
theorem dX7_sets_25 : decode cX7_sets 25 = .ok (.getfield 392, 3) := dk_180 1 136 (dk_at dksX7_sets_1 1 rfl rfl)
theorem dX7_sets_28 : decode cX7_sets 28 = .ok (.ireturn, 1) := dk_172 (dk_at dksX7_sets_1 4 rfl rfl)
abbrev cX7_whyNot : ByteArray := prog_12_method_106_code
def yX7_whyNot : MethodName := ⟨RX7, "whyNot", "(II)I"⟩
def dkwX7_whyNot_1 : List UInt8 := [180, 0, 7, 27, 46, 2, 160, 0, 8, 16, 250, 167, 0, 4, 3, 172]
abbrev dktX7_whyNot_1 : List UInt8 := dkwX7_whyNot_1 ++ []
def dkwX7_whyNot_0 : List UInt8 := [27, 184, 0, 125, 153, 0, 12, 42, 28, 133, 182, 1, 36, 154, 0, 8, 16, 254, 167, 0, 19, 42]
abbrev dktX7_whyNot_0 : List UInt8 := dkwX7_whyNot_0 ++ dktX7_whyNot_1
theorem dksX7_whyNot_0 : cX7_whyNot.data.toList.drop 0 = dktX7_whyNot_0 := by decide +kernel
theorem dksX7_whyNot_1 : cX7_whyNot.data.toList.drop 22 = dktX7_whyNot_1 := dk_seg dksX7_whyNot_0 22 rfl rfl
theorem dX7_whyNot_0 : decode cX7_whyNot 0 = .ok (.iload_n 1, 1) := dk_27 (dk_at dksX7_whyNot_0 0 rfl rfl)
theorem dX7_whyNot_1 : decode cX7_whyNot 1 = .ok (.invokestatic 125, 3) := dk_184 0 125 (dk_at dksX7_whyNot_0 1 rfl rfl)
theorem dX7_whyNot_4 : decode cX7_whyNot 4 = .ok (.ifCond .eq 12, 3) := dk_153 0 12 (dk_at dksX7_whyNot_0 4 rfl rfl)
theorem dX7_whyNot_7 : decode cX7_whyNot 7 = .ok (.aload_n 0, 1) := dk_42 (dk_at dksX7_whyNot_0 7 rfl rfl)
theorem dX7_whyNot_8 : decode cX7_whyNot 8 = .ok (.iload_n 2, 1) := dk_28 (dk_at dksX7_whyNot_0 8 rfl rfl)
theorem dX7_whyNot_9 : decode cX7_whyNot 9 = .ok (.i2l, 1) := dk_133 (dk_at dksX7_whyNot_0 9 rfl rfl)
theorem dX7_whyNot_10 : decode cX7_whyNot 10 = .ok (.invokevirtual 292, 3) := dk_182 1 36 (dk_at dksX7_whyNot_0 10 rfl rfl)
theorem dX7_whyNot_13 : decode cX7_whyNot 13 = .ok (.ifCond .ne 8, 3) := dk_154 0 8 (dk_at dksX7_whyNot_0 13 rfl rfl)
theorem dX7_whyNot_16 : decode cX7_whyNot 16 = .ok (.bipush (-2), 2) := dk_16 254 (dk_at dksX7_whyNot_0 16 rfl rfl)
theorem dX7_whyNot_18 : decode cX7_whyNot 18 = .ok (.goto 19, 3) := dk_167 0 19 (dk_at dksX7_whyNot_0 18 rfl rfl)
theorem dX7_whyNot_21 : decode cX7_whyNot 21 = .ok (.aload_n 0, 1) := dk_42 (dk_at dksX7_whyNot_0 21 rfl rfl)
theorem dX7_whyNot_22 : decode cX7_whyNot 22 = .ok (.getfield 7, 3) := dk_180 0 7 (dk_at dksX7_whyNot_1 0 rfl rfl)
theorem dX7_whyNot_25 : decode cX7_whyNot 25 = .ok (.iload_n 1, 1) := dk_27 (dk_at dksX7_whyNot_1 3 rfl rfl)
theorem dX7_whyNot_26 : decode cX7_whyNot 26 = .ok (.iaload, 1) := dk_46 (dk_at dksX7_whyNot_1 4 rfl rfl)
theorem dX7_whyNot_27 : decode cX7_whyNot 27 = .ok (.iconst (-1), 1) := dk_2 (dk_at dksX7_whyNot_1 5 rfl rfl)
theorem dX7_whyNot_28 : decode cX7_whyNot 28 = .ok (.if_icmp .ne 8, 3) := dk_160 0 8 (dk_at dksX7_whyNot_1 6 rfl rfl)
theorem dX7_whyNot_31 : decode cX7_whyNot 31 = .ok (.bipush (-6), 2) := dk_16 250 (dk_at dksX7_whyNot_1 9 rfl rfl)
theorem dX7_whyNot_33 : decode cX7_whyNot 33 = .ok (.goto 4, 3) := dk_167 0 4 (dk_at dksX7_whyNot_1 11 rfl rfl)
theorem dX7_whyNot_36 : decode cX7_whyNot 36 = .ok (.iconst 0, 1) := dk_3 (dk_at dksX7_whyNot_1 14 rfl rfl)
theorem dX7_whyNot_37 : decode cX7_whyNot 37 = .ok (.ireturn, 1) := dk_172 (dk_at dksX7_whyNot_1 15 rfl rfl)
abbrev cX7_laysSets : ByteArray := prog_12_method_108_code
def yX7_laysSets : MethodName := ⟨RX7, "laysSets", "(II)V"⟩
def dkwX7_laysSets_14 : List UInt8 := [21, 5, 181, 1, 157, 132, 4, 1, 167, 255, 174, 177]
abbrev dktX7_laysSets_14 : List UInt8 := dkwX7_laysSets_14 ++ []
def dkwX7_laysSets_13 : List UInt8 := [46, 100, 54, 5, 21, 5, 42, 180, 1, 157, 161, 0, 6, 167, 0, 15, 42, 21, 4, 181, 1, 154, 42]
abbrev dktX7_laysSets_13 : List UInt8 := dkwX7_laysSets_13 ++ dktX7_laysSets_14
def dkwX7_laysSets_12 : List UInt8 := [100, 164, 0, 13, 42, 180, 0, 107, 21, 4, 46, 167, 0, 15, 42, 180, 1, 136, 42, 180, 0, 107, 21, 4]
abbrev dktX7_laysSets_12 : List UInt8 := dkwX7_laysSets_12 ++ dktX7_laysSets_13
def dkwX7_laysSets_11 : List UInt8 := [182, 1, 30, 162, 0, 79, 42, 180, 0, 107, 21, 4, 46, 42, 180, 1, 136, 42, 180, 0, 107, 21, 4, 46]
abbrev dktX7_laysSets_11 : List UInt8 := dkwX7_laysSets_11 ++ dktX7_laysSets_12
def dkwX7_laysSets_10 : List UInt8 := [181, 1, 142, 42, 2, 181, 1, 154, 42, 42, 180, 1, 136, 181, 1, 157, 3, 54, 4, 21, 4, 42]
abbrev dktX7_laysSets_10 : List UInt8 := dkwX7_laysSets_10 ++ dktX7_laysSets_11
def dkwX7_laysSets_9 : List UInt8 := [79, 132, 5, 1, 167, 255, 219, 132, 4, 1, 167, 255, 115, 42, 29, 42, 180, 1, 142, 2, 130, 126]
abbrev dktX7_laysSets_9 : List UInt8 := dkwX7_laysSets_9 ++ dktX7_laysSets_10
def dkwX7_laysSets_8 : List UInt8 := [42, 180, 0, 107, 21, 5, 92, 46, 21, 4, 21, 5, 184, 1, 51, 153, 0, 7, 4, 167, 0, 4, 3, 96]
abbrev dktX7_laysSets_8 : List UInt8 := dkwX7_laysSets_8 ++ dktX7_laysSets_9
def dkwX7_laysSets_7 : List UInt8 := [184, 1, 151, 162, 0, 9, 42, 21, 4, 181, 1, 145, 3, 54, 5, 21, 5, 42, 182, 1, 30, 162, 0, 34]
abbrev dktX7_laysSets_7 : List UInt8 := dkwX7_laysSets_7 ++ dktX7_laysSets_8
def dkwX7_laysSets_6 : List UInt8 := [21, 4, 128, 181, 1, 142, 42, 180, 1, 145, 2, 159, 0, 18, 21, 4, 184, 1, 151, 42, 180, 1, 145]
abbrev dktX7_laysSets_6 : List UInt8 := dkwX7_laysSets_6 ++ dktX7_laysSets_7
def dkwX7_laysSets_5 : List UInt8 := [180, 1, 136, 4, 96, 181, 1, 136, 42, 89, 180, 1, 139, 21, 4, 126, 181, 1, 139, 42, 89, 180, 1, 142]
abbrev dktX7_laysSets_5 : List UInt8 := dkwX7_laysSets_5 ++ dktX7_laysSets_6
def dkwX7_laysSets_4 : List UInt8 := [29, 2, 130, 126, 154, 0, 121, 42, 27, 28, 21, 4, 182, 1, 148, 154, 0, 6, 167, 0, 107, 42, 89]
abbrev dktX7_laysSets_4 : List UInt8 := dkwX7_laysSets_4 ++ dktX7_laysSets_5
def dkwX7_laysSets_3 : List UInt8 := [181, 1, 142, 42, 2, 181, 1, 145, 3, 54, 4, 21, 4, 4, 42, 182, 1, 30, 120, 162, 0, 136, 21, 4]
abbrev dktX7_laysSets_3 : List UInt8 := dkwX7_laysSets_3 ++ dktX7_laysSets_4
def dkwX7_laysSets_2 : List UInt8 := [21, 4, 3, 79, 132, 4, 1, 167, 255, 210, 42, 3, 181, 1, 136, 42, 29, 181, 1, 139, 42, 3]
abbrev dktX7_laysSets_2 : List UInt8 := dkwX7_laysSets_2 ++ dktX7_laysSets_3
def dkwX7_laysSets_1 : List UInt8 := [21, 4, 104, 4, 96, 46, 28, 160, 0, 10, 4, 21, 4, 120, 167, 0, 4, 3, 128, 62, 42, 180, 0, 107]
abbrev dktX7_laysSets_1 : List UInt8 := dkwX7_laysSets_1 ++ dktX7_laysSets_2
def dkwX7_laysSets_0 : List UInt8 := [42, 182, 1, 74, 3, 62, 3, 54, 4, 21, 4, 42, 182, 1, 30, 162, 0, 43, 29, 42, 180, 0, 40, 5]
abbrev dktX7_laysSets_0 : List UInt8 := dkwX7_laysSets_0 ++ dktX7_laysSets_1
theorem dksX7_laysSets_0 : cX7_laysSets.data.toList.drop 0 = dktX7_laysSets_0 := by decide +kernel
theorem dksX7_laysSets_1 : cX7_laysSets.data.toList.drop 24 = dktX7_laysSets_1 := dk_seg dksX7_laysSets_0 24 rfl rfl
theorem dksX7_laysSets_2 : cX7_laysSets.data.toList.drop 48 = dktX7_laysSets_2 := dk_seg dksX7_laysSets_1 24 rfl rfl
theorem dksX7_laysSets_3 : cX7_laysSets.data.toList.drop 70 = dktX7_laysSets_3 := dk_seg dksX7_laysSets_2 22 rfl rfl
theorem dksX7_laysSets_4 : cX7_laysSets.data.toList.drop 94 = dktX7_laysSets_4 := dk_seg dksX7_laysSets_3 24 rfl rfl
theorem dksX7_laysSets_5 : cX7_laysSets.data.toList.drop 117 = dktX7_laysSets_5 := dk_seg dksX7_laysSets_4 23 rfl rfl
theorem dksX7_laysSets_6 : cX7_laysSets.data.toList.drop 141 = dktX7_laysSets_6 := dk_seg dksX7_laysSets_5 24 rfl rfl
theorem dksX7_laysSets_7 : cX7_laysSets.data.toList.drop 164 = dktX7_laysSets_7 := dk_seg dksX7_laysSets_6 23 rfl rfl
theorem dksX7_laysSets_8 : cX7_laysSets.data.toList.drop 188 = dktX7_laysSets_8 := dk_seg dksX7_laysSets_7 24 rfl rfl
theorem dksX7_laysSets_9 : cX7_laysSets.data.toList.drop 212 = dktX7_laysSets_9 := dk_seg dksX7_laysSets_8 24 rfl rfl
theorem dksX7_laysSets_10 : cX7_laysSets.data.toList.drop 234 = dktX7_laysSets_10 := dk_seg dksX7_laysSets_9 22 rfl rfl
theorem dksX7_laysSets_11 : cX7_laysSets.data.toList.drop 256 = dktX7_laysSets_11 := dk_seg dksX7_laysSets_10 22 rfl rfl
theorem dksX7_laysSets_12 : cX7_laysSets.data.toList.drop 280 = dktX7_laysSets_12 := dk_seg dksX7_laysSets_11 24 rfl rfl
theorem dksX7_laysSets_13 : cX7_laysSets.data.toList.drop 304 = dktX7_laysSets_13 := dk_seg dksX7_laysSets_12 24 rfl rfl
theorem dksX7_laysSets_14 : cX7_laysSets.data.toList.drop 327 = dktX7_laysSets_14 := dk_seg dksX7_laysSets_13 23 rfl rfl
theorem dX7_laysSets_0 : decode cX7_laysSets 0 = .ok (.aload_n 0, 1) := dk_42 (dk_at dksX7_laysSets_0 0 rfl rfl)
theorem dX7_laysSets_1 : decode cX7_laysSets 1 = .ok (.invokevirtual 330, 3) := dk_182 1 74 (dk_at dksX7_laysSets_0 1 rfl rfl)
theorem dX7_laysSets_4 : decode cX7_laysSets 4 = .ok (.iconst 0, 1) := dk_3 (dk_at dksX7_laysSets_0 4 rfl rfl)
theorem dX7_laysSets_5 : decode cX7_laysSets 5 = .ok (.istore_n 3, 1) := dk_62 (dk_at dksX7_laysSets_0 5 rfl rfl)
theorem dX7_laysSets_6 : decode cX7_laysSets 6 = .ok (.iconst 0, 1) := dk_3 (dk_at dksX7_laysSets_0 6 rfl rfl)
theorem dX7_laysSets_7 : decode cX7_laysSets 7 = .ok (.istore 4, 2) := dk_54 4 (dk_at dksX7_laysSets_0 7 rfl rfl)
theorem dX7_laysSets_9 : decode cX7_laysSets 9 = .ok (.iload 4, 2) := dk_21 4 (dk_at dksX7_laysSets_0 9 rfl rfl)
theorem dX7_laysSets_11 : decode cX7_laysSets 11 = .ok (.aload_n 0, 1) := dk_42 (dk_at dksX7_laysSets_0 11 rfl rfl)
theorem dX7_laysSets_12 : decode cX7_laysSets 12 = .ok (.invokevirtual 286, 3) := dk_182 1 30 (dk_at dksX7_laysSets_0 12 rfl rfl)
theorem dX7_laysSets_15 : decode cX7_laysSets 15 = .ok (.if_icmp .ge 43, 3) := dk_162 0 43 (dk_at dksX7_laysSets_0 15 rfl rfl)
theorem dX7_laysSets_18 : decode cX7_laysSets 18 = .ok (.iload_n 3, 1) := dk_29 (dk_at dksX7_laysSets_0 18 rfl rfl)
theorem dX7_laysSets_19 : decode cX7_laysSets 19 = .ok (.aload_n 0, 1) := dk_42 (dk_at dksX7_laysSets_0 19 rfl rfl)
theorem dX7_laysSets_20 : decode cX7_laysSets 20 = .ok (.getfield 40, 3) := dk_180 0 40 (dk_at dksX7_laysSets_0 20 rfl rfl)
theorem dX7_laysSets_23 : decode cX7_laysSets 23 = .ok (.iconst 2, 1) := dk_5 (dk_at dksX7_laysSets_0 23 rfl rfl)
theorem dX7_laysSets_24 : decode cX7_laysSets 24 = .ok (.iload 4, 2) := dk_21 4 (dk_at dksX7_laysSets_1 0 rfl rfl)
theorem dX7_laysSets_26 : decode cX7_laysSets 26 = .ok (.imul, 1) := dk_104 (dk_at dksX7_laysSets_1 2 rfl rfl)
theorem dX7_laysSets_27 : decode cX7_laysSets 27 = .ok (.iconst 1, 1) := dk_4 (dk_at dksX7_laysSets_1 3 rfl rfl)
theorem dX7_laysSets_28 : decode cX7_laysSets 28 = .ok (.iadd, 1) := dk_96 (dk_at dksX7_laysSets_1 4 rfl rfl)
theorem dX7_laysSets_29 : decode cX7_laysSets 29 = .ok (.iaload, 1) := dk_46 (dk_at dksX7_laysSets_1 5 rfl rfl)
theorem dX7_laysSets_30 : decode cX7_laysSets 30 = .ok (.iload_n 2, 1) := dk_28 (dk_at dksX7_laysSets_1 6 rfl rfl)
theorem dX7_laysSets_31 : decode cX7_laysSets 31 = .ok (.if_icmp .ne 10, 3) := dk_160 0 10 (dk_at dksX7_laysSets_1 7 rfl rfl)
theorem dX7_laysSets_34 : decode cX7_laysSets 34 = .ok (.iconst 1, 1) := dk_4 (dk_at dksX7_laysSets_1 10 rfl rfl)
theorem dX7_laysSets_35 : decode cX7_laysSets 35 = .ok (.iload 4, 2) := dk_21 4 (dk_at dksX7_laysSets_1 11 rfl rfl)
theorem dX7_laysSets_37 : decode cX7_laysSets 37 = .ok (.ishl, 1) := dk_120 (dk_at dksX7_laysSets_1 13 rfl rfl)
theorem dX7_laysSets_38 : decode cX7_laysSets 38 = .ok (.goto 4, 3) := dk_167 0 4 (dk_at dksX7_laysSets_1 14 rfl rfl)
theorem dX7_laysSets_41 : decode cX7_laysSets 41 = .ok (.iconst 0, 1) := dk_3 (dk_at dksX7_laysSets_1 17 rfl rfl)
theorem dX7_laysSets_42 : decode cX7_laysSets 42 = .ok (.ior, 1) := dk_128 (dk_at dksX7_laysSets_1 18 rfl rfl)
theorem dX7_laysSets_43 : decode cX7_laysSets 43 = .ok (.istore_n 3, 1) := dk_62 (dk_at dksX7_laysSets_1 19 rfl rfl)
theorem dX7_laysSets_44 : decode cX7_laysSets 44 = .ok (.aload_n 0, 1) := dk_42 (dk_at dksX7_laysSets_1 20 rfl rfl)
theorem dX7_laysSets_45 : decode cX7_laysSets 45 = .ok (.getfield 107, 3) := dk_180 0 107 (dk_at dksX7_laysSets_1 21 rfl rfl)
theorem dX7_laysSets_48 : decode cX7_laysSets 48 = .ok (.iload 4, 2) := dk_21 4 (dk_at dksX7_laysSets_2 0 rfl rfl)
theorem dX7_laysSets_50 : decode cX7_laysSets 50 = .ok (.iconst 0, 1) := dk_3 (dk_at dksX7_laysSets_2 2 rfl rfl)
theorem dX7_laysSets_51 : decode cX7_laysSets 51 = .ok (.iastore, 1) := dk_79 (dk_at dksX7_laysSets_2 3 rfl rfl)
theorem dX7_laysSets_52 : decode cX7_laysSets 52 = .ok (.iinc 4 1, 3) := dk_132 4 1 (dk_at dksX7_laysSets_2 4 rfl rfl)
theorem dX7_laysSets_55 : decode cX7_laysSets 55 = .ok (.goto (-46), 3) := dk_167 255 210 (dk_at dksX7_laysSets_2 7 rfl rfl)
theorem dX7_laysSets_58 : decode cX7_laysSets 58 = .ok (.aload_n 0, 1) := dk_42 (dk_at dksX7_laysSets_2 10 rfl rfl)
theorem dX7_laysSets_59 : decode cX7_laysSets 59 = .ok (.iconst 0, 1) := dk_3 (dk_at dksX7_laysSets_2 11 rfl rfl)
theorem dX7_laysSets_60 : decode cX7_laysSets 60 = .ok (.putfield 392, 3) := dk_181 1 136 (dk_at dksX7_laysSets_2 12 rfl rfl)
theorem dX7_laysSets_63 : decode cX7_laysSets 63 = .ok (.aload_n 0, 1) := dk_42 (dk_at dksX7_laysSets_2 15 rfl rfl)
theorem dX7_laysSets_64 : decode cX7_laysSets 64 = .ok (.iload_n 3, 1) := dk_29 (dk_at dksX7_laysSets_2 16 rfl rfl)
theorem dX7_laysSets_65 : decode cX7_laysSets 65 = .ok (.putfield 395, 3) := dk_181 1 139 (dk_at dksX7_laysSets_2 17 rfl rfl)
theorem dX7_laysSets_68 : decode cX7_laysSets 68 = .ok (.aload_n 0, 1) := dk_42 (dk_at dksX7_laysSets_2 20 rfl rfl)
theorem dX7_laysSets_69 : decode cX7_laysSets 69 = .ok (.iconst 0, 1) := dk_3 (dk_at dksX7_laysSets_2 21 rfl rfl)
theorem dX7_laysSets_70 : decode cX7_laysSets 70 = .ok (.putfield 398, 3) := dk_181 1 142 (dk_at dksX7_laysSets_3 0 rfl rfl)
theorem dX7_laysSets_73 : decode cX7_laysSets 73 = .ok (.aload_n 0, 1) := dk_42 (dk_at dksX7_laysSets_3 3 rfl rfl)
theorem dX7_laysSets_74 : decode cX7_laysSets 74 = .ok (.iconst (-1), 1) := dk_2 (dk_at dksX7_laysSets_3 4 rfl rfl)
theorem dX7_laysSets_75 : decode cX7_laysSets 75 = .ok (.putfield 401, 3) := dk_181 1 145 (dk_at dksX7_laysSets_3 5 rfl rfl)
theorem dX7_laysSets_78 : decode cX7_laysSets 78 = .ok (.iconst 0, 1) := dk_3 (dk_at dksX7_laysSets_3 8 rfl rfl)
theorem dX7_laysSets_79 : decode cX7_laysSets 79 = .ok (.istore 4, 2) := dk_54 4 (dk_at dksX7_laysSets_3 9 rfl rfl)
theorem dX7_laysSets_81 : decode cX7_laysSets 81 = .ok (.iload 4, 2) := dk_21 4 (dk_at dksX7_laysSets_3 11 rfl rfl)
theorem dX7_laysSets_83 : decode cX7_laysSets 83 = .ok (.iconst 1, 1) := dk_4 (dk_at dksX7_laysSets_3 13 rfl rfl)
theorem dX7_laysSets_84 : decode cX7_laysSets 84 = .ok (.aload_n 0, 1) := dk_42 (dk_at dksX7_laysSets_3 14 rfl rfl)
theorem dX7_laysSets_85 : decode cX7_laysSets 85 = .ok (.invokevirtual 286, 3) := dk_182 1 30 (dk_at dksX7_laysSets_3 15 rfl rfl)
theorem dX7_laysSets_88 : decode cX7_laysSets 88 = .ok (.ishl, 1) := dk_120 (dk_at dksX7_laysSets_3 18 rfl rfl)
theorem dX7_laysSets_89 : decode cX7_laysSets 89 = .ok (.if_icmp .ge 136, 3) := dk_162 0 136 (dk_at dksX7_laysSets_3 19 rfl rfl)
theorem dX7_laysSets_92 : decode cX7_laysSets 92 = .ok (.iload 4, 2) := dk_21 4 (dk_at dksX7_laysSets_3 22 rfl rfl)
theorem dX7_laysSets_94 : decode cX7_laysSets 94 = .ok (.iload_n 3, 1) := dk_29 (dk_at dksX7_laysSets_4 0 rfl rfl)
theorem dX7_laysSets_95 : decode cX7_laysSets 95 = .ok (.iconst (-1), 1) := dk_2 (dk_at dksX7_laysSets_4 1 rfl rfl)
theorem dX7_laysSets_96 : decode cX7_laysSets 96 = .ok (.ixor, 1) := dk_130 (dk_at dksX7_laysSets_4 2 rfl rfl)
theorem dX7_laysSets_97 : decode cX7_laysSets 97 = .ok (.iand, 1) := dk_126 (dk_at dksX7_laysSets_4 3 rfl rfl)
theorem dX7_laysSets_98 : decode cX7_laysSets 98 = .ok (.ifCond .ne 121, 3) := dk_154 0 121 (dk_at dksX7_laysSets_4 4 rfl rfl)
theorem dX7_laysSets_101 : decode cX7_laysSets 101 = .ok (.aload_n 0, 1) := dk_42 (dk_at dksX7_laysSets_4 7 rfl rfl)
theorem dX7_laysSets_102 : decode cX7_laysSets 102 = .ok (.iload_n 1, 1) := dk_27 (dk_at dksX7_laysSets_4 8 rfl rfl)
theorem dX7_laysSets_103 : decode cX7_laysSets 103 = .ok (.iload_n 2, 1) := dk_28 (dk_at dksX7_laysSets_4 9 rfl rfl)
theorem dX7_laysSets_104 : decode cX7_laysSets 104 = .ok (.iload 4, 2) := dk_21 4 (dk_at dksX7_laysSets_4 10 rfl rfl)
theorem dX7_laysSets_106 : decode cX7_laysSets 106 = .ok (.invokevirtual 404, 3) := dk_182 1 148 (dk_at dksX7_laysSets_4 12 rfl rfl)
theorem dX7_laysSets_109 : decode cX7_laysSets 109 = .ok (.ifCond .ne 6, 3) := dk_154 0 6 (dk_at dksX7_laysSets_4 15 rfl rfl)
theorem dX7_laysSets_112 : decode cX7_laysSets 112 = .ok (.goto 107, 3) := dk_167 0 107 (dk_at dksX7_laysSets_4 18 rfl rfl)
theorem dX7_laysSets_115 : decode cX7_laysSets 115 = .ok (.aload_n 0, 1) := dk_42 (dk_at dksX7_laysSets_4 21 rfl rfl)
theorem dX7_laysSets_116 : decode cX7_laysSets 116 = .ok (.dup, 1) := dk_89 (dk_at dksX7_laysSets_4 22 rfl rfl)
theorem dX7_laysSets_117 : decode cX7_laysSets 117 = .ok (.getfield 392, 3) := dk_180 1 136 (dk_at dksX7_laysSets_5 0 rfl rfl)
theorem dX7_laysSets_120 : decode cX7_laysSets 120 = .ok (.iconst 1, 1) := dk_4 (dk_at dksX7_laysSets_5 3 rfl rfl)
theorem dX7_laysSets_121 : decode cX7_laysSets 121 = .ok (.iadd, 1) := dk_96 (dk_at dksX7_laysSets_5 4 rfl rfl)
theorem dX7_laysSets_122 : decode cX7_laysSets 122 = .ok (.putfield 392, 3) := dk_181 1 136 (dk_at dksX7_laysSets_5 5 rfl rfl)
theorem dX7_laysSets_125 : decode cX7_laysSets 125 = .ok (.aload_n 0, 1) := dk_42 (dk_at dksX7_laysSets_5 8 rfl rfl)
theorem dX7_laysSets_126 : decode cX7_laysSets 126 = .ok (.dup, 1) := dk_89 (dk_at dksX7_laysSets_5 9 rfl rfl)
theorem dX7_laysSets_127 : decode cX7_laysSets 127 = .ok (.getfield 395, 3) := dk_180 1 139 (dk_at dksX7_laysSets_5 10 rfl rfl)
theorem dX7_laysSets_130 : decode cX7_laysSets 130 = .ok (.iload 4, 2) := dk_21 4 (dk_at dksX7_laysSets_5 13 rfl rfl)
theorem dX7_laysSets_132 : decode cX7_laysSets 132 = .ok (.iand, 1) := dk_126 (dk_at dksX7_laysSets_5 15 rfl rfl)
theorem dX7_laysSets_133 : decode cX7_laysSets 133 = .ok (.putfield 395, 3) := dk_181 1 139 (dk_at dksX7_laysSets_5 16 rfl rfl)
theorem dX7_laysSets_136 : decode cX7_laysSets 136 = .ok (.aload_n 0, 1) := dk_42 (dk_at dksX7_laysSets_5 19 rfl rfl)
theorem dX7_laysSets_137 : decode cX7_laysSets 137 = .ok (.dup, 1) := dk_89 (dk_at dksX7_laysSets_5 20 rfl rfl)
theorem dX7_laysSets_138 : decode cX7_laysSets 138 = .ok (.getfield 398, 3) := dk_180 1 142 (dk_at dksX7_laysSets_5 21 rfl rfl)
theorem dX7_laysSets_141 : decode cX7_laysSets 141 = .ok (.iload 4, 2) := dk_21 4 (dk_at dksX7_laysSets_6 0 rfl rfl)
theorem dX7_laysSets_143 : decode cX7_laysSets 143 = .ok (.ior, 1) := dk_128 (dk_at dksX7_laysSets_6 2 rfl rfl)
theorem dX7_laysSets_144 : decode cX7_laysSets 144 = .ok (.putfield 398, 3) := dk_181 1 142 (dk_at dksX7_laysSets_6 3 rfl rfl)
theorem dX7_laysSets_147 : decode cX7_laysSets 147 = .ok (.aload_n 0, 1) := dk_42 (dk_at dksX7_laysSets_6 6 rfl rfl)
theorem dX7_laysSets_148 : decode cX7_laysSets 148 = .ok (.getfield 401, 3) := dk_180 1 145 (dk_at dksX7_laysSets_6 7 rfl rfl)
theorem dX7_laysSets_151 : decode cX7_laysSets 151 = .ok (.iconst (-1), 1) := dk_2 (dk_at dksX7_laysSets_6 10 rfl rfl)
theorem dX7_laysSets_152 : decode cX7_laysSets 152 = .ok (.if_icmp .eq 18, 3) := dk_159 0 18 (dk_at dksX7_laysSets_6 11 rfl rfl)
theorem dX7_laysSets_155 : decode cX7_laysSets 155 = .ok (.iload 4, 2) := dk_21 4 (dk_at dksX7_laysSets_6 14 rfl rfl)
theorem dX7_laysSets_157 : decode cX7_laysSets 157 = .ok (.invokestatic 407, 3) := dk_184 1 151 (dk_at dksX7_laysSets_6 16 rfl rfl)
theorem dX7_laysSets_160 : decode cX7_laysSets 160 = .ok (.aload_n 0, 1) := dk_42 (dk_at dksX7_laysSets_6 19 rfl rfl)
theorem dX7_laysSets_161 : decode cX7_laysSets 161 = .ok (.getfield 401, 3) := dk_180 1 145 (dk_at dksX7_laysSets_6 20 rfl rfl)
theorem dX7_laysSets_164 : decode cX7_laysSets 164 = .ok (.invokestatic 407, 3) := dk_184 1 151 (dk_at dksX7_laysSets_7 0 rfl rfl)
theorem dX7_laysSets_167 : decode cX7_laysSets 167 = .ok (.if_icmp .ge 9, 3) := dk_162 0 9 (dk_at dksX7_laysSets_7 3 rfl rfl)
theorem dX7_laysSets_170 : decode cX7_laysSets 170 = .ok (.aload_n 0, 1) := dk_42 (dk_at dksX7_laysSets_7 6 rfl rfl)
theorem dX7_laysSets_171 : decode cX7_laysSets 171 = .ok (.iload 4, 2) := dk_21 4 (dk_at dksX7_laysSets_7 7 rfl rfl)
theorem dX7_laysSets_173 : decode cX7_laysSets 173 = .ok (.putfield 401, 3) := dk_181 1 145 (dk_at dksX7_laysSets_7 9 rfl rfl)
theorem dX7_laysSets_176 : decode cX7_laysSets 176 = .ok (.iconst 0, 1) := dk_3 (dk_at dksX7_laysSets_7 12 rfl rfl)
theorem dX7_laysSets_177 : decode cX7_laysSets 177 = .ok (.istore 5, 2) := dk_54 5 (dk_at dksX7_laysSets_7 13 rfl rfl)
theorem dX7_laysSets_179 : decode cX7_laysSets 179 = .ok (.iload 5, 2) := dk_21 5 (dk_at dksX7_laysSets_7 15 rfl rfl)
theorem dX7_laysSets_181 : decode cX7_laysSets 181 = .ok (.aload_n 0, 1) := dk_42 (dk_at dksX7_laysSets_7 17 rfl rfl)
theorem dX7_laysSets_182 : decode cX7_laysSets 182 = .ok (.invokevirtual 286, 3) := dk_182 1 30 (dk_at dksX7_laysSets_7 18 rfl rfl)
theorem dX7_laysSets_185 : decode cX7_laysSets 185 = .ok (.if_icmp .ge 34, 3) := dk_162 0 34 (dk_at dksX7_laysSets_7 21 rfl rfl)
theorem dX7_laysSets_188 : decode cX7_laysSets 188 = .ok (.aload_n 0, 1) := dk_42 (dk_at dksX7_laysSets_8 0 rfl rfl)
theorem dX7_laysSets_189 : decode cX7_laysSets 189 = .ok (.getfield 107, 3) := dk_180 0 107 (dk_at dksX7_laysSets_8 1 rfl rfl)
theorem dX7_laysSets_192 : decode cX7_laysSets 192 = .ok (.iload 5, 2) := dk_21 5 (dk_at dksX7_laysSets_8 4 rfl rfl)
theorem dX7_laysSets_194 : decode cX7_laysSets 194 = .ok (.dup2, 1) := dk_92 (dk_at dksX7_laysSets_8 6 rfl rfl)
theorem dX7_laysSets_195 : decode cX7_laysSets 195 = .ok (.iaload, 1) := dk_46 (dk_at dksX7_laysSets_8 7 rfl rfl)
theorem dX7_laysSets_196 : decode cX7_laysSets 196 = .ok (.iload 4, 2) := dk_21 4 (dk_at dksX7_laysSets_8 8 rfl rfl)
theorem dX7_laysSets_198 : decode cX7_laysSets 198 = .ok (.iload 5, 2) := dk_21 5 (dk_at dksX7_laysSets_8 10 rfl rfl)
theorem dX7_laysSets_200 : decode cX7_laysSets 200 = .ok (.invokestatic 307, 3) := dk_184 1 51 (dk_at dksX7_laysSets_8 12 rfl rfl)
theorem dX7_laysSets_203 : decode cX7_laysSets 203 = .ok (.ifCond .eq 7, 3) := dk_153 0 7 (dk_at dksX7_laysSets_8 15 rfl rfl)
theorem dX7_laysSets_206 : decode cX7_laysSets 206 = .ok (.iconst 1, 1) := dk_4 (dk_at dksX7_laysSets_8 18 rfl rfl)
theorem dX7_laysSets_207 : decode cX7_laysSets 207 = .ok (.goto 4, 3) := dk_167 0 4 (dk_at dksX7_laysSets_8 19 rfl rfl)
theorem dX7_laysSets_210 : decode cX7_laysSets 210 = .ok (.iconst 0, 1) := dk_3 (dk_at dksX7_laysSets_8 22 rfl rfl)
theorem dX7_laysSets_211 : decode cX7_laysSets 211 = .ok (.iadd, 1) := dk_96 (dk_at dksX7_laysSets_8 23 rfl rfl)
theorem dX7_laysSets_212 : decode cX7_laysSets 212 = .ok (.iastore, 1) := dk_79 (dk_at dksX7_laysSets_9 0 rfl rfl)
theorem dX7_laysSets_213 : decode cX7_laysSets 213 = .ok (.iinc 5 1, 3) := dk_132 5 1 (dk_at dksX7_laysSets_9 1 rfl rfl)
theorem dX7_laysSets_216 : decode cX7_laysSets 216 = .ok (.goto (-37), 3) := dk_167 255 219 (dk_at dksX7_laysSets_9 4 rfl rfl)
theorem dX7_laysSets_219 : decode cX7_laysSets 219 = .ok (.iinc 4 1, 3) := dk_132 4 1 (dk_at dksX7_laysSets_9 7 rfl rfl)
theorem dX7_laysSets_222 : decode cX7_laysSets 222 = .ok (.goto (-141), 3) := dk_167 255 115 (dk_at dksX7_laysSets_9 10 rfl rfl)
theorem dX7_laysSets_225 : decode cX7_laysSets 225 = .ok (.aload_n 0, 1) := dk_42 (dk_at dksX7_laysSets_9 13 rfl rfl)
theorem dX7_laysSets_226 : decode cX7_laysSets 226 = .ok (.iload_n 3, 1) := dk_29 (dk_at dksX7_laysSets_9 14 rfl rfl)
theorem dX7_laysSets_227 : decode cX7_laysSets 227 = .ok (.aload_n 0, 1) := dk_42 (dk_at dksX7_laysSets_9 15 rfl rfl)
theorem dX7_laysSets_228 : decode cX7_laysSets 228 = .ok (.getfield 398, 3) := dk_180 1 142 (dk_at dksX7_laysSets_9 16 rfl rfl)
theorem dX7_laysSets_231 : decode cX7_laysSets 231 = .ok (.iconst (-1), 1) := dk_2 (dk_at dksX7_laysSets_9 19 rfl rfl)
theorem dX7_laysSets_232 : decode cX7_laysSets 232 = .ok (.ixor, 1) := dk_130 (dk_at dksX7_laysSets_9 20 rfl rfl)
theorem dX7_laysSets_233 : decode cX7_laysSets 233 = .ok (.iand, 1) := dk_126 (dk_at dksX7_laysSets_9 21 rfl rfl)
theorem dX7_laysSets_234 : decode cX7_laysSets 234 = .ok (.putfield 398, 3) := dk_181 1 142 (dk_at dksX7_laysSets_10 0 rfl rfl)
theorem dX7_laysSets_237 : decode cX7_laysSets 237 = .ok (.aload_n 0, 1) := dk_42 (dk_at dksX7_laysSets_10 3 rfl rfl)
theorem dX7_laysSets_238 : decode cX7_laysSets 238 = .ok (.iconst (-1), 1) := dk_2 (dk_at dksX7_laysSets_10 4 rfl rfl)
theorem dX7_laysSets_239 : decode cX7_laysSets 239 = .ok (.putfield 410, 3) := dk_181 1 154 (dk_at dksX7_laysSets_10 5 rfl rfl)
theorem dX7_laysSets_242 : decode cX7_laysSets 242 = .ok (.aload_n 0, 1) := dk_42 (dk_at dksX7_laysSets_10 8 rfl rfl)
theorem dX7_laysSets_243 : decode cX7_laysSets 243 = .ok (.aload_n 0, 1) := dk_42 (dk_at dksX7_laysSets_10 9 rfl rfl)
theorem dX7_laysSets_244 : decode cX7_laysSets 244 = .ok (.getfield 392, 3) := dk_180 1 136 (dk_at dksX7_laysSets_10 10 rfl rfl)
theorem dX7_laysSets_247 : decode cX7_laysSets 247 = .ok (.putfield 413, 3) := dk_181 1 157 (dk_at dksX7_laysSets_10 13 rfl rfl)
theorem dX7_laysSets_250 : decode cX7_laysSets 250 = .ok (.iconst 0, 1) := dk_3 (dk_at dksX7_laysSets_10 16 rfl rfl)
theorem dX7_laysSets_251 : decode cX7_laysSets 251 = .ok (.istore 4, 2) := dk_54 4 (dk_at dksX7_laysSets_10 17 rfl rfl)
theorem dX7_laysSets_253 : decode cX7_laysSets 253 = .ok (.iload 4, 2) := dk_21 4 (dk_at dksX7_laysSets_10 19 rfl rfl)
theorem dX7_laysSets_255 : decode cX7_laysSets 255 = .ok (.aload_n 0, 1) := dk_42 (dk_at dksX7_laysSets_10 21 rfl rfl)
theorem dX7_laysSets_256 : decode cX7_laysSets 256 = .ok (.invokevirtual 286, 3) := dk_182 1 30 (dk_at dksX7_laysSets_11 0 rfl rfl)
theorem dX7_laysSets_259 : decode cX7_laysSets 259 = .ok (.if_icmp .ge 79, 3) := dk_162 0 79 (dk_at dksX7_laysSets_11 3 rfl rfl)
theorem dX7_laysSets_262 : decode cX7_laysSets 262 = .ok (.aload_n 0, 1) := dk_42 (dk_at dksX7_laysSets_11 6 rfl rfl)
theorem dX7_laysSets_263 : decode cX7_laysSets 263 = .ok (.getfield 107, 3) := dk_180 0 107 (dk_at dksX7_laysSets_11 7 rfl rfl)
theorem dX7_laysSets_266 : decode cX7_laysSets 266 = .ok (.iload 4, 2) := dk_21 4 (dk_at dksX7_laysSets_11 10 rfl rfl)
theorem dX7_laysSets_268 : decode cX7_laysSets 268 = .ok (.iaload, 1) := dk_46 (dk_at dksX7_laysSets_11 12 rfl rfl)
theorem dX7_laysSets_269 : decode cX7_laysSets 269 = .ok (.aload_n 0, 1) := dk_42 (dk_at dksX7_laysSets_11 13 rfl rfl)
theorem dX7_laysSets_270 : decode cX7_laysSets 270 = .ok (.getfield 392, 3) := dk_180 1 136 (dk_at dksX7_laysSets_11 14 rfl rfl)
theorem dX7_laysSets_273 : decode cX7_laysSets 273 = .ok (.aload_n 0, 1) := dk_42 (dk_at dksX7_laysSets_11 17 rfl rfl)
theorem dX7_laysSets_274 : decode cX7_laysSets 274 = .ok (.getfield 107, 3) := dk_180 0 107 (dk_at dksX7_laysSets_11 18 rfl rfl)
theorem dX7_laysSets_277 : decode cX7_laysSets 277 = .ok (.iload 4, 2) := dk_21 4 (dk_at dksX7_laysSets_11 21 rfl rfl)
theorem dX7_laysSets_279 : decode cX7_laysSets 279 = .ok (.iaload, 1) := dk_46 (dk_at dksX7_laysSets_11 23 rfl rfl)
theorem dX7_laysSets_280 : decode cX7_laysSets 280 = .ok (.isub, 1) := dk_100 (dk_at dksX7_laysSets_12 0 rfl rfl)
theorem dX7_laysSets_281 : decode cX7_laysSets 281 = .ok (.if_icmp .le 13, 3) := dk_164 0 13 (dk_at dksX7_laysSets_12 1 rfl rfl)
theorem dX7_laysSets_284 : decode cX7_laysSets 284 = .ok (.aload_n 0, 1) := dk_42 (dk_at dksX7_laysSets_12 4 rfl rfl)
theorem dX7_laysSets_285 : decode cX7_laysSets 285 = .ok (.getfield 107, 3) := dk_180 0 107 (dk_at dksX7_laysSets_12 5 rfl rfl)
theorem dX7_laysSets_288 : decode cX7_laysSets 288 = .ok (.iload 4, 2) := dk_21 4 (dk_at dksX7_laysSets_12 8 rfl rfl)
theorem dX7_laysSets_290 : decode cX7_laysSets 290 = .ok (.iaload, 1) := dk_46 (dk_at dksX7_laysSets_12 10 rfl rfl)
theorem dX7_laysSets_291 : decode cX7_laysSets 291 = .ok (.goto 15, 3) := dk_167 0 15 (dk_at dksX7_laysSets_12 11 rfl rfl)
theorem dX7_laysSets_294 : decode cX7_laysSets 294 = .ok (.aload_n 0, 1) := dk_42 (dk_at dksX7_laysSets_12 14 rfl rfl)
theorem dX7_laysSets_295 : decode cX7_laysSets 295 = .ok (.getfield 392, 3) := dk_180 1 136 (dk_at dksX7_laysSets_12 15 rfl rfl)
theorem dX7_laysSets_298 : decode cX7_laysSets 298 = .ok (.aload_n 0, 1) := dk_42 (dk_at dksX7_laysSets_12 18 rfl rfl)
theorem dX7_laysSets_299 : decode cX7_laysSets 299 = .ok (.getfield 107, 3) := dk_180 0 107 (dk_at dksX7_laysSets_12 19 rfl rfl)
theorem dX7_laysSets_302 : decode cX7_laysSets 302 = .ok (.iload 4, 2) := dk_21 4 (dk_at dksX7_laysSets_12 22 rfl rfl)
theorem dX7_laysSets_304 : decode cX7_laysSets 304 = .ok (.iaload, 1) := dk_46 (dk_at dksX7_laysSets_13 0 rfl rfl)
theorem dX7_laysSets_305 : decode cX7_laysSets 305 = .ok (.isub, 1) := dk_100 (dk_at dksX7_laysSets_13 1 rfl rfl)
theorem dX7_laysSets_306 : decode cX7_laysSets 306 = .ok (.istore 5, 2) := dk_54 5 (dk_at dksX7_laysSets_13 2 rfl rfl)
theorem dX7_laysSets_308 : decode cX7_laysSets 308 = .ok (.iload 5, 2) := dk_21 5 (dk_at dksX7_laysSets_13 4 rfl rfl)
theorem dX7_laysSets_310 : decode cX7_laysSets 310 = .ok (.aload_n 0, 1) := dk_42 (dk_at dksX7_laysSets_13 6 rfl rfl)
theorem dX7_laysSets_311 : decode cX7_laysSets 311 = .ok (.getfield 413, 3) := dk_180 1 157 (dk_at dksX7_laysSets_13 7 rfl rfl)
theorem dX7_laysSets_314 : decode cX7_laysSets 314 = .ok (.if_icmp .lt 6, 3) := dk_161 0 6 (dk_at dksX7_laysSets_13 10 rfl rfl)
theorem dX7_laysSets_317 : decode cX7_laysSets 317 = .ok (.goto 15, 3) := dk_167 0 15 (dk_at dksX7_laysSets_13 13 rfl rfl)
theorem dX7_laysSets_320 : decode cX7_laysSets 320 = .ok (.aload_n 0, 1) := dk_42 (dk_at dksX7_laysSets_13 16 rfl rfl)
theorem dX7_laysSets_321 : decode cX7_laysSets 321 = .ok (.iload 4, 2) := dk_21 4 (dk_at dksX7_laysSets_13 17 rfl rfl)
theorem dX7_laysSets_323 : decode cX7_laysSets 323 = .ok (.putfield 410, 3) := dk_181 1 154 (dk_at dksX7_laysSets_13 19 rfl rfl)
theorem dX7_laysSets_326 : decode cX7_laysSets 326 = .ok (.aload_n 0, 1) := dk_42 (dk_at dksX7_laysSets_13 22 rfl rfl)
theorem dX7_laysSets_327 : decode cX7_laysSets 327 = .ok (.iload 5, 2) := dk_21 5 (dk_at dksX7_laysSets_14 0 rfl rfl)
theorem dX7_laysSets_329 : decode cX7_laysSets 329 = .ok (.putfield 413, 3) := dk_181 1 157 (dk_at dksX7_laysSets_14 2 rfl rfl)
theorem dX7_laysSets_332 : decode cX7_laysSets 332 = .ok (.iinc 4 1, 3) := dk_132 4 1 (dk_at dksX7_laysSets_14 5 rfl rfl)
theorem dX7_laysSets_335 : decode cX7_laysSets 335 = .ok (.goto (-82), 3) := dk_167 255 174 (dk_at dksX7_laysSets_14 8 rfl rfl)
theorem dX7_laysSets_338 : decode cX7_laysSets 338 = .ok (.return_, 1) := dk_177 (dk_at dksX7_laysSets_14 11 rfl rfl)
abbrev cX7_isLeft : ByteArray := prog_12_method_107_code
def yX7_isLeft : MethodName := ⟨RX7, "isLeft", "(III)Z"⟩
def dkwX7_isLeft_4 : List UInt8 := [16, 8, 28, 104, 21, 4, 96, 46, 133, 148, 153, 0, 5, 3, 172, 132, 4, 1, 167, 255, 211, 4, 172]
abbrev dktX7_isLeft_4 : List UInt8 := dkwX7_isLeft_4 ++ []
def dkwX7_isLeft_3 : List UInt8 := [180, 0, 71, 28, 46, 162, 0, 40, 42, 180, 0, 16, 16, 60, 27, 104, 21, 4, 96, 47, 42, 180, 0, 65]
abbrev dktX7_isLeft_3 : List UInt8 := dkwX7_isLeft_3 ++ dktX7_isLeft_4
def dkwX7_isLeft_2 : List UInt8 := [42, 180, 0, 13, 27, 46, 42, 180, 0, 71, 28, 46, 159, 0, 5, 3, 172, 3, 54, 4, 21, 4, 42]
abbrev dktX7_isLeft_2 : List UInt8 := dkwX7_isLeft_2 ++ dktX7_isLeft_3
def dkwX7_isLeft_1 : List UInt8 := [153, 0, 18, 42, 28, 42, 180, 0, 56, 21, 4, 46, 21, 4, 182, 1, 64, 87, 132, 4, 1, 167, 255, 220]
abbrev dktX7_isLeft_1 : List UInt8 := dkwX7_isLeft_1 ++ dktX7_isLeft_2
def dkwX7_isLeft_0 : List UInt8 := [42, 182, 1, 68, 3, 54, 4, 21, 4, 42, 182, 1, 30, 162, 0, 33, 29, 21, 4, 184, 1, 51]
abbrev dktX7_isLeft_0 : List UInt8 := dkwX7_isLeft_0 ++ dktX7_isLeft_1
theorem dksX7_isLeft_0 : cX7_isLeft.data.toList.drop 0 = dktX7_isLeft_0 := by decide +kernel
theorem dksX7_isLeft_1 : cX7_isLeft.data.toList.drop 22 = dktX7_isLeft_1 := dk_seg dksX7_isLeft_0 22 rfl rfl
theorem dksX7_isLeft_2 : cX7_isLeft.data.toList.drop 46 = dktX7_isLeft_2 := dk_seg dksX7_isLeft_1 24 rfl rfl
theorem dksX7_isLeft_3 : cX7_isLeft.data.toList.drop 69 = dktX7_isLeft_3 := dk_seg dksX7_isLeft_2 23 rfl rfl
theorem dksX7_isLeft_4 : cX7_isLeft.data.toList.drop 93 = dktX7_isLeft_4 := dk_seg dksX7_isLeft_3 24 rfl rfl
theorem dX7_isLeft_0 : decode cX7_isLeft 0 = .ok (.aload_n 0, 1) := dk_42 (dk_at dksX7_isLeft_0 0 rfl rfl)
theorem dX7_isLeft_1 : decode cX7_isLeft 1 = .ok (.invokevirtual 324, 3) := dk_182 1 68 (dk_at dksX7_isLeft_0 1 rfl rfl)
theorem dX7_isLeft_4 : decode cX7_isLeft 4 = .ok (.iconst 0, 1) := dk_3 (dk_at dksX7_isLeft_0 4 rfl rfl)
theorem dX7_isLeft_5 : decode cX7_isLeft 5 = .ok (.istore 4, 2) := dk_54 4 (dk_at dksX7_isLeft_0 5 rfl rfl)
theorem dX7_isLeft_7 : decode cX7_isLeft 7 = .ok (.iload 4, 2) := dk_21 4 (dk_at dksX7_isLeft_0 7 rfl rfl)
theorem dX7_isLeft_9 : decode cX7_isLeft 9 = .ok (.aload_n 0, 1) := dk_42 (dk_at dksX7_isLeft_0 9 rfl rfl)
theorem dX7_isLeft_10 : decode cX7_isLeft 10 = .ok (.invokevirtual 286, 3) := dk_182 1 30 (dk_at dksX7_isLeft_0 10 rfl rfl)
theorem dX7_isLeft_13 : decode cX7_isLeft 13 = .ok (.if_icmp .ge 33, 3) := dk_162 0 33 (dk_at dksX7_isLeft_0 13 rfl rfl)
theorem dX7_isLeft_16 : decode cX7_isLeft 16 = .ok (.iload_n 3, 1) := dk_29 (dk_at dksX7_isLeft_0 16 rfl rfl)
theorem dX7_isLeft_17 : decode cX7_isLeft 17 = .ok (.iload 4, 2) := dk_21 4 (dk_at dksX7_isLeft_0 17 rfl rfl)
theorem dX7_isLeft_19 : decode cX7_isLeft 19 = .ok (.invokestatic 307, 3) := dk_184 1 51 (dk_at dksX7_isLeft_0 19 rfl rfl)
theorem dX7_isLeft_22 : decode cX7_isLeft 22 = .ok (.ifCond .eq 18, 3) := dk_153 0 18 (dk_at dksX7_isLeft_1 0 rfl rfl)
theorem dX7_isLeft_25 : decode cX7_isLeft 25 = .ok (.aload_n 0, 1) := dk_42 (dk_at dksX7_isLeft_1 3 rfl rfl)
theorem dX7_isLeft_26 : decode cX7_isLeft 26 = .ok (.iload_n 2, 1) := dk_28 (dk_at dksX7_isLeft_1 4 rfl rfl)
theorem dX7_isLeft_27 : decode cX7_isLeft 27 = .ok (.aload_n 0, 1) := dk_42 (dk_at dksX7_isLeft_1 5 rfl rfl)
theorem dX7_isLeft_28 : decode cX7_isLeft 28 = .ok (.getfield 56, 3) := dk_180 0 56 (dk_at dksX7_isLeft_1 6 rfl rfl)
theorem dX7_isLeft_31 : decode cX7_isLeft 31 = .ok (.iload 4, 2) := dk_21 4 (dk_at dksX7_isLeft_1 9 rfl rfl)
theorem dX7_isLeft_33 : decode cX7_isLeft 33 = .ok (.iaload, 1) := dk_46 (dk_at dksX7_isLeft_1 11 rfl rfl)
theorem dX7_isLeft_34 : decode cX7_isLeft 34 = .ok (.iload 4, 2) := dk_21 4 (dk_at dksX7_isLeft_1 12 rfl rfl)
theorem dX7_isLeft_36 : decode cX7_isLeft 36 = .ok (.invokevirtual 320, 3) := dk_182 1 64 (dk_at dksX7_isLeft_1 14 rfl rfl)
theorem dX7_isLeft_39 : decode cX7_isLeft 39 = .ok (.pop, 1) := dk_87 (dk_at dksX7_isLeft_1 17 rfl rfl)
theorem dX7_isLeft_40 : decode cX7_isLeft 40 = .ok (.iinc 4 1, 3) := dk_132 4 1 (dk_at dksX7_isLeft_1 18 rfl rfl)
theorem dX7_isLeft_43 : decode cX7_isLeft 43 = .ok (.goto (-36), 3) := dk_167 255 220 (dk_at dksX7_isLeft_1 21 rfl rfl)
theorem dX7_isLeft_46 : decode cX7_isLeft 46 = .ok (.aload_n 0, 1) := dk_42 (dk_at dksX7_isLeft_2 0 rfl rfl)
theorem dX7_isLeft_47 : decode cX7_isLeft 47 = .ok (.getfield 13, 3) := dk_180 0 13 (dk_at dksX7_isLeft_2 1 rfl rfl)
theorem dX7_isLeft_50 : decode cX7_isLeft 50 = .ok (.iload_n 1, 1) := dk_27 (dk_at dksX7_isLeft_2 4 rfl rfl)
theorem dX7_isLeft_51 : decode cX7_isLeft 51 = .ok (.iaload, 1) := dk_46 (dk_at dksX7_isLeft_2 5 rfl rfl)
theorem dX7_isLeft_52 : decode cX7_isLeft 52 = .ok (.aload_n 0, 1) := dk_42 (dk_at dksX7_isLeft_2 6 rfl rfl)
theorem dX7_isLeft_53 : decode cX7_isLeft 53 = .ok (.getfield 71, 3) := dk_180 0 71 (dk_at dksX7_isLeft_2 7 rfl rfl)
theorem dX7_isLeft_56 : decode cX7_isLeft 56 = .ok (.iload_n 2, 1) := dk_28 (dk_at dksX7_isLeft_2 10 rfl rfl)
theorem dX7_isLeft_57 : decode cX7_isLeft 57 = .ok (.iaload, 1) := dk_46 (dk_at dksX7_isLeft_2 11 rfl rfl)
theorem dX7_isLeft_58 : decode cX7_isLeft 58 = .ok (.if_icmp .eq 5, 3) := dk_159 0 5 (dk_at dksX7_isLeft_2 12 rfl rfl)
theorem dX7_isLeft_61 : decode cX7_isLeft 61 = .ok (.iconst 0, 1) := dk_3 (dk_at dksX7_isLeft_2 15 rfl rfl)
theorem dX7_isLeft_62 : decode cX7_isLeft 62 = .ok (.ireturn, 1) := dk_172 (dk_at dksX7_isLeft_2 16 rfl rfl)
theorem dX7_isLeft_63 : decode cX7_isLeft 63 = .ok (.iconst 0, 1) := dk_3 (dk_at dksX7_isLeft_2 17 rfl rfl)
theorem dX7_isLeft_64 : decode cX7_isLeft 64 = .ok (.istore 4, 2) := dk_54 4 (dk_at dksX7_isLeft_2 18 rfl rfl)
theorem dX7_isLeft_66 : decode cX7_isLeft 66 = .ok (.iload 4, 2) := dk_21 4 (dk_at dksX7_isLeft_2 20 rfl rfl)
theorem dX7_isLeft_68 : decode cX7_isLeft 68 = .ok (.aload_n 0, 1) := dk_42 (dk_at dksX7_isLeft_2 22 rfl rfl)
theorem dX7_isLeft_69 : decode cX7_isLeft 69 = .ok (.getfield 71, 3) := dk_180 0 71 (dk_at dksX7_isLeft_3 0 rfl rfl)
theorem dX7_isLeft_72 : decode cX7_isLeft 72 = .ok (.iload_n 2, 1) := dk_28 (dk_at dksX7_isLeft_3 3 rfl rfl)
theorem dX7_isLeft_73 : decode cX7_isLeft 73 = .ok (.iaload, 1) := dk_46 (dk_at dksX7_isLeft_3 4 rfl rfl)
theorem dX7_isLeft_74 : decode cX7_isLeft 74 = .ok (.if_icmp .ge 40, 3) := dk_162 0 40 (dk_at dksX7_isLeft_3 5 rfl rfl)
theorem dX7_isLeft_77 : decode cX7_isLeft 77 = .ok (.aload_n 0, 1) := dk_42 (dk_at dksX7_isLeft_3 8 rfl rfl)
theorem dX7_isLeft_78 : decode cX7_isLeft 78 = .ok (.getfield 16, 3) := dk_180 0 16 (dk_at dksX7_isLeft_3 9 rfl rfl)
theorem dX7_isLeft_81 : decode cX7_isLeft 81 = .ok (.bipush 60, 2) := dk_16 60 (dk_at dksX7_isLeft_3 12 rfl rfl)
theorem dX7_isLeft_83 : decode cX7_isLeft 83 = .ok (.iload_n 1, 1) := dk_27 (dk_at dksX7_isLeft_3 14 rfl rfl)
theorem dX7_isLeft_84 : decode cX7_isLeft 84 = .ok (.imul, 1) := dk_104 (dk_at dksX7_isLeft_3 15 rfl rfl)
theorem dX7_isLeft_85 : decode cX7_isLeft 85 = .ok (.iload 4, 2) := dk_21 4 (dk_at dksX7_isLeft_3 16 rfl rfl)
theorem dX7_isLeft_87 : decode cX7_isLeft 87 = .ok (.iadd, 1) := dk_96 (dk_at dksX7_isLeft_3 18 rfl rfl)
theorem dX7_isLeft_88 : decode cX7_isLeft 88 = .ok (.laload, 1) := dk_47 (dk_at dksX7_isLeft_3 19 rfl rfl)
theorem dX7_isLeft_89 : decode cX7_isLeft 89 = .ok (.aload_n 0, 1) := dk_42 (dk_at dksX7_isLeft_3 20 rfl rfl)
theorem dX7_isLeft_90 : decode cX7_isLeft 90 = .ok (.getfield 65, 3) := dk_180 0 65 (dk_at dksX7_isLeft_3 21 rfl rfl)
theorem dX7_isLeft_93 : decode cX7_isLeft 93 = .ok (.bipush 8, 2) := dk_16 8 (dk_at dksX7_isLeft_4 0 rfl rfl)
theorem dX7_isLeft_95 : decode cX7_isLeft 95 = .ok (.iload_n 2, 1) := dk_28 (dk_at dksX7_isLeft_4 2 rfl rfl)
theorem dX7_isLeft_96 : decode cX7_isLeft 96 = .ok (.imul, 1) := dk_104 (dk_at dksX7_isLeft_4 3 rfl rfl)
theorem dX7_isLeft_97 : decode cX7_isLeft 97 = .ok (.iload 4, 2) := dk_21 4 (dk_at dksX7_isLeft_4 4 rfl rfl)
theorem dX7_isLeft_99 : decode cX7_isLeft 99 = .ok (.iadd, 1) := dk_96 (dk_at dksX7_isLeft_4 6 rfl rfl)
theorem dX7_isLeft_100 : decode cX7_isLeft 100 = .ok (.iaload, 1) := dk_46 (dk_at dksX7_isLeft_4 7 rfl rfl)
theorem dX7_isLeft_101 : decode cX7_isLeft 101 = .ok (.i2l, 1) := dk_133 (dk_at dksX7_isLeft_4 8 rfl rfl)
theorem dX7_isLeft_102 : decode cX7_isLeft 102 = .ok (.lcmp, 1) := dk_148 (dk_at dksX7_isLeft_4 9 rfl rfl)
theorem dX7_isLeft_103 : decode cX7_isLeft 103 = .ok (.ifCond .eq 5, 3) := dk_153 0 5 (dk_at dksX7_isLeft_4 10 rfl rfl)
theorem dX7_isLeft_106 : decode cX7_isLeft 106 = .ok (.iconst 0, 1) := dk_3 (dk_at dksX7_isLeft_4 13 rfl rfl)
theorem dX7_isLeft_107 : decode cX7_isLeft 107 = .ok (.ireturn, 1) := dk_172 (dk_at dksX7_isLeft_4 14 rfl rfl)
theorem dX7_isLeft_108 : decode cX7_isLeft 108 = .ok (.iinc 4 1, 3) := dk_132 4 1 (dk_at dksX7_isLeft_4 15 rfl rfl)
theorem dX7_isLeft_111 : decode cX7_isLeft 111 = .ok (.goto (-45), 3) := dk_167 255 211 (dk_at dksX7_isLeft_4 18 rfl rfl)
theorem dX7_isLeft_114 : decode cX7_isLeft 114 = .ok (.iconst 1, 1) := dk_4 (dk_at dksX7_isLeft_4 21 rfl rfl)
theorem dX7_isLeft_115 : decode cX7_isLeft 115 = .ok (.ireturn, 1) := dk_172 (dk_at dksX7_isLeft_4 22 rfl rfl)
abbrev cX7_sizeOf : ByteArray := prog_12_method_47_code
def yX7_sizeOf : MethodName := ⟨RX7, "sizeOf", "(I)I"⟩
def dkwX7_sizeOf_0 : List UInt8 := [3, 60, 26, 61, 28, 153, 0, 15, 132, 1, 1, 28, 28, 4, 100, 126, 61, 167, 255, 243, 27, 172]
abbrev dktX7_sizeOf_0 : List UInt8 := dkwX7_sizeOf_0 ++ []
theorem dksX7_sizeOf_0 : cX7_sizeOf.data.toList.drop 0 = dktX7_sizeOf_0 := by decide +kernel
theorem dX7_sizeOf_0 : decode cX7_sizeOf 0 = .ok (.iconst 0, 1) := dk_3 (dk_at dksX7_sizeOf_0 0 rfl rfl)
theorem dX7_sizeOf_1 : decode cX7_sizeOf 1 = .ok (.istore_n 1, 1) := dk_60 (dk_at dksX7_sizeOf_0 1 rfl rfl)
theorem dX7_sizeOf_2 : decode cX7_sizeOf 2 = .ok (.iload_n 0, 1) := dk_26 (dk_at dksX7_sizeOf_0 2 rfl rfl)
theorem dX7_sizeOf_3 : decode cX7_sizeOf 3 = .ok (.istore_n 2, 1) := dk_61 (dk_at dksX7_sizeOf_0 3 rfl rfl)
theorem dX7_sizeOf_4 : decode cX7_sizeOf 4 = .ok (.iload_n 2, 1) := dk_28 (dk_at dksX7_sizeOf_0 4 rfl rfl)
theorem dX7_sizeOf_5 : decode cX7_sizeOf 5 = .ok (.ifCond .eq 15, 3) := dk_153 0 15 (dk_at dksX7_sizeOf_0 5 rfl rfl)
theorem dX7_sizeOf_8 : decode cX7_sizeOf 8 = .ok (.iinc 1 1, 3) := dk_132 1 1 (dk_at dksX7_sizeOf_0 8 rfl rfl)
theorem dX7_sizeOf_11 : decode cX7_sizeOf 11 = .ok (.iload_n 2, 1) := dk_28 (dk_at dksX7_sizeOf_0 11 rfl rfl)
theorem dX7_sizeOf_12 : decode cX7_sizeOf 12 = .ok (.iload_n 2, 1) := dk_28 (dk_at dksX7_sizeOf_0 12 rfl rfl)
theorem dX7_sizeOf_13 : decode cX7_sizeOf 13 = .ok (.iconst 1, 1) := dk_4 (dk_at dksX7_sizeOf_0 13 rfl rfl)
theorem dX7_sizeOf_14 : decode cX7_sizeOf 14 = .ok (.isub, 1) := dk_100 (dk_at dksX7_sizeOf_0 14 rfl rfl)
theorem dX7_sizeOf_15 : decode cX7_sizeOf 15 = .ok (.iand, 1) := dk_126 (dk_at dksX7_sizeOf_0 15 rfl rfl)
theorem dX7_sizeOf_16 : decode cX7_sizeOf 16 = .ok (.istore_n 2, 1) := dk_61 (dk_at dksX7_sizeOf_0 16 rfl rfl)
theorem dX7_sizeOf_17 : decode cX7_sizeOf 17 = .ok (.goto (-13), 3) := dk_167 255 243 (dk_at dksX7_sizeOf_0 17 rfl rfl)
theorem dX7_sizeOf_20 : decode cX7_sizeOf 20 = .ok (.iload_n 1, 1) := dk_27 (dk_at dksX7_sizeOf_0 20 rfl rfl)
theorem dX7_sizeOf_21 : decode cX7_sizeOf 21 = .ok (.ireturn, 1) := dk_172 (dk_at dksX7_sizeOf_0 21 rfl rfl)
abbrev cX7_surely : ByteArray := prog_12_method_110_code
def yX7_surely : MethodName := ⟨RX7, "surely", "(II)I"⟩
def dkwX7_surely_1 : List UInt8 := [42, 180, 1, 136, 154, 0, 7, 2, 167, 0, 7, 42, 180, 1, 139, 172]
abbrev dktX7_surely_1 : List UInt8 := dkwX7_surely_1 ++ []
def dkwX7_surely_0 : List UInt8 := [42, 3, 181, 0, 116, 42, 27, 28, 182, 1, 160, 62, 29, 153, 0, 5, 29, 172, 42, 27, 28, 182, 1, 163]
abbrev dktX7_surely_0 : List UInt8 := dkwX7_surely_0 ++ dktX7_surely_1
theorem dksX7_surely_0 : cX7_surely.data.toList.drop 0 = dktX7_surely_0 := by decide +kernel
theorem dksX7_surely_1 : cX7_surely.data.toList.drop 24 = dktX7_surely_1 := dk_seg dksX7_surely_0 24 rfl rfl
theorem dX7_surely_0 : decode cX7_surely 0 = .ok (.aload_n 0, 1) := dk_42 (dk_at dksX7_surely_0 0 rfl rfl)
theorem dX7_surely_1 : decode cX7_surely 1 = .ok (.iconst 0, 1) := dk_3 (dk_at dksX7_surely_0 1 rfl rfl)
theorem dX7_surely_2 : decode cX7_surely 2 = .ok (.putfield 116, 3) := dk_181 0 116 (dk_at dksX7_surely_0 2 rfl rfl)
theorem dX7_surely_5 : decode cX7_surely 5 = .ok (.aload_n 0, 1) := dk_42 (dk_at dksX7_surely_0 5 rfl rfl)
theorem dX7_surely_6 : decode cX7_surely 6 = .ok (.iload_n 1, 1) := dk_27 (dk_at dksX7_surely_0 6 rfl rfl)
theorem dX7_surely_7 : decode cX7_surely 7 = .ok (.iload_n 2, 1) := dk_28 (dk_at dksX7_surely_0 7 rfl rfl)
theorem dX7_surely_8 : decode cX7_surely 8 = .ok (.invokevirtual 416, 3) := dk_182 1 160 (dk_at dksX7_surely_0 8 rfl rfl)
theorem dX7_surely_11 : decode cX7_surely 11 = .ok (.istore_n 3, 1) := dk_62 (dk_at dksX7_surely_0 11 rfl rfl)
theorem dX7_surely_12 : decode cX7_surely 12 = .ok (.iload_n 3, 1) := dk_29 (dk_at dksX7_surely_0 12 rfl rfl)
theorem dX7_surely_13 : decode cX7_surely 13 = .ok (.ifCond .eq 5, 3) := dk_153 0 5 (dk_at dksX7_surely_0 13 rfl rfl)
theorem dX7_surely_16 : decode cX7_surely 16 = .ok (.iload_n 3, 1) := dk_29 (dk_at dksX7_surely_0 16 rfl rfl)
theorem dX7_surely_17 : decode cX7_surely 17 = .ok (.ireturn, 1) := dk_172 (dk_at dksX7_surely_0 17 rfl rfl)
theorem dX7_surely_18 : decode cX7_surely 18 = .ok (.aload_n 0, 1) := dk_42 (dk_at dksX7_surely_0 18 rfl rfl)
theorem dX7_surely_19 : decode cX7_surely 19 = .ok (.iload_n 1, 1) := dk_27 (dk_at dksX7_surely_0 19 rfl rfl)
theorem dX7_surely_20 : decode cX7_surely 20 = .ok (.iload_n 2, 1) := dk_28 (dk_at dksX7_surely_0 20 rfl rfl)
theorem dX7_surely_21 : decode cX7_surely 21 = .ok (.invokevirtual 419, 3) := dk_182 1 163 (dk_at dksX7_surely_0 21 rfl rfl)
theorem dX7_surely_24 : decode cX7_surely 24 = .ok (.aload_n 0, 1) := dk_42 (dk_at dksX7_surely_1 0 rfl rfl)
theorem dX7_surely_25 : decode cX7_surely 25 = .ok (.getfield 392, 3) := dk_180 1 136 (dk_at dksX7_surely_1 1 rfl rfl)
theorem dX7_surely_28 : decode cX7_surely 28 = .ok (.ifCond .ne 7, 3) := dk_154 0 7 (dk_at dksX7_surely_1 4 rfl rfl)
theorem dX7_surely_31 : decode cX7_surely 31 = .ok (.iconst (-1), 1) := dk_2 (dk_at dksX7_surely_1 7 rfl rfl)
theorem dX7_surely_32 : decode cX7_surely 32 = .ok (.goto 7, 3) := dk_167 0 7 (dk_at dksX7_surely_1 8 rfl rfl)
theorem dX7_surely_35 : decode cX7_surely 35 = .ok (.aload_n 0, 1) := dk_42 (dk_at dksX7_surely_1 11 rfl rfl)
theorem dX7_surely_36 : decode cX7_surely 36 = .ok (.getfield 395, 3) := dk_180 1 139 (dk_at dksX7_surely_1 12 rfl rfl)
theorem dX7_surely_39 : decode cX7_surely 39 = .ok (.ireturn, 1) := dk_172 (dk_at dksX7_surely_1 15 rfl rfl)
abbrev cX7_never : ByteArray := prog_12_method_111_code
def yX7_never : MethodName := ⟨RX7, "never", "(II)I"⟩
def dkwX7_never_1 : List UInt8 := [42, 180, 1, 136, 154, 0, 7, 2, 167, 0, 7, 42, 180, 1, 142, 172]
abbrev dktX7_never_1 : List UInt8 := dkwX7_never_1 ++ []
def dkwX7_never_0 : List UInt8 := [42, 3, 181, 0, 116, 42, 27, 28, 182, 1, 160, 62, 29, 153, 0, 5, 29, 172, 42, 27, 28, 182, 1, 163]
abbrev dktX7_never_0 : List UInt8 := dkwX7_never_0 ++ dktX7_never_1
theorem dksX7_never_0 : cX7_never.data.toList.drop 0 = dktX7_never_0 := by decide +kernel
theorem dksX7_never_1 : cX7_never.data.toList.drop 24 = dktX7_never_1 := dk_seg dksX7_never_0 24 rfl rfl
theorem dX7_never_0 : decode cX7_never 0 = .ok (.aload_n 0, 1) := dk_42 (dk_at dksX7_never_0 0 rfl rfl)
theorem dX7_never_1 : decode cX7_never 1 = .ok (.iconst 0, 1) := dk_3 (dk_at dksX7_never_0 1 rfl rfl)
theorem dX7_never_2 : decode cX7_never 2 = .ok (.putfield 116, 3) := dk_181 0 116 (dk_at dksX7_never_0 2 rfl rfl)
theorem dX7_never_5 : decode cX7_never 5 = .ok (.aload_n 0, 1) := dk_42 (dk_at dksX7_never_0 5 rfl rfl)
theorem dX7_never_6 : decode cX7_never 6 = .ok (.iload_n 1, 1) := dk_27 (dk_at dksX7_never_0 6 rfl rfl)
theorem dX7_never_7 : decode cX7_never 7 = .ok (.iload_n 2, 1) := dk_28 (dk_at dksX7_never_0 7 rfl rfl)
theorem dX7_never_8 : decode cX7_never 8 = .ok (.invokevirtual 416, 3) := dk_182 1 160 (dk_at dksX7_never_0 8 rfl rfl)
theorem dX7_never_11 : decode cX7_never 11 = .ok (.istore_n 3, 1) := dk_62 (dk_at dksX7_never_0 11 rfl rfl)
theorem dX7_never_12 : decode cX7_never 12 = .ok (.iload_n 3, 1) := dk_29 (dk_at dksX7_never_0 12 rfl rfl)
theorem dX7_never_13 : decode cX7_never 13 = .ok (.ifCond .eq 5, 3) := dk_153 0 5 (dk_at dksX7_never_0 13 rfl rfl)
theorem dX7_never_16 : decode cX7_never 16 = .ok (.iload_n 3, 1) := dk_29 (dk_at dksX7_never_0 16 rfl rfl)
theorem dX7_never_17 : decode cX7_never 17 = .ok (.ireturn, 1) := dk_172 (dk_at dksX7_never_0 17 rfl rfl)
theorem dX7_never_18 : decode cX7_never 18 = .ok (.aload_n 0, 1) := dk_42 (dk_at dksX7_never_0 18 rfl rfl)
theorem dX7_never_19 : decode cX7_never 19 = .ok (.iload_n 1, 1) := dk_27 (dk_at dksX7_never_0 19 rfl rfl)
theorem dX7_never_20 : decode cX7_never 20 = .ok (.iload_n 2, 1) := dk_28 (dk_at dksX7_never_0 20 rfl rfl)
theorem dX7_never_21 : decode cX7_never 21 = .ok (.invokevirtual 419, 3) := dk_182 1 163 (dk_at dksX7_never_0 21 rfl rfl)
theorem dX7_never_24 : decode cX7_never 24 = .ok (.aload_n 0, 1) := dk_42 (dk_at dksX7_never_1 0 rfl rfl)
theorem dX7_never_25 : decode cX7_never 25 = .ok (.getfield 392, 3) := dk_180 1 136 (dk_at dksX7_never_1 1 rfl rfl)
theorem dX7_never_28 : decode cX7_never 28 = .ok (.ifCond .ne 7, 3) := dk_154 0 7 (dk_at dksX7_never_1 4 rfl rfl)
theorem dX7_never_31 : decode cX7_never 31 = .ok (.iconst (-1), 1) := dk_2 (dk_at dksX7_never_1 7 rfl rfl)
theorem dX7_never_32 : decode cX7_never 32 = .ok (.goto 7, 3) := dk_167 0 7 (dk_at dksX7_never_1 8 rfl rfl)
theorem dX7_never_35 : decode cX7_never 35 = .ok (.aload_n 0, 1) := dk_42 (dk_at dksX7_never_1 11 rfl rfl)
theorem dX7_never_36 : decode cX7_never 36 = .ok (.getfield 398, 3) := dk_180 1 142 (dk_at dksX7_never_1 12 rfl rfl)
theorem dX7_never_39 : decode cX7_never 39 = .ok (.ireturn, 1) := dk_172 (dk_at dksX7_never_1 15 rfl rfl)
abbrev cX7_fewest : ByteArray := prog_12_method_112_code
def yX7_fewest : MethodName := ⟨RX7, "fewest", "(II)I"⟩
def dkwX7_fewest_1 : List UInt8 := [42, 180, 1, 145, 172]
abbrev dktX7_fewest_1 : List UInt8 := dkwX7_fewest_1 ++ []
def dkwX7_fewest_0 : List UInt8 := [42, 3, 181, 0, 116, 42, 27, 28, 182, 1, 160, 62, 29, 153, 0, 5, 29, 172, 42, 27, 28, 182, 1, 163]
abbrev dktX7_fewest_0 : List UInt8 := dkwX7_fewest_0 ++ dktX7_fewest_1
theorem dksX7_fewest_0 : cX7_fewest.data.toList.drop 0 = dktX7_fewest_0 := by decide +kernel
theorem dksX7_fewest_1 : cX7_fewest.data.toList.drop 24 = dktX7_fewest_1 := dk_seg dksX7_fewest_0 24 rfl rfl
theorem dX7_fewest_0 : decode cX7_fewest 0 = .ok (.aload_n 0, 1) := dk_42 (dk_at dksX7_fewest_0 0 rfl rfl)
theorem dX7_fewest_1 : decode cX7_fewest 1 = .ok (.iconst 0, 1) := dk_3 (dk_at dksX7_fewest_0 1 rfl rfl)
theorem dX7_fewest_2 : decode cX7_fewest 2 = .ok (.putfield 116, 3) := dk_181 0 116 (dk_at dksX7_fewest_0 2 rfl rfl)
theorem dX7_fewest_5 : decode cX7_fewest 5 = .ok (.aload_n 0, 1) := dk_42 (dk_at dksX7_fewest_0 5 rfl rfl)
theorem dX7_fewest_6 : decode cX7_fewest 6 = .ok (.iload_n 1, 1) := dk_27 (dk_at dksX7_fewest_0 6 rfl rfl)
theorem dX7_fewest_7 : decode cX7_fewest 7 = .ok (.iload_n 2, 1) := dk_28 (dk_at dksX7_fewest_0 7 rfl rfl)
theorem dX7_fewest_8 : decode cX7_fewest 8 = .ok (.invokevirtual 416, 3) := dk_182 1 160 (dk_at dksX7_fewest_0 8 rfl rfl)
theorem dX7_fewest_11 : decode cX7_fewest 11 = .ok (.istore_n 3, 1) := dk_62 (dk_at dksX7_fewest_0 11 rfl rfl)
theorem dX7_fewest_12 : decode cX7_fewest 12 = .ok (.iload_n 3, 1) := dk_29 (dk_at dksX7_fewest_0 12 rfl rfl)
theorem dX7_fewest_13 : decode cX7_fewest 13 = .ok (.ifCond .eq 5, 3) := dk_153 0 5 (dk_at dksX7_fewest_0 13 rfl rfl)
theorem dX7_fewest_16 : decode cX7_fewest 16 = .ok (.iload_n 3, 1) := dk_29 (dk_at dksX7_fewest_0 16 rfl rfl)
theorem dX7_fewest_17 : decode cX7_fewest 17 = .ok (.ireturn, 1) := dk_172 (dk_at dksX7_fewest_0 17 rfl rfl)
theorem dX7_fewest_18 : decode cX7_fewest 18 = .ok (.aload_n 0, 1) := dk_42 (dk_at dksX7_fewest_0 18 rfl rfl)
theorem dX7_fewest_19 : decode cX7_fewest 19 = .ok (.iload_n 1, 1) := dk_27 (dk_at dksX7_fewest_0 19 rfl rfl)
theorem dX7_fewest_20 : decode cX7_fewest 20 = .ok (.iload_n 2, 1) := dk_28 (dk_at dksX7_fewest_0 20 rfl rfl)
theorem dX7_fewest_21 : decode cX7_fewest 21 = .ok (.invokevirtual 419, 3) := dk_182 1 163 (dk_at dksX7_fewest_0 21 rfl rfl)
theorem dX7_fewest_24 : decode cX7_fewest 24 = .ok (.aload_n 0, 1) := dk_42 (dk_at dksX7_fewest_1 0 rfl rfl)
theorem dX7_fewest_25 : decode cX7_fewest 25 = .ok (.getfield 401, 3) := dk_180 1 145 (dk_at dksX7_fewest_1 1 rfl rfl)
theorem dX7_fewest_28 : decode cX7_fewest 28 = .ok (.ireturn, 1) := dk_172 (dk_at dksX7_fewest_1 4 rfl rfl)
abbrev cX7_ask : ByteArray := prog_12_method_113_code
def yX7_ask : MethodName := ⟨RX7, "ask", "(II)I"⟩
def dkwX7_ask_1 : List UInt8 := [42, 180, 1, 154, 172]
abbrev dktX7_ask_1 : List UInt8 := dkwX7_ask_1 ++ []
def dkwX7_ask_0 : List UInt8 := [42, 3, 181, 0, 116, 42, 27, 28, 182, 1, 160, 62, 29, 153, 0, 5, 29, 172, 42, 27, 28, 182, 1, 163]
abbrev dktX7_ask_0 : List UInt8 := dkwX7_ask_0 ++ dktX7_ask_1
theorem dksX7_ask_0 : cX7_ask.data.toList.drop 0 = dktX7_ask_0 := by decide +kernel
theorem dksX7_ask_1 : cX7_ask.data.toList.drop 24 = dktX7_ask_1 := dk_seg dksX7_ask_0 24 rfl rfl
theorem dX7_ask_0 : decode cX7_ask 0 = .ok (.aload_n 0, 1) := dk_42 (dk_at dksX7_ask_0 0 rfl rfl)
theorem dX7_ask_1 : decode cX7_ask 1 = .ok (.iconst 0, 1) := dk_3 (dk_at dksX7_ask_0 1 rfl rfl)
theorem dX7_ask_2 : decode cX7_ask 2 = .ok (.putfield 116, 3) := dk_181 0 116 (dk_at dksX7_ask_0 2 rfl rfl)
theorem dX7_ask_5 : decode cX7_ask 5 = .ok (.aload_n 0, 1) := dk_42 (dk_at dksX7_ask_0 5 rfl rfl)
theorem dX7_ask_6 : decode cX7_ask 6 = .ok (.iload_n 1, 1) := dk_27 (dk_at dksX7_ask_0 6 rfl rfl)
theorem dX7_ask_7 : decode cX7_ask 7 = .ok (.iload_n 2, 1) := dk_28 (dk_at dksX7_ask_0 7 rfl rfl)
theorem dX7_ask_8 : decode cX7_ask 8 = .ok (.invokevirtual 416, 3) := dk_182 1 160 (dk_at dksX7_ask_0 8 rfl rfl)
theorem dX7_ask_11 : decode cX7_ask 11 = .ok (.istore_n 3, 1) := dk_62 (dk_at dksX7_ask_0 11 rfl rfl)
theorem dX7_ask_12 : decode cX7_ask 12 = .ok (.iload_n 3, 1) := dk_29 (dk_at dksX7_ask_0 12 rfl rfl)
theorem dX7_ask_13 : decode cX7_ask 13 = .ok (.ifCond .eq 5, 3) := dk_153 0 5 (dk_at dksX7_ask_0 13 rfl rfl)
theorem dX7_ask_16 : decode cX7_ask 16 = .ok (.iload_n 3, 1) := dk_29 (dk_at dksX7_ask_0 16 rfl rfl)
theorem dX7_ask_17 : decode cX7_ask 17 = .ok (.ireturn, 1) := dk_172 (dk_at dksX7_ask_0 17 rfl rfl)
theorem dX7_ask_18 : decode cX7_ask 18 = .ok (.aload_n 0, 1) := dk_42 (dk_at dksX7_ask_0 18 rfl rfl)
theorem dX7_ask_19 : decode cX7_ask 19 = .ok (.iload_n 1, 1) := dk_27 (dk_at dksX7_ask_0 19 rfl rfl)
theorem dX7_ask_20 : decode cX7_ask 20 = .ok (.iload_n 2, 1) := dk_28 (dk_at dksX7_ask_0 20 rfl rfl)
theorem dX7_ask_21 : decode cX7_ask 21 = .ok (.invokevirtual 419, 3) := dk_182 1 163 (dk_at dksX7_ask_0 21 rfl rfl)
theorem dX7_ask_24 : decode cX7_ask 24 = .ok (.aload_n 0, 1) := dk_42 (dk_at dksX7_ask_1 0 rfl rfl)
theorem dX7_ask_25 : decode cX7_ask 25 = .ok (.getfield 410, 3) := dk_180 1 154 (dk_at dksX7_ask_1 1 rfl rfl)
theorem dX7_ask_28 : decode cX7_ask 28 = .ok (.ireturn, 1) := dk_172 (dk_at dksX7_ask_1 4 rfl rfl)
abbrev cX7_leaves : ByteArray := prog_12_method_114_code
def yX7_leaves : MethodName := ⟨RX7, "leaves", "(II)I"⟩
def dkwX7_leaves_1 : List UInt8 := [42, 180, 1, 157, 172]
abbrev dktX7_leaves_1 : List UInt8 := dkwX7_leaves_1 ++ []
def dkwX7_leaves_0 : List UInt8 := [42, 3, 181, 0, 116, 42, 27, 28, 182, 1, 160, 62, 29, 153, 0, 5, 29, 172, 42, 27, 28, 182, 1, 163]
abbrev dktX7_leaves_0 : List UInt8 := dkwX7_leaves_0 ++ dktX7_leaves_1
theorem dksX7_leaves_0 : cX7_leaves.data.toList.drop 0 = dktX7_leaves_0 := by decide +kernel
theorem dksX7_leaves_1 : cX7_leaves.data.toList.drop 24 = dktX7_leaves_1 := dk_seg dksX7_leaves_0 24 rfl rfl
theorem dX7_leaves_0 : decode cX7_leaves 0 = .ok (.aload_n 0, 1) := dk_42 (dk_at dksX7_leaves_0 0 rfl rfl)
theorem dX7_leaves_1 : decode cX7_leaves 1 = .ok (.iconst 0, 1) := dk_3 (dk_at dksX7_leaves_0 1 rfl rfl)
theorem dX7_leaves_2 : decode cX7_leaves 2 = .ok (.putfield 116, 3) := dk_181 0 116 (dk_at dksX7_leaves_0 2 rfl rfl)
theorem dX7_leaves_5 : decode cX7_leaves 5 = .ok (.aload_n 0, 1) := dk_42 (dk_at dksX7_leaves_0 5 rfl rfl)
theorem dX7_leaves_6 : decode cX7_leaves 6 = .ok (.iload_n 1, 1) := dk_27 (dk_at dksX7_leaves_0 6 rfl rfl)
theorem dX7_leaves_7 : decode cX7_leaves 7 = .ok (.iload_n 2, 1) := dk_28 (dk_at dksX7_leaves_0 7 rfl rfl)
theorem dX7_leaves_8 : decode cX7_leaves 8 = .ok (.invokevirtual 416, 3) := dk_182 1 160 (dk_at dksX7_leaves_0 8 rfl rfl)
theorem dX7_leaves_11 : decode cX7_leaves 11 = .ok (.istore_n 3, 1) := dk_62 (dk_at dksX7_leaves_0 11 rfl rfl)
theorem dX7_leaves_12 : decode cX7_leaves 12 = .ok (.iload_n 3, 1) := dk_29 (dk_at dksX7_leaves_0 12 rfl rfl)
theorem dX7_leaves_13 : decode cX7_leaves 13 = .ok (.ifCond .eq 5, 3) := dk_153 0 5 (dk_at dksX7_leaves_0 13 rfl rfl)
theorem dX7_leaves_16 : decode cX7_leaves 16 = .ok (.iload_n 3, 1) := dk_29 (dk_at dksX7_leaves_0 16 rfl rfl)
theorem dX7_leaves_17 : decode cX7_leaves 17 = .ok (.ireturn, 1) := dk_172 (dk_at dksX7_leaves_0 17 rfl rfl)
theorem dX7_leaves_18 : decode cX7_leaves 18 = .ok (.aload_n 0, 1) := dk_42 (dk_at dksX7_leaves_0 18 rfl rfl)
theorem dX7_leaves_19 : decode cX7_leaves 19 = .ok (.iload_n 1, 1) := dk_27 (dk_at dksX7_leaves_0 19 rfl rfl)
theorem dX7_leaves_20 : decode cX7_leaves 20 = .ok (.iload_n 2, 1) := dk_28 (dk_at dksX7_leaves_0 20 rfl rfl)
theorem dX7_leaves_21 : decode cX7_leaves 21 = .ok (.invokevirtual 419, 3) := dk_182 1 163 (dk_at dksX7_leaves_0 21 rfl rfl)
theorem dX7_leaves_24 : decode cX7_leaves 24 = .ok (.aload_n 0, 1) := dk_42 (dk_at dksX7_leaves_1 0 rfl rfl)
theorem dX7_leaves_25 : decode cX7_leaves 25 = .ok (.getfield 413, 3) := dk_180 1 157 (dk_at dksX7_leaves_1 1 rfl rfl)
theorem dX7_leaves_28 : decode cX7_leaves 28 = .ok (.ireturn, 1) := dk_172 (dk_at dksX7_leaves_1 4 rfl rfl)
abbrev cX7_loads : ByteArray := prog_12_method_119_code
def yX7_loads : MethodName := ⟨RX7, "loads", "(II)I"⟩
def dkwX7_loads_1 : List UInt8 := [42, 180, 1, 171, 172]
abbrev dktX7_loads_1 : List UInt8 := dkwX7_loads_1 ++ []
def dkwX7_loads_0 : List UInt8 := [42, 3, 181, 0, 116, 42, 27, 28, 182, 1, 183, 62, 29, 153, 0, 5, 29, 172, 42, 27, 28, 182, 1, 186]
abbrev dktX7_loads_0 : List UInt8 := dkwX7_loads_0 ++ dktX7_loads_1
theorem dksX7_loads_0 : cX7_loads.data.toList.drop 0 = dktX7_loads_0 := by decide +kernel
theorem dksX7_loads_1 : cX7_loads.data.toList.drop 24 = dktX7_loads_1 := dk_seg dksX7_loads_0 24 rfl rfl
theorem dX7_loads_0 : decode cX7_loads 0 = .ok (.aload_n 0, 1) := dk_42 (dk_at dksX7_loads_0 0 rfl rfl)
theorem dX7_loads_1 : decode cX7_loads 1 = .ok (.iconst 0, 1) := dk_3 (dk_at dksX7_loads_0 1 rfl rfl)
theorem dX7_loads_2 : decode cX7_loads 2 = .ok (.putfield 116, 3) := dk_181 0 116 (dk_at dksX7_loads_0 2 rfl rfl)
theorem dX7_loads_5 : decode cX7_loads 5 = .ok (.aload_n 0, 1) := dk_42 (dk_at dksX7_loads_0 5 rfl rfl)
theorem dX7_loads_6 : decode cX7_loads 6 = .ok (.iload_n 1, 1) := dk_27 (dk_at dksX7_loads_0 6 rfl rfl)
theorem dX7_loads_7 : decode cX7_loads 7 = .ok (.iload_n 2, 1) := dk_28 (dk_at dksX7_loads_0 7 rfl rfl)
theorem dX7_loads_8 : decode cX7_loads 8 = .ok (.invokevirtual 439, 3) := dk_182 1 183 (dk_at dksX7_loads_0 8 rfl rfl)
theorem dX7_loads_11 : decode cX7_loads 11 = .ok (.istore_n 3, 1) := dk_62 (dk_at dksX7_loads_0 11 rfl rfl)
theorem dX7_loads_12 : decode cX7_loads 12 = .ok (.iload_n 3, 1) := dk_29 (dk_at dksX7_loads_0 12 rfl rfl)
theorem dX7_loads_13 : decode cX7_loads 13 = .ok (.ifCond .eq 5, 3) := dk_153 0 5 (dk_at dksX7_loads_0 13 rfl rfl)
theorem dX7_loads_16 : decode cX7_loads 16 = .ok (.iload_n 3, 1) := dk_29 (dk_at dksX7_loads_0 16 rfl rfl)
theorem dX7_loads_17 : decode cX7_loads 17 = .ok (.ireturn, 1) := dk_172 (dk_at dksX7_loads_0 17 rfl rfl)
theorem dX7_loads_18 : decode cX7_loads 18 = .ok (.aload_n 0, 1) := dk_42 (dk_at dksX7_loads_0 18 rfl rfl)
theorem dX7_loads_19 : decode cX7_loads 19 = .ok (.iload_n 1, 1) := dk_27 (dk_at dksX7_loads_0 19 rfl rfl)
theorem dX7_loads_20 : decode cX7_loads 20 = .ok (.iload_n 2, 1) := dk_28 (dk_at dksX7_loads_0 20 rfl rfl)
theorem dX7_loads_21 : decode cX7_loads 21 = .ok (.invokevirtual 442, 3) := dk_182 1 186 (dk_at dksX7_loads_0 21 rfl rfl)
theorem dX7_loads_24 : decode cX7_loads 24 = .ok (.aload_n 0, 1) := dk_42 (dk_at dksX7_loads_1 0 rfl rfl)
theorem dX7_loads_25 : decode cX7_loads 25 = .ok (.getfield 427, 3) := dk_180 1 171 (dk_at dksX7_loads_1 1 rfl rfl)
theorem dX7_loads_28 : decode cX7_loads 28 = .ok (.ireturn, 1) := dk_172 (dk_at dksX7_loads_1 4 rfl rfl)
abbrev cX7_whyNotLoads : ByteArray := prog_12_method_116_code
def yX7_whyNotLoads : MethodName := ⟨RX7, "whyNotLoads", "(II)I"⟩
def dkwX7_whyNotLoads_0 : List UInt8 := [42, 28, 133, 182, 1, 33, 153, 0, 11, 42, 27, 182, 1, 168, 167, 0, 5, 16, 254, 172]
abbrev dktX7_whyNotLoads_0 : List UInt8 := dkwX7_whyNotLoads_0 ++ []
theorem dksX7_whyNotLoads_0 : cX7_whyNotLoads.data.toList.drop 0 = dktX7_whyNotLoads_0 := by decide +kernel
theorem dX7_whyNotLoads_0 : decode cX7_whyNotLoads 0 = .ok (.aload_n 0, 1) := dk_42 (dk_at dksX7_whyNotLoads_0 0 rfl rfl)
theorem dX7_whyNotLoads_1 : decode cX7_whyNotLoads 1 = .ok (.iload_n 2, 1) := dk_28 (dk_at dksX7_whyNotLoads_0 1 rfl rfl)
theorem dX7_whyNotLoads_2 : decode cX7_whyNotLoads 2 = .ok (.i2l, 1) := dk_133 (dk_at dksX7_whyNotLoads_0 2 rfl rfl)
theorem dX7_whyNotLoads_3 : decode cX7_whyNotLoads 3 = .ok (.invokevirtual 289, 3) := dk_182 1 33 (dk_at dksX7_whyNotLoads_0 3 rfl rfl)
theorem dX7_whyNotLoads_6 : decode cX7_whyNotLoads 6 = .ok (.ifCond .eq 11, 3) := dk_153 0 11 (dk_at dksX7_whyNotLoads_0 6 rfl rfl)
theorem dX7_whyNotLoads_9 : decode cX7_whyNotLoads 9 = .ok (.aload_n 0, 1) := dk_42 (dk_at dksX7_whyNotLoads_0 9 rfl rfl)
theorem dX7_whyNotLoads_10 : decode cX7_whyNotLoads 10 = .ok (.iload_n 1, 1) := dk_27 (dk_at dksX7_whyNotLoads_0 10 rfl rfl)
theorem dX7_whyNotLoads_11 : decode cX7_whyNotLoads 11 = .ok (.invokevirtual 424, 3) := dk_182 1 168 (dk_at dksX7_whyNotLoads_0 11 rfl rfl)
theorem dX7_whyNotLoads_14 : decode cX7_whyNotLoads 14 = .ok (.goto 5, 3) := dk_167 0 5 (dk_at dksX7_whyNotLoads_0 14 rfl rfl)
theorem dX7_whyNotLoads_17 : decode cX7_whyNotLoads 17 = .ok (.bipush (-2), 2) := dk_16 254 (dk_at dksX7_whyNotLoads_0 17 rfl rfl)
theorem dX7_whyNotLoads_19 : decode cX7_whyNotLoads 19 = .ok (.ireturn, 1) := dk_172 (dk_at dksX7_whyNotLoads_0 19 rfl rfl)
abbrev cX7_whyNotSags : ByteArray := prog_12_method_115_code
def yX7_whyNotSags : MethodName := ⟨RX7, "whyNotSags", "(I)I"⟩
def dkwX7_whyNotSags_5 : List UInt8 := [167, 255, 187, 3, 172]
abbrev dktX7_whyNotSags_5 : List UInt8 := dkwX7_whyNotSags_5 ++ []
def dkwX7_whyNotSags_4 : List UInt8 := [180, 0, 16, 29, 5, 96, 47, 9, 20, 1, 166, 184, 0, 121, 154, 0, 6, 16, 254, 172, 132, 2, 3]
abbrev dktX7_whyNotSags_4 : List UInt8 := dkwX7_whyNotSags_4 ++ dktX7_whyNotSags_5
def dkwX7_whyNotSags_3 : List UInt8 := [182, 1, 36, 153, 0, 36, 42, 42, 180, 0, 16, 29, 4, 96, 47, 182, 1, 33, 153, 0, 21, 42]
abbrev dktX7_whyNotSags_3 : List UInt8 := dkwX7_whyNotSags_3 ++ dktX7_whyNotSags_4
def dkwX7_whyNotSags_2 : List UInt8 := [180, 0, 13, 27, 46, 162, 0, 65, 16, 60, 27, 104, 28, 96, 62, 42, 42, 180, 0, 16, 29, 47]
abbrev dktX7_whyNotSags_2 : List UInt8 := dkwX7_whyNotSags_2 ++ dktX7_whyNotSags_3
def dkwX7_whyNotSags_1 : List UInt8 := [160, 0, 6, 16, 250, 172, 42, 180, 0, 13, 27, 46, 6, 112, 153, 0, 6, 16, 254, 172, 3, 61, 28, 42]
abbrev dktX7_whyNotSags_1 : List UInt8 := dkwX7_whyNotSags_1 ++ dktX7_whyNotSags_2
def dkwX7_whyNotSags_0 : List UInt8 := [27, 184, 0, 125, 153, 0, 10, 42, 182, 1, 94, 154, 0, 6, 16, 254, 172, 42, 180, 0, 7, 27, 46, 2]
abbrev dktX7_whyNotSags_0 : List UInt8 := dkwX7_whyNotSags_0 ++ dktX7_whyNotSags_1
theorem dksX7_whyNotSags_0 : cX7_whyNotSags.data.toList.drop 0 = dktX7_whyNotSags_0 := by decide +kernel
theorem dksX7_whyNotSags_1 : cX7_whyNotSags.data.toList.drop 24 = dktX7_whyNotSags_1 := dk_seg dksX7_whyNotSags_0 24 rfl rfl
theorem dksX7_whyNotSags_2 : cX7_whyNotSags.data.toList.drop 48 = dktX7_whyNotSags_2 := dk_seg dksX7_whyNotSags_1 24 rfl rfl
theorem dksX7_whyNotSags_3 : cX7_whyNotSags.data.toList.drop 70 = dktX7_whyNotSags_3 := dk_seg dksX7_whyNotSags_2 22 rfl rfl
theorem dksX7_whyNotSags_4 : cX7_whyNotSags.data.toList.drop 92 = dktX7_whyNotSags_4 := dk_seg dksX7_whyNotSags_3 22 rfl rfl
theorem dksX7_whyNotSags_5 : cX7_whyNotSags.data.toList.drop 115 = dktX7_whyNotSags_5 := dk_seg dksX7_whyNotSags_4 23 rfl rfl
theorem dX7_whyNotSags_0 : decode cX7_whyNotSags 0 = .ok (.iload_n 1, 1) := dk_27 (dk_at dksX7_whyNotSags_0 0 rfl rfl)
theorem dX7_whyNotSags_1 : decode cX7_whyNotSags 1 = .ok (.invokestatic 125, 3) := dk_184 0 125 (dk_at dksX7_whyNotSags_0 1 rfl rfl)
theorem dX7_whyNotSags_4 : decode cX7_whyNotSags 4 = .ok (.ifCond .eq 10, 3) := dk_153 0 10 (dk_at dksX7_whyNotSags_0 4 rfl rfl)
theorem dX7_whyNotSags_7 : decode cX7_whyNotSags 7 = .ok (.aload_n 0, 1) := dk_42 (dk_at dksX7_whyNotSags_0 7 rfl rfl)
theorem dX7_whyNotSags_8 : decode cX7_whyNotSags 8 = .ok (.invokevirtual 350, 3) := dk_182 1 94 (dk_at dksX7_whyNotSags_0 8 rfl rfl)
theorem dX7_whyNotSags_11 : decode cX7_whyNotSags 11 = .ok (.ifCond .ne 6, 3) := dk_154 0 6 (dk_at dksX7_whyNotSags_0 11 rfl rfl)
theorem dX7_whyNotSags_14 : decode cX7_whyNotSags 14 = .ok (.bipush (-2), 2) := dk_16 254 (dk_at dksX7_whyNotSags_0 14 rfl rfl)
theorem dX7_whyNotSags_16 : decode cX7_whyNotSags 16 = .ok (.ireturn, 1) := dk_172 (dk_at dksX7_whyNotSags_0 16 rfl rfl)
theorem dX7_whyNotSags_17 : decode cX7_whyNotSags 17 = .ok (.aload_n 0, 1) := dk_42 (dk_at dksX7_whyNotSags_0 17 rfl rfl)
theorem dX7_whyNotSags_18 : decode cX7_whyNotSags 18 = .ok (.getfield 7, 3) := dk_180 0 7 (dk_at dksX7_whyNotSags_0 18 rfl rfl)
theorem dX7_whyNotSags_21 : decode cX7_whyNotSags 21 = .ok (.iload_n 1, 1) := dk_27 (dk_at dksX7_whyNotSags_0 21 rfl rfl)
theorem dX7_whyNotSags_22 : decode cX7_whyNotSags 22 = .ok (.iaload, 1) := dk_46 (dk_at dksX7_whyNotSags_0 22 rfl rfl)
theorem dX7_whyNotSags_23 : decode cX7_whyNotSags 23 = .ok (.iconst (-1), 1) := dk_2 (dk_at dksX7_whyNotSags_0 23 rfl rfl)
theorem dX7_whyNotSags_24 : decode cX7_whyNotSags 24 = .ok (.if_icmp .ne 6, 3) := dk_160 0 6 (dk_at dksX7_whyNotSags_1 0 rfl rfl)
theorem dX7_whyNotSags_27 : decode cX7_whyNotSags 27 = .ok (.bipush (-6), 2) := dk_16 250 (dk_at dksX7_whyNotSags_1 3 rfl rfl)
theorem dX7_whyNotSags_29 : decode cX7_whyNotSags 29 = .ok (.ireturn, 1) := dk_172 (dk_at dksX7_whyNotSags_1 5 rfl rfl)
theorem dX7_whyNotSags_30 : decode cX7_whyNotSags 30 = .ok (.aload_n 0, 1) := dk_42 (dk_at dksX7_whyNotSags_1 6 rfl rfl)
theorem dX7_whyNotSags_31 : decode cX7_whyNotSags 31 = .ok (.getfield 13, 3) := dk_180 0 13 (dk_at dksX7_whyNotSags_1 7 rfl rfl)
theorem dX7_whyNotSags_34 : decode cX7_whyNotSags 34 = .ok (.iload_n 1, 1) := dk_27 (dk_at dksX7_whyNotSags_1 10 rfl rfl)
theorem dX7_whyNotSags_35 : decode cX7_whyNotSags 35 = .ok (.iaload, 1) := dk_46 (dk_at dksX7_whyNotSags_1 11 rfl rfl)
theorem dX7_whyNotSags_36 : decode cX7_whyNotSags 36 = .ok (.iconst 3, 1) := dk_6 (dk_at dksX7_whyNotSags_1 12 rfl rfl)
theorem dX7_whyNotSags_37 : decode cX7_whyNotSags 37 = .ok (.irem, 1) := dk_112 (dk_at dksX7_whyNotSags_1 13 rfl rfl)
theorem dX7_whyNotSags_38 : decode cX7_whyNotSags 38 = .ok (.ifCond .eq 6, 3) := dk_153 0 6 (dk_at dksX7_whyNotSags_1 14 rfl rfl)
theorem dX7_whyNotSags_41 : decode cX7_whyNotSags 41 = .ok (.bipush (-2), 2) := dk_16 254 (dk_at dksX7_whyNotSags_1 17 rfl rfl)
theorem dX7_whyNotSags_43 : decode cX7_whyNotSags 43 = .ok (.ireturn, 1) := dk_172 (dk_at dksX7_whyNotSags_1 19 rfl rfl)
theorem dX7_whyNotSags_44 : decode cX7_whyNotSags 44 = .ok (.iconst 0, 1) := dk_3 (dk_at dksX7_whyNotSags_1 20 rfl rfl)
theorem dX7_whyNotSags_45 : decode cX7_whyNotSags 45 = .ok (.istore_n 2, 1) := dk_61 (dk_at dksX7_whyNotSags_1 21 rfl rfl)
theorem dX7_whyNotSags_46 : decode cX7_whyNotSags 46 = .ok (.iload_n 2, 1) := dk_28 (dk_at dksX7_whyNotSags_1 22 rfl rfl)
theorem dX7_whyNotSags_47 : decode cX7_whyNotSags 47 = .ok (.aload_n 0, 1) := dk_42 (dk_at dksX7_whyNotSags_1 23 rfl rfl)
theorem dX7_whyNotSags_48 : decode cX7_whyNotSags 48 = .ok (.getfield 13, 3) := dk_180 0 13 (dk_at dksX7_whyNotSags_2 0 rfl rfl)
theorem dX7_whyNotSags_51 : decode cX7_whyNotSags 51 = .ok (.iload_n 1, 1) := dk_27 (dk_at dksX7_whyNotSags_2 3 rfl rfl)
theorem dX7_whyNotSags_52 : decode cX7_whyNotSags 52 = .ok (.iaload, 1) := dk_46 (dk_at dksX7_whyNotSags_2 4 rfl rfl)
theorem dX7_whyNotSags_53 : decode cX7_whyNotSags 53 = .ok (.if_icmp .ge 65, 3) := dk_162 0 65 (dk_at dksX7_whyNotSags_2 5 rfl rfl)
theorem dX7_whyNotSags_56 : decode cX7_whyNotSags 56 = .ok (.bipush 60, 2) := dk_16 60 (dk_at dksX7_whyNotSags_2 8 rfl rfl)
theorem dX7_whyNotSags_58 : decode cX7_whyNotSags 58 = .ok (.iload_n 1, 1) := dk_27 (dk_at dksX7_whyNotSags_2 10 rfl rfl)
theorem dX7_whyNotSags_59 : decode cX7_whyNotSags 59 = .ok (.imul, 1) := dk_104 (dk_at dksX7_whyNotSags_2 11 rfl rfl)
theorem dX7_whyNotSags_60 : decode cX7_whyNotSags 60 = .ok (.iload_n 2, 1) := dk_28 (dk_at dksX7_whyNotSags_2 12 rfl rfl)
theorem dX7_whyNotSags_61 : decode cX7_whyNotSags 61 = .ok (.iadd, 1) := dk_96 (dk_at dksX7_whyNotSags_2 13 rfl rfl)
theorem dX7_whyNotSags_62 : decode cX7_whyNotSags 62 = .ok (.istore_n 3, 1) := dk_62 (dk_at dksX7_whyNotSags_2 14 rfl rfl)
theorem dX7_whyNotSags_63 : decode cX7_whyNotSags 63 = .ok (.aload_n 0, 1) := dk_42 (dk_at dksX7_whyNotSags_2 15 rfl rfl)
theorem dX7_whyNotSags_64 : decode cX7_whyNotSags 64 = .ok (.aload_n 0, 1) := dk_42 (dk_at dksX7_whyNotSags_2 16 rfl rfl)
theorem dX7_whyNotSags_65 : decode cX7_whyNotSags 65 = .ok (.getfield 16, 3) := dk_180 0 16 (dk_at dksX7_whyNotSags_2 17 rfl rfl)
theorem dX7_whyNotSags_68 : decode cX7_whyNotSags 68 = .ok (.iload_n 3, 1) := dk_29 (dk_at dksX7_whyNotSags_2 20 rfl rfl)
theorem dX7_whyNotSags_69 : decode cX7_whyNotSags 69 = .ok (.laload, 1) := dk_47 (dk_at dksX7_whyNotSags_2 21 rfl rfl)
theorem dX7_whyNotSags_70 : decode cX7_whyNotSags 70 = .ok (.invokevirtual 292, 3) := dk_182 1 36 (dk_at dksX7_whyNotSags_3 0 rfl rfl)
theorem dX7_whyNotSags_73 : decode cX7_whyNotSags 73 = .ok (.ifCond .eq 36, 3) := dk_153 0 36 (dk_at dksX7_whyNotSags_3 3 rfl rfl)
theorem dX7_whyNotSags_76 : decode cX7_whyNotSags 76 = .ok (.aload_n 0, 1) := dk_42 (dk_at dksX7_whyNotSags_3 6 rfl rfl)
theorem dX7_whyNotSags_77 : decode cX7_whyNotSags 77 = .ok (.aload_n 0, 1) := dk_42 (dk_at dksX7_whyNotSags_3 7 rfl rfl)
theorem dX7_whyNotSags_78 : decode cX7_whyNotSags 78 = .ok (.getfield 16, 3) := dk_180 0 16 (dk_at dksX7_whyNotSags_3 8 rfl rfl)
theorem dX7_whyNotSags_81 : decode cX7_whyNotSags 81 = .ok (.iload_n 3, 1) := dk_29 (dk_at dksX7_whyNotSags_3 11 rfl rfl)
theorem dX7_whyNotSags_82 : decode cX7_whyNotSags 82 = .ok (.iconst 1, 1) := dk_4 (dk_at dksX7_whyNotSags_3 12 rfl rfl)
theorem dX7_whyNotSags_83 : decode cX7_whyNotSags 83 = .ok (.iadd, 1) := dk_96 (dk_at dksX7_whyNotSags_3 13 rfl rfl)
theorem dX7_whyNotSags_84 : decode cX7_whyNotSags 84 = .ok (.laload, 1) := dk_47 (dk_at dksX7_whyNotSags_3 14 rfl rfl)
theorem dX7_whyNotSags_85 : decode cX7_whyNotSags 85 = .ok (.invokevirtual 289, 3) := dk_182 1 33 (dk_at dksX7_whyNotSags_3 15 rfl rfl)
theorem dX7_whyNotSags_88 : decode cX7_whyNotSags 88 = .ok (.ifCond .eq 21, 3) := dk_153 0 21 (dk_at dksX7_whyNotSags_3 18 rfl rfl)
theorem dX7_whyNotSags_91 : decode cX7_whyNotSags 91 = .ok (.aload_n 0, 1) := dk_42 (dk_at dksX7_whyNotSags_3 21 rfl rfl)
theorem dX7_whyNotSags_92 : decode cX7_whyNotSags 92 = .ok (.getfield 16, 3) := dk_180 0 16 (dk_at dksX7_whyNotSags_4 0 rfl rfl)
theorem dX7_whyNotSags_95 : decode cX7_whyNotSags 95 = .ok (.iload_n 3, 1) := dk_29 (dk_at dksX7_whyNotSags_4 3 rfl rfl)
theorem dX7_whyNotSags_96 : decode cX7_whyNotSags 96 = .ok (.iconst 2, 1) := dk_5 (dk_at dksX7_whyNotSags_4 4 rfl rfl)
theorem dX7_whyNotSags_97 : decode cX7_whyNotSags 97 = .ok (.iadd, 1) := dk_96 (dk_at dksX7_whyNotSags_4 5 rfl rfl)
theorem dX7_whyNotSags_98 : decode cX7_whyNotSags 98 = .ok (.laload, 1) := dk_47 (dk_at dksX7_whyNotSags_4 6 rfl rfl)
theorem dX7_whyNotSags_99 : decode cX7_whyNotSags 99 = .ok (.lconst 0, 1) := dk_9 (dk_at dksX7_whyNotSags_4 7 rfl rfl)
theorem dX7_whyNotSags_100 : decode cX7_whyNotSags 100 = .ok (.ldc2_w 422, 3) := dk_20 1 166 (dk_at dksX7_whyNotSags_4 8 rfl rfl)
theorem dX7_whyNotSags_103 : decode cX7_whyNotSags 103 = .ok (.invokestatic 121, 3) := dk_184 0 121 (dk_at dksX7_whyNotSags_4 11 rfl rfl)
theorem dX7_whyNotSags_106 : decode cX7_whyNotSags 106 = .ok (.ifCond .ne 6, 3) := dk_154 0 6 (dk_at dksX7_whyNotSags_4 14 rfl rfl)
theorem dX7_whyNotSags_109 : decode cX7_whyNotSags 109 = .ok (.bipush (-2), 2) := dk_16 254 (dk_at dksX7_whyNotSags_4 17 rfl rfl)
theorem dX7_whyNotSags_111 : decode cX7_whyNotSags 111 = .ok (.ireturn, 1) := dk_172 (dk_at dksX7_whyNotSags_4 19 rfl rfl)
theorem dX7_whyNotSags_112 : decode cX7_whyNotSags 112 = .ok (.iinc 2 3, 3) := dk_132 2 3 (dk_at dksX7_whyNotSags_4 20 rfl rfl)
theorem dX7_whyNotSags_115 : decode cX7_whyNotSags 115 = .ok (.goto (-69), 3) := dk_167 255 187 (dk_at dksX7_whyNotSags_5 0 rfl rfl)
theorem dX7_whyNotSags_118 : decode cX7_whyNotSags 118 = .ok (.iconst 0, 1) := dk_3 (dk_at dksX7_whyNotSags_5 3 rfl rfl)
theorem dX7_whyNotSags_119 : decode cX7_whyNotSags 119 = .ok (.ireturn, 1) := dk_172 (dk_at dksX7_whyNotSags_5 4 rfl rfl)
abbrev cX7_laysLies : ByteArray := prog_12_method_118_code
def yX7_laysLies : MethodName := ⟨RX7, "laysLies", "(II)V"⟩
def dkwX7_laysLies_3 : List UInt8 := [167, 0, 7, 42, 180, 1, 174, 181, 1, 174, 42, 29, 181, 1, 177, 132, 3, 1, 167, 255, 190, 177]
abbrev dktX7_laysLies_3 : List UInt8 := dkwX7_laysLies_3 ++ []
def dkwX7_laysLies_2 : List UInt8 := [167, 0, 38, 42, 89, 180, 1, 171, 4, 96, 181, 1, 171, 42, 42, 180, 1, 174, 2, 160, 0, 7, 29]
abbrev dktX7_laysLies_2 : List UInt8 := dkwX7_laysLies_2 ++ dktX7_laysLies_3
def dkwX7_laysLies_1 : List UInt8 := [163, 0, 66, 42, 180, 0, 56, 28, 29, 79, 42, 182, 1, 77, 42, 27, 182, 1, 180, 154, 0, 6]
abbrev dktX7_laysLies_1 : List UInt8 := dkwX7_laysLies_1 ++ dktX7_laysLies_2
def dkwX7_laysLies_0 : List UInt8 := [42, 182, 1, 74, 42, 3, 181, 1, 171, 42, 2, 181, 1, 174, 42, 2, 181, 1, 177, 4, 62, 29, 16, 99]
abbrev dktX7_laysLies_0 : List UInt8 := dkwX7_laysLies_0 ++ dktX7_laysLies_1
theorem dksX7_laysLies_0 : cX7_laysLies.data.toList.drop 0 = dktX7_laysLies_0 := by decide +kernel
theorem dksX7_laysLies_1 : cX7_laysLies.data.toList.drop 24 = dktX7_laysLies_1 := dk_seg dksX7_laysLies_0 24 rfl rfl
theorem dksX7_laysLies_2 : cX7_laysLies.data.toList.drop 46 = dktX7_laysLies_2 := dk_seg dksX7_laysLies_1 22 rfl rfl
theorem dksX7_laysLies_3 : cX7_laysLies.data.toList.drop 69 = dktX7_laysLies_3 := dk_seg dksX7_laysLies_2 23 rfl rfl
theorem dX7_laysLies_0 : decode cX7_laysLies 0 = .ok (.aload_n 0, 1) := dk_42 (dk_at dksX7_laysLies_0 0 rfl rfl)
theorem dX7_laysLies_1 : decode cX7_laysLies 1 = .ok (.invokevirtual 330, 3) := dk_182 1 74 (dk_at dksX7_laysLies_0 1 rfl rfl)
theorem dX7_laysLies_4 : decode cX7_laysLies 4 = .ok (.aload_n 0, 1) := dk_42 (dk_at dksX7_laysLies_0 4 rfl rfl)
theorem dX7_laysLies_5 : decode cX7_laysLies 5 = .ok (.iconst 0, 1) := dk_3 (dk_at dksX7_laysLies_0 5 rfl rfl)
theorem dX7_laysLies_6 : decode cX7_laysLies 6 = .ok (.putfield 427, 3) := dk_181 1 171 (dk_at dksX7_laysLies_0 6 rfl rfl)
theorem dX7_laysLies_9 : decode cX7_laysLies 9 = .ok (.aload_n 0, 1) := dk_42 (dk_at dksX7_laysLies_0 9 rfl rfl)
theorem dX7_laysLies_10 : decode cX7_laysLies 10 = .ok (.iconst (-1), 1) := dk_2 (dk_at dksX7_laysLies_0 10 rfl rfl)
theorem dX7_laysLies_11 : decode cX7_laysLies 11 = .ok (.putfield 430, 3) := dk_181 1 174 (dk_at dksX7_laysLies_0 11 rfl rfl)
theorem dX7_laysLies_14 : decode cX7_laysLies 14 = .ok (.aload_n 0, 1) := dk_42 (dk_at dksX7_laysLies_0 14 rfl rfl)
theorem dX7_laysLies_15 : decode cX7_laysLies 15 = .ok (.iconst (-1), 1) := dk_2 (dk_at dksX7_laysLies_0 15 rfl rfl)
theorem dX7_laysLies_16 : decode cX7_laysLies 16 = .ok (.putfield 433, 3) := dk_181 1 177 (dk_at dksX7_laysLies_0 16 rfl rfl)
theorem dX7_laysLies_19 : decode cX7_laysLies 19 = .ok (.iconst 1, 1) := dk_4 (dk_at dksX7_laysLies_0 19 rfl rfl)
theorem dX7_laysLies_20 : decode cX7_laysLies 20 = .ok (.istore_n 3, 1) := dk_62 (dk_at dksX7_laysLies_0 20 rfl rfl)
theorem dX7_laysLies_21 : decode cX7_laysLies 21 = .ok (.iload_n 3, 1) := dk_29 (dk_at dksX7_laysLies_0 21 rfl rfl)
theorem dX7_laysLies_22 : decode cX7_laysLies 22 = .ok (.bipush 99, 2) := dk_16 99 (dk_at dksX7_laysLies_0 22 rfl rfl)
theorem dX7_laysLies_24 : decode cX7_laysLies 24 = .ok (.if_icmp .gt 66, 3) := dk_163 0 66 (dk_at dksX7_laysLies_1 0 rfl rfl)
theorem dX7_laysLies_27 : decode cX7_laysLies 27 = .ok (.aload_n 0, 1) := dk_42 (dk_at dksX7_laysLies_1 3 rfl rfl)
theorem dX7_laysLies_28 : decode cX7_laysLies 28 = .ok (.getfield 56, 3) := dk_180 0 56 (dk_at dksX7_laysLies_1 4 rfl rfl)
theorem dX7_laysLies_31 : decode cX7_laysLies 31 = .ok (.iload_n 2, 1) := dk_28 (dk_at dksX7_laysLies_1 7 rfl rfl)
theorem dX7_laysLies_32 : decode cX7_laysLies 32 = .ok (.iload_n 3, 1) := dk_29 (dk_at dksX7_laysLies_1 8 rfl rfl)
theorem dX7_laysLies_33 : decode cX7_laysLies 33 = .ok (.iastore, 1) := dk_79 (dk_at dksX7_laysLies_1 9 rfl rfl)
theorem dX7_laysLies_34 : decode cX7_laysLies 34 = .ok (.aload_n 0, 1) := dk_42 (dk_at dksX7_laysLies_1 10 rfl rfl)
theorem dX7_laysLies_35 : decode cX7_laysLies 35 = .ok (.invokevirtual 333, 3) := dk_182 1 77 (dk_at dksX7_laysLies_1 11 rfl rfl)
theorem dX7_laysLies_38 : decode cX7_laysLies 38 = .ok (.aload_n 0, 1) := dk_42 (dk_at dksX7_laysLies_1 14 rfl rfl)
theorem dX7_laysLies_39 : decode cX7_laysLies 39 = .ok (.iload_n 1, 1) := dk_27 (dk_at dksX7_laysLies_1 15 rfl rfl)
theorem dX7_laysLies_40 : decode cX7_laysLies 40 = .ok (.invokevirtual 436, 3) := dk_182 1 180 (dk_at dksX7_laysLies_1 16 rfl rfl)
theorem dX7_laysLies_43 : decode cX7_laysLies 43 = .ok (.ifCond .ne 6, 3) := dk_154 0 6 (dk_at dksX7_laysLies_1 19 rfl rfl)
theorem dX7_laysLies_46 : decode cX7_laysLies 46 = .ok (.goto 38, 3) := dk_167 0 38 (dk_at dksX7_laysLies_2 0 rfl rfl)
theorem dX7_laysLies_49 : decode cX7_laysLies 49 = .ok (.aload_n 0, 1) := dk_42 (dk_at dksX7_laysLies_2 3 rfl rfl)
theorem dX7_laysLies_50 : decode cX7_laysLies 50 = .ok (.dup, 1) := dk_89 (dk_at dksX7_laysLies_2 4 rfl rfl)
theorem dX7_laysLies_51 : decode cX7_laysLies 51 = .ok (.getfield 427, 3) := dk_180 1 171 (dk_at dksX7_laysLies_2 5 rfl rfl)
theorem dX7_laysLies_54 : decode cX7_laysLies 54 = .ok (.iconst 1, 1) := dk_4 (dk_at dksX7_laysLies_2 8 rfl rfl)
theorem dX7_laysLies_55 : decode cX7_laysLies 55 = .ok (.iadd, 1) := dk_96 (dk_at dksX7_laysLies_2 9 rfl rfl)
theorem dX7_laysLies_56 : decode cX7_laysLies 56 = .ok (.putfield 427, 3) := dk_181 1 171 (dk_at dksX7_laysLies_2 10 rfl rfl)
theorem dX7_laysLies_59 : decode cX7_laysLies 59 = .ok (.aload_n 0, 1) := dk_42 (dk_at dksX7_laysLies_2 13 rfl rfl)
theorem dX7_laysLies_60 : decode cX7_laysLies 60 = .ok (.aload_n 0, 1) := dk_42 (dk_at dksX7_laysLies_2 14 rfl rfl)
theorem dX7_laysLies_61 : decode cX7_laysLies 61 = .ok (.getfield 430, 3) := dk_180 1 174 (dk_at dksX7_laysLies_2 15 rfl rfl)
theorem dX7_laysLies_64 : decode cX7_laysLies 64 = .ok (.iconst (-1), 1) := dk_2 (dk_at dksX7_laysLies_2 18 rfl rfl)
theorem dX7_laysLies_65 : decode cX7_laysLies 65 = .ok (.if_icmp .ne 7, 3) := dk_160 0 7 (dk_at dksX7_laysLies_2 19 rfl rfl)
theorem dX7_laysLies_68 : decode cX7_laysLies 68 = .ok (.iload_n 3, 1) := dk_29 (dk_at dksX7_laysLies_2 22 rfl rfl)
theorem dX7_laysLies_69 : decode cX7_laysLies 69 = .ok (.goto 7, 3) := dk_167 0 7 (dk_at dksX7_laysLies_3 0 rfl rfl)
theorem dX7_laysLies_72 : decode cX7_laysLies 72 = .ok (.aload_n 0, 1) := dk_42 (dk_at dksX7_laysLies_3 3 rfl rfl)
theorem dX7_laysLies_73 : decode cX7_laysLies 73 = .ok (.getfield 430, 3) := dk_180 1 174 (dk_at dksX7_laysLies_3 4 rfl rfl)
theorem dX7_laysLies_76 : decode cX7_laysLies 76 = .ok (.putfield 430, 3) := dk_181 1 174 (dk_at dksX7_laysLies_3 7 rfl rfl)
theorem dX7_laysLies_79 : decode cX7_laysLies 79 = .ok (.aload_n 0, 1) := dk_42 (dk_at dksX7_laysLies_3 10 rfl rfl)
theorem dX7_laysLies_80 : decode cX7_laysLies 80 = .ok (.iload_n 3, 1) := dk_29 (dk_at dksX7_laysLies_3 11 rfl rfl)
theorem dX7_laysLies_81 : decode cX7_laysLies 81 = .ok (.putfield 433, 3) := dk_181 1 177 (dk_at dksX7_laysLies_3 12 rfl rfl)
theorem dX7_laysLies_84 : decode cX7_laysLies 84 = .ok (.iinc 3 1, 3) := dk_132 3 1 (dk_at dksX7_laysLies_3 15 rfl rfl)
theorem dX7_laysLies_87 : decode cX7_laysLies 87 = .ok (.goto (-66), 3) := dk_167 255 190 (dk_at dksX7_laysLies_3 18 rfl rfl)
theorem dX7_laysLies_90 : decode cX7_laysLies 90 = .ok (.return_, 1) := dk_177 (dk_at dksX7_laysLies_3 21 rfl rfl)
abbrev cX7_isSo : ByteArray := prog_12_method_117_code
def yX7_isSo : MethodName := ⟨RX7, "isSo", "(I)Z"⟩
def dkwX7_isSo_2 : List UInt8 := [29, 5, 96, 47, 148, 153, 0, 5, 3, 172, 132, 2, 3, 167, 255, 197, 4, 172]
abbrev dktX7_isSo_2 : List UInt8 := dkwX7_isSo_2 ++ []
def dkwX7_isSo_1 : List UInt8 := [42, 180, 0, 16, 29, 4, 96, 47, 136, 104, 42, 180, 0, 16, 29, 47, 136, 96, 46, 133, 42, 180, 0, 16]
abbrev dktX7_isSo_1 : List UInt8 := dkwX7_isSo_1 ++ dktX7_isSo_2
def dkwX7_isSo_0 : List UInt8 := [3, 61, 28, 42, 180, 0, 13, 27, 46, 162, 0, 55, 16, 60, 27, 104, 28, 96, 62, 42, 180, 0, 98, 6]
abbrev dktX7_isSo_0 : List UInt8 := dkwX7_isSo_0 ++ dktX7_isSo_1
theorem dksX7_isSo_0 : cX7_isSo.data.toList.drop 0 = dktX7_isSo_0 := by decide +kernel
theorem dksX7_isSo_1 : cX7_isSo.data.toList.drop 24 = dktX7_isSo_1 := dk_seg dksX7_isSo_0 24 rfl rfl
theorem dksX7_isSo_2 : cX7_isSo.data.toList.drop 48 = dktX7_isSo_2 := dk_seg dksX7_isSo_1 24 rfl rfl
theorem dX7_isSo_0 : decode cX7_isSo 0 = .ok (.iconst 0, 1) := dk_3 (dk_at dksX7_isSo_0 0 rfl rfl)
theorem dX7_isSo_1 : decode cX7_isSo 1 = .ok (.istore_n 2, 1) := dk_61 (dk_at dksX7_isSo_0 1 rfl rfl)
theorem dX7_isSo_2 : decode cX7_isSo 2 = .ok (.iload_n 2, 1) := dk_28 (dk_at dksX7_isSo_0 2 rfl rfl)
theorem dX7_isSo_3 : decode cX7_isSo 3 = .ok (.aload_n 0, 1) := dk_42 (dk_at dksX7_isSo_0 3 rfl rfl)
theorem dX7_isSo_4 : decode cX7_isSo 4 = .ok (.getfield 13, 3) := dk_180 0 13 (dk_at dksX7_isSo_0 4 rfl rfl)
theorem dX7_isSo_7 : decode cX7_isSo 7 = .ok (.iload_n 1, 1) := dk_27 (dk_at dksX7_isSo_0 7 rfl rfl)
theorem dX7_isSo_8 : decode cX7_isSo 8 = .ok (.iaload, 1) := dk_46 (dk_at dksX7_isSo_0 8 rfl rfl)
theorem dX7_isSo_9 : decode cX7_isSo 9 = .ok (.if_icmp .ge 55, 3) := dk_162 0 55 (dk_at dksX7_isSo_0 9 rfl rfl)
theorem dX7_isSo_12 : decode cX7_isSo 12 = .ok (.bipush 60, 2) := dk_16 60 (dk_at dksX7_isSo_0 12 rfl rfl)
theorem dX7_isSo_14 : decode cX7_isSo 14 = .ok (.iload_n 1, 1) := dk_27 (dk_at dksX7_isSo_0 14 rfl rfl)
theorem dX7_isSo_15 : decode cX7_isSo 15 = .ok (.imul, 1) := dk_104 (dk_at dksX7_isSo_0 15 rfl rfl)
theorem dX7_isSo_16 : decode cX7_isSo 16 = .ok (.iload_n 2, 1) := dk_28 (dk_at dksX7_isSo_0 16 rfl rfl)
theorem dX7_isSo_17 : decode cX7_isSo 17 = .ok (.iadd, 1) := dk_96 (dk_at dksX7_isSo_0 17 rfl rfl)
theorem dX7_isSo_18 : decode cX7_isSo 18 = .ok (.istore_n 3, 1) := dk_62 (dk_at dksX7_isSo_0 18 rfl rfl)
theorem dX7_isSo_19 : decode cX7_isSo 19 = .ok (.aload_n 0, 1) := dk_42 (dk_at dksX7_isSo_0 19 rfl rfl)
theorem dX7_isSo_20 : decode cX7_isSo 20 = .ok (.getfield 98, 3) := dk_180 0 98 (dk_at dksX7_isSo_0 20 rfl rfl)
theorem dX7_isSo_23 : decode cX7_isSo 23 = .ok (.iconst 3, 1) := dk_6 (dk_at dksX7_isSo_0 23 rfl rfl)
theorem dX7_isSo_24 : decode cX7_isSo 24 = .ok (.aload_n 0, 1) := dk_42 (dk_at dksX7_isSo_1 0 rfl rfl)
theorem dX7_isSo_25 : decode cX7_isSo 25 = .ok (.getfield 16, 3) := dk_180 0 16 (dk_at dksX7_isSo_1 1 rfl rfl)
theorem dX7_isSo_28 : decode cX7_isSo 28 = .ok (.iload_n 3, 1) := dk_29 (dk_at dksX7_isSo_1 4 rfl rfl)
theorem dX7_isSo_29 : decode cX7_isSo 29 = .ok (.iconst 1, 1) := dk_4 (dk_at dksX7_isSo_1 5 rfl rfl)
theorem dX7_isSo_30 : decode cX7_isSo 30 = .ok (.iadd, 1) := dk_96 (dk_at dksX7_isSo_1 6 rfl rfl)
theorem dX7_isSo_31 : decode cX7_isSo 31 = .ok (.laload, 1) := dk_47 (dk_at dksX7_isSo_1 7 rfl rfl)
theorem dX7_isSo_32 : decode cX7_isSo 32 = .ok (.l2i, 1) := dk_136 (dk_at dksX7_isSo_1 8 rfl rfl)
theorem dX7_isSo_33 : decode cX7_isSo 33 = .ok (.imul, 1) := dk_104 (dk_at dksX7_isSo_1 9 rfl rfl)
theorem dX7_isSo_34 : decode cX7_isSo 34 = .ok (.aload_n 0, 1) := dk_42 (dk_at dksX7_isSo_1 10 rfl rfl)
theorem dX7_isSo_35 : decode cX7_isSo 35 = .ok (.getfield 16, 3) := dk_180 0 16 (dk_at dksX7_isSo_1 11 rfl rfl)
theorem dX7_isSo_38 : decode cX7_isSo 38 = .ok (.iload_n 3, 1) := dk_29 (dk_at dksX7_isSo_1 14 rfl rfl)
theorem dX7_isSo_39 : decode cX7_isSo 39 = .ok (.laload, 1) := dk_47 (dk_at dksX7_isSo_1 15 rfl rfl)
theorem dX7_isSo_40 : decode cX7_isSo 40 = .ok (.l2i, 1) := dk_136 (dk_at dksX7_isSo_1 16 rfl rfl)
theorem dX7_isSo_41 : decode cX7_isSo 41 = .ok (.iadd, 1) := dk_96 (dk_at dksX7_isSo_1 17 rfl rfl)
theorem dX7_isSo_42 : decode cX7_isSo 42 = .ok (.iaload, 1) := dk_46 (dk_at dksX7_isSo_1 18 rfl rfl)
theorem dX7_isSo_43 : decode cX7_isSo 43 = .ok (.i2l, 1) := dk_133 (dk_at dksX7_isSo_1 19 rfl rfl)
theorem dX7_isSo_44 : decode cX7_isSo 44 = .ok (.aload_n 0, 1) := dk_42 (dk_at dksX7_isSo_1 20 rfl rfl)
theorem dX7_isSo_45 : decode cX7_isSo 45 = .ok (.getfield 16, 3) := dk_180 0 16 (dk_at dksX7_isSo_1 21 rfl rfl)
theorem dX7_isSo_48 : decode cX7_isSo 48 = .ok (.iload_n 3, 1) := dk_29 (dk_at dksX7_isSo_2 0 rfl rfl)
theorem dX7_isSo_49 : decode cX7_isSo 49 = .ok (.iconst 2, 1) := dk_5 (dk_at dksX7_isSo_2 1 rfl rfl)
theorem dX7_isSo_50 : decode cX7_isSo 50 = .ok (.iadd, 1) := dk_96 (dk_at dksX7_isSo_2 2 rfl rfl)
theorem dX7_isSo_51 : decode cX7_isSo 51 = .ok (.laload, 1) := dk_47 (dk_at dksX7_isSo_2 3 rfl rfl)
theorem dX7_isSo_52 : decode cX7_isSo 52 = .ok (.lcmp, 1) := dk_148 (dk_at dksX7_isSo_2 4 rfl rfl)
theorem dX7_isSo_53 : decode cX7_isSo 53 = .ok (.ifCond .eq 5, 3) := dk_153 0 5 (dk_at dksX7_isSo_2 5 rfl rfl)
theorem dX7_isSo_56 : decode cX7_isSo 56 = .ok (.iconst 0, 1) := dk_3 (dk_at dksX7_isSo_2 8 rfl rfl)
theorem dX7_isSo_57 : decode cX7_isSo 57 = .ok (.ireturn, 1) := dk_172 (dk_at dksX7_isSo_2 9 rfl rfl)
theorem dX7_isSo_58 : decode cX7_isSo 58 = .ok (.iinc 2 3, 3) := dk_132 2 3 (dk_at dksX7_isSo_2 10 rfl rfl)
theorem dX7_isSo_61 : decode cX7_isSo 61 = .ok (.goto (-59), 3) := dk_167 255 197 (dk_at dksX7_isSo_2 13 rfl rfl)
theorem dX7_isSo_64 : decode cX7_isSo 64 = .ok (.iconst 1, 1) := dk_4 (dk_at dksX7_isSo_2 16 rfl rfl)
theorem dX7_isSo_65 : decode cX7_isSo 65 = .ok (.ireturn, 1) := dk_172 (dk_at dksX7_isSo_2 17 rfl rfl)
abbrev cX7_light : ByteArray := prog_12_method_120_code
def yX7_light : MethodName := ⟨RX7, "light", "(II)I"⟩
def dkwX7_light_1 : List UInt8 := [42, 180, 1, 174, 172]
abbrev dktX7_light_1 : List UInt8 := dkwX7_light_1 ++ []
def dkwX7_light_0 : List UInt8 := [42, 3, 181, 0, 116, 42, 27, 28, 182, 1, 183, 62, 29, 153, 0, 5, 29, 172, 42, 27, 28, 182, 1, 186]
abbrev dktX7_light_0 : List UInt8 := dkwX7_light_0 ++ dktX7_light_1
theorem dksX7_light_0 : cX7_light.data.toList.drop 0 = dktX7_light_0 := by decide +kernel
theorem dksX7_light_1 : cX7_light.data.toList.drop 24 = dktX7_light_1 := dk_seg dksX7_light_0 24 rfl rfl
theorem dX7_light_0 : decode cX7_light 0 = .ok (.aload_n 0, 1) := dk_42 (dk_at dksX7_light_0 0 rfl rfl)
theorem dX7_light_1 : decode cX7_light 1 = .ok (.iconst 0, 1) := dk_3 (dk_at dksX7_light_0 1 rfl rfl)
theorem dX7_light_2 : decode cX7_light 2 = .ok (.putfield 116, 3) := dk_181 0 116 (dk_at dksX7_light_0 2 rfl rfl)
theorem dX7_light_5 : decode cX7_light 5 = .ok (.aload_n 0, 1) := dk_42 (dk_at dksX7_light_0 5 rfl rfl)
theorem dX7_light_6 : decode cX7_light 6 = .ok (.iload_n 1, 1) := dk_27 (dk_at dksX7_light_0 6 rfl rfl)
theorem dX7_light_7 : decode cX7_light 7 = .ok (.iload_n 2, 1) := dk_28 (dk_at dksX7_light_0 7 rfl rfl)
theorem dX7_light_8 : decode cX7_light 8 = .ok (.invokevirtual 439, 3) := dk_182 1 183 (dk_at dksX7_light_0 8 rfl rfl)
theorem dX7_light_11 : decode cX7_light 11 = .ok (.istore_n 3, 1) := dk_62 (dk_at dksX7_light_0 11 rfl rfl)
theorem dX7_light_12 : decode cX7_light 12 = .ok (.iload_n 3, 1) := dk_29 (dk_at dksX7_light_0 12 rfl rfl)
theorem dX7_light_13 : decode cX7_light 13 = .ok (.ifCond .eq 5, 3) := dk_153 0 5 (dk_at dksX7_light_0 13 rfl rfl)
theorem dX7_light_16 : decode cX7_light 16 = .ok (.iload_n 3, 1) := dk_29 (dk_at dksX7_light_0 16 rfl rfl)
theorem dX7_light_17 : decode cX7_light 17 = .ok (.ireturn, 1) := dk_172 (dk_at dksX7_light_0 17 rfl rfl)
theorem dX7_light_18 : decode cX7_light 18 = .ok (.aload_n 0, 1) := dk_42 (dk_at dksX7_light_0 18 rfl rfl)
theorem dX7_light_19 : decode cX7_light 19 = .ok (.iload_n 1, 1) := dk_27 (dk_at dksX7_light_0 19 rfl rfl)
theorem dX7_light_20 : decode cX7_light 20 = .ok (.iload_n 2, 1) := dk_28 (dk_at dksX7_light_0 20 rfl rfl)
theorem dX7_light_21 : decode cX7_light 21 = .ok (.invokevirtual 442, 3) := dk_182 1 186 (dk_at dksX7_light_0 21 rfl rfl)
theorem dX7_light_24 : decode cX7_light 24 = .ok (.aload_n 0, 1) := dk_42 (dk_at dksX7_light_1 0 rfl rfl)
theorem dX7_light_25 : decode cX7_light 25 = .ok (.getfield 430, 3) := dk_180 1 174 (dk_at dksX7_light_1 1 rfl rfl)
theorem dX7_light_28 : decode cX7_light 28 = .ok (.ireturn, 1) := dk_172 (dk_at dksX7_light_1 4 rfl rfl)
abbrev cX7_heavy : ByteArray := prog_12_method_121_code
def yX7_heavy : MethodName := ⟨RX7, "heavy", "(II)I"⟩
def dkwX7_heavy_1 : List UInt8 := [42, 180, 1, 177, 172]
abbrev dktX7_heavy_1 : List UInt8 := dkwX7_heavy_1 ++ []
def dkwX7_heavy_0 : List UInt8 := [42, 3, 181, 0, 116, 42, 27, 28, 182, 1, 183, 62, 29, 153, 0, 5, 29, 172, 42, 27, 28, 182, 1, 186]
abbrev dktX7_heavy_0 : List UInt8 := dkwX7_heavy_0 ++ dktX7_heavy_1
theorem dksX7_heavy_0 : cX7_heavy.data.toList.drop 0 = dktX7_heavy_0 := by decide +kernel
theorem dksX7_heavy_1 : cX7_heavy.data.toList.drop 24 = dktX7_heavy_1 := dk_seg dksX7_heavy_0 24 rfl rfl
theorem dX7_heavy_0 : decode cX7_heavy 0 = .ok (.aload_n 0, 1) := dk_42 (dk_at dksX7_heavy_0 0 rfl rfl)
theorem dX7_heavy_1 : decode cX7_heavy 1 = .ok (.iconst 0, 1) := dk_3 (dk_at dksX7_heavy_0 1 rfl rfl)
theorem dX7_heavy_2 : decode cX7_heavy 2 = .ok (.putfield 116, 3) := dk_181 0 116 (dk_at dksX7_heavy_0 2 rfl rfl)
theorem dX7_heavy_5 : decode cX7_heavy 5 = .ok (.aload_n 0, 1) := dk_42 (dk_at dksX7_heavy_0 5 rfl rfl)
theorem dX7_heavy_6 : decode cX7_heavy 6 = .ok (.iload_n 1, 1) := dk_27 (dk_at dksX7_heavy_0 6 rfl rfl)
theorem dX7_heavy_7 : decode cX7_heavy 7 = .ok (.iload_n 2, 1) := dk_28 (dk_at dksX7_heavy_0 7 rfl rfl)
theorem dX7_heavy_8 : decode cX7_heavy 8 = .ok (.invokevirtual 439, 3) := dk_182 1 183 (dk_at dksX7_heavy_0 8 rfl rfl)
theorem dX7_heavy_11 : decode cX7_heavy 11 = .ok (.istore_n 3, 1) := dk_62 (dk_at dksX7_heavy_0 11 rfl rfl)
theorem dX7_heavy_12 : decode cX7_heavy 12 = .ok (.iload_n 3, 1) := dk_29 (dk_at dksX7_heavy_0 12 rfl rfl)
theorem dX7_heavy_13 : decode cX7_heavy 13 = .ok (.ifCond .eq 5, 3) := dk_153 0 5 (dk_at dksX7_heavy_0 13 rfl rfl)
theorem dX7_heavy_16 : decode cX7_heavy 16 = .ok (.iload_n 3, 1) := dk_29 (dk_at dksX7_heavy_0 16 rfl rfl)
theorem dX7_heavy_17 : decode cX7_heavy 17 = .ok (.ireturn, 1) := dk_172 (dk_at dksX7_heavy_0 17 rfl rfl)
theorem dX7_heavy_18 : decode cX7_heavy 18 = .ok (.aload_n 0, 1) := dk_42 (dk_at dksX7_heavy_0 18 rfl rfl)
theorem dX7_heavy_19 : decode cX7_heavy 19 = .ok (.iload_n 1, 1) := dk_27 (dk_at dksX7_heavy_0 19 rfl rfl)
theorem dX7_heavy_20 : decode cX7_heavy 20 = .ok (.iload_n 2, 1) := dk_28 (dk_at dksX7_heavy_0 20 rfl rfl)
theorem dX7_heavy_21 : decode cX7_heavy 21 = .ok (.invokevirtual 442, 3) := dk_182 1 186 (dk_at dksX7_heavy_0 21 rfl rfl)
theorem dX7_heavy_24 : decode cX7_heavy 24 = .ok (.aload_n 0, 1) := dk_42 (dk_at dksX7_heavy_1 0 rfl rfl)
theorem dX7_heavy_25 : decode cX7_heavy 25 = .ok (.getfield 433, 3) := dk_180 1 177 (dk_at dksX7_heavy_1 1 rfl rfl)
theorem dX7_heavy_28 : decode cX7_heavy 28 = .ok (.ireturn, 1) := dk_172 (dk_at dksX7_heavy_1 4 rfl rfl)
abbrev cX7_liars : ByteArray := prog_12_method_122_code
def yX7_liars : MethodName := ⟨RX7, "liars", "(I)I"⟩
def dkwX7_liars_3 : List UInt8 := [132, 4, 1, 167, 255, 219, 29, 172]
abbrev dktX7_liars_3 : List UInt8 := dkwX7_liars_3 ++ []
def dkwX7_liars_2 : List UInt8 := [21, 4, 182, 1, 186, 29, 42, 180, 1, 171, 158, 0, 10, 4, 21, 4, 120, 167, 0, 4, 3, 128, 62]
abbrev dktX7_liars_2 : List UInt8 := dkwX7_liars_2 ++ dktX7_liars_3
def dkwX7_liars_1 : List UInt8 := [182, 1, 180, 153, 0, 5, 3, 172, 3, 62, 3, 54, 4, 21, 4, 42, 182, 1, 30, 162, 0, 34, 42, 27]
abbrev dktX7_liars_1 : List UInt8 := dkwX7_liars_1 ++ dktX7_liars_2
def dkwX7_liars_0 : List UInt8 := [42, 3, 181, 0, 116, 42, 27, 182, 1, 168, 61, 28, 153, 0, 5, 28, 172, 42, 182, 1, 80, 42, 27]
abbrev dktX7_liars_0 : List UInt8 := dkwX7_liars_0 ++ dktX7_liars_1
theorem dksX7_liars_0 : cX7_liars.data.toList.drop 0 = dktX7_liars_0 := by decide +kernel
theorem dksX7_liars_1 : cX7_liars.data.toList.drop 23 = dktX7_liars_1 := dk_seg dksX7_liars_0 23 rfl rfl
theorem dksX7_liars_2 : cX7_liars.data.toList.drop 47 = dktX7_liars_2 := dk_seg dksX7_liars_1 24 rfl rfl
theorem dksX7_liars_3 : cX7_liars.data.toList.drop 70 = dktX7_liars_3 := dk_seg dksX7_liars_2 23 rfl rfl
theorem dX7_liars_0 : decode cX7_liars 0 = .ok (.aload_n 0, 1) := dk_42 (dk_at dksX7_liars_0 0 rfl rfl)
theorem dX7_liars_1 : decode cX7_liars 1 = .ok (.iconst 0, 1) := dk_3 (dk_at dksX7_liars_0 1 rfl rfl)
theorem dX7_liars_2 : decode cX7_liars 2 = .ok (.putfield 116, 3) := dk_181 0 116 (dk_at dksX7_liars_0 2 rfl rfl)
theorem dX7_liars_5 : decode cX7_liars 5 = .ok (.aload_n 0, 1) := dk_42 (dk_at dksX7_liars_0 5 rfl rfl)
theorem dX7_liars_6 : decode cX7_liars 6 = .ok (.iload_n 1, 1) := dk_27 (dk_at dksX7_liars_0 6 rfl rfl)
theorem dX7_liars_7 : decode cX7_liars 7 = .ok (.invokevirtual 424, 3) := dk_182 1 168 (dk_at dksX7_liars_0 7 rfl rfl)
theorem dX7_liars_10 : decode cX7_liars 10 = .ok (.istore_n 2, 1) := dk_61 (dk_at dksX7_liars_0 10 rfl rfl)
theorem dX7_liars_11 : decode cX7_liars 11 = .ok (.iload_n 2, 1) := dk_28 (dk_at dksX7_liars_0 11 rfl rfl)
theorem dX7_liars_12 : decode cX7_liars 12 = .ok (.ifCond .eq 5, 3) := dk_153 0 5 (dk_at dksX7_liars_0 12 rfl rfl)
theorem dX7_liars_15 : decode cX7_liars 15 = .ok (.iload_n 2, 1) := dk_28 (dk_at dksX7_liars_0 15 rfl rfl)
theorem dX7_liars_16 : decode cX7_liars 16 = .ok (.ireturn, 1) := dk_172 (dk_at dksX7_liars_0 16 rfl rfl)
theorem dX7_liars_17 : decode cX7_liars 17 = .ok (.aload_n 0, 1) := dk_42 (dk_at dksX7_liars_0 17 rfl rfl)
theorem dX7_liars_18 : decode cX7_liars 18 = .ok (.invokevirtual 336, 3) := dk_182 1 80 (dk_at dksX7_liars_0 18 rfl rfl)
theorem dX7_liars_21 : decode cX7_liars 21 = .ok (.aload_n 0, 1) := dk_42 (dk_at dksX7_liars_0 21 rfl rfl)
theorem dX7_liars_22 : decode cX7_liars 22 = .ok (.iload_n 1, 1) := dk_27 (dk_at dksX7_liars_0 22 rfl rfl)
theorem dX7_liars_23 : decode cX7_liars 23 = .ok (.invokevirtual 436, 3) := dk_182 1 180 (dk_at dksX7_liars_1 0 rfl rfl)
theorem dX7_liars_26 : decode cX7_liars 26 = .ok (.ifCond .eq 5, 3) := dk_153 0 5 (dk_at dksX7_liars_1 3 rfl rfl)
theorem dX7_liars_29 : decode cX7_liars 29 = .ok (.iconst 0, 1) := dk_3 (dk_at dksX7_liars_1 6 rfl rfl)
theorem dX7_liars_30 : decode cX7_liars 30 = .ok (.ireturn, 1) := dk_172 (dk_at dksX7_liars_1 7 rfl rfl)
theorem dX7_liars_31 : decode cX7_liars 31 = .ok (.iconst 0, 1) := dk_3 (dk_at dksX7_liars_1 8 rfl rfl)
theorem dX7_liars_32 : decode cX7_liars 32 = .ok (.istore_n 3, 1) := dk_62 (dk_at dksX7_liars_1 9 rfl rfl)
theorem dX7_liars_33 : decode cX7_liars 33 = .ok (.iconst 0, 1) := dk_3 (dk_at dksX7_liars_1 10 rfl rfl)
theorem dX7_liars_34 : decode cX7_liars 34 = .ok (.istore 4, 2) := dk_54 4 (dk_at dksX7_liars_1 11 rfl rfl)
theorem dX7_liars_36 : decode cX7_liars 36 = .ok (.iload 4, 2) := dk_21 4 (dk_at dksX7_liars_1 13 rfl rfl)
theorem dX7_liars_38 : decode cX7_liars 38 = .ok (.aload_n 0, 1) := dk_42 (dk_at dksX7_liars_1 15 rfl rfl)
theorem dX7_liars_39 : decode cX7_liars 39 = .ok (.invokevirtual 286, 3) := dk_182 1 30 (dk_at dksX7_liars_1 16 rfl rfl)
theorem dX7_liars_42 : decode cX7_liars 42 = .ok (.if_icmp .ge 34, 3) := dk_162 0 34 (dk_at dksX7_liars_1 19 rfl rfl)
theorem dX7_liars_45 : decode cX7_liars 45 = .ok (.aload_n 0, 1) := dk_42 (dk_at dksX7_liars_1 22 rfl rfl)
theorem dX7_liars_46 : decode cX7_liars 46 = .ok (.iload_n 1, 1) := dk_27 (dk_at dksX7_liars_1 23 rfl rfl)
theorem dX7_liars_47 : decode cX7_liars 47 = .ok (.iload 4, 2) := dk_21 4 (dk_at dksX7_liars_2 0 rfl rfl)
theorem dX7_liars_49 : decode cX7_liars 49 = .ok (.invokevirtual 442, 3) := dk_182 1 186 (dk_at dksX7_liars_2 2 rfl rfl)
theorem dX7_liars_52 : decode cX7_liars 52 = .ok (.iload_n 3, 1) := dk_29 (dk_at dksX7_liars_2 5 rfl rfl)
theorem dX7_liars_53 : decode cX7_liars 53 = .ok (.aload_n 0, 1) := dk_42 (dk_at dksX7_liars_2 6 rfl rfl)
theorem dX7_liars_54 : decode cX7_liars 54 = .ok (.getfield 427, 3) := dk_180 1 171 (dk_at dksX7_liars_2 7 rfl rfl)
theorem dX7_liars_57 : decode cX7_liars 57 = .ok (.ifCond .le 10, 3) := dk_158 0 10 (dk_at dksX7_liars_2 10 rfl rfl)
theorem dX7_liars_60 : decode cX7_liars 60 = .ok (.iconst 1, 1) := dk_4 (dk_at dksX7_liars_2 13 rfl rfl)
theorem dX7_liars_61 : decode cX7_liars 61 = .ok (.iload 4, 2) := dk_21 4 (dk_at dksX7_liars_2 14 rfl rfl)
theorem dX7_liars_63 : decode cX7_liars 63 = .ok (.ishl, 1) := dk_120 (dk_at dksX7_liars_2 16 rfl rfl)
theorem dX7_liars_64 : decode cX7_liars 64 = .ok (.goto 4, 3) := dk_167 0 4 (dk_at dksX7_liars_2 17 rfl rfl)
theorem dX7_liars_67 : decode cX7_liars 67 = .ok (.iconst 0, 1) := dk_3 (dk_at dksX7_liars_2 20 rfl rfl)
theorem dX7_liars_68 : decode cX7_liars 68 = .ok (.ior, 1) := dk_128 (dk_at dksX7_liars_2 21 rfl rfl)
theorem dX7_liars_69 : decode cX7_liars 69 = .ok (.istore_n 3, 1) := dk_62 (dk_at dksX7_liars_2 22 rfl rfl)
theorem dX7_liars_70 : decode cX7_liars 70 = .ok (.iinc 4 1, 3) := dk_132 4 1 (dk_at dksX7_liars_3 0 rfl rfl)
theorem dX7_liars_73 : decode cX7_liars 73 = .ok (.goto (-37), 3) := dk_167 255 219 (dk_at dksX7_liars_3 3 rfl rfl)
theorem dX7_liars_76 : decode cX7_liars 76 = .ok (.iload_n 3, 1) := dk_29 (dk_at dksX7_liars_3 6 rfl rfl)
theorem dX7_liars_77 : decode cX7_liars 77 = .ok (.ireturn, 1) := dk_172 (dk_at dksX7_liars_3 7 rfl rfl)
abbrev cX7_laws : ByteArray := prog_12_method_124_code
def yX7_laws : MethodName := ⟨RX7, "laws", "(I)I"⟩
def dkwX7_laws_2 : List UInt8 := [167, 0, 4, 3, 128, 62, 132, 4, 1, 167, 255, 221, 29, 172]
abbrev dktX7_laws_2 : List UInt8 := dkwX7_laws_2 ++ []
def dkwX7_laws_1 : List UInt8 := [7, 162, 0, 35, 42, 21, 4, 182, 1, 189, 87, 29, 42, 27, 182, 1, 180, 153, 0, 10, 4, 21, 4, 120]
abbrev dktX7_laws_1 : List UInt8 := dkwX7_laws_1 ++ dktX7_laws_2
def dkwX7_laws_0 : List UInt8 := [42, 3, 181, 0, 116, 42, 27, 182, 1, 168, 61, 28, 153, 0, 5, 28, 172, 3, 62, 3, 54, 4, 21, 4]
abbrev dktX7_laws_0 : List UInt8 := dkwX7_laws_0 ++ dktX7_laws_1
theorem dksX7_laws_0 : cX7_laws.data.toList.drop 0 = dktX7_laws_0 := by decide +kernel
theorem dksX7_laws_1 : cX7_laws.data.toList.drop 24 = dktX7_laws_1 := dk_seg dksX7_laws_0 24 rfl rfl
theorem dksX7_laws_2 : cX7_laws.data.toList.drop 48 = dktX7_laws_2 := dk_seg dksX7_laws_1 24 rfl rfl
theorem dX7_laws_0 : decode cX7_laws 0 = .ok (.aload_n 0, 1) := dk_42 (dk_at dksX7_laws_0 0 rfl rfl)
theorem dX7_laws_1 : decode cX7_laws 1 = .ok (.iconst 0, 1) := dk_3 (dk_at dksX7_laws_0 1 rfl rfl)
theorem dX7_laws_2 : decode cX7_laws 2 = .ok (.putfield 116, 3) := dk_181 0 116 (dk_at dksX7_laws_0 2 rfl rfl)
theorem dX7_laws_5 : decode cX7_laws 5 = .ok (.aload_n 0, 1) := dk_42 (dk_at dksX7_laws_0 5 rfl rfl)
theorem dX7_laws_6 : decode cX7_laws 6 = .ok (.iload_n 1, 1) := dk_27 (dk_at dksX7_laws_0 6 rfl rfl)
theorem dX7_laws_7 : decode cX7_laws 7 = .ok (.invokevirtual 424, 3) := dk_182 1 168 (dk_at dksX7_laws_0 7 rfl rfl)
theorem dX7_laws_10 : decode cX7_laws 10 = .ok (.istore_n 2, 1) := dk_61 (dk_at dksX7_laws_0 10 rfl rfl)
theorem dX7_laws_11 : decode cX7_laws 11 = .ok (.iload_n 2, 1) := dk_28 (dk_at dksX7_laws_0 11 rfl rfl)
theorem dX7_laws_12 : decode cX7_laws 12 = .ok (.ifCond .eq 5, 3) := dk_153 0 5 (dk_at dksX7_laws_0 12 rfl rfl)
theorem dX7_laws_15 : decode cX7_laws 15 = .ok (.iload_n 2, 1) := dk_28 (dk_at dksX7_laws_0 15 rfl rfl)
theorem dX7_laws_16 : decode cX7_laws 16 = .ok (.ireturn, 1) := dk_172 (dk_at dksX7_laws_0 16 rfl rfl)
theorem dX7_laws_17 : decode cX7_laws 17 = .ok (.iconst 0, 1) := dk_3 (dk_at dksX7_laws_0 17 rfl rfl)
theorem dX7_laws_18 : decode cX7_laws 18 = .ok (.istore_n 3, 1) := dk_62 (dk_at dksX7_laws_0 18 rfl rfl)
theorem dX7_laws_19 : decode cX7_laws 19 = .ok (.iconst 0, 1) := dk_3 (dk_at dksX7_laws_0 19 rfl rfl)
theorem dX7_laws_20 : decode cX7_laws 20 = .ok (.istore 4, 2) := dk_54 4 (dk_at dksX7_laws_0 20 rfl rfl)
theorem dX7_laws_22 : decode cX7_laws 22 = .ok (.iload 4, 2) := dk_21 4 (dk_at dksX7_laws_0 22 rfl rfl)
theorem dX7_laws_24 : decode cX7_laws 24 = .ok (.iconst 4, 1) := dk_7 (dk_at dksX7_laws_1 0 rfl rfl)
theorem dX7_laws_25 : decode cX7_laws 25 = .ok (.if_icmp .ge 35, 3) := dk_162 0 35 (dk_at dksX7_laws_1 1 rfl rfl)
theorem dX7_laws_28 : decode cX7_laws 28 = .ok (.aload_n 0, 1) := dk_42 (dk_at dksX7_laws_1 4 rfl rfl)
theorem dX7_laws_29 : decode cX7_laws 29 = .ok (.iload 4, 2) := dk_21 4 (dk_at dksX7_laws_1 5 rfl rfl)
theorem dX7_laws_31 : decode cX7_laws 31 = .ok (.invokevirtual 445, 3) := dk_182 1 189 (dk_at dksX7_laws_1 7 rfl rfl)
theorem dX7_laws_34 : decode cX7_laws 34 = .ok (.pop, 1) := dk_87 (dk_at dksX7_laws_1 10 rfl rfl)
theorem dX7_laws_35 : decode cX7_laws 35 = .ok (.iload_n 3, 1) := dk_29 (dk_at dksX7_laws_1 11 rfl rfl)
theorem dX7_laws_36 : decode cX7_laws 36 = .ok (.aload_n 0, 1) := dk_42 (dk_at dksX7_laws_1 12 rfl rfl)
theorem dX7_laws_37 : decode cX7_laws 37 = .ok (.iload_n 1, 1) := dk_27 (dk_at dksX7_laws_1 13 rfl rfl)
theorem dX7_laws_38 : decode cX7_laws 38 = .ok (.invokevirtual 436, 3) := dk_182 1 180 (dk_at dksX7_laws_1 14 rfl rfl)
theorem dX7_laws_41 : decode cX7_laws 41 = .ok (.ifCond .eq 10, 3) := dk_153 0 10 (dk_at dksX7_laws_1 17 rfl rfl)
theorem dX7_laws_44 : decode cX7_laws 44 = .ok (.iconst 1, 1) := dk_4 (dk_at dksX7_laws_1 20 rfl rfl)
theorem dX7_laws_45 : decode cX7_laws 45 = .ok (.iload 4, 2) := dk_21 4 (dk_at dksX7_laws_1 21 rfl rfl)
theorem dX7_laws_47 : decode cX7_laws 47 = .ok (.ishl, 1) := dk_120 (dk_at dksX7_laws_1 23 rfl rfl)
theorem dX7_laws_48 : decode cX7_laws 48 = .ok (.goto 4, 3) := dk_167 0 4 (dk_at dksX7_laws_2 0 rfl rfl)
theorem dX7_laws_51 : decode cX7_laws 51 = .ok (.iconst 0, 1) := dk_3 (dk_at dksX7_laws_2 3 rfl rfl)
theorem dX7_laws_52 : decode cX7_laws 52 = .ok (.ior, 1) := dk_128 (dk_at dksX7_laws_2 4 rfl rfl)
theorem dX7_laws_53 : decode cX7_laws 53 = .ok (.istore_n 3, 1) := dk_62 (dk_at dksX7_laws_2 5 rfl rfl)
theorem dX7_laws_54 : decode cX7_laws 54 = .ok (.iinc 4 1, 3) := dk_132 4 1 (dk_at dksX7_laws_2 6 rfl rfl)
theorem dX7_laws_57 : decode cX7_laws 57 = .ok (.goto (-35), 3) := dk_167 255 221 (dk_at dksX7_laws_2 9 rfl rfl)
theorem dX7_laws_60 : decode cX7_laws 60 = .ok (.iload_n 3, 1) := dk_29 (dk_at dksX7_laws_2 12 rfl rfl)
theorem dX7_laws_61 : decode cX7_laws 61 = .ok (.ireturn, 1) := dk_172 (dk_at dksX7_laws_2 13 rfl rfl)
abbrev cX7_sagBy : ByteArray := prog_12_method_123_code
def yX7_sagBy : MethodName := ⟨RX7, "sagBy", "(I)I"⟩
def dkwX7_sagBy_0 : List UInt8 := [42, 182, 1, 74, 42, 27, 181, 1, 39, 42, 182, 1, 77, 42, 182, 1, 83, 172]
abbrev dktX7_sagBy_0 : List UInt8 := dkwX7_sagBy_0 ++ []
theorem dksX7_sagBy_0 : cX7_sagBy.data.toList.drop 0 = dktX7_sagBy_0 := by decide +kernel
theorem dX7_sagBy_0 : decode cX7_sagBy 0 = .ok (.aload_n 0, 1) := dk_42 (dk_at dksX7_sagBy_0 0 rfl rfl)
theorem dX7_sagBy_1 : decode cX7_sagBy 1 = .ok (.invokevirtual 330, 3) := dk_182 1 74 (dk_at dksX7_sagBy_0 1 rfl rfl)
theorem dX7_sagBy_4 : decode cX7_sagBy 4 = .ok (.aload_n 0, 1) := dk_42 (dk_at dksX7_sagBy_0 4 rfl rfl)
theorem dX7_sagBy_5 : decode cX7_sagBy 5 = .ok (.iload_n 1, 1) := dk_27 (dk_at dksX7_sagBy_0 5 rfl rfl)
theorem dX7_sagBy_6 : decode cX7_sagBy 6 = .ok (.putfield 295, 3) := dk_181 1 39 (dk_at dksX7_sagBy_0 6 rfl rfl)
theorem dX7_sagBy_9 : decode cX7_sagBy 9 = .ok (.aload_n 0, 1) := dk_42 (dk_at dksX7_sagBy_0 9 rfl rfl)
theorem dX7_sagBy_10 : decode cX7_sagBy 10 = .ok (.invokevirtual 333, 3) := dk_182 1 77 (dk_at dksX7_sagBy_0 10 rfl rfl)
theorem dX7_sagBy_13 : decode cX7_sagBy 13 = .ok (.aload_n 0, 1) := dk_42 (dk_at dksX7_sagBy_0 13 rfl rfl)
theorem dX7_sagBy_14 : decode cX7_sagBy 14 = .ok (.invokevirtual 339, 3) := dk_182 1 83 (dk_at dksX7_sagBy_0 14 rfl rfl)
theorem dX7_sagBy_17 : decode cX7_sagBy 17 = .ok (.ireturn, 1) := dk_172 (dk_at dksX7_sagBy_0 17 rfl rfl)
abbrev cX7_by : ByteArray := prog_12_method_125_code
def yX7_by : MethodName := ⟨RX7, "by", "(I)I"⟩
def dkwX7_by_1 : List UInt8 := [42, 27, 182, 1, 189, 167, 0, 5, 16, 254, 172]
abbrev dktX7_by_1 : List UInt8 := dkwX7_by_1 ++ []
def dkwX7_by_0 : List UInt8 := [42, 3, 181, 0, 116, 42, 182, 1, 94, 153, 0, 23, 27, 133, 9, 20, 0, 119, 184, 0, 121, 153, 0, 11]
abbrev dktX7_by_0 : List UInt8 := dkwX7_by_0 ++ dktX7_by_1
theorem dksX7_by_0 : cX7_by.data.toList.drop 0 = dktX7_by_0 := by decide +kernel
theorem dksX7_by_1 : cX7_by.data.toList.drop 24 = dktX7_by_1 := dk_seg dksX7_by_0 24 rfl rfl
theorem dX7_by_0 : decode cX7_by 0 = .ok (.aload_n 0, 1) := dk_42 (dk_at dksX7_by_0 0 rfl rfl)
theorem dX7_by_1 : decode cX7_by 1 = .ok (.iconst 0, 1) := dk_3 (dk_at dksX7_by_0 1 rfl rfl)
theorem dX7_by_2 : decode cX7_by 2 = .ok (.putfield 116, 3) := dk_181 0 116 (dk_at dksX7_by_0 2 rfl rfl)
theorem dX7_by_5 : decode cX7_by 5 = .ok (.aload_n 0, 1) := dk_42 (dk_at dksX7_by_0 5 rfl rfl)
theorem dX7_by_6 : decode cX7_by 6 = .ok (.invokevirtual 350, 3) := dk_182 1 94 (dk_at dksX7_by_0 6 rfl rfl)
theorem dX7_by_9 : decode cX7_by 9 = .ok (.ifCond .eq 23, 3) := dk_153 0 23 (dk_at dksX7_by_0 9 rfl rfl)
theorem dX7_by_12 : decode cX7_by 12 = .ok (.iload_n 1, 1) := dk_27 (dk_at dksX7_by_0 12 rfl rfl)
theorem dX7_by_13 : decode cX7_by 13 = .ok (.i2l, 1) := dk_133 (dk_at dksX7_by_0 13 rfl rfl)
theorem dX7_by_14 : decode cX7_by 14 = .ok (.lconst 0, 1) := dk_9 (dk_at dksX7_by_0 14 rfl rfl)
theorem dX7_by_15 : decode cX7_by 15 = .ok (.ldc2_w 119, 3) := dk_20 0 119 (dk_at dksX7_by_0 15 rfl rfl)
theorem dX7_by_18 : decode cX7_by 18 = .ok (.invokestatic 121, 3) := dk_184 0 121 (dk_at dksX7_by_0 18 rfl rfl)
theorem dX7_by_21 : decode cX7_by 21 = .ok (.ifCond .eq 11, 3) := dk_153 0 11 (dk_at dksX7_by_0 21 rfl rfl)
theorem dX7_by_24 : decode cX7_by 24 = .ok (.aload_n 0, 1) := dk_42 (dk_at dksX7_by_1 0 rfl rfl)
theorem dX7_by_25 : decode cX7_by 25 = .ok (.iload_n 1, 1) := dk_27 (dk_at dksX7_by_1 1 rfl rfl)
theorem dX7_by_26 : decode cX7_by 26 = .ok (.invokevirtual 445, 3) := dk_182 1 189 (dk_at dksX7_by_1 2 rfl rfl)
theorem dX7_by_29 : decode cX7_by 29 = .ok (.goto 5, 3) := dk_167 0 5 (dk_at dksX7_by_1 5 rfl rfl)
theorem dX7_by_32 : decode cX7_by 32 = .ok (.bipush (-2), 2) := dk_16 254 (dk_at dksX7_by_1 8 rfl rfl)
theorem dX7_by_34 : decode cX7_by 34 = .ok (.ireturn, 1) := dk_172 (dk_at dksX7_by_1 10 rfl rfl)
abbrev cX7_law : ByteArray := prog_12_method_126_code
def yX7_law : MethodName := ⟨RX7, "law", "()I"⟩
def dkwX7_law_1 : List UInt8 := [42, 28, 182, 1, 189, 42, 27, 182, 1, 189, 162, 0, 5, 28, 60, 132, 2, 1, 167, 255, 233, 27, 172]
abbrev dktX7_law_1 : List UInt8 := dkwX7_law_1 ++ []
def dkwX7_law_0 : List UInt8 := [42, 3, 181, 0, 116, 42, 182, 1, 94, 154, 0, 6, 16, 254, 172, 3, 60, 4, 61, 28, 7, 162, 0, 24]
abbrev dktX7_law_0 : List UInt8 := dkwX7_law_0 ++ dktX7_law_1
theorem dksX7_law_0 : cX7_law.data.toList.drop 0 = dktX7_law_0 := by decide +kernel
theorem dksX7_law_1 : cX7_law.data.toList.drop 24 = dktX7_law_1 := dk_seg dksX7_law_0 24 rfl rfl
theorem dX7_law_0 : decode cX7_law 0 = .ok (.aload_n 0, 1) := dk_42 (dk_at dksX7_law_0 0 rfl rfl)
theorem dX7_law_1 : decode cX7_law 1 = .ok (.iconst 0, 1) := dk_3 (dk_at dksX7_law_0 1 rfl rfl)
theorem dX7_law_2 : decode cX7_law 2 = .ok (.putfield 116, 3) := dk_181 0 116 (dk_at dksX7_law_0 2 rfl rfl)
theorem dX7_law_5 : decode cX7_law 5 = .ok (.aload_n 0, 1) := dk_42 (dk_at dksX7_law_0 5 rfl rfl)
theorem dX7_law_6 : decode cX7_law 6 = .ok (.invokevirtual 350, 3) := dk_182 1 94 (dk_at dksX7_law_0 6 rfl rfl)
theorem dX7_law_9 : decode cX7_law 9 = .ok (.ifCond .ne 6, 3) := dk_154 0 6 (dk_at dksX7_law_0 9 rfl rfl)
theorem dX7_law_12 : decode cX7_law 12 = .ok (.bipush (-2), 2) := dk_16 254 (dk_at dksX7_law_0 12 rfl rfl)
theorem dX7_law_14 : decode cX7_law 14 = .ok (.ireturn, 1) := dk_172 (dk_at dksX7_law_0 14 rfl rfl)
theorem dX7_law_15 : decode cX7_law 15 = .ok (.iconst 0, 1) := dk_3 (dk_at dksX7_law_0 15 rfl rfl)
theorem dX7_law_16 : decode cX7_law 16 = .ok (.istore_n 1, 1) := dk_60 (dk_at dksX7_law_0 16 rfl rfl)
theorem dX7_law_17 : decode cX7_law 17 = .ok (.iconst 1, 1) := dk_4 (dk_at dksX7_law_0 17 rfl rfl)
theorem dX7_law_18 : decode cX7_law 18 = .ok (.istore_n 2, 1) := dk_61 (dk_at dksX7_law_0 18 rfl rfl)
theorem dX7_law_19 : decode cX7_law 19 = .ok (.iload_n 2, 1) := dk_28 (dk_at dksX7_law_0 19 rfl rfl)
theorem dX7_law_20 : decode cX7_law 20 = .ok (.iconst 4, 1) := dk_7 (dk_at dksX7_law_0 20 rfl rfl)
theorem dX7_law_21 : decode cX7_law 21 = .ok (.if_icmp .ge 24, 3) := dk_162 0 24 (dk_at dksX7_law_0 21 rfl rfl)
theorem dX7_law_24 : decode cX7_law 24 = .ok (.aload_n 0, 1) := dk_42 (dk_at dksX7_law_1 0 rfl rfl)
theorem dX7_law_25 : decode cX7_law 25 = .ok (.iload_n 2, 1) := dk_28 (dk_at dksX7_law_1 1 rfl rfl)
theorem dX7_law_26 : decode cX7_law 26 = .ok (.invokevirtual 445, 3) := dk_182 1 189 (dk_at dksX7_law_1 2 rfl rfl)
theorem dX7_law_29 : decode cX7_law 29 = .ok (.aload_n 0, 1) := dk_42 (dk_at dksX7_law_1 5 rfl rfl)
theorem dX7_law_30 : decode cX7_law 30 = .ok (.iload_n 1, 1) := dk_27 (dk_at dksX7_law_1 6 rfl rfl)
theorem dX7_law_31 : decode cX7_law 31 = .ok (.invokevirtual 445, 3) := dk_182 1 189 (dk_at dksX7_law_1 7 rfl rfl)
theorem dX7_law_34 : decode cX7_law 34 = .ok (.if_icmp .ge 5, 3) := dk_162 0 5 (dk_at dksX7_law_1 10 rfl rfl)
theorem dX7_law_37 : decode cX7_law 37 = .ok (.iload_n 2, 1) := dk_28 (dk_at dksX7_law_1 13 rfl rfl)
theorem dX7_law_38 : decode cX7_law 38 = .ok (.istore_n 1, 1) := dk_60 (dk_at dksX7_law_1 14 rfl rfl)
theorem dX7_law_39 : decode cX7_law 39 = .ok (.iinc 2 1, 3) := dk_132 2 1 (dk_at dksX7_law_1 15 rfl rfl)
theorem dX7_law_42 : decode cX7_law 42 = .ok (.goto (-23), 3) := dk_167 255 233 (dk_at dksX7_law_1 18 rfl rfl)
theorem dX7_law_45 : decode cX7_law 45 = .ok (.iload_n 1, 1) := dk_27 (dk_at dksX7_law_1 21 rfl rfl)
theorem dX7_law_46 : decode cX7_law 46 = .ok (.ireturn, 1) := dk_172 (dk_at dksX7_law_1 22 rfl rfl)
abbrev cX7_share : ByteArray := prog_12_method_130_code
def yX7_share : MethodName := ⟨RX7, "share", "(II)I"⟩
def dkwX7_share_5 : List UInt8 := [167, 255, 178, 22, 4, 42, 182, 1, 30, 184, 1, 192, 28, 184, 1, 200, 136, 172]
abbrev dktX7_share_5 : List UInt8 := dkwX7_share_5 ++ []
def dkwX7_share_4 : List UInt8 := [182, 1, 133, 42, 29, 21, 6, 2, 130, 126, 182, 1, 133, 100, 133, 105, 97, 55, 4, 132, 6, 1]
abbrev dktX7_share_4 : List UInt8 := dkwX7_share_4 ++ dktX7_share_5
def dkwX7_share_3 : List UInt8 := [182, 1, 30, 21, 7, 100, 4, 100, 184, 1, 192, 105, 42, 29, 21, 6, 4, 27, 120, 128, 2, 130, 126]
abbrev dktX7_share_3 : List UInt8 := dkwX7_share_3 ++ dktX7_share_4
def dkwX7_share_2 : List UInt8 := [184, 1, 51, 153, 0, 6, 167, 0, 60, 21, 6, 184, 1, 151, 54, 7, 22, 4, 21, 7, 184, 1, 192, 42]
abbrev dktX7_share_2 : List UInt8 := dkwX7_share_2 ++ dktX7_share_3
def dkwX7_share_1 : List UInt8 := [4, 42, 182, 1, 30, 120, 4, 100, 62, 9, 55, 4, 3, 54, 6, 21, 6, 29, 163, 0, 78, 21, 6, 27]
abbrev dktX7_share_1 : List UInt8 := dkwX7_share_1 ++ dktX7_share_2
def dkwX7_share_0 : List UInt8 := [42, 3, 181, 0, 116, 42, 27, 133, 182, 1, 33, 153, 0, 10, 28, 184, 1, 86, 154, 0, 6, 16, 254, 172]
abbrev dktX7_share_0 : List UInt8 := dkwX7_share_0 ++ dktX7_share_1
theorem dksX7_share_0 : cX7_share.data.toList.drop 0 = dktX7_share_0 := by decide +kernel
theorem dksX7_share_1 : cX7_share.data.toList.drop 24 = dktX7_share_1 := dk_seg dksX7_share_0 24 rfl rfl
theorem dksX7_share_2 : cX7_share.data.toList.drop 48 = dktX7_share_2 := dk_seg dksX7_share_1 24 rfl rfl
theorem dksX7_share_3 : cX7_share.data.toList.drop 72 = dktX7_share_3 := dk_seg dksX7_share_2 24 rfl rfl
theorem dksX7_share_4 : cX7_share.data.toList.drop 95 = dktX7_share_4 := dk_seg dksX7_share_3 23 rfl rfl
theorem dksX7_share_5 : cX7_share.data.toList.drop 117 = dktX7_share_5 := dk_seg dksX7_share_4 22 rfl rfl
theorem dX7_share_0 : decode cX7_share 0 = .ok (.aload_n 0, 1) := dk_42 (dk_at dksX7_share_0 0 rfl rfl)
theorem dX7_share_1 : decode cX7_share 1 = .ok (.iconst 0, 1) := dk_3 (dk_at dksX7_share_0 1 rfl rfl)
theorem dX7_share_2 : decode cX7_share 2 = .ok (.putfield 116, 3) := dk_181 0 116 (dk_at dksX7_share_0 2 rfl rfl)
theorem dX7_share_5 : decode cX7_share 5 = .ok (.aload_n 0, 1) := dk_42 (dk_at dksX7_share_0 5 rfl rfl)
theorem dX7_share_6 : decode cX7_share 6 = .ok (.iload_n 1, 1) := dk_27 (dk_at dksX7_share_0 6 rfl rfl)
theorem dX7_share_7 : decode cX7_share 7 = .ok (.i2l, 1) := dk_133 (dk_at dksX7_share_0 7 rfl rfl)
theorem dX7_share_8 : decode cX7_share 8 = .ok (.invokevirtual 289, 3) := dk_182 1 33 (dk_at dksX7_share_0 8 rfl rfl)
theorem dX7_share_11 : decode cX7_share 11 = .ok (.ifCond .eq 10, 3) := dk_153 0 10 (dk_at dksX7_share_0 11 rfl rfl)
theorem dX7_share_14 : decode cX7_share 14 = .ok (.iload_n 2, 1) := dk_28 (dk_at dksX7_share_0 14 rfl rfl)
theorem dX7_share_15 : decode cX7_share 15 = .ok (.invokestatic 342, 3) := dk_184 1 86 (dk_at dksX7_share_0 15 rfl rfl)
theorem dX7_share_18 : decode cX7_share 18 = .ok (.ifCond .ne 6, 3) := dk_154 0 6 (dk_at dksX7_share_0 18 rfl rfl)
theorem dX7_share_21 : decode cX7_share 21 = .ok (.bipush (-2), 2) := dk_16 254 (dk_at dksX7_share_0 21 rfl rfl)
theorem dX7_share_23 : decode cX7_share 23 = .ok (.ireturn, 1) := dk_172 (dk_at dksX7_share_0 23 rfl rfl)
theorem dX7_share_24 : decode cX7_share 24 = .ok (.iconst 1, 1) := dk_4 (dk_at dksX7_share_1 0 rfl rfl)
theorem dX7_share_25 : decode cX7_share 25 = .ok (.aload_n 0, 1) := dk_42 (dk_at dksX7_share_1 1 rfl rfl)
theorem dX7_share_26 : decode cX7_share 26 = .ok (.invokevirtual 286, 3) := dk_182 1 30 (dk_at dksX7_share_1 2 rfl rfl)
theorem dX7_share_29 : decode cX7_share 29 = .ok (.ishl, 1) := dk_120 (dk_at dksX7_share_1 5 rfl rfl)
theorem dX7_share_30 : decode cX7_share 30 = .ok (.iconst 1, 1) := dk_4 (dk_at dksX7_share_1 6 rfl rfl)
theorem dX7_share_31 : decode cX7_share 31 = .ok (.isub, 1) := dk_100 (dk_at dksX7_share_1 7 rfl rfl)
theorem dX7_share_32 : decode cX7_share 32 = .ok (.istore_n 3, 1) := dk_62 (dk_at dksX7_share_1 8 rfl rfl)
theorem dX7_share_33 : decode cX7_share 33 = .ok (.lconst 0, 1) := dk_9 (dk_at dksX7_share_1 9 rfl rfl)
theorem dX7_share_34 : decode cX7_share 34 = .ok (.lstore 4, 2) := dk_55 4 (dk_at dksX7_share_1 10 rfl rfl)
theorem dX7_share_36 : decode cX7_share 36 = .ok (.iconst 0, 1) := dk_3 (dk_at dksX7_share_1 12 rfl rfl)
theorem dX7_share_37 : decode cX7_share 37 = .ok (.istore 6, 2) := dk_54 6 (dk_at dksX7_share_1 13 rfl rfl)
theorem dX7_share_39 : decode cX7_share 39 = .ok (.iload 6, 2) := dk_21 6 (dk_at dksX7_share_1 15 rfl rfl)
theorem dX7_share_41 : decode cX7_share 41 = .ok (.iload_n 3, 1) := dk_29 (dk_at dksX7_share_1 17 rfl rfl)
theorem dX7_share_42 : decode cX7_share 42 = .ok (.if_icmp .gt 78, 3) := dk_163 0 78 (dk_at dksX7_share_1 18 rfl rfl)
theorem dX7_share_45 : decode cX7_share 45 = .ok (.iload 6, 2) := dk_21 6 (dk_at dksX7_share_1 21 rfl rfl)
theorem dX7_share_47 : decode cX7_share 47 = .ok (.iload_n 1, 1) := dk_27 (dk_at dksX7_share_1 23 rfl rfl)
theorem dX7_share_48 : decode cX7_share 48 = .ok (.invokestatic 307, 3) := dk_184 1 51 (dk_at dksX7_share_2 0 rfl rfl)
theorem dX7_share_51 : decode cX7_share 51 = .ok (.ifCond .eq 6, 3) := dk_153 0 6 (dk_at dksX7_share_2 3 rfl rfl)
theorem dX7_share_54 : decode cX7_share 54 = .ok (.goto 60, 3) := dk_167 0 60 (dk_at dksX7_share_2 6 rfl rfl)
theorem dX7_share_57 : decode cX7_share 57 = .ok (.iload 6, 2) := dk_21 6 (dk_at dksX7_share_2 9 rfl rfl)
theorem dX7_share_59 : decode cX7_share 59 = .ok (.invokestatic 407, 3) := dk_184 1 151 (dk_at dksX7_share_2 11 rfl rfl)
theorem dX7_share_62 : decode cX7_share 62 = .ok (.istore 7, 2) := dk_54 7 (dk_at dksX7_share_2 14 rfl rfl)
theorem dX7_share_64 : decode cX7_share 64 = .ok (.lload 4, 2) := dk_22 4 (dk_at dksX7_share_2 16 rfl rfl)
theorem dX7_share_66 : decode cX7_share 66 = .ok (.iload 7, 2) := dk_21 7 (dk_at dksX7_share_2 18 rfl rfl)
theorem dX7_share_68 : decode cX7_share 68 = .ok (.invokestatic 448, 3) := dk_184 1 192 (dk_at dksX7_share_2 20 rfl rfl)
theorem dX7_share_71 : decode cX7_share 71 = .ok (.aload_n 0, 1) := dk_42 (dk_at dksX7_share_2 23 rfl rfl)
theorem dX7_share_72 : decode cX7_share 72 = .ok (.invokevirtual 286, 3) := dk_182 1 30 (dk_at dksX7_share_3 0 rfl rfl)
theorem dX7_share_75 : decode cX7_share 75 = .ok (.iload 7, 2) := dk_21 7 (dk_at dksX7_share_3 3 rfl rfl)
theorem dX7_share_77 : decode cX7_share 77 = .ok (.isub, 1) := dk_100 (dk_at dksX7_share_3 5 rfl rfl)
theorem dX7_share_78 : decode cX7_share 78 = .ok (.iconst 1, 1) := dk_4 (dk_at dksX7_share_3 6 rfl rfl)
theorem dX7_share_79 : decode cX7_share 79 = .ok (.isub, 1) := dk_100 (dk_at dksX7_share_3 7 rfl rfl)
theorem dX7_share_80 : decode cX7_share 80 = .ok (.invokestatic 448, 3) := dk_184 1 192 (dk_at dksX7_share_3 8 rfl rfl)
theorem dX7_share_83 : decode cX7_share 83 = .ok (.lmul, 1) := dk_105 (dk_at dksX7_share_3 11 rfl rfl)
theorem dX7_share_84 : decode cX7_share 84 = .ok (.aload_n 0, 1) := dk_42 (dk_at dksX7_share_3 12 rfl rfl)
theorem dX7_share_85 : decode cX7_share 85 = .ok (.iload_n 3, 1) := dk_29 (dk_at dksX7_share_3 13 rfl rfl)
theorem dX7_share_86 : decode cX7_share 86 = .ok (.iload 6, 2) := dk_21 6 (dk_at dksX7_share_3 14 rfl rfl)
theorem dX7_share_88 : decode cX7_share 88 = .ok (.iconst 1, 1) := dk_4 (dk_at dksX7_share_3 16 rfl rfl)
theorem dX7_share_89 : decode cX7_share 89 = .ok (.iload_n 1, 1) := dk_27 (dk_at dksX7_share_3 17 rfl rfl)
theorem dX7_share_90 : decode cX7_share 90 = .ok (.ishl, 1) := dk_120 (dk_at dksX7_share_3 18 rfl rfl)
theorem dX7_share_91 : decode cX7_share 91 = .ok (.ior, 1) := dk_128 (dk_at dksX7_share_3 19 rfl rfl)
theorem dX7_share_92 : decode cX7_share 92 = .ok (.iconst (-1), 1) := dk_2 (dk_at dksX7_share_3 20 rfl rfl)
theorem dX7_share_93 : decode cX7_share 93 = .ok (.ixor, 1) := dk_130 (dk_at dksX7_share_3 21 rfl rfl)
theorem dX7_share_94 : decode cX7_share 94 = .ok (.iand, 1) := dk_126 (dk_at dksX7_share_3 22 rfl rfl)
theorem dX7_share_95 : decode cX7_share 95 = .ok (.invokevirtual 389, 3) := dk_182 1 133 (dk_at dksX7_share_4 0 rfl rfl)
theorem dX7_share_98 : decode cX7_share 98 = .ok (.aload_n 0, 1) := dk_42 (dk_at dksX7_share_4 3 rfl rfl)
theorem dX7_share_99 : decode cX7_share 99 = .ok (.iload_n 3, 1) := dk_29 (dk_at dksX7_share_4 4 rfl rfl)
theorem dX7_share_100 : decode cX7_share 100 = .ok (.iload 6, 2) := dk_21 6 (dk_at dksX7_share_4 5 rfl rfl)
theorem dX7_share_102 : decode cX7_share 102 = .ok (.iconst (-1), 1) := dk_2 (dk_at dksX7_share_4 7 rfl rfl)
theorem dX7_share_103 : decode cX7_share 103 = .ok (.ixor, 1) := dk_130 (dk_at dksX7_share_4 8 rfl rfl)
theorem dX7_share_104 : decode cX7_share 104 = .ok (.iand, 1) := dk_126 (dk_at dksX7_share_4 9 rfl rfl)
theorem dX7_share_105 : decode cX7_share 105 = .ok (.invokevirtual 389, 3) := dk_182 1 133 (dk_at dksX7_share_4 10 rfl rfl)
theorem dX7_share_108 : decode cX7_share 108 = .ok (.isub, 1) := dk_100 (dk_at dksX7_share_4 13 rfl rfl)
theorem dX7_share_109 : decode cX7_share 109 = .ok (.i2l, 1) := dk_133 (dk_at dksX7_share_4 14 rfl rfl)
theorem dX7_share_110 : decode cX7_share 110 = .ok (.lmul, 1) := dk_105 (dk_at dksX7_share_4 15 rfl rfl)
theorem dX7_share_111 : decode cX7_share 111 = .ok (.ladd, 1) := dk_97 (dk_at dksX7_share_4 16 rfl rfl)
theorem dX7_share_112 : decode cX7_share 112 = .ok (.lstore 4, 2) := dk_55 4 (dk_at dksX7_share_4 17 rfl rfl)
theorem dX7_share_114 : decode cX7_share 114 = .ok (.iinc 6 1, 3) := dk_132 6 1 (dk_at dksX7_share_4 19 rfl rfl)
theorem dX7_share_117 : decode cX7_share 117 = .ok (.goto (-78), 3) := dk_167 255 178 (dk_at dksX7_share_5 0 rfl rfl)
theorem dX7_share_120 : decode cX7_share 120 = .ok (.lload 4, 2) := dk_22 4 (dk_at dksX7_share_5 3 rfl rfl)
theorem dX7_share_122 : decode cX7_share 122 = .ok (.aload_n 0, 1) := dk_42 (dk_at dksX7_share_5 5 rfl rfl)
theorem dX7_share_123 : decode cX7_share 123 = .ok (.invokevirtual 286, 3) := dk_182 1 30 (dk_at dksX7_share_5 6 rfl rfl)
theorem dX7_share_126 : decode cX7_share 126 = .ok (.invokestatic 448, 3) := dk_184 1 192 (dk_at dksX7_share_5 9 rfl rfl)
theorem dX7_share_129 : decode cX7_share 129 = .ok (.iload_n 2, 1) := dk_28 (dk_at dksX7_share_5 12 rfl rfl)
theorem dX7_share_130 : decode cX7_share 130 = .ok (.invokestatic 456, 3) := dk_184 1 200 (dk_at dksX7_share_5 13 rfl rfl)
theorem dX7_share_133 : decode cX7_share 133 = .ok (.l2i, 1) := dk_136 (dk_at dksX7_share_5 16 rfl rfl)
theorem dX7_share_134 : decode cX7_share 134 = .ok (.ireturn, 1) := dk_172 (dk_at dksX7_share_5 17 rfl rfl)
abbrev cX7_times : ByteArray := prog_12_method_127_code
def yX7_times : MethodName := ⟨RX7, "times", "(I)J"⟩
def dkwX7_times_0 : List UInt8 := [26, 5, 162, 0, 7, 10, 167, 0, 12, 26, 133, 26, 4, 100, 184, 1, 192, 105, 173]
abbrev dktX7_times_0 : List UInt8 := dkwX7_times_0 ++ []
theorem dksX7_times_0 : cX7_times.data.toList.drop 0 = dktX7_times_0 := by decide +kernel
theorem dX7_times_0 : decode cX7_times 0 = .ok (.iload_n 0, 1) := dk_26 (dk_at dksX7_times_0 0 rfl rfl)
theorem dX7_times_1 : decode cX7_times 1 = .ok (.iconst 2, 1) := dk_5 (dk_at dksX7_times_0 1 rfl rfl)
theorem dX7_times_2 : decode cX7_times 2 = .ok (.if_icmp .ge 7, 3) := dk_162 0 7 (dk_at dksX7_times_0 2 rfl rfl)
theorem dX7_times_5 : decode cX7_times 5 = .ok (.lconst 1, 1) := dk_10 (dk_at dksX7_times_0 5 rfl rfl)
theorem dX7_times_6 : decode cX7_times 6 = .ok (.goto 12, 3) := dk_167 0 12 (dk_at dksX7_times_0 6 rfl rfl)
theorem dX7_times_9 : decode cX7_times 9 = .ok (.iload_n 0, 1) := dk_26 (dk_at dksX7_times_0 9 rfl rfl)
theorem dX7_times_10 : decode cX7_times 10 = .ok (.i2l, 1) := dk_133 (dk_at dksX7_times_0 10 rfl rfl)
theorem dX7_times_11 : decode cX7_times 11 = .ok (.iload_n 0, 1) := dk_26 (dk_at dksX7_times_0 11 rfl rfl)
theorem dX7_times_12 : decode cX7_times 12 = .ok (.iconst 1, 1) := dk_4 (dk_at dksX7_times_0 12 rfl rfl)
theorem dX7_times_13 : decode cX7_times 13 = .ok (.isub, 1) := dk_100 (dk_at dksX7_times_0 13 rfl rfl)
theorem dX7_times_14 : decode cX7_times 14 = .ok (.invokestatic 448, 3) := dk_184 1 192 (dk_at dksX7_times_0 14 rfl rfl)
theorem dX7_times_17 : decode cX7_times 17 = .ok (.lmul, 1) := dk_105 (dk_at dksX7_times_0 17 rfl rfl)
theorem dX7_times_18 : decode cX7_times 18 = .ok (.lreturn, 1) := dk_173 (dk_at dksX7_times_0 18 rfl rfl)
abbrev cX7_part : ByteArray := prog_12_method_129_code
def yX7_part : MethodName := ⟨RX7, "part", "(JJI)J"⟩
def dkwX7_part_0 : List UInt8 := [21, 4, 154, 0, 7, 30, 167, 0, 4, 32, 30, 32, 184, 1, 196, 109, 173]
abbrev dktX7_part_0 : List UInt8 := dkwX7_part_0 ++ []
theorem dksX7_part_0 : cX7_part.data.toList.drop 0 = dktX7_part_0 := by decide +kernel
theorem dX7_part_0 : decode cX7_part 0 = .ok (.iload 4, 2) := dk_21 4 (dk_at dksX7_part_0 0 rfl rfl)
theorem dX7_part_2 : decode cX7_part 2 = .ok (.ifCond .ne 7, 3) := dk_154 0 7 (dk_at dksX7_part_0 2 rfl rfl)
theorem dX7_part_5 : decode cX7_part 5 = .ok (.lload_n 0, 1) := dk_30 (dk_at dksX7_part_0 5 rfl rfl)
theorem dX7_part_6 : decode cX7_part 6 = .ok (.goto 4, 3) := dk_167 0 4 (dk_at dksX7_part_0 6 rfl rfl)
theorem dX7_part_9 : decode cX7_part 9 = .ok (.lload_n 2, 1) := dk_32 (dk_at dksX7_part_0 9 rfl rfl)
theorem dX7_part_10 : decode cX7_part 10 = .ok (.lload_n 0, 1) := dk_30 (dk_at dksX7_part_0 10 rfl rfl)
theorem dX7_part_11 : decode cX7_part 11 = .ok (.lload_n 2, 1) := dk_32 (dk_at dksX7_part_0 11 rfl rfl)
theorem dX7_part_12 : decode cX7_part 12 = .ok (.invokestatic 452, 3) := dk_184 1 196 (dk_at dksX7_part_0 12 rfl rfl)
theorem dX7_part_15 : decode cX7_part 15 = .ok (.ldiv, 1) := dk_109 (dk_at dksX7_part_0 15 rfl rfl)
theorem dX7_part_16 : decode cX7_part 16 = .ok (.lreturn, 1) := dk_173 (dk_at dksX7_part_0 16 rfl rfl)
abbrev cX7_common : ByteArray := prog_12_method_128_code
def yX7_common : MethodName := ⟨RX7, "common", "(JJ)J"⟩
def dkwX7_common_1 : List UInt8 := [113, 184, 1, 196, 173]
abbrev dktX7_common_1 : List UInt8 := dkwX7_common_1 ++ []
def dkwX7_common_0 : List UInt8 := [32, 9, 148, 154, 0, 18, 30, 9, 148, 156, 0, 8, 30, 117, 167, 0, 14, 30, 167, 0, 10, 32, 30, 32]
abbrev dktX7_common_0 : List UInt8 := dkwX7_common_0 ++ dktX7_common_1
theorem dksX7_common_0 : cX7_common.data.toList.drop 0 = dktX7_common_0 := by decide +kernel
theorem dksX7_common_1 : cX7_common.data.toList.drop 24 = dktX7_common_1 := dk_seg dksX7_common_0 24 rfl rfl
theorem dX7_common_0 : decode cX7_common 0 = .ok (.lload_n 2, 1) := dk_32 (dk_at dksX7_common_0 0 rfl rfl)
theorem dX7_common_1 : decode cX7_common 1 = .ok (.lconst 0, 1) := dk_9 (dk_at dksX7_common_0 1 rfl rfl)
theorem dX7_common_2 : decode cX7_common 2 = .ok (.lcmp, 1) := dk_148 (dk_at dksX7_common_0 2 rfl rfl)
theorem dX7_common_3 : decode cX7_common 3 = .ok (.ifCond .ne 18, 3) := dk_154 0 18 (dk_at dksX7_common_0 3 rfl rfl)
theorem dX7_common_6 : decode cX7_common 6 = .ok (.lload_n 0, 1) := dk_30 (dk_at dksX7_common_0 6 rfl rfl)
theorem dX7_common_7 : decode cX7_common 7 = .ok (.lconst 0, 1) := dk_9 (dk_at dksX7_common_0 7 rfl rfl)
theorem dX7_common_8 : decode cX7_common 8 = .ok (.lcmp, 1) := dk_148 (dk_at dksX7_common_0 8 rfl rfl)
theorem dX7_common_9 : decode cX7_common 9 = .ok (.ifCond .ge 8, 3) := dk_156 0 8 (dk_at dksX7_common_0 9 rfl rfl)
theorem dX7_common_12 : decode cX7_common 12 = .ok (.lload_n 0, 1) := dk_30 (dk_at dksX7_common_0 12 rfl rfl)
theorem dX7_common_13 : decode cX7_common 13 = .ok (.lneg, 1) := dk_117 (dk_at dksX7_common_0 13 rfl rfl)
theorem dX7_common_14 : decode cX7_common 14 = .ok (.goto 14, 3) := dk_167 0 14 (dk_at dksX7_common_0 14 rfl rfl)
theorem dX7_common_17 : decode cX7_common 17 = .ok (.lload_n 0, 1) := dk_30 (dk_at dksX7_common_0 17 rfl rfl)
theorem dX7_common_18 : decode cX7_common 18 = .ok (.goto 10, 3) := dk_167 0 10 (dk_at dksX7_common_0 18 rfl rfl)
theorem dX7_common_21 : decode cX7_common 21 = .ok (.lload_n 2, 1) := dk_32 (dk_at dksX7_common_0 21 rfl rfl)
theorem dX7_common_22 : decode cX7_common 22 = .ok (.lload_n 0, 1) := dk_30 (dk_at dksX7_common_0 22 rfl rfl)
theorem dX7_common_23 : decode cX7_common 23 = .ok (.lload_n 2, 1) := dk_32 (dk_at dksX7_common_0 23 rfl rfl)
theorem dX7_common_24 : decode cX7_common 24 = .ok (.lrem, 1) := dk_113 (dk_at dksX7_common_1 0 rfl rfl)
theorem dX7_common_25 : decode cX7_common 25 = .ok (.invokestatic 452, 3) := dk_184 1 196 (dk_at dksX7_common_1 1 rfl rfl)
theorem dX7_common_28 : decode cX7_common 28 = .ok (.lreturn, 1) := dk_173 (dk_at dksX7_common_1 4 rfl rfl)
abbrev cX7_rests : ByteArray := prog_12_method_134_code
def yX7_rests : MethodName := ⟨RX7, "rests", "(II)I"⟩
def dkwX7_rests_3 : List UInt8 := [132, 5, 1, 167, 255, 225, 132, 4, 1, 167, 255, 207, 29, 172]
abbrev dktX7_rests_3 : List UInt8 := dkwX7_rests_3 ++ []
def dkwX7_rests_2 : List UInt8 := [162, 0, 28, 29, 42, 21, 4, 21, 5, 182, 1, 213, 153, 0, 7, 4, 167, 0, 4, 3, 96, 62]
abbrev dktX7_rests_2 : List UInt8 := dkwX7_rests_2 ++ dktX7_rests_3
def dkwX7_rests_1 : List UInt8 := [62, 3, 54, 4, 21, 4, 42, 182, 1, 27, 162, 0, 46, 3, 54, 5, 21, 5, 42, 182, 1, 27]
abbrev dktX7_rests_1 : List UInt8 := dkwX7_rests_1 ++ dktX7_rests_2
def dkwX7_rests_0 : List UInt8 := [42, 3, 181, 0, 116, 42, 27, 28, 182, 1, 207, 154, 0, 6, 16, 254, 172, 42, 27, 28, 182, 1, 210, 3]
abbrev dktX7_rests_0 : List UInt8 := dkwX7_rests_0 ++ dktX7_rests_1
theorem dksX7_rests_0 : cX7_rests.data.toList.drop 0 = dktX7_rests_0 := by decide +kernel
theorem dksX7_rests_1 : cX7_rests.data.toList.drop 24 = dktX7_rests_1 := dk_seg dksX7_rests_0 24 rfl rfl
theorem dksX7_rests_2 : cX7_rests.data.toList.drop 46 = dktX7_rests_2 := dk_seg dksX7_rests_1 22 rfl rfl
theorem dksX7_rests_3 : cX7_rests.data.toList.drop 68 = dktX7_rests_3 := dk_seg dksX7_rests_2 22 rfl rfl
theorem dX7_rests_0 : decode cX7_rests 0 = .ok (.aload_n 0, 1) := dk_42 (dk_at dksX7_rests_0 0 rfl rfl)
theorem dX7_rests_1 : decode cX7_rests 1 = .ok (.iconst 0, 1) := dk_3 (dk_at dksX7_rests_0 1 rfl rfl)
theorem dX7_rests_2 : decode cX7_rests 2 = .ok (.putfield 116, 3) := dk_181 0 116 (dk_at dksX7_rests_0 2 rfl rfl)
theorem dX7_rests_5 : decode cX7_rests 5 = .ok (.aload_n 0, 1) := dk_42 (dk_at dksX7_rests_0 5 rfl rfl)
theorem dX7_rests_6 : decode cX7_rests 6 = .ok (.iload_n 1, 1) := dk_27 (dk_at dksX7_rests_0 6 rfl rfl)
theorem dX7_rests_7 : decode cX7_rests 7 = .ok (.iload_n 2, 1) := dk_28 (dk_at dksX7_rests_0 7 rfl rfl)
theorem dX7_rests_8 : decode cX7_rests 8 = .ok (.invokevirtual 463, 3) := dk_182 1 207 (dk_at dksX7_rests_0 8 rfl rfl)
theorem dX7_rests_11 : decode cX7_rests 11 = .ok (.ifCond .ne 6, 3) := dk_154 0 6 (dk_at dksX7_rests_0 11 rfl rfl)
theorem dX7_rests_14 : decode cX7_rests 14 = .ok (.bipush (-2), 2) := dk_16 254 (dk_at dksX7_rests_0 14 rfl rfl)
theorem dX7_rests_16 : decode cX7_rests 16 = .ok (.ireturn, 1) := dk_172 (dk_at dksX7_rests_0 16 rfl rfl)
theorem dX7_rests_17 : decode cX7_rests 17 = .ok (.aload_n 0, 1) := dk_42 (dk_at dksX7_rests_0 17 rfl rfl)
theorem dX7_rests_18 : decode cX7_rests 18 = .ok (.iload_n 1, 1) := dk_27 (dk_at dksX7_rests_0 18 rfl rfl)
theorem dX7_rests_19 : decode cX7_rests 19 = .ok (.iload_n 2, 1) := dk_28 (dk_at dksX7_rests_0 19 rfl rfl)
theorem dX7_rests_20 : decode cX7_rests 20 = .ok (.invokevirtual 466, 3) := dk_182 1 210 (dk_at dksX7_rests_0 20 rfl rfl)
theorem dX7_rests_23 : decode cX7_rests 23 = .ok (.iconst 0, 1) := dk_3 (dk_at dksX7_rests_0 23 rfl rfl)
theorem dX7_rests_24 : decode cX7_rests 24 = .ok (.istore_n 3, 1) := dk_62 (dk_at dksX7_rests_1 0 rfl rfl)
theorem dX7_rests_25 : decode cX7_rests 25 = .ok (.iconst 0, 1) := dk_3 (dk_at dksX7_rests_1 1 rfl rfl)
theorem dX7_rests_26 : decode cX7_rests 26 = .ok (.istore 4, 2) := dk_54 4 (dk_at dksX7_rests_1 2 rfl rfl)
theorem dX7_rests_28 : decode cX7_rests 28 = .ok (.iload 4, 2) := dk_21 4 (dk_at dksX7_rests_1 4 rfl rfl)
theorem dX7_rests_30 : decode cX7_rests 30 = .ok (.aload_n 0, 1) := dk_42 (dk_at dksX7_rests_1 6 rfl rfl)
theorem dX7_rests_31 : decode cX7_rests 31 = .ok (.invokevirtual 283, 3) := dk_182 1 27 (dk_at dksX7_rests_1 7 rfl rfl)
theorem dX7_rests_34 : decode cX7_rests 34 = .ok (.if_icmp .ge 46, 3) := dk_162 0 46 (dk_at dksX7_rests_1 10 rfl rfl)
theorem dX7_rests_37 : decode cX7_rests 37 = .ok (.iconst 0, 1) := dk_3 (dk_at dksX7_rests_1 13 rfl rfl)
theorem dX7_rests_38 : decode cX7_rests 38 = .ok (.istore 5, 2) := dk_54 5 (dk_at dksX7_rests_1 14 rfl rfl)
theorem dX7_rests_40 : decode cX7_rests 40 = .ok (.iload 5, 2) := dk_21 5 (dk_at dksX7_rests_1 16 rfl rfl)
theorem dX7_rests_42 : decode cX7_rests 42 = .ok (.aload_n 0, 1) := dk_42 (dk_at dksX7_rests_1 18 rfl rfl)
theorem dX7_rests_43 : decode cX7_rests 43 = .ok (.invokevirtual 283, 3) := dk_182 1 27 (dk_at dksX7_rests_1 19 rfl rfl)
theorem dX7_rests_46 : decode cX7_rests 46 = .ok (.if_icmp .ge 28, 3) := dk_162 0 28 (dk_at dksX7_rests_2 0 rfl rfl)
theorem dX7_rests_49 : decode cX7_rests 49 = .ok (.iload_n 3, 1) := dk_29 (dk_at dksX7_rests_2 3 rfl rfl)
theorem dX7_rests_50 : decode cX7_rests 50 = .ok (.aload_n 0, 1) := dk_42 (dk_at dksX7_rests_2 4 rfl rfl)
theorem dX7_rests_51 : decode cX7_rests 51 = .ok (.iload 4, 2) := dk_21 4 (dk_at dksX7_rests_2 5 rfl rfl)
theorem dX7_rests_53 : decode cX7_rests 53 = .ok (.iload 5, 2) := dk_21 5 (dk_at dksX7_rests_2 7 rfl rfl)
theorem dX7_rests_55 : decode cX7_rests 55 = .ok (.invokevirtual 469, 3) := dk_182 1 213 (dk_at dksX7_rests_2 9 rfl rfl)
theorem dX7_rests_58 : decode cX7_rests 58 = .ok (.ifCond .eq 7, 3) := dk_153 0 7 (dk_at dksX7_rests_2 12 rfl rfl)
theorem dX7_rests_61 : decode cX7_rests 61 = .ok (.iconst 1, 1) := dk_4 (dk_at dksX7_rests_2 15 rfl rfl)
theorem dX7_rests_62 : decode cX7_rests 62 = .ok (.goto 4, 3) := dk_167 0 4 (dk_at dksX7_rests_2 16 rfl rfl)
theorem dX7_rests_65 : decode cX7_rests 65 = .ok (.iconst 0, 1) := dk_3 (dk_at dksX7_rests_2 19 rfl rfl)
theorem dX7_rests_66 : decode cX7_rests 66 = .ok (.iadd, 1) := dk_96 (dk_at dksX7_rests_2 20 rfl rfl)
theorem dX7_rests_67 : decode cX7_rests 67 = .ok (.istore_n 3, 1) := dk_62 (dk_at dksX7_rests_2 21 rfl rfl)
theorem dX7_rests_68 : decode cX7_rests 68 = .ok (.iinc 5 1, 3) := dk_132 5 1 (dk_at dksX7_rests_3 0 rfl rfl)
theorem dX7_rests_71 : decode cX7_rests 71 = .ok (.goto (-31), 3) := dk_167 255 225 (dk_at dksX7_rests_3 3 rfl rfl)
theorem dX7_rests_74 : decode cX7_rests 74 = .ok (.iinc 4 1, 3) := dk_132 4 1 (dk_at dksX7_rests_3 6 rfl rfl)
theorem dX7_rests_77 : decode cX7_rests 77 = .ok (.goto (-49), 3) := dk_167 255 207 (dk_at dksX7_rests_3 9 rfl rfl)
theorem dX7_rests_80 : decode cX7_rests 80 = .ok (.iload_n 3, 1) := dk_29 (dk_at dksX7_rests_3 12 rfl rfl)
theorem dX7_rests_81 : decode cX7_rests 81 = .ok (.ireturn, 1) := dk_172 (dk_at dksX7_rests_3 13 rfl rfl)
abbrev cX7_areTwo : ByteArray := prog_12_method_43_code
def yX7_areTwo : MethodName := ⟨RX7, "areTwo", "(II)Z"⟩
def dkwX7_areTwo_1 : List UInt8 := [167, 0, 4, 3, 172]
abbrev dktX7_areTwo_1 : List UInt8 := dkwX7_areTwo_1 ++ []
def dkwX7_areTwo_0 : List UInt8 := [42, 27, 133, 182, 1, 33, 153, 0, 21, 42, 28, 133, 182, 1, 33, 153, 0, 12, 27, 28, 159, 0, 7, 4]
abbrev dktX7_areTwo_0 : List UInt8 := dkwX7_areTwo_0 ++ dktX7_areTwo_1
theorem dksX7_areTwo_0 : cX7_areTwo.data.toList.drop 0 = dktX7_areTwo_0 := by decide +kernel
theorem dksX7_areTwo_1 : cX7_areTwo.data.toList.drop 24 = dktX7_areTwo_1 := dk_seg dksX7_areTwo_0 24 rfl rfl
theorem dX7_areTwo_0 : decode cX7_areTwo 0 = .ok (.aload_n 0, 1) := dk_42 (dk_at dksX7_areTwo_0 0 rfl rfl)
theorem dX7_areTwo_1 : decode cX7_areTwo 1 = .ok (.iload_n 1, 1) := dk_27 (dk_at dksX7_areTwo_0 1 rfl rfl)
theorem dX7_areTwo_2 : decode cX7_areTwo 2 = .ok (.i2l, 1) := dk_133 (dk_at dksX7_areTwo_0 2 rfl rfl)
theorem dX7_areTwo_3 : decode cX7_areTwo 3 = .ok (.invokevirtual 289, 3) := dk_182 1 33 (dk_at dksX7_areTwo_0 3 rfl rfl)
theorem dX7_areTwo_6 : decode cX7_areTwo 6 = .ok (.ifCond .eq 21, 3) := dk_153 0 21 (dk_at dksX7_areTwo_0 6 rfl rfl)
theorem dX7_areTwo_9 : decode cX7_areTwo 9 = .ok (.aload_n 0, 1) := dk_42 (dk_at dksX7_areTwo_0 9 rfl rfl)
theorem dX7_areTwo_10 : decode cX7_areTwo 10 = .ok (.iload_n 2, 1) := dk_28 (dk_at dksX7_areTwo_0 10 rfl rfl)
theorem dX7_areTwo_11 : decode cX7_areTwo 11 = .ok (.i2l, 1) := dk_133 (dk_at dksX7_areTwo_0 11 rfl rfl)
theorem dX7_areTwo_12 : decode cX7_areTwo 12 = .ok (.invokevirtual 289, 3) := dk_182 1 33 (dk_at dksX7_areTwo_0 12 rfl rfl)
theorem dX7_areTwo_15 : decode cX7_areTwo 15 = .ok (.ifCond .eq 12, 3) := dk_153 0 12 (dk_at dksX7_areTwo_0 15 rfl rfl)
theorem dX7_areTwo_18 : decode cX7_areTwo 18 = .ok (.iload_n 1, 1) := dk_27 (dk_at dksX7_areTwo_0 18 rfl rfl)
theorem dX7_areTwo_19 : decode cX7_areTwo 19 = .ok (.iload_n 2, 1) := dk_28 (dk_at dksX7_areTwo_0 19 rfl rfl)
theorem dX7_areTwo_20 : decode cX7_areTwo 20 = .ok (.if_icmp .eq 7, 3) := dk_159 0 7 (dk_at dksX7_areTwo_0 20 rfl rfl)
theorem dX7_areTwo_23 : decode cX7_areTwo 23 = .ok (.iconst 1, 1) := dk_4 (dk_at dksX7_areTwo_0 23 rfl rfl)
theorem dX7_areTwo_24 : decode cX7_areTwo 24 = .ok (.goto 4, 3) := dk_167 0 4 (dk_at dksX7_areTwo_1 0 rfl rfl)
theorem dX7_areTwo_27 : decode cX7_areTwo 27 = .ok (.iconst 0, 1) := dk_3 (dk_at dksX7_areTwo_1 3 rfl rfl)
theorem dX7_areTwo_28 : decode cX7_areTwo 28 = .ok (.ireturn, 1) := dk_172 (dk_at dksX7_areTwo_1 4 rfl rfl)
abbrev cX7_laysGame : ByteArray := prog_12_method_132_code
def yX7_laysGame : MethodName := ⟨RX7, "laysGame", "(II)V"⟩
def dkwX7_laysGame_3 : List UInt8 := [96, 42, 28, 182, 1, 204, 79, 132, 4, 1, 167, 255, 193, 132, 3, 1, 167, 255, 176, 177]
abbrev dktX7_laysGame_3 : List UInt8 := dkwX7_laysGame_3 ++ []
def dkwX7_laysGame_2 : List UInt8 := [180, 0, 110, 6, 29, 104, 21, 4, 96, 42, 27, 182, 1, 204, 79, 42, 180, 0, 113, 6, 29, 104, 21, 4]
abbrev dktX7_laysGame_2 : List UInt8 := dkwX7_laysGame_2 ++ dktX7_laysGame_3
def dkwX7_laysGame_1 : List UInt8 := [162, 0, 60, 42, 180, 0, 59, 27, 29, 79, 42, 180, 0, 59, 28, 21, 4, 79, 42, 182, 1, 77, 42]
abbrev dktX7_laysGame_1 : List UInt8 := dkwX7_laysGame_1 ++ dktX7_laysGame_2
def dkwX7_laysGame_0 : List UInt8 := [42, 182, 1, 74, 3, 62, 29, 42, 182, 1, 27, 162, 0, 78, 3, 54, 4, 21, 4, 42, 182, 1, 27]
abbrev dktX7_laysGame_0 : List UInt8 := dkwX7_laysGame_0 ++ dktX7_laysGame_1
theorem dksX7_laysGame_0 : cX7_laysGame.data.toList.drop 0 = dktX7_laysGame_0 := by decide +kernel
theorem dksX7_laysGame_1 : cX7_laysGame.data.toList.drop 23 = dktX7_laysGame_1 := dk_seg dksX7_laysGame_0 23 rfl rfl
theorem dksX7_laysGame_2 : cX7_laysGame.data.toList.drop 46 = dktX7_laysGame_2 := dk_seg dksX7_laysGame_1 23 rfl rfl
theorem dksX7_laysGame_3 : cX7_laysGame.data.toList.drop 70 = dktX7_laysGame_3 := dk_seg dksX7_laysGame_2 24 rfl rfl
theorem dX7_laysGame_0 : decode cX7_laysGame 0 = .ok (.aload_n 0, 1) := dk_42 (dk_at dksX7_laysGame_0 0 rfl rfl)
theorem dX7_laysGame_1 : decode cX7_laysGame 1 = .ok (.invokevirtual 330, 3) := dk_182 1 74 (dk_at dksX7_laysGame_0 1 rfl rfl)
theorem dX7_laysGame_4 : decode cX7_laysGame 4 = .ok (.iconst 0, 1) := dk_3 (dk_at dksX7_laysGame_0 4 rfl rfl)
theorem dX7_laysGame_5 : decode cX7_laysGame 5 = .ok (.istore_n 3, 1) := dk_62 (dk_at dksX7_laysGame_0 5 rfl rfl)
theorem dX7_laysGame_6 : decode cX7_laysGame 6 = .ok (.iload_n 3, 1) := dk_29 (dk_at dksX7_laysGame_0 6 rfl rfl)
theorem dX7_laysGame_7 : decode cX7_laysGame 7 = .ok (.aload_n 0, 1) := dk_42 (dk_at dksX7_laysGame_0 7 rfl rfl)
theorem dX7_laysGame_8 : decode cX7_laysGame 8 = .ok (.invokevirtual 283, 3) := dk_182 1 27 (dk_at dksX7_laysGame_0 8 rfl rfl)
theorem dX7_laysGame_11 : decode cX7_laysGame 11 = .ok (.if_icmp .ge 78, 3) := dk_162 0 78 (dk_at dksX7_laysGame_0 11 rfl rfl)
theorem dX7_laysGame_14 : decode cX7_laysGame 14 = .ok (.iconst 0, 1) := dk_3 (dk_at dksX7_laysGame_0 14 rfl rfl)
theorem dX7_laysGame_15 : decode cX7_laysGame 15 = .ok (.istore 4, 2) := dk_54 4 (dk_at dksX7_laysGame_0 15 rfl rfl)
theorem dX7_laysGame_17 : decode cX7_laysGame 17 = .ok (.iload 4, 2) := dk_21 4 (dk_at dksX7_laysGame_0 17 rfl rfl)
theorem dX7_laysGame_19 : decode cX7_laysGame 19 = .ok (.aload_n 0, 1) := dk_42 (dk_at dksX7_laysGame_0 19 rfl rfl)
theorem dX7_laysGame_20 : decode cX7_laysGame 20 = .ok (.invokevirtual 283, 3) := dk_182 1 27 (dk_at dksX7_laysGame_0 20 rfl rfl)
theorem dX7_laysGame_23 : decode cX7_laysGame 23 = .ok (.if_icmp .ge 60, 3) := dk_162 0 60 (dk_at dksX7_laysGame_1 0 rfl rfl)
theorem dX7_laysGame_26 : decode cX7_laysGame 26 = .ok (.aload_n 0, 1) := dk_42 (dk_at dksX7_laysGame_1 3 rfl rfl)
theorem dX7_laysGame_27 : decode cX7_laysGame 27 = .ok (.getfield 59, 3) := dk_180 0 59 (dk_at dksX7_laysGame_1 4 rfl rfl)
theorem dX7_laysGame_30 : decode cX7_laysGame 30 = .ok (.iload_n 1, 1) := dk_27 (dk_at dksX7_laysGame_1 7 rfl rfl)
theorem dX7_laysGame_31 : decode cX7_laysGame 31 = .ok (.iload_n 3, 1) := dk_29 (dk_at dksX7_laysGame_1 8 rfl rfl)
theorem dX7_laysGame_32 : decode cX7_laysGame 32 = .ok (.iastore, 1) := dk_79 (dk_at dksX7_laysGame_1 9 rfl rfl)
theorem dX7_laysGame_33 : decode cX7_laysGame 33 = .ok (.aload_n 0, 1) := dk_42 (dk_at dksX7_laysGame_1 10 rfl rfl)
theorem dX7_laysGame_34 : decode cX7_laysGame 34 = .ok (.getfield 59, 3) := dk_180 0 59 (dk_at dksX7_laysGame_1 11 rfl rfl)
theorem dX7_laysGame_37 : decode cX7_laysGame 37 = .ok (.iload_n 2, 1) := dk_28 (dk_at dksX7_laysGame_1 14 rfl rfl)
theorem dX7_laysGame_38 : decode cX7_laysGame 38 = .ok (.iload 4, 2) := dk_21 4 (dk_at dksX7_laysGame_1 15 rfl rfl)
theorem dX7_laysGame_40 : decode cX7_laysGame 40 = .ok (.iastore, 1) := dk_79 (dk_at dksX7_laysGame_1 17 rfl rfl)
theorem dX7_laysGame_41 : decode cX7_laysGame 41 = .ok (.aload_n 0, 1) := dk_42 (dk_at dksX7_laysGame_1 18 rfl rfl)
theorem dX7_laysGame_42 : decode cX7_laysGame 42 = .ok (.invokevirtual 333, 3) := dk_182 1 77 (dk_at dksX7_laysGame_1 19 rfl rfl)
theorem dX7_laysGame_45 : decode cX7_laysGame 45 = .ok (.aload_n 0, 1) := dk_42 (dk_at dksX7_laysGame_1 22 rfl rfl)
theorem dX7_laysGame_46 : decode cX7_laysGame 46 = .ok (.getfield 110, 3) := dk_180 0 110 (dk_at dksX7_laysGame_2 0 rfl rfl)
theorem dX7_laysGame_49 : decode cX7_laysGame 49 = .ok (.iconst 3, 1) := dk_6 (dk_at dksX7_laysGame_2 3 rfl rfl)
theorem dX7_laysGame_50 : decode cX7_laysGame 50 = .ok (.iload_n 3, 1) := dk_29 (dk_at dksX7_laysGame_2 4 rfl rfl)
theorem dX7_laysGame_51 : decode cX7_laysGame 51 = .ok (.imul, 1) := dk_104 (dk_at dksX7_laysGame_2 5 rfl rfl)
theorem dX7_laysGame_52 : decode cX7_laysGame 52 = .ok (.iload 4, 2) := dk_21 4 (dk_at dksX7_laysGame_2 6 rfl rfl)
theorem dX7_laysGame_54 : decode cX7_laysGame 54 = .ok (.iadd, 1) := dk_96 (dk_at dksX7_laysGame_2 8 rfl rfl)
theorem dX7_laysGame_55 : decode cX7_laysGame 55 = .ok (.aload_n 0, 1) := dk_42 (dk_at dksX7_laysGame_2 9 rfl rfl)
theorem dX7_laysGame_56 : decode cX7_laysGame 56 = .ok (.iload_n 1, 1) := dk_27 (dk_at dksX7_laysGame_2 10 rfl rfl)
theorem dX7_laysGame_57 : decode cX7_laysGame 57 = .ok (.invokevirtual 460, 3) := dk_182 1 204 (dk_at dksX7_laysGame_2 11 rfl rfl)
theorem dX7_laysGame_60 : decode cX7_laysGame 60 = .ok (.iastore, 1) := dk_79 (dk_at dksX7_laysGame_2 14 rfl rfl)
theorem dX7_laysGame_61 : decode cX7_laysGame 61 = .ok (.aload_n 0, 1) := dk_42 (dk_at dksX7_laysGame_2 15 rfl rfl)
theorem dX7_laysGame_62 : decode cX7_laysGame 62 = .ok (.getfield 113, 3) := dk_180 0 113 (dk_at dksX7_laysGame_2 16 rfl rfl)
theorem dX7_laysGame_65 : decode cX7_laysGame 65 = .ok (.iconst 3, 1) := dk_6 (dk_at dksX7_laysGame_2 19 rfl rfl)
theorem dX7_laysGame_66 : decode cX7_laysGame 66 = .ok (.iload_n 3, 1) := dk_29 (dk_at dksX7_laysGame_2 20 rfl rfl)
theorem dX7_laysGame_67 : decode cX7_laysGame 67 = .ok (.imul, 1) := dk_104 (dk_at dksX7_laysGame_2 21 rfl rfl)
theorem dX7_laysGame_68 : decode cX7_laysGame 68 = .ok (.iload 4, 2) := dk_21 4 (dk_at dksX7_laysGame_2 22 rfl rfl)
theorem dX7_laysGame_70 : decode cX7_laysGame 70 = .ok (.iadd, 1) := dk_96 (dk_at dksX7_laysGame_3 0 rfl rfl)
theorem dX7_laysGame_71 : decode cX7_laysGame 71 = .ok (.aload_n 0, 1) := dk_42 (dk_at dksX7_laysGame_3 1 rfl rfl)
theorem dX7_laysGame_72 : decode cX7_laysGame 72 = .ok (.iload_n 2, 1) := dk_28 (dk_at dksX7_laysGame_3 2 rfl rfl)
theorem dX7_laysGame_73 : decode cX7_laysGame 73 = .ok (.invokevirtual 460, 3) := dk_182 1 204 (dk_at dksX7_laysGame_3 3 rfl rfl)
theorem dX7_laysGame_76 : decode cX7_laysGame 76 = .ok (.iastore, 1) := dk_79 (dk_at dksX7_laysGame_3 6 rfl rfl)
theorem dX7_laysGame_77 : decode cX7_laysGame 77 = .ok (.iinc 4 1, 3) := dk_132 4 1 (dk_at dksX7_laysGame_3 7 rfl rfl)
theorem dX7_laysGame_80 : decode cX7_laysGame 80 = .ok (.goto (-63), 3) := dk_167 255 193 (dk_at dksX7_laysGame_3 10 rfl rfl)
theorem dX7_laysGame_83 : decode cX7_laysGame 83 = .ok (.iinc 3 1, 3) := dk_132 3 1 (dk_at dksX7_laysGame_3 13 rfl rfl)
theorem dX7_laysGame_86 : decode cX7_laysGame 86 = .ok (.goto (-80), 3) := dk_167 255 176 (dk_at dksX7_laysGame_3 16 rfl rfl)
theorem dX7_laysGame_89 : decode cX7_laysGame 89 = .ok (.return_, 1) := dk_177 (dk_at dksX7_laysGame_3 19 rfl rfl)
abbrev cX7_lossOf : ByteArray := prog_12_method_131_code
def yX7_lossOf : MethodName := ⟨RX7, "lossOf", "(I)I"⟩
def dkwX7_lossOf_0 : List UInt8 := [42, 27, 182, 1, 100, 42, 180, 0, 80, 27, 46, 2, 160, 0, 8, 16, 9, 167, 0, 4, 3, 96, 172]
abbrev dktX7_lossOf_0 : List UInt8 := dkwX7_lossOf_0 ++ []
theorem dksX7_lossOf_0 : cX7_lossOf.data.toList.drop 0 = dktX7_lossOf_0 := by decide +kernel
theorem dX7_lossOf_0 : decode cX7_lossOf 0 = .ok (.aload_n 0, 1) := dk_42 (dk_at dksX7_lossOf_0 0 rfl rfl)
theorem dX7_lossOf_1 : decode cX7_lossOf 1 = .ok (.iload_n 1, 1) := dk_27 (dk_at dksX7_lossOf_0 1 rfl rfl)
theorem dX7_lossOf_2 : decode cX7_lossOf 2 = .ok (.invokevirtual 356, 3) := dk_182 1 100 (dk_at dksX7_lossOf_0 2 rfl rfl)
theorem dX7_lossOf_5 : decode cX7_lossOf 5 = .ok (.aload_n 0, 1) := dk_42 (dk_at dksX7_lossOf_0 5 rfl rfl)
theorem dX7_lossOf_6 : decode cX7_lossOf 6 = .ok (.getfield 80, 3) := dk_180 0 80 (dk_at dksX7_lossOf_0 6 rfl rfl)
theorem dX7_lossOf_9 : decode cX7_lossOf 9 = .ok (.iload_n 1, 1) := dk_27 (dk_at dksX7_lossOf_0 9 rfl rfl)
theorem dX7_lossOf_10 : decode cX7_lossOf 10 = .ok (.iaload, 1) := dk_46 (dk_at dksX7_lossOf_0 10 rfl rfl)
theorem dX7_lossOf_11 : decode cX7_lossOf 11 = .ok (.iconst (-1), 1) := dk_2 (dk_at dksX7_lossOf_0 11 rfl rfl)
theorem dX7_lossOf_12 : decode cX7_lossOf 12 = .ok (.if_icmp .ne 8, 3) := dk_160 0 8 (dk_at dksX7_lossOf_0 12 rfl rfl)
theorem dX7_lossOf_15 : decode cX7_lossOf 15 = .ok (.bipush 9, 2) := dk_16 9 (dk_at dksX7_lossOf_0 15 rfl rfl)
theorem dX7_lossOf_17 : decode cX7_lossOf 17 = .ok (.goto 4, 3) := dk_167 0 4 (dk_at dksX7_lossOf_0 17 rfl rfl)
theorem dX7_lossOf_20 : decode cX7_lossOf 20 = .ok (.iconst 0, 1) := dk_3 (dk_at dksX7_lossOf_0 20 rfl rfl)
theorem dX7_lossOf_21 : decode cX7_lossOf 21 = .ok (.iadd, 1) := dk_96 (dk_at dksX7_lossOf_0 21 rfl rfl)
theorem dX7_lossOf_22 : decode cX7_lossOf 22 = .ok (.ireturn, 1) := dk_172 (dk_at dksX7_lossOf_0 22 rfl rfl)
abbrev cX7_isRest : ByteArray := prog_12_method_133_code
def yX7_isRest : MethodName := ⟨RX7, "isRest", "(II)Z"⟩
def dkwX7_isRest_2 : List UInt8 := [27, 104, 28, 96, 46, 162, 0, 5, 3, 172, 132, 3, 1, 167, 255, 197, 4, 172]
abbrev dktX7_isRest_2 : List UInt8 := dkwX7_isRest_2 ++ []
def dkwX7_isRest_1 : List UInt8 := [6, 27, 104, 28, 96, 46, 161, 0, 26, 42, 180, 0, 113, 6, 27, 104, 29, 96, 46, 42, 180, 0, 113, 6]
abbrev dktX7_isRest_1 : List UInt8 := dkwX7_isRest_1 ++ dktX7_isRest_2
def dkwX7_isRest_0 : List UInt8 := [3, 62, 29, 42, 182, 1, 27, 162, 0, 57, 42, 180, 0, 110, 6, 29, 104, 28, 96, 46, 42, 180, 0, 110]
abbrev dktX7_isRest_0 : List UInt8 := dkwX7_isRest_0 ++ dktX7_isRest_1
theorem dksX7_isRest_0 : cX7_isRest.data.toList.drop 0 = dktX7_isRest_0 := by decide +kernel
theorem dksX7_isRest_1 : cX7_isRest.data.toList.drop 24 = dktX7_isRest_1 := dk_seg dksX7_isRest_0 24 rfl rfl
theorem dksX7_isRest_2 : cX7_isRest.data.toList.drop 48 = dktX7_isRest_2 := dk_seg dksX7_isRest_1 24 rfl rfl
theorem dX7_isRest_0 : decode cX7_isRest 0 = .ok (.iconst 0, 1) := dk_3 (dk_at dksX7_isRest_0 0 rfl rfl)
theorem dX7_isRest_1 : decode cX7_isRest 1 = .ok (.istore_n 3, 1) := dk_62 (dk_at dksX7_isRest_0 1 rfl rfl)
theorem dX7_isRest_2 : decode cX7_isRest 2 = .ok (.iload_n 3, 1) := dk_29 (dk_at dksX7_isRest_0 2 rfl rfl)
theorem dX7_isRest_3 : decode cX7_isRest 3 = .ok (.aload_n 0, 1) := dk_42 (dk_at dksX7_isRest_0 3 rfl rfl)
theorem dX7_isRest_4 : decode cX7_isRest 4 = .ok (.invokevirtual 283, 3) := dk_182 1 27 (dk_at dksX7_isRest_0 4 rfl rfl)
theorem dX7_isRest_7 : decode cX7_isRest 7 = .ok (.if_icmp .ge 57, 3) := dk_162 0 57 (dk_at dksX7_isRest_0 7 rfl rfl)
theorem dX7_isRest_10 : decode cX7_isRest 10 = .ok (.aload_n 0, 1) := dk_42 (dk_at dksX7_isRest_0 10 rfl rfl)
theorem dX7_isRest_11 : decode cX7_isRest 11 = .ok (.getfield 110, 3) := dk_180 0 110 (dk_at dksX7_isRest_0 11 rfl rfl)
theorem dX7_isRest_14 : decode cX7_isRest 14 = .ok (.iconst 3, 1) := dk_6 (dk_at dksX7_isRest_0 14 rfl rfl)
theorem dX7_isRest_15 : decode cX7_isRest 15 = .ok (.iload_n 3, 1) := dk_29 (dk_at dksX7_isRest_0 15 rfl rfl)
theorem dX7_isRest_16 : decode cX7_isRest 16 = .ok (.imul, 1) := dk_104 (dk_at dksX7_isRest_0 16 rfl rfl)
theorem dX7_isRest_17 : decode cX7_isRest 17 = .ok (.iload_n 2, 1) := dk_28 (dk_at dksX7_isRest_0 17 rfl rfl)
theorem dX7_isRest_18 : decode cX7_isRest 18 = .ok (.iadd, 1) := dk_96 (dk_at dksX7_isRest_0 18 rfl rfl)
theorem dX7_isRest_19 : decode cX7_isRest 19 = .ok (.iaload, 1) := dk_46 (dk_at dksX7_isRest_0 19 rfl rfl)
theorem dX7_isRest_20 : decode cX7_isRest 20 = .ok (.aload_n 0, 1) := dk_42 (dk_at dksX7_isRest_0 20 rfl rfl)
theorem dX7_isRest_21 : decode cX7_isRest 21 = .ok (.getfield 110, 3) := dk_180 0 110 (dk_at dksX7_isRest_0 21 rfl rfl)
theorem dX7_isRest_24 : decode cX7_isRest 24 = .ok (.iconst 3, 1) := dk_6 (dk_at dksX7_isRest_1 0 rfl rfl)
theorem dX7_isRest_25 : decode cX7_isRest 25 = .ok (.iload_n 1, 1) := dk_27 (dk_at dksX7_isRest_1 1 rfl rfl)
theorem dX7_isRest_26 : decode cX7_isRest 26 = .ok (.imul, 1) := dk_104 (dk_at dksX7_isRest_1 2 rfl rfl)
theorem dX7_isRest_27 : decode cX7_isRest 27 = .ok (.iload_n 2, 1) := dk_28 (dk_at dksX7_isRest_1 3 rfl rfl)
theorem dX7_isRest_28 : decode cX7_isRest 28 = .ok (.iadd, 1) := dk_96 (dk_at dksX7_isRest_1 4 rfl rfl)
theorem dX7_isRest_29 : decode cX7_isRest 29 = .ok (.iaload, 1) := dk_46 (dk_at dksX7_isRest_1 5 rfl rfl)
theorem dX7_isRest_30 : decode cX7_isRest 30 = .ok (.if_icmp .lt 26, 3) := dk_161 0 26 (dk_at dksX7_isRest_1 6 rfl rfl)
theorem dX7_isRest_33 : decode cX7_isRest 33 = .ok (.aload_n 0, 1) := dk_42 (dk_at dksX7_isRest_1 9 rfl rfl)
theorem dX7_isRest_34 : decode cX7_isRest 34 = .ok (.getfield 113, 3) := dk_180 0 113 (dk_at dksX7_isRest_1 10 rfl rfl)
theorem dX7_isRest_37 : decode cX7_isRest 37 = .ok (.iconst 3, 1) := dk_6 (dk_at dksX7_isRest_1 13 rfl rfl)
theorem dX7_isRest_38 : decode cX7_isRest 38 = .ok (.iload_n 1, 1) := dk_27 (dk_at dksX7_isRest_1 14 rfl rfl)
theorem dX7_isRest_39 : decode cX7_isRest 39 = .ok (.imul, 1) := dk_104 (dk_at dksX7_isRest_1 15 rfl rfl)
theorem dX7_isRest_40 : decode cX7_isRest 40 = .ok (.iload_n 3, 1) := dk_29 (dk_at dksX7_isRest_1 16 rfl rfl)
theorem dX7_isRest_41 : decode cX7_isRest 41 = .ok (.iadd, 1) := dk_96 (dk_at dksX7_isRest_1 17 rfl rfl)
theorem dX7_isRest_42 : decode cX7_isRest 42 = .ok (.iaload, 1) := dk_46 (dk_at dksX7_isRest_1 18 rfl rfl)
theorem dX7_isRest_43 : decode cX7_isRest 43 = .ok (.aload_n 0, 1) := dk_42 (dk_at dksX7_isRest_1 19 rfl rfl)
theorem dX7_isRest_44 : decode cX7_isRest 44 = .ok (.getfield 113, 3) := dk_180 0 113 (dk_at dksX7_isRest_1 20 rfl rfl)
theorem dX7_isRest_47 : decode cX7_isRest 47 = .ok (.iconst 3, 1) := dk_6 (dk_at dksX7_isRest_1 23 rfl rfl)
theorem dX7_isRest_48 : decode cX7_isRest 48 = .ok (.iload_n 1, 1) := dk_27 (dk_at dksX7_isRest_2 0 rfl rfl)
theorem dX7_isRest_49 : decode cX7_isRest 49 = .ok (.imul, 1) := dk_104 (dk_at dksX7_isRest_2 1 rfl rfl)
theorem dX7_isRest_50 : decode cX7_isRest 50 = .ok (.iload_n 2, 1) := dk_28 (dk_at dksX7_isRest_2 2 rfl rfl)
theorem dX7_isRest_51 : decode cX7_isRest 51 = .ok (.iadd, 1) := dk_96 (dk_at dksX7_isRest_2 3 rfl rfl)
theorem dX7_isRest_52 : decode cX7_isRest 52 = .ok (.iaload, 1) := dk_46 (dk_at dksX7_isRest_2 4 rfl rfl)
theorem dX7_isRest_53 : decode cX7_isRest 53 = .ok (.if_icmp .ge 5, 3) := dk_162 0 5 (dk_at dksX7_isRest_2 5 rfl rfl)
theorem dX7_isRest_56 : decode cX7_isRest 56 = .ok (.iconst 0, 1) := dk_3 (dk_at dksX7_isRest_2 8 rfl rfl)
theorem dX7_isRest_57 : decode cX7_isRest 57 = .ok (.ireturn, 1) := dk_172 (dk_at dksX7_isRest_2 9 rfl rfl)
theorem dX7_isRest_58 : decode cX7_isRest 58 = .ok (.iinc 3 1, 3) := dk_132 3 1 (dk_at dksX7_isRest_2 10 rfl rfl)
theorem dX7_isRest_61 : decode cX7_isRest 61 = .ok (.goto (-59), 3) := dk_167 255 197 (dk_at dksX7_isRest_2 13 rfl rfl)
theorem dX7_isRest_64 : decode cX7_isRest 64 = .ok (.iconst 1, 1) := dk_4 (dk_at dksX7_isRest_2 16 rfl rfl)
theorem dX7_isRest_65 : decode cX7_isRest 65 = .ok (.ireturn, 1) := dk_172 (dk_at dksX7_isRest_2 17 rfl rfl)
abbrev cX7_rest : ByteArray := prog_12_method_135_code
def yX7_rest : MethodName := ⟨RX7, "rest", "(II)I"⟩
def dkwX7_rest_3 : List UInt8 := [132, 3, 1, 167, 255, 209, 2, 172]
abbrev dktX7_rest_3 : List UInt8 := dkwX7_rest_3 ++ []
def dkwX7_rest_2 : List UInt8 := [21, 4, 182, 1, 213, 153, 0, 11, 16, 10, 29, 104, 21, 4, 96, 172, 132, 4, 1, 167, 255, 226]
abbrev dktX7_rest_2 : List UInt8 := dkwX7_rest_2 ++ dktX7_rest_3
def dkwX7_rest_1 : List UInt8 := [62, 29, 42, 182, 1, 27, 162, 0, 45, 3, 54, 4, 21, 4, 42, 182, 1, 27, 162, 0, 27, 42, 29]
abbrev dktX7_rest_1 : List UInt8 := dkwX7_rest_1 ++ dktX7_rest_2
def dkwX7_rest_0 : List UInt8 := [42, 3, 181, 0, 116, 42, 27, 28, 182, 1, 207, 154, 0, 6, 16, 254, 172, 42, 27, 28, 182, 1, 210, 3]
abbrev dktX7_rest_0 : List UInt8 := dkwX7_rest_0 ++ dktX7_rest_1
theorem dksX7_rest_0 : cX7_rest.data.toList.drop 0 = dktX7_rest_0 := by decide +kernel
theorem dksX7_rest_1 : cX7_rest.data.toList.drop 24 = dktX7_rest_1 := dk_seg dksX7_rest_0 24 rfl rfl
theorem dksX7_rest_2 : cX7_rest.data.toList.drop 47 = dktX7_rest_2 := dk_seg dksX7_rest_1 23 rfl rfl
theorem dksX7_rest_3 : cX7_rest.data.toList.drop 69 = dktX7_rest_3 := dk_seg dksX7_rest_2 22 rfl rfl
theorem dX7_rest_0 : decode cX7_rest 0 = .ok (.aload_n 0, 1) := dk_42 (dk_at dksX7_rest_0 0 rfl rfl)
theorem dX7_rest_1 : decode cX7_rest 1 = .ok (.iconst 0, 1) := dk_3 (dk_at dksX7_rest_0 1 rfl rfl)
theorem dX7_rest_2 : decode cX7_rest 2 = .ok (.putfield 116, 3) := dk_181 0 116 (dk_at dksX7_rest_0 2 rfl rfl)
theorem dX7_rest_5 : decode cX7_rest 5 = .ok (.aload_n 0, 1) := dk_42 (dk_at dksX7_rest_0 5 rfl rfl)
theorem dX7_rest_6 : decode cX7_rest 6 = .ok (.iload_n 1, 1) := dk_27 (dk_at dksX7_rest_0 6 rfl rfl)
theorem dX7_rest_7 : decode cX7_rest 7 = .ok (.iload_n 2, 1) := dk_28 (dk_at dksX7_rest_0 7 rfl rfl)
theorem dX7_rest_8 : decode cX7_rest 8 = .ok (.invokevirtual 463, 3) := dk_182 1 207 (dk_at dksX7_rest_0 8 rfl rfl)
theorem dX7_rest_11 : decode cX7_rest 11 = .ok (.ifCond .ne 6, 3) := dk_154 0 6 (dk_at dksX7_rest_0 11 rfl rfl)
theorem dX7_rest_14 : decode cX7_rest 14 = .ok (.bipush (-2), 2) := dk_16 254 (dk_at dksX7_rest_0 14 rfl rfl)
theorem dX7_rest_16 : decode cX7_rest 16 = .ok (.ireturn, 1) := dk_172 (dk_at dksX7_rest_0 16 rfl rfl)
theorem dX7_rest_17 : decode cX7_rest 17 = .ok (.aload_n 0, 1) := dk_42 (dk_at dksX7_rest_0 17 rfl rfl)
theorem dX7_rest_18 : decode cX7_rest 18 = .ok (.iload_n 1, 1) := dk_27 (dk_at dksX7_rest_0 18 rfl rfl)
theorem dX7_rest_19 : decode cX7_rest 19 = .ok (.iload_n 2, 1) := dk_28 (dk_at dksX7_rest_0 19 rfl rfl)
theorem dX7_rest_20 : decode cX7_rest 20 = .ok (.invokevirtual 466, 3) := dk_182 1 210 (dk_at dksX7_rest_0 20 rfl rfl)
theorem dX7_rest_23 : decode cX7_rest 23 = .ok (.iconst 0, 1) := dk_3 (dk_at dksX7_rest_0 23 rfl rfl)
theorem dX7_rest_24 : decode cX7_rest 24 = .ok (.istore_n 3, 1) := dk_62 (dk_at dksX7_rest_1 0 rfl rfl)
theorem dX7_rest_25 : decode cX7_rest 25 = .ok (.iload_n 3, 1) := dk_29 (dk_at dksX7_rest_1 1 rfl rfl)
theorem dX7_rest_26 : decode cX7_rest 26 = .ok (.aload_n 0, 1) := dk_42 (dk_at dksX7_rest_1 2 rfl rfl)
theorem dX7_rest_27 : decode cX7_rest 27 = .ok (.invokevirtual 283, 3) := dk_182 1 27 (dk_at dksX7_rest_1 3 rfl rfl)
theorem dX7_rest_30 : decode cX7_rest 30 = .ok (.if_icmp .ge 45, 3) := dk_162 0 45 (dk_at dksX7_rest_1 6 rfl rfl)
theorem dX7_rest_33 : decode cX7_rest 33 = .ok (.iconst 0, 1) := dk_3 (dk_at dksX7_rest_1 9 rfl rfl)
theorem dX7_rest_34 : decode cX7_rest 34 = .ok (.istore 4, 2) := dk_54 4 (dk_at dksX7_rest_1 10 rfl rfl)
theorem dX7_rest_36 : decode cX7_rest 36 = .ok (.iload 4, 2) := dk_21 4 (dk_at dksX7_rest_1 12 rfl rfl)
theorem dX7_rest_38 : decode cX7_rest 38 = .ok (.aload_n 0, 1) := dk_42 (dk_at dksX7_rest_1 14 rfl rfl)
theorem dX7_rest_39 : decode cX7_rest 39 = .ok (.invokevirtual 283, 3) := dk_182 1 27 (dk_at dksX7_rest_1 15 rfl rfl)
theorem dX7_rest_42 : decode cX7_rest 42 = .ok (.if_icmp .ge 27, 3) := dk_162 0 27 (dk_at dksX7_rest_1 18 rfl rfl)
theorem dX7_rest_45 : decode cX7_rest 45 = .ok (.aload_n 0, 1) := dk_42 (dk_at dksX7_rest_1 21 rfl rfl)
theorem dX7_rest_46 : decode cX7_rest 46 = .ok (.iload_n 3, 1) := dk_29 (dk_at dksX7_rest_1 22 rfl rfl)
theorem dX7_rest_47 : decode cX7_rest 47 = .ok (.iload 4, 2) := dk_21 4 (dk_at dksX7_rest_2 0 rfl rfl)
theorem dX7_rest_49 : decode cX7_rest 49 = .ok (.invokevirtual 469, 3) := dk_182 1 213 (dk_at dksX7_rest_2 2 rfl rfl)
theorem dX7_rest_52 : decode cX7_rest 52 = .ok (.ifCond .eq 11, 3) := dk_153 0 11 (dk_at dksX7_rest_2 5 rfl rfl)
theorem dX7_rest_55 : decode cX7_rest 55 = .ok (.bipush 10, 2) := dk_16 10 (dk_at dksX7_rest_2 8 rfl rfl)
theorem dX7_rest_57 : decode cX7_rest 57 = .ok (.iload_n 3, 1) := dk_29 (dk_at dksX7_rest_2 10 rfl rfl)
theorem dX7_rest_58 : decode cX7_rest 58 = .ok (.imul, 1) := dk_104 (dk_at dksX7_rest_2 11 rfl rfl)
theorem dX7_rest_59 : decode cX7_rest 59 = .ok (.iload 4, 2) := dk_21 4 (dk_at dksX7_rest_2 12 rfl rfl)
theorem dX7_rest_61 : decode cX7_rest 61 = .ok (.iadd, 1) := dk_96 (dk_at dksX7_rest_2 14 rfl rfl)
theorem dX7_rest_62 : decode cX7_rest 62 = .ok (.ireturn, 1) := dk_172 (dk_at dksX7_rest_2 15 rfl rfl)
theorem dX7_rest_63 : decode cX7_rest 63 = .ok (.iinc 4 1, 3) := dk_132 4 1 (dk_at dksX7_rest_2 16 rfl rfl)
theorem dX7_rest_66 : decode cX7_rest 66 = .ok (.goto (-30), 3) := dk_167 255 226 (dk_at dksX7_rest_2 19 rfl rfl)
theorem dX7_rest_69 : decode cX7_rest 69 = .ok (.iinc 3 1, 3) := dk_132 3 1 (dk_at dksX7_rest_3 0 rfl rfl)
theorem dX7_rest_72 : decode cX7_rest 72 = .ok (.goto (-47), 3) := dk_167 255 209 (dk_at dksX7_rest_3 3 rfl rfl)
theorem dX7_rest_75 : decode cX7_rest 75 = .ok (.iconst (-1), 1) := dk_2 (dk_at dksX7_rest_3 6 rfl rfl)
theorem dX7_rest_76 : decode cX7_rest 76 = .ok (.ireturn, 1) := dk_172 (dk_at dksX7_rest_3 7 rfl rfl)
abbrev cX7_chance : ByteArray := prog_12_method_138_code
def yX7_chance : MethodName := ⟨RX7, "chance", "(II)I"⟩
def dkwX7_chance_1 : List UInt8 := [182, 1, 218, 42, 182, 1, 222, 28, 184, 1, 200, 136, 167, 0, 5, 16, 254, 172]
abbrev dktX7_chance_1 : List UInt8 := dkwX7_chance_1 ++ []
def dkwX7_chance_0 : List UInt8 := [42, 3, 181, 0, 116, 42, 27, 133, 182, 1, 36, 153, 0, 28, 28, 184, 1, 86, 153, 0, 21, 42, 27, 3]
abbrev dktX7_chance_0 : List UInt8 := dkwX7_chance_0 ++ dktX7_chance_1
theorem dksX7_chance_0 : cX7_chance.data.toList.drop 0 = dktX7_chance_0 := by decide +kernel
theorem dksX7_chance_1 : cX7_chance.data.toList.drop 24 = dktX7_chance_1 := dk_seg dksX7_chance_0 24 rfl rfl
theorem dX7_chance_0 : decode cX7_chance 0 = .ok (.aload_n 0, 1) := dk_42 (dk_at dksX7_chance_0 0 rfl rfl)
theorem dX7_chance_1 : decode cX7_chance 1 = .ok (.iconst 0, 1) := dk_3 (dk_at dksX7_chance_0 1 rfl rfl)
theorem dX7_chance_2 : decode cX7_chance 2 = .ok (.putfield 116, 3) := dk_181 0 116 (dk_at dksX7_chance_0 2 rfl rfl)
theorem dX7_chance_5 : decode cX7_chance 5 = .ok (.aload_n 0, 1) := dk_42 (dk_at dksX7_chance_0 5 rfl rfl)
theorem dX7_chance_6 : decode cX7_chance 6 = .ok (.iload_n 1, 1) := dk_27 (dk_at dksX7_chance_0 6 rfl rfl)
theorem dX7_chance_7 : decode cX7_chance 7 = .ok (.i2l, 1) := dk_133 (dk_at dksX7_chance_0 7 rfl rfl)
theorem dX7_chance_8 : decode cX7_chance 8 = .ok (.invokevirtual 292, 3) := dk_182 1 36 (dk_at dksX7_chance_0 8 rfl rfl)
theorem dX7_chance_11 : decode cX7_chance 11 = .ok (.ifCond .eq 28, 3) := dk_153 0 28 (dk_at dksX7_chance_0 11 rfl rfl)
theorem dX7_chance_14 : decode cX7_chance 14 = .ok (.iload_n 2, 1) := dk_28 (dk_at dksX7_chance_0 14 rfl rfl)
theorem dX7_chance_15 : decode cX7_chance 15 = .ok (.invokestatic 342, 3) := dk_184 1 86 (dk_at dksX7_chance_0 15 rfl rfl)
theorem dX7_chance_18 : decode cX7_chance 18 = .ok (.ifCond .eq 21, 3) := dk_153 0 21 (dk_at dksX7_chance_0 18 rfl rfl)
theorem dX7_chance_21 : decode cX7_chance 21 = .ok (.aload_n 0, 1) := dk_42 (dk_at dksX7_chance_0 21 rfl rfl)
theorem dX7_chance_22 : decode cX7_chance 22 = .ok (.iload_n 1, 1) := dk_27 (dk_at dksX7_chance_0 22 rfl rfl)
theorem dX7_chance_23 : decode cX7_chance 23 = .ok (.iconst 0, 1) := dk_3 (dk_at dksX7_chance_0 23 rfl rfl)
theorem dX7_chance_24 : decode cX7_chance 24 = .ok (.invokevirtual 474, 3) := dk_182 1 218 (dk_at dksX7_chance_1 0 rfl rfl)
theorem dX7_chance_27 : decode cX7_chance 27 = .ok (.aload_n 0, 1) := dk_42 (dk_at dksX7_chance_1 3 rfl rfl)
theorem dX7_chance_28 : decode cX7_chance 28 = .ok (.invokevirtual 478, 3) := dk_182 1 222 (dk_at dksX7_chance_1 4 rfl rfl)
theorem dX7_chance_31 : decode cX7_chance 31 = .ok (.iload_n 2, 1) := dk_28 (dk_at dksX7_chance_1 7 rfl rfl)
theorem dX7_chance_32 : decode cX7_chance 32 = .ok (.invokestatic 456, 3) := dk_184 1 200 (dk_at dksX7_chance_1 8 rfl rfl)
theorem dX7_chance_35 : decode cX7_chance 35 = .ok (.l2i, 1) := dk_136 (dk_at dksX7_chance_1 11 rfl rfl)
theorem dX7_chance_36 : decode cX7_chance 36 = .ok (.goto 5, 3) := dk_167 0 5 (dk_at dksX7_chance_1 12 rfl rfl)
theorem dX7_chance_39 : decode cX7_chance 39 = .ok (.bipush (-2), 2) := dk_16 254 (dk_at dksX7_chance_1 15 rfl rfl)
theorem dX7_chance_41 : decode cX7_chance 41 = .ok (.ireturn, 1) := dk_172 (dk_at dksX7_chance_1 17 rfl rfl)
abbrev cX7_weightOf : ByteArray := prog_12_method_137_code
def yX7_weightOf : MethodName := ⟨RX7, "weightOf", "(IZ)J"⟩
def dkwX7_weightOf_5 : List UInt8 := [2, 160, 0, 7, 3, 167, 0, 4, 4, 133, 105, 97, 66, 132, 5, 1, 167, 255, 132, 33, 173]
abbrev dktX7_weightOf_5 : List UInt8 := dkwX7_weightOf_5 ++ []
def dkwX7_weightOf_4 : List UInt8 := [182, 1, 77, 33, 22, 6, 28, 153, 0, 11, 42, 27, 182, 1, 61, 167, 0, 18, 42, 180, 0, 74, 27, 46]
abbrev dktX7_weightOf_4 : List UInt8 := dkwX7_weightOf_4 ++ dktX7_weightOf_5
def dkwX7_weightOf_3 : List UInt8 := [132, 8, 1, 167, 255, 209, 22, 6, 9, 148, 154, 0, 6, 167, 0, 47, 42, 21, 5, 181, 1, 42, 42]
abbrev dktX7_weightOf_3 : List UInt8 := dkwX7_weightOf_3 ++ dktX7_weightOf_4
def dkwX7_weightOf_2 : List UInt8 := [180, 0, 34, 5, 46, 133, 167, 0, 13, 16, 10, 42, 180, 0, 34, 5, 46, 100, 133, 105, 55, 6]
abbrev dktX7_weightOf_2 : List UInt8 := dkwX7_weightOf_2 ++ dktX7_weightOf_3
def dkwX7_weightOf_1 : List UInt8 := [54, 8, 21, 8, 42, 182, 1, 30, 162, 0, 44, 22, 6, 21, 5, 21, 8, 184, 1, 51, 153, 0, 13, 42]
abbrev dktX7_weightOf_1 : List UInt8 := dkwX7_weightOf_1 ++ dktX7_weightOf_2
def dkwX7_weightOf_0 : List UInt8 := [42, 182, 1, 74, 9, 66, 3, 54, 5, 21, 5, 4, 42, 182, 1, 30, 120, 162, 0, 119, 10, 55, 6, 3]
abbrev dktX7_weightOf_0 : List UInt8 := dkwX7_weightOf_0 ++ dktX7_weightOf_1
theorem dksX7_weightOf_0 : cX7_weightOf.data.toList.drop 0 = dktX7_weightOf_0 := by decide +kernel
theorem dksX7_weightOf_1 : cX7_weightOf.data.toList.drop 24 = dktX7_weightOf_1 := dk_seg dksX7_weightOf_0 24 rfl rfl
theorem dksX7_weightOf_2 : cX7_weightOf.data.toList.drop 48 = dktX7_weightOf_2 := dk_seg dksX7_weightOf_1 24 rfl rfl
theorem dksX7_weightOf_3 : cX7_weightOf.data.toList.drop 70 = dktX7_weightOf_3 := dk_seg dksX7_weightOf_2 22 rfl rfl
theorem dksX7_weightOf_4 : cX7_weightOf.data.toList.drop 93 = dktX7_weightOf_4 := dk_seg dksX7_weightOf_3 23 rfl rfl
theorem dksX7_weightOf_5 : cX7_weightOf.data.toList.drop 117 = dktX7_weightOf_5 := dk_seg dksX7_weightOf_4 24 rfl rfl
theorem dX7_weightOf_0 : decode cX7_weightOf 0 = .ok (.aload_n 0, 1) := dk_42 (dk_at dksX7_weightOf_0 0 rfl rfl)
theorem dX7_weightOf_1 : decode cX7_weightOf 1 = .ok (.invokevirtual 330, 3) := dk_182 1 74 (dk_at dksX7_weightOf_0 1 rfl rfl)
theorem dX7_weightOf_4 : decode cX7_weightOf 4 = .ok (.lconst 0, 1) := dk_9 (dk_at dksX7_weightOf_0 4 rfl rfl)
theorem dX7_weightOf_5 : decode cX7_weightOf 5 = .ok (.lstore_n 3, 1) := dk_66 (dk_at dksX7_weightOf_0 5 rfl rfl)
theorem dX7_weightOf_6 : decode cX7_weightOf 6 = .ok (.iconst 0, 1) := dk_3 (dk_at dksX7_weightOf_0 6 rfl rfl)
theorem dX7_weightOf_7 : decode cX7_weightOf 7 = .ok (.istore 5, 2) := dk_54 5 (dk_at dksX7_weightOf_0 7 rfl rfl)
theorem dX7_weightOf_9 : decode cX7_weightOf 9 = .ok (.iload 5, 2) := dk_21 5 (dk_at dksX7_weightOf_0 9 rfl rfl)
theorem dX7_weightOf_11 : decode cX7_weightOf 11 = .ok (.iconst 1, 1) := dk_4 (dk_at dksX7_weightOf_0 11 rfl rfl)
theorem dX7_weightOf_12 : decode cX7_weightOf 12 = .ok (.aload_n 0, 1) := dk_42 (dk_at dksX7_weightOf_0 12 rfl rfl)
theorem dX7_weightOf_13 : decode cX7_weightOf 13 = .ok (.invokevirtual 286, 3) := dk_182 1 30 (dk_at dksX7_weightOf_0 13 rfl rfl)
theorem dX7_weightOf_16 : decode cX7_weightOf 16 = .ok (.ishl, 1) := dk_120 (dk_at dksX7_weightOf_0 16 rfl rfl)
theorem dX7_weightOf_17 : decode cX7_weightOf 17 = .ok (.if_icmp .ge 119, 3) := dk_162 0 119 (dk_at dksX7_weightOf_0 17 rfl rfl)
theorem dX7_weightOf_20 : decode cX7_weightOf 20 = .ok (.lconst 1, 1) := dk_10 (dk_at dksX7_weightOf_0 20 rfl rfl)
theorem dX7_weightOf_21 : decode cX7_weightOf 21 = .ok (.lstore 6, 2) := dk_55 6 (dk_at dksX7_weightOf_0 21 rfl rfl)
theorem dX7_weightOf_23 : decode cX7_weightOf 23 = .ok (.iconst 0, 1) := dk_3 (dk_at dksX7_weightOf_0 23 rfl rfl)
theorem dX7_weightOf_24 : decode cX7_weightOf 24 = .ok (.istore 8, 2) := dk_54 8 (dk_at dksX7_weightOf_1 0 rfl rfl)
theorem dX7_weightOf_26 : decode cX7_weightOf 26 = .ok (.iload 8, 2) := dk_21 8 (dk_at dksX7_weightOf_1 2 rfl rfl)
theorem dX7_weightOf_28 : decode cX7_weightOf 28 = .ok (.aload_n 0, 1) := dk_42 (dk_at dksX7_weightOf_1 4 rfl rfl)
theorem dX7_weightOf_29 : decode cX7_weightOf 29 = .ok (.invokevirtual 286, 3) := dk_182 1 30 (dk_at dksX7_weightOf_1 5 rfl rfl)
theorem dX7_weightOf_32 : decode cX7_weightOf 32 = .ok (.if_icmp .ge 44, 3) := dk_162 0 44 (dk_at dksX7_weightOf_1 8 rfl rfl)
theorem dX7_weightOf_35 : decode cX7_weightOf 35 = .ok (.lload 6, 2) := dk_22 6 (dk_at dksX7_weightOf_1 11 rfl rfl)
theorem dX7_weightOf_37 : decode cX7_weightOf 37 = .ok (.iload 5, 2) := dk_21 5 (dk_at dksX7_weightOf_1 13 rfl rfl)
theorem dX7_weightOf_39 : decode cX7_weightOf 39 = .ok (.iload 8, 2) := dk_21 8 (dk_at dksX7_weightOf_1 15 rfl rfl)
theorem dX7_weightOf_41 : decode cX7_weightOf 41 = .ok (.invokestatic 307, 3) := dk_184 1 51 (dk_at dksX7_weightOf_1 17 rfl rfl)
theorem dX7_weightOf_44 : decode cX7_weightOf 44 = .ok (.ifCond .eq 13, 3) := dk_153 0 13 (dk_at dksX7_weightOf_1 20 rfl rfl)
theorem dX7_weightOf_47 : decode cX7_weightOf 47 = .ok (.aload_n 0, 1) := dk_42 (dk_at dksX7_weightOf_1 23 rfl rfl)
theorem dX7_weightOf_48 : decode cX7_weightOf 48 = .ok (.getfield 34, 3) := dk_180 0 34 (dk_at dksX7_weightOf_2 0 rfl rfl)
theorem dX7_weightOf_51 : decode cX7_weightOf 51 = .ok (.iconst 2, 1) := dk_5 (dk_at dksX7_weightOf_2 3 rfl rfl)
theorem dX7_weightOf_52 : decode cX7_weightOf 52 = .ok (.iaload, 1) := dk_46 (dk_at dksX7_weightOf_2 4 rfl rfl)
theorem dX7_weightOf_53 : decode cX7_weightOf 53 = .ok (.i2l, 1) := dk_133 (dk_at dksX7_weightOf_2 5 rfl rfl)
theorem dX7_weightOf_54 : decode cX7_weightOf 54 = .ok (.goto 13, 3) := dk_167 0 13 (dk_at dksX7_weightOf_2 6 rfl rfl)
theorem dX7_weightOf_57 : decode cX7_weightOf 57 = .ok (.bipush 10, 2) := dk_16 10 (dk_at dksX7_weightOf_2 9 rfl rfl)
theorem dX7_weightOf_59 : decode cX7_weightOf 59 = .ok (.aload_n 0, 1) := dk_42 (dk_at dksX7_weightOf_2 11 rfl rfl)
theorem dX7_weightOf_60 : decode cX7_weightOf 60 = .ok (.getfield 34, 3) := dk_180 0 34 (dk_at dksX7_weightOf_2 12 rfl rfl)
theorem dX7_weightOf_63 : decode cX7_weightOf 63 = .ok (.iconst 2, 1) := dk_5 (dk_at dksX7_weightOf_2 15 rfl rfl)
theorem dX7_weightOf_64 : decode cX7_weightOf 64 = .ok (.iaload, 1) := dk_46 (dk_at dksX7_weightOf_2 16 rfl rfl)
theorem dX7_weightOf_65 : decode cX7_weightOf 65 = .ok (.isub, 1) := dk_100 (dk_at dksX7_weightOf_2 17 rfl rfl)
theorem dX7_weightOf_66 : decode cX7_weightOf 66 = .ok (.i2l, 1) := dk_133 (dk_at dksX7_weightOf_2 18 rfl rfl)
theorem dX7_weightOf_67 : decode cX7_weightOf 67 = .ok (.lmul, 1) := dk_105 (dk_at dksX7_weightOf_2 19 rfl rfl)
theorem dX7_weightOf_68 : decode cX7_weightOf 68 = .ok (.lstore 6, 2) := dk_55 6 (dk_at dksX7_weightOf_2 20 rfl rfl)
theorem dX7_weightOf_70 : decode cX7_weightOf 70 = .ok (.iinc 8 1, 3) := dk_132 8 1 (dk_at dksX7_weightOf_3 0 rfl rfl)
theorem dX7_weightOf_73 : decode cX7_weightOf 73 = .ok (.goto (-47), 3) := dk_167 255 209 (dk_at dksX7_weightOf_3 3 rfl rfl)
theorem dX7_weightOf_76 : decode cX7_weightOf 76 = .ok (.lload 6, 2) := dk_22 6 (dk_at dksX7_weightOf_3 6 rfl rfl)
theorem dX7_weightOf_78 : decode cX7_weightOf 78 = .ok (.lconst 0, 1) := dk_9 (dk_at dksX7_weightOf_3 8 rfl rfl)
theorem dX7_weightOf_79 : decode cX7_weightOf 79 = .ok (.lcmp, 1) := dk_148 (dk_at dksX7_weightOf_3 9 rfl rfl)
theorem dX7_weightOf_80 : decode cX7_weightOf 80 = .ok (.ifCond .ne 6, 3) := dk_154 0 6 (dk_at dksX7_weightOf_3 10 rfl rfl)
theorem dX7_weightOf_83 : decode cX7_weightOf 83 = .ok (.goto 47, 3) := dk_167 0 47 (dk_at dksX7_weightOf_3 13 rfl rfl)
theorem dX7_weightOf_86 : decode cX7_weightOf 86 = .ok (.aload_n 0, 1) := dk_42 (dk_at dksX7_weightOf_3 16 rfl rfl)
theorem dX7_weightOf_87 : decode cX7_weightOf 87 = .ok (.iload 5, 2) := dk_21 5 (dk_at dksX7_weightOf_3 17 rfl rfl)
theorem dX7_weightOf_89 : decode cX7_weightOf 89 = .ok (.putfield 298, 3) := dk_181 1 42 (dk_at dksX7_weightOf_3 19 rfl rfl)
theorem dX7_weightOf_92 : decode cX7_weightOf 92 = .ok (.aload_n 0, 1) := dk_42 (dk_at dksX7_weightOf_3 22 rfl rfl)
theorem dX7_weightOf_93 : decode cX7_weightOf 93 = .ok (.invokevirtual 333, 3) := dk_182 1 77 (dk_at dksX7_weightOf_4 0 rfl rfl)
theorem dX7_weightOf_96 : decode cX7_weightOf 96 = .ok (.lload_n 3, 1) := dk_33 (dk_at dksX7_weightOf_4 3 rfl rfl)
theorem dX7_weightOf_97 : decode cX7_weightOf 97 = .ok (.lload 6, 2) := dk_22 6 (dk_at dksX7_weightOf_4 4 rfl rfl)
theorem dX7_weightOf_99 : decode cX7_weightOf 99 = .ok (.iload_n 2, 1) := dk_28 (dk_at dksX7_weightOf_4 6 rfl rfl)
theorem dX7_weightOf_100 : decode cX7_weightOf 100 = .ok (.ifCond .eq 11, 3) := dk_153 0 11 (dk_at dksX7_weightOf_4 7 rfl rfl)
theorem dX7_weightOf_103 : decode cX7_weightOf 103 = .ok (.aload_n 0, 1) := dk_42 (dk_at dksX7_weightOf_4 10 rfl rfl)
theorem dX7_weightOf_104 : decode cX7_weightOf 104 = .ok (.iload_n 1, 1) := dk_27 (dk_at dksX7_weightOf_4 11 rfl rfl)
theorem dX7_weightOf_105 : decode cX7_weightOf 105 = .ok (.invokevirtual 317, 3) := dk_182 1 61 (dk_at dksX7_weightOf_4 12 rfl rfl)
theorem dX7_weightOf_108 : decode cX7_weightOf 108 = .ok (.goto 18, 3) := dk_167 0 18 (dk_at dksX7_weightOf_4 15 rfl rfl)
theorem dX7_weightOf_111 : decode cX7_weightOf 111 = .ok (.aload_n 0, 1) := dk_42 (dk_at dksX7_weightOf_4 18 rfl rfl)
theorem dX7_weightOf_112 : decode cX7_weightOf 112 = .ok (.getfield 74, 3) := dk_180 0 74 (dk_at dksX7_weightOf_4 19 rfl rfl)
theorem dX7_weightOf_115 : decode cX7_weightOf 115 = .ok (.iload_n 1, 1) := dk_27 (dk_at dksX7_weightOf_4 22 rfl rfl)
theorem dX7_weightOf_116 : decode cX7_weightOf 116 = .ok (.iaload, 1) := dk_46 (dk_at dksX7_weightOf_4 23 rfl rfl)
theorem dX7_weightOf_117 : decode cX7_weightOf 117 = .ok (.iconst (-1), 1) := dk_2 (dk_at dksX7_weightOf_5 0 rfl rfl)
theorem dX7_weightOf_118 : decode cX7_weightOf 118 = .ok (.if_icmp .ne 7, 3) := dk_160 0 7 (dk_at dksX7_weightOf_5 1 rfl rfl)
theorem dX7_weightOf_121 : decode cX7_weightOf 121 = .ok (.iconst 0, 1) := dk_3 (dk_at dksX7_weightOf_5 4 rfl rfl)
theorem dX7_weightOf_122 : decode cX7_weightOf 122 = .ok (.goto 4, 3) := dk_167 0 4 (dk_at dksX7_weightOf_5 5 rfl rfl)
theorem dX7_weightOf_125 : decode cX7_weightOf 125 = .ok (.iconst 1, 1) := dk_4 (dk_at dksX7_weightOf_5 8 rfl rfl)
theorem dX7_weightOf_126 : decode cX7_weightOf 126 = .ok (.i2l, 1) := dk_133 (dk_at dksX7_weightOf_5 9 rfl rfl)
theorem dX7_weightOf_127 : decode cX7_weightOf 127 = .ok (.lmul, 1) := dk_105 (dk_at dksX7_weightOf_5 10 rfl rfl)
theorem dX7_weightOf_128 : decode cX7_weightOf 128 = .ok (.ladd, 1) := dk_97 (dk_at dksX7_weightOf_5 11 rfl rfl)
theorem dX7_weightOf_129 : decode cX7_weightOf 129 = .ok (.lstore_n 3, 1) := dk_66 (dk_at dksX7_weightOf_5 12 rfl rfl)
theorem dX7_weightOf_130 : decode cX7_weightOf 130 = .ok (.iinc 5 1, 3) := dk_132 5 1 (dk_at dksX7_weightOf_5 13 rfl rfl)
theorem dX7_weightOf_133 : decode cX7_weightOf 133 = .ok (.goto (-124), 3) := dk_167 255 132 (dk_at dksX7_weightOf_5 16 rfl rfl)
theorem dX7_weightOf_136 : decode cX7_weightOf 136 = .ok (.lload_n 3, 1) := dk_33 (dk_at dksX7_weightOf_5 19 rfl rfl)
theorem dX7_weightOf_137 : decode cX7_weightOf 137 = .ok (.lreturn, 1) := dk_173 (dk_at dksX7_weightOf_5 20 rfl rfl)
abbrev cX7_tens : ByteArray := prog_12_method_136_code
def yX7_tens : MethodName := ⟨RX7, "tens", "()J"⟩
def dkwX7_tens_1 : List UInt8 := [31, 173]
abbrev dktX7_tens_1 : List UInt8 := dkwX7_tens_1 ++ []
def dkwX7_tens_0 : List UInt8 := [10, 64, 3, 62, 29, 42, 182, 1, 30, 162, 0, 15, 31, 20, 1, 216, 105, 64, 132, 3, 1, 167, 255, 239]
abbrev dktX7_tens_0 : List UInt8 := dkwX7_tens_0 ++ dktX7_tens_1
theorem dksX7_tens_0 : cX7_tens.data.toList.drop 0 = dktX7_tens_0 := by decide +kernel
theorem dksX7_tens_1 : cX7_tens.data.toList.drop 24 = dktX7_tens_1 := dk_seg dksX7_tens_0 24 rfl rfl
theorem dX7_tens_0 : decode cX7_tens 0 = .ok (.lconst 1, 1) := dk_10 (dk_at dksX7_tens_0 0 rfl rfl)
theorem dX7_tens_1 : decode cX7_tens 1 = .ok (.lstore_n 1, 1) := dk_64 (dk_at dksX7_tens_0 1 rfl rfl)
theorem dX7_tens_2 : decode cX7_tens 2 = .ok (.iconst 0, 1) := dk_3 (dk_at dksX7_tens_0 2 rfl rfl)
theorem dX7_tens_3 : decode cX7_tens 3 = .ok (.istore_n 3, 1) := dk_62 (dk_at dksX7_tens_0 3 rfl rfl)
theorem dX7_tens_4 : decode cX7_tens 4 = .ok (.iload_n 3, 1) := dk_29 (dk_at dksX7_tens_0 4 rfl rfl)
theorem dX7_tens_5 : decode cX7_tens 5 = .ok (.aload_n 0, 1) := dk_42 (dk_at dksX7_tens_0 5 rfl rfl)
theorem dX7_tens_6 : decode cX7_tens 6 = .ok (.invokevirtual 286, 3) := dk_182 1 30 (dk_at dksX7_tens_0 6 rfl rfl)
theorem dX7_tens_9 : decode cX7_tens 9 = .ok (.if_icmp .ge 15, 3) := dk_162 0 15 (dk_at dksX7_tens_0 9 rfl rfl)
theorem dX7_tens_12 : decode cX7_tens 12 = .ok (.lload_n 1, 1) := dk_31 (dk_at dksX7_tens_0 12 rfl rfl)
theorem dX7_tens_13 : decode cX7_tens 13 = .ok (.ldc2_w 472, 3) := dk_20 1 216 (dk_at dksX7_tens_0 13 rfl rfl)
theorem dX7_tens_16 : decode cX7_tens 16 = .ok (.lmul, 1) := dk_105 (dk_at dksX7_tens_0 16 rfl rfl)
theorem dX7_tens_17 : decode cX7_tens 17 = .ok (.lstore_n 1, 1) := dk_64 (dk_at dksX7_tens_0 17 rfl rfl)
theorem dX7_tens_18 : decode cX7_tens 18 = .ok (.iinc 3 1, 3) := dk_132 3 1 (dk_at dksX7_tens_0 18 rfl rfl)
theorem dX7_tens_21 : decode cX7_tens 21 = .ok (.goto (-17), 3) := dk_167 255 239 (dk_at dksX7_tens_0 21 rfl rfl)
theorem dX7_tens_24 : decode cX7_tens 24 = .ok (.lload_n 1, 1) := dk_31 (dk_at dksX7_tens_1 0 rfl rfl)
theorem dX7_tens_25 : decode cX7_tens 25 = .ok (.lreturn, 1) := dk_173 (dk_at dksX7_tens_1 1 rfl rfl)
abbrev cX7_mean : ByteArray := prog_12_method_139_code
def yX7_mean : MethodName := ⟨RX7, "mean", "(II)J"⟩
def dkwX7_mean_1 : List UInt8 := [182, 1, 218, 42, 182, 1, 222, 28, 184, 1, 200, 167, 0, 6, 20, 1, 226, 173]
abbrev dktX7_mean_1 : List UInt8 := dkwX7_mean_1 ++ []
def dkwX7_mean_0 : List UInt8 := [42, 3, 181, 0, 116, 42, 27, 133, 182, 1, 36, 153, 0, 27, 28, 184, 1, 86, 153, 0, 20, 42, 27, 4]
abbrev dktX7_mean_0 : List UInt8 := dkwX7_mean_0 ++ dktX7_mean_1
theorem dksX7_mean_0 : cX7_mean.data.toList.drop 0 = dktX7_mean_0 := by decide +kernel
theorem dksX7_mean_1 : cX7_mean.data.toList.drop 24 = dktX7_mean_1 := dk_seg dksX7_mean_0 24 rfl rfl
theorem dX7_mean_0 : decode cX7_mean 0 = .ok (.aload_n 0, 1) := dk_42 (dk_at dksX7_mean_0 0 rfl rfl)
theorem dX7_mean_1 : decode cX7_mean 1 = .ok (.iconst 0, 1) := dk_3 (dk_at dksX7_mean_0 1 rfl rfl)
theorem dX7_mean_2 : decode cX7_mean 2 = .ok (.putfield 116, 3) := dk_181 0 116 (dk_at dksX7_mean_0 2 rfl rfl)
theorem dX7_mean_5 : decode cX7_mean 5 = .ok (.aload_n 0, 1) := dk_42 (dk_at dksX7_mean_0 5 rfl rfl)
theorem dX7_mean_6 : decode cX7_mean 6 = .ok (.iload_n 1, 1) := dk_27 (dk_at dksX7_mean_0 6 rfl rfl)
theorem dX7_mean_7 : decode cX7_mean 7 = .ok (.i2l, 1) := dk_133 (dk_at dksX7_mean_0 7 rfl rfl)
theorem dX7_mean_8 : decode cX7_mean 8 = .ok (.invokevirtual 292, 3) := dk_182 1 36 (dk_at dksX7_mean_0 8 rfl rfl)
theorem dX7_mean_11 : decode cX7_mean 11 = .ok (.ifCond .eq 27, 3) := dk_153 0 27 (dk_at dksX7_mean_0 11 rfl rfl)
theorem dX7_mean_14 : decode cX7_mean 14 = .ok (.iload_n 2, 1) := dk_28 (dk_at dksX7_mean_0 14 rfl rfl)
theorem dX7_mean_15 : decode cX7_mean 15 = .ok (.invokestatic 342, 3) := dk_184 1 86 (dk_at dksX7_mean_0 15 rfl rfl)
theorem dX7_mean_18 : decode cX7_mean 18 = .ok (.ifCond .eq 20, 3) := dk_153 0 20 (dk_at dksX7_mean_0 18 rfl rfl)
theorem dX7_mean_21 : decode cX7_mean 21 = .ok (.aload_n 0, 1) := dk_42 (dk_at dksX7_mean_0 21 rfl rfl)
theorem dX7_mean_22 : decode cX7_mean 22 = .ok (.iload_n 1, 1) := dk_27 (dk_at dksX7_mean_0 22 rfl rfl)
theorem dX7_mean_23 : decode cX7_mean 23 = .ok (.iconst 1, 1) := dk_4 (dk_at dksX7_mean_0 23 rfl rfl)
theorem dX7_mean_24 : decode cX7_mean 24 = .ok (.invokevirtual 474, 3) := dk_182 1 218 (dk_at dksX7_mean_1 0 rfl rfl)
theorem dX7_mean_27 : decode cX7_mean 27 = .ok (.aload_n 0, 1) := dk_42 (dk_at dksX7_mean_1 3 rfl rfl)
theorem dX7_mean_28 : decode cX7_mean 28 = .ok (.invokevirtual 478, 3) := dk_182 1 222 (dk_at dksX7_mean_1 4 rfl rfl)
theorem dX7_mean_31 : decode cX7_mean 31 = .ok (.iload_n 2, 1) := dk_28 (dk_at dksX7_mean_1 7 rfl rfl)
theorem dX7_mean_32 : decode cX7_mean 32 = .ok (.invokestatic 456, 3) := dk_184 1 200 (dk_at dksX7_mean_1 8 rfl rfl)
theorem dX7_mean_35 : decode cX7_mean 35 = .ok (.goto 6, 3) := dk_167 0 6 (dk_at dksX7_mean_1 11 rfl rfl)
theorem dX7_mean_38 : decode cX7_mean 38 = .ok (.ldc2_w 482, 3) := dk_20 1 226 (dk_at dksX7_mean_1 14 rfl rfl)
theorem dX7_mean_41 : decode cX7_mean 41 = .ok (.lreturn, 1) := dk_173 (dk_at dksX7_mean_1 17 rfl rfl)
abbrev cX7_drawn : ByteArray := prog_12_method_142_code
def yX7_drawn : MethodName := ⟨RX7, "drawn", "(II)I"⟩
def dkwX7_drawn_2 : List UInt8 := [182, 1, 83, 172]
abbrev dktX7_drawn_2 : List UInt8 := dkwX7_drawn_2 ++ []
def dkwX7_drawn_1 : List UInt8 := [154, 0, 6, 16, 254, 172, 42, 27, 133, 182, 1, 241, 28, 154, 0, 10, 42, 180, 1, 42, 167, 0, 7, 42]
abbrev dktX7_drawn_1 : List UInt8 := dkwX7_drawn_1 ++ dktX7_drawn_2
def dkwX7_drawn_0 : List UInt8 := [42, 3, 181, 0, 116, 42, 182, 1, 94, 153, 0, 17, 27, 184, 1, 238, 153, 0, 10, 28, 184, 1, 86]
abbrev dktX7_drawn_0 : List UInt8 := dkwX7_drawn_0 ++ dktX7_drawn_1
theorem dksX7_drawn_0 : cX7_drawn.data.toList.drop 0 = dktX7_drawn_0 := by decide +kernel
theorem dksX7_drawn_1 : cX7_drawn.data.toList.drop 23 = dktX7_drawn_1 := dk_seg dksX7_drawn_0 23 rfl rfl
theorem dksX7_drawn_2 : cX7_drawn.data.toList.drop 47 = dktX7_drawn_2 := dk_seg dksX7_drawn_1 24 rfl rfl
theorem dX7_drawn_0 : decode cX7_drawn 0 = .ok (.aload_n 0, 1) := dk_42 (dk_at dksX7_drawn_0 0 rfl rfl)
theorem dX7_drawn_1 : decode cX7_drawn 1 = .ok (.iconst 0, 1) := dk_3 (dk_at dksX7_drawn_0 1 rfl rfl)
theorem dX7_drawn_2 : decode cX7_drawn 2 = .ok (.putfield 116, 3) := dk_181 0 116 (dk_at dksX7_drawn_0 2 rfl rfl)
theorem dX7_drawn_5 : decode cX7_drawn 5 = .ok (.aload_n 0, 1) := dk_42 (dk_at dksX7_drawn_0 5 rfl rfl)
theorem dX7_drawn_6 : decode cX7_drawn 6 = .ok (.invokevirtual 350, 3) := dk_182 1 94 (dk_at dksX7_drawn_0 6 rfl rfl)
theorem dX7_drawn_9 : decode cX7_drawn 9 = .ok (.ifCond .eq 17, 3) := dk_153 0 17 (dk_at dksX7_drawn_0 9 rfl rfl)
theorem dX7_drawn_12 : decode cX7_drawn 12 = .ok (.iload_n 1, 1) := dk_27 (dk_at dksX7_drawn_0 12 rfl rfl)
theorem dX7_drawn_13 : decode cX7_drawn 13 = .ok (.invokestatic 494, 3) := dk_184 1 238 (dk_at dksX7_drawn_0 13 rfl rfl)
theorem dX7_drawn_16 : decode cX7_drawn 16 = .ok (.ifCond .eq 10, 3) := dk_153 0 10 (dk_at dksX7_drawn_0 16 rfl rfl)
theorem dX7_drawn_19 : decode cX7_drawn 19 = .ok (.iload_n 2, 1) := dk_28 (dk_at dksX7_drawn_0 19 rfl rfl)
theorem dX7_drawn_20 : decode cX7_drawn 20 = .ok (.invokestatic 342, 3) := dk_184 1 86 (dk_at dksX7_drawn_0 20 rfl rfl)
theorem dX7_drawn_23 : decode cX7_drawn 23 = .ok (.ifCond .ne 6, 3) := dk_154 0 6 (dk_at dksX7_drawn_1 0 rfl rfl)
theorem dX7_drawn_26 : decode cX7_drawn 26 = .ok (.bipush (-2), 2) := dk_16 254 (dk_at dksX7_drawn_1 3 rfl rfl)
theorem dX7_drawn_28 : decode cX7_drawn 28 = .ok (.ireturn, 1) := dk_172 (dk_at dksX7_drawn_1 5 rfl rfl)
theorem dX7_drawn_29 : decode cX7_drawn 29 = .ok (.aload_n 0, 1) := dk_42 (dk_at dksX7_drawn_1 6 rfl rfl)
theorem dX7_drawn_30 : decode cX7_drawn 30 = .ok (.iload_n 1, 1) := dk_27 (dk_at dksX7_drawn_1 7 rfl rfl)
theorem dX7_drawn_31 : decode cX7_drawn 31 = .ok (.i2l, 1) := dk_133 (dk_at dksX7_drawn_1 8 rfl rfl)
theorem dX7_drawn_32 : decode cX7_drawn 32 = .ok (.invokevirtual 497, 3) := dk_182 1 241 (dk_at dksX7_drawn_1 9 rfl rfl)
theorem dX7_drawn_35 : decode cX7_drawn 35 = .ok (.iload_n 2, 1) := dk_28 (dk_at dksX7_drawn_1 12 rfl rfl)
theorem dX7_drawn_36 : decode cX7_drawn 36 = .ok (.ifCond .ne 10, 3) := dk_154 0 10 (dk_at dksX7_drawn_1 13 rfl rfl)
theorem dX7_drawn_39 : decode cX7_drawn 39 = .ok (.aload_n 0, 1) := dk_42 (dk_at dksX7_drawn_1 16 rfl rfl)
theorem dX7_drawn_40 : decode cX7_drawn 40 = .ok (.getfield 298, 3) := dk_180 1 42 (dk_at dksX7_drawn_1 17 rfl rfl)
theorem dX7_drawn_43 : decode cX7_drawn 43 = .ok (.goto 7, 3) := dk_167 0 7 (dk_at dksX7_drawn_1 20 rfl rfl)
theorem dX7_drawn_46 : decode cX7_drawn 46 = .ok (.aload_n 0, 1) := dk_42 (dk_at dksX7_drawn_1 23 rfl rfl)
theorem dX7_drawn_47 : decode cX7_drawn 47 = .ok (.invokevirtual 339, 3) := dk_182 1 83 (dk_at dksX7_drawn_2 0 rfl rfl)
theorem dX7_drawn_50 : decode cX7_drawn 50 = .ok (.ireturn, 1) := dk_172 (dk_at dksX7_drawn_2 3 rfl rfl)
abbrev cX7_isSeed : ByteArray := prog_12_method_141_code
def yX7_isSeed : MethodName := ⟨RX7, "isSeed", "(I)Z"⟩
def dkwX7_isSeed_0 : List UInt8 := [26, 133, 9, 20, 1, 236, 184, 0, 121, 172]
abbrev dktX7_isSeed_0 : List UInt8 := dkwX7_isSeed_0 ++ []
theorem dksX7_isSeed_0 : cX7_isSeed.data.toList.drop 0 = dktX7_isSeed_0 := by decide +kernel
theorem dX7_isSeed_0 : decode cX7_isSeed 0 = .ok (.iload_n 0, 1) := dk_26 (dk_at dksX7_isSeed_0 0 rfl rfl)
theorem dX7_isSeed_1 : decode cX7_isSeed 1 = .ok (.i2l, 1) := dk_133 (dk_at dksX7_isSeed_0 1 rfl rfl)
theorem dX7_isSeed_2 : decode cX7_isSeed 2 = .ok (.lconst 0, 1) := dk_9 (dk_at dksX7_isSeed_0 2 rfl rfl)
theorem dX7_isSeed_3 : decode cX7_isSeed 3 = .ok (.ldc2_w 492, 3) := dk_20 1 236 (dk_at dksX7_isSeed_0 3 rfl rfl)
theorem dX7_isSeed_6 : decode cX7_isSeed 6 = .ok (.invokestatic 121, 3) := dk_184 0 121 (dk_at dksX7_isSeed_0 6 rfl rfl)
theorem dX7_isSeed_9 : decode cX7_isSeed 9 = .ok (.ireturn, 1) := dk_172 (dk_at dksX7_isSeed_0 9 rfl rfl)
abbrev cX7_draws : ByteArray := prog_12_method_140_code
def yX7_draws : MethodName := ⟨RX7, "draws", "(J)V"⟩
def dkwX7_draws_3 : List UInt8 := [181, 1, 42, 132, 5, 1, 167, 255, 193, 42, 182, 1, 77, 177]
abbrev dktX7_draws_3 : List UInt8 := dkwX7_draws_3 ++ []
def dkwX7_draws_2 : List UInt8 := [20, 1, 216, 113, 42, 180, 0, 34, 5, 46, 133, 148, 156, 0, 10, 4, 21, 5, 120, 167, 0, 4, 3, 128]
abbrev dktX7_draws_2 : List UInt8 := dkwX7_draws_2 ++ dktX7_draws_3
def dkwX7_draws_1 : List UInt8 := [20, 1, 228, 33, 105, 20, 1, 230, 97, 20, 1, 232, 113, 66, 42, 89, 180, 1, 42, 33, 20, 1, 234, 109]
abbrev dktX7_draws_1 : List UInt8 := dkwX7_draws_1 ++ dktX7_draws_2
def dkwX7_draws_0 : List UInt8 := [42, 182, 1, 74, 42, 3, 181, 1, 42, 31, 66, 3, 54, 5, 21, 5, 42, 182, 1, 30, 162, 0, 60]
abbrev dktX7_draws_0 : List UInt8 := dkwX7_draws_0 ++ dktX7_draws_1
theorem dksX7_draws_0 : cX7_draws.data.toList.drop 0 = dktX7_draws_0 := by decide +kernel
theorem dksX7_draws_1 : cX7_draws.data.toList.drop 23 = dktX7_draws_1 := dk_seg dksX7_draws_0 23 rfl rfl
theorem dksX7_draws_2 : cX7_draws.data.toList.drop 47 = dktX7_draws_2 := dk_seg dksX7_draws_1 24 rfl rfl
theorem dksX7_draws_3 : cX7_draws.data.toList.drop 71 = dktX7_draws_3 := dk_seg dksX7_draws_2 24 rfl rfl
theorem dX7_draws_0 : decode cX7_draws 0 = .ok (.aload_n 0, 1) := dk_42 (dk_at dksX7_draws_0 0 rfl rfl)
theorem dX7_draws_1 : decode cX7_draws 1 = .ok (.invokevirtual 330, 3) := dk_182 1 74 (dk_at dksX7_draws_0 1 rfl rfl)
theorem dX7_draws_4 : decode cX7_draws 4 = .ok (.aload_n 0, 1) := dk_42 (dk_at dksX7_draws_0 4 rfl rfl)
theorem dX7_draws_5 : decode cX7_draws 5 = .ok (.iconst 0, 1) := dk_3 (dk_at dksX7_draws_0 5 rfl rfl)
theorem dX7_draws_6 : decode cX7_draws 6 = .ok (.putfield 298, 3) := dk_181 1 42 (dk_at dksX7_draws_0 6 rfl rfl)
theorem dX7_draws_9 : decode cX7_draws 9 = .ok (.lload_n 1, 1) := dk_31 (dk_at dksX7_draws_0 9 rfl rfl)
theorem dX7_draws_10 : decode cX7_draws 10 = .ok (.lstore_n 3, 1) := dk_66 (dk_at dksX7_draws_0 10 rfl rfl)
theorem dX7_draws_11 : decode cX7_draws 11 = .ok (.iconst 0, 1) := dk_3 (dk_at dksX7_draws_0 11 rfl rfl)
theorem dX7_draws_12 : decode cX7_draws 12 = .ok (.istore 5, 2) := dk_54 5 (dk_at dksX7_draws_0 12 rfl rfl)
theorem dX7_draws_14 : decode cX7_draws 14 = .ok (.iload 5, 2) := dk_21 5 (dk_at dksX7_draws_0 14 rfl rfl)
theorem dX7_draws_16 : decode cX7_draws 16 = .ok (.aload_n 0, 1) := dk_42 (dk_at dksX7_draws_0 16 rfl rfl)
theorem dX7_draws_17 : decode cX7_draws 17 = .ok (.invokevirtual 286, 3) := dk_182 1 30 (dk_at dksX7_draws_0 17 rfl rfl)
theorem dX7_draws_20 : decode cX7_draws 20 = .ok (.if_icmp .ge 60, 3) := dk_162 0 60 (dk_at dksX7_draws_0 20 rfl rfl)
theorem dX7_draws_23 : decode cX7_draws 23 = .ok (.ldc2_w 484, 3) := dk_20 1 228 (dk_at dksX7_draws_1 0 rfl rfl)
theorem dX7_draws_26 : decode cX7_draws 26 = .ok (.lload_n 3, 1) := dk_33 (dk_at dksX7_draws_1 3 rfl rfl)
theorem dX7_draws_27 : decode cX7_draws 27 = .ok (.lmul, 1) := dk_105 (dk_at dksX7_draws_1 4 rfl rfl)
theorem dX7_draws_28 : decode cX7_draws 28 = .ok (.ldc2_w 486, 3) := dk_20 1 230 (dk_at dksX7_draws_1 5 rfl rfl)
theorem dX7_draws_31 : decode cX7_draws 31 = .ok (.ladd, 1) := dk_97 (dk_at dksX7_draws_1 8 rfl rfl)
theorem dX7_draws_32 : decode cX7_draws 32 = .ok (.ldc2_w 488, 3) := dk_20 1 232 (dk_at dksX7_draws_1 9 rfl rfl)
theorem dX7_draws_35 : decode cX7_draws 35 = .ok (.lrem, 1) := dk_113 (dk_at dksX7_draws_1 12 rfl rfl)
theorem dX7_draws_36 : decode cX7_draws 36 = .ok (.lstore_n 3, 1) := dk_66 (dk_at dksX7_draws_1 13 rfl rfl)
theorem dX7_draws_37 : decode cX7_draws 37 = .ok (.aload_n 0, 1) := dk_42 (dk_at dksX7_draws_1 14 rfl rfl)
theorem dX7_draws_38 : decode cX7_draws 38 = .ok (.dup, 1) := dk_89 (dk_at dksX7_draws_1 15 rfl rfl)
theorem dX7_draws_39 : decode cX7_draws 39 = .ok (.getfield 298, 3) := dk_180 1 42 (dk_at dksX7_draws_1 16 rfl rfl)
theorem dX7_draws_42 : decode cX7_draws 42 = .ok (.lload_n 3, 1) := dk_33 (dk_at dksX7_draws_1 19 rfl rfl)
theorem dX7_draws_43 : decode cX7_draws 43 = .ok (.ldc2_w 490, 3) := dk_20 1 234 (dk_at dksX7_draws_1 20 rfl rfl)
theorem dX7_draws_46 : decode cX7_draws 46 = .ok (.ldiv, 1) := dk_109 (dk_at dksX7_draws_1 23 rfl rfl)
theorem dX7_draws_47 : decode cX7_draws 47 = .ok (.ldc2_w 472, 3) := dk_20 1 216 (dk_at dksX7_draws_2 0 rfl rfl)
theorem dX7_draws_50 : decode cX7_draws 50 = .ok (.lrem, 1) := dk_113 (dk_at dksX7_draws_2 3 rfl rfl)
theorem dX7_draws_51 : decode cX7_draws 51 = .ok (.aload_n 0, 1) := dk_42 (dk_at dksX7_draws_2 4 rfl rfl)
theorem dX7_draws_52 : decode cX7_draws 52 = .ok (.getfield 34, 3) := dk_180 0 34 (dk_at dksX7_draws_2 5 rfl rfl)
theorem dX7_draws_55 : decode cX7_draws 55 = .ok (.iconst 2, 1) := dk_5 (dk_at dksX7_draws_2 8 rfl rfl)
theorem dX7_draws_56 : decode cX7_draws 56 = .ok (.iaload, 1) := dk_46 (dk_at dksX7_draws_2 9 rfl rfl)
theorem dX7_draws_57 : decode cX7_draws 57 = .ok (.i2l, 1) := dk_133 (dk_at dksX7_draws_2 10 rfl rfl)
theorem dX7_draws_58 : decode cX7_draws 58 = .ok (.lcmp, 1) := dk_148 (dk_at dksX7_draws_2 11 rfl rfl)
theorem dX7_draws_59 : decode cX7_draws 59 = .ok (.ifCond .ge 10, 3) := dk_156 0 10 (dk_at dksX7_draws_2 12 rfl rfl)
theorem dX7_draws_62 : decode cX7_draws 62 = .ok (.iconst 1, 1) := dk_4 (dk_at dksX7_draws_2 15 rfl rfl)
theorem dX7_draws_63 : decode cX7_draws 63 = .ok (.iload 5, 2) := dk_21 5 (dk_at dksX7_draws_2 16 rfl rfl)
theorem dX7_draws_65 : decode cX7_draws 65 = .ok (.ishl, 1) := dk_120 (dk_at dksX7_draws_2 18 rfl rfl)
theorem dX7_draws_66 : decode cX7_draws 66 = .ok (.goto 4, 3) := dk_167 0 4 (dk_at dksX7_draws_2 19 rfl rfl)
theorem dX7_draws_69 : decode cX7_draws 69 = .ok (.iconst 0, 1) := dk_3 (dk_at dksX7_draws_2 22 rfl rfl)
theorem dX7_draws_70 : decode cX7_draws 70 = .ok (.ior, 1) := dk_128 (dk_at dksX7_draws_2 23 rfl rfl)
theorem dX7_draws_71 : decode cX7_draws 71 = .ok (.putfield 298, 3) := dk_181 1 42 (dk_at dksX7_draws_3 0 rfl rfl)
theorem dX7_draws_74 : decode cX7_draws 74 = .ok (.iinc 5 1, 3) := dk_132 5 1 (dk_at dksX7_draws_3 3 rfl rfl)
theorem dX7_draws_77 : decode cX7_draws 77 = .ok (.goto (-63), 3) := dk_167 255 193 (dk_at dksX7_draws_3 6 rfl rfl)
theorem dX7_draws_80 : decode cX7_draws 80 = .ok (.aload_n 0, 1) := dk_42 (dk_at dksX7_draws_3 9 rfl rfl)
theorem dX7_draws_81 : decode cX7_draws 81 = .ok (.invokevirtual 333, 3) := dk_182 1 77 (dk_at dksX7_draws_3 10 rfl rfl)
theorem dX7_draws_84 : decode cX7_draws 84 = .ok (.return_, 1) := dk_177 (dk_at dksX7_draws_3 13 rfl rfl)
abbrev cX7_luck : ByteArray := prog_12_method_143_code
def yX7_luck : MethodName := ⟨RX7, "luck", "(III)I"⟩
def dkwX7_luck_3 : List UInt8 := [167, 0, 4, 4, 96, 54, 4, 132, 5, 1, 167, 255, 217, 21, 4, 172]
abbrev dktX7_luck_3 : List UInt8 := dkwX7_luck_3 ++ []
def dkwX7_luck_2 : List UInt8 := [42, 27, 133, 21, 5, 133, 97, 182, 1, 241, 21, 4, 42, 180, 0, 74, 29, 46, 2, 160, 0, 7, 3]
abbrev dktX7_luck_2 : List UInt8 := dkwX7_luck_2 ++ dktX7_luck_3
def dkwX7_luck_1 : List UInt8 := [42, 29, 133, 182, 1, 36, 154, 0, 6, 16, 254, 172, 3, 54, 4, 3, 54, 5, 21, 5, 28, 162, 0, 39]
abbrev dktX7_luck_1 : List UInt8 := dkwX7_luck_1 ++ dktX7_luck_2
def dkwX7_luck_0 : List UInt8 := [42, 3, 181, 0, 116, 27, 184, 1, 238, 153, 0, 24, 28, 133, 10, 20, 1, 244, 184, 0, 121, 153, 0, 12]
abbrev dktX7_luck_0 : List UInt8 := dkwX7_luck_0 ++ dktX7_luck_1
theorem dksX7_luck_0 : cX7_luck.data.toList.drop 0 = dktX7_luck_0 := by decide +kernel
theorem dksX7_luck_1 : cX7_luck.data.toList.drop 24 = dktX7_luck_1 := dk_seg dksX7_luck_0 24 rfl rfl
theorem dksX7_luck_2 : cX7_luck.data.toList.drop 48 = dktX7_luck_2 := dk_seg dksX7_luck_1 24 rfl rfl
theorem dksX7_luck_3 : cX7_luck.data.toList.drop 71 = dktX7_luck_3 := dk_seg dksX7_luck_2 23 rfl rfl
theorem dX7_luck_0 : decode cX7_luck 0 = .ok (.aload_n 0, 1) := dk_42 (dk_at dksX7_luck_0 0 rfl rfl)
theorem dX7_luck_1 : decode cX7_luck 1 = .ok (.iconst 0, 1) := dk_3 (dk_at dksX7_luck_0 1 rfl rfl)
theorem dX7_luck_2 : decode cX7_luck 2 = .ok (.putfield 116, 3) := dk_181 0 116 (dk_at dksX7_luck_0 2 rfl rfl)
theorem dX7_luck_5 : decode cX7_luck 5 = .ok (.iload_n 1, 1) := dk_27 (dk_at dksX7_luck_0 5 rfl rfl)
theorem dX7_luck_6 : decode cX7_luck 6 = .ok (.invokestatic 494, 3) := dk_184 1 238 (dk_at dksX7_luck_0 6 rfl rfl)
theorem dX7_luck_9 : decode cX7_luck 9 = .ok (.ifCond .eq 24, 3) := dk_153 0 24 (dk_at dksX7_luck_0 9 rfl rfl)
theorem dX7_luck_12 : decode cX7_luck 12 = .ok (.iload_n 2, 1) := dk_28 (dk_at dksX7_luck_0 12 rfl rfl)
theorem dX7_luck_13 : decode cX7_luck 13 = .ok (.i2l, 1) := dk_133 (dk_at dksX7_luck_0 13 rfl rfl)
theorem dX7_luck_14 : decode cX7_luck 14 = .ok (.lconst 1, 1) := dk_10 (dk_at dksX7_luck_0 14 rfl rfl)
theorem dX7_luck_15 : decode cX7_luck 15 = .ok (.ldc2_w 500, 3) := dk_20 1 244 (dk_at dksX7_luck_0 15 rfl rfl)
theorem dX7_luck_18 : decode cX7_luck 18 = .ok (.invokestatic 121, 3) := dk_184 0 121 (dk_at dksX7_luck_0 18 rfl rfl)
theorem dX7_luck_21 : decode cX7_luck 21 = .ok (.ifCond .eq 12, 3) := dk_153 0 12 (dk_at dksX7_luck_0 21 rfl rfl)
theorem dX7_luck_24 : decode cX7_luck 24 = .ok (.aload_n 0, 1) := dk_42 (dk_at dksX7_luck_1 0 rfl rfl)
theorem dX7_luck_25 : decode cX7_luck 25 = .ok (.iload_n 3, 1) := dk_29 (dk_at dksX7_luck_1 1 rfl rfl)
theorem dX7_luck_26 : decode cX7_luck 26 = .ok (.i2l, 1) := dk_133 (dk_at dksX7_luck_1 2 rfl rfl)
theorem dX7_luck_27 : decode cX7_luck 27 = .ok (.invokevirtual 292, 3) := dk_182 1 36 (dk_at dksX7_luck_1 3 rfl rfl)
theorem dX7_luck_30 : decode cX7_luck 30 = .ok (.ifCond .ne 6, 3) := dk_154 0 6 (dk_at dksX7_luck_1 6 rfl rfl)
theorem dX7_luck_33 : decode cX7_luck 33 = .ok (.bipush (-2), 2) := dk_16 254 (dk_at dksX7_luck_1 9 rfl rfl)
theorem dX7_luck_35 : decode cX7_luck 35 = .ok (.ireturn, 1) := dk_172 (dk_at dksX7_luck_1 11 rfl rfl)
theorem dX7_luck_36 : decode cX7_luck 36 = .ok (.iconst 0, 1) := dk_3 (dk_at dksX7_luck_1 12 rfl rfl)
theorem dX7_luck_37 : decode cX7_luck 37 = .ok (.istore 4, 2) := dk_54 4 (dk_at dksX7_luck_1 13 rfl rfl)
theorem dX7_luck_39 : decode cX7_luck 39 = .ok (.iconst 0, 1) := dk_3 (dk_at dksX7_luck_1 15 rfl rfl)
theorem dX7_luck_40 : decode cX7_luck 40 = .ok (.istore 5, 2) := dk_54 5 (dk_at dksX7_luck_1 16 rfl rfl)
theorem dX7_luck_42 : decode cX7_luck 42 = .ok (.iload 5, 2) := dk_21 5 (dk_at dksX7_luck_1 18 rfl rfl)
theorem dX7_luck_44 : decode cX7_luck 44 = .ok (.iload_n 2, 1) := dk_28 (dk_at dksX7_luck_1 20 rfl rfl)
theorem dX7_luck_45 : decode cX7_luck 45 = .ok (.if_icmp .ge 39, 3) := dk_162 0 39 (dk_at dksX7_luck_1 21 rfl rfl)
theorem dX7_luck_48 : decode cX7_luck 48 = .ok (.aload_n 0, 1) := dk_42 (dk_at dksX7_luck_2 0 rfl rfl)
theorem dX7_luck_49 : decode cX7_luck 49 = .ok (.iload_n 1, 1) := dk_27 (dk_at dksX7_luck_2 1 rfl rfl)
theorem dX7_luck_50 : decode cX7_luck 50 = .ok (.i2l, 1) := dk_133 (dk_at dksX7_luck_2 2 rfl rfl)
theorem dX7_luck_51 : decode cX7_luck 51 = .ok (.iload 5, 2) := dk_21 5 (dk_at dksX7_luck_2 3 rfl rfl)
theorem dX7_luck_53 : decode cX7_luck 53 = .ok (.i2l, 1) := dk_133 (dk_at dksX7_luck_2 5 rfl rfl)
theorem dX7_luck_54 : decode cX7_luck 54 = .ok (.ladd, 1) := dk_97 (dk_at dksX7_luck_2 6 rfl rfl)
theorem dX7_luck_55 : decode cX7_luck 55 = .ok (.invokevirtual 497, 3) := dk_182 1 241 (dk_at dksX7_luck_2 7 rfl rfl)
theorem dX7_luck_58 : decode cX7_luck 58 = .ok (.iload 4, 2) := dk_21 4 (dk_at dksX7_luck_2 10 rfl rfl)
theorem dX7_luck_60 : decode cX7_luck 60 = .ok (.aload_n 0, 1) := dk_42 (dk_at dksX7_luck_2 12 rfl rfl)
theorem dX7_luck_61 : decode cX7_luck 61 = .ok (.getfield 74, 3) := dk_180 0 74 (dk_at dksX7_luck_2 13 rfl rfl)
theorem dX7_luck_64 : decode cX7_luck 64 = .ok (.iload_n 3, 1) := dk_29 (dk_at dksX7_luck_2 16 rfl rfl)
theorem dX7_luck_65 : decode cX7_luck 65 = .ok (.iaload, 1) := dk_46 (dk_at dksX7_luck_2 17 rfl rfl)
theorem dX7_luck_66 : decode cX7_luck 66 = .ok (.iconst (-1), 1) := dk_2 (dk_at dksX7_luck_2 18 rfl rfl)
theorem dX7_luck_67 : decode cX7_luck 67 = .ok (.if_icmp .ne 7, 3) := dk_160 0 7 (dk_at dksX7_luck_2 19 rfl rfl)
theorem dX7_luck_70 : decode cX7_luck 70 = .ok (.iconst 0, 1) := dk_3 (dk_at dksX7_luck_2 22 rfl rfl)
theorem dX7_luck_71 : decode cX7_luck 71 = .ok (.goto 4, 3) := dk_167 0 4 (dk_at dksX7_luck_3 0 rfl rfl)
theorem dX7_luck_74 : decode cX7_luck 74 = .ok (.iconst 1, 1) := dk_4 (dk_at dksX7_luck_3 3 rfl rfl)
theorem dX7_luck_75 : decode cX7_luck 75 = .ok (.iadd, 1) := dk_96 (dk_at dksX7_luck_3 4 rfl rfl)
theorem dX7_luck_76 : decode cX7_luck 76 = .ok (.istore 4, 2) := dk_54 4 (dk_at dksX7_luck_3 5 rfl rfl)
theorem dX7_luck_78 : decode cX7_luck 78 = .ok (.iinc 5 1, 3) := dk_132 5 1 (dk_at dksX7_luck_3 7 rfl rfl)
theorem dX7_luck_81 : decode cX7_luck 81 = .ok (.goto (-39), 3) := dk_167 255 217 (dk_at dksX7_luck_3 10 rfl rfl)
theorem dX7_luck_84 : decode cX7_luck 84 = .ok (.iload 4, 2) := dk_21 4 (dk_at dksX7_luck_3 13 rfl rfl)
theorem dX7_luck_86 : decode cX7_luck 86 = .ok (.ireturn, 1) := dk_172 (dk_at dksX7_luck_3 15 rfl rfl)
abbrev cX7_send : ByteArray := prog_12_method_145_code
def yX7_send : MethodName := ⟨RX7, "send", "(II)I"⟩
def dkwX7_send_2 : List UInt8 := [42, 182, 1, 74, 42, 3, 27, 28, 182, 1, 246, 42, 180, 0, 59, 27, 46, 172]
abbrev dktX7_send_2 : List UInt8 := dkwX7_send_2 ++ []
def dkwX7_send_1 : List UInt8 := [182, 1, 36, 154, 0, 6, 16, 254, 172, 42, 180, 0, 34, 16, 7, 46, 16, 30, 160, 0, 6, 16, 251, 172]
abbrev dktX7_send_1 : List UInt8 := dkwX7_send_1 ++ dktX7_send_2
def dkwX7_send_0 : List UInt8 := [42, 3, 181, 0, 116, 42, 27, 133, 182, 1, 33, 153, 0, 17, 28, 2, 159, 0, 15, 42, 28, 133]
abbrev dktX7_send_0 : List UInt8 := dkwX7_send_0 ++ dktX7_send_1
theorem dksX7_send_0 : cX7_send.data.toList.drop 0 = dktX7_send_0 := by decide +kernel
theorem dksX7_send_1 : cX7_send.data.toList.drop 22 = dktX7_send_1 := dk_seg dksX7_send_0 22 rfl rfl
theorem dksX7_send_2 : cX7_send.data.toList.drop 46 = dktX7_send_2 := dk_seg dksX7_send_1 24 rfl rfl
theorem dX7_send_0 : decode cX7_send 0 = .ok (.aload_n 0, 1) := dk_42 (dk_at dksX7_send_0 0 rfl rfl)
theorem dX7_send_1 : decode cX7_send 1 = .ok (.iconst 0, 1) := dk_3 (dk_at dksX7_send_0 1 rfl rfl)
theorem dX7_send_2 : decode cX7_send 2 = .ok (.putfield 116, 3) := dk_181 0 116 (dk_at dksX7_send_0 2 rfl rfl)
theorem dX7_send_5 : decode cX7_send 5 = .ok (.aload_n 0, 1) := dk_42 (dk_at dksX7_send_0 5 rfl rfl)
theorem dX7_send_6 : decode cX7_send 6 = .ok (.iload_n 1, 1) := dk_27 (dk_at dksX7_send_0 6 rfl rfl)
theorem dX7_send_7 : decode cX7_send 7 = .ok (.i2l, 1) := dk_133 (dk_at dksX7_send_0 7 rfl rfl)
theorem dX7_send_8 : decode cX7_send 8 = .ok (.invokevirtual 289, 3) := dk_182 1 33 (dk_at dksX7_send_0 8 rfl rfl)
theorem dX7_send_11 : decode cX7_send 11 = .ok (.ifCond .eq 17, 3) := dk_153 0 17 (dk_at dksX7_send_0 11 rfl rfl)
theorem dX7_send_14 : decode cX7_send 14 = .ok (.iload_n 2, 1) := dk_28 (dk_at dksX7_send_0 14 rfl rfl)
theorem dX7_send_15 : decode cX7_send 15 = .ok (.iconst (-1), 1) := dk_2 (dk_at dksX7_send_0 15 rfl rfl)
theorem dX7_send_16 : decode cX7_send 16 = .ok (.if_icmp .eq 15, 3) := dk_159 0 15 (dk_at dksX7_send_0 16 rfl rfl)
theorem dX7_send_19 : decode cX7_send 19 = .ok (.aload_n 0, 1) := dk_42 (dk_at dksX7_send_0 19 rfl rfl)
theorem dX7_send_20 : decode cX7_send 20 = .ok (.iload_n 2, 1) := dk_28 (dk_at dksX7_send_0 20 rfl rfl)
theorem dX7_send_21 : decode cX7_send 21 = .ok (.i2l, 1) := dk_133 (dk_at dksX7_send_0 21 rfl rfl)
theorem dX7_send_22 : decode cX7_send 22 = .ok (.invokevirtual 292, 3) := dk_182 1 36 (dk_at dksX7_send_1 0 rfl rfl)
theorem dX7_send_25 : decode cX7_send 25 = .ok (.ifCond .ne 6, 3) := dk_154 0 6 (dk_at dksX7_send_1 3 rfl rfl)
theorem dX7_send_28 : decode cX7_send 28 = .ok (.bipush (-2), 2) := dk_16 254 (dk_at dksX7_send_1 6 rfl rfl)
theorem dX7_send_30 : decode cX7_send 30 = .ok (.ireturn, 1) := dk_172 (dk_at dksX7_send_1 8 rfl rfl)
theorem dX7_send_31 : decode cX7_send 31 = .ok (.aload_n 0, 1) := dk_42 (dk_at dksX7_send_1 9 rfl rfl)
theorem dX7_send_32 : decode cX7_send 32 = .ok (.getfield 34, 3) := dk_180 0 34 (dk_at dksX7_send_1 10 rfl rfl)
theorem dX7_send_35 : decode cX7_send 35 = .ok (.bipush 7, 2) := dk_16 7 (dk_at dksX7_send_1 13 rfl rfl)
theorem dX7_send_37 : decode cX7_send 37 = .ok (.iaload, 1) := dk_46 (dk_at dksX7_send_1 15 rfl rfl)
theorem dX7_send_38 : decode cX7_send 38 = .ok (.bipush 30, 2) := dk_16 30 (dk_at dksX7_send_1 16 rfl rfl)
theorem dX7_send_40 : decode cX7_send 40 = .ok (.if_icmp .ne 6, 3) := dk_160 0 6 (dk_at dksX7_send_1 18 rfl rfl)
theorem dX7_send_43 : decode cX7_send 43 = .ok (.bipush (-5), 2) := dk_16 251 (dk_at dksX7_send_1 21 rfl rfl)
theorem dX7_send_45 : decode cX7_send 45 = .ok (.ireturn, 1) := dk_172 (dk_at dksX7_send_1 23 rfl rfl)
theorem dX7_send_46 : decode cX7_send 46 = .ok (.aload_n 0, 1) := dk_42 (dk_at dksX7_send_2 0 rfl rfl)
theorem dX7_send_47 : decode cX7_send 47 = .ok (.invokevirtual 330, 3) := dk_182 1 74 (dk_at dksX7_send_2 1 rfl rfl)
theorem dX7_send_50 : decode cX7_send 50 = .ok (.aload_n 0, 1) := dk_42 (dk_at dksX7_send_2 4 rfl rfl)
theorem dX7_send_51 : decode cX7_send 51 = .ok (.iconst 0, 1) := dk_3 (dk_at dksX7_send_2 5 rfl rfl)
theorem dX7_send_52 : decode cX7_send 52 = .ok (.iload_n 1, 1) := dk_27 (dk_at dksX7_send_2 6 rfl rfl)
theorem dX7_send_53 : decode cX7_send 53 = .ok (.iload_n 2, 1) := dk_28 (dk_at dksX7_send_2 7 rfl rfl)
theorem dX7_send_54 : decode cX7_send 54 = .ok (.invokevirtual 502, 3) := dk_182 1 246 (dk_at dksX7_send_2 8 rfl rfl)
theorem dX7_send_57 : decode cX7_send 57 = .ok (.aload_n 0, 1) := dk_42 (dk_at dksX7_send_2 11 rfl rfl)
theorem dX7_send_58 : decode cX7_send 58 = .ok (.getfield 59, 3) := dk_180 0 59 (dk_at dksX7_send_2 12 rfl rfl)
theorem dX7_send_61 : decode cX7_send 61 = .ok (.iload_n 1, 1) := dk_27 (dk_at dksX7_send_2 15 rfl rfl)
theorem dX7_send_62 : decode cX7_send 62 = .ok (.iaload, 1) := dk_46 (dk_at dksX7_send_2 16 rfl rfl)
theorem dX7_send_63 : decode cX7_send 63 = .ok (.ireturn, 1) := dk_172 (dk_at dksX7_send_2 17 rfl rfl)
abbrev cX7_does : ByteArray := prog_12_method_144_code
def yX7_does : MethodName := ⟨RX7, "does", "(III)V"⟩
def dkwX7_does_2 : List UInt8 := [4, 96, 79, 177]
abbrev dktX7_does_2 : List UInt8 := dkwX7_does_2 ++ []
def dkwX7_does_1 : List UInt8 := [21, 4, 4, 96, 28, 79, 42, 180, 0, 49, 21, 4, 5, 96, 29, 79, 42, 180, 0, 34, 16, 7, 92, 46]
abbrev dktX7_does_1 : List UInt8 := dkwX7_does_1 ++ dktX7_does_2
def dkwX7_does_0 : List UInt8 := [6, 42, 180, 0, 34, 16, 7, 46, 104, 54, 4, 42, 180, 0, 49, 21, 4, 27, 79, 42, 180, 0, 49]
abbrev dktX7_does_0 : List UInt8 := dkwX7_does_0 ++ dktX7_does_1
theorem dksX7_does_0 : cX7_does.data.toList.drop 0 = dktX7_does_0 := by decide +kernel
theorem dksX7_does_1 : cX7_does.data.toList.drop 23 = dktX7_does_1 := dk_seg dksX7_does_0 23 rfl rfl
theorem dksX7_does_2 : cX7_does.data.toList.drop 47 = dktX7_does_2 := dk_seg dksX7_does_1 24 rfl rfl
theorem dX7_does_0 : decode cX7_does 0 = .ok (.iconst 3, 1) := dk_6 (dk_at dksX7_does_0 0 rfl rfl)
theorem dX7_does_1 : decode cX7_does 1 = .ok (.aload_n 0, 1) := dk_42 (dk_at dksX7_does_0 1 rfl rfl)
theorem dX7_does_2 : decode cX7_does 2 = .ok (.getfield 34, 3) := dk_180 0 34 (dk_at dksX7_does_0 2 rfl rfl)
theorem dX7_does_5 : decode cX7_does 5 = .ok (.bipush 7, 2) := dk_16 7 (dk_at dksX7_does_0 5 rfl rfl)
theorem dX7_does_7 : decode cX7_does 7 = .ok (.iaload, 1) := dk_46 (dk_at dksX7_does_0 7 rfl rfl)
theorem dX7_does_8 : decode cX7_does 8 = .ok (.imul, 1) := dk_104 (dk_at dksX7_does_0 8 rfl rfl)
theorem dX7_does_9 : decode cX7_does 9 = .ok (.istore 4, 2) := dk_54 4 (dk_at dksX7_does_0 9 rfl rfl)
theorem dX7_does_11 : decode cX7_does 11 = .ok (.aload_n 0, 1) := dk_42 (dk_at dksX7_does_0 11 rfl rfl)
theorem dX7_does_12 : decode cX7_does 12 = .ok (.getfield 49, 3) := dk_180 0 49 (dk_at dksX7_does_0 12 rfl rfl)
theorem dX7_does_15 : decode cX7_does 15 = .ok (.iload 4, 2) := dk_21 4 (dk_at dksX7_does_0 15 rfl rfl)
theorem dX7_does_17 : decode cX7_does 17 = .ok (.iload_n 1, 1) := dk_27 (dk_at dksX7_does_0 17 rfl rfl)
theorem dX7_does_18 : decode cX7_does 18 = .ok (.iastore, 1) := dk_79 (dk_at dksX7_does_0 18 rfl rfl)
theorem dX7_does_19 : decode cX7_does 19 = .ok (.aload_n 0, 1) := dk_42 (dk_at dksX7_does_0 19 rfl rfl)
theorem dX7_does_20 : decode cX7_does 20 = .ok (.getfield 49, 3) := dk_180 0 49 (dk_at dksX7_does_0 20 rfl rfl)
theorem dX7_does_23 : decode cX7_does 23 = .ok (.iload 4, 2) := dk_21 4 (dk_at dksX7_does_1 0 rfl rfl)
theorem dX7_does_25 : decode cX7_does 25 = .ok (.iconst 1, 1) := dk_4 (dk_at dksX7_does_1 2 rfl rfl)
theorem dX7_does_26 : decode cX7_does 26 = .ok (.iadd, 1) := dk_96 (dk_at dksX7_does_1 3 rfl rfl)
theorem dX7_does_27 : decode cX7_does 27 = .ok (.iload_n 2, 1) := dk_28 (dk_at dksX7_does_1 4 rfl rfl)
theorem dX7_does_28 : decode cX7_does 28 = .ok (.iastore, 1) := dk_79 (dk_at dksX7_does_1 5 rfl rfl)
theorem dX7_does_29 : decode cX7_does 29 = .ok (.aload_n 0, 1) := dk_42 (dk_at dksX7_does_1 6 rfl rfl)
theorem dX7_does_30 : decode cX7_does 30 = .ok (.getfield 49, 3) := dk_180 0 49 (dk_at dksX7_does_1 7 rfl rfl)
theorem dX7_does_33 : decode cX7_does 33 = .ok (.iload 4, 2) := dk_21 4 (dk_at dksX7_does_1 10 rfl rfl)
theorem dX7_does_35 : decode cX7_does 35 = .ok (.iconst 2, 1) := dk_5 (dk_at dksX7_does_1 12 rfl rfl)
theorem dX7_does_36 : decode cX7_does 36 = .ok (.iadd, 1) := dk_96 (dk_at dksX7_does_1 13 rfl rfl)
theorem dX7_does_37 : decode cX7_does 37 = .ok (.iload_n 3, 1) := dk_29 (dk_at dksX7_does_1 14 rfl rfl)
theorem dX7_does_38 : decode cX7_does 38 = .ok (.iastore, 1) := dk_79 (dk_at dksX7_does_1 15 rfl rfl)
theorem dX7_does_39 : decode cX7_does 39 = .ok (.aload_n 0, 1) := dk_42 (dk_at dksX7_does_1 16 rfl rfl)
theorem dX7_does_40 : decode cX7_does 40 = .ok (.getfield 34, 3) := dk_180 0 34 (dk_at dksX7_does_1 17 rfl rfl)
theorem dX7_does_43 : decode cX7_does 43 = .ok (.bipush 7, 2) := dk_16 7 (dk_at dksX7_does_1 20 rfl rfl)
theorem dX7_does_45 : decode cX7_does 45 = .ok (.dup2, 1) := dk_92 (dk_at dksX7_does_1 22 rfl rfl)
theorem dX7_does_46 : decode cX7_does 46 = .ok (.iaload, 1) := dk_46 (dk_at dksX7_does_1 23 rfl rfl)
theorem dX7_does_47 : decode cX7_does 47 = .ok (.iconst 1, 1) := dk_4 (dk_at dksX7_does_2 0 rfl rfl)
theorem dX7_does_48 : decode cX7_does 48 = .ok (.iadd, 1) := dk_96 (dk_at dksX7_does_2 1 rfl rfl)
theorem dX7_does_49 : decode cX7_does 49 = .ok (.iastore, 1) := dk_79 (dk_at dksX7_does_2 2 rfl rfl)
theorem dX7_does_50 : decode cX7_does 50 = .ok (.return_, 1) := dk_177 (dk_at dksX7_does_2 3 rfl rfl)
abbrev cX7_freeze : ByteArray := prog_12_method_146_code
def yX7_freeze : MethodName := ⟨RX7, "freeze", "(II)I"⟩
def dkwX7_freeze_3 : List UInt8 := [4, 167, 0, 4, 3, 172]
abbrev dktX7_freeze_3 : List UInt8 := dkwX7_freeze_3 ++ []
def dkwX7_freeze_2 : List UInt8 := [160, 0, 7, 4, 167, 0, 4, 5, 27, 3, 182, 1, 246, 42, 180, 1, 42, 27, 184, 1, 51, 153, 0, 7]
abbrev dktX7_freeze_2 : List UInt8 := dkwX7_freeze_2 ++ dktX7_freeze_3
def dkwX7_freeze_1 : List UInt8 := [42, 180, 0, 34, 16, 7, 46, 16, 30, 160, 0, 6, 16, 251, 172, 42, 182, 1, 74, 42, 28, 4]
abbrev dktX7_freeze_1 : List UInt8 := dkwX7_freeze_1 ++ dktX7_freeze_2
def dkwX7_freeze_0 : List UInt8 := [42, 3, 181, 0, 116, 42, 27, 133, 182, 1, 33, 153, 0, 10, 28, 184, 1, 86, 154, 0, 6, 16, 254, 172]
abbrev dktX7_freeze_0 : List UInt8 := dkwX7_freeze_0 ++ dktX7_freeze_1
theorem dksX7_freeze_0 : cX7_freeze.data.toList.drop 0 = dktX7_freeze_0 := by decide +kernel
theorem dksX7_freeze_1 : cX7_freeze.data.toList.drop 24 = dktX7_freeze_1 := dk_seg dksX7_freeze_0 24 rfl rfl
theorem dksX7_freeze_2 : cX7_freeze.data.toList.drop 46 = dktX7_freeze_2 := dk_seg dksX7_freeze_1 22 rfl rfl
theorem dksX7_freeze_3 : cX7_freeze.data.toList.drop 70 = dktX7_freeze_3 := dk_seg dksX7_freeze_2 24 rfl rfl
theorem dX7_freeze_0 : decode cX7_freeze 0 = .ok (.aload_n 0, 1) := dk_42 (dk_at dksX7_freeze_0 0 rfl rfl)
theorem dX7_freeze_1 : decode cX7_freeze 1 = .ok (.iconst 0, 1) := dk_3 (dk_at dksX7_freeze_0 1 rfl rfl)
theorem dX7_freeze_2 : decode cX7_freeze 2 = .ok (.putfield 116, 3) := dk_181 0 116 (dk_at dksX7_freeze_0 2 rfl rfl)
theorem dX7_freeze_5 : decode cX7_freeze 5 = .ok (.aload_n 0, 1) := dk_42 (dk_at dksX7_freeze_0 5 rfl rfl)
theorem dX7_freeze_6 : decode cX7_freeze 6 = .ok (.iload_n 1, 1) := dk_27 (dk_at dksX7_freeze_0 6 rfl rfl)
theorem dX7_freeze_7 : decode cX7_freeze 7 = .ok (.i2l, 1) := dk_133 (dk_at dksX7_freeze_0 7 rfl rfl)
theorem dX7_freeze_8 : decode cX7_freeze 8 = .ok (.invokevirtual 289, 3) := dk_182 1 33 (dk_at dksX7_freeze_0 8 rfl rfl)
theorem dX7_freeze_11 : decode cX7_freeze 11 = .ok (.ifCond .eq 10, 3) := dk_153 0 10 (dk_at dksX7_freeze_0 11 rfl rfl)
theorem dX7_freeze_14 : decode cX7_freeze 14 = .ok (.iload_n 2, 1) := dk_28 (dk_at dksX7_freeze_0 14 rfl rfl)
theorem dX7_freeze_15 : decode cX7_freeze 15 = .ok (.invokestatic 342, 3) := dk_184 1 86 (dk_at dksX7_freeze_0 15 rfl rfl)
theorem dX7_freeze_18 : decode cX7_freeze 18 = .ok (.ifCond .ne 6, 3) := dk_154 0 6 (dk_at dksX7_freeze_0 18 rfl rfl)
theorem dX7_freeze_21 : decode cX7_freeze 21 = .ok (.bipush (-2), 2) := dk_16 254 (dk_at dksX7_freeze_0 21 rfl rfl)
theorem dX7_freeze_23 : decode cX7_freeze 23 = .ok (.ireturn, 1) := dk_172 (dk_at dksX7_freeze_0 23 rfl rfl)
theorem dX7_freeze_24 : decode cX7_freeze 24 = .ok (.aload_n 0, 1) := dk_42 (dk_at dksX7_freeze_1 0 rfl rfl)
theorem dX7_freeze_25 : decode cX7_freeze 25 = .ok (.getfield 34, 3) := dk_180 0 34 (dk_at dksX7_freeze_1 1 rfl rfl)
theorem dX7_freeze_28 : decode cX7_freeze 28 = .ok (.bipush 7, 2) := dk_16 7 (dk_at dksX7_freeze_1 4 rfl rfl)
theorem dX7_freeze_30 : decode cX7_freeze 30 = .ok (.iaload, 1) := dk_46 (dk_at dksX7_freeze_1 6 rfl rfl)
theorem dX7_freeze_31 : decode cX7_freeze 31 = .ok (.bipush 30, 2) := dk_16 30 (dk_at dksX7_freeze_1 7 rfl rfl)
theorem dX7_freeze_33 : decode cX7_freeze 33 = .ok (.if_icmp .ne 6, 3) := dk_160 0 6 (dk_at dksX7_freeze_1 9 rfl rfl)
theorem dX7_freeze_36 : decode cX7_freeze 36 = .ok (.bipush (-5), 2) := dk_16 251 (dk_at dksX7_freeze_1 12 rfl rfl)
theorem dX7_freeze_38 : decode cX7_freeze 38 = .ok (.ireturn, 1) := dk_172 (dk_at dksX7_freeze_1 14 rfl rfl)
theorem dX7_freeze_39 : decode cX7_freeze 39 = .ok (.aload_n 0, 1) := dk_42 (dk_at dksX7_freeze_1 15 rfl rfl)
theorem dX7_freeze_40 : decode cX7_freeze 40 = .ok (.invokevirtual 330, 3) := dk_182 1 74 (dk_at dksX7_freeze_1 16 rfl rfl)
theorem dX7_freeze_43 : decode cX7_freeze 43 = .ok (.aload_n 0, 1) := dk_42 (dk_at dksX7_freeze_1 19 rfl rfl)
theorem dX7_freeze_44 : decode cX7_freeze 44 = .ok (.iload_n 2, 1) := dk_28 (dk_at dksX7_freeze_1 20 rfl rfl)
theorem dX7_freeze_45 : decode cX7_freeze 45 = .ok (.iconst 1, 1) := dk_4 (dk_at dksX7_freeze_1 21 rfl rfl)
theorem dX7_freeze_46 : decode cX7_freeze 46 = .ok (.if_icmp .ne 7, 3) := dk_160 0 7 (dk_at dksX7_freeze_2 0 rfl rfl)
theorem dX7_freeze_49 : decode cX7_freeze 49 = .ok (.iconst 1, 1) := dk_4 (dk_at dksX7_freeze_2 3 rfl rfl)
theorem dX7_freeze_50 : decode cX7_freeze 50 = .ok (.goto 4, 3) := dk_167 0 4 (dk_at dksX7_freeze_2 4 rfl rfl)
theorem dX7_freeze_53 : decode cX7_freeze 53 = .ok (.iconst 2, 1) := dk_5 (dk_at dksX7_freeze_2 7 rfl rfl)
theorem dX7_freeze_54 : decode cX7_freeze 54 = .ok (.iload_n 1, 1) := dk_27 (dk_at dksX7_freeze_2 8 rfl rfl)
theorem dX7_freeze_55 : decode cX7_freeze 55 = .ok (.iconst 0, 1) := dk_3 (dk_at dksX7_freeze_2 9 rfl rfl)
theorem dX7_freeze_56 : decode cX7_freeze 56 = .ok (.invokevirtual 502, 3) := dk_182 1 246 (dk_at dksX7_freeze_2 10 rfl rfl)
theorem dX7_freeze_59 : decode cX7_freeze 59 = .ok (.aload_n 0, 1) := dk_42 (dk_at dksX7_freeze_2 13 rfl rfl)
theorem dX7_freeze_60 : decode cX7_freeze 60 = .ok (.getfield 298, 3) := dk_180 1 42 (dk_at dksX7_freeze_2 14 rfl rfl)
theorem dX7_freeze_63 : decode cX7_freeze 63 = .ok (.iload_n 1, 1) := dk_27 (dk_at dksX7_freeze_2 17 rfl rfl)
theorem dX7_freeze_64 : decode cX7_freeze 64 = .ok (.invokestatic 307, 3) := dk_184 1 51 (dk_at dksX7_freeze_2 18 rfl rfl)
theorem dX7_freeze_67 : decode cX7_freeze 67 = .ok (.ifCond .eq 7, 3) := dk_153 0 7 (dk_at dksX7_freeze_2 21 rfl rfl)
theorem dX7_freeze_70 : decode cX7_freeze 70 = .ok (.iconst 1, 1) := dk_4 (dk_at dksX7_freeze_3 0 rfl rfl)
theorem dX7_freeze_71 : decode cX7_freeze 71 = .ok (.goto 4, 3) := dk_167 0 4 (dk_at dksX7_freeze_3 1 rfl rfl)
theorem dX7_freeze_74 : decode cX7_freeze 74 = .ok (.iconst 0, 1) := dk_3 (dk_at dksX7_freeze_3 4 rfl rfl)
theorem dX7_freeze_75 : decode cX7_freeze 75 = .ok (.ireturn, 1) := dk_172 (dk_at dksX7_freeze_3 5 rfl rfl)
abbrev cX7_undo : ByteArray := prog_12_method_147_code
def yX7_undo : MethodName := ⟨RX7, "undo", "()I"⟩
def dkwX7_undo_2 : List UInt8 := [172]
abbrev dktX7_undo_2 : List UInt8 := dkwX7_undo_2 ++ []
def dkwX7_undo_1 : List UInt8 := [154, 0, 6, 16, 251, 172, 42, 180, 0, 34, 16, 7, 92, 46, 4, 100, 79, 42, 180, 0, 34, 16, 7, 46]
abbrev dktX7_undo_1 : List UInt8 := dkwX7_undo_1 ++ dktX7_undo_2
def dkwX7_undo_0 : List UInt8 := [42, 3, 181, 0, 116, 42, 182, 1, 94, 154, 0, 6, 16, 254, 172, 42, 180, 0, 34, 16, 7, 46]
abbrev dktX7_undo_0 : List UInt8 := dkwX7_undo_0 ++ dktX7_undo_1
theorem dksX7_undo_0 : cX7_undo.data.toList.drop 0 = dktX7_undo_0 := by decide +kernel
theorem dksX7_undo_1 : cX7_undo.data.toList.drop 22 = dktX7_undo_1 := dk_seg dksX7_undo_0 22 rfl rfl
theorem dksX7_undo_2 : cX7_undo.data.toList.drop 46 = dktX7_undo_2 := dk_seg dksX7_undo_1 24 rfl rfl
theorem dX7_undo_0 : decode cX7_undo 0 = .ok (.aload_n 0, 1) := dk_42 (dk_at dksX7_undo_0 0 rfl rfl)
theorem dX7_undo_1 : decode cX7_undo 1 = .ok (.iconst 0, 1) := dk_3 (dk_at dksX7_undo_0 1 rfl rfl)
theorem dX7_undo_2 : decode cX7_undo 2 = .ok (.putfield 116, 3) := dk_181 0 116 (dk_at dksX7_undo_0 2 rfl rfl)
theorem dX7_undo_5 : decode cX7_undo 5 = .ok (.aload_n 0, 1) := dk_42 (dk_at dksX7_undo_0 5 rfl rfl)
theorem dX7_undo_6 : decode cX7_undo 6 = .ok (.invokevirtual 350, 3) := dk_182 1 94 (dk_at dksX7_undo_0 6 rfl rfl)
theorem dX7_undo_9 : decode cX7_undo 9 = .ok (.ifCond .ne 6, 3) := dk_154 0 6 (dk_at dksX7_undo_0 9 rfl rfl)
theorem dX7_undo_12 : decode cX7_undo 12 = .ok (.bipush (-2), 2) := dk_16 254 (dk_at dksX7_undo_0 12 rfl rfl)
theorem dX7_undo_14 : decode cX7_undo 14 = .ok (.ireturn, 1) := dk_172 (dk_at dksX7_undo_0 14 rfl rfl)
theorem dX7_undo_15 : decode cX7_undo 15 = .ok (.aload_n 0, 1) := dk_42 (dk_at dksX7_undo_0 15 rfl rfl)
theorem dX7_undo_16 : decode cX7_undo 16 = .ok (.getfield 34, 3) := dk_180 0 34 (dk_at dksX7_undo_0 16 rfl rfl)
theorem dX7_undo_19 : decode cX7_undo 19 = .ok (.bipush 7, 2) := dk_16 7 (dk_at dksX7_undo_0 19 rfl rfl)
theorem dX7_undo_21 : decode cX7_undo 21 = .ok (.iaload, 1) := dk_46 (dk_at dksX7_undo_0 21 rfl rfl)
theorem dX7_undo_22 : decode cX7_undo 22 = .ok (.ifCond .ne 6, 3) := dk_154 0 6 (dk_at dksX7_undo_1 0 rfl rfl)
theorem dX7_undo_25 : decode cX7_undo 25 = .ok (.bipush (-5), 2) := dk_16 251 (dk_at dksX7_undo_1 3 rfl rfl)
theorem dX7_undo_27 : decode cX7_undo 27 = .ok (.ireturn, 1) := dk_172 (dk_at dksX7_undo_1 5 rfl rfl)
theorem dX7_undo_28 : decode cX7_undo 28 = .ok (.aload_n 0, 1) := dk_42 (dk_at dksX7_undo_1 6 rfl rfl)
theorem dX7_undo_29 : decode cX7_undo 29 = .ok (.getfield 34, 3) := dk_180 0 34 (dk_at dksX7_undo_1 7 rfl rfl)
theorem dX7_undo_32 : decode cX7_undo 32 = .ok (.bipush 7, 2) := dk_16 7 (dk_at dksX7_undo_1 10 rfl rfl)
theorem dX7_undo_34 : decode cX7_undo 34 = .ok (.dup2, 1) := dk_92 (dk_at dksX7_undo_1 12 rfl rfl)
theorem dX7_undo_35 : decode cX7_undo 35 = .ok (.iaload, 1) := dk_46 (dk_at dksX7_undo_1 13 rfl rfl)
theorem dX7_undo_36 : decode cX7_undo 36 = .ok (.iconst 1, 1) := dk_4 (dk_at dksX7_undo_1 14 rfl rfl)
theorem dX7_undo_37 : decode cX7_undo 37 = .ok (.isub, 1) := dk_100 (dk_at dksX7_undo_1 15 rfl rfl)
theorem dX7_undo_38 : decode cX7_undo 38 = .ok (.iastore, 1) := dk_79 (dk_at dksX7_undo_1 16 rfl rfl)
theorem dX7_undo_39 : decode cX7_undo 39 = .ok (.aload_n 0, 1) := dk_42 (dk_at dksX7_undo_1 17 rfl rfl)
theorem dX7_undo_40 : decode cX7_undo 40 = .ok (.getfield 34, 3) := dk_180 0 34 (dk_at dksX7_undo_1 18 rfl rfl)
theorem dX7_undo_43 : decode cX7_undo 43 = .ok (.bipush 7, 2) := dk_16 7 (dk_at dksX7_undo_1 21 rfl rfl)
theorem dX7_undo_45 : decode cX7_undo 45 = .ok (.iaload, 1) := dk_46 (dk_at dksX7_undo_1 23 rfl rfl)
theorem dX7_undo_46 : decode cX7_undo 46 = .ok (.ireturn, 1) := dk_172 (dk_at dksX7_undo_2 0 rfl rfl)
abbrev cX7_anew : ByteArray := prog_12_method_148_code
def yX7_anew : MethodName := ⟨RX7, "anew", "()I"⟩
def dkwX7_anew_1 : List UInt8 := [180, 0, 34, 16, 7, 3, 79, 27, 172]
abbrev dktX7_anew_1 : List UInt8 := dkwX7_anew_1 ++ []
def dkwX7_anew_0 : List UInt8 := [42, 3, 181, 0, 116, 42, 182, 1, 94, 154, 0, 6, 16, 254, 172, 42, 180, 0, 34, 16, 7, 46, 60, 42]
abbrev dktX7_anew_0 : List UInt8 := dkwX7_anew_0 ++ dktX7_anew_1
theorem dksX7_anew_0 : cX7_anew.data.toList.drop 0 = dktX7_anew_0 := by decide +kernel
theorem dksX7_anew_1 : cX7_anew.data.toList.drop 24 = dktX7_anew_1 := dk_seg dksX7_anew_0 24 rfl rfl
theorem dX7_anew_0 : decode cX7_anew 0 = .ok (.aload_n 0, 1) := dk_42 (dk_at dksX7_anew_0 0 rfl rfl)
theorem dX7_anew_1 : decode cX7_anew 1 = .ok (.iconst 0, 1) := dk_3 (dk_at dksX7_anew_0 1 rfl rfl)
theorem dX7_anew_2 : decode cX7_anew 2 = .ok (.putfield 116, 3) := dk_181 0 116 (dk_at dksX7_anew_0 2 rfl rfl)
theorem dX7_anew_5 : decode cX7_anew 5 = .ok (.aload_n 0, 1) := dk_42 (dk_at dksX7_anew_0 5 rfl rfl)
theorem dX7_anew_6 : decode cX7_anew 6 = .ok (.invokevirtual 350, 3) := dk_182 1 94 (dk_at dksX7_anew_0 6 rfl rfl)
theorem dX7_anew_9 : decode cX7_anew 9 = .ok (.ifCond .ne 6, 3) := dk_154 0 6 (dk_at dksX7_anew_0 9 rfl rfl)
theorem dX7_anew_12 : decode cX7_anew 12 = .ok (.bipush (-2), 2) := dk_16 254 (dk_at dksX7_anew_0 12 rfl rfl)
theorem dX7_anew_14 : decode cX7_anew 14 = .ok (.ireturn, 1) := dk_172 (dk_at dksX7_anew_0 14 rfl rfl)
theorem dX7_anew_15 : decode cX7_anew 15 = .ok (.aload_n 0, 1) := dk_42 (dk_at dksX7_anew_0 15 rfl rfl)
theorem dX7_anew_16 : decode cX7_anew 16 = .ok (.getfield 34, 3) := dk_180 0 34 (dk_at dksX7_anew_0 16 rfl rfl)
theorem dX7_anew_19 : decode cX7_anew 19 = .ok (.bipush 7, 2) := dk_16 7 (dk_at dksX7_anew_0 19 rfl rfl)
theorem dX7_anew_21 : decode cX7_anew 21 = .ok (.iaload, 1) := dk_46 (dk_at dksX7_anew_0 21 rfl rfl)
theorem dX7_anew_22 : decode cX7_anew 22 = .ok (.istore_n 1, 1) := dk_60 (dk_at dksX7_anew_0 22 rfl rfl)
theorem dX7_anew_23 : decode cX7_anew 23 = .ok (.aload_n 0, 1) := dk_42 (dk_at dksX7_anew_0 23 rfl rfl)
theorem dX7_anew_24 : decode cX7_anew 24 = .ok (.getfield 34, 3) := dk_180 0 34 (dk_at dksX7_anew_1 0 rfl rfl)
theorem dX7_anew_27 : decode cX7_anew 27 = .ok (.bipush 7, 2) := dk_16 7 (dk_at dksX7_anew_1 3 rfl rfl)
theorem dX7_anew_29 : decode cX7_anew 29 = .ok (.iconst 0, 1) := dk_3 (dk_at dksX7_anew_1 5 rfl rfl)
theorem dX7_anew_30 : decode cX7_anew 30 = .ok (.iastore, 1) := dk_79 (dk_at dksX7_anew_1 6 rfl rfl)
theorem dX7_anew_31 : decode cX7_anew 31 = .ok (.iload_n 1, 1) := dk_27 (dk_at dksX7_anew_1 7 rfl rfl)
theorem dX7_anew_32 : decode cX7_anew 32 = .ok (.ireturn, 1) := dk_172 (dk_at dksX7_anew_1 8 rfl rfl)
abbrev cX7_rate : ByteArray := prog_12_method_149_code
def yX7_rate : MethodName := ⟨RX7, "rate", "(II)I"⟩
def dkwX7_rate_2 : List UInt8 := [27, 104, 46, 62, 42, 180, 0, 37, 5, 27, 104, 28, 79, 29, 172]
abbrev dktX7_rate_2 : List UInt8 := dkwX7_rate_2 ++ []
def dkwX7_rate_1 : List UInt8 := [154, 0, 6, 16, 254, 172, 42, 180, 0, 34, 16, 7, 46, 158, 0, 6, 16, 251, 172, 42, 180, 0, 37, 5]
abbrev dktX7_rate_1 : List UInt8 := dkwX7_rate_1 ++ dktX7_rate_2
def dkwX7_rate_0 : List UInt8 := [42, 3, 181, 0, 116, 42, 27, 133, 182, 1, 36, 153, 0, 15, 28, 133, 10, 20, 1, 250, 184, 0, 121]
abbrev dktX7_rate_0 : List UInt8 := dkwX7_rate_0 ++ dktX7_rate_1
theorem dksX7_rate_0 : cX7_rate.data.toList.drop 0 = dktX7_rate_0 := by decide +kernel
theorem dksX7_rate_1 : cX7_rate.data.toList.drop 23 = dktX7_rate_1 := dk_seg dksX7_rate_0 23 rfl rfl
theorem dksX7_rate_2 : cX7_rate.data.toList.drop 47 = dktX7_rate_2 := dk_seg dksX7_rate_1 24 rfl rfl
theorem dX7_rate_0 : decode cX7_rate 0 = .ok (.aload_n 0, 1) := dk_42 (dk_at dksX7_rate_0 0 rfl rfl)
theorem dX7_rate_1 : decode cX7_rate 1 = .ok (.iconst 0, 1) := dk_3 (dk_at dksX7_rate_0 1 rfl rfl)
theorem dX7_rate_2 : decode cX7_rate 2 = .ok (.putfield 116, 3) := dk_181 0 116 (dk_at dksX7_rate_0 2 rfl rfl)
theorem dX7_rate_5 : decode cX7_rate 5 = .ok (.aload_n 0, 1) := dk_42 (dk_at dksX7_rate_0 5 rfl rfl)
theorem dX7_rate_6 : decode cX7_rate 6 = .ok (.iload_n 1, 1) := dk_27 (dk_at dksX7_rate_0 6 rfl rfl)
theorem dX7_rate_7 : decode cX7_rate 7 = .ok (.i2l, 1) := dk_133 (dk_at dksX7_rate_0 7 rfl rfl)
theorem dX7_rate_8 : decode cX7_rate 8 = .ok (.invokevirtual 292, 3) := dk_182 1 36 (dk_at dksX7_rate_0 8 rfl rfl)
theorem dX7_rate_11 : decode cX7_rate 11 = .ok (.ifCond .eq 15, 3) := dk_153 0 15 (dk_at dksX7_rate_0 11 rfl rfl)
theorem dX7_rate_14 : decode cX7_rate 14 = .ok (.iload_n 2, 1) := dk_28 (dk_at dksX7_rate_0 14 rfl rfl)
theorem dX7_rate_15 : decode cX7_rate 15 = .ok (.i2l, 1) := dk_133 (dk_at dksX7_rate_0 15 rfl rfl)
theorem dX7_rate_16 : decode cX7_rate 16 = .ok (.lconst 1, 1) := dk_10 (dk_at dksX7_rate_0 16 rfl rfl)
theorem dX7_rate_17 : decode cX7_rate 17 = .ok (.ldc2_w 506, 3) := dk_20 1 250 (dk_at dksX7_rate_0 17 rfl rfl)
theorem dX7_rate_20 : decode cX7_rate 20 = .ok (.invokestatic 121, 3) := dk_184 0 121 (dk_at dksX7_rate_0 20 rfl rfl)
theorem dX7_rate_23 : decode cX7_rate 23 = .ok (.ifCond .ne 6, 3) := dk_154 0 6 (dk_at dksX7_rate_1 0 rfl rfl)
theorem dX7_rate_26 : decode cX7_rate 26 = .ok (.bipush (-2), 2) := dk_16 254 (dk_at dksX7_rate_1 3 rfl rfl)
theorem dX7_rate_28 : decode cX7_rate 28 = .ok (.ireturn, 1) := dk_172 (dk_at dksX7_rate_1 5 rfl rfl)
theorem dX7_rate_29 : decode cX7_rate 29 = .ok (.aload_n 0, 1) := dk_42 (dk_at dksX7_rate_1 6 rfl rfl)
theorem dX7_rate_30 : decode cX7_rate 30 = .ok (.getfield 34, 3) := dk_180 0 34 (dk_at dksX7_rate_1 7 rfl rfl)
theorem dX7_rate_33 : decode cX7_rate 33 = .ok (.bipush 7, 2) := dk_16 7 (dk_at dksX7_rate_1 10 rfl rfl)
theorem dX7_rate_35 : decode cX7_rate 35 = .ok (.iaload, 1) := dk_46 (dk_at dksX7_rate_1 12 rfl rfl)
theorem dX7_rate_36 : decode cX7_rate 36 = .ok (.ifCond .le 6, 3) := dk_158 0 6 (dk_at dksX7_rate_1 13 rfl rfl)
theorem dX7_rate_39 : decode cX7_rate 39 = .ok (.bipush (-5), 2) := dk_16 251 (dk_at dksX7_rate_1 16 rfl rfl)
theorem dX7_rate_41 : decode cX7_rate 41 = .ok (.ireturn, 1) := dk_172 (dk_at dksX7_rate_1 18 rfl rfl)
theorem dX7_rate_42 : decode cX7_rate 42 = .ok (.aload_n 0, 1) := dk_42 (dk_at dksX7_rate_1 19 rfl rfl)
theorem dX7_rate_43 : decode cX7_rate 43 = .ok (.getfield 37, 3) := dk_180 0 37 (dk_at dksX7_rate_1 20 rfl rfl)
theorem dX7_rate_46 : decode cX7_rate 46 = .ok (.iconst 2, 1) := dk_5 (dk_at dksX7_rate_1 23 rfl rfl)
theorem dX7_rate_47 : decode cX7_rate 47 = .ok (.iload_n 1, 1) := dk_27 (dk_at dksX7_rate_2 0 rfl rfl)
theorem dX7_rate_48 : decode cX7_rate 48 = .ok (.imul, 1) := dk_104 (dk_at dksX7_rate_2 1 rfl rfl)
theorem dX7_rate_49 : decode cX7_rate 49 = .ok (.iaload, 1) := dk_46 (dk_at dksX7_rate_2 2 rfl rfl)
theorem dX7_rate_50 : decode cX7_rate 50 = .ok (.istore_n 3, 1) := dk_62 (dk_at dksX7_rate_2 3 rfl rfl)
theorem dX7_rate_51 : decode cX7_rate 51 = .ok (.aload_n 0, 1) := dk_42 (dk_at dksX7_rate_2 4 rfl rfl)
theorem dX7_rate_52 : decode cX7_rate 52 = .ok (.getfield 37, 3) := dk_180 0 37 (dk_at dksX7_rate_2 5 rfl rfl)
theorem dX7_rate_55 : decode cX7_rate 55 = .ok (.iconst 2, 1) := dk_5 (dk_at dksX7_rate_2 8 rfl rfl)
theorem dX7_rate_56 : decode cX7_rate 56 = .ok (.iload_n 1, 1) := dk_27 (dk_at dksX7_rate_2 9 rfl rfl)
theorem dX7_rate_57 : decode cX7_rate 57 = .ok (.imul, 1) := dk_104 (dk_at dksX7_rate_2 10 rfl rfl)
theorem dX7_rate_58 : decode cX7_rate 58 = .ok (.iload_n 2, 1) := dk_28 (dk_at dksX7_rate_2 11 rfl rfl)
theorem dX7_rate_59 : decode cX7_rate 59 = .ok (.iastore, 1) := dk_79 (dk_at dksX7_rate_2 12 rfl rfl)
theorem dX7_rate_60 : decode cX7_rate 60 = .ok (.iload_n 3, 1) := dk_29 (dk_at dksX7_rate_2 13 rfl rfl)
theorem dX7_rate_61 : decode cX7_rate 61 = .ok (.ireturn, 1) := dk_172 (dk_at dksX7_rate_2 14 rfl rfl)
abbrev cX7_count : ByteArray := prog_12_method_150_code
def yX7_count : MethodName := ⟨RX7, "count", "(I)I"⟩
def dkwX7_count_4 : List UInt8 := [29, 46, 2, 160, 0, 7, 3, 167, 0, 4, 4, 96, 61, 132, 3, 1, 167, 255, 230, 28, 172, 2, 172]
abbrev dktX7_count_4 : List UInt8 := dkwX7_count_4 ++ []
def dkwX7_count_3 : List UInt8 := [42, 180, 0, 31, 3, 46, 172, 42, 180, 0, 133, 172, 3, 62, 29, 7, 162, 0, 27, 28, 42, 180, 0, 7]
abbrev dktX7_count_3 : List UInt8 := dkwX7_count_3 ++ dktX7_count_4
def dkwX7_count_2 : List UInt8 := [170, 0, 0, 0, 70, 0, 0, 0, 8, 0, 0, 0, 10, 0, 0, 0, 25, 0, 0, 0, 32, 0, 0, 0, 37]
abbrev dktX7_count_2 : List UInt8 := dkwX7_count_2 ++ dktX7_count_3
def dkwX7_count_1 : List UInt8 := [3, 61, 27]
abbrev dktX7_count_1 : List UInt8 := dkwX7_count_1 ++ dktX7_count_2
def dkwX7_count_0 : List UInt8 := [42, 3, 181, 0, 116, 27, 133, 9, 20, 1, 252, 184, 0, 121, 153, 0, 10, 42, 180, 0, 34, 27, 46, 172]
abbrev dktX7_count_0 : List UInt8 := dkwX7_count_0 ++ dktX7_count_1
theorem dksX7_count_0 : cX7_count.data.toList.drop 0 = dktX7_count_0 := by decide +kernel
theorem dksX7_count_1 : cX7_count.data.toList.drop 24 = dktX7_count_1 := dk_seg dksX7_count_0 24 rfl rfl
theorem dksX7_count_2 : cX7_count.data.toList.drop 27 = dktX7_count_2 := dk_seg dksX7_count_1 3 rfl rfl
theorem dksX7_count_3 : cX7_count.data.toList.drop 52 = dktX7_count_3 := dk_seg dksX7_count_2 25 rfl rfl
theorem dksX7_count_4 : cX7_count.data.toList.drop 76 = dktX7_count_4 := dk_seg dksX7_count_3 24 rfl rfl
theorem dX7_count_0 : decode cX7_count 0 = .ok (.aload_n 0, 1) := dk_42 (dk_at dksX7_count_0 0 rfl rfl)
theorem dX7_count_1 : decode cX7_count 1 = .ok (.iconst 0, 1) := dk_3 (dk_at dksX7_count_0 1 rfl rfl)
theorem dX7_count_2 : decode cX7_count 2 = .ok (.putfield 116, 3) := dk_181 0 116 (dk_at dksX7_count_0 2 rfl rfl)
theorem dX7_count_5 : decode cX7_count 5 = .ok (.iload_n 1, 1) := dk_27 (dk_at dksX7_count_0 5 rfl rfl)
theorem dX7_count_6 : decode cX7_count 6 = .ok (.i2l, 1) := dk_133 (dk_at dksX7_count_0 6 rfl rfl)
theorem dX7_count_7 : decode cX7_count 7 = .ok (.lconst 0, 1) := dk_9 (dk_at dksX7_count_0 7 rfl rfl)
theorem dX7_count_8 : decode cX7_count 8 = .ok (.ldc2_w 508, 3) := dk_20 1 252 (dk_at dksX7_count_0 8 rfl rfl)
theorem dX7_count_11 : decode cX7_count 11 = .ok (.invokestatic 121, 3) := dk_184 0 121 (dk_at dksX7_count_0 11 rfl rfl)
theorem dX7_count_14 : decode cX7_count 14 = .ok (.ifCond .eq 10, 3) := dk_153 0 10 (dk_at dksX7_count_0 14 rfl rfl)
theorem dX7_count_17 : decode cX7_count 17 = .ok (.aload_n 0, 1) := dk_42 (dk_at dksX7_count_0 17 rfl rfl)
theorem dX7_count_18 : decode cX7_count 18 = .ok (.getfield 34, 3) := dk_180 0 34 (dk_at dksX7_count_0 18 rfl rfl)
theorem dX7_count_21 : decode cX7_count 21 = .ok (.iload_n 1, 1) := dk_27 (dk_at dksX7_count_0 21 rfl rfl)
theorem dX7_count_22 : decode cX7_count 22 = .ok (.iaload, 1) := dk_46 (dk_at dksX7_count_0 22 rfl rfl)
theorem dX7_count_23 : decode cX7_count 23 = .ok (.ireturn, 1) := dk_172 (dk_at dksX7_count_0 23 rfl rfl)
theorem dX7_count_24 : decode cX7_count 24 = .ok (.iconst 0, 1) := dk_3 (dk_at dksX7_count_1 0 rfl rfl)
theorem dX7_count_25 : decode cX7_count 25 = .ok (.istore_n 2, 1) := dk_61 (dk_at dksX7_count_1 1 rfl rfl)
theorem dX7_count_26 : decode cX7_count 26 = .ok (.iload_n 1, 1) := dk_27 (dk_at dksX7_count_1 2 rfl rfl)
theorem dX7_count_27 : decode cX7_count 27 = .ok (.tableswitch 70 8 10 #[25, 32, 37], 25) := by decide +kernel
theorem dX7_count_52 : decode cX7_count 52 = .ok (.aload_n 0, 1) := dk_42 (dk_at dksX7_count_3 0 rfl rfl)
theorem dX7_count_53 : decode cX7_count 53 = .ok (.getfield 31, 3) := dk_180 0 31 (dk_at dksX7_count_3 1 rfl rfl)
theorem dX7_count_56 : decode cX7_count 56 = .ok (.iconst 0, 1) := dk_3 (dk_at dksX7_count_3 4 rfl rfl)
theorem dX7_count_57 : decode cX7_count 57 = .ok (.iaload, 1) := dk_46 (dk_at dksX7_count_3 5 rfl rfl)
theorem dX7_count_58 : decode cX7_count 58 = .ok (.ireturn, 1) := dk_172 (dk_at dksX7_count_3 6 rfl rfl)
theorem dX7_count_59 : decode cX7_count 59 = .ok (.aload_n 0, 1) := dk_42 (dk_at dksX7_count_3 7 rfl rfl)
theorem dX7_count_60 : decode cX7_count 60 = .ok (.getfield 133, 3) := dk_180 0 133 (dk_at dksX7_count_3 8 rfl rfl)
theorem dX7_count_63 : decode cX7_count 63 = .ok (.ireturn, 1) := dk_172 (dk_at dksX7_count_3 11 rfl rfl)
theorem dX7_count_64 : decode cX7_count 64 = .ok (.iconst 0, 1) := dk_3 (dk_at dksX7_count_3 12 rfl rfl)
theorem dX7_count_65 : decode cX7_count 65 = .ok (.istore_n 3, 1) := dk_62 (dk_at dksX7_count_3 13 rfl rfl)
theorem dX7_count_66 : decode cX7_count 66 = .ok (.iload_n 3, 1) := dk_29 (dk_at dksX7_count_3 14 rfl rfl)
theorem dX7_count_67 : decode cX7_count 67 = .ok (.iconst 4, 1) := dk_7 (dk_at dksX7_count_3 15 rfl rfl)
theorem dX7_count_68 : decode cX7_count 68 = .ok (.if_icmp .ge 27, 3) := dk_162 0 27 (dk_at dksX7_count_3 16 rfl rfl)
theorem dX7_count_71 : decode cX7_count 71 = .ok (.iload_n 2, 1) := dk_28 (dk_at dksX7_count_3 19 rfl rfl)
theorem dX7_count_72 : decode cX7_count 72 = .ok (.aload_n 0, 1) := dk_42 (dk_at dksX7_count_3 20 rfl rfl)
theorem dX7_count_73 : decode cX7_count 73 = .ok (.getfield 7, 3) := dk_180 0 7 (dk_at dksX7_count_3 21 rfl rfl)
theorem dX7_count_76 : decode cX7_count 76 = .ok (.iload_n 3, 1) := dk_29 (dk_at dksX7_count_4 0 rfl rfl)
theorem dX7_count_77 : decode cX7_count 77 = .ok (.iaload, 1) := dk_46 (dk_at dksX7_count_4 1 rfl rfl)
theorem dX7_count_78 : decode cX7_count 78 = .ok (.iconst (-1), 1) := dk_2 (dk_at dksX7_count_4 2 rfl rfl)
theorem dX7_count_79 : decode cX7_count 79 = .ok (.if_icmp .ne 7, 3) := dk_160 0 7 (dk_at dksX7_count_4 3 rfl rfl)
theorem dX7_count_82 : decode cX7_count 82 = .ok (.iconst 0, 1) := dk_3 (dk_at dksX7_count_4 6 rfl rfl)
theorem dX7_count_83 : decode cX7_count 83 = .ok (.goto 4, 3) := dk_167 0 4 (dk_at dksX7_count_4 7 rfl rfl)
theorem dX7_count_86 : decode cX7_count 86 = .ok (.iconst 1, 1) := dk_4 (dk_at dksX7_count_4 10 rfl rfl)
theorem dX7_count_87 : decode cX7_count 87 = .ok (.iadd, 1) := dk_96 (dk_at dksX7_count_4 11 rfl rfl)
theorem dX7_count_88 : decode cX7_count 88 = .ok (.istore_n 2, 1) := dk_61 (dk_at dksX7_count_4 12 rfl rfl)
theorem dX7_count_89 : decode cX7_count 89 = .ok (.iinc 3 1, 3) := dk_132 3 1 (dk_at dksX7_count_4 13 rfl rfl)
theorem dX7_count_92 : decode cX7_count 92 = .ok (.goto (-26), 3) := dk_167 255 230 (dk_at dksX7_count_4 16 rfl rfl)
theorem dX7_count_95 : decode cX7_count 95 = .ok (.iload_n 2, 1) := dk_28 (dk_at dksX7_count_4 19 rfl rfl)
theorem dX7_count_96 : decode cX7_count 96 = .ok (.ireturn, 1) := dk_172 (dk_at dksX7_count_4 20 rfl rfl)
theorem dX7_count_97 : decode cX7_count 97 = .ok (.iconst (-1), 1) := dk_2 (dk_at dksX7_count_4 21 rfl rfl)
theorem dX7_count_98 : decode cX7_count 98 = .ok (.ireturn, 1) := dk_172 (dk_at dksX7_count_4 22 rfl rfl)
abbrev cX7_image : ByteArray := prog_12_method_151_code
def yX7_image : MethodName := ⟨RX7, "image", "(I)I"⟩
def dkwX7_image_1 : List UInt8 := [96, 182, 1, 20, 42, 180, 0, 52, 27, 4, 84, 3, 172]
abbrev dktX7_image_1 : List UInt8 := dkwX7_image_1 ++ []
def dkwX7_image_0 : List UInt8 := [42, 3, 181, 0, 116, 27, 133, 9, 20, 1, 89, 184, 0, 121, 154, 0, 6, 16, 254, 172, 42, 3, 4, 27]
abbrev dktX7_image_0 : List UInt8 := dkwX7_image_0 ++ dktX7_image_1
theorem dksX7_image_0 : cX7_image.data.toList.drop 0 = dktX7_image_0 := by decide +kernel
theorem dksX7_image_1 : cX7_image.data.toList.drop 24 = dktX7_image_1 := dk_seg dksX7_image_0 24 rfl rfl
theorem dX7_image_0 : decode cX7_image 0 = .ok (.aload_n 0, 1) := dk_42 (dk_at dksX7_image_0 0 rfl rfl)
theorem dX7_image_1 : decode cX7_image 1 = .ok (.iconst 0, 1) := dk_3 (dk_at dksX7_image_0 1 rfl rfl)
theorem dX7_image_2 : decode cX7_image 2 = .ok (.putfield 116, 3) := dk_181 0 116 (dk_at dksX7_image_0 2 rfl rfl)
theorem dX7_image_5 : decode cX7_image 5 = .ok (.iload_n 1, 1) := dk_27 (dk_at dksX7_image_0 5 rfl rfl)
theorem dX7_image_6 : decode cX7_image 6 = .ok (.i2l, 1) := dk_133 (dk_at dksX7_image_0 6 rfl rfl)
theorem dX7_image_7 : decode cX7_image 7 = .ok (.lconst 0, 1) := dk_9 (dk_at dksX7_image_0 7 rfl rfl)
theorem dX7_image_8 : decode cX7_image 8 = .ok (.ldc2_w 345, 3) := dk_20 1 89 (dk_at dksX7_image_0 8 rfl rfl)
theorem dX7_image_11 : decode cX7_image 11 = .ok (.invokestatic 121, 3) := dk_184 0 121 (dk_at dksX7_image_0 11 rfl rfl)
theorem dX7_image_14 : decode cX7_image 14 = .ok (.ifCond .ne 6, 3) := dk_154 0 6 (dk_at dksX7_image_0 14 rfl rfl)
theorem dX7_image_17 : decode cX7_image 17 = .ok (.bipush (-2), 2) := dk_16 254 (dk_at dksX7_image_0 17 rfl rfl)
theorem dX7_image_19 : decode cX7_image 19 = .ok (.ireturn, 1) := dk_172 (dk_at dksX7_image_0 19 rfl rfl)
theorem dX7_image_20 : decode cX7_image 20 = .ok (.aload_n 0, 1) := dk_42 (dk_at dksX7_image_0 20 rfl rfl)
theorem dX7_image_21 : decode cX7_image 21 = .ok (.iconst 0, 1) := dk_3 (dk_at dksX7_image_0 21 rfl rfl)
theorem dX7_image_22 : decode cX7_image 22 = .ok (.iconst 1, 1) := dk_4 (dk_at dksX7_image_0 22 rfl rfl)
theorem dX7_image_23 : decode cX7_image 23 = .ok (.iload_n 1, 1) := dk_27 (dk_at dksX7_image_0 23 rfl rfl)
theorem dX7_image_24 : decode cX7_image 24 = .ok (.iadd, 1) := dk_96 (dk_at dksX7_image_1 0 rfl rfl)
theorem dX7_image_25 : decode cX7_image 25 = .ok (.invokevirtual 276, 3) := dk_182 1 20 (dk_at dksX7_image_1 1 rfl rfl)
theorem dX7_image_28 : decode cX7_image 28 = .ok (.aload_n 0, 1) := dk_42 (dk_at dksX7_image_1 4 rfl rfl)
theorem dX7_image_29 : decode cX7_image 29 = .ok (.getfield 52, 3) := dk_180 0 52 (dk_at dksX7_image_1 5 rfl rfl)
theorem dX7_image_32 : decode cX7_image 32 = .ok (.iload_n 1, 1) := dk_27 (dk_at dksX7_image_1 8 rfl rfl)
theorem dX7_image_33 : decode cX7_image 33 = .ok (.iconst 1, 1) := dk_4 (dk_at dksX7_image_1 9 rfl rfl)
theorem dX7_image_34 : decode cX7_image 34 = .ok (.bastore, 1) := dk_84 (dk_at dksX7_image_1 10 rfl rfl)
theorem dX7_image_35 : decode cX7_image 35 = .ok (.iconst 0, 1) := dk_3 (dk_at dksX7_image_1 11 rfl rfl)
theorem dX7_image_36 : decode cX7_image 36 = .ok (.ireturn, 1) := dk_172 (dk_at dksX7_image_1 12 rfl rfl)
abbrev cX7_back : ByteArray := prog_12_method_152_code
def yX7_back : MethodName := ⟨RX7, "back", "(I)I"⟩
def dkwX7_back_1 : List UInt8 := [27, 51, 154, 0, 6, 16, 250, 172, 42, 4, 27, 96, 3, 182, 1, 20, 3, 172]
abbrev dktX7_back_1 : List UInt8 := dkwX7_back_1 ++ []
def dkwX7_back_0 : List UInt8 := [42, 3, 181, 0, 116, 27, 133, 9, 20, 1, 89, 184, 0, 121, 154, 0, 6, 16, 254, 172, 42, 180, 0, 52]
abbrev dktX7_back_0 : List UInt8 := dkwX7_back_0 ++ dktX7_back_1
theorem dksX7_back_0 : cX7_back.data.toList.drop 0 = dktX7_back_0 := by decide +kernel
theorem dksX7_back_1 : cX7_back.data.toList.drop 24 = dktX7_back_1 := dk_seg dksX7_back_0 24 rfl rfl
theorem dX7_back_0 : decode cX7_back 0 = .ok (.aload_n 0, 1) := dk_42 (dk_at dksX7_back_0 0 rfl rfl)
theorem dX7_back_1 : decode cX7_back 1 = .ok (.iconst 0, 1) := dk_3 (dk_at dksX7_back_0 1 rfl rfl)
theorem dX7_back_2 : decode cX7_back 2 = .ok (.putfield 116, 3) := dk_181 0 116 (dk_at dksX7_back_0 2 rfl rfl)
theorem dX7_back_5 : decode cX7_back 5 = .ok (.iload_n 1, 1) := dk_27 (dk_at dksX7_back_0 5 rfl rfl)
theorem dX7_back_6 : decode cX7_back 6 = .ok (.i2l, 1) := dk_133 (dk_at dksX7_back_0 6 rfl rfl)
theorem dX7_back_7 : decode cX7_back 7 = .ok (.lconst 0, 1) := dk_9 (dk_at dksX7_back_0 7 rfl rfl)
theorem dX7_back_8 : decode cX7_back 8 = .ok (.ldc2_w 345, 3) := dk_20 1 89 (dk_at dksX7_back_0 8 rfl rfl)
theorem dX7_back_11 : decode cX7_back 11 = .ok (.invokestatic 121, 3) := dk_184 0 121 (dk_at dksX7_back_0 11 rfl rfl)
theorem dX7_back_14 : decode cX7_back 14 = .ok (.ifCond .ne 6, 3) := dk_154 0 6 (dk_at dksX7_back_0 14 rfl rfl)
theorem dX7_back_17 : decode cX7_back 17 = .ok (.bipush (-2), 2) := dk_16 254 (dk_at dksX7_back_0 17 rfl rfl)
theorem dX7_back_19 : decode cX7_back 19 = .ok (.ireturn, 1) := dk_172 (dk_at dksX7_back_0 19 rfl rfl)
theorem dX7_back_20 : decode cX7_back 20 = .ok (.aload_n 0, 1) := dk_42 (dk_at dksX7_back_0 20 rfl rfl)
theorem dX7_back_21 : decode cX7_back 21 = .ok (.getfield 52, 3) := dk_180 0 52 (dk_at dksX7_back_0 21 rfl rfl)
theorem dX7_back_24 : decode cX7_back 24 = .ok (.iload_n 1, 1) := dk_27 (dk_at dksX7_back_1 0 rfl rfl)
theorem dX7_back_25 : decode cX7_back 25 = .ok (.baload, 1) := dk_51 (dk_at dksX7_back_1 1 rfl rfl)
theorem dX7_back_26 : decode cX7_back 26 = .ok (.ifCond .ne 6, 3) := dk_154 0 6 (dk_at dksX7_back_1 2 rfl rfl)
theorem dX7_back_29 : decode cX7_back 29 = .ok (.bipush (-6), 2) := dk_16 250 (dk_at dksX7_back_1 5 rfl rfl)
theorem dX7_back_31 : decode cX7_back 31 = .ok (.ireturn, 1) := dk_172 (dk_at dksX7_back_1 7 rfl rfl)
theorem dX7_back_32 : decode cX7_back 32 = .ok (.aload_n 0, 1) := dk_42 (dk_at dksX7_back_1 8 rfl rfl)
theorem dX7_back_33 : decode cX7_back 33 = .ok (.iconst 1, 1) := dk_4 (dk_at dksX7_back_1 9 rfl rfl)
theorem dX7_back_34 : decode cX7_back 34 = .ok (.iload_n 1, 1) := dk_27 (dk_at dksX7_back_1 10 rfl rfl)
theorem dX7_back_35 : decode cX7_back 35 = .ok (.iadd, 1) := dk_96 (dk_at dksX7_back_1 11 rfl rfl)
theorem dX7_back_36 : decode cX7_back 36 = .ok (.iconst 0, 1) := dk_3 (dk_at dksX7_back_1 12 rfl rfl)
theorem dX7_back_37 : decode cX7_back 37 = .ok (.invokevirtual 276, 3) := dk_182 1 20 (dk_at dksX7_back_1 13 rfl rfl)
theorem dX7_back_40 : decode cX7_back 40 = .ok (.iconst 0, 1) := dk_3 (dk_at dksX7_back_1 16 rfl rfl)
theorem dX7_back_41 : decode cX7_back 41 = .ok (.ireturn, 1) := dk_172 (dk_at dksX7_back_1 17 rfl rfl)
theorem q138 : (Jvm.Cond.initialized "SagMemoryModel") ∈ lw_all := lw_g (lw_at lw_m1 11 rfl) rfl
theorem q1343 : (Jvm.Cond.selects "SagMemoryModel" ({ cls := "java/lang/Object", name := "getClass", desc := "()Ljava/lang/Class;" } : Jvm.MethodName) ({ cls := "java/lang/Object", name := "getClass", desc := "()Ljava/lang/Class;" } : Jvm.MethodName)) ∈ lw_all := lw_g (lw_at lw_m6 16 rfl) rfl
theorem q1475 : (Jvm.Cond.instantiable "SagMemoryModel" (59 : Nat)) ∈ lw_all := lw_g (lw_at lw_m6 148 rfl) rfl
theorem q1477 : (Jvm.Cond.instanceMethod ({ cls := "SagMemoryModel", name := "<init>", desc := "()V" } : Jvm.MethodName)) ∈ lw_all := lw_g (lw_at lw_m6 150 rfl) rfl
theorem q1478 : (Jvm.Cond.code ({ cls := "SagMemoryModel", name := "<init>", desc := "()V" } : Jvm.MethodName) prog_12_method_1_code (2 : Nat) (Option.none : Option Jvm.ClassFile.FieldType)) ∈ lw_all := lw_g (lw_at lw_m6 151 rfl) rfl
theorem q1479 : (Jvm.Cond.methodLink "SagMemoryModel" (1 : Nat) ({ cls := "java/lang/Object", name := "<init>", desc := "()V" } : Jvm.MethodName)) ∈ lw_all := lw_g (lw_at lw_m6 152 rfl) rfl
theorem q1480 : (Jvm.Cond.fieldLink "SagMemoryModel" (116 : Nat) "SagMemoryModel" "thrown" "I") ∈ lw_all := lw_g (lw_at lw_m6 153 rfl) rfl
theorem q1481 : (Jvm.Cond.fieldLink "SagMemoryModel" (7 : Nat) "SagMemoryModel" "width" "[I") ∈ lw_all := lw_g (lw_at lw_m6 154 rfl) rfl
theorem q1482 : (Jvm.Cond.fieldLink "SagMemoryModel" (13 : Nat) "SagMemoryModel" "many" "[I") ∈ lw_all := lw_g (lw_at lw_m6 155 rfl) rfl
theorem q1483 : (Jvm.Cond.fieldLink "SagMemoryModel" (16 : Nat) "SagMemoryModel" "cells" "[J") ∈ lw_all := lw_g (lw_at lw_m6 156 rfl) rfl
theorem q1484 : (Jvm.Cond.fieldLink "SagMemoryModel" (20 : Nat) "SagMemoryModel" "moved" "[J") ∈ lw_all := lw_g (lw_at lw_m6 157 rfl) rfl
theorem q1485 : (Jvm.Cond.fieldLink "SagMemoryModel" (23 : Nat) "SagMemoryModel" "tape" "[B") ∈ lw_all := lw_g (lw_at lw_m6 158 rfl) rfl
theorem q1486 : (Jvm.Cond.fieldLink "SagMemoryModel" (133 : Nat) "SagMemoryModel" "taped" "I") ∈ lw_all := lw_g (lw_at lw_m6 159 rfl) rfl
theorem q1487 : (Jvm.Cond.fieldLink "SagMemoryModel" (140 : Nat) "SagMemoryModel" "spot" "I") ∈ lw_all := lw_g (lw_at lw_m6 160 rfl) rfl
theorem q1488 : (Jvm.Cond.fieldLink "SagMemoryModel" (157 : Nat) "SagMemoryModel" "token" "I") ∈ lw_all := lw_g (lw_at lw_m6 161 rfl) rfl
theorem q1489 : (Jvm.Cond.fieldLink "SagMemoryModel" (147 : Nat) "SagMemoryModel" "place" "I") ∈ lw_all := lw_g (lw_at lw_m6 162 rfl) rfl
theorem q1490 : (Jvm.Cond.fieldLink "SagMemoryModel" (150 : Nat) "SagMemoryModel" "value" "I") ∈ lw_all := lw_g (lw_at lw_m6 163 rfl) rfl
theorem q1491 : (Jvm.Cond.fieldLink "SagMemoryModel" (153 : Nat) "SagMemoryModel" "word" "J") ∈ lw_all := lw_g (lw_at lw_m6 164 rfl) rfl
theorem q1492 : (Jvm.Cond.fieldLink "SagMemoryModel" (168 : Nat) "SagMemoryModel" "bad" "I") ∈ lw_all := lw_g (lw_at lw_m6 165 rfl) rfl
theorem q1493 : (Jvm.Cond.fieldLink "SagMemoryModel" (171 : Nat) "SagMemoryModel" "badPlace" "I") ∈ lw_all := lw_g (lw_at lw_m6 166 rfl) rfl
theorem q1494 : (Jvm.Cond.fieldLink "SagMemoryModel" (195 : Nat) "SagMemoryModel" "fault" "I") ∈ lw_all := lw_g (lw_at lw_m6 167 rfl) rfl
theorem q1495 : (Jvm.Cond.fieldLink "SagMemoryModel" (27 : Nat) "SagMemoryModel" "faultPlace" "I") ∈ lw_all := lw_g (lw_at lw_m6 168 rfl) rfl
theorem q1496 : (Jvm.Cond.fieldLink "SagMemoryModel" (31 : Nat) "SagMemoryModel" "lines" "[I") ∈ lw_all := lw_g (lw_at lw_m6 169 rfl) rfl
theorem q1497 : (Jvm.Cond.fieldLink "SagMemoryModel" (34 : Nat) "SagMemoryModel" "has" "[I") ∈ lw_all := lw_g (lw_at lw_m6 170 rfl) rfl
theorem q1498 : (Jvm.Cond.fieldLink "SagMemoryModel" (37 : Nat) "SagMemoryModel" "bridge" "[I") ∈ lw_all := lw_g (lw_at lw_m6 171 rfl) rfl
theorem q1499 : (Jvm.Cond.fieldLink "SagMemoryModel" (40 : Nat) "SagMemoryModel" "cart" "[I") ∈ lw_all := lw_g (lw_at lw_m6 172 rfl) rfl
theorem q1500 : (Jvm.Cond.fieldLink "SagMemoryModel" (43 : Nat) "SagMemoryModel" "ward" "[I") ∈ lw_all := lw_g (lw_at lw_m6 173 rfl) rfl
theorem q1501 : (Jvm.Cond.fieldLink "SagMemoryModel" (46 : Nat) "SagMemoryModel" "frostAt" "[I") ∈ lw_all := lw_g (lw_at lw_m6 174 rfl) rfl
theorem q1502 : (Jvm.Cond.fieldLink "SagMemoryModel" (49 : Nat) "SagMemoryModel" "act" "[I") ∈ lw_all := lw_g (lw_at lw_m6 175 rfl) rfl
theorem q1503 : (Jvm.Cond.fieldLink "SagMemoryModel" (52 : Nat) "SagMemoryModel" "isKept" "[Z") ∈ lw_all := lw_g (lw_at lw_m6 176 rfl) rfl
theorem q1504 : (Jvm.Cond.fieldLink "SagMemoryModel" (295 : Nat) "SagMemoryModel" "law" "I") ∈ lw_all := lw_g (lw_at lw_m6 177 rfl) rfl
theorem q1505 : (Jvm.Cond.fieldLink "SagMemoryModel" (298 : Nat) "SagMemoryModel" "frosts" "I") ∈ lw_all := lw_g (lw_at lw_m6 178 rfl) rfl
theorem q1506 : (Jvm.Cond.fieldLink "SagMemoryModel" (301 : Nat) "SagMemoryModel" "absent" "I") ∈ lw_all := lw_g (lw_at lw_m6 179 rfl) rfl
theorem q1507 : (Jvm.Cond.fieldLink "SagMemoryModel" (56 : Nat) "SagMemoryModel" "loadNow" "[I") ∈ lw_all := lw_g (lw_at lw_m6 180 rfl) rfl
theorem q1508 : (Jvm.Cond.fieldLink "SagMemoryModel" (59 : Nat) "SagMemoryModel" "byNow" "[I") ∈ lw_all := lw_g (lw_at lw_m6 181 rfl) rfl
theorem q1509 : (Jvm.Cond.fieldLink "SagMemoryModel" (62 : Nat) "SagMemoryModel" "row" "[I") ∈ lw_all := lw_g (lw_at lw_m6 182 rfl) rfl
theorem q1510 : (Jvm.Cond.fieldLink "SagMemoryModel" (65 : Nat) "SagMemoryModel" "memory" "[I") ∈ lw_all := lw_g (lw_at lw_m6 183 rfl) rfl
theorem q1511 : (Jvm.Cond.fieldLink "SagMemoryModel" (68 : Nat) "SagMemoryModel" "whose" "[I") ∈ lw_all := lw_g (lw_at lw_m6 184 rfl) rfl
theorem q1512 : (Jvm.Cond.fieldLink "SagMemoryModel" (71 : Nat) "SagMemoryModel" "deepNow" "[I") ∈ lw_all := lw_g (lw_at lw_m6 185 rfl) rfl
theorem q1513 : (Jvm.Cond.fieldLink "SagMemoryModel" (74 : Nat) "SagMemoryModel" "brokenBy" "[I") ∈ lw_all := lw_g (lw_at lw_m6 186 rfl) rfl
theorem q1514 : (Jvm.Cond.fieldLink "SagMemoryModel" (77 : Nat) "SagMemoryModel" "brokenAt" "[I") ∈ lw_all := lw_g (lw_at lw_m6 187 rfl) rfl
theorem q1515 : (Jvm.Cond.fieldLink "SagMemoryModel" (80 : Nat) "SagMemoryModel" "goesBy" "[I") ∈ lw_all := lw_g (lw_at lw_m6 188 rfl) rfl
theorem q1516 : (Jvm.Cond.fieldLink "SagMemoryModel" (83 : Nat) "SagMemoryModel" "comesTo" "[I") ∈ lw_all := lw_g (lw_at lw_m6 189 rfl) rfl
theorem q1517 : (Jvm.Cond.fieldLink "SagMemoryModel" (86 : Nat) "SagMemoryModel" "sagMore" "[I") ∈ lw_all := lw_g (lw_at lw_m6 190 rfl) rfl
theorem q1518 : (Jvm.Cond.fieldLink "SagMemoryModel" (89 : Nat) "SagMemoryModel" "creakOf" "[I") ∈ lw_all := lw_g (lw_at lw_m6 191 rfl) rfl
theorem q1519 : (Jvm.Cond.fieldLink "SagMemoryModel" (92 : Nat) "SagMemoryModel" "wipedBy" "[I") ∈ lw_all := lw_g (lw_at lw_m6 192 rfl) rfl
theorem q1520 : (Jvm.Cond.fieldLink "SagMemoryModel" (95 : Nat) "SagMemoryModel" "deepAt" "[I") ∈ lw_all := lw_g (lw_at lw_m6 193 rfl) rfl
theorem q1521 : (Jvm.Cond.fieldLink "SagMemoryModel" (98 : Nat) "SagMemoryModel" "sagAt" "[I") ∈ lw_all := lw_g (lw_at lw_m6 194 rfl) rfl
theorem q1522 : (Jvm.Cond.fieldLink "SagMemoryModel" (101 : Nat) "SagMemoryModel" "loadAt" "[I") ∈ lw_all := lw_g (lw_at lw_m6 195 rfl) rfl
theorem q1523 : (Jvm.Cond.fieldLink "SagMemoryModel" (362 : Nat) "SagMemoryModel" "orderLeast" "I") ∈ lw_all := lw_g (lw_at lw_m6 196 rfl) rfl
theorem q1524 : (Jvm.Cond.fieldLink "SagMemoryModel" (365 : Nat) "SagMemoryModel" "orderMany" "I") ∈ lw_all := lw_g (lw_at lw_m6 197 rfl) rfl
theorem q1525 : (Jvm.Cond.fieldLink "SagMemoryModel" (371 : Nat) "SagMemoryModel" "orderOver" "I") ∈ lw_all := lw_g (lw_at lw_m6 198 rfl) rfl
theorem q1526 : (Jvm.Cond.fieldLink "SagMemoryModel" (104 : Nat) "SagMemoryModel" "orderRow" "[I") ∈ lw_all := lw_g (lw_at lw_m6 199 rfl) rfl
theorem q1527 : (Jvm.Cond.fieldLink "SagMemoryModel" (392 : Nat) "SagMemoryModel" "setMany" "I") ∈ lw_all := lw_g (lw_at lw_m6 200 rfl) rfl
theorem q1528 : (Jvm.Cond.fieldLink "SagMemoryModel" (395 : Nat) "SagMemoryModel" "setAll" "I") ∈ lw_all := lw_g (lw_at lw_m6 201 rfl) rfl
theorem q1529 : (Jvm.Cond.fieldLink "SagMemoryModel" (398 : Nat) "SagMemoryModel" "setAny" "I") ∈ lw_all := lw_g (lw_at lw_m6 202 rfl) rfl
theorem q1530 : (Jvm.Cond.fieldLink "SagMemoryModel" (401 : Nat) "SagMemoryModel" "setFewest" "I") ∈ lw_all := lw_g (lw_at lw_m6 203 rfl) rfl
theorem q1531 : (Jvm.Cond.fieldLink "SagMemoryModel" (410 : Nat) "SagMemoryModel" "askBest" "I") ∈ lw_all := lw_g (lw_at lw_m6 204 rfl) rfl
theorem q1532 : (Jvm.Cond.fieldLink "SagMemoryModel" (413 : Nat) "SagMemoryModel" "askLeaves" "I") ∈ lw_all := lw_g (lw_at lw_m6 205 rfl) rfl
theorem q1533 : (Jvm.Cond.fieldLink "SagMemoryModel" (107 : Nat) "SagMemoryModel" "often" "[I") ∈ lw_all := lw_g (lw_at lw_m6 206 rfl) rfl
theorem q1534 : (Jvm.Cond.fieldLink "SagMemoryModel" (427 : Nat) "SagMemoryModel" "lieMany" "I") ∈ lw_all := lw_g (lw_at lw_m6 207 rfl) rfl
theorem q1535 : (Jvm.Cond.fieldLink "SagMemoryModel" (430 : Nat) "SagMemoryModel" "lieLeast" "I") ∈ lw_all := lw_g (lw_at lw_m6 208 rfl) rfl
theorem q1536 : (Jvm.Cond.fieldLink "SagMemoryModel" (433 : Nat) "SagMemoryModel" "lieMost" "I") ∈ lw_all := lw_g (lw_at lw_m6 209 rfl) rfl
theorem q1537 : (Jvm.Cond.fieldLink "SagMemoryModel" (110 : Nat) "SagMemoryModel" "lossOne" "[I") ∈ lw_all := lw_g (lw_at lw_m6 210 rfl) rfl
theorem q1538 : (Jvm.Cond.fieldLink "SagMemoryModel" (113 : Nat) "SagMemoryModel" "lossOther" "[I") ∈ lw_all := lw_g (lw_at lw_m6 211 rfl) rfl
theorem q1539 : (Jvm.Cond.lays "SagMemoryModel" "SagMemoryModel" "thrown" "I") ∈ lw_all := lw_g (lw_at lw_m6 212 rfl) rfl
theorem q1540 : (Jvm.Cond.soleField "SagMemoryModel" "thrown") ∈ lw_all := lw_g (lw_at lw_m6 213 rfl) rfl
theorem q1541 : (Jvm.Cond.laysFinal "SagMemoryModel" "SagMemoryModel" "width" "[I") ∈ lw_all := lw_g (lw_at lw_m6 214 rfl) rfl
theorem q1542 : (Jvm.Cond.soleField "SagMemoryModel" "width") ∈ lw_all := lw_g (lw_at lw_m6 215 rfl) rfl
theorem q1543 : (Jvm.Cond.laysFinal "SagMemoryModel" "SagMemoryModel" "many" "[I") ∈ lw_all := lw_g (lw_at lw_m6 216 rfl) rfl
theorem q1544 : (Jvm.Cond.soleField "SagMemoryModel" "many") ∈ lw_all := lw_g (lw_at lw_m6 217 rfl) rfl
theorem q1545 : (Jvm.Cond.laysFinal "SagMemoryModel" "SagMemoryModel" "cells" "[J") ∈ lw_all := lw_g (lw_at lw_m6 218 rfl) rfl
theorem q1546 : (Jvm.Cond.soleField "SagMemoryModel" "cells") ∈ lw_all := lw_g (lw_at lw_m6 219 rfl) rfl
theorem q1547 : (Jvm.Cond.laysFinal "SagMemoryModel" "SagMemoryModel" "moved" "[J") ∈ lw_all := lw_g (lw_at lw_m6 220 rfl) rfl
theorem q1548 : (Jvm.Cond.soleField "SagMemoryModel" "moved") ∈ lw_all := lw_g (lw_at lw_m6 221 rfl) rfl
theorem q1549 : (Jvm.Cond.laysFinal "SagMemoryModel" "SagMemoryModel" "tape" "[B") ∈ lw_all := lw_g (lw_at lw_m6 222 rfl) rfl
theorem q1550 : (Jvm.Cond.soleField "SagMemoryModel" "tape") ∈ lw_all := lw_g (lw_at lw_m6 223 rfl) rfl
theorem q1551 : (Jvm.Cond.lays "SagMemoryModel" "SagMemoryModel" "taped" "I") ∈ lw_all := lw_g (lw_at lw_m6 224 rfl) rfl
theorem q1552 : (Jvm.Cond.soleField "SagMemoryModel" "taped") ∈ lw_all := lw_g (lw_at lw_m6 225 rfl) rfl
theorem q1553 : (Jvm.Cond.lays "SagMemoryModel" "SagMemoryModel" "spot" "I") ∈ lw_all := lw_g (lw_at lw_m6 226 rfl) rfl
theorem q1554 : (Jvm.Cond.soleField "SagMemoryModel" "spot") ∈ lw_all := lw_g (lw_at lw_m6 227 rfl) rfl
theorem q1555 : (Jvm.Cond.lays "SagMemoryModel" "SagMemoryModel" "token" "I") ∈ lw_all := lw_g (lw_at lw_m6 228 rfl) rfl
theorem q1556 : (Jvm.Cond.soleField "SagMemoryModel" "token") ∈ lw_all := lw_g (lw_at lw_m6 229 rfl) rfl
theorem q1557 : (Jvm.Cond.lays "SagMemoryModel" "SagMemoryModel" "place" "I") ∈ lw_all := lw_g (lw_at lw_m6 230 rfl) rfl
theorem q1558 : (Jvm.Cond.soleField "SagMemoryModel" "place") ∈ lw_all := lw_g (lw_at lw_m6 231 rfl) rfl
theorem q1559 : (Jvm.Cond.lays "SagMemoryModel" "SagMemoryModel" "value" "I") ∈ lw_all := lw_g (lw_at lw_m6 232 rfl) rfl
theorem q1560 : (Jvm.Cond.soleField "SagMemoryModel" "value") ∈ lw_all := lw_g (lw_at lw_m6 233 rfl) rfl
theorem q1561 : (Jvm.Cond.lays "SagMemoryModel" "SagMemoryModel" "word" "J") ∈ lw_all := lw_g (lw_at lw_m6 234 rfl) rfl
theorem q1562 : (Jvm.Cond.soleField "SagMemoryModel" "word") ∈ lw_all := lw_g (lw_at lw_m6 235 rfl) rfl
theorem q1563 : (Jvm.Cond.lays "SagMemoryModel" "SagMemoryModel" "bad" "I") ∈ lw_all := lw_g (lw_at lw_m6 236 rfl) rfl
theorem q1564 : (Jvm.Cond.soleField "SagMemoryModel" "bad") ∈ lw_all := lw_g (lw_at lw_m6 237 rfl) rfl
theorem q1565 : (Jvm.Cond.lays "SagMemoryModel" "SagMemoryModel" "badPlace" "I") ∈ lw_all := lw_g (lw_at lw_m6 238 rfl) rfl
theorem q1566 : (Jvm.Cond.soleField "SagMemoryModel" "badPlace") ∈ lw_all := lw_g (lw_at lw_m6 239 rfl) rfl
theorem q1567 : (Jvm.Cond.lays "SagMemoryModel" "SagMemoryModel" "fault" "I") ∈ lw_all := lw_g (lw_at lw_m7 0 rfl) rfl
theorem q1568 : (Jvm.Cond.soleField "SagMemoryModel" "fault") ∈ lw_all := lw_g (lw_at lw_m7 1 rfl) rfl
theorem q1569 : (Jvm.Cond.lays "SagMemoryModel" "SagMemoryModel" "faultPlace" "I") ∈ lw_all := lw_g (lw_at lw_m7 2 rfl) rfl
theorem q1570 : (Jvm.Cond.soleField "SagMemoryModel" "faultPlace") ∈ lw_all := lw_g (lw_at lw_m7 3 rfl) rfl
theorem q1571 : (Jvm.Cond.laysFinal "SagMemoryModel" "SagMemoryModel" "lines" "[I") ∈ lw_all := lw_g (lw_at lw_m7 4 rfl) rfl
theorem q1572 : (Jvm.Cond.soleField "SagMemoryModel" "lines") ∈ lw_all := lw_g (lw_at lw_m7 5 rfl) rfl
theorem q1573 : (Jvm.Cond.laysFinal "SagMemoryModel" "SagMemoryModel" "has" "[I") ∈ lw_all := lw_g (lw_at lw_m7 6 rfl) rfl
theorem q1574 : (Jvm.Cond.soleField "SagMemoryModel" "has") ∈ lw_all := lw_g (lw_at lw_m7 7 rfl) rfl
theorem q1575 : (Jvm.Cond.laysFinal "SagMemoryModel" "SagMemoryModel" "bridge" "[I") ∈ lw_all := lw_g (lw_at lw_m7 8 rfl) rfl
theorem q1576 : (Jvm.Cond.soleField "SagMemoryModel" "bridge") ∈ lw_all := lw_g (lw_at lw_m7 9 rfl) rfl
theorem q1577 : (Jvm.Cond.laysFinal "SagMemoryModel" "SagMemoryModel" "cart" "[I") ∈ lw_all := lw_g (lw_at lw_m7 10 rfl) rfl
theorem q1578 : (Jvm.Cond.soleField "SagMemoryModel" "cart") ∈ lw_all := lw_g (lw_at lw_m7 11 rfl) rfl
theorem q1579 : (Jvm.Cond.laysFinal "SagMemoryModel" "SagMemoryModel" "ward" "[I") ∈ lw_all := lw_g (lw_at lw_m7 12 rfl) rfl
theorem q1580 : (Jvm.Cond.soleField "SagMemoryModel" "ward") ∈ lw_all := lw_g (lw_at lw_m7 13 rfl) rfl
theorem q1581 : (Jvm.Cond.laysFinal "SagMemoryModel" "SagMemoryModel" "frostAt" "[I") ∈ lw_all := lw_g (lw_at lw_m7 14 rfl) rfl
theorem q1582 : (Jvm.Cond.soleField "SagMemoryModel" "frostAt") ∈ lw_all := lw_g (lw_at lw_m7 15 rfl) rfl
theorem q1583 : (Jvm.Cond.laysFinal "SagMemoryModel" "SagMemoryModel" "act" "[I") ∈ lw_all := lw_g (lw_at lw_m7 16 rfl) rfl
theorem q1584 : (Jvm.Cond.soleField "SagMemoryModel" "act") ∈ lw_all := lw_g (lw_at lw_m7 17 rfl) rfl
theorem q1585 : (Jvm.Cond.laysFinal "SagMemoryModel" "SagMemoryModel" "isKept" "[Z") ∈ lw_all := lw_g (lw_at lw_m7 18 rfl) rfl
theorem q1586 : (Jvm.Cond.soleField "SagMemoryModel" "isKept") ∈ lw_all := lw_g (lw_at lw_m7 19 rfl) rfl
theorem q1587 : (Jvm.Cond.lays "SagMemoryModel" "SagMemoryModel" "law" "I") ∈ lw_all := lw_g (lw_at lw_m7 20 rfl) rfl
theorem q1588 : (Jvm.Cond.soleField "SagMemoryModel" "law") ∈ lw_all := lw_g (lw_at lw_m7 21 rfl) rfl
theorem q1589 : (Jvm.Cond.lays "SagMemoryModel" "SagMemoryModel" "frosts" "I") ∈ lw_all := lw_g (lw_at lw_m7 22 rfl) rfl
theorem q1590 : (Jvm.Cond.soleField "SagMemoryModel" "frosts") ∈ lw_all := lw_g (lw_at lw_m7 23 rfl) rfl
theorem q1591 : (Jvm.Cond.lays "SagMemoryModel" "SagMemoryModel" "absent" "I") ∈ lw_all := lw_g (lw_at lw_m7 24 rfl) rfl
theorem q1592 : (Jvm.Cond.soleField "SagMemoryModel" "absent") ∈ lw_all := lw_g (lw_at lw_m7 25 rfl) rfl
theorem q1593 : (Jvm.Cond.laysFinal "SagMemoryModel" "SagMemoryModel" "loadNow" "[I") ∈ lw_all := lw_g (lw_at lw_m7 26 rfl) rfl
theorem q1594 : (Jvm.Cond.soleField "SagMemoryModel" "loadNow") ∈ lw_all := lw_g (lw_at lw_m7 27 rfl) rfl
theorem q1595 : (Jvm.Cond.laysFinal "SagMemoryModel" "SagMemoryModel" "byNow" "[I") ∈ lw_all := lw_g (lw_at lw_m7 28 rfl) rfl
theorem q1596 : (Jvm.Cond.soleField "SagMemoryModel" "byNow") ∈ lw_all := lw_g (lw_at lw_m7 29 rfl) rfl
theorem q1597 : (Jvm.Cond.laysFinal "SagMemoryModel" "SagMemoryModel" "row" "[I") ∈ lw_all := lw_g (lw_at lw_m7 30 rfl) rfl
theorem q1598 : (Jvm.Cond.soleField "SagMemoryModel" "row") ∈ lw_all := lw_g (lw_at lw_m7 31 rfl) rfl
theorem q1599 : (Jvm.Cond.laysFinal "SagMemoryModel" "SagMemoryModel" "memory" "[I") ∈ lw_all := lw_g (lw_at lw_m7 32 rfl) rfl
theorem q1600 : (Jvm.Cond.soleField "SagMemoryModel" "memory") ∈ lw_all := lw_g (lw_at lw_m7 33 rfl) rfl
theorem q1601 : (Jvm.Cond.laysFinal "SagMemoryModel" "SagMemoryModel" "whose" "[I") ∈ lw_all := lw_g (lw_at lw_m7 34 rfl) rfl
theorem q1602 : (Jvm.Cond.soleField "SagMemoryModel" "whose") ∈ lw_all := lw_g (lw_at lw_m7 35 rfl) rfl
theorem q1603 : (Jvm.Cond.laysFinal "SagMemoryModel" "SagMemoryModel" "deepNow" "[I") ∈ lw_all := lw_g (lw_at lw_m7 36 rfl) rfl
theorem q1604 : (Jvm.Cond.soleField "SagMemoryModel" "deepNow") ∈ lw_all := lw_g (lw_at lw_m7 37 rfl) rfl
theorem q1605 : (Jvm.Cond.laysFinal "SagMemoryModel" "SagMemoryModel" "brokenBy" "[I") ∈ lw_all := lw_g (lw_at lw_m7 38 rfl) rfl
theorem q1606 : (Jvm.Cond.soleField "SagMemoryModel" "brokenBy") ∈ lw_all := lw_g (lw_at lw_m7 39 rfl) rfl
theorem q1607 : (Jvm.Cond.laysFinal "SagMemoryModel" "SagMemoryModel" "brokenAt" "[I") ∈ lw_all := lw_g (lw_at lw_m7 40 rfl) rfl
theorem q1608 : (Jvm.Cond.soleField "SagMemoryModel" "brokenAt") ∈ lw_all := lw_g (lw_at lw_m7 41 rfl) rfl
theorem q1609 : (Jvm.Cond.laysFinal "SagMemoryModel" "SagMemoryModel" "goesBy" "[I") ∈ lw_all := lw_g (lw_at lw_m7 42 rfl) rfl
theorem q1610 : (Jvm.Cond.soleField "SagMemoryModel" "goesBy") ∈ lw_all := lw_g (lw_at lw_m7 43 rfl) rfl
theorem q1611 : (Jvm.Cond.laysFinal "SagMemoryModel" "SagMemoryModel" "comesTo" "[I") ∈ lw_all := lw_g (lw_at lw_m7 44 rfl) rfl
theorem q1612 : (Jvm.Cond.soleField "SagMemoryModel" "comesTo") ∈ lw_all := lw_g (lw_at lw_m7 45 rfl) rfl
theorem q1613 : (Jvm.Cond.laysFinal "SagMemoryModel" "SagMemoryModel" "sagMore" "[I") ∈ lw_all := lw_g (lw_at lw_m7 46 rfl) rfl
theorem q1614 : (Jvm.Cond.soleField "SagMemoryModel" "sagMore") ∈ lw_all := lw_g (lw_at lw_m7 47 rfl) rfl
theorem q1615 : (Jvm.Cond.laysFinal "SagMemoryModel" "SagMemoryModel" "creakOf" "[I") ∈ lw_all := lw_g (lw_at lw_m7 48 rfl) rfl
theorem q1616 : (Jvm.Cond.soleField "SagMemoryModel" "creakOf") ∈ lw_all := lw_g (lw_at lw_m7 49 rfl) rfl
theorem q1617 : (Jvm.Cond.laysFinal "SagMemoryModel" "SagMemoryModel" "wipedBy" "[I") ∈ lw_all := lw_g (lw_at lw_m7 50 rfl) rfl
theorem q1618 : (Jvm.Cond.soleField "SagMemoryModel" "wipedBy") ∈ lw_all := lw_g (lw_at lw_m7 51 rfl) rfl
theorem q1619 : (Jvm.Cond.laysFinal "SagMemoryModel" "SagMemoryModel" "deepAt" "[I") ∈ lw_all := lw_g (lw_at lw_m7 52 rfl) rfl
theorem q1620 : (Jvm.Cond.soleField "SagMemoryModel" "deepAt") ∈ lw_all := lw_g (lw_at lw_m7 53 rfl) rfl
theorem q1621 : (Jvm.Cond.laysFinal "SagMemoryModel" "SagMemoryModel" "sagAt" "[I") ∈ lw_all := lw_g (lw_at lw_m7 54 rfl) rfl
theorem q1622 : (Jvm.Cond.soleField "SagMemoryModel" "sagAt") ∈ lw_all := lw_g (lw_at lw_m7 55 rfl) rfl
theorem q1623 : (Jvm.Cond.laysFinal "SagMemoryModel" "SagMemoryModel" "loadAt" "[I") ∈ lw_all := lw_g (lw_at lw_m7 56 rfl) rfl
theorem q1624 : (Jvm.Cond.soleField "SagMemoryModel" "loadAt") ∈ lw_all := lw_g (lw_at lw_m7 57 rfl) rfl
theorem q1625 : (Jvm.Cond.lays "SagMemoryModel" "SagMemoryModel" "orderLeast" "I") ∈ lw_all := lw_g (lw_at lw_m7 58 rfl) rfl
theorem q1626 : (Jvm.Cond.soleField "SagMemoryModel" "orderLeast") ∈ lw_all := lw_g (lw_at lw_m7 59 rfl) rfl
theorem q1627 : (Jvm.Cond.lays "SagMemoryModel" "SagMemoryModel" "orderMany" "I") ∈ lw_all := lw_g (lw_at lw_m7 60 rfl) rfl
theorem q1628 : (Jvm.Cond.soleField "SagMemoryModel" "orderMany") ∈ lw_all := lw_g (lw_at lw_m7 61 rfl) rfl
theorem q1629 : (Jvm.Cond.lays "SagMemoryModel" "SagMemoryModel" "orderOver" "I") ∈ lw_all := lw_g (lw_at lw_m7 62 rfl) rfl
theorem q1630 : (Jvm.Cond.soleField "SagMemoryModel" "orderOver") ∈ lw_all := lw_g (lw_at lw_m7 63 rfl) rfl
theorem q1631 : (Jvm.Cond.laysFinal "SagMemoryModel" "SagMemoryModel" "orderRow" "[I") ∈ lw_all := lw_g (lw_at lw_m7 64 rfl) rfl
theorem q1632 : (Jvm.Cond.soleField "SagMemoryModel" "orderRow") ∈ lw_all := lw_g (lw_at lw_m7 65 rfl) rfl
theorem q1633 : (Jvm.Cond.lays "SagMemoryModel" "SagMemoryModel" "setMany" "I") ∈ lw_all := lw_g (lw_at lw_m7 66 rfl) rfl
theorem q1634 : (Jvm.Cond.soleField "SagMemoryModel" "setMany") ∈ lw_all := lw_g (lw_at lw_m7 67 rfl) rfl
theorem q1635 : (Jvm.Cond.lays "SagMemoryModel" "SagMemoryModel" "setAll" "I") ∈ lw_all := lw_g (lw_at lw_m7 68 rfl) rfl
theorem q1636 : (Jvm.Cond.soleField "SagMemoryModel" "setAll") ∈ lw_all := lw_g (lw_at lw_m7 69 rfl) rfl
theorem q1637 : (Jvm.Cond.lays "SagMemoryModel" "SagMemoryModel" "setAny" "I") ∈ lw_all := lw_g (lw_at lw_m7 70 rfl) rfl
theorem q1638 : (Jvm.Cond.soleField "SagMemoryModel" "setAny") ∈ lw_all := lw_g (lw_at lw_m7 71 rfl) rfl
theorem q1639 : (Jvm.Cond.lays "SagMemoryModel" "SagMemoryModel" "setFewest" "I") ∈ lw_all := lw_g (lw_at lw_m7 72 rfl) rfl
theorem q1640 : (Jvm.Cond.soleField "SagMemoryModel" "setFewest") ∈ lw_all := lw_g (lw_at lw_m7 73 rfl) rfl
theorem q1641 : (Jvm.Cond.lays "SagMemoryModel" "SagMemoryModel" "askBest" "I") ∈ lw_all := lw_g (lw_at lw_m7 74 rfl) rfl
theorem q1642 : (Jvm.Cond.soleField "SagMemoryModel" "askBest") ∈ lw_all := lw_g (lw_at lw_m7 75 rfl) rfl
theorem q1643 : (Jvm.Cond.lays "SagMemoryModel" "SagMemoryModel" "askLeaves" "I") ∈ lw_all := lw_g (lw_at lw_m7 76 rfl) rfl
theorem q1644 : (Jvm.Cond.soleField "SagMemoryModel" "askLeaves") ∈ lw_all := lw_g (lw_at lw_m7 77 rfl) rfl
theorem q1645 : (Jvm.Cond.laysFinal "SagMemoryModel" "SagMemoryModel" "often" "[I") ∈ lw_all := lw_g (lw_at lw_m7 78 rfl) rfl
theorem q1646 : (Jvm.Cond.soleField "SagMemoryModel" "often") ∈ lw_all := lw_g (lw_at lw_m7 79 rfl) rfl
theorem q1647 : (Jvm.Cond.lays "SagMemoryModel" "SagMemoryModel" "lieMany" "I") ∈ lw_all := lw_g (lw_at lw_m7 80 rfl) rfl
theorem q1648 : (Jvm.Cond.soleField "SagMemoryModel" "lieMany") ∈ lw_all := lw_g (lw_at lw_m7 81 rfl) rfl
theorem q1649 : (Jvm.Cond.lays "SagMemoryModel" "SagMemoryModel" "lieLeast" "I") ∈ lw_all := lw_g (lw_at lw_m7 82 rfl) rfl
theorem q1650 : (Jvm.Cond.soleField "SagMemoryModel" "lieLeast") ∈ lw_all := lw_g (lw_at lw_m7 83 rfl) rfl
theorem q1651 : (Jvm.Cond.lays "SagMemoryModel" "SagMemoryModel" "lieMost" "I") ∈ lw_all := lw_g (lw_at lw_m7 84 rfl) rfl
theorem q1652 : (Jvm.Cond.soleField "SagMemoryModel" "lieMost") ∈ lw_all := lw_g (lw_at lw_m7 85 rfl) rfl
theorem q1653 : (Jvm.Cond.laysFinal "SagMemoryModel" "SagMemoryModel" "lossOne" "[I") ∈ lw_all := lw_g (lw_at lw_m7 86 rfl) rfl
theorem q1654 : (Jvm.Cond.soleField "SagMemoryModel" "lossOne") ∈ lw_all := lw_g (lw_at lw_m7 87 rfl) rfl
theorem q1655 : (Jvm.Cond.laysFinal "SagMemoryModel" "SagMemoryModel" "lossOther" "[I") ∈ lw_all := lw_g (lw_at lw_m7 88 rfl) rfl
theorem q1656 : (Jvm.Cond.soleField "SagMemoryModel" "lossOther") ∈ lw_all := lw_g (lw_at lw_m7 89 rfl) rfl
theorem q1657 : (Jvm.Cond.superclass "SagMemoryModel" "java/lang/Object") ∈ lw_all := lw_g (lw_at lw_m7 90 rfl) rfl
theorem q1660 : (Jvm.Cond.instanceMethod ({ cls := "SagMemoryModel", name := "row", desc := "(III)I" } : Jvm.MethodName)) ∈ lw_all := lw_g (lw_at lw_m7 93 rfl) rfl
theorem q1661 : (Jvm.Cond.selects "SagMemoryModel" ({ cls := "SagMemoryModel", name := "row", desc := "(III)I" } : Jvm.MethodName) ({ cls := "SagMemoryModel", name := "row", desc := "(III)I" } : Jvm.MethodName)) ∈ lw_all := lw_g (lw_at lw_m7 94 rfl) rfl
theorem q1662 : (Jvm.Cond.code ({ cls := "SagMemoryModel", name := "row", desc := "(III)I" } : Jvm.MethodName) prog_12_method_5_code (5 : Nat) (Option.some Jvm.ClassFile.FieldType.int)) ∈ lw_all := lw_g (lw_at lw_m7 95 rfl) rfl
theorem q1663 : (Jvm.Cond.methodLink "SagMemoryModel" (125 : Nat) ({ cls := "SagMemoryModel", name := "isSlot", desc := "(I)Z" } : Jvm.MethodName)) ∈ lw_all := lw_g (lw_at lw_m7 96 rfl) rfl
theorem q1664 : (Jvm.Cond.static ({ cls := "SagMemoryModel", name := "isSlot", desc := "(I)Z" } : Jvm.MethodName)) ∈ lw_all := lw_g (lw_at lw_m7 97 rfl) rfl
theorem q1665 : (Jvm.Cond.code ({ cls := "SagMemoryModel", name := "isSlot", desc := "(I)Z" } : Jvm.MethodName) prog_12_method_4_code (1 : Nat) (Option.some Jvm.ClassFile.FieldType.boolean)) ∈ lw_all := lw_g (lw_at lw_m7 98 rfl) rfl
theorem q1666 : (Jvm.Cond.constantLong "SagMemoryModel" (119 : Nat) (3 : Int64)) ∈ lw_all := lw_g (lw_at lw_m7 99 rfl) rfl
theorem q1667 : (Jvm.Cond.methodLink "SagMemoryModel" (121 : Nat) ({ cls := "SagMemoryModel", name := "in", desc := "(JJJ)Z" } : Jvm.MethodName)) ∈ lw_all := lw_g (lw_at lw_m7 100 rfl) rfl
theorem q1668 : (Jvm.Cond.static ({ cls := "SagMemoryModel", name := "in", desc := "(JJJ)Z" } : Jvm.MethodName)) ∈ lw_all := lw_g (lw_at lw_m7 101 rfl) rfl
theorem q1669 : (Jvm.Cond.code ({ cls := "SagMemoryModel", name := "in", desc := "(JJJ)Z" } : Jvm.MethodName) prog_12_method_3_code (6 : Nat) (Option.some Jvm.ClassFile.FieldType.boolean)) ∈ lw_all := lw_g (lw_at lw_m7 102 rfl) rfl
theorem q1671 : (Jvm.Cond.instanceMethod ({ cls := "SagMemoryModel", name := "write", desc := "(IIJ)I" } : Jvm.MethodName)) ∈ lw_all := lw_g (lw_at lw_m7 104 rfl) rfl
theorem q1672 : (Jvm.Cond.selects "SagMemoryModel" ({ cls := "SagMemoryModel", name := "write", desc := "(IIJ)I" } : Jvm.MethodName) ({ cls := "SagMemoryModel", name := "write", desc := "(IIJ)I" } : Jvm.MethodName)) ∈ lw_all := lw_g (lw_at lw_m7 105 rfl) rfl
theorem q1673 : (Jvm.Cond.code ({ cls := "SagMemoryModel", name := "write", desc := "(IIJ)I" } : Jvm.MethodName) prog_12_method_7_code (5 : Nat) (Option.some Jvm.ClassFile.FieldType.int)) ∈ lw_all := lw_g (lw_at lw_m7 106 rfl) rfl
theorem q1674 : (Jvm.Cond.methodLink "SagMemoryModel" (129 : Nat) ({ cls := "SagMemoryModel", name := "cut", desc := "(JI)J" } : Jvm.MethodName)) ∈ lw_all := lw_g (lw_at lw_m7 107 rfl) rfl
theorem q1675 : (Jvm.Cond.static ({ cls := "SagMemoryModel", name := "cut", desc := "(JI)J" } : Jvm.MethodName)) ∈ lw_all := lw_g (lw_at lw_m7 108 rfl) rfl
theorem q1676 : (Jvm.Cond.code ({ cls := "SagMemoryModel", name := "cut", desc := "(JI)J" } : Jvm.MethodName) prog_12_method_6_code (3 : Nat) (Option.some Jvm.ClassFile.FieldType.long)) ∈ lw_all := lw_g (lw_at lw_m7 109 rfl) rfl
theorem q1678 : (Jvm.Cond.instanceMethod ({ cls := "SagMemoryModel", name := "paste", desc := "(IIIII)I" } : Jvm.MethodName)) ∈ lw_all := lw_g (lw_at lw_m7 111 rfl) rfl
theorem q1679 : (Jvm.Cond.selects "SagMemoryModel" ({ cls := "SagMemoryModel", name := "paste", desc := "(IIIII)I" } : Jvm.MethodName) ({ cls := "SagMemoryModel", name := "paste", desc := "(IIIII)I" } : Jvm.MethodName)) ∈ lw_all := lw_g (lw_at lw_m7 112 rfl) rfl
theorem q1680 : (Jvm.Cond.code ({ cls := "SagMemoryModel", name := "paste", desc := "(IIIII)I" } : Jvm.MethodName) prog_12_method_8_code (7 : Nat) (Option.some Jvm.ClassFile.FieldType.int)) ∈ lw_all := lw_g (lw_at lw_m7 113 rfl) rfl
theorem q1682 : (Jvm.Cond.instanceMethod ({ cls := "SagMemoryModel", name := "feed", desc := "(IIIII)I" } : Jvm.MethodName)) ∈ lw_all := lw_g (lw_at lw_m7 115 rfl) rfl
theorem q1683 : (Jvm.Cond.selects "SagMemoryModel" ({ cls := "SagMemoryModel", name := "feed", desc := "(IIIII)I" } : Jvm.MethodName) ({ cls := "SagMemoryModel", name := "feed", desc := "(IIIII)I" } : Jvm.MethodName)) ∈ lw_all := lw_g (lw_at lw_m7 116 rfl) rfl
theorem q1684 : (Jvm.Cond.code ({ cls := "SagMemoryModel", name := "feed", desc := "(IIIII)I" } : Jvm.MethodName) prog_12_method_9_code (6 : Nat) (Option.some Jvm.ClassFile.FieldType.int)) ∈ lw_all := lw_g (lw_at lw_m7 117 rfl) rfl
theorem q1685 : (Jvm.Cond.methodLink "SagMemoryModel" (136 : Nat) ({ cls := "SagMemoryModel", name := "four", desc := "(I)V" } : Jvm.MethodName)) ∈ lw_all := lw_g (lw_at lw_m7 118 rfl) rfl
theorem q1686 : (Jvm.Cond.privateMethod ({ cls := "SagMemoryModel", name := "four", desc := "(I)V" } : Jvm.MethodName)) ∈ lw_tbl := lw_at lw_m7 119 rfl
theorem q1687 : (Jvm.Cond.instanceMethod ({ cls := "SagMemoryModel", name := "four", desc := "(I)V" } : Jvm.MethodName)) ∈ lw_all := lw_g (lw_at lw_m7 120 rfl) rfl
theorem q1688 : (Jvm.Cond.code ({ cls := "SagMemoryModel", name := "four", desc := "(I)V" } : Jvm.MethodName) prog_12_method_10_code (3 : Nat) (Option.none : Option Jvm.ClassFile.FieldType)) ∈ lw_all := lw_g (lw_at lw_m7 121 rfl) rfl
theorem q1690 : (Jvm.Cond.instanceMethod ({ cls := "SagMemoryModel", name := "end", desc := "(I)I" } : Jvm.MethodName)) ∈ lw_all := lw_g (lw_at lw_m7 123 rfl) rfl
theorem q1691 : (Jvm.Cond.selects "SagMemoryModel" ({ cls := "SagMemoryModel", name := "end", desc := "(I)I" } : Jvm.MethodName) ({ cls := "SagMemoryModel", name := "end", desc := "(I)I" } : Jvm.MethodName)) ∈ lw_all := lw_g (lw_at lw_m7 124 rfl) rfl
theorem q1692 : (Jvm.Cond.code ({ cls := "SagMemoryModel", name := "end", desc := "(I)I" } : Jvm.MethodName) prog_12_method_11_code (2 : Nat) (Option.some Jvm.ClassFile.FieldType.int)) ∈ lw_all := lw_g (lw_at lw_m7 125 rfl) rfl
theorem q1694 : (Jvm.Cond.instanceMethod ({ cls := "SagMemoryModel", name := "fault", desc := "(I)I" } : Jvm.MethodName)) ∈ lw_all := lw_g (lw_at lw_m7 127 rfl) rfl
theorem q1695 : (Jvm.Cond.selects "SagMemoryModel" ({ cls := "SagMemoryModel", name := "fault", desc := "(I)I" } : Jvm.MethodName) ({ cls := "SagMemoryModel", name := "fault", desc := "(I)I" } : Jvm.MethodName)) ∈ lw_all := lw_g (lw_at lw_m7 128 rfl) rfl
theorem q1696 : (Jvm.Cond.code ({ cls := "SagMemoryModel", name := "fault", desc := "(I)I" } : Jvm.MethodName) prog_12_method_24_code (2 : Nat) (Option.some Jvm.ClassFile.FieldType.int)) ∈ lw_all := lw_g (lw_at lw_m7 129 rfl) rfl
theorem q1698 : (Jvm.Cond.instanceMethod ({ cls := "SagMemoryModel", name := "valley", desc := "()I" } : Jvm.MethodName)) ∈ lw_all := lw_g (lw_at lw_m7 131 rfl) rfl
theorem q1699 : (Jvm.Cond.selects "SagMemoryModel" ({ cls := "SagMemoryModel", name := "valley", desc := "()I" } : Jvm.MethodName) ({ cls := "SagMemoryModel", name := "valley", desc := "()I" } : Jvm.MethodName)) ∈ lw_all := lw_g (lw_at lw_m7 132 rfl) rfl
theorem q1700 : (Jvm.Cond.code ({ cls := "SagMemoryModel", name := "valley", desc := "()I" } : Jvm.MethodName) prog_12_method_35_code (1 : Nat) (Option.some Jvm.ClassFile.FieldType.int)) ∈ lw_all := lw_g (lw_at lw_m7 133 rfl) rfl
theorem q1701 : (Jvm.Cond.methodLink "SagMemoryModel" (251 : Nat) ({ cls := "SagMemoryModel", name := "clears", desc := "()V" } : Jvm.MethodName)) ∈ lw_all := lw_g (lw_at lw_m7 134 rfl) rfl
theorem q1702 : (Jvm.Cond.privateMethod ({ cls := "SagMemoryModel", name := "clears", desc := "()V" } : Jvm.MethodName)) ∈ lw_tbl := lw_at lw_m7 135 rfl
theorem q1703 : (Jvm.Cond.instanceMethod ({ cls := "SagMemoryModel", name := "clears", desc := "()V" } : Jvm.MethodName)) ∈ lw_all := lw_g (lw_at lw_m7 136 rfl) rfl
theorem q1704 : (Jvm.Cond.code ({ cls := "SagMemoryModel", name := "clears", desc := "()V" } : Jvm.MethodName) prog_12_method_34_code (2 : Nat) (Option.none : Option Jvm.ClassFile.FieldType)) ∈ lw_all := lw_g (lw_at lw_m7 137 rfl) rfl
theorem q1705 : (Jvm.Cond.methodLink "SagMemoryModel" (209 : Nat) ({ cls := "SagMemoryModel", name := "tells", desc := "(II)V" } : Jvm.MethodName)) ∈ lw_all := lw_g (lw_at lw_m7 138 rfl) rfl
theorem q1706 : (Jvm.Cond.privateMethod ({ cls := "SagMemoryModel", name := "tells", desc := "(II)V" } : Jvm.MethodName)) ∈ lw_tbl := lw_at lw_m7 139 rfl
theorem q1707 : (Jvm.Cond.instanceMethod ({ cls := "SagMemoryModel", name := "tells", desc := "(II)V" } : Jvm.MethodName)) ∈ lw_all := lw_g (lw_at lw_m7 140 rfl) rfl
theorem q1708 : (Jvm.Cond.code ({ cls := "SagMemoryModel", name := "tells", desc := "(II)V" } : Jvm.MethodName) prog_12_method_26_code (3 : Nat) (Option.none : Option Jvm.ClassFile.FieldType)) ∈ lw_all := lw_g (lw_at lw_m7 141 rfl) rfl
theorem q1709 : (Jvm.Cond.methodLink "SagMemoryModel" (254 : Nat) ({ cls := "SagMemoryModel", name := "begins", desc := "()V" } : Jvm.MethodName)) ∈ lw_all := lw_g (lw_at lw_m7 142 rfl) rfl
theorem q1710 : (Jvm.Cond.privateMethod ({ cls := "SagMemoryModel", name := "begins", desc := "()V" } : Jvm.MethodName)) ∈ lw_tbl := lw_at lw_m7 143 rfl
theorem q1711 : (Jvm.Cond.instanceMethod ({ cls := "SagMemoryModel", name := "begins", desc := "()V" } : Jvm.MethodName)) ∈ lw_all := lw_g (lw_at lw_m7 144 rfl) rfl
theorem q1712 : (Jvm.Cond.code ({ cls := "SagMemoryModel", name := "begins", desc := "()V" } : Jvm.MethodName) prog_12_method_22_code (1 : Nat) (Option.none : Option Jvm.ClassFile.FieldType)) ∈ lw_all := lw_g (lw_at lw_m7 145 rfl) rfl
theorem q1713 : (Jvm.Cond.methodLink "SagMemoryModel" (178 : Nat) ({ cls := "SagMemoryModel", name := "next", desc := "()V" } : Jvm.MethodName)) ∈ lw_all := lw_g (lw_at lw_m7 146 rfl) rfl
theorem q1714 : (Jvm.Cond.privateMethod ({ cls := "SagMemoryModel", name := "next", desc := "()V" } : Jvm.MethodName)) ∈ lw_tbl := lw_at lw_m7 147 rfl
theorem q1715 : (Jvm.Cond.instanceMethod ({ cls := "SagMemoryModel", name := "next", desc := "()V" } : Jvm.MethodName)) ∈ lw_all := lw_g (lw_at lw_m7 148 rfl) rfl
theorem q1716 : (Jvm.Cond.code ({ cls := "SagMemoryModel", name := "next", desc := "()V" } : Jvm.MethodName) prog_12_method_13_code (2 : Nat) (Option.none : Option Jvm.ClassFile.FieldType)) ∈ lw_all := lw_g (lw_at lw_m7 149 rfl) rfl
theorem q1717 : (Jvm.Cond.methodLink "SagMemoryModel" (143 : Nat) ({ cls := "SagMemoryModel", name := "isByte", desc := "(III)Z" } : Jvm.MethodName)) ∈ lw_all := lw_g (lw_at lw_m7 150 rfl) rfl
theorem q1718 : (Jvm.Cond.privateMethod ({ cls := "SagMemoryModel", name := "isByte", desc := "(III)Z" } : Jvm.MethodName)) ∈ lw_tbl := lw_at lw_m7 151 rfl
theorem q1719 : (Jvm.Cond.instanceMethod ({ cls := "SagMemoryModel", name := "isByte", desc := "(III)Z" } : Jvm.MethodName)) ∈ lw_all := lw_g (lw_at lw_m7 152 rfl) rfl
theorem q1720 : (Jvm.Cond.code ({ cls := "SagMemoryModel", name := "isByte", desc := "(III)Z" } : Jvm.MethodName) prog_12_method_12_code (4 : Nat) (Option.some Jvm.ClassFile.FieldType.boolean)) ∈ lw_all := lw_g (lw_at lw_m7 153 rfl) rfl
theorem q1721 : (Jvm.Cond.constantLong "SagMemoryModel" (160 : Nat) (-1 : Int64)) ∈ lw_all := lw_g (lw_at lw_m7 154 rfl) rfl
theorem q1722 : (Jvm.Cond.constantLong "SagMemoryModel" (162 : Nat) (27 : Int64)) ∈ lw_all := lw_g (lw_at lw_m7 155 rfl) rfl
theorem q1723 : (Jvm.Cond.constantLong "SagMemoryModel" (164 : Nat) (96 : Int64)) ∈ lw_all := lw_g (lw_at lw_m7 156 rfl) rfl
theorem q1724 : (Jvm.Cond.constant "SagMemoryModel" (166 : Nat) (100000 : Int32)) ∈ lw_all := lw_g (lw_at lw_m7 157 rfl) rfl
theorem q1725 : (Jvm.Cond.constant "SagMemoryModel" (167 : Nat) (1000000 : Int32)) ∈ lw_all := lw_g (lw_at lw_m7 158 rfl) rfl
theorem q1726 : (Jvm.Cond.methodLink "SagMemoryModel" (257 : Nat) ({ cls := "SagMemoryModel", name := "isGood", desc := "()Z" } : Jvm.MethodName)) ∈ lw_all := lw_g (lw_at lw_m7 159 rfl) rfl
theorem q1727 : (Jvm.Cond.privateMethod ({ cls := "SagMemoryModel", name := "isGood", desc := "()Z" } : Jvm.MethodName)) ∈ lw_tbl := lw_at lw_m7 160 rfl
theorem q1728 : (Jvm.Cond.instanceMethod ({ cls := "SagMemoryModel", name := "isGood", desc := "()Z" } : Jvm.MethodName)) ∈ lw_all := lw_g (lw_at lw_m7 161 rfl) rfl
theorem q1729 : (Jvm.Cond.code ({ cls := "SagMemoryModel", name := "isGood", desc := "()Z" } : Jvm.MethodName) prog_12_method_14_code (1 : Nat) (Option.some Jvm.ClassFile.FieldType.boolean)) ∈ lw_all := lw_g (lw_at lw_m7 162 rfl) rfl
theorem q1730 : (Jvm.Cond.constantLong "SagMemoryModel" (261 : Nat) (316452499 : Int64)) ∈ lw_all := lw_g (lw_at lw_m7 163 rfl) rfl
theorem q1731 : (Jvm.Cond.methodLink "SagMemoryModel" (187 : Nat) ({ cls := "SagMemoryModel", name := "asks", desc := "(J)V" } : Jvm.MethodName)) ∈ lw_all := lw_g (lw_at lw_m7 164 rfl) rfl
theorem q1732 : (Jvm.Cond.privateMethod ({ cls := "SagMemoryModel", name := "asks", desc := "(J)V" } : Jvm.MethodName)) ∈ lw_tbl := lw_at lw_m7 165 rfl
theorem q1733 : (Jvm.Cond.instanceMethod ({ cls := "SagMemoryModel", name := "asks", desc := "(J)V" } : Jvm.MethodName)) ∈ lw_all := lw_g (lw_at lw_m7 166 rfl) rfl
theorem q1734 : (Jvm.Cond.code ({ cls := "SagMemoryModel", name := "asks", desc := "(J)V" } : Jvm.MethodName) prog_12_method_18_code (3 : Nat) (Option.none : Option Jvm.ClassFile.FieldType)) ∈ lw_all := lw_g (lw_at lw_m7 167 rfl) rfl
theorem q1735 : (Jvm.Cond.methodLink "SagMemoryModel" (181 : Nat) ({ cls := "SagMemoryModel", name := "takes", desc := "(J)Z" } : Jvm.MethodName)) ∈ lw_all := lw_g (lw_at lw_m7 168 rfl) rfl
theorem q1736 : (Jvm.Cond.privateMethod ({ cls := "SagMemoryModel", name := "takes", desc := "(J)Z" } : Jvm.MethodName)) ∈ lw_tbl := lw_at lw_m7 169 rfl
theorem q1737 : (Jvm.Cond.instanceMethod ({ cls := "SagMemoryModel", name := "takes", desc := "(J)Z" } : Jvm.MethodName)) ∈ lw_all := lw_g (lw_at lw_m7 170 rfl) rfl
theorem q1738 : (Jvm.Cond.code ({ cls := "SagMemoryModel", name := "takes", desc := "(J)Z" } : Jvm.MethodName) prog_12_method_17_code (3 : Nat) (Option.some Jvm.ClassFile.FieldType.boolean)) ∈ lw_all := lw_g (lw_at lw_m7 171 rfl) rfl
theorem q1739 : (Jvm.Cond.methodLink "SagMemoryModel" (174 : Nat) ({ cls := "SagMemoryModel", name := "is", desc := "(J)Z" } : Jvm.MethodName)) ∈ lw_all := lw_g (lw_at lw_m7 172 rfl) rfl
theorem q1740 : (Jvm.Cond.privateMethod ({ cls := "SagMemoryModel", name := "is", desc := "(J)Z" } : Jvm.MethodName)) ∈ lw_tbl := lw_at lw_m7 173 rfl
theorem q1741 : (Jvm.Cond.instanceMethod ({ cls := "SagMemoryModel", name := "is", desc := "(J)Z" } : Jvm.MethodName)) ∈ lw_all := lw_g (lw_at lw_m7 174 rfl) rfl
theorem q1742 : (Jvm.Cond.code ({ cls := "SagMemoryModel", name := "is", desc := "(J)Z" } : Jvm.MethodName) prog_12_method_16_code (3 : Nat) (Option.some Jvm.ClassFile.FieldType.boolean)) ∈ lw_all := lw_g (lw_at lw_m7 175 rfl) rfl
theorem q1743 : (Jvm.Cond.methodLink "SagMemoryModel" (184 : Nat) ({ cls := "SagMemoryModel", name := "fails", desc := "(I)V" } : Jvm.MethodName)) ∈ lw_all := lw_g (lw_at lw_m7 176 rfl) rfl
theorem q1744 : (Jvm.Cond.privateMethod ({ cls := "SagMemoryModel", name := "fails", desc := "(I)V" } : Jvm.MethodName)) ∈ lw_tbl := lw_at lw_m7 177 rfl
theorem q1745 : (Jvm.Cond.instanceMethod ({ cls := "SagMemoryModel", name := "fails", desc := "(I)V" } : Jvm.MethodName)) ∈ lw_all := lw_g (lw_at lw_m7 178 rfl) rfl
theorem q1746 : (Jvm.Cond.code ({ cls := "SagMemoryModel", name := "fails", desc := "(I)V" } : Jvm.MethodName) prog_12_method_15_code (2 : Nat) (Option.none : Option Jvm.ClassFile.FieldType)) ∈ lw_all := lw_g (lw_at lw_m7 179 rfl) rfl
theorem q1747 : (Jvm.Cond.constantLong "SagMemoryModel" (263 : Nat) (8798 : Int64)) ∈ lw_all := lw_g (lw_at lw_m7 180 rfl) rfl
theorem q1748 : (Jvm.Cond.methodLink "SagMemoryModel" (204 : Nat) ({ cls := "SagMemoryModel", name := "number", desc := "(JII)I" } : Jvm.MethodName)) ∈ lw_all := lw_g (lw_at lw_m7 181 rfl) rfl
theorem q1749 : (Jvm.Cond.privateMethod ({ cls := "SagMemoryModel", name := "number", desc := "(JII)I" } : Jvm.MethodName)) ∈ lw_tbl := lw_at lw_m7 182 rfl
theorem q1750 : (Jvm.Cond.instanceMethod ({ cls := "SagMemoryModel", name := "number", desc := "(JII)I" } : Jvm.MethodName)) ∈ lw_all := lw_g (lw_at lw_m7 183 rfl) rfl
theorem q1751 : (Jvm.Cond.code ({ cls := "SagMemoryModel", name := "number", desc := "(JII)I" } : Jvm.MethodName) prog_12_method_20_code (5 : Nat) (Option.some Jvm.ClassFile.FieldType.int)) ∈ lw_all := lw_g (lw_at lw_m7 184 rfl) rfl
theorem q1752 : (Jvm.Cond.methodLink "SagMemoryModel" (191 : Nat) ({ cls := "SagMemoryModel", name := "number", desc := "(II)I" } : Jvm.MethodName)) ∈ lw_all := lw_g (lw_at lw_m7 185 rfl) rfl
theorem q1753 : (Jvm.Cond.privateMethod ({ cls := "SagMemoryModel", name := "number", desc := "(II)I" } : Jvm.MethodName)) ∈ lw_tbl := lw_at lw_m7 186 rfl
theorem q1754 : (Jvm.Cond.instanceMethod ({ cls := "SagMemoryModel", name := "number", desc := "(II)I" } : Jvm.MethodName)) ∈ lw_all := lw_g (lw_at lw_m7 187 rfl) rfl
theorem q1755 : (Jvm.Cond.code ({ cls := "SagMemoryModel", name := "number", desc := "(II)I" } : Jvm.MethodName) prog_12_method_19_code (4 : Nat) (Option.some Jvm.ClassFile.FieldType.int)) ∈ lw_all := lw_g (lw_at lw_m7 188 rfl) rfl
theorem q1756 : (Jvm.Cond.constantLong "SagMemoryModel" (246 : Nat) (3554408 : Int64)) ∈ lw_all := lw_g (lw_at lw_m7 189 rfl) rfl
theorem q1757 : (Jvm.Cond.constantLong "SagMemoryModel" (265 : Nat) (298288 : Int64)) ∈ lw_all := lw_g (lw_at lw_m7 190 rfl) rfl
theorem q1758 : (Jvm.Cond.methodLink "SagMemoryModel" (267 : Nat) ({ cls := "SagMemoryModel", name := "lineHere", desc := "()V" } : Jvm.MethodName)) ∈ lw_all := lw_g (lw_at lw_m7 191 rfl) rfl
theorem q1759 : (Jvm.Cond.privateMethod ({ cls := "SagMemoryModel", name := "lineHere", desc := "()V" } : Jvm.MethodName)) ∈ lw_tbl := lw_at lw_m7 192 rfl
theorem q1760 : (Jvm.Cond.instanceMethod ({ cls := "SagMemoryModel", name := "lineHere", desc := "()V" } : Jvm.MethodName)) ∈ lw_all := lw_g (lw_at lw_m7 193 rfl) rfl
theorem q1761 : (Jvm.Cond.code ({ cls := "SagMemoryModel", name := "lineHere", desc := "()V" } : Jvm.MethodName) prog_12_method_33_code (1 : Nat) (Option.none : Option Jvm.ClassFile.FieldType)) ∈ lw_all := lw_g (lw_at lw_m7 194 rfl) rfl
theorem q1762 : (Jvm.Cond.constantLong "SagMemoryModel" (227 : Nat) (38444009 : Int64)) ∈ lw_all := lw_g (lw_at lw_m7 195 rfl) rfl
theorem q1763 : (Jvm.Cond.methodLink "SagMemoryModel" (229 : Nat) ({ cls := "SagMemoryModel", name := "isRoom", desc := "(ZII)Z" } : Jvm.MethodName)) ∈ lw_all := lw_g (lw_at lw_m7 196 rfl) rfl
theorem q1764 : (Jvm.Cond.privateMethod ({ cls := "SagMemoryModel", name := "isRoom", desc := "(ZII)Z" } : Jvm.MethodName)) ∈ lw_tbl := lw_at lw_m7 197 rfl
theorem q1765 : (Jvm.Cond.instanceMethod ({ cls := "SagMemoryModel", name := "isRoom", desc := "(ZII)Z" } : Jvm.MethodName)) ∈ lw_all := lw_g (lw_at lw_m7 198 rfl) rfl
theorem q1766 : (Jvm.Cond.code ({ cls := "SagMemoryModel", name := "isRoom", desc := "(ZII)Z" } : Jvm.MethodName) prog_12_method_32_code (4 : Nat) (Option.some Jvm.ClassFile.FieldType.boolean)) ∈ lw_all := lw_g (lw_at lw_m7 199 rfl) rfl
theorem q1767 : (Jvm.Cond.methodLink "SagMemoryModel" (198 : Nat) ({ cls := "SagMemoryModel", name := "hasRead", desc := "(I)I" } : Jvm.MethodName)) ∈ lw_all := lw_g (lw_at lw_m7 200 rfl) rfl
theorem q1768 : (Jvm.Cond.privateMethod ({ cls := "SagMemoryModel", name := "hasRead", desc := "(I)I" } : Jvm.MethodName)) ∈ lw_tbl := lw_at lw_m7 201 rfl
theorem q1769 : (Jvm.Cond.instanceMethod ({ cls := "SagMemoryModel", name := "hasRead", desc := "(I)I" } : Jvm.MethodName)) ∈ lw_all := lw_g (lw_at lw_m7 202 rfl) rfl
theorem q1770 : (Jvm.Cond.code ({ cls := "SagMemoryModel", name := "hasRead", desc := "(I)I" } : Jvm.MethodName) prog_12_method_25_code (2 : Nat) (Option.some Jvm.ClassFile.FieldType.int)) ∈ lw_all := lw_g (lw_at lw_m7 203 rfl) rfl
theorem q1771 : (Jvm.Cond.methodLink "SagMemoryModel" (233 : Nat) ({ cls := "SagMemoryModel", name := "bridgeLine", desc := "()V" } : Jvm.MethodName)) ∈ lw_all := lw_g (lw_at lw_m7 204 rfl) rfl
theorem q1772 : (Jvm.Cond.privateMethod ({ cls := "SagMemoryModel", name := "bridgeLine", desc := "()V" } : Jvm.MethodName)) ∈ lw_tbl := lw_at lw_m7 205 rfl
theorem q1773 : (Jvm.Cond.instanceMethod ({ cls := "SagMemoryModel", name := "bridgeLine", desc := "()V" } : Jvm.MethodName)) ∈ lw_all := lw_g (lw_at lw_m7 206 rfl) rfl
theorem q1774 : (Jvm.Cond.code ({ cls := "SagMemoryModel", name := "bridgeLine", desc := "()V" } : Jvm.MethodName) prog_12_method_28_code (2 : Nat) (Option.none : Option Jvm.ClassFile.FieldType)) ∈ lw_all := lw_g (lw_at lw_m7 207 rfl) rfl
theorem q1775 : (Jvm.Cond.constantLong "SagMemoryModel" (202 : Nat) (4555648 : Int64)) ∈ lw_all := lw_g (lw_at lw_m7 208 rfl) rfl
theorem q1776 : (Jvm.Cond.constantLong "SagMemoryModel" (207 : Nat) (404931 : Int64)) ∈ lw_all := lw_g (lw_at lw_m7 209 rfl) rfl
theorem q1777 : (Jvm.Cond.constantLong "SagMemoryModel" (236 : Nat) (60284 : Int64)) ∈ lw_all := lw_g (lw_at lw_m7 210 rfl) rfl
theorem q1778 : (Jvm.Cond.methodLink "SagMemoryModel" (238 : Nat) ({ cls := "SagMemoryModel", name := "cartLine", desc := "()V" } : Jvm.MethodName)) ∈ lw_all := lw_g (lw_at lw_m7 211 rfl) rfl
theorem q1779 : (Jvm.Cond.privateMethod ({ cls := "SagMemoryModel", name := "cartLine", desc := "()V" } : Jvm.MethodName)) ∈ lw_tbl := lw_at lw_m7 212 rfl
theorem q1780 : (Jvm.Cond.instanceMethod ({ cls := "SagMemoryModel", name := "cartLine", desc := "()V" } : Jvm.MethodName)) ∈ lw_all := lw_g (lw_at lw_m7 213 rfl) rfl
theorem q1781 : (Jvm.Cond.code ({ cls := "SagMemoryModel", name := "cartLine", desc := "()V" } : Jvm.MethodName) prog_12_method_29_code (2 : Nat) (Option.none : Option Jvm.ClassFile.FieldType)) ∈ lw_all := lw_g (lw_at lw_m7 214 rfl) rfl
theorem q1782 : (Jvm.Cond.constantLong "SagMemoryModel" (213 : Nat) (79 : Int64)) ∈ lw_all := lw_g (lw_at lw_m7 215 rfl) rfl
theorem q1783 : (Jvm.Cond.methodLink "SagMemoryModel" (215 : Nat) ({ cls := "SagMemoryModel", name := "bridgeHere", desc := "()I" } : Jvm.MethodName)) ∈ lw_all := lw_g (lw_at lw_m7 216 rfl) rfl
theorem q1784 : (Jvm.Cond.privateMethod ({ cls := "SagMemoryModel", name := "bridgeHere", desc := "()I" } : Jvm.MethodName)) ∈ lw_tbl := lw_at lw_m7 217 rfl
theorem q1785 : (Jvm.Cond.instanceMethod ({ cls := "SagMemoryModel", name := "bridgeHere", desc := "()I" } : Jvm.MethodName)) ∈ lw_all := lw_g (lw_at lw_m7 218 rfl) rfl
theorem q1786 : (Jvm.Cond.code ({ cls := "SagMemoryModel", name := "bridgeHere", desc := "()I" } : Jvm.MethodName) prog_12_method_27_code (1 : Nat) (Option.some Jvm.ClassFile.FieldType.int)) ∈ lw_all := lw_g (lw_at lw_m7 219 rfl) rfl
theorem q1787 : (Jvm.Cond.constantLong "SagMemoryModel" (241 : Nat) (453928 : Int64)) ∈ lw_all := lw_g (lw_at lw_m7 220 rfl) rfl
theorem q1788 : (Jvm.Cond.methodLink "SagMemoryModel" (243 : Nat) ({ cls := "SagMemoryModel", name := "wardLine", desc := "()V" } : Jvm.MethodName)) ∈ lw_all := lw_g (lw_at lw_m7 221 rfl) rfl
theorem q1789 : (Jvm.Cond.privateMethod ({ cls := "SagMemoryModel", name := "wardLine", desc := "()V" } : Jvm.MethodName)) ∈ lw_tbl := lw_at lw_m7 222 rfl
theorem q1790 : (Jvm.Cond.instanceMethod ({ cls := "SagMemoryModel", name := "wardLine", desc := "()V" } : Jvm.MethodName)) ∈ lw_all := lw_g (lw_at lw_m7 223 rfl) rfl
theorem q1791 : (Jvm.Cond.code ({ cls := "SagMemoryModel", name := "wardLine", desc := "()V" } : Jvm.MethodName) prog_12_method_30_code (2 : Nat) (Option.none : Option Jvm.ClassFile.FieldType)) ∈ lw_all := lw_g (lw_at lw_m7 224 rfl) rfl
theorem q1792 : (Jvm.Cond.constantLong "SagMemoryModel" (219 : Nat) (311436 : Int64)) ∈ lw_all := lw_g (lw_at lw_m7 225 rfl) rfl
theorem q1793 : (Jvm.Cond.constantLong "SagMemoryModel" (221 : Nat) (555 : Int64)) ∈ lw_all := lw_g (lw_at lw_m7 226 rfl) rfl
theorem q1794 : (Jvm.Cond.constantLong "SagMemoryModel" (223 : Nat) (158537 : Int64)) ∈ lw_all := lw_g (lw_at lw_m7 227 rfl) rfl
theorem q1795 : (Jvm.Cond.methodLink "SagMemoryModel" (248 : Nat) ({ cls := "SagMemoryModel", name := "frostLine", desc := "()V" } : Jvm.MethodName)) ∈ lw_all := lw_g (lw_at lw_m7 228 rfl) rfl
theorem q1796 : (Jvm.Cond.privateMethod ({ cls := "SagMemoryModel", name := "frostLine", desc := "()V" } : Jvm.MethodName)) ∈ lw_tbl := lw_at lw_m7 229 rfl
theorem q1797 : (Jvm.Cond.instanceMethod ({ cls := "SagMemoryModel", name := "frostLine", desc := "()V" } : Jvm.MethodName)) ∈ lw_all := lw_g (lw_at lw_m7 230 rfl) rfl
theorem q1798 : (Jvm.Cond.code ({ cls := "SagMemoryModel", name := "frostLine", desc := "()V" } : Jvm.MethodName) prog_12_method_31_code (1 : Nat) (Option.none : Option Jvm.ClassFile.FieldType)) ∈ lw_all := lw_g (lw_at lw_m7 231 rfl) rfl
theorem q1799 : (Jvm.Cond.constantLong "SagMemoryModel" (225 : Nat) (47 : Int64)) ∈ lw_all := lw_g (lw_at lw_m7 232 rfl) rfl
theorem q1800 : (Jvm.Cond.methodLink "SagMemoryModel" (270 : Nat) ({ cls := "SagMemoryModel", name := "ends", desc := "()V" } : Jvm.MethodName)) ∈ lw_all := lw_g (lw_at lw_m7 233 rfl) rfl
theorem q1801 : (Jvm.Cond.privateMethod ({ cls := "SagMemoryModel", name := "ends", desc := "()V" } : Jvm.MethodName)) ∈ lw_tbl := lw_at lw_m7 234 rfl
theorem q1802 : (Jvm.Cond.instanceMethod ({ cls := "SagMemoryModel", name := "ends", desc := "()V" } : Jvm.MethodName)) ∈ lw_all := lw_g (lw_at lw_m7 235 rfl) rfl
theorem q1803 : (Jvm.Cond.code ({ cls := "SagMemoryModel", name := "ends", desc := "()V" } : Jvm.MethodName) prog_12_method_21_code (1 : Nat) (Option.none : Option Jvm.ClassFile.FieldType)) ∈ lw_all := lw_g (lw_at lw_m7 236 rfl) rfl
theorem q1804 : (Jvm.Cond.methodLink "SagMemoryModel" (273 : Nat) ({ cls := "SagMemoryModel", name := "isOver", desc := "()V" } : Jvm.MethodName)) ∈ lw_all := lw_g (lw_at lw_m7 237 rfl) rfl
theorem q1805 : (Jvm.Cond.privateMethod ({ cls := "SagMemoryModel", name := "isOver", desc := "()V" } : Jvm.MethodName)) ∈ lw_tbl := lw_at lw_m7 238 rfl
theorem q1806 : (Jvm.Cond.instanceMethod ({ cls := "SagMemoryModel", name := "isOver", desc := "()V" } : Jvm.MethodName)) ∈ lw_all := lw_g (lw_at lw_m7 239 rfl) rfl
theorem q1807 : (Jvm.Cond.code ({ cls := "SagMemoryModel", name := "isOver", desc := "()V" } : Jvm.MethodName) prog_12_method_23_code (1 : Nat) (Option.none : Option Jvm.ClassFile.FieldType)) ∈ lw_all := lw_g (lw_at lw_m8 0 rfl) rfl
theorem q1808 : (Jvm.Cond.methodLink "SagMemoryModel" (276 : Nat) ({ cls := "SagMemoryModel", name := "copyValley", desc := "(II)V" } : Jvm.MethodName)) ∈ lw_all := lw_g (lw_at lw_m8 1 rfl) rfl
theorem q1809 : (Jvm.Cond.privateMethod ({ cls := "SagMemoryModel", name := "copyValley", desc := "(II)V" } : Jvm.MethodName)) ∈ lw_tbl := lw_at lw_m8 2 rfl
theorem q1810 : (Jvm.Cond.instanceMethod ({ cls := "SagMemoryModel", name := "copyValley", desc := "(II)V" } : Jvm.MethodName)) ∈ lw_all := lw_g (lw_at lw_m8 3 rfl) rfl
theorem q1811 : (Jvm.Cond.code ({ cls := "SagMemoryModel", name := "copyValley", desc := "(II)V" } : Jvm.MethodName) prog_12_method_37_code (3 : Nat) (Option.none : Option Jvm.ClassFile.FieldType)) ∈ lw_all := lw_g (lw_at lw_m8 4 rfl) rfl
theorem q1812 : (Jvm.Cond.methodLink "SagMemoryModel" (279 : Nat) ({ cls := "SagMemoryModel", name := "copyRow", desc := "([IIII)V" } : Jvm.MethodName)) ∈ lw_all := lw_g (lw_at lw_m8 5 rfl) rfl
theorem q1813 : (Jvm.Cond.static ({ cls := "SagMemoryModel", name := "copyRow", desc := "([IIII)V" } : Jvm.MethodName)) ∈ lw_all := lw_g (lw_at lw_m8 6 rfl) rfl
theorem q1814 : (Jvm.Cond.code ({ cls := "SagMemoryModel", name := "copyRow", desc := "([IIII)V" } : Jvm.MethodName) prog_12_method_36_code (5 : Nat) (Option.none : Option Jvm.ClassFile.FieldType)) ∈ lw_all := lw_g (lw_at lw_m8 7 rfl) rfl
theorem q1816 : (Jvm.Cond.instanceMethod ({ cls := "SagMemoryModel", name := "bridge", desc := "(II)I" } : Jvm.MethodName)) ∈ lw_all := lw_g (lw_at lw_m8 9 rfl) rfl
theorem q1817 : (Jvm.Cond.selects "SagMemoryModel" ({ cls := "SagMemoryModel", name := "bridge", desc := "(II)I" } : Jvm.MethodName) ({ cls := "SagMemoryModel", name := "bridge", desc := "(II)I" } : Jvm.MethodName)) ∈ lw_all := lw_g (lw_at lw_m8 10 rfl) rfl
theorem q1818 : (Jvm.Cond.code ({ cls := "SagMemoryModel", name := "bridge", desc := "(II)I" } : Jvm.MethodName) prog_12_method_62_code (3 : Nat) (Option.some Jvm.ClassFile.FieldType.int)) ∈ lw_all := lw_g (lw_at lw_m8 11 rfl) rfl
theorem q1819 : (Jvm.Cond.methodLink "SagMemoryModel" (292 : Nat) ({ cls := "SagMemoryModel", name := "isBridge", desc := "(J)Z" } : Jvm.MethodName)) ∈ lw_all := lw_g (lw_at lw_m8 12 rfl) rfl
theorem q1820 : (Jvm.Cond.privateMethod ({ cls := "SagMemoryModel", name := "isBridge", desc := "(J)Z" } : Jvm.MethodName)) ∈ lw_tbl := lw_at lw_m8 13 rfl
theorem q1821 : (Jvm.Cond.instanceMethod ({ cls := "SagMemoryModel", name := "isBridge", desc := "(J)Z" } : Jvm.MethodName)) ∈ lw_all := lw_g (lw_at lw_m8 14 rfl) rfl
theorem q1822 : (Jvm.Cond.code ({ cls := "SagMemoryModel", name := "isBridge", desc := "(J)Z" } : Jvm.MethodName) prog_12_method_41_code (3 : Nat) (Option.some Jvm.ClassFile.FieldType.boolean)) ∈ lw_all := lw_g (lw_at lw_m8 15 rfl) rfl
theorem q1823 : (Jvm.Cond.methodLink "SagMemoryModel" (283 : Nat) ({ cls := "SagMemoryModel", name := "bridges", desc := "()I" } : Jvm.MethodName)) ∈ lw_all := lw_g (lw_at lw_m8 16 rfl) rfl
theorem q1824 : (Jvm.Cond.privateMethod ({ cls := "SagMemoryModel", name := "bridges", desc := "()I" } : Jvm.MethodName)) ∈ lw_tbl := lw_at lw_m8 17 rfl
theorem q1825 : (Jvm.Cond.instanceMethod ({ cls := "SagMemoryModel", name := "bridges", desc := "()I" } : Jvm.MethodName)) ∈ lw_all := lw_g (lw_at lw_m8 18 rfl) rfl
theorem q1826 : (Jvm.Cond.code ({ cls := "SagMemoryModel", name := "bridges", desc := "()I" } : Jvm.MethodName) prog_12_method_39_code (1 : Nat) (Option.some Jvm.ClassFile.FieldType.int)) ∈ lw_all := lw_g (lw_at lw_m8 19 rfl) rfl
theorem q1827 : (Jvm.Cond.methodLink "SagMemoryModel" (342 : Nat) ({ cls := "SagMemoryModel", name := "isHalf", desc := "(I)Z" } : Jvm.MethodName)) ∈ lw_all := lw_g (lw_at lw_m8 20 rfl) rfl
theorem q1828 : (Jvm.Cond.static ({ cls := "SagMemoryModel", name := "isHalf", desc := "(I)Z" } : Jvm.MethodName)) ∈ lw_all := lw_g (lw_at lw_m8 21 rfl) rfl
theorem q1829 : (Jvm.Cond.code ({ cls := "SagMemoryModel", name := "isHalf", desc := "(I)Z" } : Jvm.MethodName) prog_12_method_45_code (1 : Nat) (Option.some Jvm.ClassFile.FieldType.boolean)) ∈ lw_all := lw_g (lw_at lw_m8 22 rfl) rfl
theorem q1831 : (Jvm.Cond.instanceMethod ({ cls := "SagMemoryModel", name := "cart", desc := "(II)I" } : Jvm.MethodName)) ∈ lw_all := lw_g (lw_at lw_m8 24 rfl) rfl
theorem q1832 : (Jvm.Cond.selects "SagMemoryModel" ({ cls := "SagMemoryModel", name := "cart", desc := "(II)I" } : Jvm.MethodName) ({ cls := "SagMemoryModel", name := "cart", desc := "(II)I" } : Jvm.MethodName)) ∈ lw_all := lw_g (lw_at lw_m8 25 rfl) rfl
theorem q1833 : (Jvm.Cond.code ({ cls := "SagMemoryModel", name := "cart", desc := "(II)I" } : Jvm.MethodName) prog_12_method_63_code (3 : Nat) (Option.some Jvm.ClassFile.FieldType.int)) ∈ lw_all := lw_g (lw_at lw_m8 26 rfl) rfl
theorem q1834 : (Jvm.Cond.methodLink "SagMemoryModel" (289 : Nat) ({ cls := "SagMemoryModel", name := "isCart", desc := "(J)Z" } : Jvm.MethodName)) ∈ lw_all := lw_g (lw_at lw_m8 27 rfl) rfl
theorem q1835 : (Jvm.Cond.privateMethod ({ cls := "SagMemoryModel", name := "isCart", desc := "(J)Z" } : Jvm.MethodName)) ∈ lw_tbl := lw_at lw_m8 28 rfl
theorem q1836 : (Jvm.Cond.instanceMethod ({ cls := "SagMemoryModel", name := "isCart", desc := "(J)Z" } : Jvm.MethodName)) ∈ lw_all := lw_g (lw_at lw_m8 29 rfl) rfl
theorem q1837 : (Jvm.Cond.code ({ cls := "SagMemoryModel", name := "isCart", desc := "(J)Z" } : Jvm.MethodName) prog_12_method_42_code (3 : Nat) (Option.some Jvm.ClassFile.FieldType.boolean)) ∈ lw_all := lw_g (lw_at lw_m8 30 rfl) rfl
theorem q1838 : (Jvm.Cond.methodLink "SagMemoryModel" (286 : Nat) ({ cls := "SagMemoryModel", name := "carts", desc := "()I" } : Jvm.MethodName)) ∈ lw_all := lw_g (lw_at lw_m8 31 rfl) rfl
theorem q1839 : (Jvm.Cond.privateMethod ({ cls := "SagMemoryModel", name := "carts", desc := "()I" } : Jvm.MethodName)) ∈ lw_tbl := lw_at lw_m8 32 rfl
theorem q1840 : (Jvm.Cond.instanceMethod ({ cls := "SagMemoryModel", name := "carts", desc := "()I" } : Jvm.MethodName)) ∈ lw_all := lw_g (lw_at lw_m8 33 rfl) rfl
theorem q1841 : (Jvm.Cond.code ({ cls := "SagMemoryModel", name := "carts", desc := "()I" } : Jvm.MethodName) prog_12_method_40_code (1 : Nat) (Option.some Jvm.ClassFile.FieldType.int)) ∈ lw_all := lw_g (lw_at lw_m8 34 rfl) rfl
theorem q1843 : (Jvm.Cond.instanceMethod ({ cls := "SagMemoryModel", name := "ward", desc := "(II)I" } : Jvm.MethodName)) ∈ lw_all := lw_g (lw_at lw_m8 36 rfl) rfl
theorem q1844 : (Jvm.Cond.selects "SagMemoryModel" ({ cls := "SagMemoryModel", name := "ward", desc := "(II)I" } : Jvm.MethodName) ({ cls := "SagMemoryModel", name := "ward", desc := "(II)I" } : Jvm.MethodName)) ∈ lw_all := lw_g (lw_at lw_m8 37 rfl) rfl
theorem q1845 : (Jvm.Cond.code ({ cls := "SagMemoryModel", name := "ward", desc := "(II)I" } : Jvm.MethodName) prog_12_method_64_code (3 : Nat) (Option.some Jvm.ClassFile.FieldType.int)) ∈ lw_all := lw_g (lw_at lw_m8 38 rfl) rfl
theorem q1846 : (Jvm.Cond.constantLong "SagMemoryModel" (345 : Nat) (2 : Int64)) ∈ lw_all := lw_g (lw_at lw_m8 39 rfl) rfl
theorem q1848 : (Jvm.Cond.instanceMethod ({ cls := "SagMemoryModel", name := "cold", desc := "(I)I" } : Jvm.MethodName)) ∈ lw_all := lw_g (lw_at lw_m8 41 rfl) rfl
theorem q1849 : (Jvm.Cond.selects "SagMemoryModel" ({ cls := "SagMemoryModel", name := "cold", desc := "(I)I" } : Jvm.MethodName) ({ cls := "SagMemoryModel", name := "cold", desc := "(I)I" } : Jvm.MethodName)) ∈ lw_all := lw_g (lw_at lw_m8 42 rfl) rfl
theorem q1850 : (Jvm.Cond.code ({ cls := "SagMemoryModel", name := "cold", desc := "(I)I" } : Jvm.MethodName) prog_12_method_65_code (2 : Nat) (Option.some Jvm.ClassFile.FieldType.int)) ∈ lw_all := lw_g (lw_at lw_m8 43 rfl) rfl
theorem q1851 : (Jvm.Cond.methodLink "SagMemoryModel" (330 : Nat) ({ cls := "SagMemoryModel", name := "lays", desc := "()V" } : Jvm.MethodName)) ∈ lw_all := lw_g (lw_at lw_m8 44 rfl) rfl
theorem q1852 : (Jvm.Cond.privateMethod ({ cls := "SagMemoryModel", name := "lays", desc := "()V" } : Jvm.MethodName)) ∈ lw_tbl := lw_at lw_m8 45 rfl
theorem q1853 : (Jvm.Cond.instanceMethod ({ cls := "SagMemoryModel", name := "lays", desc := "()V" } : Jvm.MethodName)) ∈ lw_all := lw_g (lw_at lw_m8 46 rfl) rfl
theorem q1854 : (Jvm.Cond.code ({ cls := "SagMemoryModel", name := "lays", desc := "()V" } : Jvm.MethodName) prog_12_method_48_code (3 : Nat) (Option.none : Option Jvm.ClassFile.FieldType)) ∈ lw_all := lw_g (lw_at lw_m8 47 rfl) rfl
theorem q1855 : (Jvm.Cond.methodLink "SagMemoryModel" (307 : Nat) ({ cls := "SagMemoryModel", name := "isBit", desc := "(II)Z" } : Jvm.MethodName)) ∈ lw_all := lw_g (lw_at lw_m8 48 rfl) rfl
theorem q1856 : (Jvm.Cond.static ({ cls := "SagMemoryModel", name := "isBit", desc := "(II)Z" } : Jvm.MethodName)) ∈ lw_all := lw_g (lw_at lw_m8 49 rfl) rfl
theorem q1857 : (Jvm.Cond.code ({ cls := "SagMemoryModel", name := "isBit", desc := "(II)Z" } : Jvm.MethodName) prog_12_method_46_code (2 : Nat) (Option.some Jvm.ClassFile.FieldType.boolean)) ∈ lw_all := lw_g (lw_at lw_m8 50 rfl) rfl
theorem q1859 : (Jvm.Cond.instanceMethod ({ cls := "SagMemoryModel", name := "goes", desc := "(I)I" } : Jvm.MethodName)) ∈ lw_all := lw_g (lw_at lw_m8 52 rfl) rfl
theorem q1860 : (Jvm.Cond.selects "SagMemoryModel" ({ cls := "SagMemoryModel", name := "goes", desc := "(I)I" } : Jvm.MethodName) ({ cls := "SagMemoryModel", name := "goes", desc := "(I)I" } : Jvm.MethodName)) ∈ lw_all := lw_g (lw_at lw_m8 53 rfl) rfl
theorem q1861 : (Jvm.Cond.code ({ cls := "SagMemoryModel", name := "goes", desc := "(I)I" } : Jvm.MethodName) prog_12_method_66_code (2 : Nat) (Option.some Jvm.ClassFile.FieldType.int)) ∈ lw_all := lw_g (lw_at lw_m8 54 rfl) rfl
theorem q1862 : (Jvm.Cond.methodLink "SagMemoryModel" (336 : Nat) ({ cls := "SagMemoryModel", name := "laysNow", desc := "()V" } : Jvm.MethodName)) ∈ lw_all := lw_g (lw_at lw_m8 55 rfl) rfl
theorem q1863 : (Jvm.Cond.privateMethod ({ cls := "SagMemoryModel", name := "laysNow", desc := "()V" } : Jvm.MethodName)) ∈ lw_tbl := lw_at lw_m8 56 rfl
theorem q1864 : (Jvm.Cond.instanceMethod ({ cls := "SagMemoryModel", name := "laysNow", desc := "()V" } : Jvm.MethodName)) ∈ lw_all := lw_g (lw_at lw_m8 57 rfl) rfl
theorem q1865 : (Jvm.Cond.code ({ cls := "SagMemoryModel", name := "laysNow", desc := "()V" } : Jvm.MethodName) prog_12_method_57_code (1 : Nat) (Option.none : Option Jvm.ClassFile.FieldType)) ∈ lw_all := lw_g (lw_at lw_m8 58 rfl) rfl
theorem q1866 : (Jvm.Cond.methodLink "SagMemoryModel" (333 : Nat) ({ cls := "SagMemoryModel", name := "runs", desc := "()V" } : Jvm.MethodName)) ∈ lw_all := lw_g (lw_at lw_m8 59 rfl) rfl
theorem q1867 : (Jvm.Cond.privateMethod ({ cls := "SagMemoryModel", name := "runs", desc := "()V" } : Jvm.MethodName)) ∈ lw_tbl := lw_at lw_m8 60 rfl
theorem q1868 : (Jvm.Cond.instanceMethod ({ cls := "SagMemoryModel", name := "runs", desc := "()V" } : Jvm.MethodName)) ∈ lw_all := lw_g (lw_at lw_m8 61 rfl) rfl
theorem q1869 : (Jvm.Cond.code ({ cls := "SagMemoryModel", name := "runs", desc := "()V" } : Jvm.MethodName) prog_12_method_56_code (4 : Nat) (Option.none : Option Jvm.ClassFile.FieldType)) ∈ lw_all := lw_g (lw_at lw_m8 62 rfl) rfl
theorem q1870 : (Jvm.Cond.methodLink "SagMemoryModel" (324 : Nat) ({ cls := "SagMemoryModel", name := "begin", desc := "()V" } : Jvm.MethodName)) ∈ lw_all := lw_g (lw_at lw_m8 63 rfl) rfl
theorem q1871 : (Jvm.Cond.privateMethod ({ cls := "SagMemoryModel", name := "begin", desc := "()V" } : Jvm.MethodName)) ∈ lw_tbl := lw_at lw_m8 64 rfl
theorem q1872 : (Jvm.Cond.instanceMethod ({ cls := "SagMemoryModel", name := "begin", desc := "()V" } : Jvm.MethodName)) ∈ lw_all := lw_g (lw_at lw_m8 65 rfl) rfl
theorem q1873 : (Jvm.Cond.code ({ cls := "SagMemoryModel", name := "begin", desc := "()V" } : Jvm.MethodName) prog_12_method_55_code (2 : Nat) (Option.none : Option Jvm.ClassFile.FieldType)) ∈ lw_all := lw_g (lw_at lw_m8 66 rfl) rfl
theorem q1874 : (Jvm.Cond.methodLink "SagMemoryModel" (327 : Nat) ({ cls := "SagMemoryModel", name := "turn", desc := "(I)V" } : Jvm.MethodName)) ∈ lw_all := lw_g (lw_at lw_m8 67 rfl) rfl
theorem q1875 : (Jvm.Cond.privateMethod ({ cls := "SagMemoryModel", name := "turn", desc := "(I)V" } : Jvm.MethodName)) ∈ lw_tbl := lw_at lw_m8 68 rfl
theorem q1876 : (Jvm.Cond.instanceMethod ({ cls := "SagMemoryModel", name := "turn", desc := "(I)V" } : Jvm.MethodName)) ∈ lw_all := lw_g (lw_at lw_m8 69 rfl) rfl
theorem q1877 : (Jvm.Cond.code ({ cls := "SagMemoryModel", name := "turn", desc := "(I)V" } : Jvm.MethodName) prog_12_method_54_code (5 : Nat) (Option.none : Option Jvm.ClassFile.FieldType)) ∈ lw_all := lw_g (lw_at lw_m8 70 rfl) rfl
theorem q1878 : (Jvm.Cond.methodLink "SagMemoryModel" (311 : Nat) ({ cls := "SagMemoryModel", name := "freezes", desc := "()V" } : Jvm.MethodName)) ∈ lw_all := lw_g (lw_at lw_m8 71 rfl) rfl
theorem q1879 : (Jvm.Cond.privateMethod ({ cls := "SagMemoryModel", name := "freezes", desc := "()V" } : Jvm.MethodName)) ∈ lw_tbl := lw_at lw_m8 72 rfl
theorem q1880 : (Jvm.Cond.instanceMethod ({ cls := "SagMemoryModel", name := "freezes", desc := "()V" } : Jvm.MethodName)) ∈ lw_all := lw_g (lw_at lw_m8 73 rfl) rfl
theorem q1881 : (Jvm.Cond.code ({ cls := "SagMemoryModel", name := "freezes", desc := "()V" } : Jvm.MethodName) prog_12_method_52_code (5 : Nat) (Option.none : Option Jvm.ClassFile.FieldType)) ∈ lw_all := lw_g (lw_at lw_m8 74 rfl) rfl
theorem q1882 : (Jvm.Cond.methodLink "SagMemoryModel" (314 : Nat) ({ cls := "SagMemoryModel", name := "wayOf", desc := "(I)I" } : Jvm.MethodName)) ∈ lw_all := lw_g (lw_at lw_m8 75 rfl) rfl
theorem q1883 : (Jvm.Cond.privateMethod ({ cls := "SagMemoryModel", name := "wayOf", desc := "(I)I" } : Jvm.MethodName)) ∈ lw_tbl := lw_at lw_m8 76 rfl
theorem q1884 : (Jvm.Cond.instanceMethod ({ cls := "SagMemoryModel", name := "wayOf", desc := "(I)I" } : Jvm.MethodName)) ∈ lw_all := lw_g (lw_at lw_m8 77 rfl) rfl
theorem q1885 : (Jvm.Cond.code ({ cls := "SagMemoryModel", name := "wayOf", desc := "(I)I" } : Jvm.MethodName) prog_12_method_53_code (4 : Nat) (Option.some Jvm.ClassFile.FieldType.int)) ∈ lw_all := lw_g (lw_at lw_m8 78 rfl) rfl
theorem q1886 : (Jvm.Cond.methodLink "SagMemoryModel" (317 : Nat) ({ cls := "SagMemoryModel", name := "sagOf", desc := "(I)I" } : Jvm.MethodName)) ∈ lw_all := lw_g (lw_at lw_m8 79 rfl) rfl
theorem q1887 : (Jvm.Cond.privateMethod ({ cls := "SagMemoryModel", name := "sagOf", desc := "(I)I" } : Jvm.MethodName)) ∈ lw_tbl := lw_at lw_m8 80 rfl
theorem q1888 : (Jvm.Cond.instanceMethod ({ cls := "SagMemoryModel", name := "sagOf", desc := "(I)I" } : Jvm.MethodName)) ∈ lw_all := lw_g (lw_at lw_m8 81 rfl) rfl
theorem q1889 : (Jvm.Cond.code ({ cls := "SagMemoryModel", name := "sagOf", desc := "(I)I" } : Jvm.MethodName) prog_12_method_49_code (4 : Nat) (Option.some Jvm.ClassFile.FieldType.int)) ∈ lw_all := lw_g (lw_at lw_m8 82 rfl) rfl
theorem q1890 : (Jvm.Cond.methodLink "SagMemoryModel" (304 : Nat) ({ cls := "SagMemoryModel", name := "lastOf", desc := "(I)I" } : Jvm.MethodName)) ∈ lw_all := lw_g (lw_at lw_m8 83 rfl) rfl
theorem q1891 : (Jvm.Cond.privateMethod ({ cls := "SagMemoryModel", name := "lastOf", desc := "(I)I" } : Jvm.MethodName)) ∈ lw_tbl := lw_at lw_m8 84 rfl
theorem q1892 : (Jvm.Cond.instanceMethod ({ cls := "SagMemoryModel", name := "lastOf", desc := "(I)I" } : Jvm.MethodName)) ∈ lw_all := lw_g (lw_at lw_m8 85 rfl) rfl
theorem q1893 : (Jvm.Cond.code ({ cls := "SagMemoryModel", name := "lastOf", desc := "(I)I" } : Jvm.MethodName) prog_12_method_50_code (2 : Nat) (Option.some Jvm.ClassFile.FieldType.int)) ∈ lw_all := lw_g (lw_at lw_m8 86 rfl) rfl
theorem q1894 : (Jvm.Cond.methodLink "SagMemoryModel" (320 : Nat) ({ cls := "SagMemoryModel", name := "crosses", desc := "(III)I" } : Jvm.MethodName)) ∈ lw_all := lw_g (lw_at lw_m8 87 rfl) rfl
theorem q1895 : (Jvm.Cond.privateMethod ({ cls := "SagMemoryModel", name := "crosses", desc := "(III)I" } : Jvm.MethodName)) ∈ lw_tbl := lw_at lw_m8 88 rfl
theorem q1896 : (Jvm.Cond.instanceMethod ({ cls := "SagMemoryModel", name := "crosses", desc := "(III)I" } : Jvm.MethodName)) ∈ lw_all := lw_g (lw_at lw_m8 89 rfl) rfl
theorem q1897 : (Jvm.Cond.code ({ cls := "SagMemoryModel", name := "crosses", desc := "(III)I" } : Jvm.MethodName) prog_12_method_51_code (7 : Nat) (Option.some Jvm.ClassFile.FieldType.int)) ∈ lw_all := lw_g (lw_at lw_m8 90 rfl) rfl
theorem q1899 : (Jvm.Cond.instanceMethod ({ cls := "SagMemoryModel", name := "comes", desc := "(I)I" } : Jvm.MethodName)) ∈ lw_all := lw_g (lw_at lw_m8 92 rfl) rfl
theorem q1900 : (Jvm.Cond.selects "SagMemoryModel" ({ cls := "SagMemoryModel", name := "comes", desc := "(I)I" } : Jvm.MethodName) ({ cls := "SagMemoryModel", name := "comes", desc := "(I)I" } : Jvm.MethodName)) ∈ lw_all := lw_g (lw_at lw_m8 93 rfl) rfl
theorem q1901 : (Jvm.Cond.code ({ cls := "SagMemoryModel", name := "comes", desc := "(I)I" } : Jvm.MethodName) prog_12_method_67_code (2 : Nat) (Option.some Jvm.ClassFile.FieldType.int)) ∈ lw_all := lw_g (lw_at lw_m8 94 rfl) rfl
theorem q1903 : (Jvm.Cond.instanceMethod ({ cls := "SagMemoryModel", name := "over", desc := "(I)I" } : Jvm.MethodName)) ∈ lw_all := lw_g (lw_at lw_m8 96 rfl) rfl
theorem q1904 : (Jvm.Cond.selects "SagMemoryModel" ({ cls := "SagMemoryModel", name := "over", desc := "(I)I" } : Jvm.MethodName) ({ cls := "SagMemoryModel", name := "over", desc := "(I)I" } : Jvm.MethodName)) ∈ lw_all := lw_g (lw_at lw_m8 97 rfl) rfl
theorem q1905 : (Jvm.Cond.code ({ cls := "SagMemoryModel", name := "over", desc := "(I)I" } : Jvm.MethodName) prog_12_method_69_code (2 : Nat) (Option.some Jvm.ClassFile.FieldType.int)) ∈ lw_all := lw_g (lw_at lw_m8 98 rfl) rfl
theorem q1906 : (Jvm.Cond.methodLink "SagMemoryModel" (347 : Nat) ({ cls := "SagMemoryModel", name := "overOf", desc := "(I)I" } : Jvm.MethodName)) ∈ lw_all := lw_g (lw_at lw_m8 99 rfl) rfl
theorem q1907 : (Jvm.Cond.privateMethod ({ cls := "SagMemoryModel", name := "overOf", desc := "(I)I" } : Jvm.MethodName)) ∈ lw_tbl := lw_at lw_m8 100 rfl
theorem q1908 : (Jvm.Cond.instanceMethod ({ cls := "SagMemoryModel", name := "overOf", desc := "(I)I" } : Jvm.MethodName)) ∈ lw_all := lw_g (lw_at lw_m8 101 rfl) rfl
theorem q1909 : (Jvm.Cond.code ({ cls := "SagMemoryModel", name := "overOf", desc := "(I)I" } : Jvm.MethodName) prog_12_method_68_code (4 : Nat) (Option.some Jvm.ClassFile.FieldType.int)) ∈ lw_all := lw_g (lw_at lw_m8 102 rfl) rfl
theorem q1911 : (Jvm.Cond.instanceMethod ({ cls := "SagMemoryModel", name := "waits", desc := "()I" } : Jvm.MethodName)) ∈ lw_all := lw_g (lw_at lw_m8 104 rfl) rfl
theorem q1912 : (Jvm.Cond.selects "SagMemoryModel" ({ cls := "SagMemoryModel", name := "waits", desc := "()I" } : Jvm.MethodName) ({ cls := "SagMemoryModel", name := "waits", desc := "()I" } : Jvm.MethodName)) ∈ lw_all := lw_g (lw_at lw_m8 105 rfl) rfl
theorem q1913 : (Jvm.Cond.code ({ cls := "SagMemoryModel", name := "waits", desc := "()I" } : Jvm.MethodName) prog_12_method_70_code (1 : Nat) (Option.some Jvm.ClassFile.FieldType.int)) ∈ lw_all := lw_g (lw_at lw_m8 106 rfl) rfl
theorem q1914 : (Jvm.Cond.methodLink "SagMemoryModel" (350 : Nat) ({ cls := "SagMemoryModel", name := "isValley", desc := "()Z" } : Jvm.MethodName)) ∈ lw_all := lw_g (lw_at lw_m8 107 rfl) rfl
theorem q1915 : (Jvm.Cond.privateMethod ({ cls := "SagMemoryModel", name := "isValley", desc := "()Z" } : Jvm.MethodName)) ∈ lw_tbl := lw_at lw_m8 108 rfl
theorem q1916 : (Jvm.Cond.instanceMethod ({ cls := "SagMemoryModel", name := "isValley", desc := "()Z" } : Jvm.MethodName)) ∈ lw_all := lw_g (lw_at lw_m8 109 rfl) rfl
theorem q1917 : (Jvm.Cond.code ({ cls := "SagMemoryModel", name := "isValley", desc := "()Z" } : Jvm.MethodName) prog_12_method_38_code (1 : Nat) (Option.some Jvm.ClassFile.FieldType.boolean)) ∈ lw_all := lw_g (lw_at lw_m8 110 rfl) rfl
theorem q1919 : (Jvm.Cond.instanceMethod ({ cls := "SagMemoryModel", name := "deep", desc := "(II)I" } : Jvm.MethodName)) ∈ lw_all := lw_g (lw_at lw_m8 112 rfl) rfl
theorem q1920 : (Jvm.Cond.selects "SagMemoryModel" ({ cls := "SagMemoryModel", name := "deep", desc := "(II)I" } : Jvm.MethodName) ({ cls := "SagMemoryModel", name := "deep", desc := "(II)I" } : Jvm.MethodName)) ∈ lw_all := lw_g (lw_at lw_m8 113 rfl) rfl
theorem q1921 : (Jvm.Cond.code ({ cls := "SagMemoryModel", name := "deep", desc := "(II)I" } : Jvm.MethodName) prog_12_method_71_code (3 : Nat) (Option.some Jvm.ClassFile.FieldType.int)) ∈ lw_all := lw_g (lw_at lw_m8 114 rfl) rfl
theorem q1922 : (Jvm.Cond.methodLink "SagMemoryModel" (353 : Nat) ({ cls := "SagMemoryModel", name := "isThen", desc := "(II)Z" } : Jvm.MethodName)) ∈ lw_all := lw_g (lw_at lw_m8 115 rfl) rfl
theorem q1923 : (Jvm.Cond.privateMethod ({ cls := "SagMemoryModel", name := "isThen", desc := "(II)Z" } : Jvm.MethodName)) ∈ lw_tbl := lw_at lw_m8 116 rfl
theorem q1924 : (Jvm.Cond.instanceMethod ({ cls := "SagMemoryModel", name := "isThen", desc := "(II)Z" } : Jvm.MethodName)) ∈ lw_all := lw_g (lw_at lw_m8 117 rfl) rfl
theorem q1925 : (Jvm.Cond.code ({ cls := "SagMemoryModel", name := "isThen", desc := "(II)Z" } : Jvm.MethodName) prog_12_method_44_code (3 : Nat) (Option.some Jvm.ClassFile.FieldType.boolean)) ∈ lw_all := lw_g (lw_at lw_m8 118 rfl) rfl
theorem q1927 : (Jvm.Cond.instanceMethod ({ cls := "SagMemoryModel", name := "load", desc := "(III)I" } : Jvm.MethodName)) ∈ lw_all := lw_g (lw_at lw_m8 120 rfl) rfl
theorem q1928 : (Jvm.Cond.selects "SagMemoryModel" ({ cls := "SagMemoryModel", name := "load", desc := "(III)I" } : Jvm.MethodName) ({ cls := "SagMemoryModel", name := "load", desc := "(III)I" } : Jvm.MethodName)) ∈ lw_all := lw_g (lw_at lw_m8 121 rfl) rfl
theorem q1929 : (Jvm.Cond.code ({ cls := "SagMemoryModel", name := "load", desc := "(III)I" } : Jvm.MethodName) prog_12_method_72_code (4 : Nat) (Option.some Jvm.ClassFile.FieldType.int)) ∈ lw_all := lw_g (lw_at lw_m8 122 rfl) rfl
theorem q1931 : (Jvm.Cond.instanceMethod ({ cls := "SagMemoryModel", name := "sag", desc := "(II)I" } : Jvm.MethodName)) ∈ lw_all := lw_g (lw_at lw_m8 124 rfl) rfl
theorem q1932 : (Jvm.Cond.selects "SagMemoryModel" ({ cls := "SagMemoryModel", name := "sag", desc := "(II)I" } : Jvm.MethodName) ({ cls := "SagMemoryModel", name := "sag", desc := "(II)I" } : Jvm.MethodName)) ∈ lw_all := lw_g (lw_at lw_m8 125 rfl) rfl
theorem q1933 : (Jvm.Cond.code ({ cls := "SagMemoryModel", name := "sag", desc := "(II)I" } : Jvm.MethodName) prog_12_method_73_code (3 : Nat) (Option.some Jvm.ClassFile.FieldType.int)) ∈ lw_all := lw_g (lw_at lw_m8 126 rfl) rfl
theorem q1935 : (Jvm.Cond.instanceMethod ({ cls := "SagMemoryModel", name := "all", desc := "(I)I" } : Jvm.MethodName)) ∈ lw_all := lw_g (lw_at lw_m8 128 rfl) rfl
theorem q1936 : (Jvm.Cond.selects "SagMemoryModel" ({ cls := "SagMemoryModel", name := "all", desc := "(I)I" } : Jvm.MethodName) ({ cls := "SagMemoryModel", name := "all", desc := "(I)I" } : Jvm.MethodName)) ∈ lw_all := lw_g (lw_at lw_m8 129 rfl) rfl
theorem q1937 : (Jvm.Cond.code ({ cls := "SagMemoryModel", name := "all", desc := "(I)I" } : Jvm.MethodName) prog_12_method_74_code (4 : Nat) (Option.some Jvm.ClassFile.FieldType.int)) ∈ lw_all := lw_g (lw_at lw_m8 130 rfl) rfl
theorem q1939 : (Jvm.Cond.instanceMethod ({ cls := "SagMemoryModel", name := "deepest", desc := "(I)I" } : Jvm.MethodName)) ∈ lw_all := lw_g (lw_at lw_m8 132 rfl) rfl
theorem q1940 : (Jvm.Cond.selects "SagMemoryModel" ({ cls := "SagMemoryModel", name := "deepest", desc := "(I)I" } : Jvm.MethodName) ({ cls := "SagMemoryModel", name := "deepest", desc := "(I)I" } : Jvm.MethodName)) ∈ lw_all := lw_g (lw_at lw_m8 133 rfl) rfl
theorem q1941 : (Jvm.Cond.code ({ cls := "SagMemoryModel", name := "deepest", desc := "(I)I" } : Jvm.MethodName) prog_12_method_75_code (4 : Nat) (Option.some Jvm.ClassFile.FieldType.int)) ∈ lw_all := lw_g (lw_at lw_m8 134 rfl) rfl
theorem q1943 : (Jvm.Cond.instanceMethod ({ cls := "SagMemoryModel", name := "gives", desc := "(I)I" } : Jvm.MethodName)) ∈ lw_all := lw_g (lw_at lw_m8 136 rfl) rfl
theorem q1944 : (Jvm.Cond.selects "SagMemoryModel" ({ cls := "SagMemoryModel", name := "gives", desc := "(I)I" } : Jvm.MethodName) ({ cls := "SagMemoryModel", name := "gives", desc := "(I)I" } : Jvm.MethodName)) ∈ lw_all := lw_g (lw_at lw_m8 137 rfl) rfl
theorem q1945 : (Jvm.Cond.code ({ cls := "SagMemoryModel", name := "gives", desc := "(I)I" } : Jvm.MethodName) prog_12_method_76_code (2 : Nat) (Option.some Jvm.ClassFile.FieldType.int)) ∈ lw_all := lw_g (lw_at lw_m8 138 rfl) rfl
theorem q1947 : (Jvm.Cond.instanceMethod ({ cls := "SagMemoryModel", name := "creak", desc := "(I)I" } : Jvm.MethodName)) ∈ lw_all := lw_g (lw_at lw_m8 140 rfl) rfl
theorem q1948 : (Jvm.Cond.selects "SagMemoryModel" ({ cls := "SagMemoryModel", name := "creak", desc := "(I)I" } : Jvm.MethodName) ({ cls := "SagMemoryModel", name := "creak", desc := "(I)I" } : Jvm.MethodName)) ∈ lw_all := lw_g (lw_at lw_m8 141 rfl) rfl
theorem q1949 : (Jvm.Cond.code ({ cls := "SagMemoryModel", name := "creak", desc := "(I)I" } : Jvm.MethodName) prog_12_method_77_code (2 : Nat) (Option.some Jvm.ClassFile.FieldType.int)) ∈ lw_all := lw_g (lw_at lw_m8 142 rfl) rfl
theorem q1951 : (Jvm.Cond.instanceMethod ({ cls := "SagMemoryModel", name := "loudest", desc := "()I" } : Jvm.MethodName)) ∈ lw_all := lw_g (lw_at lw_m8 144 rfl) rfl
theorem q1952 : (Jvm.Cond.selects "SagMemoryModel" ({ cls := "SagMemoryModel", name := "loudest", desc := "()I" } : Jvm.MethodName) ({ cls := "SagMemoryModel", name := "loudest", desc := "()I" } : Jvm.MethodName)) ∈ lw_all := lw_g (lw_at lw_m8 145 rfl) rfl
theorem q1953 : (Jvm.Cond.code ({ cls := "SagMemoryModel", name := "loudest", desc := "()I" } : Jvm.MethodName) prog_12_method_78_code (4 : Nat) (Option.some Jvm.ClassFile.FieldType.int)) ∈ lw_all := lw_g (lw_at lw_m8 146 rfl) rfl
theorem q1955 : (Jvm.Cond.instanceMethod ({ cls := "SagMemoryModel", name := "pays", desc := "(I)I" } : Jvm.MethodName)) ∈ lw_all := lw_g (lw_at lw_m8 148 rfl) rfl
theorem q1956 : (Jvm.Cond.selects "SagMemoryModel" ({ cls := "SagMemoryModel", name := "pays", desc := "(I)I" } : Jvm.MethodName) ({ cls := "SagMemoryModel", name := "pays", desc := "(I)I" } : Jvm.MethodName)) ∈ lw_all := lw_g (lw_at lw_m8 149 rfl) rfl
theorem q1957 : (Jvm.Cond.code ({ cls := "SagMemoryModel", name := "pays", desc := "(I)I" } : Jvm.MethodName) prog_12_method_79_code (2 : Nat) (Option.some Jvm.ClassFile.FieldType.int)) ∈ lw_all := lw_g (lw_at lw_m8 150 rfl) rfl
theorem q1958 : (Jvm.Cond.methodLink "SagMemoryModel" (356 : Nat) ({ cls := "SagMemoryModel", name := "paysOf", desc := "(I)I" } : Jvm.MethodName)) ∈ lw_all := lw_g (lw_at lw_m8 151 rfl) rfl
theorem q1959 : (Jvm.Cond.privateMethod ({ cls := "SagMemoryModel", name := "paysOf", desc := "(I)I" } : Jvm.MethodName)) ∈ lw_tbl := lw_at lw_m8 152 rfl
theorem q1960 : (Jvm.Cond.instanceMethod ({ cls := "SagMemoryModel", name := "paysOf", desc := "(I)I" } : Jvm.MethodName)) ∈ lw_all := lw_g (lw_at lw_m8 153 rfl) rfl
theorem q1961 : (Jvm.Cond.code ({ cls := "SagMemoryModel", name := "paysOf", desc := "(I)I" } : Jvm.MethodName) prog_12_method_61_code (2 : Nat) (Option.some Jvm.ClassFile.FieldType.int)) ∈ lw_all := lw_g (lw_at lw_m8 154 rfl) rfl
theorem q1963 : (Jvm.Cond.instanceMethod ({ cls := "SagMemoryModel", name := "tolls", desc := "()I" } : Jvm.MethodName)) ∈ lw_all := lw_g (lw_at lw_m8 156 rfl) rfl
theorem q1964 : (Jvm.Cond.selects "SagMemoryModel" ({ cls := "SagMemoryModel", name := "tolls", desc := "()I" } : Jvm.MethodName) ({ cls := "SagMemoryModel", name := "tolls", desc := "()I" } : Jvm.MethodName)) ∈ lw_all := lw_g (lw_at lw_m8 157 rfl) rfl
theorem q1965 : (Jvm.Cond.code ({ cls := "SagMemoryModel", name := "tolls", desc := "()I" } : Jvm.MethodName) prog_12_method_80_code (3 : Nat) (Option.some Jvm.ClassFile.FieldType.int)) ∈ lw_all := lw_g (lw_at lw_m8 158 rfl) rfl
theorem q1967 : (Jvm.Cond.instanceMethod ({ cls := "SagMemoryModel", name := "wipes", desc := "(I)I" } : Jvm.MethodName)) ∈ lw_all := lw_g (lw_at lw_m8 160 rfl) rfl
theorem q1968 : (Jvm.Cond.selects "SagMemoryModel" ({ cls := "SagMemoryModel", name := "wipes", desc := "(I)I" } : Jvm.MethodName) ({ cls := "SagMemoryModel", name := "wipes", desc := "(I)I" } : Jvm.MethodName)) ∈ lw_all := lw_g (lw_at lw_m8 161 rfl) rfl
theorem q1969 : (Jvm.Cond.code ({ cls := "SagMemoryModel", name := "wipes", desc := "(I)I" } : Jvm.MethodName) prog_12_method_81_code (2 : Nat) (Option.some Jvm.ClassFile.FieldType.int)) ∈ lw_all := lw_g (lw_at lw_m8 162 rfl) rfl
theorem q1971 : (Jvm.Cond.instanceMethod ({ cls := "SagMemoryModel", name := "breaks", desc := "(I)I" } : Jvm.MethodName)) ∈ lw_all := lw_g (lw_at lw_m8 164 rfl) rfl
theorem q1972 : (Jvm.Cond.selects "SagMemoryModel" ({ cls := "SagMemoryModel", name := "breaks", desc := "(I)I" } : Jvm.MethodName) ({ cls := "SagMemoryModel", name := "breaks", desc := "(I)I" } : Jvm.MethodName)) ∈ lw_all := lw_g (lw_at lw_m8 165 rfl) rfl
theorem q1973 : (Jvm.Cond.code ({ cls := "SagMemoryModel", name := "breaks", desc := "(I)I" } : Jvm.MethodName) prog_12_method_82_code (2 : Nat) (Option.some Jvm.ClassFile.FieldType.int)) ∈ lw_all := lw_g (lw_at lw_m8 166 rfl) rfl
theorem q1975 : (Jvm.Cond.instanceMethod ({ cls := "SagMemoryModel", name := "fails", desc := "()I" } : Jvm.MethodName)) ∈ lw_all := lw_g (lw_at lw_m8 168 rfl) rfl
theorem q1976 : (Jvm.Cond.selects "SagMemoryModel" ({ cls := "SagMemoryModel", name := "fails", desc := "()I" } : Jvm.MethodName) ({ cls := "SagMemoryModel", name := "fails", desc := "()I" } : Jvm.MethodName)) ∈ lw_all := lw_g (lw_at lw_m8 169 rfl) rfl
theorem q1977 : (Jvm.Cond.code ({ cls := "SagMemoryModel", name := "fails", desc := "()I" } : Jvm.MethodName) prog_12_method_83_code (3 : Nat) (Option.some Jvm.ClassFile.FieldType.int)) ∈ lw_all := lw_g (lw_at lw_m8 170 rfl) rfl
theorem q1979 : (Jvm.Cond.instanceMethod ({ cls := "SagMemoryModel", name := "spare", desc := "(I)I" } : Jvm.MethodName)) ∈ lw_all := lw_g (lw_at lw_m8 172 rfl) rfl
theorem q1980 : (Jvm.Cond.selects "SagMemoryModel" ({ cls := "SagMemoryModel", name := "spare", desc := "(I)I" } : Jvm.MethodName) ({ cls := "SagMemoryModel", name := "spare", desc := "(I)I" } : Jvm.MethodName)) ∈ lw_all := lw_g (lw_at lw_m8 173 rfl) rfl
theorem q1981 : (Jvm.Cond.code ({ cls := "SagMemoryModel", name := "spare", desc := "(I)I" } : Jvm.MethodName) prog_12_method_84_code (2 : Nat) (Option.some Jvm.ClassFile.FieldType.int)) ∈ lw_all := lw_g (lw_at lw_m8 174 rfl) rfl
theorem q1983 : (Jvm.Cond.instanceMethod ({ cls := "SagMemoryModel", name := "kept", desc := "(I)I" } : Jvm.MethodName)) ∈ lw_all := lw_g (lw_at lw_m8 176 rfl) rfl
theorem q1984 : (Jvm.Cond.selects "SagMemoryModel" ({ cls := "SagMemoryModel", name := "kept", desc := "(I)I" } : Jvm.MethodName) ({ cls := "SagMemoryModel", name := "kept", desc := "(I)I" } : Jvm.MethodName)) ∈ lw_all := lw_g (lw_at lw_m8 177 rfl) rfl
theorem q1985 : (Jvm.Cond.code ({ cls := "SagMemoryModel", name := "kept", desc := "(I)I" } : Jvm.MethodName) prog_12_method_85_code (4 : Nat) (Option.some Jvm.ClassFile.FieldType.int)) ∈ lw_all := lw_g (lw_at lw_m8 178 rfl) rfl
theorem q1987 : (Jvm.Cond.instanceMethod ({ cls := "SagMemoryModel", name := "last", desc := "(II)I" } : Jvm.MethodName)) ∈ lw_all := lw_g (lw_at lw_m8 180 rfl) rfl
theorem q1988 : (Jvm.Cond.selects "SagMemoryModel" ({ cls := "SagMemoryModel", name := "last", desc := "(II)I" } : Jvm.MethodName) ({ cls := "SagMemoryModel", name := "last", desc := "(II)I" } : Jvm.MethodName)) ∈ lw_all := lw_g (lw_at lw_m8 181 rfl) rfl
theorem q1989 : (Jvm.Cond.code ({ cls := "SagMemoryModel", name := "last", desc := "(II)I" } : Jvm.MethodName) prog_12_method_86_code (4 : Nat) (Option.some Jvm.ClassFile.FieldType.int)) ∈ lw_all := lw_g (lw_at lw_m8 182 rfl) rfl
theorem q1991 : (Jvm.Cond.instanceMethod ({ cls := "SagMemoryModel", name := "broken", desc := "(I)I" } : Jvm.MethodName)) ∈ lw_all := lw_g (lw_at lw_m8 184 rfl) rfl
theorem q1992 : (Jvm.Cond.selects "SagMemoryModel" ({ cls := "SagMemoryModel", name := "broken", desc := "(I)I" } : Jvm.MethodName) ({ cls := "SagMemoryModel", name := "broken", desc := "(I)I" } : Jvm.MethodName)) ∈ lw_all := lw_g (lw_at lw_m8 185 rfl) rfl
theorem q1993 : (Jvm.Cond.code ({ cls := "SagMemoryModel", name := "broken", desc := "(I)I" } : Jvm.MethodName) prog_12_method_87_code (4 : Nat) (Option.some Jvm.ClassFile.FieldType.int)) ∈ lw_all := lw_g (lw_at lw_m8 186 rfl) rfl
theorem q1995 : (Jvm.Cond.instanceMethod ({ cls := "SagMemoryModel", name := "free", desc := "(II)I" } : Jvm.MethodName)) ∈ lw_all := lw_g (lw_at lw_m8 188 rfl) rfl
theorem q1996 : (Jvm.Cond.selects "SagMemoryModel" ({ cls := "SagMemoryModel", name := "free", desc := "(II)I" } : Jvm.MethodName) ({ cls := "SagMemoryModel", name := "free", desc := "(II)I" } : Jvm.MethodName)) ∈ lw_all := lw_g (lw_at lw_m8 189 rfl) rfl
theorem q1997 : (Jvm.Cond.code ({ cls := "SagMemoryModel", name := "free", desc := "(II)I" } : Jvm.MethodName) prog_12_method_89_code (4 : Nat) (Option.some Jvm.ClassFile.FieldType.int)) ∈ lw_all := lw_g (lw_at lw_m8 190 rfl) rfl
theorem q1998 : (Jvm.Cond.methodLink "SagMemoryModel" (359 : Nat) ({ cls := "SagMemoryModel", name := "sagWith", desc := "(III)I" } : Jvm.MethodName)) ∈ lw_all := lw_g (lw_at lw_m8 191 rfl) rfl
theorem q1999 : (Jvm.Cond.privateMethod ({ cls := "SagMemoryModel", name := "sagWith", desc := "(III)I" } : Jvm.MethodName)) ∈ lw_tbl := lw_at lw_m8 192 rfl
theorem q2000 : (Jvm.Cond.instanceMethod ({ cls := "SagMemoryModel", name := "sagWith", desc := "(III)I" } : Jvm.MethodName)) ∈ lw_all := lw_g (lw_at lw_m8 193 rfl) rfl
theorem q2001 : (Jvm.Cond.code ({ cls := "SagMemoryModel", name := "sagWith", desc := "(III)I" } : Jvm.MethodName) prog_12_method_88_code (5 : Nat) (Option.some Jvm.ClassFile.FieldType.int)) ∈ lw_all := lw_g (lw_at lw_m8 194 rfl) rfl
theorem q2003 : (Jvm.Cond.instanceMethod ({ cls := "SagMemoryModel", name := "most", desc := "(II)I" } : Jvm.MethodName)) ∈ lw_all := lw_g (lw_at lw_m8 196 rfl) rfl
theorem q2004 : (Jvm.Cond.selects "SagMemoryModel" ({ cls := "SagMemoryModel", name := "most", desc := "(II)I" } : Jvm.MethodName) ({ cls := "SagMemoryModel", name := "most", desc := "(II)I" } : Jvm.MethodName)) ∈ lw_all := lw_g (lw_at lw_m8 197 rfl) rfl
theorem q2005 : (Jvm.Cond.code ({ cls := "SagMemoryModel", name := "most", desc := "(II)I" } : Jvm.MethodName) prog_12_method_90_code (4 : Nat) (Option.some Jvm.ClassFile.FieldType.int)) ∈ lw_all := lw_g (lw_at lw_m8 198 rfl) rfl
theorem q2007 : (Jvm.Cond.instanceMethod ({ cls := "SagMemoryModel", name := "least", desc := "()I" } : Jvm.MethodName)) ∈ lw_all := lw_g (lw_at lw_m8 200 rfl) rfl
theorem q2008 : (Jvm.Cond.selects "SagMemoryModel" ({ cls := "SagMemoryModel", name := "least", desc := "()I" } : Jvm.MethodName) ({ cls := "SagMemoryModel", name := "least", desc := "()I" } : Jvm.MethodName)) ∈ lw_all := lw_g (lw_at lw_m8 201 rfl) rfl
theorem q2009 : (Jvm.Cond.code ({ cls := "SagMemoryModel", name := "least", desc := "()I" } : Jvm.MethodName) prog_12_method_93_code (1 : Nat) (Option.some Jvm.ClassFile.FieldType.int)) ∈ lw_all := lw_g (lw_at lw_m8 202 rfl) rfl
theorem q2010 : (Jvm.Cond.methodLink "SagMemoryModel" (377 : Nat) ({ cls := "SagMemoryModel", name := "laysOrders", desc := "()V" } : Jvm.MethodName)) ∈ lw_all := lw_g (lw_at lw_m8 203 rfl) rfl
theorem q2011 : (Jvm.Cond.privateMethod ({ cls := "SagMemoryModel", name := "laysOrders", desc := "()V" } : Jvm.MethodName)) ∈ lw_tbl := lw_at lw_m8 204 rfl
theorem q2012 : (Jvm.Cond.instanceMethod ({ cls := "SagMemoryModel", name := "laysOrders", desc := "()V" } : Jvm.MethodName)) ∈ lw_all := lw_g (lw_at lw_m8 205 rfl) rfl
theorem q2013 : (Jvm.Cond.code ({ cls := "SagMemoryModel", name := "laysOrders", desc := "()V" } : Jvm.MethodName) prog_12_method_92_code (1 : Nat) (Option.none : Option Jvm.ClassFile.FieldType)) ∈ lw_all := lw_g (lw_at lw_m8 206 rfl) rfl
theorem q2014 : (Jvm.Cond.methodLink "SagMemoryModel" (374 : Nat) ({ cls := "SagMemoryModel", name := "ordersFrom", desc := "(II)V" } : Jvm.MethodName)) ∈ lw_all := lw_g (lw_at lw_m8 207 rfl) rfl
theorem q2015 : (Jvm.Cond.privateMethod ({ cls := "SagMemoryModel", name := "ordersFrom", desc := "(II)V" } : Jvm.MethodName)) ∈ lw_tbl := lw_at lw_m8 208 rfl
theorem q2016 : (Jvm.Cond.instanceMethod ({ cls := "SagMemoryModel", name := "ordersFrom", desc := "(II)V" } : Jvm.MethodName)) ∈ lw_all := lw_g (lw_at lw_m8 209 rfl) rfl
theorem q2017 : (Jvm.Cond.code ({ cls := "SagMemoryModel", name := "ordersFrom", desc := "(II)V" } : Jvm.MethodName) prog_12_method_91_code (5 : Nat) (Option.none : Option Jvm.ClassFile.FieldType)) ∈ lw_all := lw_g (lw_at lw_m8 210 rfl) rfl
theorem q2018 : (Jvm.Cond.methodLink "SagMemoryModel" (339 : Nat) ({ cls := "SagMemoryModel", name := "sagAll", desc := "()I" } : Jvm.MethodName)) ∈ lw_all := lw_g (lw_at lw_m8 211 rfl) rfl
theorem q2019 : (Jvm.Cond.privateMethod ({ cls := "SagMemoryModel", name := "sagAll", desc := "()I" } : Jvm.MethodName)) ∈ lw_tbl := lw_at lw_m8 212 rfl
theorem q2020 : (Jvm.Cond.instanceMethod ({ cls := "SagMemoryModel", name := "sagAll", desc := "()I" } : Jvm.MethodName)) ∈ lw_all := lw_g (lw_at lw_m8 213 rfl) rfl
theorem q2021 : (Jvm.Cond.code ({ cls := "SagMemoryModel", name := "sagAll", desc := "()I" } : Jvm.MethodName) prog_12_method_58_code (3 : Nat) (Option.some Jvm.ClassFile.FieldType.int)) ∈ lw_all := lw_g (lw_at lw_m8 214 rfl) rfl
theorem q2022 : (Jvm.Cond.methodLink "SagMemoryModel" (368 : Nat) ({ cls := "SagMemoryModel", name := "overAll", desc := "()I" } : Jvm.MethodName)) ∈ lw_all := lw_g (lw_at lw_m8 215 rfl) rfl
theorem q2023 : (Jvm.Cond.privateMethod ({ cls := "SagMemoryModel", name := "overAll", desc := "()I" } : Jvm.MethodName)) ∈ lw_tbl := lw_at lw_m8 216 rfl
theorem q2024 : (Jvm.Cond.instanceMethod ({ cls := "SagMemoryModel", name := "overAll", desc := "()I" } : Jvm.MethodName)) ∈ lw_all := lw_g (lw_at lw_m8 217 rfl) rfl
theorem q2025 : (Jvm.Cond.code ({ cls := "SagMemoryModel", name := "overAll", desc := "()I" } : Jvm.MethodName) prog_12_method_60_code (3 : Nat) (Option.some Jvm.ClassFile.FieldType.int)) ∈ lw_all := lw_g (lw_at lw_m8 218 rfl) rfl
theorem q2027 : (Jvm.Cond.instanceMethod ({ cls := "SagMemoryModel", name := "order", desc := "(I)I" } : Jvm.MethodName)) ∈ lw_all := lw_g (lw_at lw_m8 220 rfl) rfl
theorem q2028 : (Jvm.Cond.selects "SagMemoryModel" ({ cls := "SagMemoryModel", name := "order", desc := "(I)I" } : Jvm.MethodName) ({ cls := "SagMemoryModel", name := "order", desc := "(I)I" } : Jvm.MethodName)) ∈ lw_all := lw_g (lw_at lw_m8 221 rfl) rfl
theorem q2029 : (Jvm.Cond.code ({ cls := "SagMemoryModel", name := "order", desc := "(I)I" } : Jvm.MethodName) prog_12_method_94_code (2 : Nat) (Option.some Jvm.ClassFile.FieldType.int)) ∈ lw_all := lw_g (lw_at lw_m8 222 rfl) rfl
theorem q2031 : (Jvm.Cond.instanceMethod ({ cls := "SagMemoryModel", name := "orders", desc := "()I" } : Jvm.MethodName)) ∈ lw_all := lw_g (lw_at lw_m8 224 rfl) rfl
theorem q2032 : (Jvm.Cond.selects "SagMemoryModel" ({ cls := "SagMemoryModel", name := "orders", desc := "()I" } : Jvm.MethodName) ({ cls := "SagMemoryModel", name := "orders", desc := "()I" } : Jvm.MethodName)) ∈ lw_all := lw_g (lw_at lw_m8 225 rfl) rfl
theorem q2033 : (Jvm.Cond.code ({ cls := "SagMemoryModel", name := "orders", desc := "()I" } : Jvm.MethodName) prog_12_method_95_code (1 : Nat) (Option.some Jvm.ClassFile.FieldType.int)) ∈ lw_all := lw_g (lw_at lw_m8 226 rfl) rfl
theorem q2035 : (Jvm.Cond.instanceMethod ({ cls := "SagMemoryModel", name := "across", desc := "()I" } : Jvm.MethodName)) ∈ lw_all := lw_g (lw_at lw_m8 228 rfl) rfl
theorem q2036 : (Jvm.Cond.selects "SagMemoryModel" ({ cls := "SagMemoryModel", name := "across", desc := "()I" } : Jvm.MethodName) ({ cls := "SagMemoryModel", name := "across", desc := "()I" } : Jvm.MethodName)) ∈ lw_all := lw_g (lw_at lw_m8 229 rfl) rfl
theorem q2037 : (Jvm.Cond.code ({ cls := "SagMemoryModel", name := "across", desc := "()I" } : Jvm.MethodName) prog_12_method_96_code (1 : Nat) (Option.some Jvm.ClassFile.FieldType.int)) ∈ lw_all := lw_g (lw_at lw_m8 230 rfl) rfl
theorem q2039 : (Jvm.Cond.instanceMethod ({ cls := "SagMemoryModel", name := "routes", desc := "()I" } : Jvm.MethodName)) ∈ lw_all := lw_g (lw_at lw_m8 232 rfl) rfl
theorem q2040 : (Jvm.Cond.selects "SagMemoryModel" ({ cls := "SagMemoryModel", name := "routes", desc := "()I" } : Jvm.MethodName) ({ cls := "SagMemoryModel", name := "routes", desc := "()I" } : Jvm.MethodName)) ∈ lw_all := lw_g (lw_at lw_m8 233 rfl) rfl
theorem q2041 : (Jvm.Cond.code ({ cls := "SagMemoryModel", name := "routes", desc := "()I" } : Jvm.MethodName) prog_12_method_99_code (1 : Nat) (Option.some Jvm.ClassFile.FieldType.int)) ∈ lw_all := lw_g (lw_at lw_m8 234 rfl) rfl
theorem q2042 : (Jvm.Cond.methodLink "SagMemoryModel" (383 : Nat) ({ cls := "SagMemoryModel", name := "laysRoutes", desc := "()V" } : Jvm.MethodName)) ∈ lw_all := lw_g (lw_at lw_m8 235 rfl) rfl
theorem q2043 : (Jvm.Cond.privateMethod ({ cls := "SagMemoryModel", name := "laysRoutes", desc := "()V" } : Jvm.MethodName)) ∈ lw_tbl := lw_at lw_m8 236 rfl
theorem q2044 : (Jvm.Cond.instanceMethod ({ cls := "SagMemoryModel", name := "laysRoutes", desc := "()V" } : Jvm.MethodName)) ∈ lw_all := lw_g (lw_at lw_m8 237 rfl) rfl
theorem q2045 : (Jvm.Cond.code ({ cls := "SagMemoryModel", name := "laysRoutes", desc := "()V" } : Jvm.MethodName) prog_12_method_98_code (1 : Nat) (Option.none : Option Jvm.ClassFile.FieldType)) ∈ lw_all := lw_g (lw_at lw_m8 238 rfl) rfl
theorem q2046 : (Jvm.Cond.methodLink "SagMemoryModel" (380 : Nat) ({ cls := "SagMemoryModel", name := "routesFrom", desc := "(I)V" } : Jvm.MethodName)) ∈ lw_all := lw_g (lw_at lw_m8 239 rfl) rfl
theorem q2047 : (Jvm.Cond.privateMethod ({ cls := "SagMemoryModel", name := "routesFrom", desc := "(I)V" } : Jvm.MethodName)) ∈ lw_tbl := lw_at lw_m9 0 rfl
theorem q2048 : (Jvm.Cond.instanceMethod ({ cls := "SagMemoryModel", name := "routesFrom", desc := "(I)V" } : Jvm.MethodName)) ∈ lw_all := lw_g (lw_at lw_m9 1 rfl) rfl
theorem q2049 : (Jvm.Cond.code ({ cls := "SagMemoryModel", name := "routesFrom", desc := "(I)V" } : Jvm.MethodName) prog_12_method_97_code (3 : Nat) (Option.none : Option Jvm.ClassFile.FieldType)) ∈ lw_all := lw_g (lw_at lw_m9 2 rfl) rfl
theorem q2051 : (Jvm.Cond.instanceMethod ({ cls := "SagMemoryModel", name := "route", desc := "(I)I" } : Jvm.MethodName)) ∈ lw_all := lw_g (lw_at lw_m9 4 rfl) rfl
theorem q2052 : (Jvm.Cond.selects "SagMemoryModel" ({ cls := "SagMemoryModel", name := "route", desc := "(I)I" } : Jvm.MethodName) ({ cls := "SagMemoryModel", name := "route", desc := "(I)I" } : Jvm.MethodName)) ∈ lw_all := lw_g (lw_at lw_m9 5 rfl) rfl
theorem q2053 : (Jvm.Cond.code ({ cls := "SagMemoryModel", name := "route", desc := "(I)I" } : Jvm.MethodName) prog_12_method_100_code (2 : Nat) (Option.some Jvm.ClassFile.FieldType.int)) ∈ lw_all := lw_g (lw_at lw_m9 6 rfl) rfl
theorem q2055 : (Jvm.Cond.instanceMethod ({ cls := "SagMemoryModel", name := "safe", desc := "()I" } : Jvm.MethodName)) ∈ lw_all := lw_g (lw_at lw_m9 8 rfl) rfl
theorem q2056 : (Jvm.Cond.selects "SagMemoryModel" ({ cls := "SagMemoryModel", name := "safe", desc := "()I" } : Jvm.MethodName) ({ cls := "SagMemoryModel", name := "safe", desc := "()I" } : Jvm.MethodName)) ∈ lw_all := lw_g (lw_at lw_m9 9 rfl) rfl
theorem q2057 : (Jvm.Cond.code ({ cls := "SagMemoryModel", name := "safe", desc := "()I" } : Jvm.MethodName) prog_12_method_101_code (1 : Nat) (Option.some Jvm.ClassFile.FieldType.int)) ∈ lw_all := lw_g (lw_at lw_m9 10 rfl) rfl
theorem q2059 : (Jvm.Cond.instanceMethod ({ cls := "SagMemoryModel", name := "spared", desc := "(I)I" } : Jvm.MethodName)) ∈ lw_all := lw_g (lw_at lw_m9 12 rfl) rfl
theorem q2060 : (Jvm.Cond.selects "SagMemoryModel" ({ cls := "SagMemoryModel", name := "spared", desc := "(I)I" } : Jvm.MethodName) ({ cls := "SagMemoryModel", name := "spared", desc := "(I)I" } : Jvm.MethodName)) ∈ lw_all := lw_g (lw_at lw_m9 13 rfl) rfl
theorem q2061 : (Jvm.Cond.code ({ cls := "SagMemoryModel", name := "spared", desc := "(I)I" } : Jvm.MethodName) prog_12_method_103_code (2 : Nat) (Option.some Jvm.ClassFile.FieldType.int)) ∈ lw_all := lw_g (lw_at lw_m9 14 rfl) rfl
theorem q2062 : (Jvm.Cond.methodLink "SagMemoryModel" (386 : Nat) ({ cls := "SagMemoryModel", name := "sagsNow", desc := "()I" } : Jvm.MethodName)) ∈ lw_all := lw_g (lw_at lw_m9 15 rfl) rfl
theorem q2063 : (Jvm.Cond.privateMethod ({ cls := "SagMemoryModel", name := "sagsNow", desc := "()I" } : Jvm.MethodName)) ∈ lw_tbl := lw_at lw_m9 16 rfl
theorem q2064 : (Jvm.Cond.instanceMethod ({ cls := "SagMemoryModel", name := "sagsNow", desc := "()I" } : Jvm.MethodName)) ∈ lw_all := lw_g (lw_at lw_m9 17 rfl) rfl
theorem q2065 : (Jvm.Cond.code ({ cls := "SagMemoryModel", name := "sagsNow", desc := "()I" } : Jvm.MethodName) prog_12_method_59_code (1 : Nat) (Option.some Jvm.ClassFile.FieldType.int)) ∈ lw_all := lw_g (lw_at lw_m9 18 rfl) rfl
theorem q2066 : (Jvm.Cond.methodLink "SagMemoryModel" (389 : Nat) ({ cls := "SagMemoryModel", name := "sagWithout", desc := "(I)I" } : Jvm.MethodName)) ∈ lw_all := lw_g (lw_at lw_m9 19 rfl) rfl
theorem q2067 : (Jvm.Cond.privateMethod ({ cls := "SagMemoryModel", name := "sagWithout", desc := "(I)I" } : Jvm.MethodName)) ∈ lw_tbl := lw_at lw_m9 20 rfl
theorem q2068 : (Jvm.Cond.instanceMethod ({ cls := "SagMemoryModel", name := "sagWithout", desc := "(I)I" } : Jvm.MethodName)) ∈ lw_all := lw_g (lw_at lw_m9 21 rfl) rfl
theorem q2069 : (Jvm.Cond.code ({ cls := "SagMemoryModel", name := "sagWithout", desc := "(I)I" } : Jvm.MethodName) prog_12_method_102_code (2 : Nat) (Option.some Jvm.ClassFile.FieldType.int)) ∈ lw_all := lw_g (lw_at lw_m9 22 rfl) rfl
theorem q2071 : (Jvm.Cond.instanceMethod ({ cls := "SagMemoryModel", name := "worst", desc := "()I" } : Jvm.MethodName)) ∈ lw_all := lw_g (lw_at lw_m9 24 rfl) rfl
theorem q2072 : (Jvm.Cond.selects "SagMemoryModel" ({ cls := "SagMemoryModel", name := "worst", desc := "()I" } : Jvm.MethodName) ({ cls := "SagMemoryModel", name := "worst", desc := "()I" } : Jvm.MethodName)) ∈ lw_all := lw_g (lw_at lw_m9 25 rfl) rfl
theorem q2073 : (Jvm.Cond.code ({ cls := "SagMemoryModel", name := "worst", desc := "()I" } : Jvm.MethodName) prog_12_method_104_code (5 : Nat) (Option.some Jvm.ClassFile.FieldType.int)) ∈ lw_all := lw_g (lw_at lw_m9 26 rfl) rfl
theorem q2075 : (Jvm.Cond.instanceMethod ({ cls := "SagMemoryModel", name := "forget", desc := "()I" } : Jvm.MethodName)) ∈ lw_all := lw_g (lw_at lw_m9 28 rfl) rfl
theorem q2076 : (Jvm.Cond.selects "SagMemoryModel" ({ cls := "SagMemoryModel", name := "forget", desc := "()I" } : Jvm.MethodName) ({ cls := "SagMemoryModel", name := "forget", desc := "()I" } : Jvm.MethodName)) ∈ lw_all := lw_g (lw_at lw_m9 29 rfl) rfl
theorem q2077 : (Jvm.Cond.code ({ cls := "SagMemoryModel", name := "forget", desc := "()I" } : Jvm.MethodName) prog_12_method_105_code (4 : Nat) (Option.some Jvm.ClassFile.FieldType.int)) ∈ lw_all := lw_g (lw_at lw_m9 30 rfl) rfl
theorem q2079 : (Jvm.Cond.instanceMethod ({ cls := "SagMemoryModel", name := "sets", desc := "(II)I" } : Jvm.MethodName)) ∈ lw_all := lw_g (lw_at lw_m9 32 rfl) rfl
theorem q2080 : (Jvm.Cond.selects "SagMemoryModel" ({ cls := "SagMemoryModel", name := "sets", desc := "(II)I" } : Jvm.MethodName) ({ cls := "SagMemoryModel", name := "sets", desc := "(II)I" } : Jvm.MethodName)) ∈ lw_all := lw_g (lw_at lw_m9 33 rfl) rfl
theorem q2081 : (Jvm.Cond.code ({ cls := "SagMemoryModel", name := "sets", desc := "(II)I" } : Jvm.MethodName) prog_12_method_109_code (4 : Nat) (Option.some Jvm.ClassFile.FieldType.int)) ∈ lw_all := lw_g (lw_at lw_m9 34 rfl) rfl
theorem q2082 : (Jvm.Cond.methodLink "SagMemoryModel" (416 : Nat) ({ cls := "SagMemoryModel", name := "whyNot", desc := "(II)I" } : Jvm.MethodName)) ∈ lw_all := lw_g (lw_at lw_m9 35 rfl) rfl
theorem q2083 : (Jvm.Cond.privateMethod ({ cls := "SagMemoryModel", name := "whyNot", desc := "(II)I" } : Jvm.MethodName)) ∈ lw_tbl := lw_at lw_m9 36 rfl
theorem q2084 : (Jvm.Cond.instanceMethod ({ cls := "SagMemoryModel", name := "whyNot", desc := "(II)I" } : Jvm.MethodName)) ∈ lw_all := lw_g (lw_at lw_m9 37 rfl) rfl
theorem q2085 : (Jvm.Cond.code ({ cls := "SagMemoryModel", name := "whyNot", desc := "(II)I" } : Jvm.MethodName) prog_12_method_106_code (3 : Nat) (Option.some Jvm.ClassFile.FieldType.int)) ∈ lw_all := lw_g (lw_at lw_m9 38 rfl) rfl
theorem q2086 : (Jvm.Cond.methodLink "SagMemoryModel" (419 : Nat) ({ cls := "SagMemoryModel", name := "laysSets", desc := "(II)V" } : Jvm.MethodName)) ∈ lw_all := lw_g (lw_at lw_m9 39 rfl) rfl
theorem q2087 : (Jvm.Cond.privateMethod ({ cls := "SagMemoryModel", name := "laysSets", desc := "(II)V" } : Jvm.MethodName)) ∈ lw_tbl := lw_at lw_m9 40 rfl
theorem q2088 : (Jvm.Cond.instanceMethod ({ cls := "SagMemoryModel", name := "laysSets", desc := "(II)V" } : Jvm.MethodName)) ∈ lw_all := lw_g (lw_at lw_m9 41 rfl) rfl
theorem q2089 : (Jvm.Cond.code ({ cls := "SagMemoryModel", name := "laysSets", desc := "(II)V" } : Jvm.MethodName) prog_12_method_108_code (6 : Nat) (Option.none : Option Jvm.ClassFile.FieldType)) ∈ lw_all := lw_g (lw_at lw_m9 42 rfl) rfl
theorem q2090 : (Jvm.Cond.methodLink "SagMemoryModel" (404 : Nat) ({ cls := "SagMemoryModel", name := "isLeft", desc := "(III)Z" } : Jvm.MethodName)) ∈ lw_all := lw_g (lw_at lw_m9 43 rfl) rfl
theorem q2091 : (Jvm.Cond.privateMethod ({ cls := "SagMemoryModel", name := "isLeft", desc := "(III)Z" } : Jvm.MethodName)) ∈ lw_tbl := lw_at lw_m9 44 rfl
theorem q2092 : (Jvm.Cond.instanceMethod ({ cls := "SagMemoryModel", name := "isLeft", desc := "(III)Z" } : Jvm.MethodName)) ∈ lw_all := lw_g (lw_at lw_m9 45 rfl) rfl
theorem q2093 : (Jvm.Cond.code ({ cls := "SagMemoryModel", name := "isLeft", desc := "(III)Z" } : Jvm.MethodName) prog_12_method_107_code (5 : Nat) (Option.some Jvm.ClassFile.FieldType.boolean)) ∈ lw_all := lw_g (lw_at lw_m9 46 rfl) rfl
theorem q2094 : (Jvm.Cond.methodLink "SagMemoryModel" (407 : Nat) ({ cls := "SagMemoryModel", name := "sizeOf", desc := "(I)I" } : Jvm.MethodName)) ∈ lw_all := lw_g (lw_at lw_m9 47 rfl) rfl
theorem q2095 : (Jvm.Cond.static ({ cls := "SagMemoryModel", name := "sizeOf", desc := "(I)I" } : Jvm.MethodName)) ∈ lw_all := lw_g (lw_at lw_m9 48 rfl) rfl
theorem q2096 : (Jvm.Cond.code ({ cls := "SagMemoryModel", name := "sizeOf", desc := "(I)I" } : Jvm.MethodName) prog_12_method_47_code (3 : Nat) (Option.some Jvm.ClassFile.FieldType.int)) ∈ lw_all := lw_g (lw_at lw_m9 49 rfl) rfl
theorem q2098 : (Jvm.Cond.instanceMethod ({ cls := "SagMemoryModel", name := "surely", desc := "(II)I" } : Jvm.MethodName)) ∈ lw_all := lw_g (lw_at lw_m9 51 rfl) rfl
theorem q2099 : (Jvm.Cond.selects "SagMemoryModel" ({ cls := "SagMemoryModel", name := "surely", desc := "(II)I" } : Jvm.MethodName) ({ cls := "SagMemoryModel", name := "surely", desc := "(II)I" } : Jvm.MethodName)) ∈ lw_all := lw_g (lw_at lw_m9 52 rfl) rfl
theorem q2100 : (Jvm.Cond.code ({ cls := "SagMemoryModel", name := "surely", desc := "(II)I" } : Jvm.MethodName) prog_12_method_110_code (4 : Nat) (Option.some Jvm.ClassFile.FieldType.int)) ∈ lw_all := lw_g (lw_at lw_m9 53 rfl) rfl
theorem q2102 : (Jvm.Cond.instanceMethod ({ cls := "SagMemoryModel", name := "never", desc := "(II)I" } : Jvm.MethodName)) ∈ lw_all := lw_g (lw_at lw_m9 55 rfl) rfl
theorem q2103 : (Jvm.Cond.selects "SagMemoryModel" ({ cls := "SagMemoryModel", name := "never", desc := "(II)I" } : Jvm.MethodName) ({ cls := "SagMemoryModel", name := "never", desc := "(II)I" } : Jvm.MethodName)) ∈ lw_all := lw_g (lw_at lw_m9 56 rfl) rfl
theorem q2104 : (Jvm.Cond.code ({ cls := "SagMemoryModel", name := "never", desc := "(II)I" } : Jvm.MethodName) prog_12_method_111_code (4 : Nat) (Option.some Jvm.ClassFile.FieldType.int)) ∈ lw_all := lw_g (lw_at lw_m9 57 rfl) rfl
theorem q2106 : (Jvm.Cond.instanceMethod ({ cls := "SagMemoryModel", name := "fewest", desc := "(II)I" } : Jvm.MethodName)) ∈ lw_all := lw_g (lw_at lw_m9 59 rfl) rfl
theorem q2107 : (Jvm.Cond.selects "SagMemoryModel" ({ cls := "SagMemoryModel", name := "fewest", desc := "(II)I" } : Jvm.MethodName) ({ cls := "SagMemoryModel", name := "fewest", desc := "(II)I" } : Jvm.MethodName)) ∈ lw_all := lw_g (lw_at lw_m9 60 rfl) rfl
theorem q2108 : (Jvm.Cond.code ({ cls := "SagMemoryModel", name := "fewest", desc := "(II)I" } : Jvm.MethodName) prog_12_method_112_code (4 : Nat) (Option.some Jvm.ClassFile.FieldType.int)) ∈ lw_all := lw_g (lw_at lw_m9 61 rfl) rfl
theorem q2110 : (Jvm.Cond.instanceMethod ({ cls := "SagMemoryModel", name := "ask", desc := "(II)I" } : Jvm.MethodName)) ∈ lw_all := lw_g (lw_at lw_m9 63 rfl) rfl
theorem q2111 : (Jvm.Cond.selects "SagMemoryModel" ({ cls := "SagMemoryModel", name := "ask", desc := "(II)I" } : Jvm.MethodName) ({ cls := "SagMemoryModel", name := "ask", desc := "(II)I" } : Jvm.MethodName)) ∈ lw_all := lw_g (lw_at lw_m9 64 rfl) rfl
theorem q2112 : (Jvm.Cond.code ({ cls := "SagMemoryModel", name := "ask", desc := "(II)I" } : Jvm.MethodName) prog_12_method_113_code (4 : Nat) (Option.some Jvm.ClassFile.FieldType.int)) ∈ lw_all := lw_g (lw_at lw_m9 65 rfl) rfl
theorem q2114 : (Jvm.Cond.instanceMethod ({ cls := "SagMemoryModel", name := "leaves", desc := "(II)I" } : Jvm.MethodName)) ∈ lw_all := lw_g (lw_at lw_m9 67 rfl) rfl
theorem q2115 : (Jvm.Cond.selects "SagMemoryModel" ({ cls := "SagMemoryModel", name := "leaves", desc := "(II)I" } : Jvm.MethodName) ({ cls := "SagMemoryModel", name := "leaves", desc := "(II)I" } : Jvm.MethodName)) ∈ lw_all := lw_g (lw_at lw_m9 68 rfl) rfl
theorem q2116 : (Jvm.Cond.code ({ cls := "SagMemoryModel", name := "leaves", desc := "(II)I" } : Jvm.MethodName) prog_12_method_114_code (4 : Nat) (Option.some Jvm.ClassFile.FieldType.int)) ∈ lw_all := lw_g (lw_at lw_m9 69 rfl) rfl
theorem q2118 : (Jvm.Cond.instanceMethod ({ cls := "SagMemoryModel", name := "loads", desc := "(II)I" } : Jvm.MethodName)) ∈ lw_all := lw_g (lw_at lw_m9 71 rfl) rfl
theorem q2119 : (Jvm.Cond.selects "SagMemoryModel" ({ cls := "SagMemoryModel", name := "loads", desc := "(II)I" } : Jvm.MethodName) ({ cls := "SagMemoryModel", name := "loads", desc := "(II)I" } : Jvm.MethodName)) ∈ lw_all := lw_g (lw_at lw_m9 72 rfl) rfl
theorem q2120 : (Jvm.Cond.code ({ cls := "SagMemoryModel", name := "loads", desc := "(II)I" } : Jvm.MethodName) prog_12_method_119_code (4 : Nat) (Option.some Jvm.ClassFile.FieldType.int)) ∈ lw_all := lw_g (lw_at lw_m9 73 rfl) rfl
theorem q2121 : (Jvm.Cond.methodLink "SagMemoryModel" (439 : Nat) ({ cls := "SagMemoryModel", name := "whyNotLoads", desc := "(II)I" } : Jvm.MethodName)) ∈ lw_all := lw_g (lw_at lw_m9 74 rfl) rfl
theorem q2122 : (Jvm.Cond.privateMethod ({ cls := "SagMemoryModel", name := "whyNotLoads", desc := "(II)I" } : Jvm.MethodName)) ∈ lw_tbl := lw_at lw_m9 75 rfl
theorem q2123 : (Jvm.Cond.instanceMethod ({ cls := "SagMemoryModel", name := "whyNotLoads", desc := "(II)I" } : Jvm.MethodName)) ∈ lw_all := lw_g (lw_at lw_m9 76 rfl) rfl
theorem q2124 : (Jvm.Cond.code ({ cls := "SagMemoryModel", name := "whyNotLoads", desc := "(II)I" } : Jvm.MethodName) prog_12_method_116_code (3 : Nat) (Option.some Jvm.ClassFile.FieldType.int)) ∈ lw_all := lw_g (lw_at lw_m9 77 rfl) rfl
theorem q2125 : (Jvm.Cond.methodLink "SagMemoryModel" (424 : Nat) ({ cls := "SagMemoryModel", name := "whyNotSags", desc := "(I)I" } : Jvm.MethodName)) ∈ lw_all := lw_g (lw_at lw_m9 78 rfl) rfl
theorem q2126 : (Jvm.Cond.privateMethod ({ cls := "SagMemoryModel", name := "whyNotSags", desc := "(I)I" } : Jvm.MethodName)) ∈ lw_tbl := lw_at lw_m9 79 rfl
theorem q2127 : (Jvm.Cond.instanceMethod ({ cls := "SagMemoryModel", name := "whyNotSags", desc := "(I)I" } : Jvm.MethodName)) ∈ lw_all := lw_g (lw_at lw_m9 80 rfl) rfl
theorem q2128 : (Jvm.Cond.code ({ cls := "SagMemoryModel", name := "whyNotSags", desc := "(I)I" } : Jvm.MethodName) prog_12_method_115_code (4 : Nat) (Option.some Jvm.ClassFile.FieldType.int)) ∈ lw_all := lw_g (lw_at lw_m9 81 rfl) rfl
theorem q2129 : (Jvm.Cond.constantLong "SagMemoryModel" (422 : Nat) (999 : Int64)) ∈ lw_all := lw_g (lw_at lw_m9 82 rfl) rfl
theorem q2130 : (Jvm.Cond.methodLink "SagMemoryModel" (442 : Nat) ({ cls := "SagMemoryModel", name := "laysLies", desc := "(II)V" } : Jvm.MethodName)) ∈ lw_all := lw_g (lw_at lw_m9 83 rfl) rfl
theorem q2131 : (Jvm.Cond.privateMethod ({ cls := "SagMemoryModel", name := "laysLies", desc := "(II)V" } : Jvm.MethodName)) ∈ lw_tbl := lw_at lw_m9 84 rfl
theorem q2132 : (Jvm.Cond.instanceMethod ({ cls := "SagMemoryModel", name := "laysLies", desc := "(II)V" } : Jvm.MethodName)) ∈ lw_all := lw_g (lw_at lw_m9 85 rfl) rfl
theorem q2133 : (Jvm.Cond.code ({ cls := "SagMemoryModel", name := "laysLies", desc := "(II)V" } : Jvm.MethodName) prog_12_method_118_code (4 : Nat) (Option.none : Option Jvm.ClassFile.FieldType)) ∈ lw_all := lw_g (lw_at lw_m9 86 rfl) rfl
theorem q2134 : (Jvm.Cond.methodLink "SagMemoryModel" (436 : Nat) ({ cls := "SagMemoryModel", name := "isSo", desc := "(I)Z" } : Jvm.MethodName)) ∈ lw_all := lw_g (lw_at lw_m9 87 rfl) rfl
theorem q2135 : (Jvm.Cond.privateMethod ({ cls := "SagMemoryModel", name := "isSo", desc := "(I)Z" } : Jvm.MethodName)) ∈ lw_tbl := lw_at lw_m9 88 rfl
theorem q2136 : (Jvm.Cond.instanceMethod ({ cls := "SagMemoryModel", name := "isSo", desc := "(I)Z" } : Jvm.MethodName)) ∈ lw_all := lw_g (lw_at lw_m9 89 rfl) rfl
theorem q2137 : (Jvm.Cond.code ({ cls := "SagMemoryModel", name := "isSo", desc := "(I)Z" } : Jvm.MethodName) prog_12_method_117_code (4 : Nat) (Option.some Jvm.ClassFile.FieldType.boolean)) ∈ lw_all := lw_g (lw_at lw_m9 90 rfl) rfl
theorem q2139 : (Jvm.Cond.instanceMethod ({ cls := "SagMemoryModel", name := "light", desc := "(II)I" } : Jvm.MethodName)) ∈ lw_all := lw_g (lw_at lw_m9 92 rfl) rfl
theorem q2140 : (Jvm.Cond.selects "SagMemoryModel" ({ cls := "SagMemoryModel", name := "light", desc := "(II)I" } : Jvm.MethodName) ({ cls := "SagMemoryModel", name := "light", desc := "(II)I" } : Jvm.MethodName)) ∈ lw_all := lw_g (lw_at lw_m9 93 rfl) rfl
theorem q2141 : (Jvm.Cond.code ({ cls := "SagMemoryModel", name := "light", desc := "(II)I" } : Jvm.MethodName) prog_12_method_120_code (4 : Nat) (Option.some Jvm.ClassFile.FieldType.int)) ∈ lw_all := lw_g (lw_at lw_m9 94 rfl) rfl
theorem q2143 : (Jvm.Cond.instanceMethod ({ cls := "SagMemoryModel", name := "heavy", desc := "(II)I" } : Jvm.MethodName)) ∈ lw_all := lw_g (lw_at lw_m9 96 rfl) rfl
theorem q2144 : (Jvm.Cond.selects "SagMemoryModel" ({ cls := "SagMemoryModel", name := "heavy", desc := "(II)I" } : Jvm.MethodName) ({ cls := "SagMemoryModel", name := "heavy", desc := "(II)I" } : Jvm.MethodName)) ∈ lw_all := lw_g (lw_at lw_m9 97 rfl) rfl
theorem q2145 : (Jvm.Cond.code ({ cls := "SagMemoryModel", name := "heavy", desc := "(II)I" } : Jvm.MethodName) prog_12_method_121_code (4 : Nat) (Option.some Jvm.ClassFile.FieldType.int)) ∈ lw_all := lw_g (lw_at lw_m9 98 rfl) rfl
theorem q2147 : (Jvm.Cond.instanceMethod ({ cls := "SagMemoryModel", name := "liars", desc := "(I)I" } : Jvm.MethodName)) ∈ lw_all := lw_g (lw_at lw_m9 100 rfl) rfl
theorem q2148 : (Jvm.Cond.selects "SagMemoryModel" ({ cls := "SagMemoryModel", name := "liars", desc := "(I)I" } : Jvm.MethodName) ({ cls := "SagMemoryModel", name := "liars", desc := "(I)I" } : Jvm.MethodName)) ∈ lw_all := lw_g (lw_at lw_m9 101 rfl) rfl
theorem q2149 : (Jvm.Cond.code ({ cls := "SagMemoryModel", name := "liars", desc := "(I)I" } : Jvm.MethodName) prog_12_method_122_code (5 : Nat) (Option.some Jvm.ClassFile.FieldType.int)) ∈ lw_all := lw_g (lw_at lw_m9 102 rfl) rfl
theorem q2151 : (Jvm.Cond.instanceMethod ({ cls := "SagMemoryModel", name := "laws", desc := "(I)I" } : Jvm.MethodName)) ∈ lw_all := lw_g (lw_at lw_m9 104 rfl) rfl
theorem q2152 : (Jvm.Cond.selects "SagMemoryModel" ({ cls := "SagMemoryModel", name := "laws", desc := "(I)I" } : Jvm.MethodName) ({ cls := "SagMemoryModel", name := "laws", desc := "(I)I" } : Jvm.MethodName)) ∈ lw_all := lw_g (lw_at lw_m9 105 rfl) rfl
theorem q2153 : (Jvm.Cond.code ({ cls := "SagMemoryModel", name := "laws", desc := "(I)I" } : Jvm.MethodName) prog_12_method_124_code (5 : Nat) (Option.some Jvm.ClassFile.FieldType.int)) ∈ lw_all := lw_g (lw_at lw_m9 106 rfl) rfl
theorem q2154 : (Jvm.Cond.methodLink "SagMemoryModel" (445 : Nat) ({ cls := "SagMemoryModel", name := "sagBy", desc := "(I)I" } : Jvm.MethodName)) ∈ lw_all := lw_g (lw_at lw_m9 107 rfl) rfl
theorem q2155 : (Jvm.Cond.privateMethod ({ cls := "SagMemoryModel", name := "sagBy", desc := "(I)I" } : Jvm.MethodName)) ∈ lw_tbl := lw_at lw_m9 108 rfl
theorem q2156 : (Jvm.Cond.instanceMethod ({ cls := "SagMemoryModel", name := "sagBy", desc := "(I)I" } : Jvm.MethodName)) ∈ lw_all := lw_g (lw_at lw_m9 109 rfl) rfl
theorem q2157 : (Jvm.Cond.code ({ cls := "SagMemoryModel", name := "sagBy", desc := "(I)I" } : Jvm.MethodName) prog_12_method_123_code (2 : Nat) (Option.some Jvm.ClassFile.FieldType.int)) ∈ lw_all := lw_g (lw_at lw_m9 110 rfl) rfl
theorem q2159 : (Jvm.Cond.instanceMethod ({ cls := "SagMemoryModel", name := "by", desc := "(I)I" } : Jvm.MethodName)) ∈ lw_all := lw_g (lw_at lw_m9 112 rfl) rfl
theorem q2160 : (Jvm.Cond.selects "SagMemoryModel" ({ cls := "SagMemoryModel", name := "by", desc := "(I)I" } : Jvm.MethodName) ({ cls := "SagMemoryModel", name := "by", desc := "(I)I" } : Jvm.MethodName)) ∈ lw_all := lw_g (lw_at lw_m9 113 rfl) rfl
theorem q2161 : (Jvm.Cond.code ({ cls := "SagMemoryModel", name := "by", desc := "(I)I" } : Jvm.MethodName) prog_12_method_125_code (2 : Nat) (Option.some Jvm.ClassFile.FieldType.int)) ∈ lw_all := lw_g (lw_at lw_m9 114 rfl) rfl
theorem q2163 : (Jvm.Cond.instanceMethod ({ cls := "SagMemoryModel", name := "law", desc := "()I" } : Jvm.MethodName)) ∈ lw_all := lw_g (lw_at lw_m9 116 rfl) rfl
theorem q2164 : (Jvm.Cond.selects "SagMemoryModel" ({ cls := "SagMemoryModel", name := "law", desc := "()I" } : Jvm.MethodName) ({ cls := "SagMemoryModel", name := "law", desc := "()I" } : Jvm.MethodName)) ∈ lw_all := lw_g (lw_at lw_m9 117 rfl) rfl
theorem q2165 : (Jvm.Cond.code ({ cls := "SagMemoryModel", name := "law", desc := "()I" } : Jvm.MethodName) prog_12_method_126_code (3 : Nat) (Option.some Jvm.ClassFile.FieldType.int)) ∈ lw_all := lw_g (lw_at lw_m9 118 rfl) rfl
theorem q2167 : (Jvm.Cond.instanceMethod ({ cls := "SagMemoryModel", name := "share", desc := "(II)I" } : Jvm.MethodName)) ∈ lw_all := lw_g (lw_at lw_m9 120 rfl) rfl
theorem q2168 : (Jvm.Cond.selects "SagMemoryModel" ({ cls := "SagMemoryModel", name := "share", desc := "(II)I" } : Jvm.MethodName) ({ cls := "SagMemoryModel", name := "share", desc := "(II)I" } : Jvm.MethodName)) ∈ lw_all := lw_g (lw_at lw_m9 121 rfl) rfl
theorem q2169 : (Jvm.Cond.code ({ cls := "SagMemoryModel", name := "share", desc := "(II)I" } : Jvm.MethodName) prog_12_method_130_code (8 : Nat) (Option.some Jvm.ClassFile.FieldType.int)) ∈ lw_all := lw_g (lw_at lw_m9 122 rfl) rfl
theorem q2170 : (Jvm.Cond.methodLink "SagMemoryModel" (448 : Nat) ({ cls := "SagMemoryModel", name := "times", desc := "(I)J" } : Jvm.MethodName)) ∈ lw_all := lw_g (lw_at lw_m9 123 rfl) rfl
theorem q2171 : (Jvm.Cond.static ({ cls := "SagMemoryModel", name := "times", desc := "(I)J" } : Jvm.MethodName)) ∈ lw_all := lw_g (lw_at lw_m9 124 rfl) rfl
theorem q2172 : (Jvm.Cond.code ({ cls := "SagMemoryModel", name := "times", desc := "(I)J" } : Jvm.MethodName) prog_12_method_127_code (1 : Nat) (Option.some Jvm.ClassFile.FieldType.long)) ∈ lw_all := lw_g (lw_at lw_m9 125 rfl) rfl
theorem q2173 : (Jvm.Cond.methodLink "SagMemoryModel" (456 : Nat) ({ cls := "SagMemoryModel", name := "part", desc := "(JJI)J" } : Jvm.MethodName)) ∈ lw_all := lw_g (lw_at lw_m9 126 rfl) rfl
theorem q2174 : (Jvm.Cond.static ({ cls := "SagMemoryModel", name := "part", desc := "(JJI)J" } : Jvm.MethodName)) ∈ lw_all := lw_g (lw_at lw_m9 127 rfl) rfl
theorem q2175 : (Jvm.Cond.code ({ cls := "SagMemoryModel", name := "part", desc := "(JJI)J" } : Jvm.MethodName) prog_12_method_129_code (5 : Nat) (Option.some Jvm.ClassFile.FieldType.long)) ∈ lw_all := lw_g (lw_at lw_m9 128 rfl) rfl
theorem q2176 : (Jvm.Cond.methodLink "SagMemoryModel" (452 : Nat) ({ cls := "SagMemoryModel", name := "common", desc := "(JJ)J" } : Jvm.MethodName)) ∈ lw_all := lw_g (lw_at lw_m9 129 rfl) rfl
theorem q2177 : (Jvm.Cond.static ({ cls := "SagMemoryModel", name := "common", desc := "(JJ)J" } : Jvm.MethodName)) ∈ lw_all := lw_g (lw_at lw_m9 130 rfl) rfl
theorem q2178 : (Jvm.Cond.code ({ cls := "SagMemoryModel", name := "common", desc := "(JJ)J" } : Jvm.MethodName) prog_12_method_128_code (4 : Nat) (Option.some Jvm.ClassFile.FieldType.long)) ∈ lw_all := lw_g (lw_at lw_m9 131 rfl) rfl
theorem q2180 : (Jvm.Cond.instanceMethod ({ cls := "SagMemoryModel", name := "rests", desc := "(II)I" } : Jvm.MethodName)) ∈ lw_all := lw_g (lw_at lw_m9 133 rfl) rfl
theorem q2181 : (Jvm.Cond.selects "SagMemoryModel" ({ cls := "SagMemoryModel", name := "rests", desc := "(II)I" } : Jvm.MethodName) ({ cls := "SagMemoryModel", name := "rests", desc := "(II)I" } : Jvm.MethodName)) ∈ lw_all := lw_g (lw_at lw_m9 134 rfl) rfl
theorem q2182 : (Jvm.Cond.code ({ cls := "SagMemoryModel", name := "rests", desc := "(II)I" } : Jvm.MethodName) prog_12_method_134_code (6 : Nat) (Option.some Jvm.ClassFile.FieldType.int)) ∈ lw_all := lw_g (lw_at lw_m9 135 rfl) rfl
theorem q2183 : (Jvm.Cond.methodLink "SagMemoryModel" (463 : Nat) ({ cls := "SagMemoryModel", name := "areTwo", desc := "(II)Z" } : Jvm.MethodName)) ∈ lw_all := lw_g (lw_at lw_m9 136 rfl) rfl
theorem q2184 : (Jvm.Cond.privateMethod ({ cls := "SagMemoryModel", name := "areTwo", desc := "(II)Z" } : Jvm.MethodName)) ∈ lw_tbl := lw_at lw_m9 137 rfl
theorem q2185 : (Jvm.Cond.instanceMethod ({ cls := "SagMemoryModel", name := "areTwo", desc := "(II)Z" } : Jvm.MethodName)) ∈ lw_all := lw_g (lw_at lw_m9 138 rfl) rfl
theorem q2186 : (Jvm.Cond.code ({ cls := "SagMemoryModel", name := "areTwo", desc := "(II)Z" } : Jvm.MethodName) prog_12_method_43_code (3 : Nat) (Option.some Jvm.ClassFile.FieldType.boolean)) ∈ lw_all := lw_g (lw_at lw_m9 139 rfl) rfl
theorem q2187 : (Jvm.Cond.methodLink "SagMemoryModel" (466 : Nat) ({ cls := "SagMemoryModel", name := "laysGame", desc := "(II)V" } : Jvm.MethodName)) ∈ lw_all := lw_g (lw_at lw_m9 140 rfl) rfl
theorem q2188 : (Jvm.Cond.privateMethod ({ cls := "SagMemoryModel", name := "laysGame", desc := "(II)V" } : Jvm.MethodName)) ∈ lw_tbl := lw_at lw_m9 141 rfl
theorem q2189 : (Jvm.Cond.instanceMethod ({ cls := "SagMemoryModel", name := "laysGame", desc := "(II)V" } : Jvm.MethodName)) ∈ lw_all := lw_g (lw_at lw_m9 142 rfl) rfl
theorem q2190 : (Jvm.Cond.code ({ cls := "SagMemoryModel", name := "laysGame", desc := "(II)V" } : Jvm.MethodName) prog_12_method_132_code (5 : Nat) (Option.none : Option Jvm.ClassFile.FieldType)) ∈ lw_all := lw_g (lw_at lw_m9 143 rfl) rfl
theorem q2191 : (Jvm.Cond.methodLink "SagMemoryModel" (460 : Nat) ({ cls := "SagMemoryModel", name := "lossOf", desc := "(I)I" } : Jvm.MethodName)) ∈ lw_all := lw_g (lw_at lw_m9 144 rfl) rfl
theorem q2192 : (Jvm.Cond.privateMethod ({ cls := "SagMemoryModel", name := "lossOf", desc := "(I)I" } : Jvm.MethodName)) ∈ lw_tbl := lw_at lw_m9 145 rfl
theorem q2193 : (Jvm.Cond.instanceMethod ({ cls := "SagMemoryModel", name := "lossOf", desc := "(I)I" } : Jvm.MethodName)) ∈ lw_all := lw_g (lw_at lw_m9 146 rfl) rfl
theorem q2194 : (Jvm.Cond.code ({ cls := "SagMemoryModel", name := "lossOf", desc := "(I)I" } : Jvm.MethodName) prog_12_method_131_code (2 : Nat) (Option.some Jvm.ClassFile.FieldType.int)) ∈ lw_all := lw_g (lw_at lw_m9 147 rfl) rfl
theorem q2195 : (Jvm.Cond.methodLink "SagMemoryModel" (469 : Nat) ({ cls := "SagMemoryModel", name := "isRest", desc := "(II)Z" } : Jvm.MethodName)) ∈ lw_all := lw_g (lw_at lw_m9 148 rfl) rfl
theorem q2196 : (Jvm.Cond.privateMethod ({ cls := "SagMemoryModel", name := "isRest", desc := "(II)Z" } : Jvm.MethodName)) ∈ lw_tbl := lw_at lw_m9 149 rfl
theorem q2197 : (Jvm.Cond.instanceMethod ({ cls := "SagMemoryModel", name := "isRest", desc := "(II)Z" } : Jvm.MethodName)) ∈ lw_all := lw_g (lw_at lw_m9 150 rfl) rfl
theorem q2198 : (Jvm.Cond.code ({ cls := "SagMemoryModel", name := "isRest", desc := "(II)Z" } : Jvm.MethodName) prog_12_method_133_code (4 : Nat) (Option.some Jvm.ClassFile.FieldType.boolean)) ∈ lw_all := lw_g (lw_at lw_m9 151 rfl) rfl
theorem q2200 : (Jvm.Cond.instanceMethod ({ cls := "SagMemoryModel", name := "rest", desc := "(II)I" } : Jvm.MethodName)) ∈ lw_all := lw_g (lw_at lw_m9 153 rfl) rfl
theorem q2201 : (Jvm.Cond.selects "SagMemoryModel" ({ cls := "SagMemoryModel", name := "rest", desc := "(II)I" } : Jvm.MethodName) ({ cls := "SagMemoryModel", name := "rest", desc := "(II)I" } : Jvm.MethodName)) ∈ lw_all := lw_g (lw_at lw_m9 154 rfl) rfl
theorem q2202 : (Jvm.Cond.code ({ cls := "SagMemoryModel", name := "rest", desc := "(II)I" } : Jvm.MethodName) prog_12_method_135_code (5 : Nat) (Option.some Jvm.ClassFile.FieldType.int)) ∈ lw_all := lw_g (lw_at lw_m9 155 rfl) rfl
theorem q2204 : (Jvm.Cond.instanceMethod ({ cls := "SagMemoryModel", name := "chance", desc := "(II)I" } : Jvm.MethodName)) ∈ lw_all := lw_g (lw_at lw_m9 157 rfl) rfl
theorem q2205 : (Jvm.Cond.selects "SagMemoryModel" ({ cls := "SagMemoryModel", name := "chance", desc := "(II)I" } : Jvm.MethodName) ({ cls := "SagMemoryModel", name := "chance", desc := "(II)I" } : Jvm.MethodName)) ∈ lw_all := lw_g (lw_at lw_m9 158 rfl) rfl
theorem q2206 : (Jvm.Cond.code ({ cls := "SagMemoryModel", name := "chance", desc := "(II)I" } : Jvm.MethodName) prog_12_method_138_code (3 : Nat) (Option.some Jvm.ClassFile.FieldType.int)) ∈ lw_all := lw_g (lw_at lw_m9 159 rfl) rfl
theorem q2207 : (Jvm.Cond.methodLink "SagMemoryModel" (474 : Nat) ({ cls := "SagMemoryModel", name := "weightOf", desc := "(IZ)J" } : Jvm.MethodName)) ∈ lw_all := lw_g (lw_at lw_m9 160 rfl) rfl
theorem q2208 : (Jvm.Cond.privateMethod ({ cls := "SagMemoryModel", name := "weightOf", desc := "(IZ)J" } : Jvm.MethodName)) ∈ lw_tbl := lw_at lw_m9 161 rfl
theorem q2209 : (Jvm.Cond.instanceMethod ({ cls := "SagMemoryModel", name := "weightOf", desc := "(IZ)J" } : Jvm.MethodName)) ∈ lw_all := lw_g (lw_at lw_m9 162 rfl) rfl
theorem q2210 : (Jvm.Cond.code ({ cls := "SagMemoryModel", name := "weightOf", desc := "(IZ)J" } : Jvm.MethodName) prog_12_method_137_code (9 : Nat) (Option.some Jvm.ClassFile.FieldType.long)) ∈ lw_all := lw_g (lw_at lw_m9 163 rfl) rfl
theorem q2211 : (Jvm.Cond.methodLink "SagMemoryModel" (478 : Nat) ({ cls := "SagMemoryModel", name := "tens", desc := "()J" } : Jvm.MethodName)) ∈ lw_all := lw_g (lw_at lw_m9 164 rfl) rfl
theorem q2212 : (Jvm.Cond.privateMethod ({ cls := "SagMemoryModel", name := "tens", desc := "()J" } : Jvm.MethodName)) ∈ lw_tbl := lw_at lw_m9 165 rfl
theorem q2213 : (Jvm.Cond.instanceMethod ({ cls := "SagMemoryModel", name := "tens", desc := "()J" } : Jvm.MethodName)) ∈ lw_all := lw_g (lw_at lw_m9 166 rfl) rfl
theorem q2214 : (Jvm.Cond.code ({ cls := "SagMemoryModel", name := "tens", desc := "()J" } : Jvm.MethodName) prog_12_method_136_code (4 : Nat) (Option.some Jvm.ClassFile.FieldType.long)) ∈ lw_all := lw_g (lw_at lw_m9 167 rfl) rfl
theorem q2215 : (Jvm.Cond.constantLong "SagMemoryModel" (472 : Nat) (10 : Int64)) ∈ lw_all := lw_g (lw_at lw_m9 168 rfl) rfl
theorem q2217 : (Jvm.Cond.instanceMethod ({ cls := "SagMemoryModel", name := "mean", desc := "(II)J" } : Jvm.MethodName)) ∈ lw_all := lw_g (lw_at lw_m9 170 rfl) rfl
theorem q2218 : (Jvm.Cond.selects "SagMemoryModel" ({ cls := "SagMemoryModel", name := "mean", desc := "(II)J" } : Jvm.MethodName) ({ cls := "SagMemoryModel", name := "mean", desc := "(II)J" } : Jvm.MethodName)) ∈ lw_all := lw_g (lw_at lw_m9 171 rfl) rfl
theorem q2219 : (Jvm.Cond.code ({ cls := "SagMemoryModel", name := "mean", desc := "(II)J" } : Jvm.MethodName) prog_12_method_139_code (3 : Nat) (Option.some Jvm.ClassFile.FieldType.long)) ∈ lw_all := lw_g (lw_at lw_m9 172 rfl) rfl
theorem q2220 : (Jvm.Cond.constantLong "SagMemoryModel" (482 : Nat) (-2 : Int64)) ∈ lw_all := lw_g (lw_at lw_m9 173 rfl) rfl
theorem q2222 : (Jvm.Cond.instanceMethod ({ cls := "SagMemoryModel", name := "drawn", desc := "(II)I" } : Jvm.MethodName)) ∈ lw_all := lw_g (lw_at lw_m9 175 rfl) rfl
theorem q2223 : (Jvm.Cond.selects "SagMemoryModel" ({ cls := "SagMemoryModel", name := "drawn", desc := "(II)I" } : Jvm.MethodName) ({ cls := "SagMemoryModel", name := "drawn", desc := "(II)I" } : Jvm.MethodName)) ∈ lw_all := lw_g (lw_at lw_m9 176 rfl) rfl
theorem q2224 : (Jvm.Cond.code ({ cls := "SagMemoryModel", name := "drawn", desc := "(II)I" } : Jvm.MethodName) prog_12_method_142_code (3 : Nat) (Option.some Jvm.ClassFile.FieldType.int)) ∈ lw_all := lw_g (lw_at lw_m9 177 rfl) rfl
theorem q2225 : (Jvm.Cond.methodLink "SagMemoryModel" (494 : Nat) ({ cls := "SagMemoryModel", name := "isSeed", desc := "(I)Z" } : Jvm.MethodName)) ∈ lw_all := lw_g (lw_at lw_m9 178 rfl) rfl
theorem q2226 : (Jvm.Cond.static ({ cls := "SagMemoryModel", name := "isSeed", desc := "(I)Z" } : Jvm.MethodName)) ∈ lw_all := lw_g (lw_at lw_m9 179 rfl) rfl
theorem q2227 : (Jvm.Cond.code ({ cls := "SagMemoryModel", name := "isSeed", desc := "(I)Z" } : Jvm.MethodName) prog_12_method_141_code (1 : Nat) (Option.some Jvm.ClassFile.FieldType.boolean)) ∈ lw_all := lw_g (lw_at lw_m9 180 rfl) rfl
theorem q2228 : (Jvm.Cond.constantLong "SagMemoryModel" (492 : Nat) (2000000000 : Int64)) ∈ lw_all := lw_g (lw_at lw_m9 181 rfl) rfl
theorem q2229 : (Jvm.Cond.methodLink "SagMemoryModel" (497 : Nat) ({ cls := "SagMemoryModel", name := "draws", desc := "(J)V" } : Jvm.MethodName)) ∈ lw_all := lw_g (lw_at lw_m9 182 rfl) rfl
theorem q2230 : (Jvm.Cond.privateMethod ({ cls := "SagMemoryModel", name := "draws", desc := "(J)V" } : Jvm.MethodName)) ∈ lw_tbl := lw_at lw_m9 183 rfl
theorem q2231 : (Jvm.Cond.instanceMethod ({ cls := "SagMemoryModel", name := "draws", desc := "(J)V" } : Jvm.MethodName)) ∈ lw_all := lw_g (lw_at lw_m9 184 rfl) rfl
theorem q2232 : (Jvm.Cond.code ({ cls := "SagMemoryModel", name := "draws", desc := "(J)V" } : Jvm.MethodName) prog_12_method_140_code (6 : Nat) (Option.none : Option Jvm.ClassFile.FieldType)) ∈ lw_all := lw_g (lw_at lw_m9 185 rfl) rfl
theorem q2233 : (Jvm.Cond.constantLong "SagMemoryModel" (484 : Nat) (1103515245 : Int64)) ∈ lw_all := lw_g (lw_at lw_m9 186 rfl) rfl
theorem q2234 : (Jvm.Cond.constantLong "SagMemoryModel" (486 : Nat) (12345 : Int64)) ∈ lw_all := lw_g (lw_at lw_m9 187 rfl) rfl
theorem q2235 : (Jvm.Cond.constantLong "SagMemoryModel" (488 : Nat) (2147483648 : Int64)) ∈ lw_all := lw_g (lw_at lw_m9 188 rfl) rfl
theorem q2236 : (Jvm.Cond.constantLong "SagMemoryModel" (490 : Nat) (65536 : Int64)) ∈ lw_all := lw_g (lw_at lw_m9 189 rfl) rfl
theorem q2238 : (Jvm.Cond.instanceMethod ({ cls := "SagMemoryModel", name := "luck", desc := "(III)I" } : Jvm.MethodName)) ∈ lw_all := lw_g (lw_at lw_m9 191 rfl) rfl
theorem q2239 : (Jvm.Cond.selects "SagMemoryModel" ({ cls := "SagMemoryModel", name := "luck", desc := "(III)I" } : Jvm.MethodName) ({ cls := "SagMemoryModel", name := "luck", desc := "(III)I" } : Jvm.MethodName)) ∈ lw_all := lw_g (lw_at lw_m9 192 rfl) rfl
theorem q2240 : (Jvm.Cond.code ({ cls := "SagMemoryModel", name := "luck", desc := "(III)I" } : Jvm.MethodName) prog_12_method_143_code (6 : Nat) (Option.some Jvm.ClassFile.FieldType.int)) ∈ lw_all := lw_g (lw_at lw_m9 193 rfl) rfl
theorem q2241 : (Jvm.Cond.constantLong "SagMemoryModel" (500 : Nat) (20 : Int64)) ∈ lw_all := lw_g (lw_at lw_m9 194 rfl) rfl
theorem q2243 : (Jvm.Cond.instanceMethod ({ cls := "SagMemoryModel", name := "send", desc := "(II)I" } : Jvm.MethodName)) ∈ lw_all := lw_g (lw_at lw_m9 196 rfl) rfl
theorem q2244 : (Jvm.Cond.selects "SagMemoryModel" ({ cls := "SagMemoryModel", name := "send", desc := "(II)I" } : Jvm.MethodName) ({ cls := "SagMemoryModel", name := "send", desc := "(II)I" } : Jvm.MethodName)) ∈ lw_all := lw_g (lw_at lw_m9 197 rfl) rfl
theorem q2245 : (Jvm.Cond.code ({ cls := "SagMemoryModel", name := "send", desc := "(II)I" } : Jvm.MethodName) prog_12_method_145_code (3 : Nat) (Option.some Jvm.ClassFile.FieldType.int)) ∈ lw_all := lw_g (lw_at lw_m9 198 rfl) rfl
theorem q2246 : (Jvm.Cond.methodLink "SagMemoryModel" (502 : Nat) ({ cls := "SagMemoryModel", name := "does", desc := "(III)V" } : Jvm.MethodName)) ∈ lw_all := lw_g (lw_at lw_m9 199 rfl) rfl
theorem q2247 : (Jvm.Cond.privateMethod ({ cls := "SagMemoryModel", name := "does", desc := "(III)V" } : Jvm.MethodName)) ∈ lw_tbl := lw_at lw_m9 200 rfl
theorem q2248 : (Jvm.Cond.instanceMethod ({ cls := "SagMemoryModel", name := "does", desc := "(III)V" } : Jvm.MethodName)) ∈ lw_all := lw_g (lw_at lw_m9 201 rfl) rfl
theorem q2249 : (Jvm.Cond.code ({ cls := "SagMemoryModel", name := "does", desc := "(III)V" } : Jvm.MethodName) prog_12_method_144_code (5 : Nat) (Option.none : Option Jvm.ClassFile.FieldType)) ∈ lw_all := lw_g (lw_at lw_m9 202 rfl) rfl
theorem q2251 : (Jvm.Cond.instanceMethod ({ cls := "SagMemoryModel", name := "freeze", desc := "(II)I" } : Jvm.MethodName)) ∈ lw_all := lw_g (lw_at lw_m9 204 rfl) rfl
theorem q2252 : (Jvm.Cond.selects "SagMemoryModel" ({ cls := "SagMemoryModel", name := "freeze", desc := "(II)I" } : Jvm.MethodName) ({ cls := "SagMemoryModel", name := "freeze", desc := "(II)I" } : Jvm.MethodName)) ∈ lw_all := lw_g (lw_at lw_m9 205 rfl) rfl
theorem q2253 : (Jvm.Cond.code ({ cls := "SagMemoryModel", name := "freeze", desc := "(II)I" } : Jvm.MethodName) prog_12_method_146_code (3 : Nat) (Option.some Jvm.ClassFile.FieldType.int)) ∈ lw_all := lw_g (lw_at lw_m9 206 rfl) rfl
theorem q2255 : (Jvm.Cond.instanceMethod ({ cls := "SagMemoryModel", name := "undo", desc := "()I" } : Jvm.MethodName)) ∈ lw_all := lw_g (lw_at lw_m9 208 rfl) rfl
theorem q2256 : (Jvm.Cond.selects "SagMemoryModel" ({ cls := "SagMemoryModel", name := "undo", desc := "()I" } : Jvm.MethodName) ({ cls := "SagMemoryModel", name := "undo", desc := "()I" } : Jvm.MethodName)) ∈ lw_all := lw_g (lw_at lw_m9 209 rfl) rfl
theorem q2257 : (Jvm.Cond.code ({ cls := "SagMemoryModel", name := "undo", desc := "()I" } : Jvm.MethodName) prog_12_method_147_code (1 : Nat) (Option.some Jvm.ClassFile.FieldType.int)) ∈ lw_all := lw_g (lw_at lw_m9 210 rfl) rfl
theorem q2259 : (Jvm.Cond.instanceMethod ({ cls := "SagMemoryModel", name := "anew", desc := "()I" } : Jvm.MethodName)) ∈ lw_all := lw_g (lw_at lw_m9 212 rfl) rfl
theorem q2260 : (Jvm.Cond.selects "SagMemoryModel" ({ cls := "SagMemoryModel", name := "anew", desc := "()I" } : Jvm.MethodName) ({ cls := "SagMemoryModel", name := "anew", desc := "()I" } : Jvm.MethodName)) ∈ lw_all := lw_g (lw_at lw_m9 213 rfl) rfl
theorem q2261 : (Jvm.Cond.code ({ cls := "SagMemoryModel", name := "anew", desc := "()I" } : Jvm.MethodName) prog_12_method_148_code (2 : Nat) (Option.some Jvm.ClassFile.FieldType.int)) ∈ lw_all := lw_g (lw_at lw_m9 214 rfl) rfl
theorem q2263 : (Jvm.Cond.instanceMethod ({ cls := "SagMemoryModel", name := "rate", desc := "(II)I" } : Jvm.MethodName)) ∈ lw_all := lw_g (lw_at lw_m9 216 rfl) rfl
theorem q2264 : (Jvm.Cond.selects "SagMemoryModel" ({ cls := "SagMemoryModel", name := "rate", desc := "(II)I" } : Jvm.MethodName) ({ cls := "SagMemoryModel", name := "rate", desc := "(II)I" } : Jvm.MethodName)) ∈ lw_all := lw_g (lw_at lw_m9 217 rfl) rfl
theorem q2265 : (Jvm.Cond.code ({ cls := "SagMemoryModel", name := "rate", desc := "(II)I" } : Jvm.MethodName) prog_12_method_149_code (4 : Nat) (Option.some Jvm.ClassFile.FieldType.int)) ∈ lw_all := lw_g (lw_at lw_m9 218 rfl) rfl
theorem q2266 : (Jvm.Cond.constantLong "SagMemoryModel" (506 : Nat) (300 : Int64)) ∈ lw_all := lw_g (lw_at lw_m9 219 rfl) rfl
theorem q2268 : (Jvm.Cond.instanceMethod ({ cls := "SagMemoryModel", name := "count", desc := "(I)I" } : Jvm.MethodName)) ∈ lw_all := lw_g (lw_at lw_m9 221 rfl) rfl
theorem q2269 : (Jvm.Cond.selects "SagMemoryModel" ({ cls := "SagMemoryModel", name := "count", desc := "(I)I" } : Jvm.MethodName) ({ cls := "SagMemoryModel", name := "count", desc := "(I)I" } : Jvm.MethodName)) ∈ lw_all := lw_g (lw_at lw_m9 222 rfl) rfl
theorem q2270 : (Jvm.Cond.code ({ cls := "SagMemoryModel", name := "count", desc := "(I)I" } : Jvm.MethodName) prog_12_method_150_code (4 : Nat) (Option.some Jvm.ClassFile.FieldType.int)) ∈ lw_all := lw_g (lw_at lw_m9 223 rfl) rfl
theorem q2271 : (Jvm.Cond.constantLong "SagMemoryModel" (508 : Nat) (7 : Int64)) ∈ lw_all := lw_g (lw_at lw_m9 224 rfl) rfl
theorem q2273 : (Jvm.Cond.instanceMethod ({ cls := "SagMemoryModel", name := "image", desc := "(I)I" } : Jvm.MethodName)) ∈ lw_all := lw_g (lw_at lw_m9 226 rfl) rfl
theorem q2274 : (Jvm.Cond.selects "SagMemoryModel" ({ cls := "SagMemoryModel", name := "image", desc := "(I)I" } : Jvm.MethodName) ({ cls := "SagMemoryModel", name := "image", desc := "(I)I" } : Jvm.MethodName)) ∈ lw_all := lw_g (lw_at lw_m9 227 rfl) rfl
theorem q2275 : (Jvm.Cond.code ({ cls := "SagMemoryModel", name := "image", desc := "(I)I" } : Jvm.MethodName) prog_12_method_151_code (2 : Nat) (Option.some Jvm.ClassFile.FieldType.int)) ∈ lw_all := lw_g (lw_at lw_m9 228 rfl) rfl
theorem q2277 : (Jvm.Cond.instanceMethod ({ cls := "SagMemoryModel", name := "back", desc := "(I)I" } : Jvm.MethodName)) ∈ lw_all := lw_g (lw_at lw_m9 230 rfl) rfl
theorem q2278 : (Jvm.Cond.selects "SagMemoryModel" ({ cls := "SagMemoryModel", name := "back", desc := "(I)I" } : Jvm.MethodName) ({ cls := "SagMemoryModel", name := "back", desc := "(I)I" } : Jvm.MethodName)) ∈ lw_all := lw_g (lw_at lw_m9 231 rfl) rfl
theorem q2279 : (Jvm.Cond.code ({ cls := "SagMemoryModel", name := "back", desc := "(I)I" } : Jvm.MethodName) prog_12_method_152_code (2 : Nat) (Option.some Jvm.ClassFile.FieldType.int)) ∈ lw_all := lw_g (lw_at lw_m9 232 rfl) rfl
theorem q2293 : (Jvm.Cond.castable "SagMemoryModel" "java/lang/Object") ∈ lw_tbl := lw_at lw_m10 6 rfl
theorem in_X7 : ∀ w ∈ wsX70, w ∈ lw_all := lw_in wsX70 [1539, 1541, 1543, 1545, 1547, 1549, 1551, 1553, 1555, 1557, 1559, 1561, 1563, 1565, 1567, 1569, 1571, 1573, 1575, 1577, 1579, 1581, 1583, 1585, 1587, 1589, 1591, 1593, 1595, 1597, 1599, 1601, 1603, 1605, 1607, 1609, 1611, 1613, 1615, 1617, 1619, 1621, 1623, 1625, 1627, 1629, 1631, 1633, 1635, 1637, 1639, 1641, 1643, 1645, 1647, 1649, 1651, 1653, 1655] (by decide +kernel) (by decide +kernel)
