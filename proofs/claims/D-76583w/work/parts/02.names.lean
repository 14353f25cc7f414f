/-! DECODE ROWS BY BYTES: one lemma an opcode; a method's code is cut into short pieces once, and a row reads its own piece alone. -/
set_option maxRecDepth 100000
/-- the code has just these bytes from pc on -/
def DkAt (code : ByteArray) (pc : Nat) (bs : List UInt8) : Prop := ∀ (j : Nat) (b : UInt8), bs[j]? = some b → code.data.toList[pc + j]? = some b
/-- the piece W has the bytes bs from its place j on -/
def dkIn (W : List UInt8) (j : Nat) (bs : List UInt8) : Bool := decide ((W.drop j).take bs.length = bs)
theorem dk_seg {l W T : List UInt8} {o o2 : Nat} (h : l.drop o = W ++ T) (n : Nat) (hn : W.length = n) (ho : o + n = o2) : l.drop o2 = T := by
  subst ho
  rw [← List.drop_drop, h, List.drop_left' hn]
theorem dk_at {code : ByteArray} {W T bs : List UInt8} {o pc : Nat} (h : code.data.toList.drop o = W ++ T) (j : Nat) (hp : o + j = pc) (hw : dkIn W j bs = true) : DkAt code pc bs := by
  subst hp
  intro i b e
  have h1 := of_decide_eq_true hw
  have h2 : i < bs.length := (List.getElem?_eq_some_iff.mp e).1
  have h3 : W[j + i]? = some b := by
    rw [← h1, List.getElem?_take, if_pos h2, List.getElem?_drop] at e
    exact e
  have h4 : j + i < W.length := (List.getElem?_eq_some_iff.mp h3).1
  have h5 : (code.data.toList.drop o)[j + i]? = some b := by
    rw [h, List.getElem?_append_left h4]
    exact h3
  rw [List.getElem?_drop, ← Nat.add_assoc] at h5
  exact h5
theorem dk_u1 {A : ByteArray} {p : Nat} {b : UInt8} (h : A.data.toList[p]? = some b) : (Reader.u1 : Reader DecodeError Nat) A p = .ok (b.toNat, p + 1) := by
  obtain ⟨h1, h2⟩ := List.getElem?_eq_some_iff.mp h
  have h3 : p < A.size := by simpa using h1
  have h4 : A[p]'h3 = b := h2
  have e : (Reader.u1 : Reader DecodeError Nat) A p = (if h : p < A.size then .ok (A[p].toNat, p + 1) else .error (HasTruncated.truncated p)) := by
    show (do if h : p < A.size then do set (p + 1); Pure.pure A[p].toNat else MonadExcept.throw (HasTruncated.truncated p) : Reader DecodeError Nat) A p = _
    by_cases hi : p < A.size
    · rw [dif_pos hi, dif_pos hi]; rfl
    · rw [dif_neg hi, dif_neg hi]; rfl
  rw [e, dif_pos h3, h4]
theorem dk_bind {α β : Type} {r : Reader DecodeError α} {f : α → Reader DecodeError β} {A : ByteArray} {p s : Nat} {a : α} (h : r A p = .ok (a, s)) : (r >>= f) A p = f a A s := by
  show (do let (a, s) ← r A p; f a A s : Except DecodeError (β × Nat)) = _
  rw [h]
  rfl
theorem dk_map {α β : Type} {r : Reader DecodeError α} {g : α → β} {A : ByteArray} {p s : Nat} {a : α} (h : r A p = .ok (a, s)) : (g <$> r) A p = .ok (g a, s) := by
  show (do let (a, s) ← r A p; .ok (g a, s) : Except DecodeError (β × Nat)) = _
  rw [h]
  rfl
theorem dk_u2 {A : ByteArray} {p : Nat} {a b : UInt8} (h : A.data.toList[p]? = some a) (h2 : A.data.toList[p + 1]? = some b) : (Reader.u2 : Reader DecodeError Nat) A p = .ok (a.toNat * 256 + b.toNat, p + 2) := by
  show (Reader.u1 >>= fun hi => Reader.u1 >>= fun lo => Pure.pure (hi * 256 + lo) : Reader DecodeError Nat) A p = _
  rw [dk_bind (dk_u1 h), dk_bind (dk_u1 h2)]
  rfl
theorem dk_of {code : ByteArray} {pc n : Nat} {i : Instr} (h : Decoder.instr pc code pc = .ok (i, pc + n)) : decode code pc = .ok (i, n) := by
  have e : decode code pc = (match Decoder.instr pc code pc with | .error x => .error x | .ok (j, s) => .ok (j, s - pc)) := by
    show (do let (j, s) ← Decoder.instr pc code pc; Pure.pure (j, s - pc) : Except DecodeError (Instr × Nat)) = _
    cases Decoder.instr pc code pc <;> rfl
  rw [e, h]
  show Except.ok (i, pc + n - pc) = _
  rw [Nat.add_sub_cancel_left]
theorem dk_1 {code : ByteArray} {pc : Nat} (h : DkAt code pc [1]) : decode code pc = .ok (.aconst_null, 1) := dk_of ((dk_bind (dk_u1 (h 0 _ rfl))).trans rfl)
theorem dk_2 {code : ByteArray} {pc : Nat} (h : DkAt code pc [2]) : decode code pc = .ok (.iconst (-1), 1) := dk_of ((dk_bind (dk_u1 (h 0 _ rfl))).trans rfl)
theorem dk_3 {code : ByteArray} {pc : Nat} (h : DkAt code pc [3]) : decode code pc = .ok (.iconst 0, 1) := dk_of ((dk_bind (dk_u1 (h 0 _ rfl))).trans rfl)
theorem dk_4 {code : ByteArray} {pc : Nat} (h : DkAt code pc [4]) : decode code pc = .ok (.iconst 1, 1) := dk_of ((dk_bind (dk_u1 (h 0 _ rfl))).trans rfl)
theorem dk_5 {code : ByteArray} {pc : Nat} (h : DkAt code pc [5]) : decode code pc = .ok (.iconst 2, 1) := dk_of ((dk_bind (dk_u1 (h 0 _ rfl))).trans rfl)
theorem dk_6 {code : ByteArray} {pc : Nat} (h : DkAt code pc [6]) : decode code pc = .ok (.iconst 3, 1) := dk_of ((dk_bind (dk_u1 (h 0 _ rfl))).trans rfl)
theorem dk_7 {code : ByteArray} {pc : Nat} (h : DkAt code pc [7]) : decode code pc = .ok (.iconst 4, 1) := dk_of ((dk_bind (dk_u1 (h 0 _ rfl))).trans rfl)
theorem dk_8 {code : ByteArray} {pc : Nat} (h : DkAt code pc [8]) : decode code pc = .ok (.iconst 5, 1) := dk_of ((dk_bind (dk_u1 (h 0 _ rfl))).trans rfl)
theorem dk_9 {code : ByteArray} {pc : Nat} (h : DkAt code pc [9]) : decode code pc = .ok (.lconst 0, 1) := dk_of ((dk_bind (dk_u1 (h 0 _ rfl))).trans rfl)
theorem dk_10 {code : ByteArray} {pc : Nat} (h : DkAt code pc [10]) : decode code pc = .ok (.lconst 1, 1) := dk_of ((dk_bind (dk_u1 (h 0 _ rfl))).trans rfl)
theorem dk_16 {code : ByteArray} {pc : Nat} (a : UInt8) (h : DkAt code pc [16, a]) : decode code pc = .ok (.bipush (Reader.signed 8 a.toNat), 2) := dk_of ((dk_bind (dk_u1 (h 0 _ rfl))).trans ((dk_bind (dk_map (dk_u1 (h 1 _ rfl)))).trans rfl))
theorem dk_17 {code : ByteArray} {pc : Nat} (a b : UInt8) (h : DkAt code pc [17, a, b]) : decode code pc = .ok (.sipush (Reader.signed 16 (a.toNat * 256 + b.toNat)), 3) := dk_of ((dk_bind (dk_u1 (h 0 _ rfl))).trans ((dk_bind (dk_map (dk_u2 (h 1 _ rfl) (h 2 _ rfl)))).trans rfl))
theorem dk_18 {code : ByteArray} {pc : Nat} (a : UInt8) (h : DkAt code pc [18, a]) : decode code pc = .ok (.ldc a.toNat, 2) := dk_of ((dk_bind (dk_u1 (h 0 _ rfl))).trans ((dk_bind (dk_u1 (h 1 _ rfl))).trans rfl))
theorem dk_19 {code : ByteArray} {pc : Nat} (a b : UInt8) (h : DkAt code pc [19, a, b]) : decode code pc = .ok (.ldc_w (a.toNat * 256 + b.toNat), 3) := dk_of ((dk_bind (dk_u1 (h 0 _ rfl))).trans ((dk_bind (dk_u2 (h 1 _ rfl) (h 2 _ rfl))).trans rfl))
theorem dk_20 {code : ByteArray} {pc : Nat} (a b : UInt8) (h : DkAt code pc [20, a, b]) : decode code pc = .ok (.ldc2_w (a.toNat * 256 + b.toNat), 3) := dk_of ((dk_bind (dk_u1 (h 0 _ rfl))).trans ((dk_bind (dk_u2 (h 1 _ rfl) (h 2 _ rfl))).trans rfl))
theorem dk_21 {code : ByteArray} {pc : Nat} (a : UInt8) (h : DkAt code pc [21, a]) : decode code pc = .ok (.iload a.toNat, 2) := dk_of ((dk_bind (dk_u1 (h 0 _ rfl))).trans ((dk_bind (dk_u1 (h 1 _ rfl))).trans rfl))
theorem dk_22 {code : ByteArray} {pc : Nat} (a : UInt8) (h : DkAt code pc [22, a]) : decode code pc = .ok (.lload a.toNat, 2) := dk_of ((dk_bind (dk_u1 (h 0 _ rfl))).trans ((dk_bind (dk_u1 (h 1 _ rfl))).trans rfl))
theorem dk_25 {code : ByteArray} {pc : Nat} (a : UInt8) (h : DkAt code pc [25, a]) : decode code pc = .ok (.aload a.toNat, 2) := dk_of ((dk_bind (dk_u1 (h 0 _ rfl))).trans ((dk_bind (dk_u1 (h 1 _ rfl))).trans rfl))
theorem dk_26 {code : ByteArray} {pc : Nat} (h : DkAt code pc [26]) : decode code pc = .ok (.iload_n 0, 1) := dk_of ((dk_bind (dk_u1 (h 0 _ rfl))).trans rfl)
theorem dk_27 {code : ByteArray} {pc : Nat} (h : DkAt code pc [27]) : decode code pc = .ok (.iload_n 1, 1) := dk_of ((dk_bind (dk_u1 (h 0 _ rfl))).trans rfl)
theorem dk_28 {code : ByteArray} {pc : Nat} (h : DkAt code pc [28]) : decode code pc = .ok (.iload_n 2, 1) := dk_of ((dk_bind (dk_u1 (h 0 _ rfl))).trans rfl)
theorem dk_29 {code : ByteArray} {pc : Nat} (h : DkAt code pc [29]) : decode code pc = .ok (.iload_n 3, 1) := dk_of ((dk_bind (dk_u1 (h 0 _ rfl))).trans rfl)
theorem dk_30 {code : ByteArray} {pc : Nat} (h : DkAt code pc [30]) : decode code pc = .ok (.lload_n 0, 1) := dk_of ((dk_bind (dk_u1 (h 0 _ rfl))).trans rfl)
theorem dk_32 {code : ByteArray} {pc : Nat} (h : DkAt code pc [32]) : decode code pc = .ok (.lload_n 2, 1) := dk_of ((dk_bind (dk_u1 (h 0 _ rfl))).trans rfl)
theorem dk_33 {code : ByteArray} {pc : Nat} (h : DkAt code pc [33]) : decode code pc = .ok (.lload_n 3, 1) := dk_of ((dk_bind (dk_u1 (h 0 _ rfl))).trans rfl)
theorem dk_42 {code : ByteArray} {pc : Nat} (h : DkAt code pc [42]) : decode code pc = .ok (.aload_n 0, 1) := dk_of ((dk_bind (dk_u1 (h 0 _ rfl))).trans rfl)
theorem dk_43 {code : ByteArray} {pc : Nat} (h : DkAt code pc [43]) : decode code pc = .ok (.aload_n 1, 1) := dk_of ((dk_bind (dk_u1 (h 0 _ rfl))).trans rfl)
theorem dk_44 {code : ByteArray} {pc : Nat} (h : DkAt code pc [44]) : decode code pc = .ok (.aload_n 2, 1) := dk_of ((dk_bind (dk_u1 (h 0 _ rfl))).trans rfl)
theorem dk_45 {code : ByteArray} {pc : Nat} (h : DkAt code pc [45]) : decode code pc = .ok (.aload_n 3, 1) := dk_of ((dk_bind (dk_u1 (h 0 _ rfl))).trans rfl)
theorem dk_46 {code : ByteArray} {pc : Nat} (h : DkAt code pc [46]) : decode code pc = .ok (.iaload, 1) := dk_of ((dk_bind (dk_u1 (h 0 _ rfl))).trans rfl)
theorem dk_47 {code : ByteArray} {pc : Nat} (h : DkAt code pc [47]) : decode code pc = .ok (.laload, 1) := dk_of ((dk_bind (dk_u1 (h 0 _ rfl))).trans rfl)
theorem dk_50 {code : ByteArray} {pc : Nat} (h : DkAt code pc [50]) : decode code pc = .ok (.aaload, 1) := dk_of ((dk_bind (dk_u1 (h 0 _ rfl))).trans rfl)
theorem dk_51 {code : ByteArray} {pc : Nat} (h : DkAt code pc [51]) : decode code pc = .ok (.baload, 1) := dk_of ((dk_bind (dk_u1 (h 0 _ rfl))).trans rfl)
theorem dk_52 {code : ByteArray} {pc : Nat} (h : DkAt code pc [52]) : decode code pc = .ok (.caload, 1) := dk_of ((dk_bind (dk_u1 (h 0 _ rfl))).trans rfl)
theorem dk_53 {code : ByteArray} {pc : Nat} (h : DkAt code pc [53]) : decode code pc = .ok (.saload, 1) := dk_of ((dk_bind (dk_u1 (h 0 _ rfl))).trans rfl)
theorem dk_54 {code : ByteArray} {pc : Nat} (a : UInt8) (h : DkAt code pc [54, a]) : decode code pc = .ok (.istore a.toNat, 2) := dk_of ((dk_bind (dk_u1 (h 0 _ rfl))).trans ((dk_bind (dk_u1 (h 1 _ rfl))).trans rfl))
theorem dk_55 {code : ByteArray} {pc : Nat} (a : UInt8) (h : DkAt code pc [55, a]) : decode code pc = .ok (.lstore a.toNat, 2) := dk_of ((dk_bind (dk_u1 (h 0 _ rfl))).trans ((dk_bind (dk_u1 (h 1 _ rfl))).trans rfl))
theorem dk_58 {code : ByteArray} {pc : Nat} (a : UInt8) (h : DkAt code pc [58, a]) : decode code pc = .ok (.astore a.toNat, 2) := dk_of ((dk_bind (dk_u1 (h 0 _ rfl))).trans ((dk_bind (dk_u1 (h 1 _ rfl))).trans rfl))
theorem dk_59 {code : ByteArray} {pc : Nat} (h : DkAt code pc [59]) : decode code pc = .ok (.istore_n 0, 1) := dk_of ((dk_bind (dk_u1 (h 0 _ rfl))).trans rfl)
theorem dk_60 {code : ByteArray} {pc : Nat} (h : DkAt code pc [60]) : decode code pc = .ok (.istore_n 1, 1) := dk_of ((dk_bind (dk_u1 (h 0 _ rfl))).trans rfl)
theorem dk_61 {code : ByteArray} {pc : Nat} (h : DkAt code pc [61]) : decode code pc = .ok (.istore_n 2, 1) := dk_of ((dk_bind (dk_u1 (h 0 _ rfl))).trans rfl)
theorem dk_62 {code : ByteArray} {pc : Nat} (h : DkAt code pc [62]) : decode code pc = .ok (.istore_n 3, 1) := dk_of ((dk_bind (dk_u1 (h 0 _ rfl))).trans rfl)
theorem dk_65 {code : ByteArray} {pc : Nat} (h : DkAt code pc [65]) : decode code pc = .ok (.lstore_n 2, 1) := dk_of ((dk_bind (dk_u1 (h 0 _ rfl))).trans rfl)
theorem dk_75 {code : ByteArray} {pc : Nat} (h : DkAt code pc [75]) : decode code pc = .ok (.astore_n 0, 1) := dk_of ((dk_bind (dk_u1 (h 0 _ rfl))).trans rfl)
theorem dk_76 {code : ByteArray} {pc : Nat} (h : DkAt code pc [76]) : decode code pc = .ok (.astore_n 1, 1) := dk_of ((dk_bind (dk_u1 (h 0 _ rfl))).trans rfl)
theorem dk_77 {code : ByteArray} {pc : Nat} (h : DkAt code pc [77]) : decode code pc = .ok (.astore_n 2, 1) := dk_of ((dk_bind (dk_u1 (h 0 _ rfl))).trans rfl)
theorem dk_78 {code : ByteArray} {pc : Nat} (h : DkAt code pc [78]) : decode code pc = .ok (.astore_n 3, 1) := dk_of ((dk_bind (dk_u1 (h 0 _ rfl))).trans rfl)
theorem dk_79 {code : ByteArray} {pc : Nat} (h : DkAt code pc [79]) : decode code pc = .ok (.iastore, 1) := dk_of ((dk_bind (dk_u1 (h 0 _ rfl))).trans rfl)
theorem dk_80 {code : ByteArray} {pc : Nat} (h : DkAt code pc [80]) : decode code pc = .ok (.lastore, 1) := dk_of ((dk_bind (dk_u1 (h 0 _ rfl))).trans rfl)
theorem dk_83 {code : ByteArray} {pc : Nat} (h : DkAt code pc [83]) : decode code pc = .ok (.aastore, 1) := dk_of ((dk_bind (dk_u1 (h 0 _ rfl))).trans rfl)
theorem dk_84 {code : ByteArray} {pc : Nat} (h : DkAt code pc [84]) : decode code pc = .ok (.bastore, 1) := dk_of ((dk_bind (dk_u1 (h 0 _ rfl))).trans rfl)
theorem dk_85 {code : ByteArray} {pc : Nat} (h : DkAt code pc [85]) : decode code pc = .ok (.castore, 1) := dk_of ((dk_bind (dk_u1 (h 0 _ rfl))).trans rfl)
theorem dk_86 {code : ByteArray} {pc : Nat} (h : DkAt code pc [86]) : decode code pc = .ok (.sastore, 1) := dk_of ((dk_bind (dk_u1 (h 0 _ rfl))).trans rfl)
theorem dk_87 {code : ByteArray} {pc : Nat} (h : DkAt code pc [87]) : decode code pc = .ok (.pop, 1) := dk_of ((dk_bind (dk_u1 (h 0 _ rfl))).trans rfl)
theorem dk_89 {code : ByteArray} {pc : Nat} (h : DkAt code pc [89]) : decode code pc = .ok (.dup, 1) := dk_of ((dk_bind (dk_u1 (h 0 _ rfl))).trans rfl)
theorem dk_90 {code : ByteArray} {pc : Nat} (h : DkAt code pc [90]) : decode code pc = .ok (.dup_x1, 1) := dk_of ((dk_bind (dk_u1 (h 0 _ rfl))).trans rfl)
theorem dk_92 {code : ByteArray} {pc : Nat} (h : DkAt code pc [92]) : decode code pc = .ok (.dup2, 1) := dk_of ((dk_bind (dk_u1 (h 0 _ rfl))).trans rfl)
theorem dk_96 {code : ByteArray} {pc : Nat} (h : DkAt code pc [96]) : decode code pc = .ok (.iadd, 1) := dk_of ((dk_bind (dk_u1 (h 0 _ rfl))).trans rfl)
theorem dk_97 {code : ByteArray} {pc : Nat} (h : DkAt code pc [97]) : decode code pc = .ok (.ladd, 1) := dk_of ((dk_bind (dk_u1 (h 0 _ rfl))).trans rfl)
theorem dk_100 {code : ByteArray} {pc : Nat} (h : DkAt code pc [100]) : decode code pc = .ok (.isub, 1) := dk_of ((dk_bind (dk_u1 (h 0 _ rfl))).trans rfl)
theorem dk_104 {code : ByteArray} {pc : Nat} (h : DkAt code pc [104]) : decode code pc = .ok (.imul, 1) := dk_of ((dk_bind (dk_u1 (h 0 _ rfl))).trans rfl)
theorem dk_108 {code : ByteArray} {pc : Nat} (h : DkAt code pc [108]) : decode code pc = .ok (.idiv, 1) := dk_of ((dk_bind (dk_u1 (h 0 _ rfl))).trans rfl)
theorem dk_109 {code : ByteArray} {pc : Nat} (h : DkAt code pc [109]) : decode code pc = .ok (.ldiv, 1) := dk_of ((dk_bind (dk_u1 (h 0 _ rfl))).trans rfl)
theorem dk_112 {code : ByteArray} {pc : Nat} (h : DkAt code pc [112]) : decode code pc = .ok (.irem, 1) := dk_of ((dk_bind (dk_u1 (h 0 _ rfl))).trans rfl)
theorem dk_113 {code : ByteArray} {pc : Nat} (h : DkAt code pc [113]) : decode code pc = .ok (.lrem, 1) := dk_of ((dk_bind (dk_u1 (h 0 _ rfl))).trans rfl)
theorem dk_116 {code : ByteArray} {pc : Nat} (h : DkAt code pc [116]) : decode code pc = .ok (.ineg, 1) := dk_of ((dk_bind (dk_u1 (h 0 _ rfl))).trans rfl)
theorem dk_120 {code : ByteArray} {pc : Nat} (h : DkAt code pc [120]) : decode code pc = .ok (.ishl, 1) := dk_of ((dk_bind (dk_u1 (h 0 _ rfl))).trans rfl)
theorem dk_121 {code : ByteArray} {pc : Nat} (h : DkAt code pc [121]) : decode code pc = .ok (.lshl, 1) := dk_of ((dk_bind (dk_u1 (h 0 _ rfl))).trans rfl)
theorem dk_122 {code : ByteArray} {pc : Nat} (h : DkAt code pc [122]) : decode code pc = .ok (.ishr, 1) := dk_of ((dk_bind (dk_u1 (h 0 _ rfl))).trans rfl)
theorem dk_124 {code : ByteArray} {pc : Nat} (h : DkAt code pc [124]) : decode code pc = .ok (.iushr, 1) := dk_of ((dk_bind (dk_u1 (h 0 _ rfl))).trans rfl)
theorem dk_126 {code : ByteArray} {pc : Nat} (h : DkAt code pc [126]) : decode code pc = .ok (.iand, 1) := dk_of ((dk_bind (dk_u1 (h 0 _ rfl))).trans rfl)
theorem dk_127 {code : ByteArray} {pc : Nat} (h : DkAt code pc [127]) : decode code pc = .ok (.land, 1) := dk_of ((dk_bind (dk_u1 (h 0 _ rfl))).trans rfl)
theorem dk_128 {code : ByteArray} {pc : Nat} (h : DkAt code pc [128]) : decode code pc = .ok (.ior, 1) := dk_of ((dk_bind (dk_u1 (h 0 _ rfl))).trans rfl)
theorem dk_129 {code : ByteArray} {pc : Nat} (h : DkAt code pc [129]) : decode code pc = .ok (.lor, 1) := dk_of ((dk_bind (dk_u1 (h 0 _ rfl))).trans rfl)
theorem dk_130 {code : ByteArray} {pc : Nat} (h : DkAt code pc [130]) : decode code pc = .ok (.ixor, 1) := dk_of ((dk_bind (dk_u1 (h 0 _ rfl))).trans rfl)
theorem dk_132 {code : ByteArray} {pc : Nat} (a b : UInt8) (h : DkAt code pc [132, a, b]) : decode code pc = .ok (.iinc a.toNat (Reader.signed 8 b.toNat), 3) := dk_of ((dk_bind (dk_u1 (h 0 _ rfl))).trans ((dk_bind (dk_u1 (h 1 _ rfl))).trans ((dk_bind (dk_map (dk_u1 (h 2 _ rfl)))).trans rfl)))
theorem dk_133 {code : ByteArray} {pc : Nat} (h : DkAt code pc [133]) : decode code pc = .ok (.i2l, 1) := dk_of ((dk_bind (dk_u1 (h 0 _ rfl))).trans rfl)
theorem dk_136 {code : ByteArray} {pc : Nat} (h : DkAt code pc [136]) : decode code pc = .ok (.l2i, 1) := dk_of ((dk_bind (dk_u1 (h 0 _ rfl))).trans rfl)
theorem dk_145 {code : ByteArray} {pc : Nat} (h : DkAt code pc [145]) : decode code pc = .ok (.i2b, 1) := dk_of ((dk_bind (dk_u1 (h 0 _ rfl))).trans rfl)
theorem dk_146 {code : ByteArray} {pc : Nat} (h : DkAt code pc [146]) : decode code pc = .ok (.i2c, 1) := dk_of ((dk_bind (dk_u1 (h 0 _ rfl))).trans rfl)
theorem dk_147 {code : ByteArray} {pc : Nat} (h : DkAt code pc [147]) : decode code pc = .ok (.i2s, 1) := dk_of ((dk_bind (dk_u1 (h 0 _ rfl))).trans rfl)
theorem dk_148 {code : ByteArray} {pc : Nat} (h : DkAt code pc [148]) : decode code pc = .ok (.lcmp, 1) := dk_of ((dk_bind (dk_u1 (h 0 _ rfl))).trans rfl)
theorem dk_153 {code : ByteArray} {pc : Nat} (a b : UInt8) (h : DkAt code pc [153, a, b]) : decode code pc = .ok (.ifCond .eq (Reader.signed 16 (a.toNat * 256 + b.toNat)), 3) := dk_of ((dk_bind (dk_u1 (h 0 _ rfl))).trans ((dk_bind (dk_map (dk_u2 (h 1 _ rfl) (h 2 _ rfl)))).trans rfl))
theorem dk_154 {code : ByteArray} {pc : Nat} (a b : UInt8) (h : DkAt code pc [154, a, b]) : decode code pc = .ok (.ifCond .ne (Reader.signed 16 (a.toNat * 256 + b.toNat)), 3) := dk_of ((dk_bind (dk_u1 (h 0 _ rfl))).trans ((dk_bind (dk_map (dk_u2 (h 1 _ rfl) (h 2 _ rfl)))).trans rfl))
theorem dk_155 {code : ByteArray} {pc : Nat} (a b : UInt8) (h : DkAt code pc [155, a, b]) : decode code pc = .ok (.ifCond .lt (Reader.signed 16 (a.toNat * 256 + b.toNat)), 3) := dk_of ((dk_bind (dk_u1 (h 0 _ rfl))).trans ((dk_bind (dk_map (dk_u2 (h 1 _ rfl) (h 2 _ rfl)))).trans rfl))
theorem dk_156 {code : ByteArray} {pc : Nat} (a b : UInt8) (h : DkAt code pc [156, a, b]) : decode code pc = .ok (.ifCond .ge (Reader.signed 16 (a.toNat * 256 + b.toNat)), 3) := dk_of ((dk_bind (dk_u1 (h 0 _ rfl))).trans ((dk_bind (dk_map (dk_u2 (h 1 _ rfl) (h 2 _ rfl)))).trans rfl))
theorem dk_157 {code : ByteArray} {pc : Nat} (a b : UInt8) (h : DkAt code pc [157, a, b]) : decode code pc = .ok (.ifCond .gt (Reader.signed 16 (a.toNat * 256 + b.toNat)), 3) := dk_of ((dk_bind (dk_u1 (h 0 _ rfl))).trans ((dk_bind (dk_map (dk_u2 (h 1 _ rfl) (h 2 _ rfl)))).trans rfl))
theorem dk_158 {code : ByteArray} {pc : Nat} (a b : UInt8) (h : DkAt code pc [158, a, b]) : decode code pc = .ok (.ifCond .le (Reader.signed 16 (a.toNat * 256 + b.toNat)), 3) := dk_of ((dk_bind (dk_u1 (h 0 _ rfl))).trans ((dk_bind (dk_map (dk_u2 (h 1 _ rfl) (h 2 _ rfl)))).trans rfl))
theorem dk_159 {code : ByteArray} {pc : Nat} (a b : UInt8) (h : DkAt code pc [159, a, b]) : decode code pc = .ok (.if_icmp .eq (Reader.signed 16 (a.toNat * 256 + b.toNat)), 3) := dk_of ((dk_bind (dk_u1 (h 0 _ rfl))).trans ((dk_bind (dk_map (dk_u2 (h 1 _ rfl) (h 2 _ rfl)))).trans rfl))
theorem dk_160 {code : ByteArray} {pc : Nat} (a b : UInt8) (h : DkAt code pc [160, a, b]) : decode code pc = .ok (.if_icmp .ne (Reader.signed 16 (a.toNat * 256 + b.toNat)), 3) := dk_of ((dk_bind (dk_u1 (h 0 _ rfl))).trans ((dk_bind (dk_map (dk_u2 (h 1 _ rfl) (h 2 _ rfl)))).trans rfl))
theorem dk_161 {code : ByteArray} {pc : Nat} (a b : UInt8) (h : DkAt code pc [161, a, b]) : decode code pc = .ok (.if_icmp .lt (Reader.signed 16 (a.toNat * 256 + b.toNat)), 3) := dk_of ((dk_bind (dk_u1 (h 0 _ rfl))).trans ((dk_bind (dk_map (dk_u2 (h 1 _ rfl) (h 2 _ rfl)))).trans rfl))
theorem dk_162 {code : ByteArray} {pc : Nat} (a b : UInt8) (h : DkAt code pc [162, a, b]) : decode code pc = .ok (.if_icmp .ge (Reader.signed 16 (a.toNat * 256 + b.toNat)), 3) := dk_of ((dk_bind (dk_u1 (h 0 _ rfl))).trans ((dk_bind (dk_map (dk_u2 (h 1 _ rfl) (h 2 _ rfl)))).trans rfl))
theorem dk_163 {code : ByteArray} {pc : Nat} (a b : UInt8) (h : DkAt code pc [163, a, b]) : decode code pc = .ok (.if_icmp .gt (Reader.signed 16 (a.toNat * 256 + b.toNat)), 3) := dk_of ((dk_bind (dk_u1 (h 0 _ rfl))).trans ((dk_bind (dk_map (dk_u2 (h 1 _ rfl) (h 2 _ rfl)))).trans rfl))
theorem dk_164 {code : ByteArray} {pc : Nat} (a b : UInt8) (h : DkAt code pc [164, a, b]) : decode code pc = .ok (.if_icmp .le (Reader.signed 16 (a.toNat * 256 + b.toNat)), 3) := dk_of ((dk_bind (dk_u1 (h 0 _ rfl))).trans ((dk_bind (dk_map (dk_u2 (h 1 _ rfl) (h 2 _ rfl)))).trans rfl))
theorem dk_165 {code : ByteArray} {pc : Nat} (a b : UInt8) (h : DkAt code pc [165, a, b]) : decode code pc = .ok (.if_acmp .eq (Reader.signed 16 (a.toNat * 256 + b.toNat)), 3) := dk_of ((dk_bind (dk_u1 (h 0 _ rfl))).trans ((dk_bind (dk_map (dk_u2 (h 1 _ rfl) (h 2 _ rfl)))).trans rfl))
theorem dk_166 {code : ByteArray} {pc : Nat} (a b : UInt8) (h : DkAt code pc [166, a, b]) : decode code pc = .ok (.if_acmp .ne (Reader.signed 16 (a.toNat * 256 + b.toNat)), 3) := dk_of ((dk_bind (dk_u1 (h 0 _ rfl))).trans ((dk_bind (dk_map (dk_u2 (h 1 _ rfl) (h 2 _ rfl)))).trans rfl))
theorem dk_167 {code : ByteArray} {pc : Nat} (a b : UInt8) (h : DkAt code pc [167, a, b]) : decode code pc = .ok (.goto (Reader.signed 16 (a.toNat * 256 + b.toNat)), 3) := dk_of ((dk_bind (dk_u1 (h 0 _ rfl))).trans ((dk_bind (dk_map (dk_u2 (h 1 _ rfl) (h 2 _ rfl)))).trans rfl))
theorem dk_172 {code : ByteArray} {pc : Nat} (h : DkAt code pc [172]) : decode code pc = .ok (.ireturn, 1) := dk_of ((dk_bind (dk_u1 (h 0 _ rfl))).trans rfl)
theorem dk_173 {code : ByteArray} {pc : Nat} (h : DkAt code pc [173]) : decode code pc = .ok (.lreturn, 1) := dk_of ((dk_bind (dk_u1 (h 0 _ rfl))).trans rfl)
theorem dk_176 {code : ByteArray} {pc : Nat} (h : DkAt code pc [176]) : decode code pc = .ok (.areturn, 1) := dk_of ((dk_bind (dk_u1 (h 0 _ rfl))).trans rfl)
theorem dk_177 {code : ByteArray} {pc : Nat} (h : DkAt code pc [177]) : decode code pc = .ok (.return_, 1) := dk_of ((dk_bind (dk_u1 (h 0 _ rfl))).trans rfl)
theorem dk_178 {code : ByteArray} {pc : Nat} (a b : UInt8) (h : DkAt code pc [178, a, b]) : decode code pc = .ok (.getstatic (a.toNat * 256 + b.toNat), 3) := dk_of ((dk_bind (dk_u1 (h 0 _ rfl))).trans ((dk_bind (dk_u2 (h 1 _ rfl) (h 2 _ rfl))).trans rfl))
theorem dk_180 {code : ByteArray} {pc : Nat} (a b : UInt8) (h : DkAt code pc [180, a, b]) : decode code pc = .ok (.getfield (a.toNat * 256 + b.toNat), 3) := dk_of ((dk_bind (dk_u1 (h 0 _ rfl))).trans ((dk_bind (dk_u2 (h 1 _ rfl) (h 2 _ rfl))).trans rfl))
theorem dk_181 {code : ByteArray} {pc : Nat} (a b : UInt8) (h : DkAt code pc [181, a, b]) : decode code pc = .ok (.putfield (a.toNat * 256 + b.toNat), 3) := dk_of ((dk_bind (dk_u1 (h 0 _ rfl))).trans ((dk_bind (dk_u2 (h 1 _ rfl) (h 2 _ rfl))).trans rfl))
theorem dk_182 {code : ByteArray} {pc : Nat} (a b : UInt8) (h : DkAt code pc [182, a, b]) : decode code pc = .ok (.invokevirtual (a.toNat * 256 + b.toNat), 3) := dk_of ((dk_bind (dk_u1 (h 0 _ rfl))).trans ((dk_bind (dk_u2 (h 1 _ rfl) (h 2 _ rfl))).trans rfl))
theorem dk_183 {code : ByteArray} {pc : Nat} (a b : UInt8) (h : DkAt code pc [183, a, b]) : decode code pc = .ok (.invokespecial (a.toNat * 256 + b.toNat), 3) := dk_of ((dk_bind (dk_u1 (h 0 _ rfl))).trans ((dk_bind (dk_u2 (h 1 _ rfl) (h 2 _ rfl))).trans rfl))
theorem dk_184 {code : ByteArray} {pc : Nat} (a b : UInt8) (h : DkAt code pc [184, a, b]) : decode code pc = .ok (.invokestatic (a.toNat * 256 + b.toNat), 3) := dk_of ((dk_bind (dk_u1 (h 0 _ rfl))).trans ((dk_bind (dk_u2 (h 1 _ rfl) (h 2 _ rfl))).trans rfl))
theorem dk_187 {code : ByteArray} {pc : Nat} (a b : UInt8) (h : DkAt code pc [187, a, b]) : decode code pc = .ok (.new (a.toNat * 256 + b.toNat), 3) := dk_of ((dk_bind (dk_u1 (h 0 _ rfl))).trans ((dk_bind (dk_u2 (h 1 _ rfl) (h 2 _ rfl))).trans rfl))
theorem dk_188_4 {code : ByteArray} {pc : Nat} (h : DkAt code pc [188, 4]) : decode code pc = .ok (.newarray .boolean, 2) := dk_of ((dk_bind (dk_u1 (h 0 _ rfl))).trans ((dk_bind (dk_u1 (h 1 _ rfl))).trans rfl))
theorem dk_188_5 {code : ByteArray} {pc : Nat} (h : DkAt code pc [188, 5]) : decode code pc = .ok (.newarray .char, 2) := dk_of ((dk_bind (dk_u1 (h 0 _ rfl))).trans ((dk_bind (dk_u1 (h 1 _ rfl))).trans rfl))
theorem dk_188_8 {code : ByteArray} {pc : Nat} (h : DkAt code pc [188, 8]) : decode code pc = .ok (.newarray .byte, 2) := dk_of ((dk_bind (dk_u1 (h 0 _ rfl))).trans ((dk_bind (dk_u1 (h 1 _ rfl))).trans rfl))
theorem dk_188_9 {code : ByteArray} {pc : Nat} (h : DkAt code pc [188, 9]) : decode code pc = .ok (.newarray .short, 2) := dk_of ((dk_bind (dk_u1 (h 0 _ rfl))).trans ((dk_bind (dk_u1 (h 1 _ rfl))).trans rfl))
theorem dk_188_10 {code : ByteArray} {pc : Nat} (h : DkAt code pc [188, 10]) : decode code pc = .ok (.newarray .int, 2) := dk_of ((dk_bind (dk_u1 (h 0 _ rfl))).trans ((dk_bind (dk_u1 (h 1 _ rfl))).trans rfl))
theorem dk_188_11 {code : ByteArray} {pc : Nat} (h : DkAt code pc [188, 11]) : decode code pc = .ok (.newarray .long, 2) := dk_of ((dk_bind (dk_u1 (h 0 _ rfl))).trans ((dk_bind (dk_u1 (h 1 _ rfl))).trans rfl))
theorem dk_189 {code : ByteArray} {pc : Nat} (a b : UInt8) (h : DkAt code pc [189, a, b]) : decode code pc = .ok (.anewarray (a.toNat * 256 + b.toNat), 3) := dk_of ((dk_bind (dk_u1 (h 0 _ rfl))).trans ((dk_bind (dk_u2 (h 1 _ rfl) (h 2 _ rfl))).trans rfl))
theorem dk_190 {code : ByteArray} {pc : Nat} (h : DkAt code pc [190]) : decode code pc = .ok (.arraylength, 1) := dk_of ((dk_bind (dk_u1 (h 0 _ rfl))).trans rfl)
theorem dk_191 {code : ByteArray} {pc : Nat} (h : DkAt code pc [191]) : decode code pc = .ok (.athrow, 1) := dk_of ((dk_bind (dk_u1 (h 0 _ rfl))).trans rfl)
theorem dk_192 {code : ByteArray} {pc : Nat} (a b : UInt8) (h : DkAt code pc [192, a, b]) : decode code pc = .ok (.checkcast (a.toNat * 256 + b.toNat), 3) := dk_of ((dk_bind (dk_u1 (h 0 _ rfl))).trans ((dk_bind (dk_u2 (h 1 _ rfl) (h 2 _ rfl))).trans rfl))
theorem dk_193 {code : ByteArray} {pc : Nat} (a b : UInt8) (h : DkAt code pc [193, a, b]) : decode code pc = .ok (.instanceof (a.toNat * 256 + b.toNat), 3) := dk_of ((dk_bind (dk_u1 (h 0 _ rfl))).trans ((dk_bind (dk_u2 (h 1 _ rfl) (h 2 _ rfl))).trans rfl))
theorem dk_198 {code : ByteArray} {pc : Nat} (a b : UInt8) (h : DkAt code pc [198, a, b]) : decode code pc = .ok (.ifnull (Reader.signed 16 (a.toNat * 256 + b.toNat)), 3) := dk_of ((dk_bind (dk_u1 (h 0 _ rfl))).trans ((dk_bind (dk_map (dk_u2 (h 1 _ rfl) (h 2 _ rfl)))).trans rfl))
theorem dk_199 {code : ByteArray} {pc : Nat} (a b : UInt8) (h : DkAt code pc [199, a, b]) : decode code pc = .ok (.ifnonnull (Reader.signed 16 (a.toNat * 256 + b.toNat)), 3) := dk_of ((dk_bind (dk_u1 (h 0 _ rfl))).trans ((dk_bind (dk_map (dk_u2 (h 1 _ rfl) (h 2 _ rfl)))).trans rfl))
/-! FuneralDebts$Time -/
set_option maxRecDepth 100000
def RX1 : String := "FuneralDebts$Time"
def TX1 : u_T := fun k => match k with
  | 0 => ("FuneralDebts$Time", "loves", "[B", true)
  | 1 => ("FuneralDebts$Time", "spots", "[B", true)
  | 2 => ("FuneralDebts$Time", "sums", "[I", true)
  | 3 => ("FuneralDebts$Time", "many", "I", false)
  | 4 => ("FuneralDebts$Time", "gone", "I", false)
  | 5 => ("FuneralDebts$Time", "owed", "I", false)
  | _ => ("FuneralDebts$Time", "day", "I", false)
def tyX1 : Nat → FieldType := fun k => match k with
  | 0 => .array .byte
  | 1 => .array .byte
  | 2 => .array .int
  | 3 => .int
  | 4 => .int
  | 5 => .int
  | _ => .int
abbrev wsX10 : List Cond := u_ws RX1 TX1 7
theorem nmX1 : ∀ a, a < 7 → ∀ b, b < 7 → a ≠ b → (TX1 a).2.1 ≠ (TX1 b).2.1 := by decide +kernel
theorem tyX1_ok : ∀ k, k < 7 → parseFieldDescriptor (TX1 k).2.2.1 = some (tyX1 k) := by decide +kernel
abbrev cX1_init : ByteArray := prog_17_method_1_code
def yX1_init : MethodName := ⟨RX1, "<init>", "()V"⟩
def dkwX1_init_1 : List UInt8 := [188, 10, 181, 0, 18, 42, 16, 100, 181, 0, 22, 177]
abbrev dktX1_init_1 : List UInt8 := dkwX1_init_1 ++ []
def dkwX1_init_0 : List UInt8 := [42, 183, 0, 3, 42, 16, 6, 188, 8, 181, 0, 9, 42, 16, 6, 188, 8, 181, 0, 15, 42, 16, 6]
abbrev dktX1_init_0 : List UInt8 := dkwX1_init_0 ++ dktX1_init_1
theorem dksX1_init_0 : cX1_init.data.toList.drop 0 = dktX1_init_0 := by decide +kernel
theorem dksX1_init_1 : cX1_init.data.toList.drop 23 = dktX1_init_1 := dk_seg dksX1_init_0 23 rfl rfl
theorem dX1_init_0 : decode cX1_init 0 = .ok (.aload_n 0, 1) := dk_42 (dk_at dksX1_init_0 0 rfl rfl)
theorem dX1_init_1 : decode cX1_init 1 = .ok (.invokespecial 3, 3) := dk_183 0 3 (dk_at dksX1_init_0 1 rfl rfl)
theorem dX1_init_4 : decode cX1_init 4 = .ok (.aload_n 0, 1) := dk_42 (dk_at dksX1_init_0 4 rfl rfl)
theorem dX1_init_5 : decode cX1_init 5 = .ok (.bipush 6, 2) := dk_16 6 (dk_at dksX1_init_0 5 rfl rfl)
theorem dX1_init_7 : decode cX1_init 7 = .ok (.newarray .byte, 2) := dk_188_8 (dk_at dksX1_init_0 7 rfl rfl)
theorem dX1_init_9 : decode cX1_init 9 = .ok (.putfield 9, 3) := dk_181 0 9 (dk_at dksX1_init_0 9 rfl rfl)
theorem dX1_init_12 : decode cX1_init 12 = .ok (.aload_n 0, 1) := dk_42 (dk_at dksX1_init_0 12 rfl rfl)
theorem dX1_init_13 : decode cX1_init 13 = .ok (.bipush 6, 2) := dk_16 6 (dk_at dksX1_init_0 13 rfl rfl)
theorem dX1_init_15 : decode cX1_init 15 = .ok (.newarray .byte, 2) := dk_188_8 (dk_at dksX1_init_0 15 rfl rfl)
theorem dX1_init_17 : decode cX1_init 17 = .ok (.putfield 15, 3) := dk_181 0 15 (dk_at dksX1_init_0 17 rfl rfl)
theorem dX1_init_20 : decode cX1_init 20 = .ok (.aload_n 0, 1) := dk_42 (dk_at dksX1_init_0 20 rfl rfl)
theorem dX1_init_21 : decode cX1_init 21 = .ok (.bipush 6, 2) := dk_16 6 (dk_at dksX1_init_0 21 rfl rfl)
theorem dX1_init_23 : decode cX1_init 23 = .ok (.newarray .int, 2) := dk_188_10 (dk_at dksX1_init_1 0 rfl rfl)
theorem dX1_init_25 : decode cX1_init 25 = .ok (.putfield 18, 3) := dk_181 0 18 (dk_at dksX1_init_1 2 rfl rfl)
theorem dX1_init_28 : decode cX1_init 28 = .ok (.aload_n 0, 1) := dk_42 (dk_at dksX1_init_1 5 rfl rfl)
theorem dX1_init_29 : decode cX1_init 29 = .ok (.bipush 100, 2) := dk_16 100 (dk_at dksX1_init_1 6 rfl rfl)
theorem dX1_init_31 : decode cX1_init 31 = .ok (.putfield 22, 3) := dk_181 0 22 (dk_at dksX1_init_1 8 rfl rfl)
theorem dX1_init_34 : decode cX1_init 34 = .ok (.return_, 1) := dk_177 (dk_at dksX1_init_1 11 rfl rfl)
abbrev cX1_isAway : ByteArray := prog_17_method_3_code
def yX1_isAway : MethodName := ⟨RX1, "isAway", "(I)Z"⟩
def dkwX1_isAway_0 : List UInt8 := [42, 180, 0, 35, 27, 184, 0, 41, 172]
abbrev dktX1_isAway_0 : List UInt8 := dkwX1_isAway_0 ++ []
theorem dksX1_isAway_0 : cX1_isAway.data.toList.drop 0 = dktX1_isAway_0 := by decide +kernel
theorem dX1_isAway_0 : decode cX1_isAway 0 = .ok (.aload_n 0, 1) := dk_42 (dk_at dksX1_isAway_0 0 rfl rfl)
theorem dX1_isAway_1 : decode cX1_isAway 1 = .ok (.getfield 35, 3) := dk_180 0 35 (dk_at dksX1_isAway_0 1 rfl rfl)
theorem dX1_isAway_4 : decode cX1_isAway 4 = .ok (.iload_n 1, 1) := dk_27 (dk_at dksX1_isAway_0 4 rfl rfl)
theorem dX1_isAway_5 : decode cX1_isAway 5 = .ok (.invokestatic 41, 3) := dk_184 0 41 (dk_at dksX1_isAway_0 5 rfl rfl)
theorem dX1_isAway_8 : decode cX1_isAway 8 = .ok (.ireturn, 1) := dk_172 (dk_at dksX1_isAway_0 8 rfl rfl)
abbrev cX1_present : ByteArray := prog_17_method_4_code
def yX1_present : MethodName := ⟨RX1, "present", "()I"⟩
def dkwX1_present_0 : List UInt8 := [4, 42, 180, 0, 32, 120, 4, 100, 42, 180, 0, 35, 2, 130, 126, 172]
abbrev dktX1_present_0 : List UInt8 := dkwX1_present_0 ++ []
theorem dksX1_present_0 : cX1_present.data.toList.drop 0 = dktX1_present_0 := by decide +kernel
theorem dX1_present_0 : decode cX1_present 0 = .ok (.iconst 1, 1) := dk_4 (dk_at dksX1_present_0 0 rfl rfl)
theorem dX1_present_1 : decode cX1_present 1 = .ok (.aload_n 0, 1) := dk_42 (dk_at dksX1_present_0 1 rfl rfl)
theorem dX1_present_2 : decode cX1_present 2 = .ok (.getfield 32, 3) := dk_180 0 32 (dk_at dksX1_present_0 2 rfl rfl)
theorem dX1_present_5 : decode cX1_present 5 = .ok (.ishl, 1) := dk_120 (dk_at dksX1_present_0 5 rfl rfl)
theorem dX1_present_6 : decode cX1_present 6 = .ok (.iconst 1, 1) := dk_4 (dk_at dksX1_present_0 6 rfl rfl)
theorem dX1_present_7 : decode cX1_present 7 = .ok (.isub, 1) := dk_100 (dk_at dksX1_present_0 7 rfl rfl)
theorem dX1_present_8 : decode cX1_present 8 = .ok (.aload_n 0, 1) := dk_42 (dk_at dksX1_present_0 8 rfl rfl)
theorem dX1_present_9 : decode cX1_present 9 = .ok (.getfield 35, 3) := dk_180 0 35 (dk_at dksX1_present_0 9 rfl rfl)
theorem dX1_present_12 : decode cX1_present 12 = .ok (.iconst (-1), 1) := dk_2 (dk_at dksX1_present_0 12 rfl rfl)
theorem dX1_present_13 : decode cX1_present 13 = .ok (.ixor, 1) := dk_130 (dk_at dksX1_present_0 13 rfl rfl)
theorem dX1_present_14 : decode cX1_present 14 = .ok (.iand, 1) := dk_126 (dk_at dksX1_present_0 14 rfl rfl)
theorem dX1_present_15 : decode cX1_present 15 = .ok (.ireturn, 1) := dk_172 (dk_at dksX1_present_0 15 rfl rfl)
abbrev cX1_takes : ByteArray := prog_17_method_2_code
def yX1_takes : MethodName := ⟨RX1, "takes", "(LFuneralDebts$Time;)V"⟩
def dkwX1_takes_3 : List UInt8 := [180, 0, 38, 181, 0, 38, 177]
abbrev dktX1_takes_3 : List UInt8 := dkwX1_takes_3 ++ []
def dkwX1_takes_2 : List UInt8 := [180, 0, 32, 181, 0, 32, 42, 43, 180, 0, 35, 181, 0, 35, 42, 43, 180, 0, 22, 181, 0, 22, 42, 43]
abbrev dktX1_takes_2 : List UInt8 := dkwX1_takes_2 ++ dktX1_takes_3
def dkwX1_takes_1 : List UInt8 := [3, 16, 6, 184, 0, 26, 43, 180, 0, 18, 3, 42, 180, 0, 18, 3, 16, 6, 184, 0, 26, 42, 43]
abbrev dktX1_takes_1 : List UInt8 := dkwX1_takes_1 ++ dktX1_takes_2
def dkwX1_takes_0 : List UInt8 := [43, 180, 0, 9, 3, 42, 180, 0, 9, 3, 16, 6, 184, 0, 26, 43, 180, 0, 15, 3, 42, 180, 0, 15]
abbrev dktX1_takes_0 : List UInt8 := dkwX1_takes_0 ++ dktX1_takes_1
theorem dksX1_takes_0 : cX1_takes.data.toList.drop 0 = dktX1_takes_0 := by decide +kernel
theorem dksX1_takes_1 : cX1_takes.data.toList.drop 24 = dktX1_takes_1 := dk_seg dksX1_takes_0 24 rfl rfl
theorem dksX1_takes_2 : cX1_takes.data.toList.drop 47 = dktX1_takes_2 := dk_seg dksX1_takes_1 23 rfl rfl
theorem dksX1_takes_3 : cX1_takes.data.toList.drop 71 = dktX1_takes_3 := dk_seg dksX1_takes_2 24 rfl rfl
theorem dX1_takes_0 : decode cX1_takes 0 = .ok (.aload_n 1, 1) := dk_43 (dk_at dksX1_takes_0 0 rfl rfl)
theorem dX1_takes_1 : decode cX1_takes 1 = .ok (.getfield 9, 3) := dk_180 0 9 (dk_at dksX1_takes_0 1 rfl rfl)
theorem dX1_takes_4 : decode cX1_takes 4 = .ok (.iconst 0, 1) := dk_3 (dk_at dksX1_takes_0 4 rfl rfl)
theorem dX1_takes_5 : decode cX1_takes 5 = .ok (.aload_n 0, 1) := dk_42 (dk_at dksX1_takes_0 5 rfl rfl)
theorem dX1_takes_6 : decode cX1_takes 6 = .ok (.getfield 9, 3) := dk_180 0 9 (dk_at dksX1_takes_0 6 rfl rfl)
theorem dX1_takes_9 : decode cX1_takes 9 = .ok (.iconst 0, 1) := dk_3 (dk_at dksX1_takes_0 9 rfl rfl)
theorem dX1_takes_10 : decode cX1_takes 10 = .ok (.bipush 6, 2) := dk_16 6 (dk_at dksX1_takes_0 10 rfl rfl)
theorem dX1_takes_12 : decode cX1_takes 12 = .ok (.invokestatic 26, 3) := dk_184 0 26 (dk_at dksX1_takes_0 12 rfl rfl)
theorem dX1_takes_15 : decode cX1_takes 15 = .ok (.aload_n 1, 1) := dk_43 (dk_at dksX1_takes_0 15 rfl rfl)
theorem dX1_takes_16 : decode cX1_takes 16 = .ok (.getfield 15, 3) := dk_180 0 15 (dk_at dksX1_takes_0 16 rfl rfl)
theorem dX1_takes_19 : decode cX1_takes 19 = .ok (.iconst 0, 1) := dk_3 (dk_at dksX1_takes_0 19 rfl rfl)
theorem dX1_takes_20 : decode cX1_takes 20 = .ok (.aload_n 0, 1) := dk_42 (dk_at dksX1_takes_0 20 rfl rfl)
theorem dX1_takes_21 : decode cX1_takes 21 = .ok (.getfield 15, 3) := dk_180 0 15 (dk_at dksX1_takes_0 21 rfl rfl)
theorem dX1_takes_24 : decode cX1_takes 24 = .ok (.iconst 0, 1) := dk_3 (dk_at dksX1_takes_1 0 rfl rfl)
theorem dX1_takes_25 : decode cX1_takes 25 = .ok (.bipush 6, 2) := dk_16 6 (dk_at dksX1_takes_1 1 rfl rfl)
theorem dX1_takes_27 : decode cX1_takes 27 = .ok (.invokestatic 26, 3) := dk_184 0 26 (dk_at dksX1_takes_1 3 rfl rfl)
theorem dX1_takes_30 : decode cX1_takes 30 = .ok (.aload_n 1, 1) := dk_43 (dk_at dksX1_takes_1 6 rfl rfl)
theorem dX1_takes_31 : decode cX1_takes 31 = .ok (.getfield 18, 3) := dk_180 0 18 (dk_at dksX1_takes_1 7 rfl rfl)
theorem dX1_takes_34 : decode cX1_takes 34 = .ok (.iconst 0, 1) := dk_3 (dk_at dksX1_takes_1 10 rfl rfl)
theorem dX1_takes_35 : decode cX1_takes 35 = .ok (.aload_n 0, 1) := dk_42 (dk_at dksX1_takes_1 11 rfl rfl)
theorem dX1_takes_36 : decode cX1_takes 36 = .ok (.getfield 18, 3) := dk_180 0 18 (dk_at dksX1_takes_1 12 rfl rfl)
theorem dX1_takes_39 : decode cX1_takes 39 = .ok (.iconst 0, 1) := dk_3 (dk_at dksX1_takes_1 15 rfl rfl)
theorem dX1_takes_40 : decode cX1_takes 40 = .ok (.bipush 6, 2) := dk_16 6 (dk_at dksX1_takes_1 16 rfl rfl)
theorem dX1_takes_42 : decode cX1_takes 42 = .ok (.invokestatic 26, 3) := dk_184 0 26 (dk_at dksX1_takes_1 18 rfl rfl)
theorem dX1_takes_45 : decode cX1_takes 45 = .ok (.aload_n 0, 1) := dk_42 (dk_at dksX1_takes_1 21 rfl rfl)
theorem dX1_takes_46 : decode cX1_takes 46 = .ok (.aload_n 1, 1) := dk_43 (dk_at dksX1_takes_1 22 rfl rfl)
theorem dX1_takes_47 : decode cX1_takes 47 = .ok (.getfield 32, 3) := dk_180 0 32 (dk_at dksX1_takes_2 0 rfl rfl)
theorem dX1_takes_50 : decode cX1_takes 50 = .ok (.putfield 32, 3) := dk_181 0 32 (dk_at dksX1_takes_2 3 rfl rfl)
theorem dX1_takes_53 : decode cX1_takes 53 = .ok (.aload_n 0, 1) := dk_42 (dk_at dksX1_takes_2 6 rfl rfl)
theorem dX1_takes_54 : decode cX1_takes 54 = .ok (.aload_n 1, 1) := dk_43 (dk_at dksX1_takes_2 7 rfl rfl)
theorem dX1_takes_55 : decode cX1_takes 55 = .ok (.getfield 35, 3) := dk_180 0 35 (dk_at dksX1_takes_2 8 rfl rfl)
theorem dX1_takes_58 : decode cX1_takes 58 = .ok (.putfield 35, 3) := dk_181 0 35 (dk_at dksX1_takes_2 11 rfl rfl)
theorem dX1_takes_61 : decode cX1_takes 61 = .ok (.aload_n 0, 1) := dk_42 (dk_at dksX1_takes_2 14 rfl rfl)
theorem dX1_takes_62 : decode cX1_takes 62 = .ok (.aload_n 1, 1) := dk_43 (dk_at dksX1_takes_2 15 rfl rfl)
theorem dX1_takes_63 : decode cX1_takes 63 = .ok (.getfield 22, 3) := dk_180 0 22 (dk_at dksX1_takes_2 16 rfl rfl)
theorem dX1_takes_66 : decode cX1_takes 66 = .ok (.putfield 22, 3) := dk_181 0 22 (dk_at dksX1_takes_2 19 rfl rfl)
theorem dX1_takes_69 : decode cX1_takes 69 = .ok (.aload_n 0, 1) := dk_42 (dk_at dksX1_takes_2 22 rfl rfl)
theorem dX1_takes_70 : decode cX1_takes 70 = .ok (.aload_n 1, 1) := dk_43 (dk_at dksX1_takes_2 23 rfl rfl)
theorem dX1_takes_71 : decode cX1_takes 71 = .ok (.getfield 38, 3) := dk_180 0 38 (dk_at dksX1_takes_3 0 rfl rfl)
theorem dX1_takes_74 : decode cX1_takes 74 = .ok (.putfield 38, 3) := dk_181 0 38 (dk_at dksX1_takes_3 3 rfl rfl)
theorem dX1_takes_77 : decode cX1_takes 77 = .ok (.return_, 1) := dk_177 (dk_at dksX1_takes_3 6 rfl rfl)
abbrev cX1_allSums : ByteArray := prog_17_method_5_code
def yX1_allSums : MethodName := ⟨RX1, "allSums", "()I"⟩
def dkwX1_allSums_1 : List UInt8 := [167, 255, 236, 27, 172]
abbrev dktX1_allSums_1 : List UInt8 := dkwX1_allSums_1 ++ []
def dkwX1_allSums_0 : List UInt8 := [3, 60, 3, 61, 28, 42, 180, 0, 32, 162, 0, 18, 27, 42, 180, 0, 18, 28, 46, 96, 60, 132, 2, 1]
abbrev dktX1_allSums_0 : List UInt8 := dkwX1_allSums_0 ++ dktX1_allSums_1
theorem dksX1_allSums_0 : cX1_allSums.data.toList.drop 0 = dktX1_allSums_0 := by decide +kernel
theorem dksX1_allSums_1 : cX1_allSums.data.toList.drop 24 = dktX1_allSums_1 := dk_seg dksX1_allSums_0 24 rfl rfl
theorem dX1_allSums_0 : decode cX1_allSums 0 = .ok (.iconst 0, 1) := dk_3 (dk_at dksX1_allSums_0 0 rfl rfl)
theorem dX1_allSums_1 : decode cX1_allSums 1 = .ok (.istore_n 1, 1) := dk_60 (dk_at dksX1_allSums_0 1 rfl rfl)
theorem dX1_allSums_2 : decode cX1_allSums 2 = .ok (.iconst 0, 1) := dk_3 (dk_at dksX1_allSums_0 2 rfl rfl)
theorem dX1_allSums_3 : decode cX1_allSums 3 = .ok (.istore_n 2, 1) := dk_61 (dk_at dksX1_allSums_0 3 rfl rfl)
theorem dX1_allSums_4 : decode cX1_allSums 4 = .ok (.iload_n 2, 1) := dk_28 (dk_at dksX1_allSums_0 4 rfl rfl)
theorem dX1_allSums_5 : decode cX1_allSums 5 = .ok (.aload_n 0, 1) := dk_42 (dk_at dksX1_allSums_0 5 rfl rfl)
theorem dX1_allSums_6 : decode cX1_allSums 6 = .ok (.getfield 32, 3) := dk_180 0 32 (dk_at dksX1_allSums_0 6 rfl rfl)
theorem dX1_allSums_9 : decode cX1_allSums 9 = .ok (.if_icmp .ge 18, 3) := dk_162 0 18 (dk_at dksX1_allSums_0 9 rfl rfl)
theorem dX1_allSums_12 : decode cX1_allSums 12 = .ok (.iload_n 1, 1) := dk_27 (dk_at dksX1_allSums_0 12 rfl rfl)
theorem dX1_allSums_13 : decode cX1_allSums 13 = .ok (.aload_n 0, 1) := dk_42 (dk_at dksX1_allSums_0 13 rfl rfl)
theorem dX1_allSums_14 : decode cX1_allSums 14 = .ok (.getfield 18, 3) := dk_180 0 18 (dk_at dksX1_allSums_0 14 rfl rfl)
theorem dX1_allSums_17 : decode cX1_allSums 17 = .ok (.iload_n 2, 1) := dk_28 (dk_at dksX1_allSums_0 17 rfl rfl)
theorem dX1_allSums_18 : decode cX1_allSums 18 = .ok (.iaload, 1) := dk_46 (dk_at dksX1_allSums_0 18 rfl rfl)
theorem dX1_allSums_19 : decode cX1_allSums 19 = .ok (.iadd, 1) := dk_96 (dk_at dksX1_allSums_0 19 rfl rfl)
theorem dX1_allSums_20 : decode cX1_allSums 20 = .ok (.istore_n 1, 1) := dk_60 (dk_at dksX1_allSums_0 20 rfl rfl)
theorem dX1_allSums_21 : decode cX1_allSums 21 = .ok (.iinc 2 1, 3) := dk_132 2 1 (dk_at dksX1_allSums_0 21 rfl rfl)
theorem dX1_allSums_24 : decode cX1_allSums 24 = .ok (.goto (-20), 3) := dk_167 255 236 (dk_at dksX1_allSums_1 0 rfl rfl)
theorem dX1_allSums_27 : decode cX1_allSums 27 = .ok (.iload_n 1, 1) := dk_27 (dk_at dksX1_allSums_1 3 rfl rfl)
theorem dX1_allSums_28 : decode cX1_allSums 28 = .ok (.ireturn, 1) := dk_172 (dk_at dksX1_allSums_1 4 rfl rfl)
abbrev cX1_allYards : ByteArray := prog_17_method_6_code
def yX1_allYards : MethodName := ⟨RX1, "allYards", "()I"⟩
def dkwX1_allYards_1 : List UInt8 := [167, 255, 236, 27, 172]
abbrev dktX1_allYards_1 : List UInt8 := dkwX1_allYards_1 ++ []
def dkwX1_allYards_0 : List UInt8 := [3, 60, 3, 61, 28, 42, 180, 0, 32, 162, 0, 18, 27, 42, 180, 0, 15, 28, 51, 96, 60, 132, 2, 1]
abbrev dktX1_allYards_0 : List UInt8 := dkwX1_allYards_0 ++ dktX1_allYards_1
theorem dksX1_allYards_0 : cX1_allYards.data.toList.drop 0 = dktX1_allYards_0 := by decide +kernel
theorem dksX1_allYards_1 : cX1_allYards.data.toList.drop 24 = dktX1_allYards_1 := dk_seg dksX1_allYards_0 24 rfl rfl
theorem dX1_allYards_0 : decode cX1_allYards 0 = .ok (.iconst 0, 1) := dk_3 (dk_at dksX1_allYards_0 0 rfl rfl)
theorem dX1_allYards_1 : decode cX1_allYards 1 = .ok (.istore_n 1, 1) := dk_60 (dk_at dksX1_allYards_0 1 rfl rfl)
theorem dX1_allYards_2 : decode cX1_allYards 2 = .ok (.iconst 0, 1) := dk_3 (dk_at dksX1_allYards_0 2 rfl rfl)
theorem dX1_allYards_3 : decode cX1_allYards 3 = .ok (.istore_n 2, 1) := dk_61 (dk_at dksX1_allYards_0 3 rfl rfl)
theorem dX1_allYards_4 : decode cX1_allYards 4 = .ok (.iload_n 2, 1) := dk_28 (dk_at dksX1_allYards_0 4 rfl rfl)
theorem dX1_allYards_5 : decode cX1_allYards 5 = .ok (.aload_n 0, 1) := dk_42 (dk_at dksX1_allYards_0 5 rfl rfl)
theorem dX1_allYards_6 : decode cX1_allYards 6 = .ok (.getfield 32, 3) := dk_180 0 32 (dk_at dksX1_allYards_0 6 rfl rfl)
theorem dX1_allYards_9 : decode cX1_allYards 9 = .ok (.if_icmp .ge 18, 3) := dk_162 0 18 (dk_at dksX1_allYards_0 9 rfl rfl)
theorem dX1_allYards_12 : decode cX1_allYards 12 = .ok (.iload_n 1, 1) := dk_27 (dk_at dksX1_allYards_0 12 rfl rfl)
theorem dX1_allYards_13 : decode cX1_allYards 13 = .ok (.aload_n 0, 1) := dk_42 (dk_at dksX1_allYards_0 13 rfl rfl)
theorem dX1_allYards_14 : decode cX1_allYards 14 = .ok (.getfield 15, 3) := dk_180 0 15 (dk_at dksX1_allYards_0 14 rfl rfl)
theorem dX1_allYards_17 : decode cX1_allYards 17 = .ok (.iload_n 2, 1) := dk_28 (dk_at dksX1_allYards_0 17 rfl rfl)
theorem dX1_allYards_18 : decode cX1_allYards 18 = .ok (.baload, 1) := dk_51 (dk_at dksX1_allYards_0 18 rfl rfl)
theorem dX1_allYards_19 : decode cX1_allYards 19 = .ok (.iadd, 1) := dk_96 (dk_at dksX1_allYards_0 19 rfl rfl)
theorem dX1_allYards_20 : decode cX1_allYards 20 = .ok (.istore_n 1, 1) := dk_60 (dk_at dksX1_allYards_0 20 rfl rfl)
theorem dX1_allYards_21 : decode cX1_allYards 21 = .ok (.iinc 2 1, 3) := dk_132 2 1 (dk_at dksX1_allYards_0 21 rfl rfl)
theorem dX1_allYards_24 : decode cX1_allYards 24 = .ok (.goto (-20), 3) := dk_167 255 236 (dk_at dksX1_allYards_1 0 rfl rfl)
theorem dX1_allYards_27 : decode cX1_allYards 27 = .ok (.iload_n 1, 1) := dk_27 (dk_at dksX1_allYards_1 3 rfl rfl)
theorem dX1_allYards_28 : decode cX1_allYards 28 = .ok (.ireturn, 1) := dk_172 (dk_at dksX1_allYards_1 4 rfl rfl)
theorem q73 : (Jvm.Cond.initialized "FuneralDebts$Time") ∈ lw_all := lw_g (lw_at lw_m1 2 rfl) rfl
theorem q126 : (Jvm.Cond.instantiable "FuneralDebts$Time" (7 : Nat)) ∈ lw_all := lw_g (lw_at lw_m1 55 rfl) rfl
theorem q128 : (Jvm.Cond.instanceMethod ({ cls := "FuneralDebts$Time", name := "<init>", desc := "()V" } : Jvm.MethodName)) ∈ lw_all := lw_g (lw_at lw_m1 57 rfl) rfl
theorem q129 : (Jvm.Cond.code ({ cls := "FuneralDebts$Time", name := "<init>", desc := "()V" } : Jvm.MethodName) prog_17_method_1_code (1 : Nat) (Option.none : Option Jvm.ClassFile.FieldType)) ∈ lw_all := lw_g (lw_at lw_m1 58 rfl) rfl
theorem q130 : (Jvm.Cond.methodLink "FuneralDebts$Time" (3 : Nat) ({ cls := "java/lang/Object", name := "<init>", desc := "()V" } : Jvm.MethodName)) ∈ lw_all := lw_g (lw_at lw_m1 59 rfl) rfl
theorem q131 : (Jvm.Cond.fieldLink "FuneralDebts$Time" (9 : Nat) "FuneralDebts$Time" "loves" "[B") ∈ lw_all := lw_g (lw_at lw_m1 60 rfl) rfl
theorem q133 : (Jvm.Cond.fieldLink "FuneralDebts$Time" (15 : Nat) "FuneralDebts$Time" "spots" "[B") ∈ lw_all := lw_g (lw_at lw_m1 62 rfl) rfl
theorem q135 : (Jvm.Cond.fieldLink "FuneralDebts$Time" (18 : Nat) "FuneralDebts$Time" "sums" "[I") ∈ lw_all := lw_g (lw_at lw_m1 64 rfl) rfl
theorem q137 : (Jvm.Cond.fieldLink "FuneralDebts$Time" (32 : Nat) "FuneralDebts$Time" "many" "I") ∈ lw_all := lw_g (lw_at lw_m1 66 rfl) rfl
theorem q139 : (Jvm.Cond.fieldLink "FuneralDebts$Time" (35 : Nat) "FuneralDebts$Time" "gone" "I") ∈ lw_all := lw_g (lw_at lw_m1 68 rfl) rfl
theorem q141 : (Jvm.Cond.fieldLink "FuneralDebts$Time" (22 : Nat) "FuneralDebts$Time" "owed" "I") ∈ lw_all := lw_g (lw_at lw_m1 70 rfl) rfl
theorem q143 : (Jvm.Cond.fieldLink "FuneralDebts$Time" (38 : Nat) "FuneralDebts$Time" "day" "I") ∈ lw_all := lw_g (lw_at lw_m1 72 rfl) rfl
theorem q145 : (Jvm.Cond.laysFinal "FuneralDebts$Time" "FuneralDebts$Time" "loves" "[B") ∈ lw_all := lw_g (lw_at lw_m1 74 rfl) rfl
theorem q146 : (Jvm.Cond.soleField "FuneralDebts$Time" "loves") ∈ lw_all := lw_g (lw_at lw_m1 75 rfl) rfl
theorem q147 : (Jvm.Cond.laysFinal "FuneralDebts$Time" "FuneralDebts$Time" "spots" "[B") ∈ lw_all := lw_g (lw_at lw_m1 76 rfl) rfl
theorem q148 : (Jvm.Cond.soleField "FuneralDebts$Time" "spots") ∈ lw_all := lw_g (lw_at lw_m1 77 rfl) rfl
theorem q149 : (Jvm.Cond.laysFinal "FuneralDebts$Time" "FuneralDebts$Time" "sums" "[I") ∈ lw_all := lw_g (lw_at lw_m1 78 rfl) rfl
theorem q150 : (Jvm.Cond.soleField "FuneralDebts$Time" "sums") ∈ lw_all := lw_g (lw_at lw_m1 79 rfl) rfl
theorem q151 : (Jvm.Cond.lays "FuneralDebts$Time" "FuneralDebts$Time" "many" "I") ∈ lw_all := lw_g (lw_at lw_m1 80 rfl) rfl
theorem q152 : (Jvm.Cond.soleField "FuneralDebts$Time" "many") ∈ lw_all := lw_g (lw_at lw_m1 81 rfl) rfl
theorem q153 : (Jvm.Cond.lays "FuneralDebts$Time" "FuneralDebts$Time" "gone" "I") ∈ lw_all := lw_g (lw_at lw_m1 82 rfl) rfl
theorem q154 : (Jvm.Cond.soleField "FuneralDebts$Time" "gone") ∈ lw_all := lw_g (lw_at lw_m1 83 rfl) rfl
theorem q155 : (Jvm.Cond.lays "FuneralDebts$Time" "FuneralDebts$Time" "owed" "I") ∈ lw_all := lw_g (lw_at lw_m1 84 rfl) rfl
theorem q156 : (Jvm.Cond.soleField "FuneralDebts$Time" "owed") ∈ lw_all := lw_g (lw_at lw_m1 85 rfl) rfl
theorem q157 : (Jvm.Cond.lays "FuneralDebts$Time" "FuneralDebts$Time" "day" "I") ∈ lw_all := lw_g (lw_at lw_m1 86 rfl) rfl
theorem q158 : (Jvm.Cond.soleField "FuneralDebts$Time" "day") ∈ lw_all := lw_g (lw_at lw_m1 87 rfl) rfl
theorem q159 : (Jvm.Cond.superclass "FuneralDebts$Time" "java/lang/Object") ∈ lw_all := lw_g (lw_at lw_m1 88 rfl) rfl
theorem q605 : (Jvm.Cond.instanceMethod ({ cls := "FuneralDebts$Time", name := "isAway", desc := "(I)Z" } : Jvm.MethodName)) ∈ lw_all := lw_g (lw_at lw_m3 54 rfl) rfl
theorem q606 : (Jvm.Cond.selects "FuneralDebts$Time" ({ cls := "FuneralDebts$Time", name := "isAway", desc := "(I)Z" } : Jvm.MethodName) ({ cls := "FuneralDebts$Time", name := "isAway", desc := "(I)Z" } : Jvm.MethodName)) ∈ lw_all := lw_g (lw_at lw_m3 55 rfl) rfl
theorem q607 : (Jvm.Cond.code ({ cls := "FuneralDebts$Time", name := "isAway", desc := "(I)Z" } : Jvm.MethodName) prog_17_method_3_code (2 : Nat) (Option.some Jvm.ClassFile.FieldType.boolean)) ∈ lw_all := lw_g (lw_at lw_m3 56 rfl) rfl
theorem q608 : (Jvm.Cond.methodLinkNest "FuneralDebts$Time" (41 : Nat) ({ cls := "FuneralDebts", name := "isIn", desc := "(II)Z" } : Jvm.MethodName) "FuneralDebts") ∈ lw_tbl := lw_at lw_m3 57 rfl
theorem q620 : (Jvm.Cond.instanceMethod ({ cls := "FuneralDebts$Time", name := "present", desc := "()I" } : Jvm.MethodName)) ∈ lw_all := lw_g (lw_at lw_m3 69 rfl) rfl
theorem q621 : (Jvm.Cond.selects "FuneralDebts$Time" ({ cls := "FuneralDebts$Time", name := "present", desc := "()I" } : Jvm.MethodName) ({ cls := "FuneralDebts$Time", name := "present", desc := "()I" } : Jvm.MethodName)) ∈ lw_all := lw_g (lw_at lw_m3 70 rfl) rfl
theorem q622 : (Jvm.Cond.code ({ cls := "FuneralDebts$Time", name := "present", desc := "()I" } : Jvm.MethodName) prog_17_method_4_code (1 : Nat) (Option.some Jvm.ClassFile.FieldType.int)) ∈ lw_all := lw_g (lw_at lw_m3 71 rfl) rfl
theorem q665 : (Jvm.Cond.instanceMethod ({ cls := "FuneralDebts$Time", name := "takes", desc := "(LFuneralDebts$Time;)V" } : Jvm.MethodName)) ∈ lw_all := lw_g (lw_at lw_m3 114 rfl) rfl
theorem q666 : (Jvm.Cond.selects "FuneralDebts$Time" ({ cls := "FuneralDebts$Time", name := "takes", desc := "(LFuneralDebts$Time;)V" } : Jvm.MethodName) ({ cls := "FuneralDebts$Time", name := "takes", desc := "(LFuneralDebts$Time;)V" } : Jvm.MethodName)) ∈ lw_all := lw_g (lw_at lw_m3 115 rfl) rfl
theorem q667 : (Jvm.Cond.code ({ cls := "FuneralDebts$Time", name := "takes", desc := "(LFuneralDebts$Time;)V" } : Jvm.MethodName) prog_17_method_2_code (2 : Nat) (Option.none : Option Jvm.ClassFile.FieldType)) ∈ lw_all := lw_g (lw_at lw_m3 116 rfl) rfl
theorem q668 : (Jvm.Cond.methodLink "FuneralDebts$Time" (26 : Nat) ({ cls := "java/lang/System", name := "arraycopy", desc := "(Ljava/lang/Object;ILjava/lang/Object;II)V" } : Jvm.MethodName)) ∈ lw_all := lw_g (lw_at lw_m3 117 rfl) rfl
theorem q1002 : (Jvm.Cond.selects "FuneralDebts$Time" ({ cls := "java/lang/Object", name := "getClass", desc := "()Ljava/lang/Class;" } : Jvm.MethodName) ({ cls := "java/lang/Object", name := "getClass", desc := "()Ljava/lang/Class;" } : Jvm.MethodName)) ∈ lw_all := lw_g (lw_at lw_m4 211 rfl) rfl
theorem q1106 : (Jvm.Cond.instanceMethod ({ cls := "FuneralDebts$Time", name := "allSums", desc := "()I" } : Jvm.MethodName)) ∈ lw_all := lw_g (lw_at lw_m5 75 rfl) rfl
theorem q1107 : (Jvm.Cond.selects "FuneralDebts$Time" ({ cls := "FuneralDebts$Time", name := "allSums", desc := "()I" } : Jvm.MethodName) ({ cls := "FuneralDebts$Time", name := "allSums", desc := "()I" } : Jvm.MethodName)) ∈ lw_all := lw_g (lw_at lw_m5 76 rfl) rfl
theorem q1108 : (Jvm.Cond.code ({ cls := "FuneralDebts$Time", name := "allSums", desc := "()I" } : Jvm.MethodName) prog_17_method_5_code (3 : Nat) (Option.some Jvm.ClassFile.FieldType.int)) ∈ lw_all := lw_g (lw_at lw_m5 77 rfl) rfl
theorem q1110 : (Jvm.Cond.instanceMethod ({ cls := "FuneralDebts$Time", name := "allYards", desc := "()I" } : Jvm.MethodName)) ∈ lw_all := lw_g (lw_at lw_m5 79 rfl) rfl
theorem q1111 : (Jvm.Cond.selects "FuneralDebts$Time" ({ cls := "FuneralDebts$Time", name := "allYards", desc := "()I" } : Jvm.MethodName) ({ cls := "FuneralDebts$Time", name := "allYards", desc := "()I" } : Jvm.MethodName)) ∈ lw_all := lw_g (lw_at lw_m5 80 rfl) rfl
theorem q1112 : (Jvm.Cond.code ({ cls := "FuneralDebts$Time", name := "allYards", desc := "()I" } : Jvm.MethodName) prog_17_method_6_code (3 : Nat) (Option.some Jvm.ClassFile.FieldType.int)) ∈ lw_all := lw_g (lw_at lw_m5 81 rfl) rfl
theorem q1771 : (Jvm.Cond.castable "FuneralDebts$Time" "java/lang/Object") ∈ lw_tbl := lw_at lw_m8 20 rfl
theorem in_X1 : ∀ w ∈ wsX10, w ∈ lw_all := lw_in wsX10 [145, 147, 149, 151, 153, 155, 157] (by decide +kernel) (by decide +kernel)
/-! FuneralDebts$Parish -/
set_option maxRecDepth 100000
def RX2 : String := "FuneralDebts$Parish"
def TX2 : u_T := fun k => match k with
  | 0 => ("FuneralDebts$Parish", "clauses", "Ljava/util/ArrayList;", true)
  | 1 => ("FuneralDebts$Parish", "many", "I", false)
  | _ => ("FuneralDebts$Parish", "fall", "I", false)
def tyX2 : Nat → FieldType := fun k => match k with
  | 0 => .object "java/util/ArrayList"
  | 1 => .int
  | _ => .int
abbrev wsX20 : List Cond := u_ws RX2 TX2 3
theorem nmX2 : ∀ a, a < 3 → ∀ b, b < 3 → a ≠ b → (TX2 a).2.1 ≠ (TX2 b).2.1 := by decide +kernel
theorem tyX2_ok : ∀ k, k < 3 → parseFieldDescriptor (TX2 k).2.2.1 = some (tyX2 k) := by decide +kernel
abbrev cX2_init : ByteArray := prog_11_method_1_code
def yX2_init : MethodName := ⟨RX2, "<init>", "()V"⟩
def dkwX2_init_0 : List UInt8 := [42, 183, 0, 3, 42, 187, 0, 9, 89, 183, 0, 11, 181, 0, 12, 42, 5, 181, 0, 18, 177]
abbrev dktX2_init_0 : List UInt8 := dkwX2_init_0 ++ []
theorem dksX2_init_0 : cX2_init.data.toList.drop 0 = dktX2_init_0 := by decide +kernel
theorem dX2_init_0 : decode cX2_init 0 = .ok (.aload_n 0, 1) := dk_42 (dk_at dksX2_init_0 0 rfl rfl)
theorem dX2_init_1 : decode cX2_init 1 = .ok (.invokespecial 3, 3) := dk_183 0 3 (dk_at dksX2_init_0 1 rfl rfl)
theorem dX2_init_4 : decode cX2_init 4 = .ok (.aload_n 0, 1) := dk_42 (dk_at dksX2_init_0 4 rfl rfl)
theorem dX2_init_5 : decode cX2_init 5 = .ok (.new 9, 3) := dk_187 0 9 (dk_at dksX2_init_0 5 rfl rfl)
theorem dX2_init_8 : decode cX2_init 8 = .ok (.dup, 1) := dk_89 (dk_at dksX2_init_0 8 rfl rfl)
theorem dX2_init_9 : decode cX2_init 9 = .ok (.invokespecial 11, 3) := dk_183 0 11 (dk_at dksX2_init_0 9 rfl rfl)
theorem dX2_init_12 : decode cX2_init 12 = .ok (.putfield 12, 3) := dk_181 0 12 (dk_at dksX2_init_0 12 rfl rfl)
theorem dX2_init_15 : decode cX2_init 15 = .ok (.aload_n 0, 1) := dk_42 (dk_at dksX2_init_0 15 rfl rfl)
theorem dX2_init_16 : decode cX2_init 16 = .ok (.iconst 2, 1) := dk_5 (dk_at dksX2_init_0 16 rfl rfl)
theorem dX2_init_17 : decode cX2_init 17 = .ok (.putfield 18, 3) := dk_181 0 18 (dk_at dksX2_init_0 17 rfl rfl)
theorem dX2_init_20 : decode cX2_init 20 = .ok (.return_, 1) := dk_177 (dk_at dksX2_init_0 20 rfl rfl)
abbrev cX2_sum : ByteArray := prog_11_method_2_code
def yX2_sum : MethodName := ⟨RX2, "sum", "(LFuneralDebts$Look;)I"⟩
def dkwX2_sum_3 : List UInt8 := [172]
abbrev dktX2_sum_3 : List UInt8 := dkwX2_sum_3 ++ []
def dkwX2_sum_2 : List UInt8 := [28, 42, 180, 0, 12, 29, 182, 0, 31, 192, 0, 35, 180, 0, 47, 96, 61, 132, 3, 1, 167, 255, 204, 28]
abbrev dktX2_sum_2 : List UInt8 := dkwX2_sum_2 ++ dktX2_sum_3
def dkwX2_sum_1 : List UInt8 := [162, 0, 47, 42, 180, 0, 12, 29, 182, 0, 31, 192, 0, 35, 180, 0, 37, 43, 182, 0, 41, 153, 0, 20]
abbrev dktX2_sum_1 : List UInt8 := dkwX2_sum_1 ++ dktX2_sum_2
def dkwX2_sum_0 : List UInt8 := [16, 20, 42, 180, 0, 18, 43, 180, 0, 22, 104, 100, 61, 3, 62, 29, 42, 180, 0, 12, 182, 0, 27]
abbrev dktX2_sum_0 : List UInt8 := dkwX2_sum_0 ++ dktX2_sum_1
theorem dksX2_sum_0 : cX2_sum.data.toList.drop 0 = dktX2_sum_0 := by decide +kernel
theorem dksX2_sum_1 : cX2_sum.data.toList.drop 23 = dktX2_sum_1 := dk_seg dksX2_sum_0 23 rfl rfl
theorem dksX2_sum_2 : cX2_sum.data.toList.drop 47 = dktX2_sum_2 := dk_seg dksX2_sum_1 24 rfl rfl
theorem dksX2_sum_3 : cX2_sum.data.toList.drop 71 = dktX2_sum_3 := dk_seg dksX2_sum_2 24 rfl rfl
theorem dX2_sum_0 : decode cX2_sum 0 = .ok (.bipush 20, 2) := dk_16 20 (dk_at dksX2_sum_0 0 rfl rfl)
theorem dX2_sum_2 : decode cX2_sum 2 = .ok (.aload_n 0, 1) := dk_42 (dk_at dksX2_sum_0 2 rfl rfl)
theorem dX2_sum_3 : decode cX2_sum 3 = .ok (.getfield 18, 3) := dk_180 0 18 (dk_at dksX2_sum_0 3 rfl rfl)
theorem dX2_sum_6 : decode cX2_sum 6 = .ok (.aload_n 1, 1) := dk_43 (dk_at dksX2_sum_0 6 rfl rfl)
theorem dX2_sum_7 : decode cX2_sum 7 = .ok (.getfield 22, 3) := dk_180 0 22 (dk_at dksX2_sum_0 7 rfl rfl)
theorem dX2_sum_10 : decode cX2_sum 10 = .ok (.imul, 1) := dk_104 (dk_at dksX2_sum_0 10 rfl rfl)
theorem dX2_sum_11 : decode cX2_sum 11 = .ok (.isub, 1) := dk_100 (dk_at dksX2_sum_0 11 rfl rfl)
theorem dX2_sum_12 : decode cX2_sum 12 = .ok (.istore_n 2, 1) := dk_61 (dk_at dksX2_sum_0 12 rfl rfl)
theorem dX2_sum_13 : decode cX2_sum 13 = .ok (.iconst 0, 1) := dk_3 (dk_at dksX2_sum_0 13 rfl rfl)
theorem dX2_sum_14 : decode cX2_sum 14 = .ok (.istore_n 3, 1) := dk_62 (dk_at dksX2_sum_0 14 rfl rfl)
theorem dX2_sum_15 : decode cX2_sum 15 = .ok (.iload_n 3, 1) := dk_29 (dk_at dksX2_sum_0 15 rfl rfl)
theorem dX2_sum_16 : decode cX2_sum 16 = .ok (.aload_n 0, 1) := dk_42 (dk_at dksX2_sum_0 16 rfl rfl)
theorem dX2_sum_17 : decode cX2_sum 17 = .ok (.getfield 12, 3) := dk_180 0 12 (dk_at dksX2_sum_0 17 rfl rfl)
theorem dX2_sum_20 : decode cX2_sum 20 = .ok (.invokevirtual 27, 3) := dk_182 0 27 (dk_at dksX2_sum_0 20 rfl rfl)
theorem dX2_sum_23 : decode cX2_sum 23 = .ok (.if_icmp .ge 47, 3) := dk_162 0 47 (dk_at dksX2_sum_1 0 rfl rfl)
theorem dX2_sum_26 : decode cX2_sum 26 = .ok (.aload_n 0, 1) := dk_42 (dk_at dksX2_sum_1 3 rfl rfl)
theorem dX2_sum_27 : decode cX2_sum 27 = .ok (.getfield 12, 3) := dk_180 0 12 (dk_at dksX2_sum_1 4 rfl rfl)
theorem dX2_sum_30 : decode cX2_sum 30 = .ok (.iload_n 3, 1) := dk_29 (dk_at dksX2_sum_1 7 rfl rfl)
theorem dX2_sum_31 : decode cX2_sum 31 = .ok (.invokevirtual 31, 3) := dk_182 0 31 (dk_at dksX2_sum_1 8 rfl rfl)
theorem dX2_sum_34 : decode cX2_sum 34 = .ok (.checkcast 35, 3) := dk_192 0 35 (dk_at dksX2_sum_1 11 rfl rfl)
theorem dX2_sum_37 : decode cX2_sum 37 = .ok (.getfield 37, 3) := dk_180 0 37 (dk_at dksX2_sum_1 14 rfl rfl)
theorem dX2_sum_40 : decode cX2_sum 40 = .ok (.aload_n 1, 1) := dk_43 (dk_at dksX2_sum_1 17 rfl rfl)
theorem dX2_sum_41 : decode cX2_sum 41 = .ok (.invokevirtual 41, 3) := dk_182 0 41 (dk_at dksX2_sum_1 18 rfl rfl)
theorem dX2_sum_44 : decode cX2_sum 44 = .ok (.ifCond .eq 20, 3) := dk_153 0 20 (dk_at dksX2_sum_1 21 rfl rfl)
theorem dX2_sum_47 : decode cX2_sum 47 = .ok (.iload_n 2, 1) := dk_28 (dk_at dksX2_sum_2 0 rfl rfl)
theorem dX2_sum_48 : decode cX2_sum 48 = .ok (.aload_n 0, 1) := dk_42 (dk_at dksX2_sum_2 1 rfl rfl)
theorem dX2_sum_49 : decode cX2_sum 49 = .ok (.getfield 12, 3) := dk_180 0 12 (dk_at dksX2_sum_2 2 rfl rfl)
theorem dX2_sum_52 : decode cX2_sum 52 = .ok (.iload_n 3, 1) := dk_29 (dk_at dksX2_sum_2 5 rfl rfl)
theorem dX2_sum_53 : decode cX2_sum 53 = .ok (.invokevirtual 31, 3) := dk_182 0 31 (dk_at dksX2_sum_2 6 rfl rfl)
theorem dX2_sum_56 : decode cX2_sum 56 = .ok (.checkcast 35, 3) := dk_192 0 35 (dk_at dksX2_sum_2 9 rfl rfl)
theorem dX2_sum_59 : decode cX2_sum 59 = .ok (.getfield 47, 3) := dk_180 0 47 (dk_at dksX2_sum_2 12 rfl rfl)
theorem dX2_sum_62 : decode cX2_sum 62 = .ok (.iadd, 1) := dk_96 (dk_at dksX2_sum_2 15 rfl rfl)
theorem dX2_sum_63 : decode cX2_sum 63 = .ok (.istore_n 2, 1) := dk_61 (dk_at dksX2_sum_2 16 rfl rfl)
theorem dX2_sum_64 : decode cX2_sum 64 = .ok (.iinc 3 1, 3) := dk_132 3 1 (dk_at dksX2_sum_2 17 rfl rfl)
theorem dX2_sum_67 : decode cX2_sum 67 = .ok (.goto (-52), 3) := dk_167 255 204 (dk_at dksX2_sum_2 20 rfl rfl)
theorem dX2_sum_70 : decode cX2_sum 70 = .ok (.iload_n 2, 1) := dk_28 (dk_at dksX2_sum_2 23 rfl rfl)
theorem dX2_sum_71 : decode cX2_sum 71 = .ok (.ireturn, 1) := dk_172 (dk_at dksX2_sum_3 0 rfl rfl)
theorem q74 : (Jvm.Cond.initialized "FuneralDebts$Parish") ∈ lw_all := lw_g (lw_at lw_m1 3 rfl) rfl
theorem q163 : (Jvm.Cond.instantiable "FuneralDebts$Parish" (3 : Nat)) ∈ lw_all := lw_g (lw_at lw_m1 92 rfl) rfl
theorem q165 : (Jvm.Cond.instanceMethod ({ cls := "FuneralDebts$Parish", name := "<init>", desc := "()V" } : Jvm.MethodName)) ∈ lw_all := lw_g (lw_at lw_m1 94 rfl) rfl
theorem q166 : (Jvm.Cond.code ({ cls := "FuneralDebts$Parish", name := "<init>", desc := "()V" } : Jvm.MethodName) prog_11_method_1_code (1 : Nat) (Option.none : Option Jvm.ClassFile.FieldType)) ∈ lw_all := lw_g (lw_at lw_m1 95 rfl) rfl
theorem q167 : (Jvm.Cond.methodLink "FuneralDebts$Parish" (3 : Nat) ({ cls := "java/lang/Object", name := "<init>", desc := "()V" } : Jvm.MethodName)) ∈ lw_all := lw_g (lw_at lw_m1 96 rfl) rfl
theorem q168 : (Jvm.Cond.classLink "FuneralDebts$Parish" (9 : Nat) "java/util/ArrayList") ∈ lw_all := lw_g (lw_at lw_m1 97 rfl) rfl
theorem q170 : (Jvm.Cond.methodLink "FuneralDebts$Parish" (11 : Nat) ({ cls := "java/util/ArrayList", name := "<init>", desc := "()V" } : Jvm.MethodName)) ∈ lw_all := lw_g (lw_at lw_m1 99 rfl) rfl
theorem q194 : (Jvm.Cond.fieldLink "FuneralDebts$Parish" (12 : Nat) "FuneralDebts$Parish" "clauses" "Ljava/util/ArrayList;") ∈ lw_all := lw_g (lw_at lw_m1 123 rfl) rfl
theorem q197 : (Jvm.Cond.fieldLink "FuneralDebts$Parish" (18 : Nat) "FuneralDebts$Parish" "fall" "I") ∈ lw_all := lw_g (lw_at lw_m1 126 rfl) rfl
theorem q200 : (Jvm.Cond.laysFinal "FuneralDebts$Parish" "FuneralDebts$Parish" "clauses" "Ljava/util/ArrayList;") ∈ lw_all := lw_g (lw_at lw_m1 129 rfl) rfl
theorem q201 : (Jvm.Cond.soleField "FuneralDebts$Parish" "clauses") ∈ lw_all := lw_g (lw_at lw_m1 130 rfl) rfl
theorem q202 : (Jvm.Cond.lays "FuneralDebts$Parish" "FuneralDebts$Parish" "many" "I") ∈ lw_all := lw_g (lw_at lw_m1 131 rfl) rfl
theorem q203 : (Jvm.Cond.soleField "FuneralDebts$Parish" "many") ∈ lw_all := lw_g (lw_at lw_m1 132 rfl) rfl
theorem q204 : (Jvm.Cond.lays "FuneralDebts$Parish" "FuneralDebts$Parish" "fall" "I") ∈ lw_all := lw_g (lw_at lw_m1 133 rfl) rfl
theorem q205 : (Jvm.Cond.soleField "FuneralDebts$Parish" "fall") ∈ lw_all := lw_g (lw_at lw_m1 134 rfl) rfl
theorem q206 : (Jvm.Cond.superclass "FuneralDebts$Parish" "java/lang/Object") ∈ lw_all := lw_g (lw_at lw_m1 135 rfl) rfl
theorem q221 : (Jvm.Cond.fieldLinkNest "FuneralDebts$Parish" (22 : Nat) "FuneralDebts$Look" "yard" "I" "FuneralDebts") ∈ lw_tbl := lw_at lw_m1 150 rfl
theorem q529 : (Jvm.Cond.instanceMethod ({ cls := "FuneralDebts$Parish", name := "sum", desc := "(LFuneralDebts$Look;)I" } : Jvm.MethodName)) ∈ lw_all := lw_g (lw_at lw_m2 218 rfl) rfl
theorem q530 : (Jvm.Cond.selects "FuneralDebts$Parish" ({ cls := "FuneralDebts$Parish", name := "sum", desc := "(LFuneralDebts$Look;)I" } : Jvm.MethodName) ({ cls := "FuneralDebts$Parish", name := "sum", desc := "(LFuneralDebts$Look;)I" } : Jvm.MethodName)) ∈ lw_all := lw_g (lw_at lw_m2 219 rfl) rfl
theorem q531 : (Jvm.Cond.code ({ cls := "FuneralDebts$Parish", name := "sum", desc := "(LFuneralDebts$Look;)I" } : Jvm.MethodName) prog_11_method_2_code (4 : Nat) (Option.some Jvm.ClassFile.FieldType.int)) ∈ lw_all := lw_g (lw_at lw_m2 220 rfl) rfl
theorem q532 : (Jvm.Cond.methodLink "FuneralDebts$Parish" (27 : Nat) ({ cls := "java/util/ArrayList", name := "size", desc := "()I" } : Jvm.MethodName)) ∈ lw_all := lw_g (lw_at lw_m2 221 rfl) rfl
theorem q536 : (Jvm.Cond.methodLink "FuneralDebts$Parish" (31 : Nat) ({ cls := "java/util/ArrayList", name := "get", desc := "(I)Ljava/lang/Object;" } : Jvm.MethodName)) ∈ lw_all := lw_g (lw_at lw_m2 225 rfl) rfl
theorem q550 : (Jvm.Cond.classLink "FuneralDebts$Parish" (35 : Nat) "FuneralDebts$Clause") ∈ lw_all := lw_g (lw_at lw_m2 239 rfl) rfl
theorem q551 : (Jvm.Cond.methodLink "FuneralDebts$Parish" (41 : Nat) ({ cls := "FuneralDebts$Test", name := "holds", desc := "(LFuneralDebts$Look;)Z" } : Jvm.MethodName)) ∈ lw_all := lw_g (lw_at lw_m3 0 rfl) rfl
theorem q998 : (Jvm.Cond.selects "FuneralDebts$Parish" ({ cls := "java/lang/Object", name := "getClass", desc := "()Ljava/lang/Class;" } : Jvm.MethodName) ({ cls := "java/lang/Object", name := "getClass", desc := "()Ljava/lang/Class;" } : Jvm.MethodName)) ∈ lw_all := lw_g (lw_at lw_m4 207 rfl) rfl
theorem q1030 : (Jvm.Cond.fieldLinkNest "FuneralDebts$Parish" (47 : Nat) "FuneralDebts$Clause" "n" "I" "FuneralDebts") ∈ lw_tbl := lw_at lw_m4 239 rfl
theorem q1032 : (Jvm.Cond.fieldLinkNest "FuneralDebts$Parish" (37 : Nat) "FuneralDebts$Clause" "test" "LFuneralDebts$Test;" "FuneralDebts") ∈ lw_tbl := lw_at lw_m5 1 rfl
theorem q1772 : (Jvm.Cond.castable "FuneralDebts$Parish" "java/lang/Object") ∈ lw_tbl := lw_at lw_m8 21 rfl
theorem in_X2 : ∀ w ∈ wsX20, w ∈ lw_all := lw_in wsX20 [200, 202, 204] (by decide +kernel) (by decide +kernel)
/-! FuneralDebts$Look -/
set_option maxRecDepth 100000
def RX3 : String := "FuneralDebts$Look"
def TX3 : u_T := fun k => match k with
  | 0 => ("FuneralDebts$Look", "mourner", "I", false)
  | 1 => ("FuneralDebts$Look", "kind", "I", false)
  | 2 => ("FuneralDebts$Look", "v", "I", false)
  | 3 => ("FuneralDebts$Look", "dear", "I", false)
  | 4 => ("FuneralDebts$Look", "yard", "I", false)
  | _ => ("FuneralDebts$Look", "day", "I", false)
def tyX3 : Nat → FieldType := fun k => match k with
  | 0 => .int
  | 1 => .int
  | 2 => .int
  | 3 => .int
  | 4 => .int
  | _ => .int
abbrev wsX30 : List Cond := u_ws RX3 TX3 6
theorem nmX3 : ∀ a, a < 6 → ∀ b, b < 6 → a ≠ b → (TX3 a).2.1 ≠ (TX3 b).2.1 := by decide +kernel
theorem tyX3_ok : ∀ k, k < 6 → parseFieldDescriptor (TX3 k).2.2.1 = some (tyX3 k) := by decide +kernel
abbrev cX3_init : ByteArray := prog_7_method_1_code
def yX3_init : MethodName := ⟨RX3, "<init>", "()V"⟩
theorem dX3_init_0 : decode cX3_init 0 = .ok (.aload_n 0, 1) := by decide +kernel
theorem dX3_init_1 : decode cX3_init 1 = .ok (.invokespecial 1, 3) := by decide +kernel
theorem dX3_init_4 : decode cX3_init 4 = .ok (.return_, 1) := by decide +kernel
abbrev cX3_of : ByteArray := prog_7_method_2_code
def yX3_of : MethodName := ⟨RX3, "of", "(I)I"⟩
def dkwX3_of_3 : List UInt8 := [172, 42, 180, 0, 25, 172]
abbrev dktX3_of_3 : List UInt8 := dkwX3_of_3 ++ []
def dkwX3_of_2 : List UInt8 := [42, 180, 0, 7, 172, 42, 180, 0, 13, 172, 42, 180, 0, 16, 172, 42, 180, 0, 19, 172, 42, 180, 0, 22]
abbrev dktX3_of_2 : List UInt8 := dkwX3_of_2 ++ dktX3_of_3
def dkwX3_of_1 : List UInt8 := [170, 0, 0, 0, 0, 0, 100, 0, 0, 0, 107, 0, 0, 0, 121, 0, 0, 0, 80, 0, 0, 0, 90, 0, 0, 0, 100, 0, 0, 0, 100, 0, 0, 0, 100, 0, 0, 0, 75, 0, 0, 0, 100, 0, 0, 0, 100, 0, 0, 0, 100, 0, 0, 0, 100, 0, 0, 0, 100, 0, 0, 0, 85, 0, 0, 0, 100, 0, 0, 0, 100, 0, 0, 0, 95]
abbrev dktX3_of_1 : List UInt8 := dkwX3_of_1 ++ dktX3_of_2
def dkwX3_of_0 : List UInt8 := [27]
abbrev dktX3_of_0 : List UInt8 := dkwX3_of_0 ++ dktX3_of_1
theorem dksX3_of_0 : cX3_of.data.toList.drop 0 = dktX3_of_0 := by decide +kernel
theorem dksX3_of_1 : cX3_of.data.toList.drop 1 = dktX3_of_1 := dk_seg dksX3_of_0 1 rfl rfl
theorem dksX3_of_2 : cX3_of.data.toList.drop 76 = dktX3_of_2 := dk_seg dksX3_of_1 75 rfl rfl
theorem dksX3_of_3 : cX3_of.data.toList.drop 100 = dktX3_of_3 := dk_seg dksX3_of_2 24 rfl rfl
theorem dX3_of_0 : decode cX3_of 0 = .ok (.iload_n 1, 1) := dk_27 (dk_at dksX3_of_0 0 rfl rfl)
theorem dX3_of_1 : decode cX3_of 1 = .ok (.tableswitch 100 107 121 #[80, 90, 100, 100, 100, 75, 100, 100, 100, 100, 100, 85, 100, 100, 95], 75) := by decide +kernel
theorem dX3_of_76 : decode cX3_of 76 = .ok (.aload_n 0, 1) := dk_42 (dk_at dksX3_of_2 0 rfl rfl)
theorem dX3_of_77 : decode cX3_of 77 = .ok (.getfield 7, 3) := dk_180 0 7 (dk_at dksX3_of_2 1 rfl rfl)
theorem dX3_of_80 : decode cX3_of 80 = .ok (.ireturn, 1) := dk_172 (dk_at dksX3_of_2 4 rfl rfl)
theorem dX3_of_81 : decode cX3_of 81 = .ok (.aload_n 0, 1) := dk_42 (dk_at dksX3_of_2 5 rfl rfl)
theorem dX3_of_82 : decode cX3_of 82 = .ok (.getfield 13, 3) := dk_180 0 13 (dk_at dksX3_of_2 6 rfl rfl)
theorem dX3_of_85 : decode cX3_of 85 = .ok (.ireturn, 1) := dk_172 (dk_at dksX3_of_2 9 rfl rfl)
theorem dX3_of_86 : decode cX3_of 86 = .ok (.aload_n 0, 1) := dk_42 (dk_at dksX3_of_2 10 rfl rfl)
theorem dX3_of_87 : decode cX3_of 87 = .ok (.getfield 16, 3) := dk_180 0 16 (dk_at dksX3_of_2 11 rfl rfl)
theorem dX3_of_90 : decode cX3_of 90 = .ok (.ireturn, 1) := dk_172 (dk_at dksX3_of_2 14 rfl rfl)
theorem dX3_of_91 : decode cX3_of 91 = .ok (.aload_n 0, 1) := dk_42 (dk_at dksX3_of_2 15 rfl rfl)
theorem dX3_of_92 : decode cX3_of 92 = .ok (.getfield 19, 3) := dk_180 0 19 (dk_at dksX3_of_2 16 rfl rfl)
theorem dX3_of_95 : decode cX3_of 95 = .ok (.ireturn, 1) := dk_172 (dk_at dksX3_of_2 19 rfl rfl)
theorem dX3_of_96 : decode cX3_of 96 = .ok (.aload_n 0, 1) := dk_42 (dk_at dksX3_of_2 20 rfl rfl)
theorem dX3_of_97 : decode cX3_of 97 = .ok (.getfield 22, 3) := dk_180 0 22 (dk_at dksX3_of_2 21 rfl rfl)
theorem dX3_of_100 : decode cX3_of 100 = .ok (.ireturn, 1) := dk_172 (dk_at dksX3_of_3 0 rfl rfl)
theorem dX3_of_101 : decode cX3_of 101 = .ok (.aload_n 0, 1) := dk_42 (dk_at dksX3_of_3 1 rfl rfl)
theorem dX3_of_102 : decode cX3_of 102 = .ok (.getfield 25, 3) := dk_180 0 25 (dk_at dksX3_of_3 2 rfl rfl)
theorem dX3_of_105 : decode cX3_of 105 = .ok (.ireturn, 1) := dk_172 (dk_at dksX3_of_3 5 rfl rfl)
theorem q78 : (Jvm.Cond.initialized "FuneralDebts$Look") ∈ lw_all := lw_g (lw_at lw_m1 7 rfl) rfl
theorem q208 : (Jvm.Cond.instantiable "FuneralDebts$Look" (6 : Nat)) ∈ lw_all := lw_g (lw_at lw_m1 137 rfl) rfl
theorem q210 : (Jvm.Cond.instanceMethod ({ cls := "FuneralDebts$Look", name := "<init>", desc := "()V" } : Jvm.MethodName)) ∈ lw_all := lw_g (lw_at lw_m1 139 rfl) rfl
theorem q211 : (Jvm.Cond.code ({ cls := "FuneralDebts$Look", name := "<init>", desc := "()V" } : Jvm.MethodName) prog_7_method_1_code (1 : Nat) (Option.none : Option Jvm.ClassFile.FieldType)) ∈ lw_all := lw_g (lw_at lw_m1 140 rfl) rfl
theorem q212 : (Jvm.Cond.methodLink "FuneralDebts$Look" (1 : Nat) ({ cls := "java/lang/Object", name := "<init>", desc := "()V" } : Jvm.MethodName)) ∈ lw_all := lw_g (lw_at lw_m1 141 rfl) rfl
theorem q213 : (Jvm.Cond.fieldLink "FuneralDebts$Look" (7 : Nat) "FuneralDebts$Look" "mourner" "I") ∈ lw_all := lw_g (lw_at lw_m1 142 rfl) rfl
theorem q215 : (Jvm.Cond.fieldLink "FuneralDebts$Look" (13 : Nat) "FuneralDebts$Look" "kind" "I") ∈ lw_all := lw_g (lw_at lw_m1 144 rfl) rfl
theorem q217 : (Jvm.Cond.fieldLink "FuneralDebts$Look" (16 : Nat) "FuneralDebts$Look" "v" "I") ∈ lw_all := lw_g (lw_at lw_m1 146 rfl) rfl
theorem q219 : (Jvm.Cond.fieldLink "FuneralDebts$Look" (19 : Nat) "FuneralDebts$Look" "dear" "I") ∈ lw_all := lw_g (lw_at lw_m1 148 rfl) rfl
theorem q222 : (Jvm.Cond.fieldLink "FuneralDebts$Look" (22 : Nat) "FuneralDebts$Look" "yard" "I") ∈ lw_all := lw_g (lw_at lw_m1 151 rfl) rfl
theorem q224 : (Jvm.Cond.fieldLink "FuneralDebts$Look" (25 : Nat) "FuneralDebts$Look" "day" "I") ∈ lw_all := lw_g (lw_at lw_m1 153 rfl) rfl
theorem q226 : (Jvm.Cond.lays "FuneralDebts$Look" "FuneralDebts$Look" "mourner" "I") ∈ lw_all := lw_g (lw_at lw_m1 155 rfl) rfl
theorem q227 : (Jvm.Cond.soleField "FuneralDebts$Look" "mourner") ∈ lw_all := lw_g (lw_at lw_m1 156 rfl) rfl
theorem q228 : (Jvm.Cond.lays "FuneralDebts$Look" "FuneralDebts$Look" "kind" "I") ∈ lw_all := lw_g (lw_at lw_m1 157 rfl) rfl
theorem q229 : (Jvm.Cond.soleField "FuneralDebts$Look" "kind") ∈ lw_all := lw_g (lw_at lw_m1 158 rfl) rfl
theorem q230 : (Jvm.Cond.lays "FuneralDebts$Look" "FuneralDebts$Look" "v" "I") ∈ lw_all := lw_g (lw_at lw_m1 159 rfl) rfl
theorem q231 : (Jvm.Cond.soleField "FuneralDebts$Look" "v") ∈ lw_all := lw_g (lw_at lw_m1 160 rfl) rfl
theorem q232 : (Jvm.Cond.lays "FuneralDebts$Look" "FuneralDebts$Look" "dear" "I") ∈ lw_all := lw_g (lw_at lw_m1 161 rfl) rfl
theorem q233 : (Jvm.Cond.soleField "FuneralDebts$Look" "dear") ∈ lw_all := lw_g (lw_at lw_m1 162 rfl) rfl
theorem q234 : (Jvm.Cond.lays "FuneralDebts$Look" "FuneralDebts$Look" "yard" "I") ∈ lw_all := lw_g (lw_at lw_m1 163 rfl) rfl
theorem q235 : (Jvm.Cond.soleField "FuneralDebts$Look" "yard") ∈ lw_all := lw_g (lw_at lw_m1 164 rfl) rfl
theorem q236 : (Jvm.Cond.lays "FuneralDebts$Look" "FuneralDebts$Look" "day" "I") ∈ lw_all := lw_g (lw_at lw_m1 165 rfl) rfl
theorem q237 : (Jvm.Cond.soleField "FuneralDebts$Look" "day") ∈ lw_all := lw_g (lw_at lw_m1 166 rfl) rfl
theorem q238 : (Jvm.Cond.superclass "FuneralDebts$Look" "java/lang/Object") ∈ lw_all := lw_g (lw_at lw_m1 167 rfl) rfl
theorem q558 : (Jvm.Cond.instanceMethod ({ cls := "FuneralDebts$Look", name := "of", desc := "(I)I" } : Jvm.MethodName)) ∈ lw_all := lw_g (lw_at lw_m3 7 rfl) rfl
theorem q559 : (Jvm.Cond.selects "FuneralDebts$Look" ({ cls := "FuneralDebts$Look", name := "of", desc := "(I)I" } : Jvm.MethodName) ({ cls := "FuneralDebts$Look", name := "of", desc := "(I)I" } : Jvm.MethodName)) ∈ lw_all := lw_g (lw_at lw_m3 8 rfl) rfl
theorem q560 : (Jvm.Cond.code ({ cls := "FuneralDebts$Look", name := "of", desc := "(I)I" } : Jvm.MethodName) prog_7_method_2_code (2 : Nat) (Option.some Jvm.ClassFile.FieldType.int)) ∈ lw_all := lw_g (lw_at lw_m3 9 rfl) rfl
theorem q994 : (Jvm.Cond.selects "FuneralDebts$Look" ({ cls := "java/lang/Object", name := "getClass", desc := "()Ljava/lang/Class;" } : Jvm.MethodName) ({ cls := "java/lang/Object", name := "getClass", desc := "()Ljava/lang/Class;" } : Jvm.MethodName)) ∈ lw_all := lw_g (lw_at lw_m4 203 rfl) rfl
theorem q1774 : (Jvm.Cond.castable "FuneralDebts$Look" "java/lang/Object") ∈ lw_tbl := lw_at lw_m8 23 rfl
theorem in_X3 : ∀ w ∈ wsX30, w ∈ lw_all := lw_in wsX30 [226, 228, 230, 232, 234, 236] (by decide +kernel) (by decide +kernel)
/-! FuneralDebts$Trace -/
set_option maxRecDepth 100000
def RX4 : String := "FuneralDebts$Trace"
def TX4 : u_T := fun k => match k with
  | 0 => ("FuneralDebts$Trace", "bodies", "[I", true)
  | _ => ("FuneralDebts$Trace", "count", "I", false)
def tyX4 : Nat → FieldType := fun k => match k with
  | 0 => .array .int
  | _ => .int
abbrev wsX40 : List Cond := u_ws RX4 TX4 2
theorem nmX4 : ∀ a, a < 2 → ∀ b, b < 2 → a ≠ b → (TX4 a).2.1 ≠ (TX4 b).2.1 := by decide +kernel
theorem tyX4_ok : ∀ k, k < 2 → parseFieldDescriptor (TX4 k).2.2.1 = some (tyX4 k) := by decide +kernel
abbrev cX4_init : ByteArray := prog_19_method_1_code
def yX4_init : MethodName := ⟨RX4, "<init>", "()V"⟩
def dkwX4_init_0 : List UInt8 := [42, 183, 0, 3, 42, 16, 20, 188, 10, 181, 0, 9, 177]
abbrev dktX4_init_0 : List UInt8 := dkwX4_init_0 ++ []
theorem dksX4_init_0 : cX4_init.data.toList.drop 0 = dktX4_init_0 := by decide +kernel
theorem dX4_init_0 : decode cX4_init 0 = .ok (.aload_n 0, 1) := dk_42 (dk_at dksX4_init_0 0 rfl rfl)
theorem dX4_init_1 : decode cX4_init 1 = .ok (.invokespecial 3, 3) := dk_183 0 3 (dk_at dksX4_init_0 1 rfl rfl)
theorem dX4_init_4 : decode cX4_init 4 = .ok (.aload_n 0, 1) := dk_42 (dk_at dksX4_init_0 4 rfl rfl)
theorem dX4_init_5 : decode cX4_init 5 = .ok (.bipush 20, 2) := dk_16 20 (dk_at dksX4_init_0 5 rfl rfl)
theorem dX4_init_7 : decode cX4_init 7 = .ok (.newarray .int, 2) := dk_188_10 (dk_at dksX4_init_0 7 rfl rfl)
theorem dX4_init_9 : decode cX4_init 9 = .ok (.putfield 9, 3) := dk_181 0 9 (dk_at dksX4_init_0 9 rfl rfl)
theorem dX4_init_12 : decode cX4_init 12 = .ok (.return_, 1) := dk_177 (dk_at dksX4_init_0 12 rfl rfl)
abbrev cX4_ran : ByteArray := prog_19_method_2_code
def yX4_ran : MethodName := ⟨RX4, "ran", "(I)V"⟩
def dkwX4_ran_1 : List UInt8 := [4, 96, 181, 0, 15, 177]
abbrev dktX4_ran_1 : List UInt8 := dkwX4_ran_1 ++ []
def dkwX4_ran_0 : List UInt8 := [42, 180, 0, 15, 16, 20, 162, 0, 13, 42, 180, 0, 9, 42, 180, 0, 15, 27, 79, 42, 89, 180, 0, 15]
abbrev dktX4_ran_0 : List UInt8 := dkwX4_ran_0 ++ dktX4_ran_1
theorem dksX4_ran_0 : cX4_ran.data.toList.drop 0 = dktX4_ran_0 := by decide +kernel
theorem dksX4_ran_1 : cX4_ran.data.toList.drop 24 = dktX4_ran_1 := dk_seg dksX4_ran_0 24 rfl rfl
theorem dX4_ran_0 : decode cX4_ran 0 = .ok (.aload_n 0, 1) := dk_42 (dk_at dksX4_ran_0 0 rfl rfl)
theorem dX4_ran_1 : decode cX4_ran 1 = .ok (.getfield 15, 3) := dk_180 0 15 (dk_at dksX4_ran_0 1 rfl rfl)
theorem dX4_ran_4 : decode cX4_ran 4 = .ok (.bipush 20, 2) := dk_16 20 (dk_at dksX4_ran_0 4 rfl rfl)
theorem dX4_ran_6 : decode cX4_ran 6 = .ok (.if_icmp .ge 13, 3) := dk_162 0 13 (dk_at dksX4_ran_0 6 rfl rfl)
theorem dX4_ran_9 : decode cX4_ran 9 = .ok (.aload_n 0, 1) := dk_42 (dk_at dksX4_ran_0 9 rfl rfl)
theorem dX4_ran_10 : decode cX4_ran 10 = .ok (.getfield 9, 3) := dk_180 0 9 (dk_at dksX4_ran_0 10 rfl rfl)
theorem dX4_ran_13 : decode cX4_ran 13 = .ok (.aload_n 0, 1) := dk_42 (dk_at dksX4_ran_0 13 rfl rfl)
theorem dX4_ran_14 : decode cX4_ran 14 = .ok (.getfield 15, 3) := dk_180 0 15 (dk_at dksX4_ran_0 14 rfl rfl)
theorem dX4_ran_17 : decode cX4_ran 17 = .ok (.iload_n 1, 1) := dk_27 (dk_at dksX4_ran_0 17 rfl rfl)
theorem dX4_ran_18 : decode cX4_ran 18 = .ok (.iastore, 1) := dk_79 (dk_at dksX4_ran_0 18 rfl rfl)
theorem dX4_ran_19 : decode cX4_ran 19 = .ok (.aload_n 0, 1) := dk_42 (dk_at dksX4_ran_0 19 rfl rfl)
theorem dX4_ran_20 : decode cX4_ran 20 = .ok (.dup, 1) := dk_89 (dk_at dksX4_ran_0 20 rfl rfl)
theorem dX4_ran_21 : decode cX4_ran 21 = .ok (.getfield 15, 3) := dk_180 0 15 (dk_at dksX4_ran_0 21 rfl rfl)
theorem dX4_ran_24 : decode cX4_ran 24 = .ok (.iconst 1, 1) := dk_4 (dk_at dksX4_ran_1 0 rfl rfl)
theorem dX4_ran_25 : decode cX4_ran 25 = .ok (.iadd, 1) := dk_96 (dk_at dksX4_ran_1 1 rfl rfl)
theorem dX4_ran_26 : decode cX4_ran 26 = .ok (.putfield 15, 3) := dk_181 0 15 (dk_at dksX4_ran_1 2 rfl rfl)
theorem dX4_ran_29 : decode cX4_ran 29 = .ok (.return_, 1) := dk_177 (dk_at dksX4_ran_1 5 rfl rfl)
theorem q79 : (Jvm.Cond.initialized "FuneralDebts$Trace") ∈ lw_all := lw_g (lw_at lw_m1 8 rfl) rfl
theorem q240 : (Jvm.Cond.instantiable "FuneralDebts$Trace" (2 : Nat)) ∈ lw_all := lw_g (lw_at lw_m1 169 rfl) rfl
theorem q242 : (Jvm.Cond.instanceMethod ({ cls := "FuneralDebts$Trace", name := "<init>", desc := "()V" } : Jvm.MethodName)) ∈ lw_all := lw_g (lw_at lw_m1 171 rfl) rfl
theorem q243 : (Jvm.Cond.code ({ cls := "FuneralDebts$Trace", name := "<init>", desc := "()V" } : Jvm.MethodName) prog_19_method_1_code (1 : Nat) (Option.none : Option Jvm.ClassFile.FieldType)) ∈ lw_all := lw_g (lw_at lw_m1 172 rfl) rfl
theorem q244 : (Jvm.Cond.methodLink "FuneralDebts$Trace" (3 : Nat) ({ cls := "java/lang/Object", name := "<init>", desc := "()V" } : Jvm.MethodName)) ∈ lw_all := lw_g (lw_at lw_m1 173 rfl) rfl
theorem q245 : (Jvm.Cond.fieldLink "FuneralDebts$Trace" (9 : Nat) "FuneralDebts$Trace" "bodies" "[I") ∈ lw_all := lw_g (lw_at lw_m1 174 rfl) rfl
theorem q247 : (Jvm.Cond.fieldLink "FuneralDebts$Trace" (15 : Nat) "FuneralDebts$Trace" "count" "I") ∈ lw_all := lw_g (lw_at lw_m1 176 rfl) rfl
theorem q249 : (Jvm.Cond.laysFinal "FuneralDebts$Trace" "FuneralDebts$Trace" "bodies" "[I") ∈ lw_all := lw_g (lw_at lw_m1 178 rfl) rfl
theorem q250 : (Jvm.Cond.soleField "FuneralDebts$Trace" "bodies") ∈ lw_all := lw_g (lw_at lw_m1 179 rfl) rfl
theorem q251 : (Jvm.Cond.lays "FuneralDebts$Trace" "FuneralDebts$Trace" "count" "I") ∈ lw_all := lw_g (lw_at lw_m1 180 rfl) rfl
theorem q252 : (Jvm.Cond.soleField "FuneralDebts$Trace" "count") ∈ lw_all := lw_g (lw_at lw_m1 181 rfl) rfl
theorem q253 : (Jvm.Cond.superclass "FuneralDebts$Trace" "java/lang/Object") ∈ lw_all := lw_g (lw_at lw_m1 182 rfl) rfl
theorem q1004 : (Jvm.Cond.selects "FuneralDebts$Trace" ({ cls := "java/lang/Object", name := "getClass", desc := "()Ljava/lang/Class;" } : Jvm.MethodName) ({ cls := "java/lang/Object", name := "getClass", desc := "()Ljava/lang/Class;" } : Jvm.MethodName)) ∈ lw_all := lw_g (lw_at lw_m4 213 rfl) rfl
theorem q1201 : (Jvm.Cond.instanceMethod ({ cls := "FuneralDebts$Trace", name := "ran", desc := "(I)V" } : Jvm.MethodName)) ∈ lw_all := lw_g (lw_at lw_m5 170 rfl) rfl
theorem q1202 : (Jvm.Cond.selects "FuneralDebts$Trace" ({ cls := "FuneralDebts$Trace", name := "ran", desc := "(I)V" } : Jvm.MethodName) ({ cls := "FuneralDebts$Trace", name := "ran", desc := "(I)V" } : Jvm.MethodName)) ∈ lw_all := lw_g (lw_at lw_m5 171 rfl) rfl
theorem q1203 : (Jvm.Cond.code ({ cls := "FuneralDebts$Trace", name := "ran", desc := "(I)V" } : Jvm.MethodName) prog_19_method_2_code (2 : Nat) (Option.none : Option Jvm.ClassFile.FieldType)) ∈ lw_all := lw_g (lw_at lw_m5 172 rfl) rfl
theorem q1775 : (Jvm.Cond.castable "FuneralDebts$Trace" "java/lang/Object") ∈ lw_tbl := lw_at lw_m8 24 rfl
theorem in_X4 : ∀ w ∈ wsX40, w ∈ lw_all := lw_in wsX40 [249, 251] (by decide +kernel) (by decide +kernel)
/-! FuneralDebts$Tape -/
set_option maxRecDepth 100000
def RX5 : String := "FuneralDebts$Tape"
def TX5 : u_T := fun k => match k with
  | _ => ("FuneralDebts$Tape", "row", "Ljava/lang/Object;", false)
def tyX5 : Nat → FieldType := fun k => match k with
  | _ => .object "java/lang/Object"
abbrev wsX50 : List Cond := u_ws RX5 TX5 1
theorem nmX5 : ∀ a, a < 1 → ∀ b, b < 1 → a ≠ b → (TX5 a).2.1 ≠ (TX5 b).2.1 := by decide +kernel
theorem tyX5_ok : ∀ k, k < 1 → parseFieldDescriptor (TX5 k).2.2.1 = some (tyX5 k) := by decide +kernel
abbrev cX5_init : ByteArray := prog_14_method_1_code
def yX5_init : MethodName := ⟨RX5, "<init>", "()V"⟩
theorem dX5_init_0 : decode cX5_init 0 = .ok (.aload_n 0, 1) := by decide +kernel
theorem dX5_init_1 : decode cX5_init 1 = .ok (.invokespecial 3, 3) := by decide +kernel
theorem dX5_init_4 : decode cX5_init 4 = .ok (.return_, 1) := by decide +kernel
abbrev cX5_has : ByteArray := prog_14_method_3_code
def yX5_has : MethodName := ⟨RX5, "has", "(I)V"⟩
def dkwX5_has_1 : List UInt8 := [100, 184, 0, 34, 154, 0, 13, 187, 0, 25, 89, 16, 243, 183, 0, 27, 191, 177]
abbrev dktX5_has_1 : List UInt8 := dkwX5_has_1 ++ []
def dkwX5_has_0 : List UInt8 := [42, 180, 0, 9, 199, 0, 13, 187, 0, 25, 89, 16, 245, 183, 0, 27, 191, 27, 3, 42, 182, 0, 30, 4]
abbrev dktX5_has_0 : List UInt8 := dkwX5_has_0 ++ dktX5_has_1
theorem dksX5_has_0 : cX5_has.data.toList.drop 0 = dktX5_has_0 := by decide +kernel
theorem dksX5_has_1 : cX5_has.data.toList.drop 24 = dktX5_has_1 := dk_seg dksX5_has_0 24 rfl rfl
theorem dX5_has_0 : decode cX5_has 0 = .ok (.aload_n 0, 1) := dk_42 (dk_at dksX5_has_0 0 rfl rfl)
theorem dX5_has_1 : decode cX5_has 1 = .ok (.getfield 9, 3) := dk_180 0 9 (dk_at dksX5_has_0 1 rfl rfl)
theorem dX5_has_4 : decode cX5_has 4 = .ok (.ifnonnull 13, 3) := dk_199 0 13 (dk_at dksX5_has_0 4 rfl rfl)
theorem dX5_has_7 : decode cX5_has 7 = .ok (.new 25, 3) := dk_187 0 25 (dk_at dksX5_has_0 7 rfl rfl)
theorem dX5_has_10 : decode cX5_has 10 = .ok (.dup, 1) := dk_89 (dk_at dksX5_has_0 10 rfl rfl)
theorem dX5_has_11 : decode cX5_has 11 = .ok (.bipush (-11), 2) := dk_16 245 (dk_at dksX5_has_0 11 rfl rfl)
theorem dX5_has_13 : decode cX5_has 13 = .ok (.invokespecial 27, 3) := dk_183 0 27 (dk_at dksX5_has_0 13 rfl rfl)
theorem dX5_has_16 : decode cX5_has 16 = .ok (.athrow, 1) := dk_191 (dk_at dksX5_has_0 16 rfl rfl)
theorem dX5_has_17 : decode cX5_has 17 = .ok (.iload_n 1, 1) := dk_27 (dk_at dksX5_has_0 17 rfl rfl)
theorem dX5_has_18 : decode cX5_has 18 = .ok (.iconst 0, 1) := dk_3 (dk_at dksX5_has_0 18 rfl rfl)
theorem dX5_has_19 : decode cX5_has 19 = .ok (.aload_n 0, 1) := dk_42 (dk_at dksX5_has_0 19 rfl rfl)
theorem dX5_has_20 : decode cX5_has 20 = .ok (.invokevirtual 30, 3) := dk_182 0 30 (dk_at dksX5_has_0 20 rfl rfl)
theorem dX5_has_23 : decode cX5_has 23 = .ok (.iconst 1, 1) := dk_4 (dk_at dksX5_has_0 23 rfl rfl)
theorem dX5_has_24 : decode cX5_has 24 = .ok (.isub, 1) := dk_100 (dk_at dksX5_has_1 0 rfl rfl)
theorem dX5_has_25 : decode cX5_has 25 = .ok (.invokestatic 34, 3) := dk_184 0 34 (dk_at dksX5_has_1 1 rfl rfl)
theorem dX5_has_28 : decode cX5_has 28 = .ok (.ifCond .ne 13, 3) := dk_154 0 13 (dk_at dksX5_has_1 4 rfl rfl)
theorem dX5_has_31 : decode cX5_has 31 = .ok (.new 25, 3) := dk_187 0 25 (dk_at dksX5_has_1 7 rfl rfl)
theorem dX5_has_34 : decode cX5_has 34 = .ok (.dup, 1) := dk_89 (dk_at dksX5_has_1 10 rfl rfl)
theorem dX5_has_35 : decode cX5_has 35 = .ok (.bipush (-13), 2) := dk_16 243 (dk_at dksX5_has_1 11 rfl rfl)
theorem dX5_has_37 : decode cX5_has 37 = .ok (.invokespecial 27, 3) := dk_183 0 27 (dk_at dksX5_has_1 13 rfl rfl)
theorem dX5_has_40 : decode cX5_has 40 = .ok (.athrow, 1) := dk_191 (dk_at dksX5_has_1 16 rfl rfl)
theorem dX5_has_41 : decode cX5_has 41 = .ok (.return_, 1) := dk_177 (dk_at dksX5_has_1 17 rfl rfl)
abbrev cX5_size : ByteArray := prog_14_method_2_code
def yX5_size : MethodName := ⟨RX5, "size", "()I"⟩
def dkwX5_size_3 : List UInt8 := [153, 0, 13, 44, 192, 0, 21, 76, 43, 190, 167, 0, 11, 42, 180, 0, 9, 192, 0, 23, 190, 172]
abbrev dktX5_size_3 : List UInt8 := dkwX5_size_3 ++ []
def dkwX5_size_2 : List UInt8 := [193, 0, 19, 153, 0, 11, 44, 192, 0, 19, 76, 43, 190, 172, 42, 180, 0, 9, 77, 44, 193, 0, 21]
abbrev dktX5_size_2 : List UInt8 := dkwX5_size_2 ++ dktX5_size_3
def dkwX5_size_1 : List UInt8 := [77, 44, 193, 0, 17, 153, 0, 11, 44, 192, 0, 17, 76, 43, 190, 172, 42, 180, 0, 9, 77, 44]
abbrev dktX5_size_1 : List UInt8 := dkwX5_size_1 ++ dktX5_size_2
def dkwX5_size_0 : List UInt8 := [42, 180, 0, 9, 77, 44, 193, 0, 15, 153, 0, 11, 44, 192, 0, 15, 76, 43, 190, 172, 42, 180, 0, 9]
abbrev dktX5_size_0 : List UInt8 := dkwX5_size_0 ++ dktX5_size_1
theorem dksX5_size_0 : cX5_size.data.toList.drop 0 = dktX5_size_0 := by decide +kernel
theorem dksX5_size_1 : cX5_size.data.toList.drop 24 = dktX5_size_1 := dk_seg dksX5_size_0 24 rfl rfl
theorem dksX5_size_2 : cX5_size.data.toList.drop 46 = dktX5_size_2 := dk_seg dksX5_size_1 22 rfl rfl
theorem dksX5_size_3 : cX5_size.data.toList.drop 69 = dktX5_size_3 := dk_seg dksX5_size_2 23 rfl rfl
theorem dX5_size_0 : decode cX5_size 0 = .ok (.aload_n 0, 1) := dk_42 (dk_at dksX5_size_0 0 rfl rfl)
theorem dX5_size_1 : decode cX5_size 1 = .ok (.getfield 9, 3) := dk_180 0 9 (dk_at dksX5_size_0 1 rfl rfl)
theorem dX5_size_4 : decode cX5_size 4 = .ok (.astore_n 2, 1) := dk_77 (dk_at dksX5_size_0 4 rfl rfl)
theorem dX5_size_5 : decode cX5_size 5 = .ok (.aload_n 2, 1) := dk_44 (dk_at dksX5_size_0 5 rfl rfl)
theorem dX5_size_6 : decode cX5_size 6 = .ok (.instanceof 15, 3) := dk_193 0 15 (dk_at dksX5_size_0 6 rfl rfl)
theorem dX5_size_9 : decode cX5_size 9 = .ok (.ifCond .eq 11, 3) := dk_153 0 11 (dk_at dksX5_size_0 9 rfl rfl)
theorem dX5_size_12 : decode cX5_size 12 = .ok (.aload_n 2, 1) := dk_44 (dk_at dksX5_size_0 12 rfl rfl)
theorem dX5_size_13 : decode cX5_size 13 = .ok (.checkcast 15, 3) := dk_192 0 15 (dk_at dksX5_size_0 13 rfl rfl)
theorem dX5_size_16 : decode cX5_size 16 = .ok (.astore_n 1, 1) := dk_76 (dk_at dksX5_size_0 16 rfl rfl)
theorem dX5_size_17 : decode cX5_size 17 = .ok (.aload_n 1, 1) := dk_43 (dk_at dksX5_size_0 17 rfl rfl)
theorem dX5_size_18 : decode cX5_size 18 = .ok (.arraylength, 1) := dk_190 (dk_at dksX5_size_0 18 rfl rfl)
theorem dX5_size_19 : decode cX5_size 19 = .ok (.ireturn, 1) := dk_172 (dk_at dksX5_size_0 19 rfl rfl)
theorem dX5_size_20 : decode cX5_size 20 = .ok (.aload_n 0, 1) := dk_42 (dk_at dksX5_size_0 20 rfl rfl)
theorem dX5_size_21 : decode cX5_size 21 = .ok (.getfield 9, 3) := dk_180 0 9 (dk_at dksX5_size_0 21 rfl rfl)
theorem dX5_size_24 : decode cX5_size 24 = .ok (.astore_n 2, 1) := dk_77 (dk_at dksX5_size_1 0 rfl rfl)
theorem dX5_size_25 : decode cX5_size 25 = .ok (.aload_n 2, 1) := dk_44 (dk_at dksX5_size_1 1 rfl rfl)
theorem dX5_size_26 : decode cX5_size 26 = .ok (.instanceof 17, 3) := dk_193 0 17 (dk_at dksX5_size_1 2 rfl rfl)
theorem dX5_size_29 : decode cX5_size 29 = .ok (.ifCond .eq 11, 3) := dk_153 0 11 (dk_at dksX5_size_1 5 rfl rfl)
theorem dX5_size_32 : decode cX5_size 32 = .ok (.aload_n 2, 1) := dk_44 (dk_at dksX5_size_1 8 rfl rfl)
theorem dX5_size_33 : decode cX5_size 33 = .ok (.checkcast 17, 3) := dk_192 0 17 (dk_at dksX5_size_1 9 rfl rfl)
theorem dX5_size_36 : decode cX5_size 36 = .ok (.astore_n 1, 1) := dk_76 (dk_at dksX5_size_1 12 rfl rfl)
theorem dX5_size_37 : decode cX5_size 37 = .ok (.aload_n 1, 1) := dk_43 (dk_at dksX5_size_1 13 rfl rfl)
theorem dX5_size_38 : decode cX5_size 38 = .ok (.arraylength, 1) := dk_190 (dk_at dksX5_size_1 14 rfl rfl)
theorem dX5_size_39 : decode cX5_size 39 = .ok (.ireturn, 1) := dk_172 (dk_at dksX5_size_1 15 rfl rfl)
theorem dX5_size_40 : decode cX5_size 40 = .ok (.aload_n 0, 1) := dk_42 (dk_at dksX5_size_1 16 rfl rfl)
theorem dX5_size_41 : decode cX5_size 41 = .ok (.getfield 9, 3) := dk_180 0 9 (dk_at dksX5_size_1 17 rfl rfl)
theorem dX5_size_44 : decode cX5_size 44 = .ok (.astore_n 2, 1) := dk_77 (dk_at dksX5_size_1 20 rfl rfl)
theorem dX5_size_45 : decode cX5_size 45 = .ok (.aload_n 2, 1) := dk_44 (dk_at dksX5_size_1 21 rfl rfl)
theorem dX5_size_46 : decode cX5_size 46 = .ok (.instanceof 19, 3) := dk_193 0 19 (dk_at dksX5_size_2 0 rfl rfl)
theorem dX5_size_49 : decode cX5_size 49 = .ok (.ifCond .eq 11, 3) := dk_153 0 11 (dk_at dksX5_size_2 3 rfl rfl)
theorem dX5_size_52 : decode cX5_size 52 = .ok (.aload_n 2, 1) := dk_44 (dk_at dksX5_size_2 6 rfl rfl)
theorem dX5_size_53 : decode cX5_size 53 = .ok (.checkcast 19, 3) := dk_192 0 19 (dk_at dksX5_size_2 7 rfl rfl)
theorem dX5_size_56 : decode cX5_size 56 = .ok (.astore_n 1, 1) := dk_76 (dk_at dksX5_size_2 10 rfl rfl)
theorem dX5_size_57 : decode cX5_size 57 = .ok (.aload_n 1, 1) := dk_43 (dk_at dksX5_size_2 11 rfl rfl)
theorem dX5_size_58 : decode cX5_size 58 = .ok (.arraylength, 1) := dk_190 (dk_at dksX5_size_2 12 rfl rfl)
theorem dX5_size_59 : decode cX5_size 59 = .ok (.ireturn, 1) := dk_172 (dk_at dksX5_size_2 13 rfl rfl)
theorem dX5_size_60 : decode cX5_size 60 = .ok (.aload_n 0, 1) := dk_42 (dk_at dksX5_size_2 14 rfl rfl)
theorem dX5_size_61 : decode cX5_size 61 = .ok (.getfield 9, 3) := dk_180 0 9 (dk_at dksX5_size_2 15 rfl rfl)
theorem dX5_size_64 : decode cX5_size 64 = .ok (.astore_n 2, 1) := dk_77 (dk_at dksX5_size_2 18 rfl rfl)
theorem dX5_size_65 : decode cX5_size 65 = .ok (.aload_n 2, 1) := dk_44 (dk_at dksX5_size_2 19 rfl rfl)
theorem dX5_size_66 : decode cX5_size 66 = .ok (.instanceof 21, 3) := dk_193 0 21 (dk_at dksX5_size_2 20 rfl rfl)
theorem dX5_size_69 : decode cX5_size 69 = .ok (.ifCond .eq 13, 3) := dk_153 0 13 (dk_at dksX5_size_3 0 rfl rfl)
theorem dX5_size_72 : decode cX5_size 72 = .ok (.aload_n 2, 1) := dk_44 (dk_at dksX5_size_3 3 rfl rfl)
theorem dX5_size_73 : decode cX5_size 73 = .ok (.checkcast 21, 3) := dk_192 0 21 (dk_at dksX5_size_3 4 rfl rfl)
theorem dX5_size_76 : decode cX5_size 76 = .ok (.astore_n 1, 1) := dk_76 (dk_at dksX5_size_3 7 rfl rfl)
theorem dX5_size_77 : decode cX5_size 77 = .ok (.aload_n 1, 1) := dk_43 (dk_at dksX5_size_3 8 rfl rfl)
theorem dX5_size_78 : decode cX5_size 78 = .ok (.arraylength, 1) := dk_190 (dk_at dksX5_size_3 9 rfl rfl)
theorem dX5_size_79 : decode cX5_size 79 = .ok (.goto 11, 3) := dk_167 0 11 (dk_at dksX5_size_3 10 rfl rfl)
theorem dX5_size_82 : decode cX5_size 82 = .ok (.aload_n 0, 1) := dk_42 (dk_at dksX5_size_3 13 rfl rfl)
theorem dX5_size_83 : decode cX5_size 83 = .ok (.getfield 9, 3) := dk_180 0 9 (dk_at dksX5_size_3 14 rfl rfl)
theorem dX5_size_86 : decode cX5_size 86 = .ok (.checkcast 23, 3) := dk_192 0 23 (dk_at dksX5_size_3 17 rfl rfl)
theorem dX5_size_89 : decode cX5_size 89 = .ok (.arraylength, 1) := dk_190 (dk_at dksX5_size_3 20 rfl rfl)
theorem dX5_size_90 : decode cX5_size 90 = .ok (.ireturn, 1) := dk_172 (dk_at dksX5_size_3 21 rfl rfl)
theorem q80 : (Jvm.Cond.initialized "FuneralDebts$Tape") ∈ lw_all := lw_g (lw_at lw_m1 9 rfl) rfl
theorem q256 : (Jvm.Cond.instantiable "FuneralDebts$Tape" (1 : Nat)) ∈ lw_all := lw_g (lw_at lw_m1 185 rfl) rfl
theorem q258 : (Jvm.Cond.instanceMethod ({ cls := "FuneralDebts$Tape", name := "<init>", desc := "()V" } : Jvm.MethodName)) ∈ lw_all := lw_g (lw_at lw_m1 187 rfl) rfl
theorem q259 : (Jvm.Cond.code ({ cls := "FuneralDebts$Tape", name := "<init>", desc := "()V" } : Jvm.MethodName) prog_14_method_1_code (1 : Nat) (Option.none : Option Jvm.ClassFile.FieldType)) ∈ lw_all := lw_g (lw_at lw_m1 188 rfl) rfl
theorem q260 : (Jvm.Cond.methodLink "FuneralDebts$Tape" (3 : Nat) ({ cls := "java/lang/Object", name := "<init>", desc := "()V" } : Jvm.MethodName)) ∈ lw_all := lw_g (lw_at lw_m1 189 rfl) rfl
theorem q261 : (Jvm.Cond.fieldLink "FuneralDebts$Tape" (9 : Nat) "FuneralDebts$Tape" "row" "Ljava/lang/Object;") ∈ lw_all := lw_g (lw_at lw_m1 190 rfl) rfl
theorem q263 : (Jvm.Cond.lays "FuneralDebts$Tape" "FuneralDebts$Tape" "row" "Ljava/lang/Object;") ∈ lw_all := lw_g (lw_at lw_m1 192 rfl) rfl
theorem q264 : (Jvm.Cond.soleField "FuneralDebts$Tape" "row") ∈ lw_all := lw_g (lw_at lw_m1 193 rfl) rfl
theorem q265 : (Jvm.Cond.superclass "FuneralDebts$Tape" "java/lang/Object") ∈ lw_all := lw_g (lw_at lw_m1 194 rfl) rfl
theorem q1001 : (Jvm.Cond.selects "FuneralDebts$Tape" ({ cls := "java/lang/Object", name := "getClass", desc := "()Ljava/lang/Class;" } : Jvm.MethodName) ({ cls := "java/lang/Object", name := "getClass", desc := "()Ljava/lang/Class;" } : Jvm.MethodName)) ∈ lw_all := lw_g (lw_at lw_m4 210 rfl) rfl
theorem q1316 : (Jvm.Cond.privateMethod ({ cls := "FuneralDebts$Tape", name := "has", desc := "(I)V" } : Jvm.MethodName)) ∈ lw_tbl := lw_at lw_m6 45 rfl
theorem q1317 : (Jvm.Cond.instanceMethod ({ cls := "FuneralDebts$Tape", name := "has", desc := "(I)V" } : Jvm.MethodName)) ∈ lw_all := lw_g (lw_at lw_m6 46 rfl) rfl
theorem q1318 : (Jvm.Cond.code ({ cls := "FuneralDebts$Tape", name := "has", desc := "(I)V" } : Jvm.MethodName) prog_14_method_3_code (2 : Nat) (Option.none : Option Jvm.ClassFile.FieldType)) ∈ lw_all := lw_g (lw_at lw_m6 47 rfl) rfl
theorem q1319 : (Jvm.Cond.classLink "FuneralDebts$Tape" (25 : Nat) "FuneralDebts$Off") ∈ lw_all := lw_g (lw_at lw_m6 48 rfl) rfl
theorem q1320 : (Jvm.Cond.methodLink "FuneralDebts$Tape" (27 : Nat) ({ cls := "FuneralDebts$Off", name := "<init>", desc := "(I)V" } : Jvm.MethodName)) ∈ lw_all := lw_g (lw_at lw_m6 49 rfl) rfl
theorem q1321 : (Jvm.Cond.methodLink "FuneralDebts$Tape" (30 : Nat) ({ cls := "FuneralDebts$Tape", name := "size", desc := "()I" } : Jvm.MethodName)) ∈ lw_all := lw_g (lw_at lw_m6 50 rfl) rfl
theorem q1322 : (Jvm.Cond.privateMethod ({ cls := "FuneralDebts$Tape", name := "size", desc := "()I" } : Jvm.MethodName)) ∈ lw_tbl := lw_at lw_m6 51 rfl
theorem q1323 : (Jvm.Cond.instanceMethod ({ cls := "FuneralDebts$Tape", name := "size", desc := "()I" } : Jvm.MethodName)) ∈ lw_all := lw_g (lw_at lw_m6 52 rfl) rfl
theorem q1324 : (Jvm.Cond.code ({ cls := "FuneralDebts$Tape", name := "size", desc := "()I" } : Jvm.MethodName) prog_14_method_2_code (3 : Nat) (Option.some Jvm.ClassFile.FieldType.int)) ∈ lw_all := lw_g (lw_at lw_m6 53 rfl) rfl
theorem q1325 : (Jvm.Cond.classLink "FuneralDebts$Tape" (15 : Nat) "[B") ∈ lw_all := lw_g (lw_at lw_m6 54 rfl) rfl
theorem q1326 : (Jvm.Cond.classLink "FuneralDebts$Tape" (17 : Nat) "[S") ∈ lw_all := lw_g (lw_at lw_m6 55 rfl) rfl
theorem q1327 : (Jvm.Cond.classLink "FuneralDebts$Tape" (19 : Nat) "[I") ∈ lw_all := lw_g (lw_at lw_m6 56 rfl) rfl
theorem q1328 : (Jvm.Cond.classLink "FuneralDebts$Tape" (21 : Nat) "[J") ∈ lw_all := lw_g (lw_at lw_m6 57 rfl) rfl
theorem q1329 : (Jvm.Cond.classLink "FuneralDebts$Tape" (23 : Nat) "[Z") ∈ lw_all := lw_g (lw_at lw_m6 58 rfl) rfl
theorem q1330 : (Jvm.Cond.methodLinkNest "FuneralDebts$Tape" (34 : Nat) ({ cls := "FuneralDebts", name := "in", desc := "(III)Z" } : Jvm.MethodName) "FuneralDebts") ∈ lw_tbl := lw_at lw_m6 59 rfl
theorem q1769 : (Jvm.Cond.castable "FuneralDebts$Tape" "java/lang/Object") ∈ lw_tbl := lw_at lw_m8 18 rfl
theorem in_X5 : ∀ w ∈ wsX50, w ∈ lw_all := lw_in wsX50 [263] (by decide +kernel) (by decide +kernel)
/-! FuneralDebts$Mourner -/
set_option maxRecDepth 100000
def RX7 : String := "FuneralDebts$Mourner"
def TX7 : u_T := fun k => match k with
  | 0 => ("FuneralDebts$Mourner", "trace", "LFuneralDebts$Trace;", true)
  | 1 => ("FuneralDebts$Mourner", "number", "I", true)
  | _ => ("FuneralDebts$Mourner", "v", "I", false)
def tyX7 : Nat → FieldType := fun k => match k with
  | 0 => .object "FuneralDebts$Trace"
  | 1 => .int
  | _ => .int
abbrev wsX70 : List Cond := u_ws RX7 TX7 3
theorem nmX7 : ∀ a, a < 3 → ∀ b, b < 3 → a ≠ b → (TX7 a).2.1 ≠ (TX7 b).2.1 := by decide +kernel
theorem tyX7_ok : ∀ k, k < 3 → parseFieldDescriptor (TX7 k).2.2.1 = some (tyX7 k) := by decide +kernel
abbrev cX7_init : ByteArray := prog_8_method_1_code
def yX7_init : MethodName := ⟨RX7, "<init>", "(LFuneralDebts$Trace;II)V"⟩
def dkwX7_init_0 : List UInt8 := [42, 183, 0, 1, 42, 43, 181, 0, 7, 42, 28, 181, 0, 13, 42, 29, 181, 0, 17, 177]
abbrev dktX7_init_0 : List UInt8 := dkwX7_init_0 ++ []
theorem dksX7_init_0 : cX7_init.data.toList.drop 0 = dktX7_init_0 := by decide +kernel
theorem dX7_init_0 : decode cX7_init 0 = .ok (.aload_n 0, 1) := dk_42 (dk_at dksX7_init_0 0 rfl rfl)
theorem dX7_init_1 : decode cX7_init 1 = .ok (.invokespecial 1, 3) := dk_183 0 1 (dk_at dksX7_init_0 1 rfl rfl)
theorem dX7_init_4 : decode cX7_init 4 = .ok (.aload_n 0, 1) := dk_42 (dk_at dksX7_init_0 4 rfl rfl)
theorem dX7_init_5 : decode cX7_init 5 = .ok (.aload_n 1, 1) := dk_43 (dk_at dksX7_init_0 5 rfl rfl)
theorem dX7_init_6 : decode cX7_init 6 = .ok (.putfield 7, 3) := dk_181 0 7 (dk_at dksX7_init_0 6 rfl rfl)
theorem dX7_init_9 : decode cX7_init 9 = .ok (.aload_n 0, 1) := dk_42 (dk_at dksX7_init_0 9 rfl rfl)
theorem dX7_init_10 : decode cX7_init 10 = .ok (.iload_n 2, 1) := dk_28 (dk_at dksX7_init_0 10 rfl rfl)
theorem dX7_init_11 : decode cX7_init 11 = .ok (.putfield 13, 3) := dk_181 0 13 (dk_at dksX7_init_0 11 rfl rfl)
theorem dX7_init_14 : decode cX7_init 14 = .ok (.aload_n 0, 1) := dk_42 (dk_at dksX7_init_0 14 rfl rfl)
theorem dX7_init_15 : decode cX7_init 15 = .ok (.iload_n 3, 1) := dk_29 (dk_at dksX7_init_0 15 rfl rfl)
theorem dX7_init_16 : decode cX7_init 16 = .ok (.putfield 17, 3) := dk_181 0 17 (dk_at dksX7_init_0 16 rfl rfl)
theorem dX7_init_19 : decode cX7_init 19 = .ok (.return_, 1) := dk_177 (dk_at dksX7_init_0 19 rfl rfl)
abbrev cX7_kind : ByteArray := prog_8_method_2_code
def yX7_kind : MethodName := ⟨RX7, "kind", "()I"⟩
theorem dX7_kind_0 : decode cX7_kind 0 = .ok (.iconst 0, 1) := by decide +kernel
theorem dX7_kind_1 : decode cX7_kind 1 = .ok (.ireturn, 1) := by decide +kernel
abbrev cX7_rates : ByteArray := prog_8_method_3_code
def yX7_rates : MethodName := ⟨RX7, "rates", "(III)I"⟩
theorem dX7_rates_0 : decode cX7_rates 0 = .ok (.iload_n 1, 1) := by decide +kernel
theorem dX7_rates_1 : decode cX7_rates 1 = .ok (.ireturn, 1) := by decide +kernel
abbrev cX7_stands : ByteArray := prog_8_method_4_code
def yX7_stands : MethodName := ⟨RX7, "stands", "(I)I"⟩
def dkwX7_stands_0 : List UInt8 := [42, 180, 0, 7, 16, 10, 182, 0, 20, 27, 42, 180, 0, 13, 96, 172]
abbrev dktX7_stands_0 : List UInt8 := dkwX7_stands_0 ++ []
theorem dksX7_stands_0 : cX7_stands.data.toList.drop 0 = dktX7_stands_0 := by decide +kernel
theorem dX7_stands_0 : decode cX7_stands 0 = .ok (.aload_n 0, 1) := dk_42 (dk_at dksX7_stands_0 0 rfl rfl)
theorem dX7_stands_1 : decode cX7_stands 1 = .ok (.getfield 7, 3) := dk_180 0 7 (dk_at dksX7_stands_0 1 rfl rfl)
theorem dX7_stands_4 : decode cX7_stands 4 = .ok (.bipush 10, 2) := dk_16 10 (dk_at dksX7_stands_0 4 rfl rfl)
theorem dX7_stands_6 : decode cX7_stands 6 = .ok (.invokevirtual 20, 3) := dk_182 0 20 (dk_at dksX7_stands_0 6 rfl rfl)
theorem dX7_stands_9 : decode cX7_stands 9 = .ok (.iload_n 1, 1) := dk_27 (dk_at dksX7_stands_0 9 rfl rfl)
theorem dX7_stands_10 : decode cX7_stands 10 = .ok (.aload_n 0, 1) := dk_42 (dk_at dksX7_stands_0 10 rfl rfl)
theorem dX7_stands_11 : decode cX7_stands 11 = .ok (.getfield 13, 3) := dk_180 0 13 (dk_at dksX7_stands_0 11 rfl rfl)
theorem dX7_stands_14 : decode cX7_stands 14 = .ok (.iadd, 1) := dk_96 (dk_at dksX7_stands_0 14 rfl rfl)
theorem dX7_stands_15 : decode cX7_stands 15 = .ok (.ireturn, 1) := dk_172 (dk_at dksX7_stands_0 15 rfl rfl)
abbrev cX7_sighs : ByteArray := prog_8_method_5_code
def yX7_sighs : MethodName := ⟨RX7, "sighs", "(I)I"⟩
def dkwX7_sighs_0 : List UInt8 := [42, 180, 0, 7, 16, 11, 182, 0, 20, 42, 27, 182, 0, 26, 42, 180, 0, 17, 100, 172]
abbrev dktX7_sighs_0 : List UInt8 := dkwX7_sighs_0 ++ []
theorem dksX7_sighs_0 : cX7_sighs.data.toList.drop 0 = dktX7_sighs_0 := by decide +kernel
theorem dX7_sighs_0 : decode cX7_sighs 0 = .ok (.aload_n 0, 1) := dk_42 (dk_at dksX7_sighs_0 0 rfl rfl)
theorem dX7_sighs_1 : decode cX7_sighs 1 = .ok (.getfield 7, 3) := dk_180 0 7 (dk_at dksX7_sighs_0 1 rfl rfl)
theorem dX7_sighs_4 : decode cX7_sighs 4 = .ok (.bipush 11, 2) := dk_16 11 (dk_at dksX7_sighs_0 4 rfl rfl)
theorem dX7_sighs_6 : decode cX7_sighs 6 = .ok (.invokevirtual 20, 3) := dk_182 0 20 (dk_at dksX7_sighs_0 6 rfl rfl)
theorem dX7_sighs_9 : decode cX7_sighs 9 = .ok (.aload_n 0, 1) := dk_42 (dk_at dksX7_sighs_0 9 rfl rfl)
theorem dX7_sighs_10 : decode cX7_sighs 10 = .ok (.iload_n 1, 1) := dk_27 (dk_at dksX7_sighs_0 10 rfl rfl)
theorem dX7_sighs_11 : decode cX7_sighs 11 = .ok (.invokevirtual 26, 3) := dk_182 0 26 (dk_at dksX7_sighs_0 11 rfl rfl)
theorem dX7_sighs_14 : decode cX7_sighs 14 = .ok (.aload_n 0, 1) := dk_42 (dk_at dksX7_sighs_0 14 rfl rfl)
theorem dX7_sighs_15 : decode cX7_sighs 15 = .ok (.getfield 17, 3) := dk_180 0 17 (dk_at dksX7_sighs_0 15 rfl rfl)
theorem dX7_sighs_18 : decode cX7_sighs 18 = .ok (.isub, 1) := dk_100 (dk_at dksX7_sighs_0 18 rfl rfl)
theorem dX7_sighs_19 : decode cX7_sighs 19 = .ok (.ireturn, 1) := dk_172 (dk_at dksX7_sighs_0 19 rfl rfl)
abbrev cX7_tells : ByteArray := prog_8_method_6_code
def yX7_tells : MethodName := ⟨RX7, "tells", "(I)I"⟩
def dkwX7_tells_0 : List UInt8 := [42, 180, 0, 7, 16, 12, 182, 0, 20, 42, 27, 182, 0, 30, 5, 104, 172]
abbrev dktX7_tells_0 : List UInt8 := dkwX7_tells_0 ++ []
theorem dksX7_tells_0 : cX7_tells.data.toList.drop 0 = dktX7_tells_0 := by decide +kernel
theorem dX7_tells_0 : decode cX7_tells 0 = .ok (.aload_n 0, 1) := dk_42 (dk_at dksX7_tells_0 0 rfl rfl)
theorem dX7_tells_1 : decode cX7_tells 1 = .ok (.getfield 7, 3) := dk_180 0 7 (dk_at dksX7_tells_0 1 rfl rfl)
theorem dX7_tells_4 : decode cX7_tells 4 = .ok (.bipush 12, 2) := dk_16 12 (dk_at dksX7_tells_0 4 rfl rfl)
theorem dX7_tells_6 : decode cX7_tells 6 = .ok (.invokevirtual 20, 3) := dk_182 0 20 (dk_at dksX7_tells_0 6 rfl rfl)
theorem dX7_tells_9 : decode cX7_tells 9 = .ok (.aload_n 0, 1) := dk_42 (dk_at dksX7_tells_0 9 rfl rfl)
theorem dX7_tells_10 : decode cX7_tells 10 = .ok (.iload_n 1, 1) := dk_27 (dk_at dksX7_tells_0 10 rfl rfl)
theorem dX7_tells_11 : decode cX7_tells 11 = .ok (.invokevirtual 30, 3) := dk_182 0 30 (dk_at dksX7_tells_0 11 rfl rfl)
theorem dX7_tells_14 : decode cX7_tells 14 = .ok (.iconst 2, 1) := dk_5 (dk_at dksX7_tells_0 14 rfl rfl)
theorem dX7_tells_15 : decode cX7_tells 15 = .ok (.imul, 1) := dk_104 (dk_at dksX7_tells_0 15 rfl rfl)
theorem dX7_tells_16 : decode cX7_tells 16 = .ok (.ireturn, 1) := dk_172 (dk_at dksX7_tells_0 16 rfl rfl)
theorem q82 : (Jvm.Cond.initialized "FuneralDebts$Mourner") ∈ lw_all := lw_g (lw_at lw_m1 11 rfl) rfl
theorem q389 : (Jvm.Cond.instanceMethod ({ cls := "FuneralDebts$Mourner", name := "<init>", desc := "(LFuneralDebts$Trace;II)V" } : Jvm.MethodName)) ∈ lw_all := lw_g (lw_at lw_m2 78 rfl) rfl
theorem q390 : (Jvm.Cond.code ({ cls := "FuneralDebts$Mourner", name := "<init>", desc := "(LFuneralDebts$Trace;II)V" } : Jvm.MethodName) prog_8_method_1_code (4 : Nat) (Option.none : Option Jvm.ClassFile.FieldType)) ∈ lw_all := lw_g (lw_at lw_m2 79 rfl) rfl
theorem q391 : (Jvm.Cond.methodLink "FuneralDebts$Mourner" (1 : Nat) ({ cls := "java/lang/Object", name := "<init>", desc := "()V" } : Jvm.MethodName)) ∈ lw_all := lw_g (lw_at lw_m2 80 rfl) rfl
theorem q392 : (Jvm.Cond.fieldLink "FuneralDebts$Mourner" (7 : Nat) "FuneralDebts$Mourner" "trace" "LFuneralDebts$Trace;") ∈ lw_all := lw_g (lw_at lw_m2 81 rfl) rfl
theorem q405 : (Jvm.Cond.fieldLink "FuneralDebts$Mourner" (13 : Nat) "FuneralDebts$Mourner" "number" "I") ∈ lw_all := lw_g (lw_at lw_m2 94 rfl) rfl
theorem q410 : (Jvm.Cond.fieldLink "FuneralDebts$Mourner" (17 : Nat) "FuneralDebts$Mourner" "v" "I") ∈ lw_all := lw_g (lw_at lw_m2 99 rfl) rfl
theorem q417 : (Jvm.Cond.soleField "FuneralDebts$Mourner" "trace") ∈ lw_all := lw_g (lw_at lw_m2 106 rfl) rfl
theorem q419 : (Jvm.Cond.soleField "FuneralDebts$Mourner" "number") ∈ lw_all := lw_g (lw_at lw_m2 108 rfl) rfl
theorem q421 : (Jvm.Cond.soleField "FuneralDebts$Mourner" "v") ∈ lw_all := lw_g (lw_at lw_m2 110 rfl) rfl
theorem q476 : (Jvm.Cond.instantiable "FuneralDebts$Mourner" (3 : Nat)) ∈ lw_all := lw_g (lw_at lw_m2 165 rfl) rfl
theorem q478 : (Jvm.Cond.laysFinal "FuneralDebts$Mourner" "FuneralDebts$Mourner" "trace" "LFuneralDebts$Trace;") ∈ lw_all := lw_g (lw_at lw_m2 167 rfl) rfl
theorem q479 : (Jvm.Cond.laysFinal "FuneralDebts$Mourner" "FuneralDebts$Mourner" "number" "I") ∈ lw_all := lw_g (lw_at lw_m2 168 rfl) rfl
theorem q480 : (Jvm.Cond.lays "FuneralDebts$Mourner" "FuneralDebts$Mourner" "v" "I") ∈ lw_all := lw_g (lw_at lw_m2 169 rfl) rfl
theorem q481 : (Jvm.Cond.superclass "FuneralDebts$Mourner" "java/lang/Object") ∈ lw_all := lw_g (lw_at lw_m2 170 rfl) rfl
theorem q506 : (Jvm.Cond.instanceMethod ({ cls := "FuneralDebts$Mourner", name := "kind", desc := "()I" } : Jvm.MethodName)) ∈ lw_all := lw_g (lw_at lw_m2 195 rfl) rfl
theorem q507 : (Jvm.Cond.selects "FuneralDebts$Mourner" ({ cls := "FuneralDebts$Mourner", name := "kind", desc := "()I" } : Jvm.MethodName) ({ cls := "FuneralDebts$Mourner", name := "kind", desc := "()I" } : Jvm.MethodName)) ∈ lw_all := lw_g (lw_at lw_m2 196 rfl) rfl
theorem q508 : (Jvm.Cond.sameMethod "FuneralDebts$Mourner" "FuneralDebts$Mourner" "kind" "()I") ∈ lw_all := lw_g (lw_at lw_m2 197 rfl) rfl
theorem q527 : (Jvm.Cond.code ({ cls := "FuneralDebts$Mourner", name := "kind", desc := "()I" } : Jvm.MethodName) prog_8_method_2_code (1 : Nat) (Option.some Jvm.ClassFile.FieldType.int)) ∈ lw_all := lw_g (lw_at lw_m2 216 rfl) rfl
theorem q573 : (Jvm.Cond.instanceMethod ({ cls := "FuneralDebts$Mourner", name := "rates", desc := "(III)I" } : Jvm.MethodName)) ∈ lw_all := lw_g (lw_at lw_m3 22 rfl) rfl
theorem q574 : (Jvm.Cond.selects "FuneralDebts$Mourner" ({ cls := "FuneralDebts$Mourner", name := "rates", desc := "(III)I" } : Jvm.MethodName) ({ cls := "FuneralDebts$Mourner", name := "rates", desc := "(III)I" } : Jvm.MethodName)) ∈ lw_all := lw_g (lw_at lw_m3 23 rfl) rfl
theorem q575 : (Jvm.Cond.sameMethod "FuneralDebts$Mourner" "FuneralDebts$Mourner" "rates" "(III)I") ∈ lw_all := lw_g (lw_at lw_m3 24 rfl) rfl
theorem q583 : (Jvm.Cond.code ({ cls := "FuneralDebts$Mourner", name := "rates", desc := "(III)I" } : Jvm.MethodName) prog_8_method_3_code (4 : Nat) (Option.some Jvm.ClassFile.FieldType.int)) ∈ lw_all := lw_g (lw_at lw_m3 32 rfl) rfl
theorem q995 : (Jvm.Cond.selects "FuneralDebts$Mourner" ({ cls := "java/lang/Object", name := "getClass", desc := "()Ljava/lang/Class;" } : Jvm.MethodName) ({ cls := "java/lang/Object", name := "getClass", desc := "()Ljava/lang/Class;" } : Jvm.MethodName)) ∈ lw_all := lw_g (lw_at lw_m4 204 rfl) rfl
theorem q1194 : (Jvm.Cond.instanceMethod ({ cls := "FuneralDebts$Mourner", name := "stands", desc := "(I)I" } : Jvm.MethodName)) ∈ lw_all := lw_g (lw_at lw_m5 163 rfl) rfl
theorem q1195 : (Jvm.Cond.selects "FuneralDebts$Mourner" ({ cls := "FuneralDebts$Mourner", name := "stands", desc := "(I)I" } : Jvm.MethodName) ({ cls := "FuneralDebts$Mourner", name := "stands", desc := "(I)I" } : Jvm.MethodName)) ∈ lw_all := lw_g (lw_at lw_m5 164 rfl) rfl
theorem q1196 : (Jvm.Cond.sameMethod "FuneralDebts$Mourner" "FuneralDebts$Mourner" "stands" "(I)I") ∈ lw_all := lw_g (lw_at lw_m5 165 rfl) rfl
theorem q1205 : (Jvm.Cond.code ({ cls := "FuneralDebts$Mourner", name := "stands", desc := "(I)I" } : Jvm.MethodName) prog_8_method_4_code (2 : Nat) (Option.some Jvm.ClassFile.FieldType.int)) ∈ lw_all := lw_g (lw_at lw_m5 174 rfl) rfl
theorem q1206 : (Jvm.Cond.methodLink "FuneralDebts$Mourner" (20 : Nat) ({ cls := "FuneralDebts$Trace", name := "ran", desc := "(I)V" } : Jvm.MethodName)) ∈ lw_all := lw_g (lw_at lw_m5 175 rfl) rfl
theorem q1215 : (Jvm.Cond.declares ({ cls := "FuneralDebts$Mourner", name := "stands", desc := "(I)I" } : Jvm.MethodName)) ∈ lw_tbl := lw_at lw_m5 184 rfl
theorem q1224 : (Jvm.Cond.instanceMethod ({ cls := "FuneralDebts$Mourner", name := "sighs", desc := "(I)I" } : Jvm.MethodName)) ∈ lw_all := lw_g (lw_at lw_m5 193 rfl) rfl
theorem q1225 : (Jvm.Cond.selects "FuneralDebts$Mourner" ({ cls := "FuneralDebts$Mourner", name := "sighs", desc := "(I)I" } : Jvm.MethodName) ({ cls := "FuneralDebts$Mourner", name := "sighs", desc := "(I)I" } : Jvm.MethodName)) ∈ lw_all := lw_g (lw_at lw_m5 194 rfl) rfl
theorem q1226 : (Jvm.Cond.sameMethod "FuneralDebts$Mourner" "FuneralDebts$Mourner" "sighs" "(I)I") ∈ lw_all := lw_g (lw_at lw_m5 195 rfl) rfl
theorem q1233 : (Jvm.Cond.code ({ cls := "FuneralDebts$Mourner", name := "sighs", desc := "(I)I" } : Jvm.MethodName) prog_8_method_5_code (2 : Nat) (Option.some Jvm.ClassFile.FieldType.int)) ∈ lw_all := lw_g (lw_at lw_m5 202 rfl) rfl
theorem q1234 : (Jvm.Cond.methodLink "FuneralDebts$Mourner" (26 : Nat) ({ cls := "FuneralDebts$Mourner", name := "stands", desc := "(I)I" } : Jvm.MethodName)) ∈ lw_all := lw_g (lw_at lw_m5 203 rfl) rfl
theorem q1241 : (Jvm.Cond.declares ({ cls := "FuneralDebts$Mourner", name := "sighs", desc := "(I)I" } : Jvm.MethodName)) ∈ lw_tbl := lw_at lw_m5 210 rfl
theorem q1248 : (Jvm.Cond.instanceMethod ({ cls := "FuneralDebts$Mourner", name := "tells", desc := "(I)I" } : Jvm.MethodName)) ∈ lw_all := lw_g (lw_at lw_m5 217 rfl) rfl
theorem q1249 : (Jvm.Cond.selects "FuneralDebts$Mourner" ({ cls := "FuneralDebts$Mourner", name := "tells", desc := "(I)I" } : Jvm.MethodName) ({ cls := "FuneralDebts$Mourner", name := "tells", desc := "(I)I" } : Jvm.MethodName)) ∈ lw_all := lw_g (lw_at lw_m5 218 rfl) rfl
theorem q1250 : (Jvm.Cond.sameMethod "FuneralDebts$Mourner" "FuneralDebts$Mourner" "tells" "(I)I") ∈ lw_all := lw_g (lw_at lw_m5 219 rfl) rfl
theorem q1257 : (Jvm.Cond.declares ({ cls := "FuneralDebts$Mourner", name := "tells", desc := "(I)I" } : Jvm.MethodName)) ∈ lw_tbl := lw_at lw_m5 226 rfl
theorem q1258 : (Jvm.Cond.code ({ cls := "FuneralDebts$Mourner", name := "tells", desc := "(I)I" } : Jvm.MethodName) prog_8_method_6_code (2 : Nat) (Option.some Jvm.ClassFile.FieldType.int)) ∈ lw_all := lw_g (lw_at lw_m5 227 rfl) rfl
theorem q1259 : (Jvm.Cond.methodLink "FuneralDebts$Mourner" (30 : Nat) ({ cls := "FuneralDebts$Mourner", name := "sighs", desc := "(I)I" } : Jvm.MethodName)) ∈ lw_all := lw_g (lw_at lw_m5 228 rfl) rfl
theorem q1768 : (Jvm.Cond.castable "FuneralDebts$Mourner" "java/lang/Object") ∈ lw_tbl := lw_at lw_m8 17 rfl
theorem in_X7 : ∀ w ∈ wsX70, w ∈ lw_all := lw_in wsX70 [478, 479, 480] (by decide +kernel) (by decide +kernel)
/-! FuneralDebts$Cousin -/
set_option maxRecDepth 100000
def RX8 : String := "FuneralDebts$Cousin"
def TX8 : u_T := fun k => match k with
  | 0 => ("FuneralDebts$Mourner", "trace", "LFuneralDebts$Trace;", true)
  | 1 => ("FuneralDebts$Mourner", "number", "I", true)
  | _ => ("FuneralDebts$Mourner", "v", "I", false)
def tyX8 : Nat → FieldType := fun k => match k with
  | 0 => .object "FuneralDebts$Trace"
  | 1 => .int
  | _ => .int
abbrev wsX80 : List Cond := u_ws RX8 TX8 3
theorem nmX8 : ∀ a, a < 3 → ∀ b, b < 3 → a ≠ b → (TX8 a).2.1 ≠ (TX8 b).2.1 := by decide +kernel
theorem tyX8_ok : ∀ k, k < 3 → parseFieldDescriptor (TX8 k).2.2.1 = some (tyX8 k) := by decide +kernel
abbrev cX8_init : ByteArray := prog_5_method_1_code
def yX8_init : MethodName := ⟨RX8, "<init>", "(LFuneralDebts$Trace;II)V"⟩
def dkwX8_init_0 : List UInt8 := [42, 43, 28, 29, 183, 0, 3, 177]
abbrev dktX8_init_0 : List UInt8 := dkwX8_init_0 ++ []
theorem dksX8_init_0 : cX8_init.data.toList.drop 0 = dktX8_init_0 := by decide +kernel
theorem dX8_init_0 : decode cX8_init 0 = .ok (.aload_n 0, 1) := dk_42 (dk_at dksX8_init_0 0 rfl rfl)
theorem dX8_init_1 : decode cX8_init 1 = .ok (.aload_n 1, 1) := dk_43 (dk_at dksX8_init_0 1 rfl rfl)
theorem dX8_init_2 : decode cX8_init 2 = .ok (.iload_n 2, 1) := dk_28 (dk_at dksX8_init_0 2 rfl rfl)
theorem dX8_init_3 : decode cX8_init 3 = .ok (.iload_n 3, 1) := dk_29 (dk_at dksX8_init_0 3 rfl rfl)
theorem dX8_init_4 : decode cX8_init 4 = .ok (.invokespecial 3, 3) := dk_183 0 3 (dk_at dksX8_init_0 4 rfl rfl)
theorem dX8_init_7 : decode cX8_init 7 = .ok (.return_, 1) := dk_177 (dk_at dksX8_init_0 7 rfl rfl)
abbrev cX8_kind : ByteArray := prog_5_method_2_code
def yX8_kind : MethodName := ⟨RX8, "kind", "()I"⟩
theorem dX8_kind_0 : decode cX8_kind 0 = .ok (.iconst 1, 1) := by decide +kernel
theorem dX8_kind_1 : decode cX8_kind 1 = .ok (.ireturn, 1) := by decide +kernel
abbrev cX8_rates : ByteArray := prog_5_method_3_code
def yX8_rates : MethodName := ⟨RX8, "rates", "(III)I"⟩
def dkwX8_rates_0 : List UInt8 := [42, 27, 28, 29, 183, 0, 9, 42, 180, 0, 13, 96, 172]
abbrev dktX8_rates_0 : List UInt8 := dkwX8_rates_0 ++ []
theorem dksX8_rates_0 : cX8_rates.data.toList.drop 0 = dktX8_rates_0 := by decide +kernel
theorem dX8_rates_0 : decode cX8_rates 0 = .ok (.aload_n 0, 1) := dk_42 (dk_at dksX8_rates_0 0 rfl rfl)
theorem dX8_rates_1 : decode cX8_rates 1 = .ok (.iload_n 1, 1) := dk_27 (dk_at dksX8_rates_0 1 rfl rfl)
theorem dX8_rates_2 : decode cX8_rates 2 = .ok (.iload_n 2, 1) := dk_28 (dk_at dksX8_rates_0 2 rfl rfl)
theorem dX8_rates_3 : decode cX8_rates 3 = .ok (.iload_n 3, 1) := dk_29 (dk_at dksX8_rates_0 3 rfl rfl)
theorem dX8_rates_4 : decode cX8_rates 4 = .ok (.invokespecial 9, 3) := dk_183 0 9 (dk_at dksX8_rates_0 4 rfl rfl)
theorem dX8_rates_7 : decode cX8_rates 7 = .ok (.aload_n 0, 1) := dk_42 (dk_at dksX8_rates_0 7 rfl rfl)
theorem dX8_rates_8 : decode cX8_rates 8 = .ok (.getfield 13, 3) := dk_180 0 13 (dk_at dksX8_rates_0 8 rfl rfl)
theorem dX8_rates_11 : decode cX8_rates 11 = .ok (.iadd, 1) := dk_96 (dk_at dksX8_rates_0 11 rfl rfl)
theorem dX8_rates_12 : decode cX8_rates 12 = .ok (.ireturn, 1) := dk_172 (dk_at dksX8_rates_0 12 rfl rfl)
abbrev cX8_sighs : ByteArray := prog_5_method_4_code
def yX8_sighs : MethodName := ⟨RX8, "sighs", "(I)I"⟩
def dkwX8_sighs_0 : List UInt8 := [42, 180, 0, 19, 16, 20, 182, 0, 23, 42, 27, 183, 0, 29, 16, 6, 130, 172]
abbrev dktX8_sighs_0 : List UInt8 := dkwX8_sighs_0 ++ []
theorem dksX8_sighs_0 : cX8_sighs.data.toList.drop 0 = dktX8_sighs_0 := by decide +kernel
theorem dX8_sighs_0 : decode cX8_sighs 0 = .ok (.aload_n 0, 1) := dk_42 (dk_at dksX8_sighs_0 0 rfl rfl)
theorem dX8_sighs_1 : decode cX8_sighs 1 = .ok (.getfield 19, 3) := dk_180 0 19 (dk_at dksX8_sighs_0 1 rfl rfl)
theorem dX8_sighs_4 : decode cX8_sighs 4 = .ok (.bipush 20, 2) := dk_16 20 (dk_at dksX8_sighs_0 4 rfl rfl)
theorem dX8_sighs_6 : decode cX8_sighs 6 = .ok (.invokevirtual 23, 3) := dk_182 0 23 (dk_at dksX8_sighs_0 6 rfl rfl)
theorem dX8_sighs_9 : decode cX8_sighs 9 = .ok (.aload_n 0, 1) := dk_42 (dk_at dksX8_sighs_0 9 rfl rfl)
theorem dX8_sighs_10 : decode cX8_sighs 10 = .ok (.iload_n 1, 1) := dk_27 (dk_at dksX8_sighs_0 10 rfl rfl)
theorem dX8_sighs_11 : decode cX8_sighs 11 = .ok (.invokespecial 29, 3) := dk_183 0 29 (dk_at dksX8_sighs_0 11 rfl rfl)
theorem dX8_sighs_14 : decode cX8_sighs 14 = .ok (.bipush 6, 2) := dk_16 6 (dk_at dksX8_sighs_0 14 rfl rfl)
theorem dX8_sighs_16 : decode cX8_sighs 16 = .ok (.ixor, 1) := dk_130 (dk_at dksX8_sighs_0 16 rfl rfl)
theorem dX8_sighs_17 : decode cX8_sighs 17 = .ok (.ireturn, 1) := dk_172 (dk_at dksX8_sighs_0 17 rfl rfl)
theorem q83 : (Jvm.Cond.initialized "FuneralDebts$Cousin") ∈ lw_all := lw_g (lw_at lw_m1 12 rfl) rfl
theorem q384 : (Jvm.Cond.instantiable "FuneralDebts$Cousin" (3 : Nat)) ∈ lw_all := lw_g (lw_at lw_m2 73 rfl) rfl
theorem q386 : (Jvm.Cond.instanceMethod ({ cls := "FuneralDebts$Cousin", name := "<init>", desc := "(LFuneralDebts$Trace;II)V" } : Jvm.MethodName)) ∈ lw_all := lw_g (lw_at lw_m2 75 rfl) rfl
theorem q387 : (Jvm.Cond.code ({ cls := "FuneralDebts$Cousin", name := "<init>", desc := "(LFuneralDebts$Trace;II)V" } : Jvm.MethodName) prog_5_method_1_code (4 : Nat) (Option.none : Option Jvm.ClassFile.FieldType)) ∈ lw_all := lw_g (lw_at lw_m2 76 rfl) rfl
theorem q388 : (Jvm.Cond.methodLink "FuneralDebts$Cousin" (3 : Nat) ({ cls := "FuneralDebts$Mourner", name := "<init>", desc := "(LFuneralDebts$Trace;II)V" } : Jvm.MethodName)) ∈ lw_all := lw_g (lw_at lw_m2 77 rfl) rfl
theorem q397 : (Jvm.Cond.fieldLink "FuneralDebts$Cousin" (19 : Nat) "FuneralDebts$Cousin" "trace" "LFuneralDebts$Trace;") ∈ lw_all := lw_g (lw_at lw_m2 86 rfl) rfl
theorem q398 : (Jvm.Cond.sameField "FuneralDebts$Cousin" "FuneralDebts$Mourner" "trace" "LFuneralDebts$Trace;") ∈ lw_all := lw_g (lw_at lw_m2 87 rfl) rfl
theorem q411 : (Jvm.Cond.fieldLink "FuneralDebts$Cousin" (13 : Nat) "FuneralDebts$Cousin" "v" "I") ∈ lw_all := lw_g (lw_at lw_m2 100 rfl) rfl
theorem q412 : (Jvm.Cond.sameField "FuneralDebts$Cousin" "FuneralDebts$Mourner" "v" "I") ∈ lw_all := lw_g (lw_at lw_m2 101 rfl) rfl
theorem q416 : (Jvm.Cond.laysFinal "FuneralDebts$Cousin" "FuneralDebts$Mourner" "trace" "LFuneralDebts$Trace;") ∈ lw_all := lw_g (lw_at lw_m2 105 rfl) rfl
theorem q418 : (Jvm.Cond.laysFinal "FuneralDebts$Cousin" "FuneralDebts$Mourner" "number" "I") ∈ lw_all := lw_g (lw_at lw_m2 107 rfl) rfl
theorem q420 : (Jvm.Cond.lays "FuneralDebts$Cousin" "FuneralDebts$Mourner" "v" "I") ∈ lw_all := lw_g (lw_at lw_m2 109 rfl) rfl
theorem q422 : (Jvm.Cond.superclass "FuneralDebts$Cousin" "FuneralDebts$Mourner") ∈ lw_all := lw_g (lw_at lw_m2 111 rfl) rfl
theorem q512 : (Jvm.Cond.selects "FuneralDebts$Cousin" ({ cls := "FuneralDebts$Mourner", name := "kind", desc := "()I" } : Jvm.MethodName) ({ cls := "FuneralDebts$Cousin", name := "kind", desc := "()I" } : Jvm.MethodName)) ∈ lw_all := lw_g (lw_at lw_m2 201 rfl) rfl
theorem q513 : (Jvm.Cond.instanceMethod ({ cls := "FuneralDebts$Cousin", name := "kind", desc := "()I" } : Jvm.MethodName)) ∈ lw_all := lw_g (lw_at lw_m2 202 rfl) rfl
theorem q514 : (Jvm.Cond.code ({ cls := "FuneralDebts$Cousin", name := "kind", desc := "()I" } : Jvm.MethodName) prog_5_method_2_code (1 : Nat) (Option.some Jvm.ClassFile.FieldType.int)) ∈ lw_all := lw_g (lw_at lw_m2 203 rfl) rfl
theorem q584 : (Jvm.Cond.selects "FuneralDebts$Cousin" ({ cls := "FuneralDebts$Mourner", name := "rates", desc := "(III)I" } : Jvm.MethodName) ({ cls := "FuneralDebts$Cousin", name := "rates", desc := "(III)I" } : Jvm.MethodName)) ∈ lw_all := lw_g (lw_at lw_m3 33 rfl) rfl
theorem q585 : (Jvm.Cond.instanceMethod ({ cls := "FuneralDebts$Cousin", name := "rates", desc := "(III)I" } : Jvm.MethodName)) ∈ lw_all := lw_g (lw_at lw_m3 34 rfl) rfl
theorem q586 : (Jvm.Cond.code ({ cls := "FuneralDebts$Cousin", name := "rates", desc := "(III)I" } : Jvm.MethodName) prog_5_method_3_code (4 : Nat) (Option.some Jvm.ClassFile.FieldType.int)) ∈ lw_all := lw_g (lw_at lw_m3 35 rfl) rfl
theorem q587 : (Jvm.Cond.methodLink "FuneralDebts$Cousin" (9 : Nat) ({ cls := "FuneralDebts$Mourner", name := "rates", desc := "(III)I" } : Jvm.MethodName)) ∈ lw_all := lw_g (lw_at lw_m3 36 rfl) rfl
theorem q992 : (Jvm.Cond.selects "FuneralDebts$Cousin" ({ cls := "java/lang/Object", name := "getClass", desc := "()Ljava/lang/Class;" } : Jvm.MethodName) ({ cls := "java/lang/Object", name := "getClass", desc := "()Ljava/lang/Class;" } : Jvm.MethodName)) ∈ lw_all := lw_g (lw_at lw_m4 201 rfl) rfl
theorem q1207 : (Jvm.Cond.selects "FuneralDebts$Cousin" ({ cls := "FuneralDebts$Mourner", name := "stands", desc := "(I)I" } : Jvm.MethodName) ({ cls := "FuneralDebts$Mourner", name := "stands", desc := "(I)I" } : Jvm.MethodName)) ∈ lw_all := lw_g (lw_at lw_m5 176 rfl) rfl
theorem q1221 : (Jvm.Cond.sameMethod "FuneralDebts$Cousin" "FuneralDebts$Mourner" "stands" "(I)I") ∈ lw_all := lw_g (lw_at lw_m5 190 rfl) rfl
theorem q1228 : (Jvm.Cond.selects "FuneralDebts$Cousin" ({ cls := "FuneralDebts$Mourner", name := "sighs", desc := "(I)I" } : Jvm.MethodName) ({ cls := "FuneralDebts$Cousin", name := "sighs", desc := "(I)I" } : Jvm.MethodName)) ∈ lw_all := lw_g (lw_at lw_m5 197 rfl) rfl
theorem q1229 : (Jvm.Cond.instanceMethod ({ cls := "FuneralDebts$Cousin", name := "sighs", desc := "(I)I" } : Jvm.MethodName)) ∈ lw_all := lw_g (lw_at lw_m5 198 rfl) rfl
theorem q1230 : (Jvm.Cond.code ({ cls := "FuneralDebts$Cousin", name := "sighs", desc := "(I)I" } : Jvm.MethodName) prog_5_method_4_code (2 : Nat) (Option.some Jvm.ClassFile.FieldType.int)) ∈ lw_all := lw_g (lw_at lw_m5 199 rfl) rfl
theorem q1231 : (Jvm.Cond.methodLink "FuneralDebts$Cousin" (23 : Nat) ({ cls := "FuneralDebts$Trace", name := "ran", desc := "(I)V" } : Jvm.MethodName)) ∈ lw_all := lw_g (lw_at lw_m5 200 rfl) rfl
theorem q1232 : (Jvm.Cond.methodLink "FuneralDebts$Cousin" (29 : Nat) ({ cls := "FuneralDebts$Mourner", name := "sighs", desc := "(I)I" } : Jvm.MethodName)) ∈ lw_all := lw_g (lw_at lw_m5 201 rfl) rfl
theorem q1260 : (Jvm.Cond.selects "FuneralDebts$Cousin" ({ cls := "FuneralDebts$Mourner", name := "tells", desc := "(I)I" } : Jvm.MethodName) ({ cls := "FuneralDebts$Mourner", name := "tells", desc := "(I)I" } : Jvm.MethodName)) ∈ lw_all := lw_g (lw_at lw_m5 229 rfl) rfl
theorem q1751 : (Jvm.Cond.sameMethod "FuneralDebts$Cousin" "FuneralDebts$Cousin" "rates" "(III)I") ∈ lw_all := lw_g (lw_at lw_m8 0 rfl) rfl
theorem q1753 : (Jvm.Cond.sameMethod "FuneralDebts$Cousin" "FuneralDebts$Cousin" "sighs" "(I)I") ∈ lw_all := lw_g (lw_at lw_m8 2 rfl) rfl
theorem q1760 : (Jvm.Cond.castable "FuneralDebts$Cousin" "FuneralDebts$Mourner") ∈ lw_tbl := lw_at lw_m8 9 rfl
theorem q1777 : (Jvm.Cond.castable "FuneralDebts$Cousin" "java/lang/Object") ∈ lw_tbl := lw_at lw_m8 26 rfl
theorem in_X8 : ∀ w ∈ wsX80, w ∈ lw_all := lw_in wsX80 [416, 418, 420] (by decide +kernel) (by decide +kernel)
/-! FuneralDebts$Creditor -/
set_option maxRecDepth 100000
def RX9 : String := "FuneralDebts$Creditor"
def TX9 : u_T := fun k => match k with
  | 0 => ("FuneralDebts$Mourner", "trace", "LFuneralDebts$Trace;", true)
  | 1 => ("FuneralDebts$Mourner", "number", "I", true)
  | _ => ("FuneralDebts$Mourner", "v", "I", false)
def tyX9 : Nat → FieldType := fun k => match k with
  | 0 => .object "FuneralDebts$Trace"
  | 1 => .int
  | _ => .int
abbrev wsX90 : List Cond := u_ws RX9 TX9 3
theorem nmX9 : ∀ a, a < 3 → ∀ b, b < 3 → a ≠ b → (TX9 a).2.1 ≠ (TX9 b).2.1 := by decide +kernel
theorem tyX9_ok : ∀ k, k < 3 → parseFieldDescriptor (TX9 k).2.2.1 = some (tyX9 k) := by decide +kernel
abbrev cX9_init : ByteArray := prog_6_method_1_code
def yX9_init : MethodName := ⟨RX9, "<init>", "(LFuneralDebts$Trace;II)V"⟩
def dkwX9_init_0 : List UInt8 := [42, 43, 28, 29, 183, 0, 3, 177]
abbrev dktX9_init_0 : List UInt8 := dkwX9_init_0 ++ []
theorem dksX9_init_0 : cX9_init.data.toList.drop 0 = dktX9_init_0 := by decide +kernel
theorem dX9_init_0 : decode cX9_init 0 = .ok (.aload_n 0, 1) := dk_42 (dk_at dksX9_init_0 0 rfl rfl)
theorem dX9_init_1 : decode cX9_init 1 = .ok (.aload_n 1, 1) := dk_43 (dk_at dksX9_init_0 1 rfl rfl)
theorem dX9_init_2 : decode cX9_init 2 = .ok (.iload_n 2, 1) := dk_28 (dk_at dksX9_init_0 2 rfl rfl)
theorem dX9_init_3 : decode cX9_init 3 = .ok (.iload_n 3, 1) := dk_29 (dk_at dksX9_init_0 3 rfl rfl)
theorem dX9_init_4 : decode cX9_init 4 = .ok (.invokespecial 3, 3) := dk_183 0 3 (dk_at dksX9_init_0 4 rfl rfl)
theorem dX9_init_7 : decode cX9_init 7 = .ok (.return_, 1) := dk_177 (dk_at dksX9_init_0 7 rfl rfl)
abbrev cX9_kind : ByteArray := prog_6_method_2_code
def yX9_kind : MethodName := ⟨RX9, "kind", "()I"⟩
theorem dX9_kind_0 : decode cX9_kind 0 = .ok (.iconst 2, 1) := by decide +kernel
theorem dX9_kind_1 : decode cX9_kind 1 = .ok (.ireturn, 1) := by decide +kernel
abbrev cX9_rates : ByteArray := prog_6_method_3_code
def yX9_rates : MethodName := ⟨RX9, "rates", "(III)I"⟩
def dkwX9_rates_0 : List UInt8 := [42, 27, 28, 29, 183, 0, 9, 5, 108, 172]
abbrev dktX9_rates_0 : List UInt8 := dkwX9_rates_0 ++ []
theorem dksX9_rates_0 : cX9_rates.data.toList.drop 0 = dktX9_rates_0 := by decide +kernel
theorem dX9_rates_0 : decode cX9_rates 0 = .ok (.aload_n 0, 1) := dk_42 (dk_at dksX9_rates_0 0 rfl rfl)
theorem dX9_rates_1 : decode cX9_rates 1 = .ok (.iload_n 1, 1) := dk_27 (dk_at dksX9_rates_0 1 rfl rfl)
theorem dX9_rates_2 : decode cX9_rates 2 = .ok (.iload_n 2, 1) := dk_28 (dk_at dksX9_rates_0 2 rfl rfl)
theorem dX9_rates_3 : decode cX9_rates 3 = .ok (.iload_n 3, 1) := dk_29 (dk_at dksX9_rates_0 3 rfl rfl)
theorem dX9_rates_4 : decode cX9_rates 4 = .ok (.invokespecial 9, 3) := dk_183 0 9 (dk_at dksX9_rates_0 4 rfl rfl)
theorem dX9_rates_7 : decode cX9_rates 7 = .ok (.iconst 2, 1) := dk_5 (dk_at dksX9_rates_0 7 rfl rfl)
theorem dX9_rates_8 : decode cX9_rates 8 = .ok (.idiv, 1) := dk_108 (dk_at dksX9_rates_0 8 rfl rfl)
theorem dX9_rates_9 : decode cX9_rates 9 = .ok (.ireturn, 1) := dk_172 (dk_at dksX9_rates_0 9 rfl rfl)
abbrev cX9_stands : ByteArray := prog_6_method_4_code
def yX9_stands : MethodName := ⟨RX9, "stands", "(I)I"⟩
def dkwX9_stands_0 : List UInt8 := [42, 180, 0, 13, 16, 30, 182, 0, 19, 42, 27, 6, 104, 183, 0, 25, 172]
abbrev dktX9_stands_0 : List UInt8 := dkwX9_stands_0 ++ []
theorem dksX9_stands_0 : cX9_stands.data.toList.drop 0 = dktX9_stands_0 := by decide +kernel
theorem dX9_stands_0 : decode cX9_stands 0 = .ok (.aload_n 0, 1) := dk_42 (dk_at dksX9_stands_0 0 rfl rfl)
theorem dX9_stands_1 : decode cX9_stands 1 = .ok (.getfield 13, 3) := dk_180 0 13 (dk_at dksX9_stands_0 1 rfl rfl)
theorem dX9_stands_4 : decode cX9_stands 4 = .ok (.bipush 30, 2) := dk_16 30 (dk_at dksX9_stands_0 4 rfl rfl)
theorem dX9_stands_6 : decode cX9_stands 6 = .ok (.invokevirtual 19, 3) := dk_182 0 19 (dk_at dksX9_stands_0 6 rfl rfl)
theorem dX9_stands_9 : decode cX9_stands 9 = .ok (.aload_n 0, 1) := dk_42 (dk_at dksX9_stands_0 9 rfl rfl)
theorem dX9_stands_10 : decode cX9_stands 10 = .ok (.iload_n 1, 1) := dk_27 (dk_at dksX9_stands_0 10 rfl rfl)
theorem dX9_stands_11 : decode cX9_stands 11 = .ok (.iconst 3, 1) := dk_6 (dk_at dksX9_stands_0 11 rfl rfl)
theorem dX9_stands_12 : decode cX9_stands 12 = .ok (.imul, 1) := dk_104 (dk_at dksX9_stands_0 12 rfl rfl)
theorem dX9_stands_13 : decode cX9_stands 13 = .ok (.invokespecial 25, 3) := dk_183 0 25 (dk_at dksX9_stands_0 13 rfl rfl)
theorem dX9_stands_16 : decode cX9_stands 16 = .ok (.ireturn, 1) := dk_172 (dk_at dksX9_stands_0 16 rfl rfl)
theorem q84 : (Jvm.Cond.initialized "FuneralDebts$Creditor") ∈ lw_all := lw_g (lw_at lw_m1 13 rfl) rfl
theorem q393 : (Jvm.Cond.fieldLink "FuneralDebts$Creditor" (13 : Nat) "FuneralDebts$Creditor" "trace" "LFuneralDebts$Trace;") ∈ lw_all := lw_g (lw_at lw_m2 82 rfl) rfl
theorem q394 : (Jvm.Cond.sameField "FuneralDebts$Creditor" "FuneralDebts$Mourner" "trace" "LFuneralDebts$Trace;") ∈ lw_all := lw_g (lw_at lw_m2 83 rfl) rfl
theorem q424 : (Jvm.Cond.instantiable "FuneralDebts$Creditor" (3 : Nat)) ∈ lw_all := lw_g (lw_at lw_m2 113 rfl) rfl
theorem q426 : (Jvm.Cond.instanceMethod ({ cls := "FuneralDebts$Creditor", name := "<init>", desc := "(LFuneralDebts$Trace;II)V" } : Jvm.MethodName)) ∈ lw_all := lw_g (lw_at lw_m2 115 rfl) rfl
theorem q427 : (Jvm.Cond.code ({ cls := "FuneralDebts$Creditor", name := "<init>", desc := "(LFuneralDebts$Trace;II)V" } : Jvm.MethodName) prog_6_method_1_code (4 : Nat) (Option.none : Option Jvm.ClassFile.FieldType)) ∈ lw_all := lw_g (lw_at lw_m2 116 rfl) rfl
theorem q428 : (Jvm.Cond.methodLink "FuneralDebts$Creditor" (3 : Nat) ({ cls := "FuneralDebts$Mourner", name := "<init>", desc := "(LFuneralDebts$Trace;II)V" } : Jvm.MethodName)) ∈ lw_all := lw_g (lw_at lw_m2 117 rfl) rfl
theorem q429 : (Jvm.Cond.laysFinal "FuneralDebts$Creditor" "FuneralDebts$Mourner" "trace" "LFuneralDebts$Trace;") ∈ lw_all := lw_g (lw_at lw_m2 118 rfl) rfl
theorem q430 : (Jvm.Cond.laysFinal "FuneralDebts$Creditor" "FuneralDebts$Mourner" "number" "I") ∈ lw_all := lw_g (lw_at lw_m2 119 rfl) rfl
theorem q431 : (Jvm.Cond.lays "FuneralDebts$Creditor" "FuneralDebts$Mourner" "v" "I") ∈ lw_all := lw_g (lw_at lw_m2 120 rfl) rfl
theorem q432 : (Jvm.Cond.superclass "FuneralDebts$Creditor" "FuneralDebts$Mourner") ∈ lw_all := lw_g (lw_at lw_m2 121 rfl) rfl
theorem q515 : (Jvm.Cond.selects "FuneralDebts$Creditor" ({ cls := "FuneralDebts$Mourner", name := "kind", desc := "()I" } : Jvm.MethodName) ({ cls := "FuneralDebts$Creditor", name := "kind", desc := "()I" } : Jvm.MethodName)) ∈ lw_all := lw_g (lw_at lw_m2 204 rfl) rfl
theorem q516 : (Jvm.Cond.instanceMethod ({ cls := "FuneralDebts$Creditor", name := "kind", desc := "()I" } : Jvm.MethodName)) ∈ lw_all := lw_g (lw_at lw_m2 205 rfl) rfl
theorem q517 : (Jvm.Cond.code ({ cls := "FuneralDebts$Creditor", name := "kind", desc := "()I" } : Jvm.MethodName) prog_6_method_2_code (1 : Nat) (Option.some Jvm.ClassFile.FieldType.int)) ∈ lw_all := lw_g (lw_at lw_m2 206 rfl) rfl
theorem q580 : (Jvm.Cond.instanceMethod ({ cls := "FuneralDebts$Creditor", name := "rates", desc := "(III)I" } : Jvm.MethodName)) ∈ lw_all := lw_g (lw_at lw_m3 29 rfl) rfl
theorem q581 : (Jvm.Cond.code ({ cls := "FuneralDebts$Creditor", name := "rates", desc := "(III)I" } : Jvm.MethodName) prog_6_method_3_code (4 : Nat) (Option.some Jvm.ClassFile.FieldType.int)) ∈ lw_all := lw_g (lw_at lw_m3 30 rfl) rfl
theorem q582 : (Jvm.Cond.methodLink "FuneralDebts$Creditor" (9 : Nat) ({ cls := "FuneralDebts$Mourner", name := "rates", desc := "(III)I" } : Jvm.MethodName)) ∈ lw_all := lw_g (lw_at lw_m3 31 rfl) rfl
theorem q588 : (Jvm.Cond.selects "FuneralDebts$Creditor" ({ cls := "FuneralDebts$Mourner", name := "rates", desc := "(III)I" } : Jvm.MethodName) ({ cls := "FuneralDebts$Creditor", name := "rates", desc := "(III)I" } : Jvm.MethodName)) ∈ lw_all := lw_g (lw_at lw_m3 37 rfl) rfl
theorem q993 : (Jvm.Cond.selects "FuneralDebts$Creditor" ({ cls := "java/lang/Object", name := "getClass", desc := "()Ljava/lang/Class;" } : Jvm.MethodName) ({ cls := "java/lang/Object", name := "getClass", desc := "()Ljava/lang/Class;" } : Jvm.MethodName)) ∈ lw_all := lw_g (lw_at lw_m4 202 rfl) rfl
theorem q1198 : (Jvm.Cond.instanceMethod ({ cls := "FuneralDebts$Creditor", name := "stands", desc := "(I)I" } : Jvm.MethodName)) ∈ lw_all := lw_g (lw_at lw_m5 167 rfl) rfl
theorem q1199 : (Jvm.Cond.code ({ cls := "FuneralDebts$Creditor", name := "stands", desc := "(I)I" } : Jvm.MethodName) prog_6_method_4_code (2 : Nat) (Option.some Jvm.ClassFile.FieldType.int)) ∈ lw_all := lw_g (lw_at lw_m5 168 rfl) rfl
theorem q1200 : (Jvm.Cond.methodLink "FuneralDebts$Creditor" (19 : Nat) ({ cls := "FuneralDebts$Trace", name := "ran", desc := "(I)V" } : Jvm.MethodName)) ∈ lw_all := lw_g (lw_at lw_m5 169 rfl) rfl
theorem q1204 : (Jvm.Cond.methodLink "FuneralDebts$Creditor" (25 : Nat) ({ cls := "FuneralDebts$Mourner", name := "stands", desc := "(I)I" } : Jvm.MethodName)) ∈ lw_all := lw_g (lw_at lw_m5 173 rfl) rfl
theorem q1208 : (Jvm.Cond.selects "FuneralDebts$Creditor" ({ cls := "FuneralDebts$Mourner", name := "stands", desc := "(I)I" } : Jvm.MethodName) ({ cls := "FuneralDebts$Creditor", name := "stands", desc := "(I)I" } : Jvm.MethodName)) ∈ lw_all := lw_g (lw_at lw_m5 177 rfl) rfl
theorem q1235 : (Jvm.Cond.selects "FuneralDebts$Creditor" ({ cls := "FuneralDebts$Mourner", name := "sighs", desc := "(I)I" } : Jvm.MethodName) ({ cls := "FuneralDebts$Mourner", name := "sighs", desc := "(I)I" } : Jvm.MethodName)) ∈ lw_all := lw_g (lw_at lw_m5 204 rfl) rfl
theorem q1256 : (Jvm.Cond.sameMethod "FuneralDebts$Creditor" "FuneralDebts$Mourner" "tells" "(I)I") ∈ lw_all := lw_g (lw_at lw_m5 225 rfl) rfl
theorem q1261 : (Jvm.Cond.selects "FuneralDebts$Creditor" ({ cls := "FuneralDebts$Mourner", name := "tells", desc := "(I)I" } : Jvm.MethodName) ({ cls := "FuneralDebts$Mourner", name := "tells", desc := "(I)I" } : Jvm.MethodName)) ∈ lw_all := lw_g (lw_at lw_m5 230 rfl) rfl
theorem q1749 : (Jvm.Cond.sameMethod "FuneralDebts$Creditor" "FuneralDebts$Creditor" "rates" "(III)I") ∈ lw_all := lw_g (lw_at lw_m7 238 rfl) rfl
theorem q1761 : (Jvm.Cond.castable "FuneralDebts$Creditor" "FuneralDebts$Mourner") ∈ lw_tbl := lw_at lw_m8 10 rfl
theorem q1778 : (Jvm.Cond.castable "FuneralDebts$Creditor" "java/lang/Object") ∈ lw_tbl := lw_at lw_m8 27 rfl
theorem in_X9 : ∀ w ∈ wsX90, w ∈ lw_all := lw_in wsX90 [429, 430, 431] (by decide +kernel) (by decide +kernel)
/-! FuneralDebts$Weeper -/
set_option maxRecDepth 100000
def RX10 : String := "FuneralDebts$Weeper"
def TX10 : u_T := fun k => match k with
  | 0 => ("FuneralDebts$Mourner", "trace", "LFuneralDebts$Trace;", true)
  | 1 => ("FuneralDebts$Mourner", "number", "I", true)
  | _ => ("FuneralDebts$Mourner", "v", "I", false)
def tyX10 : Nat → FieldType := fun k => match k with
  | 0 => .object "FuneralDebts$Trace"
  | 1 => .int
  | _ => .int
abbrev wsX100 : List Cond := u_ws RX10 TX10 3
theorem nmX10 : ∀ a, a < 3 → ∀ b, b < 3 → a ≠ b → (TX10 a).2.1 ≠ (TX10 b).2.1 := by decide +kernel
theorem tyX10_ok : ∀ k, k < 3 → parseFieldDescriptor (TX10 k).2.2.1 = some (tyX10 k) := by decide +kernel
abbrev cX10_init : ByteArray := prog_21_method_1_code
def yX10_init : MethodName := ⟨RX10, "<init>", "(LFuneralDebts$Trace;II)V"⟩
def dkwX10_init_0 : List UInt8 := [42, 43, 28, 29, 183, 0, 3, 177]
abbrev dktX10_init_0 : List UInt8 := dkwX10_init_0 ++ []
theorem dksX10_init_0 : cX10_init.data.toList.drop 0 = dktX10_init_0 := by decide +kernel
theorem dX10_init_0 : decode cX10_init 0 = .ok (.aload_n 0, 1) := dk_42 (dk_at dksX10_init_0 0 rfl rfl)
theorem dX10_init_1 : decode cX10_init 1 = .ok (.aload_n 1, 1) := dk_43 (dk_at dksX10_init_0 1 rfl rfl)
theorem dX10_init_2 : decode cX10_init 2 = .ok (.iload_n 2, 1) := dk_28 (dk_at dksX10_init_0 2 rfl rfl)
theorem dX10_init_3 : decode cX10_init 3 = .ok (.iload_n 3, 1) := dk_29 (dk_at dksX10_init_0 3 rfl rfl)
theorem dX10_init_4 : decode cX10_init 4 = .ok (.invokespecial 3, 3) := dk_183 0 3 (dk_at dksX10_init_0 4 rfl rfl)
theorem dX10_init_7 : decode cX10_init 7 = .ok (.return_, 1) := dk_177 (dk_at dksX10_init_0 7 rfl rfl)
abbrev cX10_kind : ByteArray := prog_21_method_2_code
def yX10_kind : MethodName := ⟨RX10, "kind", "()I"⟩
theorem dX10_kind_0 : decode cX10_kind 0 = .ok (.iconst 3, 1) := by decide +kernel
theorem dX10_kind_1 : decode cX10_kind 1 = .ok (.ireturn, 1) := by decide +kernel
abbrev cX10_rates : ByteArray := prog_21_method_3_code
def yX10_rates : MethodName := ⟨RX10, "rates", "(III)I"⟩
def dkwX10_rates_0 : List UInt8 := [28, 8, 161, 0, 7, 4, 167, 0, 10, 42, 27, 28, 29, 183, 0, 9, 172]
abbrev dktX10_rates_0 : List UInt8 := dkwX10_rates_0 ++ []
theorem dksX10_rates_0 : cX10_rates.data.toList.drop 0 = dktX10_rates_0 := by decide +kernel
theorem dX10_rates_0 : decode cX10_rates 0 = .ok (.iload_n 2, 1) := dk_28 (dk_at dksX10_rates_0 0 rfl rfl)
theorem dX10_rates_1 : decode cX10_rates 1 = .ok (.iconst 5, 1) := dk_8 (dk_at dksX10_rates_0 1 rfl rfl)
theorem dX10_rates_2 : decode cX10_rates 2 = .ok (.if_icmp .lt 7, 3) := dk_161 0 7 (dk_at dksX10_rates_0 2 rfl rfl)
theorem dX10_rates_5 : decode cX10_rates 5 = .ok (.iconst 1, 1) := dk_4 (dk_at dksX10_rates_0 5 rfl rfl)
theorem dX10_rates_6 : decode cX10_rates 6 = .ok (.goto 10, 3) := dk_167 0 10 (dk_at dksX10_rates_0 6 rfl rfl)
theorem dX10_rates_9 : decode cX10_rates 9 = .ok (.aload_n 0, 1) := dk_42 (dk_at dksX10_rates_0 9 rfl rfl)
theorem dX10_rates_10 : decode cX10_rates 10 = .ok (.iload_n 1, 1) := dk_27 (dk_at dksX10_rates_0 10 rfl rfl)
theorem dX10_rates_11 : decode cX10_rates 11 = .ok (.iload_n 2, 1) := dk_28 (dk_at dksX10_rates_0 11 rfl rfl)
theorem dX10_rates_12 : decode cX10_rates 12 = .ok (.iload_n 3, 1) := dk_29 (dk_at dksX10_rates_0 12 rfl rfl)
theorem dX10_rates_13 : decode cX10_rates 13 = .ok (.invokespecial 9, 3) := dk_183 0 9 (dk_at dksX10_rates_0 13 rfl rfl)
theorem dX10_rates_16 : decode cX10_rates 16 = .ok (.ireturn, 1) := dk_172 (dk_at dksX10_rates_0 16 rfl rfl)
abbrev cX10_tells : ByteArray := prog_21_method_4_code
def yX10_tells : MethodName := ⟨RX10, "tells", "(I)I"⟩
def dkwX10_tells_0 : List UInt8 := [42, 180, 0, 13, 16, 40, 182, 0, 19, 42, 27, 183, 0, 25, 61, 28, 42, 4, 182, 0, 29, 96, 172]
abbrev dktX10_tells_0 : List UInt8 := dkwX10_tells_0 ++ []
theorem dksX10_tells_0 : cX10_tells.data.toList.drop 0 = dktX10_tells_0 := by decide +kernel
theorem dX10_tells_0 : decode cX10_tells 0 = .ok (.aload_n 0, 1) := dk_42 (dk_at dksX10_tells_0 0 rfl rfl)
theorem dX10_tells_1 : decode cX10_tells 1 = .ok (.getfield 13, 3) := dk_180 0 13 (dk_at dksX10_tells_0 1 rfl rfl)
theorem dX10_tells_4 : decode cX10_tells 4 = .ok (.bipush 40, 2) := dk_16 40 (dk_at dksX10_tells_0 4 rfl rfl)
theorem dX10_tells_6 : decode cX10_tells 6 = .ok (.invokevirtual 19, 3) := dk_182 0 19 (dk_at dksX10_tells_0 6 rfl rfl)
theorem dX10_tells_9 : decode cX10_tells 9 = .ok (.aload_n 0, 1) := dk_42 (dk_at dksX10_tells_0 9 rfl rfl)
theorem dX10_tells_10 : decode cX10_tells 10 = .ok (.iload_n 1, 1) := dk_27 (dk_at dksX10_tells_0 10 rfl rfl)
theorem dX10_tells_11 : decode cX10_tells 11 = .ok (.invokespecial 25, 3) := dk_183 0 25 (dk_at dksX10_tells_0 11 rfl rfl)
theorem dX10_tells_14 : decode cX10_tells 14 = .ok (.istore_n 2, 1) := dk_61 (dk_at dksX10_tells_0 14 rfl rfl)
theorem dX10_tells_15 : decode cX10_tells 15 = .ok (.iload_n 2, 1) := dk_28 (dk_at dksX10_tells_0 15 rfl rfl)
theorem dX10_tells_16 : decode cX10_tells 16 = .ok (.aload_n 0, 1) := dk_42 (dk_at dksX10_tells_0 16 rfl rfl)
theorem dX10_tells_17 : decode cX10_tells 17 = .ok (.iconst 1, 1) := dk_4 (dk_at dksX10_tells_0 17 rfl rfl)
theorem dX10_tells_18 : decode cX10_tells 18 = .ok (.invokevirtual 29, 3) := dk_182 0 29 (dk_at dksX10_tells_0 18 rfl rfl)
theorem dX10_tells_21 : decode cX10_tells 21 = .ok (.iadd, 1) := dk_96 (dk_at dksX10_tells_0 21 rfl rfl)
theorem dX10_tells_22 : decode cX10_tells 22 = .ok (.ireturn, 1) := dk_172 (dk_at dksX10_tells_0 22 rfl rfl)
theorem q85 : (Jvm.Cond.initialized "FuneralDebts$Weeper") ∈ lw_all := lw_g (lw_at lw_m1 14 rfl) rfl
theorem q403 : (Jvm.Cond.fieldLink "FuneralDebts$Weeper" (13 : Nat) "FuneralDebts$Weeper" "trace" "LFuneralDebts$Trace;") ∈ lw_all := lw_g (lw_at lw_m2 92 rfl) rfl
theorem q404 : (Jvm.Cond.sameField "FuneralDebts$Weeper" "FuneralDebts$Mourner" "trace" "LFuneralDebts$Trace;") ∈ lw_all := lw_g (lw_at lw_m2 93 rfl) rfl
theorem q434 : (Jvm.Cond.instantiable "FuneralDebts$Weeper" (3 : Nat)) ∈ lw_all := lw_g (lw_at lw_m2 123 rfl) rfl
theorem q436 : (Jvm.Cond.instanceMethod ({ cls := "FuneralDebts$Weeper", name := "<init>", desc := "(LFuneralDebts$Trace;II)V" } : Jvm.MethodName)) ∈ lw_all := lw_g (lw_at lw_m2 125 rfl) rfl
theorem q437 : (Jvm.Cond.code ({ cls := "FuneralDebts$Weeper", name := "<init>", desc := "(LFuneralDebts$Trace;II)V" } : Jvm.MethodName) prog_21_method_1_code (4 : Nat) (Option.none : Option Jvm.ClassFile.FieldType)) ∈ lw_all := lw_g (lw_at lw_m2 126 rfl) rfl
theorem q438 : (Jvm.Cond.methodLink "FuneralDebts$Weeper" (3 : Nat) ({ cls := "FuneralDebts$Mourner", name := "<init>", desc := "(LFuneralDebts$Trace;II)V" } : Jvm.MethodName)) ∈ lw_all := lw_g (lw_at lw_m2 127 rfl) rfl
theorem q439 : (Jvm.Cond.laysFinal "FuneralDebts$Weeper" "FuneralDebts$Mourner" "trace" "LFuneralDebts$Trace;") ∈ lw_all := lw_g (lw_at lw_m2 128 rfl) rfl
theorem q440 : (Jvm.Cond.laysFinal "FuneralDebts$Weeper" "FuneralDebts$Mourner" "number" "I") ∈ lw_all := lw_g (lw_at lw_m2 129 rfl) rfl
theorem q441 : (Jvm.Cond.lays "FuneralDebts$Weeper" "FuneralDebts$Mourner" "v" "I") ∈ lw_all := lw_g (lw_at lw_m2 130 rfl) rfl
theorem q442 : (Jvm.Cond.superclass "FuneralDebts$Weeper" "FuneralDebts$Mourner") ∈ lw_all := lw_g (lw_at lw_m2 131 rfl) rfl
theorem q524 : (Jvm.Cond.selects "FuneralDebts$Weeper" ({ cls := "FuneralDebts$Mourner", name := "kind", desc := "()I" } : Jvm.MethodName) ({ cls := "FuneralDebts$Weeper", name := "kind", desc := "()I" } : Jvm.MethodName)) ∈ lw_all := lw_g (lw_at lw_m2 213 rfl) rfl
theorem q525 : (Jvm.Cond.instanceMethod ({ cls := "FuneralDebts$Weeper", name := "kind", desc := "()I" } : Jvm.MethodName)) ∈ lw_all := lw_g (lw_at lw_m2 214 rfl) rfl
theorem q526 : (Jvm.Cond.code ({ cls := "FuneralDebts$Weeper", name := "kind", desc := "()I" } : Jvm.MethodName) prog_21_method_2_code (1 : Nat) (Option.some Jvm.ClassFile.FieldType.int)) ∈ lw_all := lw_g (lw_at lw_m2 215 rfl) rfl
theorem q593 : (Jvm.Cond.instanceMethod ({ cls := "FuneralDebts$Weeper", name := "rates", desc := "(III)I" } : Jvm.MethodName)) ∈ lw_all := lw_g (lw_at lw_m3 42 rfl) rfl
theorem q594 : (Jvm.Cond.code ({ cls := "FuneralDebts$Weeper", name := "rates", desc := "(III)I" } : Jvm.MethodName) prog_21_method_3_code (4 : Nat) (Option.some Jvm.ClassFile.FieldType.int)) ∈ lw_all := lw_g (lw_at lw_m3 43 rfl) rfl
theorem q595 : (Jvm.Cond.methodLink "FuneralDebts$Weeper" (9 : Nat) ({ cls := "FuneralDebts$Mourner", name := "rates", desc := "(III)I" } : Jvm.MethodName)) ∈ lw_all := lw_g (lw_at lw_m3 44 rfl) rfl
theorem q600 : (Jvm.Cond.selects "FuneralDebts$Weeper" ({ cls := "FuneralDebts$Mourner", name := "rates", desc := "(III)I" } : Jvm.MethodName) ({ cls := "FuneralDebts$Weeper", name := "rates", desc := "(III)I" } : Jvm.MethodName)) ∈ lw_all := lw_g (lw_at lw_m3 49 rfl) rfl
theorem q1006 : (Jvm.Cond.selects "FuneralDebts$Weeper" ({ cls := "java/lang/Object", name := "getClass", desc := "()Ljava/lang/Class;" } : Jvm.MethodName) ({ cls := "java/lang/Object", name := "getClass", desc := "()Ljava/lang/Class;" } : Jvm.MethodName)) ∈ lw_all := lw_g (lw_at lw_m4 215 rfl) rfl
theorem q1214 : (Jvm.Cond.sameMethod "FuneralDebts$Weeper" "FuneralDebts$Mourner" "stands" "(I)I") ∈ lw_all := lw_g (lw_at lw_m5 183 rfl) rfl
theorem q1222 : (Jvm.Cond.selects "FuneralDebts$Weeper" ({ cls := "FuneralDebts$Mourner", name := "stands", desc := "(I)I" } : Jvm.MethodName) ({ cls := "FuneralDebts$Mourner", name := "stands", desc := "(I)I" } : Jvm.MethodName)) ∈ lw_all := lw_g (lw_at lw_m5 191 rfl) rfl
theorem q1240 : (Jvm.Cond.sameMethod "FuneralDebts$Weeper" "FuneralDebts$Mourner" "sighs" "(I)I") ∈ lw_all := lw_g (lw_at lw_m5 209 rfl) rfl
theorem q1246 : (Jvm.Cond.selects "FuneralDebts$Weeper" ({ cls := "FuneralDebts$Mourner", name := "sighs", desc := "(I)I" } : Jvm.MethodName) ({ cls := "FuneralDebts$Mourner", name := "sighs", desc := "(I)I" } : Jvm.MethodName)) ∈ lw_all := lw_g (lw_at lw_m5 215 rfl) rfl
theorem q1263 : (Jvm.Cond.instanceMethod ({ cls := "FuneralDebts$Weeper", name := "tells", desc := "(I)I" } : Jvm.MethodName)) ∈ lw_all := lw_g (lw_at lw_m5 232 rfl) rfl
theorem q1264 : (Jvm.Cond.code ({ cls := "FuneralDebts$Weeper", name := "tells", desc := "(I)I" } : Jvm.MethodName) prog_21_method_4_code (3 : Nat) (Option.some Jvm.ClassFile.FieldType.int)) ∈ lw_all := lw_g (lw_at lw_m5 233 rfl) rfl
theorem q1265 : (Jvm.Cond.methodLink "FuneralDebts$Weeper" (19 : Nat) ({ cls := "FuneralDebts$Trace", name := "ran", desc := "(I)V" } : Jvm.MethodName)) ∈ lw_all := lw_g (lw_at lw_m5 234 rfl) rfl
theorem q1266 : (Jvm.Cond.methodLink "FuneralDebts$Weeper" (25 : Nat) ({ cls := "FuneralDebts$Mourner", name := "tells", desc := "(I)I" } : Jvm.MethodName)) ∈ lw_all := lw_g (lw_at lw_m5 235 rfl) rfl
theorem q1267 : (Jvm.Cond.methodLink "FuneralDebts$Weeper" (29 : Nat) ({ cls := "FuneralDebts$Weeper", name := "sighs", desc := "(I)I" } : Jvm.MethodName)) ∈ lw_all := lw_g (lw_at lw_m5 236 rfl) rfl
theorem q1269 : (Jvm.Cond.selects "FuneralDebts$Weeper" ({ cls := "FuneralDebts$Weeper", name := "sighs", desc := "(I)I" } : Jvm.MethodName) ({ cls := "FuneralDebts$Mourner", name := "sighs", desc := "(I)I" } : Jvm.MethodName)) ∈ lw_all := lw_g (lw_at lw_m5 238 rfl) rfl
theorem q1271 : (Jvm.Cond.selects "FuneralDebts$Weeper" ({ cls := "FuneralDebts$Mourner", name := "tells", desc := "(I)I" } : Jvm.MethodName) ({ cls := "FuneralDebts$Weeper", name := "tells", desc := "(I)I" } : Jvm.MethodName)) ∈ lw_all := lw_g (lw_at lw_m6 0 rfl) rfl
theorem q1750 : (Jvm.Cond.sameMethod "FuneralDebts$Weeper" "FuneralDebts$Weeper" "rates" "(III)I") ∈ lw_all := lw_g (lw_at lw_m7 239 rfl) rfl
theorem q1764 : (Jvm.Cond.castable "FuneralDebts$Weeper" "FuneralDebts$Mourner") ∈ lw_tbl := lw_at lw_m8 13 rfl
theorem q1779 : (Jvm.Cond.castable "FuneralDebts$Weeper" "java/lang/Object") ∈ lw_tbl := lw_at lw_m8 28 rfl
theorem in_X10 : ∀ w ∈ wsX100, w ∈ lw_all := lw_in wsX100 [439, 440, 441] (by decide +kernel) (by decide +kernel)
/-! FuneralDebts$Vicar -/
set_option maxRecDepth 100000
def RX11 : String := "FuneralDebts$Vicar"
def TX11 : u_T := fun k => match k with
  | 0 => ("FuneralDebts$Mourner", "trace", "LFuneralDebts$Trace;", true)
  | 1 => ("FuneralDebts$Mourner", "number", "I", true)
  | _ => ("FuneralDebts$Mourner", "v", "I", false)
def tyX11 : Nat → FieldType := fun k => match k with
  | 0 => .object "FuneralDebts$Trace"
  | 1 => .int
  | _ => .int
abbrev wsX110 : List Cond := u_ws RX11 TX11 3
theorem nmX11 : ∀ a, a < 3 → ∀ b, b < 3 → a ≠ b → (TX11 a).2.1 ≠ (TX11 b).2.1 := by decide +kernel
theorem tyX11_ok : ∀ k, k < 3 → parseFieldDescriptor (TX11 k).2.2.1 = some (tyX11 k) := by decide +kernel
abbrev cX11_init : ByteArray := prog_20_method_1_code
def yX11_init : MethodName := ⟨RX11, "<init>", "(LFuneralDebts$Trace;II)V"⟩
def dkwX11_init_0 : List UInt8 := [42, 43, 28, 29, 183, 0, 3, 177]
abbrev dktX11_init_0 : List UInt8 := dkwX11_init_0 ++ []
theorem dksX11_init_0 : cX11_init.data.toList.drop 0 = dktX11_init_0 := by decide +kernel
theorem dX11_init_0 : decode cX11_init 0 = .ok (.aload_n 0, 1) := dk_42 (dk_at dksX11_init_0 0 rfl rfl)
theorem dX11_init_1 : decode cX11_init 1 = .ok (.aload_n 1, 1) := dk_43 (dk_at dksX11_init_0 1 rfl rfl)
theorem dX11_init_2 : decode cX11_init 2 = .ok (.iload_n 2, 1) := dk_28 (dk_at dksX11_init_0 2 rfl rfl)
theorem dX11_init_3 : decode cX11_init 3 = .ok (.iload_n 3, 1) := dk_29 (dk_at dksX11_init_0 3 rfl rfl)
theorem dX11_init_4 : decode cX11_init 4 = .ok (.invokespecial 3, 3) := dk_183 0 3 (dk_at dksX11_init_0 4 rfl rfl)
theorem dX11_init_7 : decode cX11_init 7 = .ok (.return_, 1) := dk_177 (dk_at dksX11_init_0 7 rfl rfl)
abbrev cX11_kind : ByteArray := prog_20_method_2_code
def yX11_kind : MethodName := ⟨RX11, "kind", "()I"⟩
theorem dX11_kind_0 : decode cX11_kind 0 = .ok (.iconst 4, 1) := by decide +kernel
theorem dX11_kind_1 : decode cX11_kind 1 = .ok (.ireturn, 1) := by decide +kernel
abbrev cX11_rates : ByteArray := prog_20_method_3_code
def yX11_rates : MethodName := ⟨RX11, "rates", "(III)I"⟩
def dkwX11_rates_0 : List UInt8 := [29, 16, 7, 112, 154, 0, 7, 3, 167, 0, 10, 42, 27, 28, 29, 183, 0, 9, 172]
abbrev dktX11_rates_0 : List UInt8 := dkwX11_rates_0 ++ []
theorem dksX11_rates_0 : cX11_rates.data.toList.drop 0 = dktX11_rates_0 := by decide +kernel
theorem dX11_rates_0 : decode cX11_rates 0 = .ok (.iload_n 3, 1) := dk_29 (dk_at dksX11_rates_0 0 rfl rfl)
theorem dX11_rates_1 : decode cX11_rates 1 = .ok (.bipush 7, 2) := dk_16 7 (dk_at dksX11_rates_0 1 rfl rfl)
theorem dX11_rates_3 : decode cX11_rates 3 = .ok (.irem, 1) := dk_112 (dk_at dksX11_rates_0 3 rfl rfl)
theorem dX11_rates_4 : decode cX11_rates 4 = .ok (.ifCond .ne 7, 3) := dk_154 0 7 (dk_at dksX11_rates_0 4 rfl rfl)
theorem dX11_rates_7 : decode cX11_rates 7 = .ok (.iconst 0, 1) := dk_3 (dk_at dksX11_rates_0 7 rfl rfl)
theorem dX11_rates_8 : decode cX11_rates 8 = .ok (.goto 10, 3) := dk_167 0 10 (dk_at dksX11_rates_0 8 rfl rfl)
theorem dX11_rates_11 : decode cX11_rates 11 = .ok (.aload_n 0, 1) := dk_42 (dk_at dksX11_rates_0 11 rfl rfl)
theorem dX11_rates_12 : decode cX11_rates 12 = .ok (.iload_n 1, 1) := dk_27 (dk_at dksX11_rates_0 12 rfl rfl)
theorem dX11_rates_13 : decode cX11_rates 13 = .ok (.iload_n 2, 1) := dk_28 (dk_at dksX11_rates_0 13 rfl rfl)
theorem dX11_rates_14 : decode cX11_rates 14 = .ok (.iload_n 3, 1) := dk_29 (dk_at dksX11_rates_0 14 rfl rfl)
theorem dX11_rates_15 : decode cX11_rates 15 = .ok (.invokespecial 9, 3) := dk_183 0 9 (dk_at dksX11_rates_0 15 rfl rfl)
theorem dX11_rates_18 : decode cX11_rates 18 = .ok (.ireturn, 1) := dk_172 (dk_at dksX11_rates_0 18 rfl rfl)
abbrev cX11_stands : ByteArray := prog_20_method_4_code
def yX11_stands : MethodName := ⟨RX11, "stands", "(I)I"⟩
def dkwX11_stands_0 : List UInt8 := [42, 180, 0, 13, 16, 50, 182, 0, 19, 42, 27, 183, 0, 25, 116, 172]
abbrev dktX11_stands_0 : List UInt8 := dkwX11_stands_0 ++ []
theorem dksX11_stands_0 : cX11_stands.data.toList.drop 0 = dktX11_stands_0 := by decide +kernel
theorem dX11_stands_0 : decode cX11_stands 0 = .ok (.aload_n 0, 1) := dk_42 (dk_at dksX11_stands_0 0 rfl rfl)
theorem dX11_stands_1 : decode cX11_stands 1 = .ok (.getfield 13, 3) := dk_180 0 13 (dk_at dksX11_stands_0 1 rfl rfl)
theorem dX11_stands_4 : decode cX11_stands 4 = .ok (.bipush 50, 2) := dk_16 50 (dk_at dksX11_stands_0 4 rfl rfl)
theorem dX11_stands_6 : decode cX11_stands 6 = .ok (.invokevirtual 19, 3) := dk_182 0 19 (dk_at dksX11_stands_0 6 rfl rfl)
theorem dX11_stands_9 : decode cX11_stands 9 = .ok (.aload_n 0, 1) := dk_42 (dk_at dksX11_stands_0 9 rfl rfl)
theorem dX11_stands_10 : decode cX11_stands 10 = .ok (.iload_n 1, 1) := dk_27 (dk_at dksX11_stands_0 10 rfl rfl)
theorem dX11_stands_11 : decode cX11_stands 11 = .ok (.invokespecial 25, 3) := dk_183 0 25 (dk_at dksX11_stands_0 11 rfl rfl)
theorem dX11_stands_14 : decode cX11_stands 14 = .ok (.ineg, 1) := dk_116 (dk_at dksX11_stands_0 14 rfl rfl)
theorem dX11_stands_15 : decode cX11_stands 15 = .ok (.ireturn, 1) := dk_172 (dk_at dksX11_stands_0 15 rfl rfl)
abbrev cX11_sighs : ByteArray := prog_20_method_5_code
def yX11_sighs : MethodName := ⟨RX11, "sighs", "(I)I"⟩
def dkwX11_sighs_0 : List UInt8 := [42, 180, 0, 13, 16, 51, 182, 0, 19, 42, 27, 4, 96, 183, 0, 29, 172]
abbrev dktX11_sighs_0 : List UInt8 := dkwX11_sighs_0 ++ []
theorem dksX11_sighs_0 : cX11_sighs.data.toList.drop 0 = dktX11_sighs_0 := by decide +kernel
theorem dX11_sighs_0 : decode cX11_sighs 0 = .ok (.aload_n 0, 1) := dk_42 (dk_at dksX11_sighs_0 0 rfl rfl)
theorem dX11_sighs_1 : decode cX11_sighs 1 = .ok (.getfield 13, 3) := dk_180 0 13 (dk_at dksX11_sighs_0 1 rfl rfl)
theorem dX11_sighs_4 : decode cX11_sighs 4 = .ok (.bipush 51, 2) := dk_16 51 (dk_at dksX11_sighs_0 4 rfl rfl)
theorem dX11_sighs_6 : decode cX11_sighs 6 = .ok (.invokevirtual 19, 3) := dk_182 0 19 (dk_at dksX11_sighs_0 6 rfl rfl)
theorem dX11_sighs_9 : decode cX11_sighs 9 = .ok (.aload_n 0, 1) := dk_42 (dk_at dksX11_sighs_0 9 rfl rfl)
theorem dX11_sighs_10 : decode cX11_sighs 10 = .ok (.iload_n 1, 1) := dk_27 (dk_at dksX11_sighs_0 10 rfl rfl)
theorem dX11_sighs_11 : decode cX11_sighs 11 = .ok (.iconst 1, 1) := dk_4 (dk_at dksX11_sighs_0 11 rfl rfl)
theorem dX11_sighs_12 : decode cX11_sighs 12 = .ok (.iadd, 1) := dk_96 (dk_at dksX11_sighs_0 12 rfl rfl)
theorem dX11_sighs_13 : decode cX11_sighs 13 = .ok (.invokespecial 29, 3) := dk_183 0 29 (dk_at dksX11_sighs_0 13 rfl rfl)
theorem dX11_sighs_16 : decode cX11_sighs 16 = .ok (.ireturn, 1) := dk_172 (dk_at dksX11_sighs_0 16 rfl rfl)
theorem q86 : (Jvm.Cond.initialized "FuneralDebts$Vicar") ∈ lw_all := lw_g (lw_at lw_m1 15 rfl) rfl
theorem q395 : (Jvm.Cond.fieldLink "FuneralDebts$Vicar" (13 : Nat) "FuneralDebts$Vicar" "trace" "LFuneralDebts$Trace;") ∈ lw_all := lw_g (lw_at lw_m2 84 rfl) rfl
theorem q396 : (Jvm.Cond.sameField "FuneralDebts$Vicar" "FuneralDebts$Mourner" "trace" "LFuneralDebts$Trace;") ∈ lw_all := lw_g (lw_at lw_m2 85 rfl) rfl
theorem q444 : (Jvm.Cond.instantiable "FuneralDebts$Vicar" (3 : Nat)) ∈ lw_all := lw_g (lw_at lw_m2 133 rfl) rfl
theorem q446 : (Jvm.Cond.instanceMethod ({ cls := "FuneralDebts$Vicar", name := "<init>", desc := "(LFuneralDebts$Trace;II)V" } : Jvm.MethodName)) ∈ lw_all := lw_g (lw_at lw_m2 135 rfl) rfl
theorem q447 : (Jvm.Cond.code ({ cls := "FuneralDebts$Vicar", name := "<init>", desc := "(LFuneralDebts$Trace;II)V" } : Jvm.MethodName) prog_20_method_1_code (4 : Nat) (Option.none : Option Jvm.ClassFile.FieldType)) ∈ lw_all := lw_g (lw_at lw_m2 136 rfl) rfl
theorem q448 : (Jvm.Cond.methodLink "FuneralDebts$Vicar" (3 : Nat) ({ cls := "FuneralDebts$Cousin", name := "<init>", desc := "(LFuneralDebts$Trace;II)V" } : Jvm.MethodName)) ∈ lw_all := lw_g (lw_at lw_m2 137 rfl) rfl
theorem q449 : (Jvm.Cond.laysFinal "FuneralDebts$Vicar" "FuneralDebts$Mourner" "trace" "LFuneralDebts$Trace;") ∈ lw_all := lw_g (lw_at lw_m2 138 rfl) rfl
theorem q450 : (Jvm.Cond.laysFinal "FuneralDebts$Vicar" "FuneralDebts$Mourner" "number" "I") ∈ lw_all := lw_g (lw_at lw_m2 139 rfl) rfl
theorem q451 : (Jvm.Cond.lays "FuneralDebts$Vicar" "FuneralDebts$Mourner" "v" "I") ∈ lw_all := lw_g (lw_at lw_m2 140 rfl) rfl
theorem q452 : (Jvm.Cond.superclass "FuneralDebts$Vicar" "FuneralDebts$Cousin") ∈ lw_all := lw_g (lw_at lw_m2 141 rfl) rfl
theorem q521 : (Jvm.Cond.selects "FuneralDebts$Vicar" ({ cls := "FuneralDebts$Mourner", name := "kind", desc := "()I" } : Jvm.MethodName) ({ cls := "FuneralDebts$Vicar", name := "kind", desc := "()I" } : Jvm.MethodName)) ∈ lw_all := lw_g (lw_at lw_m2 210 rfl) rfl
theorem q522 : (Jvm.Cond.instanceMethod ({ cls := "FuneralDebts$Vicar", name := "kind", desc := "()I" } : Jvm.MethodName)) ∈ lw_all := lw_g (lw_at lw_m2 211 rfl) rfl
theorem q523 : (Jvm.Cond.code ({ cls := "FuneralDebts$Vicar", name := "kind", desc := "()I" } : Jvm.MethodName) prog_20_method_2_code (1 : Nat) (Option.some Jvm.ClassFile.FieldType.int)) ∈ lw_all := lw_g (lw_at lw_m2 212 rfl) rfl
theorem q596 : (Jvm.Cond.selects "FuneralDebts$Vicar" ({ cls := "FuneralDebts$Mourner", name := "rates", desc := "(III)I" } : Jvm.MethodName) ({ cls := "FuneralDebts$Vicar", name := "rates", desc := "(III)I" } : Jvm.MethodName)) ∈ lw_all := lw_g (lw_at lw_m3 45 rfl) rfl
theorem q597 : (Jvm.Cond.instanceMethod ({ cls := "FuneralDebts$Vicar", name := "rates", desc := "(III)I" } : Jvm.MethodName)) ∈ lw_all := lw_g (lw_at lw_m3 46 rfl) rfl
theorem q598 : (Jvm.Cond.code ({ cls := "FuneralDebts$Vicar", name := "rates", desc := "(III)I" } : Jvm.MethodName) prog_20_method_3_code (4 : Nat) (Option.some Jvm.ClassFile.FieldType.int)) ∈ lw_all := lw_g (lw_at lw_m3 47 rfl) rfl
theorem q599 : (Jvm.Cond.methodLink "FuneralDebts$Vicar" (9 : Nat) ({ cls := "FuneralDebts$Cousin", name := "rates", desc := "(III)I" } : Jvm.MethodName)) ∈ lw_all := lw_g (lw_at lw_m3 48 rfl) rfl
theorem q1005 : (Jvm.Cond.selects "FuneralDebts$Vicar" ({ cls := "java/lang/Object", name := "getClass", desc := "()Ljava/lang/Class;" } : Jvm.MethodName) ({ cls := "java/lang/Object", name := "getClass", desc := "()Ljava/lang/Class;" } : Jvm.MethodName)) ∈ lw_all := lw_g (lw_at lw_m4 214 rfl) rfl
theorem q1216 : (Jvm.Cond.selects "FuneralDebts$Vicar" ({ cls := "FuneralDebts$Mourner", name := "stands", desc := "(I)I" } : Jvm.MethodName) ({ cls := "FuneralDebts$Vicar", name := "stands", desc := "(I)I" } : Jvm.MethodName)) ∈ lw_all := lw_g (lw_at lw_m5 185 rfl) rfl
theorem q1217 : (Jvm.Cond.instanceMethod ({ cls := "FuneralDebts$Vicar", name := "stands", desc := "(I)I" } : Jvm.MethodName)) ∈ lw_all := lw_g (lw_at lw_m5 186 rfl) rfl
theorem q1218 : (Jvm.Cond.code ({ cls := "FuneralDebts$Vicar", name := "stands", desc := "(I)I" } : Jvm.MethodName) prog_20_method_4_code (2 : Nat) (Option.some Jvm.ClassFile.FieldType.int)) ∈ lw_all := lw_g (lw_at lw_m5 187 rfl) rfl
theorem q1219 : (Jvm.Cond.methodLink "FuneralDebts$Vicar" (19 : Nat) ({ cls := "FuneralDebts$Trace", name := "ran", desc := "(I)V" } : Jvm.MethodName)) ∈ lw_all := lw_g (lw_at lw_m5 188 rfl) rfl
theorem q1220 : (Jvm.Cond.methodLink "FuneralDebts$Vicar" (25 : Nat) ({ cls := "FuneralDebts$Cousin", name := "stands", desc := "(I)I" } : Jvm.MethodName)) ∈ lw_all := lw_g (lw_at lw_m5 189 rfl) rfl
theorem q1242 : (Jvm.Cond.selects "FuneralDebts$Vicar" ({ cls := "FuneralDebts$Mourner", name := "sighs", desc := "(I)I" } : Jvm.MethodName) ({ cls := "FuneralDebts$Vicar", name := "sighs", desc := "(I)I" } : Jvm.MethodName)) ∈ lw_all := lw_g (lw_at lw_m5 211 rfl) rfl
theorem q1243 : (Jvm.Cond.instanceMethod ({ cls := "FuneralDebts$Vicar", name := "sighs", desc := "(I)I" } : Jvm.MethodName)) ∈ lw_all := lw_g (lw_at lw_m5 212 rfl) rfl
theorem q1244 : (Jvm.Cond.code ({ cls := "FuneralDebts$Vicar", name := "sighs", desc := "(I)I" } : Jvm.MethodName) prog_20_method_5_code (2 : Nat) (Option.some Jvm.ClassFile.FieldType.int)) ∈ lw_all := lw_g (lw_at lw_m5 213 rfl) rfl
theorem q1245 : (Jvm.Cond.methodLink "FuneralDebts$Vicar" (29 : Nat) ({ cls := "FuneralDebts$Cousin", name := "sighs", desc := "(I)I" } : Jvm.MethodName)) ∈ lw_all := lw_g (lw_at lw_m5 214 rfl) rfl
theorem q1270 : (Jvm.Cond.selects "FuneralDebts$Vicar" ({ cls := "FuneralDebts$Mourner", name := "tells", desc := "(I)I" } : Jvm.MethodName) ({ cls := "FuneralDebts$Mourner", name := "tells", desc := "(I)I" } : Jvm.MethodName)) ∈ lw_all := lw_g (lw_at lw_m5 239 rfl) rfl
theorem q1763 : (Jvm.Cond.castable "FuneralDebts$Vicar" "FuneralDebts$Mourner") ∈ lw_tbl := lw_at lw_m8 12 rfl
theorem q1765 : (Jvm.Cond.castable "FuneralDebts$Vicar" "FuneralDebts$Cousin") ∈ lw_tbl := lw_at lw_m8 14 rfl
theorem q1780 : (Jvm.Cond.castable "FuneralDebts$Vicar" "java/lang/Object") ∈ lw_tbl := lw_at lw_m8 29 rfl
theorem in_X11 : ∀ w ∈ wsX110, w ∈ lw_all := lw_in wsX110 [449, 450, 451] (by decide +kernel) (by decide +kernel)
/-! FuneralDebts$Bearer -/
set_option maxRecDepth 100000
def RX12 : String := "FuneralDebts$Bearer"
def TX12 : u_T := fun k => match k with
  | 0 => ("FuneralDebts$Mourner", "trace", "LFuneralDebts$Trace;", true)
  | 1 => ("FuneralDebts$Mourner", "number", "I", true)
  | _ => ("FuneralDebts$Mourner", "v", "I", false)
def tyX12 : Nat → FieldType := fun k => match k with
  | 0 => .object "FuneralDebts$Trace"
  | 1 => .int
  | _ => .int
abbrev wsX120 : List Cond := u_ws RX12 TX12 3
theorem nmX12 : ∀ a, a < 3 → ∀ b, b < 3 → a ≠ b → (TX12 a).2.1 ≠ (TX12 b).2.1 := by decide +kernel
theorem tyX12_ok : ∀ k, k < 3 → parseFieldDescriptor (TX12 k).2.2.1 = some (tyX12 k) := by decide +kernel
abbrev cX12_init : ByteArray := prog_3_method_1_code
def yX12_init : MethodName := ⟨RX12, "<init>", "(LFuneralDebts$Trace;II)V"⟩
def dkwX12_init_0 : List UInt8 := [42, 43, 28, 29, 183, 0, 3, 177]
abbrev dktX12_init_0 : List UInt8 := dkwX12_init_0 ++ []
theorem dksX12_init_0 : cX12_init.data.toList.drop 0 = dktX12_init_0 := by decide +kernel
theorem dX12_init_0 : decode cX12_init 0 = .ok (.aload_n 0, 1) := dk_42 (dk_at dksX12_init_0 0 rfl rfl)
theorem dX12_init_1 : decode cX12_init 1 = .ok (.aload_n 1, 1) := dk_43 (dk_at dksX12_init_0 1 rfl rfl)
theorem dX12_init_2 : decode cX12_init 2 = .ok (.iload_n 2, 1) := dk_28 (dk_at dksX12_init_0 2 rfl rfl)
theorem dX12_init_3 : decode cX12_init 3 = .ok (.iload_n 3, 1) := dk_29 (dk_at dksX12_init_0 3 rfl rfl)
theorem dX12_init_4 : decode cX12_init 4 = .ok (.invokespecial 3, 3) := dk_183 0 3 (dk_at dksX12_init_0 4 rfl rfl)
theorem dX12_init_7 : decode cX12_init 7 = .ok (.return_, 1) := dk_177 (dk_at dksX12_init_0 7 rfl rfl)
abbrev cX12_kind : ByteArray := prog_3_method_2_code
def yX12_kind : MethodName := ⟨RX12, "kind", "()I"⟩
theorem dX12_kind_0 : decode cX12_kind 0 = .ok (.iconst 5, 1) := by decide +kernel
theorem dX12_kind_1 : decode cX12_kind 1 = .ok (.ireturn, 1) := by decide +kernel
abbrev cX12_rates : ByteArray := prog_3_method_3_code
def yX12_rates : MethodName := ⟨RX12, "rates", "(III)I"⟩
def dkwX12_rates_0 : List UInt8 := [42, 27, 28, 29, 183, 0, 9, 8, 96, 172]
abbrev dktX12_rates_0 : List UInt8 := dkwX12_rates_0 ++ []
theorem dksX12_rates_0 : cX12_rates.data.toList.drop 0 = dktX12_rates_0 := by decide +kernel
theorem dX12_rates_0 : decode cX12_rates 0 = .ok (.aload_n 0, 1) := dk_42 (dk_at dksX12_rates_0 0 rfl rfl)
theorem dX12_rates_1 : decode cX12_rates 1 = .ok (.iload_n 1, 1) := dk_27 (dk_at dksX12_rates_0 1 rfl rfl)
theorem dX12_rates_2 : decode cX12_rates 2 = .ok (.iload_n 2, 1) := dk_28 (dk_at dksX12_rates_0 2 rfl rfl)
theorem dX12_rates_3 : decode cX12_rates 3 = .ok (.iload_n 3, 1) := dk_29 (dk_at dksX12_rates_0 3 rfl rfl)
theorem dX12_rates_4 : decode cX12_rates 4 = .ok (.invokespecial 9, 3) := dk_183 0 9 (dk_at dksX12_rates_0 4 rfl rfl)
theorem dX12_rates_7 : decode cX12_rates 7 = .ok (.iconst 5, 1) := dk_8 (dk_at dksX12_rates_0 7 rfl rfl)
theorem dX12_rates_8 : decode cX12_rates 8 = .ok (.iadd, 1) := dk_96 (dk_at dksX12_rates_0 8 rfl rfl)
theorem dX12_rates_9 : decode cX12_rates 9 = .ok (.ireturn, 1) := dk_172 (dk_at dksX12_rates_0 9 rfl rfl)
abbrev cX12_tells : ByteArray := prog_3_method_4_code
def yX12_tells : MethodName := ⟨RX12, "tells", "(I)I"⟩
def dkwX12_tells_0 : List UInt8 := [42, 180, 0, 13, 16, 60, 182, 0, 19, 42, 27, 42, 180, 0, 25, 100, 183, 0, 29, 172]
abbrev dktX12_tells_0 : List UInt8 := dkwX12_tells_0 ++ []
theorem dksX12_tells_0 : cX12_tells.data.toList.drop 0 = dktX12_tells_0 := by decide +kernel
theorem dX12_tells_0 : decode cX12_tells 0 = .ok (.aload_n 0, 1) := dk_42 (dk_at dksX12_tells_0 0 rfl rfl)
theorem dX12_tells_1 : decode cX12_tells 1 = .ok (.getfield 13, 3) := dk_180 0 13 (dk_at dksX12_tells_0 1 rfl rfl)
theorem dX12_tells_4 : decode cX12_tells 4 = .ok (.bipush 60, 2) := dk_16 60 (dk_at dksX12_tells_0 4 rfl rfl)
theorem dX12_tells_6 : decode cX12_tells 6 = .ok (.invokevirtual 19, 3) := dk_182 0 19 (dk_at dksX12_tells_0 6 rfl rfl)
theorem dX12_tells_9 : decode cX12_tells 9 = .ok (.aload_n 0, 1) := dk_42 (dk_at dksX12_tells_0 9 rfl rfl)
theorem dX12_tells_10 : decode cX12_tells 10 = .ok (.iload_n 1, 1) := dk_27 (dk_at dksX12_tells_0 10 rfl rfl)
theorem dX12_tells_11 : decode cX12_tells 11 = .ok (.aload_n 0, 1) := dk_42 (dk_at dksX12_tells_0 11 rfl rfl)
theorem dX12_tells_12 : decode cX12_tells 12 = .ok (.getfield 25, 3) := dk_180 0 25 (dk_at dksX12_tells_0 12 rfl rfl)
theorem dX12_tells_15 : decode cX12_tells 15 = .ok (.isub, 1) := dk_100 (dk_at dksX12_tells_0 15 rfl rfl)
theorem dX12_tells_16 : decode cX12_tells 16 = .ok (.invokespecial 29, 3) := dk_183 0 29 (dk_at dksX12_tells_0 16 rfl rfl)
theorem dX12_tells_19 : decode cX12_tells 19 = .ok (.ireturn, 1) := dk_172 (dk_at dksX12_tells_0 19 rfl rfl)
theorem q87 : (Jvm.Cond.initialized "FuneralDebts$Bearer") ∈ lw_all := lw_g (lw_at lw_m1 16 rfl) rfl
theorem q401 : (Jvm.Cond.fieldLink "FuneralDebts$Bearer" (13 : Nat) "FuneralDebts$Bearer" "trace" "LFuneralDebts$Trace;") ∈ lw_all := lw_g (lw_at lw_m2 90 rfl) rfl
theorem q402 : (Jvm.Cond.sameField "FuneralDebts$Bearer" "FuneralDebts$Mourner" "trace" "LFuneralDebts$Trace;") ∈ lw_all := lw_g (lw_at lw_m2 91 rfl) rfl
theorem q408 : (Jvm.Cond.fieldLink "FuneralDebts$Bearer" (25 : Nat) "FuneralDebts$Bearer" "number" "I") ∈ lw_all := lw_g (lw_at lw_m2 97 rfl) rfl
theorem q409 : (Jvm.Cond.sameField "FuneralDebts$Bearer" "FuneralDebts$Mourner" "number" "I") ∈ lw_all := lw_g (lw_at lw_m2 98 rfl) rfl
theorem q454 : (Jvm.Cond.instantiable "FuneralDebts$Bearer" (3 : Nat)) ∈ lw_all := lw_g (lw_at lw_m2 143 rfl) rfl
theorem q456 : (Jvm.Cond.instanceMethod ({ cls := "FuneralDebts$Bearer", name := "<init>", desc := "(LFuneralDebts$Trace;II)V" } : Jvm.MethodName)) ∈ lw_all := lw_g (lw_at lw_m2 145 rfl) rfl
theorem q457 : (Jvm.Cond.code ({ cls := "FuneralDebts$Bearer", name := "<init>", desc := "(LFuneralDebts$Trace;II)V" } : Jvm.MethodName) prog_3_method_1_code (4 : Nat) (Option.none : Option Jvm.ClassFile.FieldType)) ∈ lw_all := lw_g (lw_at lw_m2 146 rfl) rfl
theorem q458 : (Jvm.Cond.methodLink "FuneralDebts$Bearer" (3 : Nat) ({ cls := "FuneralDebts$Creditor", name := "<init>", desc := "(LFuneralDebts$Trace;II)V" } : Jvm.MethodName)) ∈ lw_all := lw_g (lw_at lw_m2 147 rfl) rfl
theorem q459 : (Jvm.Cond.laysFinal "FuneralDebts$Bearer" "FuneralDebts$Mourner" "trace" "LFuneralDebts$Trace;") ∈ lw_all := lw_g (lw_at lw_m2 148 rfl) rfl
theorem q460 : (Jvm.Cond.laysFinal "FuneralDebts$Bearer" "FuneralDebts$Mourner" "number" "I") ∈ lw_all := lw_g (lw_at lw_m2 149 rfl) rfl
theorem q461 : (Jvm.Cond.lays "FuneralDebts$Bearer" "FuneralDebts$Mourner" "v" "I") ∈ lw_all := lw_g (lw_at lw_m2 150 rfl) rfl
theorem q462 : (Jvm.Cond.superclass "FuneralDebts$Bearer" "FuneralDebts$Creditor") ∈ lw_all := lw_g (lw_at lw_m2 151 rfl) rfl
theorem q509 : (Jvm.Cond.selects "FuneralDebts$Bearer" ({ cls := "FuneralDebts$Mourner", name := "kind", desc := "()I" } : Jvm.MethodName) ({ cls := "FuneralDebts$Bearer", name := "kind", desc := "()I" } : Jvm.MethodName)) ∈ lw_all := lw_g (lw_at lw_m2 198 rfl) rfl
theorem q510 : (Jvm.Cond.instanceMethod ({ cls := "FuneralDebts$Bearer", name := "kind", desc := "()I" } : Jvm.MethodName)) ∈ lw_all := lw_g (lw_at lw_m2 199 rfl) rfl
theorem q511 : (Jvm.Cond.code ({ cls := "FuneralDebts$Bearer", name := "kind", desc := "()I" } : Jvm.MethodName) prog_3_method_2_code (1 : Nat) (Option.some Jvm.ClassFile.FieldType.int)) ∈ lw_all := lw_g (lw_at lw_m2 200 rfl) rfl
theorem q576 : (Jvm.Cond.selects "FuneralDebts$Bearer" ({ cls := "FuneralDebts$Mourner", name := "rates", desc := "(III)I" } : Jvm.MethodName) ({ cls := "FuneralDebts$Bearer", name := "rates", desc := "(III)I" } : Jvm.MethodName)) ∈ lw_all := lw_g (lw_at lw_m3 25 rfl) rfl
theorem q577 : (Jvm.Cond.instanceMethod ({ cls := "FuneralDebts$Bearer", name := "rates", desc := "(III)I" } : Jvm.MethodName)) ∈ lw_all := lw_g (lw_at lw_m3 26 rfl) rfl
theorem q578 : (Jvm.Cond.code ({ cls := "FuneralDebts$Bearer", name := "rates", desc := "(III)I" } : Jvm.MethodName) prog_3_method_3_code (4 : Nat) (Option.some Jvm.ClassFile.FieldType.int)) ∈ lw_all := lw_g (lw_at lw_m3 27 rfl) rfl
theorem q579 : (Jvm.Cond.methodLink "FuneralDebts$Bearer" (9 : Nat) ({ cls := "FuneralDebts$Creditor", name := "rates", desc := "(III)I" } : Jvm.MethodName)) ∈ lw_all := lw_g (lw_at lw_m3 28 rfl) rfl
theorem q990 : (Jvm.Cond.selects "FuneralDebts$Bearer" ({ cls := "java/lang/Object", name := "getClass", desc := "()Ljava/lang/Class;" } : Jvm.MethodName) ({ cls := "java/lang/Object", name := "getClass", desc := "()Ljava/lang/Class;" } : Jvm.MethodName)) ∈ lw_all := lw_g (lw_at lw_m4 199 rfl) rfl
theorem q1197 : (Jvm.Cond.selects "FuneralDebts$Bearer" ({ cls := "FuneralDebts$Mourner", name := "stands", desc := "(I)I" } : Jvm.MethodName) ({ cls := "FuneralDebts$Creditor", name := "stands", desc := "(I)I" } : Jvm.MethodName)) ∈ lw_all := lw_g (lw_at lw_m5 166 rfl) rfl
theorem q1227 : (Jvm.Cond.selects "FuneralDebts$Bearer" ({ cls := "FuneralDebts$Mourner", name := "sighs", desc := "(I)I" } : Jvm.MethodName) ({ cls := "FuneralDebts$Mourner", name := "sighs", desc := "(I)I" } : Jvm.MethodName)) ∈ lw_all := lw_g (lw_at lw_m5 196 rfl) rfl
theorem q1251 : (Jvm.Cond.selects "FuneralDebts$Bearer" ({ cls := "FuneralDebts$Mourner", name := "tells", desc := "(I)I" } : Jvm.MethodName) ({ cls := "FuneralDebts$Bearer", name := "tells", desc := "(I)I" } : Jvm.MethodName)) ∈ lw_all := lw_g (lw_at lw_m5 220 rfl) rfl
theorem q1252 : (Jvm.Cond.instanceMethod ({ cls := "FuneralDebts$Bearer", name := "tells", desc := "(I)I" } : Jvm.MethodName)) ∈ lw_all := lw_g (lw_at lw_m5 221 rfl) rfl
theorem q1253 : (Jvm.Cond.code ({ cls := "FuneralDebts$Bearer", name := "tells", desc := "(I)I" } : Jvm.MethodName) prog_3_method_4_code (2 : Nat) (Option.some Jvm.ClassFile.FieldType.int)) ∈ lw_all := lw_g (lw_at lw_m5 222 rfl) rfl
theorem q1254 : (Jvm.Cond.methodLink "FuneralDebts$Bearer" (19 : Nat) ({ cls := "FuneralDebts$Trace", name := "ran", desc := "(I)V" } : Jvm.MethodName)) ∈ lw_all := lw_g (lw_at lw_m5 223 rfl) rfl
theorem q1255 : (Jvm.Cond.methodLink "FuneralDebts$Bearer" (29 : Nat) ({ cls := "FuneralDebts$Creditor", name := "tells", desc := "(I)I" } : Jvm.MethodName)) ∈ lw_all := lw_g (lw_at lw_m5 224 rfl) rfl
theorem q1759 : (Jvm.Cond.castable "FuneralDebts$Bearer" "FuneralDebts$Mourner") ∈ lw_tbl := lw_at lw_m8 8 rfl
theorem q1766 : (Jvm.Cond.castable "FuneralDebts$Bearer" "FuneralDebts$Creditor") ∈ lw_tbl := lw_at lw_m8 15 rfl
theorem q1781 : (Jvm.Cond.castable "FuneralDebts$Bearer" "java/lang/Object") ∈ lw_tbl := lw_at lw_m8 30 rfl
theorem in_X12 : ∀ w ∈ wsX120, w ∈ lw_all := lw_in wsX120 [459, 460, 461] (by decide +kernel) (by decide +kernel)
/-! FuneralDebts$Told -/
set_option maxRecDepth 100000
def RX13 : String := "FuneralDebts$Told"
def TX13 : u_T := fun k => match k with
  | 0 => ("FuneralDebts$Mourner", "trace", "LFuneralDebts$Trace;", true)
  | 1 => ("FuneralDebts$Mourner", "number", "I", true)
  | 2 => ("FuneralDebts$Mourner", "v", "I", false)
  | _ => ("FuneralDebts$Told", "rows", "[I", true)
def tyX13 : Nat → FieldType := fun k => match k with
  | 0 => .object "FuneralDebts$Trace"
  | 1 => .int
  | 2 => .int
  | _ => .array .int
abbrev wsX130 : List Cond := u_ws RX13 TX13 4
theorem nmX13 : ∀ a, a < 4 → ∀ b, b < 4 → a ≠ b → (TX13 a).2.1 ≠ (TX13 b).2.1 := by decide +kernel
theorem tyX13_ok : ∀ k, k < 4 → parseFieldDescriptor (TX13 k).2.2.1 = some (tyX13 k) := by decide +kernel
abbrev cX13_init : ByteArray := prog_18_method_1_code
def yX13_init : MethodName := ⟨RX13, "<init>", "(LFuneralDebts$Trace;II[I)V"⟩
def dkwX13_init_0 : List UInt8 := [42, 43, 28, 29, 183, 0, 3, 42, 25, 4, 181, 0, 9, 177]
abbrev dktX13_init_0 : List UInt8 := dkwX13_init_0 ++ []
theorem dksX13_init_0 : cX13_init.data.toList.drop 0 = dktX13_init_0 := by decide +kernel
theorem dX13_init_0 : decode cX13_init 0 = .ok (.aload_n 0, 1) := dk_42 (dk_at dksX13_init_0 0 rfl rfl)
theorem dX13_init_1 : decode cX13_init 1 = .ok (.aload_n 1, 1) := dk_43 (dk_at dksX13_init_0 1 rfl rfl)
theorem dX13_init_2 : decode cX13_init 2 = .ok (.iload_n 2, 1) := dk_28 (dk_at dksX13_init_0 2 rfl rfl)
theorem dX13_init_3 : decode cX13_init 3 = .ok (.iload_n 3, 1) := dk_29 (dk_at dksX13_init_0 3 rfl rfl)
theorem dX13_init_4 : decode cX13_init 4 = .ok (.invokespecial 3, 3) := dk_183 0 3 (dk_at dksX13_init_0 4 rfl rfl)
theorem dX13_init_7 : decode cX13_init 7 = .ok (.aload_n 0, 1) := dk_42 (dk_at dksX13_init_0 7 rfl rfl)
theorem dX13_init_8 : decode cX13_init 8 = .ok (.aload 4, 2) := dk_25 4 (dk_at dksX13_init_0 8 rfl rfl)
theorem dX13_init_10 : decode cX13_init 10 = .ok (.putfield 9, 3) := dk_181 0 9 (dk_at dksX13_init_0 10 rfl rfl)
theorem dX13_init_13 : decode cX13_init 13 = .ok (.return_, 1) := dk_177 (dk_at dksX13_init_0 13 rfl rfl)
abbrev cX13_kind : ByteArray := prog_18_method_2_code
def yX13_kind : MethodName := ⟨RX13, "kind", "()I"⟩
theorem dX13_kind_0 : decode cX13_kind 0 = .ok (.bipush 6, 2) := by decide +kernel
theorem dX13_kind_2 : decode cX13_kind 2 = .ok (.ireturn, 1) := by decide +kernel
abbrev cX13_rates : ByteArray := prog_18_method_3_code
def yX13_rates : MethodName := ⟨RX13, "rates", "(III)I"⟩
def dkwX13_rates_0 : List UInt8 := [42, 27, 28, 29, 183, 0, 15, 42, 180, 0, 9, 7, 42, 180, 0, 19, 104, 28, 7, 112, 96, 46, 96, 172]
abbrev dktX13_rates_0 : List UInt8 := dkwX13_rates_0 ++ []
theorem dksX13_rates_0 : cX13_rates.data.toList.drop 0 = dktX13_rates_0 := by decide +kernel
theorem dX13_rates_0 : decode cX13_rates 0 = .ok (.aload_n 0, 1) := dk_42 (dk_at dksX13_rates_0 0 rfl rfl)
theorem dX13_rates_1 : decode cX13_rates 1 = .ok (.iload_n 1, 1) := dk_27 (dk_at dksX13_rates_0 1 rfl rfl)
theorem dX13_rates_2 : decode cX13_rates 2 = .ok (.iload_n 2, 1) := dk_28 (dk_at dksX13_rates_0 2 rfl rfl)
theorem dX13_rates_3 : decode cX13_rates 3 = .ok (.iload_n 3, 1) := dk_29 (dk_at dksX13_rates_0 3 rfl rfl)
theorem dX13_rates_4 : decode cX13_rates 4 = .ok (.invokespecial 15, 3) := dk_183 0 15 (dk_at dksX13_rates_0 4 rfl rfl)
theorem dX13_rates_7 : decode cX13_rates 7 = .ok (.aload_n 0, 1) := dk_42 (dk_at dksX13_rates_0 7 rfl rfl)
theorem dX13_rates_8 : decode cX13_rates 8 = .ok (.getfield 9, 3) := dk_180 0 9 (dk_at dksX13_rates_0 8 rfl rfl)
theorem dX13_rates_11 : decode cX13_rates 11 = .ok (.iconst 4, 1) := dk_7 (dk_at dksX13_rates_0 11 rfl rfl)
theorem dX13_rates_12 : decode cX13_rates 12 = .ok (.aload_n 0, 1) := dk_42 (dk_at dksX13_rates_0 12 rfl rfl)
theorem dX13_rates_13 : decode cX13_rates 13 = .ok (.getfield 19, 3) := dk_180 0 19 (dk_at dksX13_rates_0 13 rfl rfl)
theorem dX13_rates_16 : decode cX13_rates 16 = .ok (.imul, 1) := dk_104 (dk_at dksX13_rates_0 16 rfl rfl)
theorem dX13_rates_17 : decode cX13_rates 17 = .ok (.iload_n 2, 1) := dk_28 (dk_at dksX13_rates_0 17 rfl rfl)
theorem dX13_rates_18 : decode cX13_rates 18 = .ok (.iconst 4, 1) := dk_7 (dk_at dksX13_rates_0 18 rfl rfl)
theorem dX13_rates_19 : decode cX13_rates 19 = .ok (.irem, 1) := dk_112 (dk_at dksX13_rates_0 19 rfl rfl)
theorem dX13_rates_20 : decode cX13_rates 20 = .ok (.iadd, 1) := dk_96 (dk_at dksX13_rates_0 20 rfl rfl)
theorem dX13_rates_21 : decode cX13_rates 21 = .ok (.iaload, 1) := dk_46 (dk_at dksX13_rates_0 21 rfl rfl)
theorem dX13_rates_22 : decode cX13_rates 22 = .ok (.iadd, 1) := dk_96 (dk_at dksX13_rates_0 22 rfl rfl)
theorem dX13_rates_23 : decode cX13_rates 23 = .ok (.ireturn, 1) := dk_172 (dk_at dksX13_rates_0 23 rfl rfl)
abbrev cX13_stands : ByteArray := prog_18_method_5_code
def yX13_stands : MethodName := ⟨RX13, "stands", "(I)I"⟩
def dkwX13_stands_0 : List UInt8 := [42, 180, 0, 23, 16, 71, 182, 0, 27, 42, 27, 183, 0, 37, 42, 180, 0, 40, 130, 172]
abbrev dktX13_stands_0 : List UInt8 := dkwX13_stands_0 ++ []
theorem dksX13_stands_0 : cX13_stands.data.toList.drop 0 = dktX13_stands_0 := by decide +kernel
theorem dX13_stands_0 : decode cX13_stands 0 = .ok (.aload_n 0, 1) := dk_42 (dk_at dksX13_stands_0 0 rfl rfl)
theorem dX13_stands_1 : decode cX13_stands 1 = .ok (.getfield 23, 3) := dk_180 0 23 (dk_at dksX13_stands_0 1 rfl rfl)
theorem dX13_stands_4 : decode cX13_stands 4 = .ok (.bipush 71, 2) := dk_16 71 (dk_at dksX13_stands_0 4 rfl rfl)
theorem dX13_stands_6 : decode cX13_stands 6 = .ok (.invokevirtual 27, 3) := dk_182 0 27 (dk_at dksX13_stands_0 6 rfl rfl)
theorem dX13_stands_9 : decode cX13_stands 9 = .ok (.aload_n 0, 1) := dk_42 (dk_at dksX13_stands_0 9 rfl rfl)
theorem dX13_stands_10 : decode cX13_stands 10 = .ok (.iload_n 1, 1) := dk_27 (dk_at dksX13_stands_0 10 rfl rfl)
theorem dX13_stands_11 : decode cX13_stands 11 = .ok (.invokespecial 37, 3) := dk_183 0 37 (dk_at dksX13_stands_0 11 rfl rfl)
theorem dX13_stands_14 : decode cX13_stands 14 = .ok (.aload_n 0, 1) := dk_42 (dk_at dksX13_stands_0 14 rfl rfl)
theorem dX13_stands_15 : decode cX13_stands 15 = .ok (.getfield 40, 3) := dk_180 0 40 (dk_at dksX13_stands_0 15 rfl rfl)
theorem dX13_stands_18 : decode cX13_stands 18 = .ok (.ixor, 1) := dk_130 (dk_at dksX13_stands_0 18 rfl rfl)
theorem dX13_stands_19 : decode cX13_stands 19 = .ok (.ireturn, 1) := dk_172 (dk_at dksX13_stands_0 19 rfl rfl)
abbrev cX13_sighs : ByteArray := prog_18_method_4_code
def yX13_sighs : MethodName := ⟨RX13, "sighs", "(I)I"⟩
def dkwX13_sighs_0 : List UInt8 := [42, 180, 0, 23, 16, 70, 182, 0, 27, 42, 27, 183, 0, 33, 61, 28, 42, 5, 183, 0, 37, 96, 172]
abbrev dktX13_sighs_0 : List UInt8 := dkwX13_sighs_0 ++ []
theorem dksX13_sighs_0 : cX13_sighs.data.toList.drop 0 = dktX13_sighs_0 := by decide +kernel
theorem dX13_sighs_0 : decode cX13_sighs 0 = .ok (.aload_n 0, 1) := dk_42 (dk_at dksX13_sighs_0 0 rfl rfl)
theorem dX13_sighs_1 : decode cX13_sighs 1 = .ok (.getfield 23, 3) := dk_180 0 23 (dk_at dksX13_sighs_0 1 rfl rfl)
theorem dX13_sighs_4 : decode cX13_sighs 4 = .ok (.bipush 70, 2) := dk_16 70 (dk_at dksX13_sighs_0 4 rfl rfl)
theorem dX13_sighs_6 : decode cX13_sighs 6 = .ok (.invokevirtual 27, 3) := dk_182 0 27 (dk_at dksX13_sighs_0 6 rfl rfl)
theorem dX13_sighs_9 : decode cX13_sighs 9 = .ok (.aload_n 0, 1) := dk_42 (dk_at dksX13_sighs_0 9 rfl rfl)
theorem dX13_sighs_10 : decode cX13_sighs 10 = .ok (.iload_n 1, 1) := dk_27 (dk_at dksX13_sighs_0 10 rfl rfl)
theorem dX13_sighs_11 : decode cX13_sighs 11 = .ok (.invokespecial 33, 3) := dk_183 0 33 (dk_at dksX13_sighs_0 11 rfl rfl)
theorem dX13_sighs_14 : decode cX13_sighs 14 = .ok (.istore_n 2, 1) := dk_61 (dk_at dksX13_sighs_0 14 rfl rfl)
theorem dX13_sighs_15 : decode cX13_sighs 15 = .ok (.iload_n 2, 1) := dk_28 (dk_at dksX13_sighs_0 15 rfl rfl)
theorem dX13_sighs_16 : decode cX13_sighs 16 = .ok (.aload_n 0, 1) := dk_42 (dk_at dksX13_sighs_0 16 rfl rfl)
theorem dX13_sighs_17 : decode cX13_sighs 17 = .ok (.iconst 2, 1) := dk_5 (dk_at dksX13_sighs_0 17 rfl rfl)
theorem dX13_sighs_18 : decode cX13_sighs 18 = .ok (.invokespecial 37, 3) := dk_183 0 37 (dk_at dksX13_sighs_0 18 rfl rfl)
theorem dX13_sighs_21 : decode cX13_sighs 21 = .ok (.iadd, 1) := dk_96 (dk_at dksX13_sighs_0 21 rfl rfl)
theorem dX13_sighs_22 : decode cX13_sighs 22 = .ok (.ireturn, 1) := dk_172 (dk_at dksX13_sighs_0 22 rfl rfl)
theorem q88 : (Jvm.Cond.initialized "FuneralDebts$Told") ∈ lw_all := lw_g (lw_at lw_m1 17 rfl) rfl
theorem q399 : (Jvm.Cond.fieldLink "FuneralDebts$Told" (23 : Nat) "FuneralDebts$Told" "trace" "LFuneralDebts$Trace;") ∈ lw_all := lw_g (lw_at lw_m2 88 rfl) rfl
theorem q400 : (Jvm.Cond.sameField "FuneralDebts$Told" "FuneralDebts$Mourner" "trace" "LFuneralDebts$Trace;") ∈ lw_all := lw_g (lw_at lw_m2 89 rfl) rfl
theorem q406 : (Jvm.Cond.fieldLink "FuneralDebts$Told" (19 : Nat) "FuneralDebts$Told" "number" "I") ∈ lw_all := lw_g (lw_at lw_m2 95 rfl) rfl
theorem q407 : (Jvm.Cond.sameField "FuneralDebts$Told" "FuneralDebts$Mourner" "number" "I") ∈ lw_all := lw_g (lw_at lw_m2 96 rfl) rfl
theorem q413 : (Jvm.Cond.fieldLink "FuneralDebts$Told" (40 : Nat) "FuneralDebts$Told" "v" "I") ∈ lw_all := lw_g (lw_at lw_m2 102 rfl) rfl
theorem q414 : (Jvm.Cond.sameField "FuneralDebts$Told" "FuneralDebts$Mourner" "v" "I") ∈ lw_all := lw_g (lw_at lw_m2 103 rfl) rfl
theorem q464 : (Jvm.Cond.instantiable "FuneralDebts$Told" (4 : Nat)) ∈ lw_all := lw_g (lw_at lw_m2 153 rfl) rfl
theorem q466 : (Jvm.Cond.instanceMethod ({ cls := "FuneralDebts$Told", name := "<init>", desc := "(LFuneralDebts$Trace;II[I)V" } : Jvm.MethodName)) ∈ lw_all := lw_g (lw_at lw_m2 155 rfl) rfl
theorem q467 : (Jvm.Cond.code ({ cls := "FuneralDebts$Told", name := "<init>", desc := "(LFuneralDebts$Trace;II[I)V" } : Jvm.MethodName) prog_18_method_1_code (5 : Nat) (Option.none : Option Jvm.ClassFile.FieldType)) ∈ lw_all := lw_g (lw_at lw_m2 156 rfl) rfl
theorem q468 : (Jvm.Cond.methodLink "FuneralDebts$Told" (3 : Nat) ({ cls := "FuneralDebts$Weeper", name := "<init>", desc := "(LFuneralDebts$Trace;II)V" } : Jvm.MethodName)) ∈ lw_all := lw_g (lw_at lw_m2 157 rfl) rfl
theorem q469 : (Jvm.Cond.fieldLink "FuneralDebts$Told" (9 : Nat) "FuneralDebts$Told" "rows" "[I") ∈ lw_all := lw_g (lw_at lw_m2 158 rfl) rfl
theorem q470 : (Jvm.Cond.laysFinal "FuneralDebts$Told" "FuneralDebts$Told" "rows" "[I") ∈ lw_all := lw_g (lw_at lw_m2 159 rfl) rfl
theorem q471 : (Jvm.Cond.soleField "FuneralDebts$Told" "rows") ∈ lw_all := lw_g (lw_at lw_m2 160 rfl) rfl
theorem q472 : (Jvm.Cond.laysFinal "FuneralDebts$Told" "FuneralDebts$Mourner" "trace" "LFuneralDebts$Trace;") ∈ lw_all := lw_g (lw_at lw_m2 161 rfl) rfl
theorem q473 : (Jvm.Cond.laysFinal "FuneralDebts$Told" "FuneralDebts$Mourner" "number" "I") ∈ lw_all := lw_g (lw_at lw_m2 162 rfl) rfl
theorem q474 : (Jvm.Cond.lays "FuneralDebts$Told" "FuneralDebts$Mourner" "v" "I") ∈ lw_all := lw_g (lw_at lw_m2 163 rfl) rfl
theorem q475 : (Jvm.Cond.superclass "FuneralDebts$Told" "FuneralDebts$Weeper") ∈ lw_all := lw_g (lw_at lw_m2 164 rfl) rfl
theorem q518 : (Jvm.Cond.selects "FuneralDebts$Told" ({ cls := "FuneralDebts$Mourner", name := "kind", desc := "()I" } : Jvm.MethodName) ({ cls := "FuneralDebts$Told", name := "kind", desc := "()I" } : Jvm.MethodName)) ∈ lw_all := lw_g (lw_at lw_m2 207 rfl) rfl
theorem q519 : (Jvm.Cond.instanceMethod ({ cls := "FuneralDebts$Told", name := "kind", desc := "()I" } : Jvm.MethodName)) ∈ lw_all := lw_g (lw_at lw_m2 208 rfl) rfl
theorem q520 : (Jvm.Cond.code ({ cls := "FuneralDebts$Told", name := "kind", desc := "()I" } : Jvm.MethodName) prog_18_method_2_code (1 : Nat) (Option.some Jvm.ClassFile.FieldType.int)) ∈ lw_all := lw_g (lw_at lw_m2 209 rfl) rfl
theorem q589 : (Jvm.Cond.selects "FuneralDebts$Told" ({ cls := "FuneralDebts$Mourner", name := "rates", desc := "(III)I" } : Jvm.MethodName) ({ cls := "FuneralDebts$Told", name := "rates", desc := "(III)I" } : Jvm.MethodName)) ∈ lw_all := lw_g (lw_at lw_m3 38 rfl) rfl
theorem q590 : (Jvm.Cond.instanceMethod ({ cls := "FuneralDebts$Told", name := "rates", desc := "(III)I" } : Jvm.MethodName)) ∈ lw_all := lw_g (lw_at lw_m3 39 rfl) rfl
theorem q591 : (Jvm.Cond.code ({ cls := "FuneralDebts$Told", name := "rates", desc := "(III)I" } : Jvm.MethodName) prog_18_method_3_code (4 : Nat) (Option.some Jvm.ClassFile.FieldType.int)) ∈ lw_all := lw_g (lw_at lw_m3 40 rfl) rfl
theorem q592 : (Jvm.Cond.methodLink "FuneralDebts$Told" (15 : Nat) ({ cls := "FuneralDebts$Weeper", name := "rates", desc := "(III)I" } : Jvm.MethodName)) ∈ lw_all := lw_g (lw_at lw_m3 41 rfl) rfl
theorem q1003 : (Jvm.Cond.selects "FuneralDebts$Told" ({ cls := "java/lang/Object", name := "getClass", desc := "()Ljava/lang/Class;" } : Jvm.MethodName) ({ cls := "java/lang/Object", name := "getClass", desc := "()Ljava/lang/Class;" } : Jvm.MethodName)) ∈ lw_all := lw_g (lw_at lw_m4 212 rfl) rfl
theorem q1209 : (Jvm.Cond.selects "FuneralDebts$Told" ({ cls := "FuneralDebts$Mourner", name := "stands", desc := "(I)I" } : Jvm.MethodName) ({ cls := "FuneralDebts$Told", name := "stands", desc := "(I)I" } : Jvm.MethodName)) ∈ lw_all := lw_g (lw_at lw_m5 178 rfl) rfl
theorem q1210 : (Jvm.Cond.instanceMethod ({ cls := "FuneralDebts$Told", name := "stands", desc := "(I)I" } : Jvm.MethodName)) ∈ lw_all := lw_g (lw_at lw_m5 179 rfl) rfl
theorem q1211 : (Jvm.Cond.code ({ cls := "FuneralDebts$Told", name := "stands", desc := "(I)I" } : Jvm.MethodName) prog_18_method_5_code (2 : Nat) (Option.some Jvm.ClassFile.FieldType.int)) ∈ lw_all := lw_g (lw_at lw_m5 180 rfl) rfl
theorem q1212 : (Jvm.Cond.methodLink "FuneralDebts$Told" (27 : Nat) ({ cls := "FuneralDebts$Trace", name := "ran", desc := "(I)V" } : Jvm.MethodName)) ∈ lw_all := lw_g (lw_at lw_m5 181 rfl) rfl
theorem q1213 : (Jvm.Cond.methodLink "FuneralDebts$Told" (37 : Nat) ({ cls := "FuneralDebts$Weeper", name := "stands", desc := "(I)I" } : Jvm.MethodName)) ∈ lw_all := lw_g (lw_at lw_m5 182 rfl) rfl
theorem q1236 : (Jvm.Cond.selects "FuneralDebts$Told" ({ cls := "FuneralDebts$Mourner", name := "sighs", desc := "(I)I" } : Jvm.MethodName) ({ cls := "FuneralDebts$Told", name := "sighs", desc := "(I)I" } : Jvm.MethodName)) ∈ lw_all := lw_g (lw_at lw_m5 205 rfl) rfl
theorem q1237 : (Jvm.Cond.instanceMethod ({ cls := "FuneralDebts$Told", name := "sighs", desc := "(I)I" } : Jvm.MethodName)) ∈ lw_all := lw_g (lw_at lw_m5 206 rfl) rfl
theorem q1238 : (Jvm.Cond.code ({ cls := "FuneralDebts$Told", name := "sighs", desc := "(I)I" } : Jvm.MethodName) prog_18_method_4_code (3 : Nat) (Option.some Jvm.ClassFile.FieldType.int)) ∈ lw_all := lw_g (lw_at lw_m5 207 rfl) rfl
theorem q1239 : (Jvm.Cond.methodLink "FuneralDebts$Told" (33 : Nat) ({ cls := "FuneralDebts$Weeper", name := "sighs", desc := "(I)I" } : Jvm.MethodName)) ∈ lw_all := lw_g (lw_at lw_m5 208 rfl) rfl
theorem q1262 : (Jvm.Cond.selects "FuneralDebts$Told" ({ cls := "FuneralDebts$Mourner", name := "tells", desc := "(I)I" } : Jvm.MethodName) ({ cls := "FuneralDebts$Weeper", name := "tells", desc := "(I)I" } : Jvm.MethodName)) ∈ lw_all := lw_g (lw_at lw_m5 231 rfl) rfl
theorem q1268 : (Jvm.Cond.selects "FuneralDebts$Told" ({ cls := "FuneralDebts$Weeper", name := "sighs", desc := "(I)I" } : Jvm.MethodName) ({ cls := "FuneralDebts$Told", name := "sighs", desc := "(I)I" } : Jvm.MethodName)) ∈ lw_all := lw_g (lw_at lw_m5 237 rfl) rfl
theorem q1762 : (Jvm.Cond.castable "FuneralDebts$Told" "FuneralDebts$Mourner") ∈ lw_tbl := lw_at lw_m8 11 rfl
theorem q1767 : (Jvm.Cond.castable "FuneralDebts$Told" "FuneralDebts$Weeper") ∈ lw_tbl := lw_at lw_m8 16 rfl
theorem q1782 : (Jvm.Cond.castable "FuneralDebts$Told" "java/lang/Object") ∈ lw_tbl := lw_at lw_m8 31 rfl
theorem in_X13 : ∀ w ∈ wsX130, w ∈ lw_all := lw_in wsX130 [472, 473, 474, 470] (by decide +kernel) (by decide +kernel)
/-! FuneralDebts$Reader -/
set_option maxRecDepth 100000
def RX14 : String := "FuneralDebts$Reader"
def TX14 : u_T := fun k => match k with
  | 0 => ("FuneralDebts$Reader", "text", "[B", true)
  | 1 => ("FuneralDebts$Reader", "size", "I", true)
  | 2 => ("FuneralDebts$Reader", "at", "I", false)
  | 3 => ("FuneralDebts$Reader", "deep", "I", false)
  | _ => ("FuneralDebts$Reader", "read", "LFuneralDebts$Parish;", true)
def tyX14 : Nat → FieldType := fun k => match k with
  | 0 => .array .byte
  | 1 => .int
  | 2 => .int
  | 3 => .int
  | _ => .object "FuneralDebts$Parish"
abbrev wsX140 : List Cond := u_ws RX14 TX14 5
theorem nmX14 : ∀ a, a < 5 → ∀ b, b < 5 → a ≠ b → (TX14 a).2.1 ≠ (TX14 b).2.1 := by decide +kernel
theorem tyX14_ok : ∀ k, k < 5 → parseFieldDescriptor (TX14 k).2.2.1 = some (tyX14 k) := by decide +kernel
abbrev cX14_init : ByteArray := prog_12_method_1_code
def yX14_init : MethodName := ⟨RX14, "<init>", "([BI)V"⟩
def dkwX14_init_1 : List UInt8 := [181, 0, 22, 177]
abbrev dktX14_init_1 : List UInt8 := dkwX14_init_1 ++ []
def dkwX14_init_0 : List UInt8 := [42, 183, 0, 3, 42, 187, 0, 9, 89, 183, 0, 11, 181, 0, 12, 42, 43, 181, 0, 18, 42, 28]
abbrev dktX14_init_0 : List UInt8 := dkwX14_init_0 ++ dktX14_init_1
theorem dksX14_init_0 : cX14_init.data.toList.drop 0 = dktX14_init_0 := by decide +kernel
theorem dksX14_init_1 : cX14_init.data.toList.drop 22 = dktX14_init_1 := dk_seg dksX14_init_0 22 rfl rfl
theorem dX14_init_0 : decode cX14_init 0 = .ok (.aload_n 0, 1) := dk_42 (dk_at dksX14_init_0 0 rfl rfl)
theorem dX14_init_1 : decode cX14_init 1 = .ok (.invokespecial 3, 3) := dk_183 0 3 (dk_at dksX14_init_0 1 rfl rfl)
theorem dX14_init_4 : decode cX14_init 4 = .ok (.aload_n 0, 1) := dk_42 (dk_at dksX14_init_0 4 rfl rfl)
theorem dX14_init_5 : decode cX14_init 5 = .ok (.new 9, 3) := dk_187 0 9 (dk_at dksX14_init_0 5 rfl rfl)
theorem dX14_init_8 : decode cX14_init 8 = .ok (.dup, 1) := dk_89 (dk_at dksX14_init_0 8 rfl rfl)
theorem dX14_init_9 : decode cX14_init 9 = .ok (.invokespecial 11, 3) := dk_183 0 11 (dk_at dksX14_init_0 9 rfl rfl)
theorem dX14_init_12 : decode cX14_init 12 = .ok (.putfield 12, 3) := dk_181 0 12 (dk_at dksX14_init_0 12 rfl rfl)
theorem dX14_init_15 : decode cX14_init 15 = .ok (.aload_n 0, 1) := dk_42 (dk_at dksX14_init_0 15 rfl rfl)
theorem dX14_init_16 : decode cX14_init 16 = .ok (.aload_n 1, 1) := dk_43 (dk_at dksX14_init_0 16 rfl rfl)
theorem dX14_init_17 : decode cX14_init 17 = .ok (.putfield 18, 3) := dk_181 0 18 (dk_at dksX14_init_0 17 rfl rfl)
theorem dX14_init_20 : decode cX14_init 20 = .ok (.aload_n 0, 1) := dk_42 (dk_at dksX14_init_0 20 rfl rfl)
theorem dX14_init_21 : decode cX14_init 21 = .ok (.iload_n 2, 1) := dk_28 (dk_at dksX14_init_0 21 rfl rfl)
theorem dX14_init_22 : decode cX14_init 22 = .ok (.putfield 22, 3) := dk_181 0 22 (dk_at dksX14_init_1 0 rfl rfl)
theorem dX14_init_25 : decode cX14_init 25 = .ok (.return_, 1) := dk_177 (dk_at dksX14_init_1 3 rfl rfl)
abbrev cX14_whole : ByteArray := prog_12_method_13_code
def yX14_whole : MethodName := ⟨RX14, "whole", "()LFuneralDebts$Parish;"⟩
def dkwX14_whole_2 : List UInt8 := [42, 180, 0, 22, 162, 0, 8, 42, 182, 0, 38, 191, 42, 180, 0, 12, 176]
abbrev dktX14_whole_2 : List UInt8 := dkwX14_whole_2 ++ []
def dkwX14_whole_1 : List UInt8 := [160, 0, 20, 42, 89, 180, 0, 26, 4, 96, 181, 0, 26, 42, 182, 0, 130, 167, 255, 221, 42, 180, 0, 26]
abbrev dktX14_whole_1 : List UInt8 := dkwX14_whole_1 ++ dktX14_whole_2
def dkwX14_whole_0 : List UInt8 := [42, 182, 0, 130, 42, 180, 0, 12, 180, 0, 127, 16, 10, 162, 0, 29, 42, 182, 0, 34, 16, 59]
abbrev dktX14_whole_0 : List UInt8 := dkwX14_whole_0 ++ dktX14_whole_1
theorem dksX14_whole_0 : cX14_whole.data.toList.drop 0 = dktX14_whole_0 := by decide +kernel
theorem dksX14_whole_1 : cX14_whole.data.toList.drop 22 = dktX14_whole_1 := dk_seg dksX14_whole_0 22 rfl rfl
theorem dksX14_whole_2 : cX14_whole.data.toList.drop 46 = dktX14_whole_2 := dk_seg dksX14_whole_1 24 rfl rfl
theorem dX14_whole_0 : decode cX14_whole 0 = .ok (.aload_n 0, 1) := dk_42 (dk_at dksX14_whole_0 0 rfl rfl)
theorem dX14_whole_1 : decode cX14_whole 1 = .ok (.invokevirtual 130, 3) := dk_182 0 130 (dk_at dksX14_whole_0 1 rfl rfl)
theorem dX14_whole_4 : decode cX14_whole 4 = .ok (.aload_n 0, 1) := dk_42 (dk_at dksX14_whole_0 4 rfl rfl)
theorem dX14_whole_5 : decode cX14_whole 5 = .ok (.getfield 12, 3) := dk_180 0 12 (dk_at dksX14_whole_0 5 rfl rfl)
theorem dX14_whole_8 : decode cX14_whole 8 = .ok (.getfield 127, 3) := dk_180 0 127 (dk_at dksX14_whole_0 8 rfl rfl)
theorem dX14_whole_11 : decode cX14_whole 11 = .ok (.bipush 10, 2) := dk_16 10 (dk_at dksX14_whole_0 11 rfl rfl)
theorem dX14_whole_13 : decode cX14_whole 13 = .ok (.if_icmp .ge 29, 3) := dk_162 0 29 (dk_at dksX14_whole_0 13 rfl rfl)
theorem dX14_whole_16 : decode cX14_whole 16 = .ok (.aload_n 0, 1) := dk_42 (dk_at dksX14_whole_0 16 rfl rfl)
theorem dX14_whole_17 : decode cX14_whole 17 = .ok (.invokevirtual 34, 3) := dk_182 0 34 (dk_at dksX14_whole_0 17 rfl rfl)
theorem dX14_whole_20 : decode cX14_whole 20 = .ok (.bipush 59, 2) := dk_16 59 (dk_at dksX14_whole_0 20 rfl rfl)
theorem dX14_whole_22 : decode cX14_whole 22 = .ok (.if_icmp .ne 20, 3) := dk_160 0 20 (dk_at dksX14_whole_1 0 rfl rfl)
theorem dX14_whole_25 : decode cX14_whole 25 = .ok (.aload_n 0, 1) := dk_42 (dk_at dksX14_whole_1 3 rfl rfl)
theorem dX14_whole_26 : decode cX14_whole 26 = .ok (.dup, 1) := dk_89 (dk_at dksX14_whole_1 4 rfl rfl)
theorem dX14_whole_27 : decode cX14_whole 27 = .ok (.getfield 26, 3) := dk_180 0 26 (dk_at dksX14_whole_1 5 rfl rfl)
theorem dX14_whole_30 : decode cX14_whole 30 = .ok (.iconst 1, 1) := dk_4 (dk_at dksX14_whole_1 8 rfl rfl)
theorem dX14_whole_31 : decode cX14_whole 31 = .ok (.iadd, 1) := dk_96 (dk_at dksX14_whole_1 9 rfl rfl)
theorem dX14_whole_32 : decode cX14_whole 32 = .ok (.putfield 26, 3) := dk_181 0 26 (dk_at dksX14_whole_1 10 rfl rfl)
theorem dX14_whole_35 : decode cX14_whole 35 = .ok (.aload_n 0, 1) := dk_42 (dk_at dksX14_whole_1 13 rfl rfl)
theorem dX14_whole_36 : decode cX14_whole 36 = .ok (.invokevirtual 130, 3) := dk_182 0 130 (dk_at dksX14_whole_1 14 rfl rfl)
theorem dX14_whole_39 : decode cX14_whole 39 = .ok (.goto (-35), 3) := dk_167 255 221 (dk_at dksX14_whole_1 17 rfl rfl)
theorem dX14_whole_42 : decode cX14_whole 42 = .ok (.aload_n 0, 1) := dk_42 (dk_at dksX14_whole_1 20 rfl rfl)
theorem dX14_whole_43 : decode cX14_whole 43 = .ok (.getfield 26, 3) := dk_180 0 26 (dk_at dksX14_whole_1 21 rfl rfl)
theorem dX14_whole_46 : decode cX14_whole 46 = .ok (.aload_n 0, 1) := dk_42 (dk_at dksX14_whole_2 0 rfl rfl)
theorem dX14_whole_47 : decode cX14_whole 47 = .ok (.getfield 22, 3) := dk_180 0 22 (dk_at dksX14_whole_2 1 rfl rfl)
theorem dX14_whole_50 : decode cX14_whole 50 = .ok (.if_icmp .ge 8, 3) := dk_162 0 8 (dk_at dksX14_whole_2 4 rfl rfl)
theorem dX14_whole_53 : decode cX14_whole 53 = .ok (.aload_n 0, 1) := dk_42 (dk_at dksX14_whole_2 7 rfl rfl)
theorem dX14_whole_54 : decode cX14_whole 54 = .ok (.invokevirtual 38, 3) := dk_182 0 38 (dk_at dksX14_whole_2 8 rfl rfl)
theorem dX14_whole_57 : decode cX14_whole 57 = .ok (.athrow, 1) := dk_191 (dk_at dksX14_whole_2 11 rfl rfl)
theorem dX14_whole_58 : decode cX14_whole 58 = .ok (.aload_n 0, 1) := dk_42 (dk_at dksX14_whole_2 12 rfl rfl)
theorem dX14_whole_59 : decode cX14_whole 59 = .ok (.getfield 12, 3) := dk_180 0 12 (dk_at dksX14_whole_2 13 rfl rfl)
theorem dX14_whole_62 : decode cX14_whole 62 = .ok (.areturn, 1) := dk_176 (dk_at dksX14_whole_2 16 rfl rfl)
abbrev cX14_clause : ByteArray := prog_12_method_12_code
def yX14_clause : MethodName := ⟨RX14, "clause", "()V"⟩
def dkwX14_clause_4 : List UInt8 := [180, 0, 12, 89, 180, 0, 127, 4, 96, 181, 0, 127, 177]
abbrev dktX14_clause_4 : List UInt8 := dkwX14_clause_4 ++ []
def dkwX14_clause_3 : List UInt8 := [182, 0, 102, 42, 180, 0, 12, 42, 182, 0, 78, 181, 0, 124, 167, 0, 8, 42, 182, 0, 38, 191, 42]
abbrev dktX14_clause_3 : List UInt8 := dkwX14_clause_3 ++ dktX14_clause_4
def dkwX14_clause_2 : List UInt8 := [42, 18, 114, 4, 182, 0, 116, 167, 0, 38, 42, 18, 120, 2, 182, 0, 116, 167, 0, 28, 42, 18, 122]
abbrev dktX14_clause_2 : List UInt8 := dkwX14_clause_2 ++ dktX14_clause_3
def dkwX14_clause_1 : List UInt8 := [171, 0, 0, 0, 0, 0, 0, 76, 0, 0, 0, 3, 0, 0, 0, 108, 0, 0, 0, 46, 0, 0, 0, 109, 0, 0, 0, 36, 0, 0, 0, 121, 0, 0, 0, 56]
abbrev dktX14_clause_1 : List UInt8 := dkwX14_clause_1 ++ dktX14_clause_2
def dkwX14_clause_0 : List UInt8 := [42, 182, 0, 34]
abbrev dktX14_clause_0 : List UInt8 := dkwX14_clause_0 ++ dktX14_clause_1
theorem dksX14_clause_0 : cX14_clause.data.toList.drop 0 = dktX14_clause_0 := by decide +kernel
theorem dksX14_clause_1 : cX14_clause.data.toList.drop 4 = dktX14_clause_1 := dk_seg dksX14_clause_0 4 rfl rfl
theorem dksX14_clause_2 : cX14_clause.data.toList.drop 40 = dktX14_clause_2 := dk_seg dksX14_clause_1 36 rfl rfl
theorem dksX14_clause_3 : cX14_clause.data.toList.drop 63 = dktX14_clause_3 := dk_seg dksX14_clause_2 23 rfl rfl
theorem dksX14_clause_4 : cX14_clause.data.toList.drop 86 = dktX14_clause_4 := dk_seg dksX14_clause_3 23 rfl rfl
theorem dX14_clause_0 : decode cX14_clause 0 = .ok (.aload_n 0, 1) := dk_42 (dk_at dksX14_clause_0 0 rfl rfl)
theorem dX14_clause_1 : decode cX14_clause 1 = .ok (.invokevirtual 34, 3) := dk_182 0 34 (dk_at dksX14_clause_0 1 rfl rfl)
theorem dX14_clause_4 : decode cX14_clause 4 = .ok (.lookupswitch 76 #[(108, 46), (109, 36), (121, 56)], 36) := by decide +kernel
theorem dX14_clause_40 : decode cX14_clause 40 = .ok (.aload_n 0, 1) := dk_42 (dk_at dksX14_clause_2 0 rfl rfl)
theorem dX14_clause_41 : decode cX14_clause 41 = .ok (.ldc 114, 2) := dk_18 114 (dk_at dksX14_clause_2 1 rfl rfl)
theorem dX14_clause_43 : decode cX14_clause 43 = .ok (.iconst 1, 1) := dk_4 (dk_at dksX14_clause_2 3 rfl rfl)
theorem dX14_clause_44 : decode cX14_clause 44 = .ok (.invokevirtual 116, 3) := dk_182 0 116 (dk_at dksX14_clause_2 4 rfl rfl)
theorem dX14_clause_47 : decode cX14_clause 47 = .ok (.goto 38, 3) := dk_167 0 38 (dk_at dksX14_clause_2 7 rfl rfl)
theorem dX14_clause_50 : decode cX14_clause 50 = .ok (.aload_n 0, 1) := dk_42 (dk_at dksX14_clause_2 10 rfl rfl)
theorem dX14_clause_51 : decode cX14_clause 51 = .ok (.ldc 120, 2) := dk_18 120 (dk_at dksX14_clause_2 11 rfl rfl)
theorem dX14_clause_53 : decode cX14_clause 53 = .ok (.iconst (-1), 1) := dk_2 (dk_at dksX14_clause_2 13 rfl rfl)
theorem dX14_clause_54 : decode cX14_clause 54 = .ok (.invokevirtual 116, 3) := dk_182 0 116 (dk_at dksX14_clause_2 14 rfl rfl)
theorem dX14_clause_57 : decode cX14_clause 57 = .ok (.goto 28, 3) := dk_167 0 28 (dk_at dksX14_clause_2 17 rfl rfl)
theorem dX14_clause_60 : decode cX14_clause 60 = .ok (.aload_n 0, 1) := dk_42 (dk_at dksX14_clause_2 20 rfl rfl)
theorem dX14_clause_61 : decode cX14_clause 61 = .ok (.ldc 122, 2) := dk_18 122 (dk_at dksX14_clause_2 21 rfl rfl)
theorem dX14_clause_63 : decode cX14_clause 63 = .ok (.invokevirtual 102, 3) := dk_182 0 102 (dk_at dksX14_clause_3 0 rfl rfl)
theorem dX14_clause_66 : decode cX14_clause 66 = .ok (.aload_n 0, 1) := dk_42 (dk_at dksX14_clause_3 3 rfl rfl)
theorem dX14_clause_67 : decode cX14_clause 67 = .ok (.getfield 12, 3) := dk_180 0 12 (dk_at dksX14_clause_3 4 rfl rfl)
theorem dX14_clause_70 : decode cX14_clause 70 = .ok (.aload_n 0, 1) := dk_42 (dk_at dksX14_clause_3 7 rfl rfl)
theorem dX14_clause_71 : decode cX14_clause 71 = .ok (.invokevirtual 78, 3) := dk_182 0 78 (dk_at dksX14_clause_3 8 rfl rfl)
theorem dX14_clause_74 : decode cX14_clause 74 = .ok (.putfield 124, 3) := dk_181 0 124 (dk_at dksX14_clause_3 11 rfl rfl)
theorem dX14_clause_77 : decode cX14_clause 77 = .ok (.goto 8, 3) := dk_167 0 8 (dk_at dksX14_clause_3 14 rfl rfl)
theorem dX14_clause_80 : decode cX14_clause 80 = .ok (.aload_n 0, 1) := dk_42 (dk_at dksX14_clause_3 17 rfl rfl)
theorem dX14_clause_81 : decode cX14_clause 81 = .ok (.invokevirtual 38, 3) := dk_182 0 38 (dk_at dksX14_clause_3 18 rfl rfl)
theorem dX14_clause_84 : decode cX14_clause 84 = .ok (.athrow, 1) := dk_191 (dk_at dksX14_clause_3 21 rfl rfl)
theorem dX14_clause_85 : decode cX14_clause 85 = .ok (.aload_n 0, 1) := dk_42 (dk_at dksX14_clause_3 22 rfl rfl)
theorem dX14_clause_86 : decode cX14_clause 86 = .ok (.getfield 12, 3) := dk_180 0 12 (dk_at dksX14_clause_4 0 rfl rfl)
theorem dX14_clause_89 : decode cX14_clause 89 = .ok (.dup, 1) := dk_89 (dk_at dksX14_clause_4 3 rfl rfl)
theorem dX14_clause_90 : decode cX14_clause 90 = .ok (.getfield 127, 3) := dk_180 0 127 (dk_at dksX14_clause_4 4 rfl rfl)
theorem dX14_clause_93 : decode cX14_clause 93 = .ok (.iconst 1, 1) := dk_4 (dk_at dksX14_clause_4 7 rfl rfl)
theorem dX14_clause_94 : decode cX14_clause 94 = .ok (.iadd, 1) := dk_96 (dk_at dksX14_clause_4 8 rfl rfl)
theorem dX14_clause_95 : decode cX14_clause 95 = .ok (.putfield 127, 3) := dk_181 0 127 (dk_at dksX14_clause_4 9 rfl rfl)
theorem dX14_clause_98 : decode cX14_clause 98 = .ok (.return_, 1) := dk_177 (dk_at dksX14_clause_4 12 rfl rfl)
abbrev cX14_here : ByteArray := prog_12_method_2_code
def yX14_here : MethodName := ⟨RX14, "here", "()I"⟩
def dkwX14_here_1 : List UInt8 := [172]
abbrev dktX14_here_1 : List UInt8 := dkwX14_here_1 ++ []
def dkwX14_here_0 : List UInt8 := [42, 180, 0, 26, 42, 180, 0, 22, 162, 0, 15, 42, 180, 0, 18, 42, 180, 0, 26, 51, 167, 0, 4, 2]
abbrev dktX14_here_0 : List UInt8 := dkwX14_here_0 ++ dktX14_here_1
theorem dksX14_here_0 : cX14_here.data.toList.drop 0 = dktX14_here_0 := by decide +kernel
theorem dksX14_here_1 : cX14_here.data.toList.drop 24 = dktX14_here_1 := dk_seg dksX14_here_0 24 rfl rfl
theorem dX14_here_0 : decode cX14_here 0 = .ok (.aload_n 0, 1) := dk_42 (dk_at dksX14_here_0 0 rfl rfl)
theorem dX14_here_1 : decode cX14_here 1 = .ok (.getfield 26, 3) := dk_180 0 26 (dk_at dksX14_here_0 1 rfl rfl)
theorem dX14_here_4 : decode cX14_here 4 = .ok (.aload_n 0, 1) := dk_42 (dk_at dksX14_here_0 4 rfl rfl)
theorem dX14_here_5 : decode cX14_here 5 = .ok (.getfield 22, 3) := dk_180 0 22 (dk_at dksX14_here_0 5 rfl rfl)
theorem dX14_here_8 : decode cX14_here 8 = .ok (.if_icmp .ge 15, 3) := dk_162 0 15 (dk_at dksX14_here_0 8 rfl rfl)
theorem dX14_here_11 : decode cX14_here 11 = .ok (.aload_n 0, 1) := dk_42 (dk_at dksX14_here_0 11 rfl rfl)
theorem dX14_here_12 : decode cX14_here 12 = .ok (.getfield 18, 3) := dk_180 0 18 (dk_at dksX14_here_0 12 rfl rfl)
theorem dX14_here_15 : decode cX14_here 15 = .ok (.aload_n 0, 1) := dk_42 (dk_at dksX14_here_0 15 rfl rfl)
theorem dX14_here_16 : decode cX14_here 16 = .ok (.getfield 26, 3) := dk_180 0 26 (dk_at dksX14_here_0 16 rfl rfl)
theorem dX14_here_19 : decode cX14_here 19 = .ok (.baload, 1) := dk_51 (dk_at dksX14_here_0 19 rfl rfl)
theorem dX14_here_20 : decode cX14_here 20 = .ok (.goto 4, 3) := dk_167 0 4 (dk_at dksX14_here_0 20 rfl rfl)
theorem dX14_here_23 : decode cX14_here 23 = .ok (.iconst (-1), 1) := dk_2 (dk_at dksX14_here_0 23 rfl rfl)
theorem dX14_here_24 : decode cX14_here 24 = .ok (.ireturn, 1) := dk_172 (dk_at dksX14_here_1 0 rfl rfl)
abbrev cX14_tested : ByteArray := prog_12_method_11_code
def yX14_tested : MethodName := ⟨RX14, "tested", "(Ljava/lang/String;I)V"⟩
def dkwX14_tested_1 : List UInt8 := [187, 0, 109, 89, 28, 29, 104, 42, 182, 0, 73, 183, 0, 111, 182, 0, 93, 87, 177]
abbrev dktX14_tested_1 : List UInt8 := dkwX14_tested_1 ++ []
def dkwX14_tested_0 : List UInt8 := [42, 43, 182, 0, 102, 42, 182, 0, 78, 62, 42, 16, 32, 182, 0, 51, 42, 180, 0, 12, 180, 0, 106]
abbrev dktX14_tested_0 : List UInt8 := dkwX14_tested_0 ++ dktX14_tested_1
theorem dksX14_tested_0 : cX14_tested.data.toList.drop 0 = dktX14_tested_0 := by decide +kernel
theorem dksX14_tested_1 : cX14_tested.data.toList.drop 23 = dktX14_tested_1 := dk_seg dksX14_tested_0 23 rfl rfl
theorem dX14_tested_0 : decode cX14_tested 0 = .ok (.aload_n 0, 1) := dk_42 (dk_at dksX14_tested_0 0 rfl rfl)
theorem dX14_tested_1 : decode cX14_tested 1 = .ok (.aload_n 1, 1) := dk_43 (dk_at dksX14_tested_0 1 rfl rfl)
theorem dX14_tested_2 : decode cX14_tested 2 = .ok (.invokevirtual 102, 3) := dk_182 0 102 (dk_at dksX14_tested_0 2 rfl rfl)
theorem dX14_tested_5 : decode cX14_tested 5 = .ok (.aload_n 0, 1) := dk_42 (dk_at dksX14_tested_0 5 rfl rfl)
theorem dX14_tested_6 : decode cX14_tested 6 = .ok (.invokevirtual 78, 3) := dk_182 0 78 (dk_at dksX14_tested_0 6 rfl rfl)
theorem dX14_tested_9 : decode cX14_tested 9 = .ok (.istore_n 3, 1) := dk_62 (dk_at dksX14_tested_0 9 rfl rfl)
theorem dX14_tested_10 : decode cX14_tested 10 = .ok (.aload_n 0, 1) := dk_42 (dk_at dksX14_tested_0 10 rfl rfl)
theorem dX14_tested_11 : decode cX14_tested 11 = .ok (.bipush 32, 2) := dk_16 32 (dk_at dksX14_tested_0 11 rfl rfl)
theorem dX14_tested_13 : decode cX14_tested 13 = .ok (.invokevirtual 51, 3) := dk_182 0 51 (dk_at dksX14_tested_0 13 rfl rfl)
theorem dX14_tested_16 : decode cX14_tested 16 = .ok (.aload_n 0, 1) := dk_42 (dk_at dksX14_tested_0 16 rfl rfl)
theorem dX14_tested_17 : decode cX14_tested 17 = .ok (.getfield 12, 3) := dk_180 0 12 (dk_at dksX14_tested_0 17 rfl rfl)
theorem dX14_tested_20 : decode cX14_tested 20 = .ok (.getfield 106, 3) := dk_180 0 106 (dk_at dksX14_tested_0 20 rfl rfl)
theorem dX14_tested_23 : decode cX14_tested 23 = .ok (.new 109, 3) := dk_187 0 109 (dk_at dksX14_tested_1 0 rfl rfl)
theorem dX14_tested_26 : decode cX14_tested 26 = .ok (.dup, 1) := dk_89 (dk_at dksX14_tested_1 3 rfl rfl)
theorem dX14_tested_27 : decode cX14_tested 27 = .ok (.iload_n 2, 1) := dk_28 (dk_at dksX14_tested_1 4 rfl rfl)
theorem dX14_tested_28 : decode cX14_tested 28 = .ok (.iload_n 3, 1) := dk_29 (dk_at dksX14_tested_1 5 rfl rfl)
theorem dX14_tested_29 : decode cX14_tested 29 = .ok (.imul, 1) := dk_104 (dk_at dksX14_tested_1 6 rfl rfl)
theorem dX14_tested_30 : decode cX14_tested 30 = .ok (.aload_n 0, 1) := dk_42 (dk_at dksX14_tested_1 7 rfl rfl)
theorem dX14_tested_31 : decode cX14_tested 31 = .ok (.invokevirtual 73, 3) := dk_182 0 73 (dk_at dksX14_tested_1 8 rfl rfl)
theorem dX14_tested_34 : decode cX14_tested 34 = .ok (.invokespecial 111, 3) := dk_183 0 111 (dk_at dksX14_tested_1 11 rfl rfl)
theorem dX14_tested_37 : decode cX14_tested 37 = .ok (.invokevirtual 93, 3) := dk_182 0 93 (dk_at dksX14_tested_1 14 rfl rfl)
theorem dX14_tested_40 : decode cX14_tested 40 = .ok (.pop, 1) := dk_87 (dk_at dksX14_tested_1 17 rfl rfl)
theorem dX14_tested_41 : decode cX14_tested 41 = .ok (.return_, 1) := dk_177 (dk_at dksX14_tested_1 18 rfl rfl)
abbrev cX14_word : ByteArray := prog_12_method_5_code
def yX14_word : MethodName := ⟨RX14, "word", "(Ljava/lang/String;)V"⟩
def dkwX14_word_1 : List UInt8 := [167, 255, 236, 177]
abbrev dktX14_word_1 : List UInt8 := dkwX14_word_1 ++ []
def dkwX14_word_0 : List UInt8 := [3, 61, 28, 43, 182, 0, 42, 162, 0, 18, 42, 43, 28, 182, 0, 47, 182, 0, 51, 132, 2, 1]
abbrev dktX14_word_0 : List UInt8 := dkwX14_word_0 ++ dktX14_word_1
theorem dksX14_word_0 : cX14_word.data.toList.drop 0 = dktX14_word_0 := by decide +kernel
theorem dksX14_word_1 : cX14_word.data.toList.drop 22 = dktX14_word_1 := dk_seg dksX14_word_0 22 rfl rfl
theorem dX14_word_0 : decode cX14_word 0 = .ok (.iconst 0, 1) := dk_3 (dk_at dksX14_word_0 0 rfl rfl)
theorem dX14_word_1 : decode cX14_word 1 = .ok (.istore_n 2, 1) := dk_61 (dk_at dksX14_word_0 1 rfl rfl)
theorem dX14_word_2 : decode cX14_word 2 = .ok (.iload_n 2, 1) := dk_28 (dk_at dksX14_word_0 2 rfl rfl)
theorem dX14_word_3 : decode cX14_word 3 = .ok (.aload_n 1, 1) := dk_43 (dk_at dksX14_word_0 3 rfl rfl)
theorem dX14_word_4 : decode cX14_word 4 = .ok (.invokevirtual 42, 3) := dk_182 0 42 (dk_at dksX14_word_0 4 rfl rfl)
theorem dX14_word_7 : decode cX14_word 7 = .ok (.if_icmp .ge 18, 3) := dk_162 0 18 (dk_at dksX14_word_0 7 rfl rfl)
theorem dX14_word_10 : decode cX14_word 10 = .ok (.aload_n 0, 1) := dk_42 (dk_at dksX14_word_0 10 rfl rfl)
theorem dX14_word_11 : decode cX14_word 11 = .ok (.aload_n 1, 1) := dk_43 (dk_at dksX14_word_0 11 rfl rfl)
theorem dX14_word_12 : decode cX14_word 12 = .ok (.iload_n 2, 1) := dk_28 (dk_at dksX14_word_0 12 rfl rfl)
theorem dX14_word_13 : decode cX14_word 13 = .ok (.invokevirtual 47, 3) := dk_182 0 47 (dk_at dksX14_word_0 13 rfl rfl)
theorem dX14_word_16 : decode cX14_word 16 = .ok (.invokevirtual 51, 3) := dk_182 0 51 (dk_at dksX14_word_0 16 rfl rfl)
theorem dX14_word_19 : decode cX14_word 19 = .ok (.iinc 2 1, 3) := dk_132 2 1 (dk_at dksX14_word_0 19 rfl rfl)
theorem dX14_word_22 : decode cX14_word 22 = .ok (.goto (-20), 3) := dk_167 255 236 (dk_at dksX14_word_1 0 rfl rfl)
theorem dX14_word_25 : decode cX14_word 25 = .ok (.return_, 1) := dk_177 (dk_at dksX14_word_1 3 rfl rfl)
abbrev cX14_must : ByteArray := prog_12_method_4_code
def yX14_must : MethodName := ⟨RX14, "must", "(I)V"⟩
def dkwX14_must_0 : List UInt8 := [42, 182, 0, 34, 27, 159, 0, 8, 42, 182, 0, 38, 191, 42, 89, 180, 0, 26, 4, 96, 181, 0, 26, 177]
abbrev dktX14_must_0 : List UInt8 := dkwX14_must_0 ++ []
theorem dksX14_must_0 : cX14_must.data.toList.drop 0 = dktX14_must_0 := by decide +kernel
theorem dX14_must_0 : decode cX14_must 0 = .ok (.aload_n 0, 1) := dk_42 (dk_at dksX14_must_0 0 rfl rfl)
theorem dX14_must_1 : decode cX14_must 1 = .ok (.invokevirtual 34, 3) := dk_182 0 34 (dk_at dksX14_must_0 1 rfl rfl)
theorem dX14_must_4 : decode cX14_must 4 = .ok (.iload_n 1, 1) := dk_27 (dk_at dksX14_must_0 4 rfl rfl)
theorem dX14_must_5 : decode cX14_must 5 = .ok (.if_icmp .eq 8, 3) := dk_159 0 8 (dk_at dksX14_must_0 5 rfl rfl)
theorem dX14_must_8 : decode cX14_must 8 = .ok (.aload_n 0, 1) := dk_42 (dk_at dksX14_must_0 8 rfl rfl)
theorem dX14_must_9 : decode cX14_must 9 = .ok (.invokevirtual 38, 3) := dk_182 0 38 (dk_at dksX14_must_0 9 rfl rfl)
theorem dX14_must_12 : decode cX14_must 12 = .ok (.athrow, 1) := dk_191 (dk_at dksX14_must_0 12 rfl rfl)
theorem dX14_must_13 : decode cX14_must 13 = .ok (.aload_n 0, 1) := dk_42 (dk_at dksX14_must_0 13 rfl rfl)
theorem dX14_must_14 : decode cX14_must 14 = .ok (.dup, 1) := dk_89 (dk_at dksX14_must_0 14 rfl rfl)
theorem dX14_must_15 : decode cX14_must 15 = .ok (.getfield 26, 3) := dk_180 0 26 (dk_at dksX14_must_0 15 rfl rfl)
theorem dX14_must_18 : decode cX14_must 18 = .ok (.iconst 1, 1) := dk_4 (dk_at dksX14_must_0 18 rfl rfl)
theorem dX14_must_19 : decode cX14_must 19 = .ok (.iadd, 1) := dk_96 (dk_at dksX14_must_0 19 rfl rfl)
theorem dX14_must_20 : decode cX14_must 20 = .ok (.putfield 26, 3) := dk_181 0 26 (dk_at dksX14_must_0 20 rfl rfl)
theorem dX14_must_23 : decode cX14_must 23 = .ok (.return_, 1) := dk_177 (dk_at dksX14_must_0 23 rfl rfl)
abbrev cX14_off : ByteArray := prog_12_method_3_code
def yX14_off : MethodName := ⟨RX14, "off", "()LFuneralDebts$Off;"⟩
def dkwX14_off_0 : List UInt8 := [187, 0, 29, 89, 42, 180, 0, 26, 183, 0, 31, 176]
abbrev dktX14_off_0 : List UInt8 := dkwX14_off_0 ++ []
theorem dksX14_off_0 : cX14_off.data.toList.drop 0 = dktX14_off_0 := by decide +kernel
theorem dX14_off_0 : decode cX14_off 0 = .ok (.new 29, 3) := dk_187 0 29 (dk_at dksX14_off_0 0 rfl rfl)
theorem dX14_off_3 : decode cX14_off 3 = .ok (.dup, 1) := dk_89 (dk_at dksX14_off_0 3 rfl rfl)
theorem dX14_off_4 : decode cX14_off 4 = .ok (.aload_n 0, 1) := dk_42 (dk_at dksX14_off_0 4 rfl rfl)
theorem dX14_off_5 : decode cX14_off 5 = .ok (.getfield 26, 3) := dk_180 0 26 (dk_at dksX14_off_0 5 rfl rfl)
theorem dX14_off_8 : decode cX14_off 8 = .ok (.invokespecial 31, 3) := dk_183 0 31 (dk_at dksX14_off_0 8 rfl rfl)
theorem dX14_off_11 : decode cX14_off 11 = .ok (.areturn, 1) := dk_176 (dk_at dksX14_off_0 11 rfl rfl)
abbrev cX14_number : ByteArray := prog_12_method_6_code
def yX14_number : MethodName := ⟨RX14, "number", "()I"⟩
def dkwX14_number_3 : List UInt8 := [167, 255, 209, 27, 172]
abbrev dktX14_number_3 : List UInt8 := dkwX14_number_3 ++ []
def dkwX14_number_2 : List UInt8 := [180, 0, 18, 42, 89, 180, 0, 26, 90, 4, 96, 181, 0, 26, 51, 96, 16, 48, 100, 60, 132, 2, 1]
abbrev dktX14_number_2 : List UInt8 := dkwX14_number_2 ++ dktX14_number_3
def dkwX14_number_1 : List UInt8 := [5, 162, 0, 48, 42, 182, 0, 34, 16, 48, 16, 57, 184, 0, 54, 153, 0, 34, 16, 10, 27, 104, 42]
abbrev dktX14_number_1 : List UInt8 := dkwX14_number_1 ++ dktX14_number_2
def dkwX14_number_0 : List UInt8 := [42, 182, 0, 34, 16, 48, 16, 57, 184, 0, 54, 154, 0, 8, 42, 182, 0, 38, 191, 3, 60, 3, 61, 28]
abbrev dktX14_number_0 : List UInt8 := dkwX14_number_0 ++ dktX14_number_1
theorem dksX14_number_0 : cX14_number.data.toList.drop 0 = dktX14_number_0 := by decide +kernel
theorem dksX14_number_1 : cX14_number.data.toList.drop 24 = dktX14_number_1 := dk_seg dksX14_number_0 24 rfl rfl
theorem dksX14_number_2 : cX14_number.data.toList.drop 47 = dktX14_number_2 := dk_seg dksX14_number_1 23 rfl rfl
theorem dksX14_number_3 : cX14_number.data.toList.drop 70 = dktX14_number_3 := dk_seg dksX14_number_2 23 rfl rfl
theorem dX14_number_0 : decode cX14_number 0 = .ok (.aload_n 0, 1) := dk_42 (dk_at dksX14_number_0 0 rfl rfl)
theorem dX14_number_1 : decode cX14_number 1 = .ok (.invokevirtual 34, 3) := dk_182 0 34 (dk_at dksX14_number_0 1 rfl rfl)
theorem dX14_number_4 : decode cX14_number 4 = .ok (.bipush 48, 2) := dk_16 48 (dk_at dksX14_number_0 4 rfl rfl)
theorem dX14_number_6 : decode cX14_number 6 = .ok (.bipush 57, 2) := dk_16 57 (dk_at dksX14_number_0 6 rfl rfl)
theorem dX14_number_8 : decode cX14_number 8 = .ok (.invokestatic 54, 3) := dk_184 0 54 (dk_at dksX14_number_0 8 rfl rfl)
theorem dX14_number_11 : decode cX14_number 11 = .ok (.ifCond .ne 8, 3) := dk_154 0 8 (dk_at dksX14_number_0 11 rfl rfl)
theorem dX14_number_14 : decode cX14_number 14 = .ok (.aload_n 0, 1) := dk_42 (dk_at dksX14_number_0 14 rfl rfl)
theorem dX14_number_15 : decode cX14_number 15 = .ok (.invokevirtual 38, 3) := dk_182 0 38 (dk_at dksX14_number_0 15 rfl rfl)
theorem dX14_number_18 : decode cX14_number 18 = .ok (.athrow, 1) := dk_191 (dk_at dksX14_number_0 18 rfl rfl)
theorem dX14_number_19 : decode cX14_number 19 = .ok (.iconst 0, 1) := dk_3 (dk_at dksX14_number_0 19 rfl rfl)
theorem dX14_number_20 : decode cX14_number 20 = .ok (.istore_n 1, 1) := dk_60 (dk_at dksX14_number_0 20 rfl rfl)
theorem dX14_number_21 : decode cX14_number 21 = .ok (.iconst 0, 1) := dk_3 (dk_at dksX14_number_0 21 rfl rfl)
theorem dX14_number_22 : decode cX14_number 22 = .ok (.istore_n 2, 1) := dk_61 (dk_at dksX14_number_0 22 rfl rfl)
theorem dX14_number_23 : decode cX14_number 23 = .ok (.iload_n 2, 1) := dk_28 (dk_at dksX14_number_0 23 rfl rfl)
theorem dX14_number_24 : decode cX14_number 24 = .ok (.iconst 2, 1) := dk_5 (dk_at dksX14_number_1 0 rfl rfl)
theorem dX14_number_25 : decode cX14_number 25 = .ok (.if_icmp .ge 48, 3) := dk_162 0 48 (dk_at dksX14_number_1 1 rfl rfl)
theorem dX14_number_28 : decode cX14_number 28 = .ok (.aload_n 0, 1) := dk_42 (dk_at dksX14_number_1 4 rfl rfl)
theorem dX14_number_29 : decode cX14_number 29 = .ok (.invokevirtual 34, 3) := dk_182 0 34 (dk_at dksX14_number_1 5 rfl rfl)
theorem dX14_number_32 : decode cX14_number 32 = .ok (.bipush 48, 2) := dk_16 48 (dk_at dksX14_number_1 8 rfl rfl)
theorem dX14_number_34 : decode cX14_number 34 = .ok (.bipush 57, 2) := dk_16 57 (dk_at dksX14_number_1 10 rfl rfl)
theorem dX14_number_36 : decode cX14_number 36 = .ok (.invokestatic 54, 3) := dk_184 0 54 (dk_at dksX14_number_1 12 rfl rfl)
theorem dX14_number_39 : decode cX14_number 39 = .ok (.ifCond .eq 34, 3) := dk_153 0 34 (dk_at dksX14_number_1 15 rfl rfl)
theorem dX14_number_42 : decode cX14_number 42 = .ok (.bipush 10, 2) := dk_16 10 (dk_at dksX14_number_1 18 rfl rfl)
theorem dX14_number_44 : decode cX14_number 44 = .ok (.iload_n 1, 1) := dk_27 (dk_at dksX14_number_1 20 rfl rfl)
theorem dX14_number_45 : decode cX14_number 45 = .ok (.imul, 1) := dk_104 (dk_at dksX14_number_1 21 rfl rfl)
theorem dX14_number_46 : decode cX14_number 46 = .ok (.aload_n 0, 1) := dk_42 (dk_at dksX14_number_1 22 rfl rfl)
theorem dX14_number_47 : decode cX14_number 47 = .ok (.getfield 18, 3) := dk_180 0 18 (dk_at dksX14_number_2 0 rfl rfl)
theorem dX14_number_50 : decode cX14_number 50 = .ok (.aload_n 0, 1) := dk_42 (dk_at dksX14_number_2 3 rfl rfl)
theorem dX14_number_51 : decode cX14_number 51 = .ok (.dup, 1) := dk_89 (dk_at dksX14_number_2 4 rfl rfl)
theorem dX14_number_52 : decode cX14_number 52 = .ok (.getfield 26, 3) := dk_180 0 26 (dk_at dksX14_number_2 5 rfl rfl)
theorem dX14_number_55 : decode cX14_number 55 = .ok (.dup_x1, 1) := dk_90 (dk_at dksX14_number_2 8 rfl rfl)
theorem dX14_number_56 : decode cX14_number 56 = .ok (.iconst 1, 1) := dk_4 (dk_at dksX14_number_2 9 rfl rfl)
theorem dX14_number_57 : decode cX14_number 57 = .ok (.iadd, 1) := dk_96 (dk_at dksX14_number_2 10 rfl rfl)
theorem dX14_number_58 : decode cX14_number 58 = .ok (.putfield 26, 3) := dk_181 0 26 (dk_at dksX14_number_2 11 rfl rfl)
theorem dX14_number_61 : decode cX14_number 61 = .ok (.baload, 1) := dk_51 (dk_at dksX14_number_2 14 rfl rfl)
theorem dX14_number_62 : decode cX14_number 62 = .ok (.iadd, 1) := dk_96 (dk_at dksX14_number_2 15 rfl rfl)
theorem dX14_number_63 : decode cX14_number 63 = .ok (.bipush 48, 2) := dk_16 48 (dk_at dksX14_number_2 16 rfl rfl)
theorem dX14_number_65 : decode cX14_number 65 = .ok (.isub, 1) := dk_100 (dk_at dksX14_number_2 18 rfl rfl)
theorem dX14_number_66 : decode cX14_number 66 = .ok (.istore_n 1, 1) := dk_60 (dk_at dksX14_number_2 19 rfl rfl)
theorem dX14_number_67 : decode cX14_number 67 = .ok (.iinc 2 1, 3) := dk_132 2 1 (dk_at dksX14_number_2 20 rfl rfl)
theorem dX14_number_70 : decode cX14_number 70 = .ok (.goto (-47), 3) := dk_167 255 209 (dk_at dksX14_number_3 0 rfl rfl)
theorem dX14_number_73 : decode cX14_number 73 = .ok (.iload_n 1, 1) := dk_27 (dk_at dksX14_number_3 3 rfl rfl)
theorem dX14_number_74 : decode cX14_number 74 = .ok (.ireturn, 1) := dk_172 (dk_at dksX14_number_3 4 rfl rfl)
abbrev cX14_some : ByteArray := prog_12_method_10_code
def yX14_some : MethodName := ⟨RX14, "some", "()LFuneralDebts$Test;"⟩
def dkwX14_some_2 : List UInt8 := [182, 0, 99, 182, 0, 93, 87, 167, 255, 225, 43, 176]
abbrev dktX14_some_2 : List UInt8 := dkwX14_some_2 ++ []
def dkwX14_some_1 : List UInt8 := [182, 0, 34, 16, 124, 160, 0, 28, 42, 89, 180, 0, 26, 4, 96, 181, 0, 26, 43, 180, 0, 89, 42]
abbrev dktX14_some_1 : List UInt8 := dkwX14_some_1 ++ dktX14_some_2
def dkwX14_some_0 : List UInt8 := [187, 0, 84, 89, 3, 183, 0, 86, 76, 43, 180, 0, 89, 42, 182, 0, 99, 182, 0, 93, 87, 42]
abbrev dktX14_some_0 : List UInt8 := dkwX14_some_0 ++ dktX14_some_1
theorem dksX14_some_0 : cX14_some.data.toList.drop 0 = dktX14_some_0 := by decide +kernel
theorem dksX14_some_1 : cX14_some.data.toList.drop 22 = dktX14_some_1 := dk_seg dksX14_some_0 22 rfl rfl
theorem dksX14_some_2 : cX14_some.data.toList.drop 45 = dktX14_some_2 := dk_seg dksX14_some_1 23 rfl rfl
theorem dX14_some_0 : decode cX14_some 0 = .ok (.new 84, 3) := dk_187 0 84 (dk_at dksX14_some_0 0 rfl rfl)
theorem dX14_some_3 : decode cX14_some 3 = .ok (.dup, 1) := dk_89 (dk_at dksX14_some_0 3 rfl rfl)
theorem dX14_some_4 : decode cX14_some 4 = .ok (.iconst 0, 1) := dk_3 (dk_at dksX14_some_0 4 rfl rfl)
theorem dX14_some_5 : decode cX14_some 5 = .ok (.invokespecial 86, 3) := dk_183 0 86 (dk_at dksX14_some_0 5 rfl rfl)
theorem dX14_some_8 : decode cX14_some 8 = .ok (.astore_n 1, 1) := dk_76 (dk_at dksX14_some_0 8 rfl rfl)
theorem dX14_some_9 : decode cX14_some 9 = .ok (.aload_n 1, 1) := dk_43 (dk_at dksX14_some_0 9 rfl rfl)
theorem dX14_some_10 : decode cX14_some 10 = .ok (.getfield 89, 3) := dk_180 0 89 (dk_at dksX14_some_0 10 rfl rfl)
theorem dX14_some_13 : decode cX14_some 13 = .ok (.aload_n 0, 1) := dk_42 (dk_at dksX14_some_0 13 rfl rfl)
theorem dX14_some_14 : decode cX14_some 14 = .ok (.invokevirtual 99, 3) := dk_182 0 99 (dk_at dksX14_some_0 14 rfl rfl)
theorem dX14_some_17 : decode cX14_some 17 = .ok (.invokevirtual 93, 3) := dk_182 0 93 (dk_at dksX14_some_0 17 rfl rfl)
theorem dX14_some_20 : decode cX14_some 20 = .ok (.pop, 1) := dk_87 (dk_at dksX14_some_0 20 rfl rfl)
theorem dX14_some_21 : decode cX14_some 21 = .ok (.aload_n 0, 1) := dk_42 (dk_at dksX14_some_0 21 rfl rfl)
theorem dX14_some_22 : decode cX14_some 22 = .ok (.invokevirtual 34, 3) := dk_182 0 34 (dk_at dksX14_some_1 0 rfl rfl)
theorem dX14_some_25 : decode cX14_some 25 = .ok (.bipush 124, 2) := dk_16 124 (dk_at dksX14_some_1 3 rfl rfl)
theorem dX14_some_27 : decode cX14_some 27 = .ok (.if_icmp .ne 28, 3) := dk_160 0 28 (dk_at dksX14_some_1 5 rfl rfl)
theorem dX14_some_30 : decode cX14_some 30 = .ok (.aload_n 0, 1) := dk_42 (dk_at dksX14_some_1 8 rfl rfl)
theorem dX14_some_31 : decode cX14_some 31 = .ok (.dup, 1) := dk_89 (dk_at dksX14_some_1 9 rfl rfl)
theorem dX14_some_32 : decode cX14_some 32 = .ok (.getfield 26, 3) := dk_180 0 26 (dk_at dksX14_some_1 10 rfl rfl)
theorem dX14_some_35 : decode cX14_some 35 = .ok (.iconst 1, 1) := dk_4 (dk_at dksX14_some_1 13 rfl rfl)
theorem dX14_some_36 : decode cX14_some 36 = .ok (.iadd, 1) := dk_96 (dk_at dksX14_some_1 14 rfl rfl)
theorem dX14_some_37 : decode cX14_some 37 = .ok (.putfield 26, 3) := dk_181 0 26 (dk_at dksX14_some_1 15 rfl rfl)
theorem dX14_some_40 : decode cX14_some 40 = .ok (.aload_n 1, 1) := dk_43 (dk_at dksX14_some_1 18 rfl rfl)
theorem dX14_some_41 : decode cX14_some 41 = .ok (.getfield 89, 3) := dk_180 0 89 (dk_at dksX14_some_1 19 rfl rfl)
theorem dX14_some_44 : decode cX14_some 44 = .ok (.aload_n 0, 1) := dk_42 (dk_at dksX14_some_1 22 rfl rfl)
theorem dX14_some_45 : decode cX14_some 45 = .ok (.invokevirtual 99, 3) := dk_182 0 99 (dk_at dksX14_some_2 0 rfl rfl)
theorem dX14_some_48 : decode cX14_some 48 = .ok (.invokevirtual 93, 3) := dk_182 0 93 (dk_at dksX14_some_2 3 rfl rfl)
theorem dX14_some_51 : decode cX14_some 51 = .ok (.pop, 1) := dk_87 (dk_at dksX14_some_2 6 rfl rfl)
theorem dX14_some_52 : decode cX14_some 52 = .ok (.goto (-31), 3) := dk_167 255 225 (dk_at dksX14_some_2 7 rfl rfl)
theorem dX14_some_55 : decode cX14_some 55 = .ok (.aload_n 1, 1) := dk_43 (dk_at dksX14_some_2 10 rfl rfl)
theorem dX14_some_56 : decode cX14_some 56 = .ok (.areturn, 1) := dk_176 (dk_at dksX14_some_2 11 rfl rfl)
abbrev cX14_all : ByteArray := prog_12_method_9_code
def yX14_all : MethodName := ⟨RX14, "all", "()LFuneralDebts$Test;"⟩
def dkwX14_all_2 : List UInt8 := [182, 0, 66, 182, 0, 93, 87, 167, 255, 225, 43, 176]
abbrev dktX14_all_2 : List UInt8 := dkwX14_all_2 ++ []
def dkwX14_all_1 : List UInt8 := [182, 0, 34, 16, 38, 160, 0, 28, 42, 89, 180, 0, 26, 4, 96, 181, 0, 26, 43, 180, 0, 89, 42]
abbrev dktX14_all_1 : List UInt8 := dkwX14_all_1 ++ dktX14_all_2
def dkwX14_all_0 : List UInt8 := [187, 0, 84, 89, 4, 183, 0, 86, 76, 43, 180, 0, 89, 42, 182, 0, 66, 182, 0, 93, 87, 42]
abbrev dktX14_all_0 : List UInt8 := dkwX14_all_0 ++ dktX14_all_1
theorem dksX14_all_0 : cX14_all.data.toList.drop 0 = dktX14_all_0 := by decide +kernel
theorem dksX14_all_1 : cX14_all.data.toList.drop 22 = dktX14_all_1 := dk_seg dksX14_all_0 22 rfl rfl
theorem dksX14_all_2 : cX14_all.data.toList.drop 45 = dktX14_all_2 := dk_seg dksX14_all_1 23 rfl rfl
theorem dX14_all_0 : decode cX14_all 0 = .ok (.new 84, 3) := dk_187 0 84 (dk_at dksX14_all_0 0 rfl rfl)
theorem dX14_all_3 : decode cX14_all 3 = .ok (.dup, 1) := dk_89 (dk_at dksX14_all_0 3 rfl rfl)
theorem dX14_all_4 : decode cX14_all 4 = .ok (.iconst 1, 1) := dk_4 (dk_at dksX14_all_0 4 rfl rfl)
theorem dX14_all_5 : decode cX14_all 5 = .ok (.invokespecial 86, 3) := dk_183 0 86 (dk_at dksX14_all_0 5 rfl rfl)
theorem dX14_all_8 : decode cX14_all 8 = .ok (.astore_n 1, 1) := dk_76 (dk_at dksX14_all_0 8 rfl rfl)
theorem dX14_all_9 : decode cX14_all 9 = .ok (.aload_n 1, 1) := dk_43 (dk_at dksX14_all_0 9 rfl rfl)
theorem dX14_all_10 : decode cX14_all 10 = .ok (.getfield 89, 3) := dk_180 0 89 (dk_at dksX14_all_0 10 rfl rfl)
theorem dX14_all_13 : decode cX14_all 13 = .ok (.aload_n 0, 1) := dk_42 (dk_at dksX14_all_0 13 rfl rfl)
theorem dX14_all_14 : decode cX14_all 14 = .ok (.invokevirtual 66, 3) := dk_182 0 66 (dk_at dksX14_all_0 14 rfl rfl)
theorem dX14_all_17 : decode cX14_all 17 = .ok (.invokevirtual 93, 3) := dk_182 0 93 (dk_at dksX14_all_0 17 rfl rfl)
theorem dX14_all_20 : decode cX14_all 20 = .ok (.pop, 1) := dk_87 (dk_at dksX14_all_0 20 rfl rfl)
theorem dX14_all_21 : decode cX14_all 21 = .ok (.aload_n 0, 1) := dk_42 (dk_at dksX14_all_0 21 rfl rfl)
theorem dX14_all_22 : decode cX14_all 22 = .ok (.invokevirtual 34, 3) := dk_182 0 34 (dk_at dksX14_all_1 0 rfl rfl)
theorem dX14_all_25 : decode cX14_all 25 = .ok (.bipush 38, 2) := dk_16 38 (dk_at dksX14_all_1 3 rfl rfl)
theorem dX14_all_27 : decode cX14_all 27 = .ok (.if_icmp .ne 28, 3) := dk_160 0 28 (dk_at dksX14_all_1 5 rfl rfl)
theorem dX14_all_30 : decode cX14_all 30 = .ok (.aload_n 0, 1) := dk_42 (dk_at dksX14_all_1 8 rfl rfl)
theorem dX14_all_31 : decode cX14_all 31 = .ok (.dup, 1) := dk_89 (dk_at dksX14_all_1 9 rfl rfl)
theorem dX14_all_32 : decode cX14_all 32 = .ok (.getfield 26, 3) := dk_180 0 26 (dk_at dksX14_all_1 10 rfl rfl)
theorem dX14_all_35 : decode cX14_all 35 = .ok (.iconst 1, 1) := dk_4 (dk_at dksX14_all_1 13 rfl rfl)
theorem dX14_all_36 : decode cX14_all 36 = .ok (.iadd, 1) := dk_96 (dk_at dksX14_all_1 14 rfl rfl)
theorem dX14_all_37 : decode cX14_all 37 = .ok (.putfield 26, 3) := dk_181 0 26 (dk_at dksX14_all_1 15 rfl rfl)
theorem dX14_all_40 : decode cX14_all 40 = .ok (.aload_n 1, 1) := dk_43 (dk_at dksX14_all_1 18 rfl rfl)
theorem dX14_all_41 : decode cX14_all 41 = .ok (.getfield 89, 3) := dk_180 0 89 (dk_at dksX14_all_1 19 rfl rfl)
theorem dX14_all_44 : decode cX14_all 44 = .ok (.aload_n 0, 1) := dk_42 (dk_at dksX14_all_1 22 rfl rfl)
theorem dX14_all_45 : decode cX14_all 45 = .ok (.invokevirtual 66, 3) := dk_182 0 66 (dk_at dksX14_all_2 0 rfl rfl)
theorem dX14_all_48 : decode cX14_all 48 = .ok (.invokevirtual 93, 3) := dk_182 0 93 (dk_at dksX14_all_2 3 rfl rfl)
theorem dX14_all_51 : decode cX14_all 51 = .ok (.pop, 1) := dk_87 (dk_at dksX14_all_2 6 rfl rfl)
theorem dX14_all_52 : decode cX14_all 52 = .ok (.goto (-31), 3) := dk_167 255 225 (dk_at dksX14_all_2 7 rfl rfl)
theorem dX14_all_55 : decode cX14_all 55 = .ok (.aload_n 1, 1) := dk_43 (dk_at dksX14_all_2 10 rfl rfl)
theorem dX14_all_56 : decode cX14_all 56 = .ok (.areturn, 1) := dk_176 (dk_at dksX14_all_2 11 rfl rfl)
abbrev cX14_factor : ByteArray := prog_12_method_8_code
def yX14_factor : MethodName := ⟨RX14, "factor", "()LFuneralDebts$Test;"⟩
def dkwX14_factor_7 : List UInt8 := [27, 28, 42, 182, 0, 78, 183, 0, 81, 176, 42, 182, 0, 38, 191]
abbrev dktX14_factor_7 : List UInt8 := dkwX14_factor_7 ++ []
def dkwX14_factor_6 : List UInt8 := [16, 62, 159, 0, 8, 42, 182, 0, 38, 191, 42, 89, 180, 0, 26, 4, 96, 181, 0, 26, 187, 0, 76, 89]
abbrev dktX14_factor_6 : List UInt8 := dkwX14_factor_6 ++ dktX14_factor_7
def dkwX14_factor_5 : List UInt8 := [181, 0, 26, 51, 60, 42, 182, 0, 34, 61, 28, 16, 60, 159, 0, 20, 28, 16, 61, 159, 0, 14, 28]
abbrev dktX14_factor_5 : List UInt8 := dkwX14_factor_5 ++ dktX14_factor_6
def dkwX14_factor_4 : List UInt8 := [180, 0, 58, 4, 100, 181, 0, 58, 43, 176, 42, 180, 0, 18, 42, 89, 180, 0, 26, 90, 4, 96]
abbrev dktX14_factor_4 : List UInt8 := dkwX14_factor_4 ++ dktX14_factor_5
def dkwX14_factor_3 : List UInt8 := [181, 0, 58, 43, 176, 42, 182, 0, 61, 42, 182, 0, 73, 76, 42, 16, 41, 182, 0, 51, 42, 89]
abbrev dktX14_factor_3 : List UInt8 := dkwX14_factor_3 ++ dktX14_factor_4
def dkwX14_factor_2 : List UInt8 := [42, 182, 0, 61, 187, 0, 64, 89, 42, 182, 0, 66, 183, 0, 70, 76, 42, 89, 180, 0, 58, 4, 100]
abbrev dktX14_factor_2 : List UInt8 := dkwX14_factor_2 ++ dktX14_factor_3
def dkwX14_factor_1 : List UInt8 := [171, 0, 0, 0, 0, 0, 0, 200, 0, 0, 0, 8, 0, 0, 0, 33, 0, 0, 0, 76, 0, 0, 0, 40, 0, 0, 0, 104, 0, 0, 0, 100, 0, 0, 0, 131, 0, 0, 0, 107, 0, 0, 0, 131, 0, 0, 0, 108, 0, 0, 0, 131, 0, 0, 0, 112, 0, 0, 0, 131, 0, 0, 0, 118, 0, 0, 0, 131, 0, 0, 0, 121, 0, 0, 0, 131]
abbrev dktX14_factor_1 : List UInt8 := dkwX14_factor_1 ++ dktX14_factor_2
def dkwX14_factor_0 : List UInt8 := [42, 182, 0, 34]
abbrev dktX14_factor_0 : List UInt8 := dkwX14_factor_0 ++ dktX14_factor_1
theorem dksX14_factor_0 : cX14_factor.data.toList.drop 0 = dktX14_factor_0 := by decide +kernel
theorem dksX14_factor_1 : cX14_factor.data.toList.drop 4 = dktX14_factor_1 := dk_seg dksX14_factor_0 4 rfl rfl
theorem dksX14_factor_2 : cX14_factor.data.toList.drop 80 = dktX14_factor_2 := dk_seg dksX14_factor_1 76 rfl rfl
theorem dksX14_factor_3 : cX14_factor.data.toList.drop 103 = dktX14_factor_3 := dk_seg dksX14_factor_2 23 rfl rfl
theorem dksX14_factor_4 : cX14_factor.data.toList.drop 125 = dktX14_factor_4 := dk_seg dksX14_factor_3 22 rfl rfl
theorem dksX14_factor_5 : cX14_factor.data.toList.drop 147 = dktX14_factor_5 := dk_seg dksX14_factor_4 22 rfl rfl
theorem dksX14_factor_6 : cX14_factor.data.toList.drop 170 = dktX14_factor_6 := dk_seg dksX14_factor_5 23 rfl rfl
theorem dksX14_factor_7 : cX14_factor.data.toList.drop 194 = dktX14_factor_7 := dk_seg dksX14_factor_6 24 rfl rfl
theorem dX14_factor_0 : decode cX14_factor 0 = .ok (.aload_n 0, 1) := dk_42 (dk_at dksX14_factor_0 0 rfl rfl)
theorem dX14_factor_1 : decode cX14_factor 1 = .ok (.invokevirtual 34, 3) := dk_182 0 34 (dk_at dksX14_factor_0 1 rfl rfl)
theorem dX14_factor_4 : decode cX14_factor 4 = .ok (.lookupswitch 200 #[(33, 76), (40, 104), (100, 131), (107, 131), (108, 131), (112, 131), (118, 131), (121, 131)], 76) := by decide +kernel
theorem dX14_factor_80 : decode cX14_factor 80 = .ok (.aload_n 0, 1) := dk_42 (dk_at dksX14_factor_2 0 rfl rfl)
theorem dX14_factor_81 : decode cX14_factor 81 = .ok (.invokevirtual 61, 3) := dk_182 0 61 (dk_at dksX14_factor_2 1 rfl rfl)
theorem dX14_factor_84 : decode cX14_factor 84 = .ok (.new 64, 3) := dk_187 0 64 (dk_at dksX14_factor_2 4 rfl rfl)
theorem dX14_factor_87 : decode cX14_factor 87 = .ok (.dup, 1) := dk_89 (dk_at dksX14_factor_2 7 rfl rfl)
theorem dX14_factor_88 : decode cX14_factor 88 = .ok (.aload_n 0, 1) := dk_42 (dk_at dksX14_factor_2 8 rfl rfl)
theorem dX14_factor_89 : decode cX14_factor 89 = .ok (.invokevirtual 66, 3) := dk_182 0 66 (dk_at dksX14_factor_2 9 rfl rfl)
theorem dX14_factor_92 : decode cX14_factor 92 = .ok (.invokespecial 70, 3) := dk_183 0 70 (dk_at dksX14_factor_2 12 rfl rfl)
theorem dX14_factor_95 : decode cX14_factor 95 = .ok (.astore_n 1, 1) := dk_76 (dk_at dksX14_factor_2 15 rfl rfl)
theorem dX14_factor_96 : decode cX14_factor 96 = .ok (.aload_n 0, 1) := dk_42 (dk_at dksX14_factor_2 16 rfl rfl)
theorem dX14_factor_97 : decode cX14_factor 97 = .ok (.dup, 1) := dk_89 (dk_at dksX14_factor_2 17 rfl rfl)
theorem dX14_factor_98 : decode cX14_factor 98 = .ok (.getfield 58, 3) := dk_180 0 58 (dk_at dksX14_factor_2 18 rfl rfl)
theorem dX14_factor_101 : decode cX14_factor 101 = .ok (.iconst 1, 1) := dk_4 (dk_at dksX14_factor_2 21 rfl rfl)
theorem dX14_factor_102 : decode cX14_factor 102 = .ok (.isub, 1) := dk_100 (dk_at dksX14_factor_2 22 rfl rfl)
theorem dX14_factor_103 : decode cX14_factor 103 = .ok (.putfield 58, 3) := dk_181 0 58 (dk_at dksX14_factor_3 0 rfl rfl)
theorem dX14_factor_106 : decode cX14_factor 106 = .ok (.aload_n 1, 1) := dk_43 (dk_at dksX14_factor_3 3 rfl rfl)
theorem dX14_factor_107 : decode cX14_factor 107 = .ok (.areturn, 1) := dk_176 (dk_at dksX14_factor_3 4 rfl rfl)
theorem dX14_factor_108 : decode cX14_factor 108 = .ok (.aload_n 0, 1) := dk_42 (dk_at dksX14_factor_3 5 rfl rfl)
theorem dX14_factor_109 : decode cX14_factor 109 = .ok (.invokevirtual 61, 3) := dk_182 0 61 (dk_at dksX14_factor_3 6 rfl rfl)
theorem dX14_factor_112 : decode cX14_factor 112 = .ok (.aload_n 0, 1) := dk_42 (dk_at dksX14_factor_3 9 rfl rfl)
theorem dX14_factor_113 : decode cX14_factor 113 = .ok (.invokevirtual 73, 3) := dk_182 0 73 (dk_at dksX14_factor_3 10 rfl rfl)
theorem dX14_factor_116 : decode cX14_factor 116 = .ok (.astore_n 1, 1) := dk_76 (dk_at dksX14_factor_3 13 rfl rfl)
theorem dX14_factor_117 : decode cX14_factor 117 = .ok (.aload_n 0, 1) := dk_42 (dk_at dksX14_factor_3 14 rfl rfl)
theorem dX14_factor_118 : decode cX14_factor 118 = .ok (.bipush 41, 2) := dk_16 41 (dk_at dksX14_factor_3 15 rfl rfl)
theorem dX14_factor_120 : decode cX14_factor 120 = .ok (.invokevirtual 51, 3) := dk_182 0 51 (dk_at dksX14_factor_3 17 rfl rfl)
theorem dX14_factor_123 : decode cX14_factor 123 = .ok (.aload_n 0, 1) := dk_42 (dk_at dksX14_factor_3 20 rfl rfl)
theorem dX14_factor_124 : decode cX14_factor 124 = .ok (.dup, 1) := dk_89 (dk_at dksX14_factor_3 21 rfl rfl)
theorem dX14_factor_125 : decode cX14_factor 125 = .ok (.getfield 58, 3) := dk_180 0 58 (dk_at dksX14_factor_4 0 rfl rfl)
theorem dX14_factor_128 : decode cX14_factor 128 = .ok (.iconst 1, 1) := dk_4 (dk_at dksX14_factor_4 3 rfl rfl)
theorem dX14_factor_129 : decode cX14_factor 129 = .ok (.isub, 1) := dk_100 (dk_at dksX14_factor_4 4 rfl rfl)
theorem dX14_factor_130 : decode cX14_factor 130 = .ok (.putfield 58, 3) := dk_181 0 58 (dk_at dksX14_factor_4 5 rfl rfl)
theorem dX14_factor_133 : decode cX14_factor 133 = .ok (.aload_n 1, 1) := dk_43 (dk_at dksX14_factor_4 8 rfl rfl)
theorem dX14_factor_134 : decode cX14_factor 134 = .ok (.areturn, 1) := dk_176 (dk_at dksX14_factor_4 9 rfl rfl)
theorem dX14_factor_135 : decode cX14_factor 135 = .ok (.aload_n 0, 1) := dk_42 (dk_at dksX14_factor_4 10 rfl rfl)
theorem dX14_factor_136 : decode cX14_factor 136 = .ok (.getfield 18, 3) := dk_180 0 18 (dk_at dksX14_factor_4 11 rfl rfl)
theorem dX14_factor_139 : decode cX14_factor 139 = .ok (.aload_n 0, 1) := dk_42 (dk_at dksX14_factor_4 14 rfl rfl)
theorem dX14_factor_140 : decode cX14_factor 140 = .ok (.dup, 1) := dk_89 (dk_at dksX14_factor_4 15 rfl rfl)
theorem dX14_factor_141 : decode cX14_factor 141 = .ok (.getfield 26, 3) := dk_180 0 26 (dk_at dksX14_factor_4 16 rfl rfl)
theorem dX14_factor_144 : decode cX14_factor 144 = .ok (.dup_x1, 1) := dk_90 (dk_at dksX14_factor_4 19 rfl rfl)
theorem dX14_factor_145 : decode cX14_factor 145 = .ok (.iconst 1, 1) := dk_4 (dk_at dksX14_factor_4 20 rfl rfl)
theorem dX14_factor_146 : decode cX14_factor 146 = .ok (.iadd, 1) := dk_96 (dk_at dksX14_factor_4 21 rfl rfl)
theorem dX14_factor_147 : decode cX14_factor 147 = .ok (.putfield 26, 3) := dk_181 0 26 (dk_at dksX14_factor_5 0 rfl rfl)
theorem dX14_factor_150 : decode cX14_factor 150 = .ok (.baload, 1) := dk_51 (dk_at dksX14_factor_5 3 rfl rfl)
theorem dX14_factor_151 : decode cX14_factor 151 = .ok (.istore_n 1, 1) := dk_60 (dk_at dksX14_factor_5 4 rfl rfl)
theorem dX14_factor_152 : decode cX14_factor 152 = .ok (.aload_n 0, 1) := dk_42 (dk_at dksX14_factor_5 5 rfl rfl)
theorem dX14_factor_153 : decode cX14_factor 153 = .ok (.invokevirtual 34, 3) := dk_182 0 34 (dk_at dksX14_factor_5 6 rfl rfl)
theorem dX14_factor_156 : decode cX14_factor 156 = .ok (.istore_n 2, 1) := dk_61 (dk_at dksX14_factor_5 9 rfl rfl)
theorem dX14_factor_157 : decode cX14_factor 157 = .ok (.iload_n 2, 1) := dk_28 (dk_at dksX14_factor_5 10 rfl rfl)
theorem dX14_factor_158 : decode cX14_factor 158 = .ok (.bipush 60, 2) := dk_16 60 (dk_at dksX14_factor_5 11 rfl rfl)
theorem dX14_factor_160 : decode cX14_factor 160 = .ok (.if_icmp .eq 20, 3) := dk_159 0 20 (dk_at dksX14_factor_5 13 rfl rfl)
theorem dX14_factor_163 : decode cX14_factor 163 = .ok (.iload_n 2, 1) := dk_28 (dk_at dksX14_factor_5 16 rfl rfl)
theorem dX14_factor_164 : decode cX14_factor 164 = .ok (.bipush 61, 2) := dk_16 61 (dk_at dksX14_factor_5 17 rfl rfl)
theorem dX14_factor_166 : decode cX14_factor 166 = .ok (.if_icmp .eq 14, 3) := dk_159 0 14 (dk_at dksX14_factor_5 19 rfl rfl)
theorem dX14_factor_169 : decode cX14_factor 169 = .ok (.iload_n 2, 1) := dk_28 (dk_at dksX14_factor_5 22 rfl rfl)
theorem dX14_factor_170 : decode cX14_factor 170 = .ok (.bipush 62, 2) := dk_16 62 (dk_at dksX14_factor_6 0 rfl rfl)
theorem dX14_factor_172 : decode cX14_factor 172 = .ok (.if_icmp .eq 8, 3) := dk_159 0 8 (dk_at dksX14_factor_6 2 rfl rfl)
theorem dX14_factor_175 : decode cX14_factor 175 = .ok (.aload_n 0, 1) := dk_42 (dk_at dksX14_factor_6 5 rfl rfl)
theorem dX14_factor_176 : decode cX14_factor 176 = .ok (.invokevirtual 38, 3) := dk_182 0 38 (dk_at dksX14_factor_6 6 rfl rfl)
theorem dX14_factor_179 : decode cX14_factor 179 = .ok (.athrow, 1) := dk_191 (dk_at dksX14_factor_6 9 rfl rfl)
theorem dX14_factor_180 : decode cX14_factor 180 = .ok (.aload_n 0, 1) := dk_42 (dk_at dksX14_factor_6 10 rfl rfl)
theorem dX14_factor_181 : decode cX14_factor 181 = .ok (.dup, 1) := dk_89 (dk_at dksX14_factor_6 11 rfl rfl)
theorem dX14_factor_182 : decode cX14_factor 182 = .ok (.getfield 26, 3) := dk_180 0 26 (dk_at dksX14_factor_6 12 rfl rfl)
theorem dX14_factor_185 : decode cX14_factor 185 = .ok (.iconst 1, 1) := dk_4 (dk_at dksX14_factor_6 15 rfl rfl)
theorem dX14_factor_186 : decode cX14_factor 186 = .ok (.iadd, 1) := dk_96 (dk_at dksX14_factor_6 16 rfl rfl)
theorem dX14_factor_187 : decode cX14_factor 187 = .ok (.putfield 26, 3) := dk_181 0 26 (dk_at dksX14_factor_6 17 rfl rfl)
theorem dX14_factor_190 : decode cX14_factor 190 = .ok (.new 76, 3) := dk_187 0 76 (dk_at dksX14_factor_6 20 rfl rfl)
theorem dX14_factor_193 : decode cX14_factor 193 = .ok (.dup, 1) := dk_89 (dk_at dksX14_factor_6 23 rfl rfl)
theorem dX14_factor_194 : decode cX14_factor 194 = .ok (.iload_n 1, 1) := dk_27 (dk_at dksX14_factor_7 0 rfl rfl)
theorem dX14_factor_195 : decode cX14_factor 195 = .ok (.iload_n 2, 1) := dk_28 (dk_at dksX14_factor_7 1 rfl rfl)
theorem dX14_factor_196 : decode cX14_factor 196 = .ok (.aload_n 0, 1) := dk_42 (dk_at dksX14_factor_7 2 rfl rfl)
theorem dX14_factor_197 : decode cX14_factor 197 = .ok (.invokevirtual 78, 3) := dk_182 0 78 (dk_at dksX14_factor_7 3 rfl rfl)
theorem dX14_factor_200 : decode cX14_factor 200 = .ok (.invokespecial 81, 3) := dk_183 0 81 (dk_at dksX14_factor_7 6 rfl rfl)
theorem dX14_factor_203 : decode cX14_factor 203 = .ok (.areturn, 1) := dk_176 (dk_at dksX14_factor_7 9 rfl rfl)
theorem dX14_factor_204 : decode cX14_factor 204 = .ok (.aload_n 0, 1) := dk_42 (dk_at dksX14_factor_7 10 rfl rfl)
theorem dX14_factor_205 : decode cX14_factor 205 = .ok (.invokevirtual 38, 3) := dk_182 0 38 (dk_at dksX14_factor_7 11 rfl rfl)
theorem dX14_factor_208 : decode cX14_factor 208 = .ok (.athrow, 1) := dk_191 (dk_at dksX14_factor_7 14 rfl rfl)
abbrev cX14_deeper : ByteArray := prog_12_method_7_code
def yX14_deeper : MethodName := ⟨RX14, "deeper", "()V"⟩
def dkwX14_deeper_1 : List UInt8 := [89, 180, 0, 26, 4, 96, 181, 0, 26, 177]
abbrev dktX14_deeper_1 : List UInt8 := dkwX14_deeper_1 ++ []
def dkwX14_deeper_0 : List UInt8 := [42, 180, 0, 58, 7, 160, 0, 8, 42, 182, 0, 38, 191, 42, 89, 180, 0, 58, 4, 96, 181, 0, 58, 42]
abbrev dktX14_deeper_0 : List UInt8 := dkwX14_deeper_0 ++ dktX14_deeper_1
theorem dksX14_deeper_0 : cX14_deeper.data.toList.drop 0 = dktX14_deeper_0 := by decide +kernel
theorem dksX14_deeper_1 : cX14_deeper.data.toList.drop 24 = dktX14_deeper_1 := dk_seg dksX14_deeper_0 24 rfl rfl
theorem dX14_deeper_0 : decode cX14_deeper 0 = .ok (.aload_n 0, 1) := dk_42 (dk_at dksX14_deeper_0 0 rfl rfl)
theorem dX14_deeper_1 : decode cX14_deeper 1 = .ok (.getfield 58, 3) := dk_180 0 58 (dk_at dksX14_deeper_0 1 rfl rfl)
theorem dX14_deeper_4 : decode cX14_deeper 4 = .ok (.iconst 4, 1) := dk_7 (dk_at dksX14_deeper_0 4 rfl rfl)
theorem dX14_deeper_5 : decode cX14_deeper 5 = .ok (.if_icmp .ne 8, 3) := dk_160 0 8 (dk_at dksX14_deeper_0 5 rfl rfl)
theorem dX14_deeper_8 : decode cX14_deeper 8 = .ok (.aload_n 0, 1) := dk_42 (dk_at dksX14_deeper_0 8 rfl rfl)
theorem dX14_deeper_9 : decode cX14_deeper 9 = .ok (.invokevirtual 38, 3) := dk_182 0 38 (dk_at dksX14_deeper_0 9 rfl rfl)
theorem dX14_deeper_12 : decode cX14_deeper 12 = .ok (.athrow, 1) := dk_191 (dk_at dksX14_deeper_0 12 rfl rfl)
theorem dX14_deeper_13 : decode cX14_deeper 13 = .ok (.aload_n 0, 1) := dk_42 (dk_at dksX14_deeper_0 13 rfl rfl)
theorem dX14_deeper_14 : decode cX14_deeper 14 = .ok (.dup, 1) := dk_89 (dk_at dksX14_deeper_0 14 rfl rfl)
theorem dX14_deeper_15 : decode cX14_deeper 15 = .ok (.getfield 58, 3) := dk_180 0 58 (dk_at dksX14_deeper_0 15 rfl rfl)
theorem dX14_deeper_18 : decode cX14_deeper 18 = .ok (.iconst 1, 1) := dk_4 (dk_at dksX14_deeper_0 18 rfl rfl)
theorem dX14_deeper_19 : decode cX14_deeper 19 = .ok (.iadd, 1) := dk_96 (dk_at dksX14_deeper_0 19 rfl rfl)
theorem dX14_deeper_20 : decode cX14_deeper 20 = .ok (.putfield 58, 3) := dk_181 0 58 (dk_at dksX14_deeper_0 20 rfl rfl)
theorem dX14_deeper_23 : decode cX14_deeper 23 = .ok (.aload_n 0, 1) := dk_42 (dk_at dksX14_deeper_0 23 rfl rfl)
theorem dX14_deeper_24 : decode cX14_deeper 24 = .ok (.dup, 1) := dk_89 (dk_at dksX14_deeper_1 0 rfl rfl)
theorem dX14_deeper_25 : decode cX14_deeper 25 = .ok (.getfield 26, 3) := dk_180 0 26 (dk_at dksX14_deeper_1 1 rfl rfl)
theorem dX14_deeper_28 : decode cX14_deeper 28 = .ok (.iconst 1, 1) := dk_4 (dk_at dksX14_deeper_1 4 rfl rfl)
theorem dX14_deeper_29 : decode cX14_deeper 29 = .ok (.iadd, 1) := dk_96 (dk_at dksX14_deeper_1 5 rfl rfl)
theorem dX14_deeper_30 : decode cX14_deeper 30 = .ok (.putfield 26, 3) := dk_181 0 26 (dk_at dksX14_deeper_1 6 rfl rfl)
theorem dX14_deeper_33 : decode cX14_deeper 33 = .ok (.return_, 1) := dk_177 (dk_at dksX14_deeper_1 9 rfl rfl)
theorem q92 : (Jvm.Cond.initialized "FuneralDebts$Reader") ∈ lw_all := lw_g (lw_at lw_m1 21 rfl) rfl
theorem q195 : (Jvm.Cond.fieldLinkNest "FuneralDebts$Reader" (106 : Nat) "FuneralDebts$Parish" "clauses" "Ljava/util/ArrayList;" "FuneralDebts") ∈ lw_tbl := lw_at lw_m1 124 rfl
theorem q196 : (Jvm.Cond.fieldLinkNest "FuneralDebts$Reader" (127 : Nat) "FuneralDebts$Parish" "many" "I" "FuneralDebts") ∈ lw_tbl := lw_at lw_m1 125 rfl
theorem q198 : (Jvm.Cond.fieldLinkNest "FuneralDebts$Reader" (124 : Nat) "FuneralDebts$Parish" "fall" "I" "FuneralDebts") ∈ lw_tbl := lw_at lw_m1 127 rfl
theorem q708 : (Jvm.Cond.instantiable "FuneralDebts$Reader" (5 : Nat)) ∈ lw_all := lw_g (lw_at lw_m3 157 rfl) rfl
theorem q710 : (Jvm.Cond.instanceMethod ({ cls := "FuneralDebts$Reader", name := "<init>", desc := "([BI)V" } : Jvm.MethodName)) ∈ lw_all := lw_g (lw_at lw_m3 159 rfl) rfl
theorem q711 : (Jvm.Cond.code ({ cls := "FuneralDebts$Reader", name := "<init>", desc := "([BI)V" } : Jvm.MethodName) prog_12_method_1_code (3 : Nat) (Option.none : Option Jvm.ClassFile.FieldType)) ∈ lw_all := lw_g (lw_at lw_m3 160 rfl) rfl
theorem q712 : (Jvm.Cond.methodLink "FuneralDebts$Reader" (3 : Nat) ({ cls := "java/lang/Object", name := "<init>", desc := "()V" } : Jvm.MethodName)) ∈ lw_all := lw_g (lw_at lw_m3 161 rfl) rfl
theorem q713 : (Jvm.Cond.classLink "FuneralDebts$Reader" (9 : Nat) "FuneralDebts$Parish") ∈ lw_all := lw_g (lw_at lw_m3 162 rfl) rfl
theorem q714 : (Jvm.Cond.methodLinkNest "FuneralDebts$Reader" (11 : Nat) ({ cls := "FuneralDebts$Parish", name := "<init>", desc := "()V" } : Jvm.MethodName) "FuneralDebts") ∈ lw_tbl := lw_at lw_m3 163 rfl
theorem q715 : (Jvm.Cond.fieldLink "FuneralDebts$Reader" (18 : Nat) "FuneralDebts$Reader" "text" "[B") ∈ lw_all := lw_g (lw_at lw_m3 164 rfl) rfl
theorem q716 : (Jvm.Cond.fieldLink "FuneralDebts$Reader" (22 : Nat) "FuneralDebts$Reader" "size" "I") ∈ lw_all := lw_g (lw_at lw_m3 165 rfl) rfl
theorem q717 : (Jvm.Cond.fieldLink "FuneralDebts$Reader" (26 : Nat) "FuneralDebts$Reader" "at" "I") ∈ lw_all := lw_g (lw_at lw_m3 166 rfl) rfl
theorem q718 : (Jvm.Cond.fieldLink "FuneralDebts$Reader" (58 : Nat) "FuneralDebts$Reader" "deep" "I") ∈ lw_all := lw_g (lw_at lw_m3 167 rfl) rfl
theorem q719 : (Jvm.Cond.fieldLink "FuneralDebts$Reader" (12 : Nat) "FuneralDebts$Reader" "read" "LFuneralDebts$Parish;") ∈ lw_all := lw_g (lw_at lw_m3 168 rfl) rfl
theorem q720 : (Jvm.Cond.laysFinal "FuneralDebts$Reader" "FuneralDebts$Reader" "text" "[B") ∈ lw_all := lw_g (lw_at lw_m3 169 rfl) rfl
theorem q721 : (Jvm.Cond.soleField "FuneralDebts$Reader" "text") ∈ lw_all := lw_g (lw_at lw_m3 170 rfl) rfl
theorem q722 : (Jvm.Cond.laysFinal "FuneralDebts$Reader" "FuneralDebts$Reader" "size" "I") ∈ lw_all := lw_g (lw_at lw_m3 171 rfl) rfl
theorem q723 : (Jvm.Cond.soleField "FuneralDebts$Reader" "size") ∈ lw_all := lw_g (lw_at lw_m3 172 rfl) rfl
theorem q724 : (Jvm.Cond.lays "FuneralDebts$Reader" "FuneralDebts$Reader" "at" "I") ∈ lw_all := lw_g (lw_at lw_m3 173 rfl) rfl
theorem q725 : (Jvm.Cond.soleField "FuneralDebts$Reader" "at") ∈ lw_all := lw_g (lw_at lw_m3 174 rfl) rfl
theorem q726 : (Jvm.Cond.lays "FuneralDebts$Reader" "FuneralDebts$Reader" "deep" "I") ∈ lw_all := lw_g (lw_at lw_m3 175 rfl) rfl
theorem q727 : (Jvm.Cond.soleField "FuneralDebts$Reader" "deep") ∈ lw_all := lw_g (lw_at lw_m3 176 rfl) rfl
theorem q728 : (Jvm.Cond.laysFinal "FuneralDebts$Reader" "FuneralDebts$Reader" "read" "LFuneralDebts$Parish;") ∈ lw_all := lw_g (lw_at lw_m3 177 rfl) rfl
theorem q729 : (Jvm.Cond.soleField "FuneralDebts$Reader" "read") ∈ lw_all := lw_g (lw_at lw_m3 178 rfl) rfl
theorem q730 : (Jvm.Cond.superclass "FuneralDebts$Reader" "java/lang/Object") ∈ lw_all := lw_g (lw_at lw_m3 179 rfl) rfl
theorem q732 : (Jvm.Cond.instanceMethod ({ cls := "FuneralDebts$Reader", name := "whole", desc := "()LFuneralDebts$Parish;" } : Jvm.MethodName)) ∈ lw_all := lw_g (lw_at lw_m3 181 rfl) rfl
theorem q733 : (Jvm.Cond.selects "FuneralDebts$Reader" ({ cls := "FuneralDebts$Reader", name := "whole", desc := "()LFuneralDebts$Parish;" } : Jvm.MethodName) ({ cls := "FuneralDebts$Reader", name := "whole", desc := "()LFuneralDebts$Parish;" } : Jvm.MethodName)) ∈ lw_all := lw_g (lw_at lw_m3 182 rfl) rfl
theorem q734 : (Jvm.Cond.code ({ cls := "FuneralDebts$Reader", name := "whole", desc := "()LFuneralDebts$Parish;" } : Jvm.MethodName) prog_12_method_13_code (1 : Nat) (Option.some (Jvm.ClassFile.FieldType.object "FuneralDebts$Parish"))) ∈ lw_all := lw_g (lw_at lw_m3 183 rfl) rfl
theorem q735 : (Jvm.Cond.methodLink "FuneralDebts$Reader" (130 : Nat) ({ cls := "FuneralDebts$Reader", name := "clause", desc := "()V" } : Jvm.MethodName)) ∈ lw_all := lw_g (lw_at lw_m3 184 rfl) rfl
theorem q736 : (Jvm.Cond.privateMethod ({ cls := "FuneralDebts$Reader", name := "clause", desc := "()V" } : Jvm.MethodName)) ∈ lw_tbl := lw_at lw_m3 185 rfl
theorem q737 : (Jvm.Cond.instanceMethod ({ cls := "FuneralDebts$Reader", name := "clause", desc := "()V" } : Jvm.MethodName)) ∈ lw_all := lw_g (lw_at lw_m3 186 rfl) rfl
theorem q738 : (Jvm.Cond.code ({ cls := "FuneralDebts$Reader", name := "clause", desc := "()V" } : Jvm.MethodName) prog_12_method_12_code (1 : Nat) (Option.none : Option Jvm.ClassFile.FieldType)) ∈ lw_all := lw_g (lw_at lw_m3 187 rfl) rfl
theorem q739 : (Jvm.Cond.methodLink "FuneralDebts$Reader" (34 : Nat) ({ cls := "FuneralDebts$Reader", name := "here", desc := "()I" } : Jvm.MethodName)) ∈ lw_all := lw_g (lw_at lw_m3 188 rfl) rfl
theorem q740 : (Jvm.Cond.privateMethod ({ cls := "FuneralDebts$Reader", name := "here", desc := "()I" } : Jvm.MethodName)) ∈ lw_tbl := lw_at lw_m3 189 rfl
theorem q741 : (Jvm.Cond.instanceMethod ({ cls := "FuneralDebts$Reader", name := "here", desc := "()I" } : Jvm.MethodName)) ∈ lw_all := lw_g (lw_at lw_m3 190 rfl) rfl
theorem q742 : (Jvm.Cond.code ({ cls := "FuneralDebts$Reader", name := "here", desc := "()I" } : Jvm.MethodName) prog_12_method_2_code (1 : Nat) (Option.some Jvm.ClassFile.FieldType.int)) ∈ lw_all := lw_g (lw_at lw_m3 191 rfl) rfl
theorem q743 : (Jvm.Cond.stringRef "FuneralDebts$Reader" (114 : Nat) "more ") ∈ lw_tbl := lw_at lw_m3 192 rfl
theorem q744 : (Jvm.Cond.methodLink "FuneralDebts$Reader" (116 : Nat) ({ cls := "FuneralDebts$Reader", name := "tested", desc := "(Ljava/lang/String;I)V" } : Jvm.MethodName)) ∈ lw_all := lw_g (lw_at lw_m3 193 rfl) rfl
theorem q745 : (Jvm.Cond.privateMethod ({ cls := "FuneralDebts$Reader", name := "tested", desc := "(Ljava/lang/String;I)V" } : Jvm.MethodName)) ∈ lw_tbl := lw_at lw_m3 194 rfl
theorem q746 : (Jvm.Cond.instanceMethod ({ cls := "FuneralDebts$Reader", name := "tested", desc := "(Ljava/lang/String;I)V" } : Jvm.MethodName)) ∈ lw_all := lw_g (lw_at lw_m3 195 rfl) rfl
theorem q747 : (Jvm.Cond.code ({ cls := "FuneralDebts$Reader", name := "tested", desc := "(Ljava/lang/String;I)V" } : Jvm.MethodName) prog_12_method_11_code (4 : Nat) (Option.none : Option Jvm.ClassFile.FieldType)) ∈ lw_all := lw_g (lw_at lw_m3 196 rfl) rfl
theorem q748 : (Jvm.Cond.methodLink "FuneralDebts$Reader" (102 : Nat) ({ cls := "FuneralDebts$Reader", name := "word", desc := "(Ljava/lang/String;)V" } : Jvm.MethodName)) ∈ lw_all := lw_g (lw_at lw_m3 197 rfl) rfl
theorem q749 : (Jvm.Cond.privateMethod ({ cls := "FuneralDebts$Reader", name := "word", desc := "(Ljava/lang/String;)V" } : Jvm.MethodName)) ∈ lw_tbl := lw_at lw_m3 198 rfl
theorem q750 : (Jvm.Cond.instanceMethod ({ cls := "FuneralDebts$Reader", name := "word", desc := "(Ljava/lang/String;)V" } : Jvm.MethodName)) ∈ lw_all := lw_g (lw_at lw_m3 199 rfl) rfl
theorem q751 : (Jvm.Cond.code ({ cls := "FuneralDebts$Reader", name := "word", desc := "(Ljava/lang/String;)V" } : Jvm.MethodName) prog_12_method_5_code (3 : Nat) (Option.none : Option Jvm.ClassFile.FieldType)) ∈ lw_all := lw_g (lw_at lw_m3 200 rfl) rfl
theorem q752 : (Jvm.Cond.methodLink "FuneralDebts$Reader" (42 : Nat) ({ cls := "java/lang/String", name := "length", desc := "()I" } : Jvm.MethodName)) ∈ lw_all := lw_g (lw_at lw_m3 201 rfl) rfl
theorem q762 : (Jvm.Cond.methodLink "FuneralDebts$Reader" (47 : Nat) ({ cls := "java/lang/String", name := "charAt", desc := "(I)C" } : Jvm.MethodName)) ∈ lw_all := lw_g (lw_at lw_m3 211 rfl) rfl
theorem q798 : (Jvm.Cond.methodLink "FuneralDebts$Reader" (51 : Nat) ({ cls := "FuneralDebts$Reader", name := "must", desc := "(I)V" } : Jvm.MethodName)) ∈ lw_all := lw_g (lw_at lw_m4 7 rfl) rfl
theorem q799 : (Jvm.Cond.privateMethod ({ cls := "FuneralDebts$Reader", name := "must", desc := "(I)V" } : Jvm.MethodName)) ∈ lw_tbl := lw_at lw_m4 8 rfl
theorem q800 : (Jvm.Cond.instanceMethod ({ cls := "FuneralDebts$Reader", name := "must", desc := "(I)V" } : Jvm.MethodName)) ∈ lw_all := lw_g (lw_at lw_m4 9 rfl) rfl
theorem q801 : (Jvm.Cond.code ({ cls := "FuneralDebts$Reader", name := "must", desc := "(I)V" } : Jvm.MethodName) prog_12_method_4_code (2 : Nat) (Option.none : Option Jvm.ClassFile.FieldType)) ∈ lw_all := lw_g (lw_at lw_m4 10 rfl) rfl
theorem q802 : (Jvm.Cond.methodLink "FuneralDebts$Reader" (38 : Nat) ({ cls := "FuneralDebts$Reader", name := "off", desc := "()LFuneralDebts$Off;" } : Jvm.MethodName)) ∈ lw_all := lw_g (lw_at lw_m4 11 rfl) rfl
theorem q803 : (Jvm.Cond.privateMethod ({ cls := "FuneralDebts$Reader", name := "off", desc := "()LFuneralDebts$Off;" } : Jvm.MethodName)) ∈ lw_tbl := lw_at lw_m4 12 rfl
theorem q804 : (Jvm.Cond.instanceMethod ({ cls := "FuneralDebts$Reader", name := "off", desc := "()LFuneralDebts$Off;" } : Jvm.MethodName)) ∈ lw_all := lw_g (lw_at lw_m4 13 rfl) rfl
theorem q805 : (Jvm.Cond.code ({ cls := "FuneralDebts$Reader", name := "off", desc := "()LFuneralDebts$Off;" } : Jvm.MethodName) prog_12_method_3_code (1 : Nat) (Option.some (Jvm.ClassFile.FieldType.object "FuneralDebts$Off"))) ∈ lw_all := lw_g (lw_at lw_m4 14 rfl) rfl
theorem q806 : (Jvm.Cond.classLink "FuneralDebts$Reader" (29 : Nat) "FuneralDebts$Off") ∈ lw_all := lw_g (lw_at lw_m4 15 rfl) rfl
theorem q863 : (Jvm.Cond.methodLink "FuneralDebts$Reader" (31 : Nat) ({ cls := "FuneralDebts$Off", name := "<init>", desc := "(I)V" } : Jvm.MethodName)) ∈ lw_all := lw_g (lw_at lw_m4 72 rfl) rfl
theorem q890 : (Jvm.Cond.methodLink "FuneralDebts$Reader" (78 : Nat) ({ cls := "FuneralDebts$Reader", name := "number", desc := "()I" } : Jvm.MethodName)) ∈ lw_all := lw_g (lw_at lw_m4 99 rfl) rfl
theorem q891 : (Jvm.Cond.privateMethod ({ cls := "FuneralDebts$Reader", name := "number", desc := "()I" } : Jvm.MethodName)) ∈ lw_tbl := lw_at lw_m4 100 rfl
theorem q892 : (Jvm.Cond.instanceMethod ({ cls := "FuneralDebts$Reader", name := "number", desc := "()I" } : Jvm.MethodName)) ∈ lw_all := lw_g (lw_at lw_m4 101 rfl) rfl
theorem q893 : (Jvm.Cond.code ({ cls := "FuneralDebts$Reader", name := "number", desc := "()I" } : Jvm.MethodName) prog_12_method_6_code (3 : Nat) (Option.some Jvm.ClassFile.FieldType.int)) ∈ lw_all := lw_g (lw_at lw_m4 102 rfl) rfl
theorem q894 : (Jvm.Cond.methodLinkNest "FuneralDebts$Reader" (54 : Nat) ({ cls := "FuneralDebts", name := "in", desc := "(III)Z" } : Jvm.MethodName) "FuneralDebts") ∈ lw_tbl := lw_at lw_m4 103 rfl
theorem q895 : (Jvm.Cond.classLink "FuneralDebts$Reader" (109 : Nat) "FuneralDebts$Clause") ∈ lw_all := lw_g (lw_at lw_m4 104 rfl) rfl
theorem q897 : (Jvm.Cond.methodLink "FuneralDebts$Reader" (73 : Nat) ({ cls := "FuneralDebts$Reader", name := "some", desc := "()LFuneralDebts$Test;" } : Jvm.MethodName)) ∈ lw_all := lw_g (lw_at lw_m4 106 rfl) rfl
theorem q898 : (Jvm.Cond.privateMethod ({ cls := "FuneralDebts$Reader", name := "some", desc := "()LFuneralDebts$Test;" } : Jvm.MethodName)) ∈ lw_tbl := lw_at lw_m4 107 rfl
theorem q899 : (Jvm.Cond.instanceMethod ({ cls := "FuneralDebts$Reader", name := "some", desc := "()LFuneralDebts$Test;" } : Jvm.MethodName)) ∈ lw_all := lw_g (lw_at lw_m4 108 rfl) rfl
theorem q900 : (Jvm.Cond.code ({ cls := "FuneralDebts$Reader", name := "some", desc := "()LFuneralDebts$Test;" } : Jvm.MethodName) prog_12_method_10_code (2 : Nat) (Option.some (Jvm.ClassFile.FieldType.object "FuneralDebts$Test"))) ∈ lw_all := lw_g (lw_at lw_m4 109 rfl) rfl
theorem q901 : (Jvm.Cond.classLink "FuneralDebts$Reader" (84 : Nat) "FuneralDebts$Some") ∈ lw_all := lw_g (lw_at lw_m4 110 rfl) rfl
theorem q903 : (Jvm.Cond.methodLink "FuneralDebts$Reader" (86 : Nat) ({ cls := "FuneralDebts$Some", name := "<init>", desc := "(Z)V" } : Jvm.MethodName)) ∈ lw_all := lw_g (lw_at lw_m4 112 rfl) rfl
theorem q914 : (Jvm.Cond.fieldLinkNest "FuneralDebts$Reader" (89 : Nat) "FuneralDebts$Some" "of" "Ljava/util/ArrayList;" "FuneralDebts") ∈ lw_tbl := lw_at lw_m4 123 rfl
theorem q920 : (Jvm.Cond.methodLink "FuneralDebts$Reader" (99 : Nat) ({ cls := "FuneralDebts$Reader", name := "all", desc := "()LFuneralDebts$Test;" } : Jvm.MethodName)) ∈ lw_all := lw_g (lw_at lw_m4 129 rfl) rfl
theorem q921 : (Jvm.Cond.privateMethod ({ cls := "FuneralDebts$Reader", name := "all", desc := "()LFuneralDebts$Test;" } : Jvm.MethodName)) ∈ lw_tbl := lw_at lw_m4 130 rfl
theorem q922 : (Jvm.Cond.instanceMethod ({ cls := "FuneralDebts$Reader", name := "all", desc := "()LFuneralDebts$Test;" } : Jvm.MethodName)) ∈ lw_all := lw_g (lw_at lw_m4 131 rfl) rfl
theorem q923 : (Jvm.Cond.code ({ cls := "FuneralDebts$Reader", name := "all", desc := "()LFuneralDebts$Test;" } : Jvm.MethodName) prog_12_method_9_code (2 : Nat) (Option.some (Jvm.ClassFile.FieldType.object "FuneralDebts$Test"))) ∈ lw_all := lw_g (lw_at lw_m4 132 rfl) rfl
theorem q924 : (Jvm.Cond.methodLink "FuneralDebts$Reader" (66 : Nat) ({ cls := "FuneralDebts$Reader", name := "factor", desc := "()LFuneralDebts$Test;" } : Jvm.MethodName)) ∈ lw_all := lw_g (lw_at lw_m4 133 rfl) rfl
theorem q925 : (Jvm.Cond.privateMethod ({ cls := "FuneralDebts$Reader", name := "factor", desc := "()LFuneralDebts$Test;" } : Jvm.MethodName)) ∈ lw_tbl := lw_at lw_m4 134 rfl
theorem q926 : (Jvm.Cond.instanceMethod ({ cls := "FuneralDebts$Reader", name := "factor", desc := "()LFuneralDebts$Test;" } : Jvm.MethodName)) ∈ lw_all := lw_g (lw_at lw_m4 135 rfl) rfl
theorem q927 : (Jvm.Cond.code ({ cls := "FuneralDebts$Reader", name := "factor", desc := "()LFuneralDebts$Test;" } : Jvm.MethodName) prog_12_method_8_code (3 : Nat) (Option.some (Jvm.ClassFile.FieldType.object "FuneralDebts$Test"))) ∈ lw_all := lw_g (lw_at lw_m4 136 rfl) rfl
theorem q928 : (Jvm.Cond.methodLink "FuneralDebts$Reader" (61 : Nat) ({ cls := "FuneralDebts$Reader", name := "deeper", desc := "()V" } : Jvm.MethodName)) ∈ lw_all := lw_g (lw_at lw_m4 137 rfl) rfl
theorem q929 : (Jvm.Cond.privateMethod ({ cls := "FuneralDebts$Reader", name := "deeper", desc := "()V" } : Jvm.MethodName)) ∈ lw_tbl := lw_at lw_m4 138 rfl
theorem q930 : (Jvm.Cond.instanceMethod ({ cls := "FuneralDebts$Reader", name := "deeper", desc := "()V" } : Jvm.MethodName)) ∈ lw_all := lw_g (lw_at lw_m4 139 rfl) rfl
theorem q931 : (Jvm.Cond.code ({ cls := "FuneralDebts$Reader", name := "deeper", desc := "()V" } : Jvm.MethodName) prog_12_method_7_code (1 : Nat) (Option.none : Option Jvm.ClassFile.FieldType)) ∈ lw_all := lw_g (lw_at lw_m4 140 rfl) rfl
theorem q932 : (Jvm.Cond.classLink "FuneralDebts$Reader" (64 : Nat) "FuneralDebts$Not") ∈ lw_all := lw_g (lw_at lw_m4 141 rfl) rfl
theorem q934 : (Jvm.Cond.methodLink "FuneralDebts$Reader" (70 : Nat) ({ cls := "FuneralDebts$Not", name := "<init>", desc := "(LFuneralDebts$Test;)V" } : Jvm.MethodName)) ∈ lw_all := lw_g (lw_at lw_m4 143 rfl) rfl
theorem q942 : (Jvm.Cond.classLink "FuneralDebts$Reader" (76 : Nat) "FuneralDebts$Against") ∈ lw_all := lw_g (lw_at lw_m4 151 rfl) rfl
theorem q944 : (Jvm.Cond.methodLink "FuneralDebts$Reader" (81 : Nat) ({ cls := "FuneralDebts$Against", name := "<init>", desc := "(III)V" } : Jvm.MethodName)) ∈ lw_all := lw_g (lw_at lw_m4 153 rfl) rfl
theorem q958 : (Jvm.Cond.methodLink "FuneralDebts$Reader" (93 : Nat) ({ cls := "java/util/ArrayList", name := "add", desc := "(Ljava/lang/Object;)Z" } : Jvm.MethodName)) ∈ lw_all := lw_g (lw_at lw_m4 167 rfl) rfl
theorem q999 : (Jvm.Cond.selects "FuneralDebts$Reader" ({ cls := "java/lang/Object", name := "getClass", desc := "()Ljava/lang/Class;" } : Jvm.MethodName) ({ cls := "java/lang/Object", name := "getClass", desc := "()Ljava/lang/Class;" } : Jvm.MethodName)) ∈ lw_all := lw_g (lw_at lw_m4 208 rfl) rfl
theorem q1025 : (Jvm.Cond.methodLink "FuneralDebts$Reader" (111 : Nat) ({ cls := "FuneralDebts$Clause", name := "<init>", desc := "(ILFuneralDebts$Test;)V" } : Jvm.MethodName)) ∈ lw_all := lw_g (lw_at lw_m4 234 rfl) rfl
theorem q1038 : (Jvm.Cond.stringRef "FuneralDebts$Reader" (120 : Nat) "less ") ∈ lw_tbl := lw_at lw_m5 7 rfl
theorem q1039 : (Jvm.Cond.stringRef "FuneralDebts$Reader" (122 : Nat) "yard ") ∈ lw_tbl := lw_at lw_m5 8 rfl
theorem q1783 : (Jvm.Cond.castable "FuneralDebts$Reader" "java/lang/Object") ∈ lw_tbl := lw_at lw_m8 32 rfl
theorem in_X14 : ∀ w ∈ wsX140, w ∈ lw_all := lw_in wsX140 [720, 722, 724, 726, 728] (by decide +kernel) (by decide +kernel)
/-! FuneralDebts$Off -/
set_option maxRecDepth 100000
def RX15 : String := "FuneralDebts$Off"
def TX15 : u_T := fun k => match k with
  | 0 => ("java/lang/Throwable", "cause", "Ljava/lang/Throwable;", false)
  | 1 => ("java/lang/Throwable", "stackTrace", "[Ljava/lang/StackTraceElement;", false)
  | 2 => ("java/lang/Throwable", "suppressedExceptions", "Ljava/util/List;", false)
  | 3 => ("java/lang/Throwable", "detailMessage", "Ljava/lang/String;", false)
  | 4 => ("java/lang/Throwable", "backtrace", "Ljava/lang/Object;", false)
  | 5 => ("java/lang/Throwable", "depth", "I", false)
  | _ => ("FuneralDebts$Off", "place", "I", true)
def tyX15 : Nat → FieldType := fun k => match k with
  | 0 => .object "java/lang/Throwable"
  | 1 => .array (.object "java/lang/StackTraceElement")
  | 2 => .object "java/util/List"
  | 3 => .object "java/lang/String"
  | 4 => .object "java/lang/Object"
  | 5 => .int
  | _ => .int
abbrev wsX150 : List Cond := u_ws RX15 TX15 7
theorem nmX15 : ∀ a, a < 7 → ∀ b, b < 7 → a ≠ b → (TX15 a).2.1 ≠ (TX15 b).2.1 := by decide +kernel
theorem tyX15_ok : ∀ k, k < 7 → parseFieldDescriptor (TX15 k).2.2.1 = some (tyX15 k) := by decide +kernel
abbrev cX15_init : ByteArray := prog_10_method_1_code
def yX15_init : MethodName := ⟨RX15, "<init>", "(I)V"⟩
def dkwX15_init_0 : List UInt8 := [42, 183, 0, 1, 42, 27, 181, 0, 7, 177]
abbrev dktX15_init_0 : List UInt8 := dkwX15_init_0 ++ []
theorem dksX15_init_0 : cX15_init.data.toList.drop 0 = dktX15_init_0 := by decide +kernel
theorem dX15_init_0 : decode cX15_init 0 = .ok (.aload_n 0, 1) := dk_42 (dk_at dksX15_init_0 0 rfl rfl)
theorem dX15_init_1 : decode cX15_init 1 = .ok (.invokespecial 1, 3) := dk_183 0 1 (dk_at dksX15_init_0 1 rfl rfl)
theorem dX15_init_4 : decode cX15_init 4 = .ok (.aload_n 0, 1) := dk_42 (dk_at dksX15_init_0 4 rfl rfl)
theorem dX15_init_5 : decode cX15_init 5 = .ok (.iload_n 1, 1) := dk_27 (dk_at dksX15_init_0 5 rfl rfl)
theorem dX15_init_6 : decode cX15_init 6 = .ok (.putfield 7, 3) := dk_181 0 7 (dk_at dksX15_init_0 6 rfl rfl)
theorem dX15_init_9 : decode cX15_init 9 = .ok (.return_, 1) := dk_177 (dk_at dksX15_init_0 9 rfl rfl)
theorem q99 : (Jvm.Cond.initialized "FuneralDebts$Off") ∈ lw_all := lw_g (lw_at lw_m1 28 rfl) rfl
theorem q807 : (Jvm.Cond.instantiable "FuneralDebts$Off" (7 : Nat)) ∈ lw_all := lw_g (lw_at lw_m4 16 rfl) rfl
theorem q808 : (Jvm.Cond.castable "FuneralDebts$Off" "FuneralDebts$Off") ∈ lw_tbl := lw_at lw_m4 17 rfl
theorem q815 : (Jvm.Cond.selects "FuneralDebts$Off" ({ cls := "java/lang/Throwable", name := "fillInStackTrace", desc := "(I)Ljava/lang/Throwable;" } : Jvm.MethodName) ({ cls := "java/lang/Throwable", name := "fillInStackTrace", desc := "(I)Ljava/lang/Throwable;" } : Jvm.MethodName)) ∈ lw_all := lw_g (lw_at lw_m4 24 rfl) rfl
theorem q816 : (Jvm.Cond.selects "FuneralDebts$Off" ({ cls := "java/lang/Throwable", name := "fillInStackTrace", desc := "()Ljava/lang/Throwable;" } : Jvm.MethodName) ({ cls := "java/lang/Throwable", name := "fillInStackTrace", desc := "()Ljava/lang/Throwable;" } : Jvm.MethodName)) ∈ lw_all := lw_g (lw_at lw_m4 25 rfl) rfl
theorem q817 : (Jvm.Cond.lays "FuneralDebts$Off" "java/lang/Throwable" "cause" "Ljava/lang/Throwable;") ∈ lw_all := lw_g (lw_at lw_m4 26 rfl) rfl
theorem q819 : (Jvm.Cond.lays "FuneralDebts$Off" "java/lang/Throwable" "stackTrace" "[Ljava/lang/StackTraceElement;") ∈ lw_all := lw_g (lw_at lw_m4 28 rfl) rfl
theorem q821 : (Jvm.Cond.lays "FuneralDebts$Off" "java/lang/Throwable" "suppressedExceptions" "Ljava/util/List;") ∈ lw_all := lw_g (lw_at lw_m4 30 rfl) rfl
theorem q823 : (Jvm.Cond.lays "FuneralDebts$Off" "java/lang/Throwable" "detailMessage" "Ljava/lang/String;") ∈ lw_all := lw_g (lw_at lw_m4 32 rfl) rfl
theorem q825 : (Jvm.Cond.lays "FuneralDebts$Off" "java/lang/Throwable" "backtrace" "Ljava/lang/Object;") ∈ lw_all := lw_g (lw_at lw_m4 34 rfl) rfl
theorem q864 : (Jvm.Cond.instanceMethod ({ cls := "FuneralDebts$Off", name := "<init>", desc := "(I)V" } : Jvm.MethodName)) ∈ lw_all := lw_g (lw_at lw_m4 73 rfl) rfl
theorem q865 : (Jvm.Cond.code ({ cls := "FuneralDebts$Off", name := "<init>", desc := "(I)V" } : Jvm.MethodName) prog_10_method_1_code (2 : Nat) (Option.none : Option Jvm.ClassFile.FieldType)) ∈ lw_all := lw_g (lw_at lw_m4 74 rfl) rfl
theorem q866 : (Jvm.Cond.methodLink "FuneralDebts$Off" (1 : Nat) ({ cls := "java/lang/RuntimeException", name := "<init>", desc := "()V" } : Jvm.MethodName)) ∈ lw_all := lw_g (lw_at lw_m4 75 rfl) rfl
theorem q873 : (Jvm.Cond.fieldLink "FuneralDebts$Off" (7 : Nat) "FuneralDebts$Off" "place" "I") ∈ lw_all := lw_g (lw_at lw_m4 82 rfl) rfl
theorem q880 : (Jvm.Cond.laysFinal "FuneralDebts$Off" "FuneralDebts$Off" "place" "I") ∈ lw_all := lw_g (lw_at lw_m4 89 rfl) rfl
theorem q881 : (Jvm.Cond.soleField "FuneralDebts$Off" "place") ∈ lw_all := lw_g (lw_at lw_m4 90 rfl) rfl
theorem q886 : (Jvm.Cond.lays "FuneralDebts$Off" "java/lang/Throwable" "depth" "I") ∈ lw_all := lw_g (lw_at lw_m4 95 rfl) rfl
theorem q889 : (Jvm.Cond.superclass "FuneralDebts$Off" "java/lang/RuntimeException") ∈ lw_all := lw_g (lw_at lw_m4 98 rfl) rfl
theorem q997 : (Jvm.Cond.selects "FuneralDebts$Off" ({ cls := "java/lang/Object", name := "getClass", desc := "()Ljava/lang/Class;" } : Jvm.MethodName) ({ cls := "java/lang/Object", name := "getClass", desc := "()Ljava/lang/Class;" } : Jvm.MethodName)) ∈ lw_all := lw_g (lw_at lw_m4 206 rfl) rfl
theorem q1784 : (Jvm.Cond.castable "FuneralDebts$Off" "java/lang/Object") ∈ lw_tbl := lw_at lw_m8 33 rfl
theorem in_X15 : ∀ w ∈ wsX150, w ∈ lw_all := lw_in wsX150 [817, 819, 821, 823, 825, 886, 880] (by decide +kernel) (by decide +kernel)
/-! FuneralDebts$Clause -/
set_option maxRecDepth 100000
def RX16 : String := "FuneralDebts$Clause"
def TX16 : u_T := fun k => match k with
  | 0 => ("FuneralDebts$Clause", "n", "I", true)
  | _ => ("FuneralDebts$Clause", "test", "LFuneralDebts$Test;", true)
def tyX16 : Nat → FieldType := fun k => match k with
  | 0 => .int
  | _ => .object "FuneralDebts$Test"
abbrev wsX160 : List Cond := u_ws RX16 TX16 2
theorem nmX16 : ∀ a, a < 2 → ∀ b, b < 2 → a ≠ b → (TX16 a).2.1 ≠ (TX16 b).2.1 := by decide +kernel
theorem tyX16_ok : ∀ k, k < 2 → parseFieldDescriptor (TX16 k).2.2.1 = some (tyX16 k) := by decide +kernel
abbrev cX16_init : ByteArray := prog_4_method_1_code
def yX16_init : MethodName := ⟨RX16, "<init>", "(ILFuneralDebts$Test;)V"⟩
def dkwX16_init_0 : List UInt8 := [42, 183, 0, 1, 42, 27, 181, 0, 7, 42, 44, 181, 0, 13, 177]
abbrev dktX16_init_0 : List UInt8 := dkwX16_init_0 ++ []
theorem dksX16_init_0 : cX16_init.data.toList.drop 0 = dktX16_init_0 := by decide +kernel
theorem dX16_init_0 : decode cX16_init 0 = .ok (.aload_n 0, 1) := dk_42 (dk_at dksX16_init_0 0 rfl rfl)
theorem dX16_init_1 : decode cX16_init 1 = .ok (.invokespecial 1, 3) := dk_183 0 1 (dk_at dksX16_init_0 1 rfl rfl)
theorem dX16_init_4 : decode cX16_init 4 = .ok (.aload_n 0, 1) := dk_42 (dk_at dksX16_init_0 4 rfl rfl)
theorem dX16_init_5 : decode cX16_init 5 = .ok (.iload_n 1, 1) := dk_27 (dk_at dksX16_init_0 5 rfl rfl)
theorem dX16_init_6 : decode cX16_init 6 = .ok (.putfield 7, 3) := dk_181 0 7 (dk_at dksX16_init_0 6 rfl rfl)
theorem dX16_init_9 : decode cX16_init 9 = .ok (.aload_n 0, 1) := dk_42 (dk_at dksX16_init_0 9 rfl rfl)
theorem dX16_init_10 : decode cX16_init 10 = .ok (.aload_n 2, 1) := dk_44 (dk_at dksX16_init_0 10 rfl rfl)
theorem dX16_init_11 : decode cX16_init 11 = .ok (.putfield 13, 3) := dk_181 0 13 (dk_at dksX16_init_0 11 rfl rfl)
theorem dX16_init_14 : decode cX16_init 14 = .ok (.return_, 1) := dk_177 (dk_at dksX16_init_0 14 rfl rfl)
theorem q100 : (Jvm.Cond.initialized "FuneralDebts$Clause") ∈ lw_all := lw_g (lw_at lw_m1 29 rfl) rfl
theorem q896 : (Jvm.Cond.instantiable "FuneralDebts$Clause" (2 : Nat)) ∈ lw_all := lw_g (lw_at lw_m4 105 rfl) rfl
theorem q991 : (Jvm.Cond.selects "FuneralDebts$Clause" ({ cls := "java/lang/Object", name := "getClass", desc := "()Ljava/lang/Class;" } : Jvm.MethodName) ({ cls := "java/lang/Object", name := "getClass", desc := "()Ljava/lang/Class;" } : Jvm.MethodName)) ∈ lw_all := lw_g (lw_at lw_m4 200 rfl) rfl
theorem q1026 : (Jvm.Cond.instanceMethod ({ cls := "FuneralDebts$Clause", name := "<init>", desc := "(ILFuneralDebts$Test;)V" } : Jvm.MethodName)) ∈ lw_all := lw_g (lw_at lw_m4 235 rfl) rfl
theorem q1027 : (Jvm.Cond.code ({ cls := "FuneralDebts$Clause", name := "<init>", desc := "(ILFuneralDebts$Test;)V" } : Jvm.MethodName) prog_4_method_1_code (3 : Nat) (Option.none : Option Jvm.ClassFile.FieldType)) ∈ lw_all := lw_g (lw_at lw_m4 236 rfl) rfl
theorem q1028 : (Jvm.Cond.methodLink "FuneralDebts$Clause" (1 : Nat) ({ cls := "java/lang/Object", name := "<init>", desc := "()V" } : Jvm.MethodName)) ∈ lw_all := lw_g (lw_at lw_m4 237 rfl) rfl
theorem q1029 : (Jvm.Cond.fieldLink "FuneralDebts$Clause" (7 : Nat) "FuneralDebts$Clause" "n" "I") ∈ lw_all := lw_g (lw_at lw_m4 238 rfl) rfl
theorem q1031 : (Jvm.Cond.fieldLink "FuneralDebts$Clause" (13 : Nat) "FuneralDebts$Clause" "test" "LFuneralDebts$Test;") ∈ lw_all := lw_g (lw_at lw_m5 0 rfl) rfl
theorem q1033 : (Jvm.Cond.laysFinal "FuneralDebts$Clause" "FuneralDebts$Clause" "n" "I") ∈ lw_all := lw_g (lw_at lw_m5 2 rfl) rfl
theorem q1034 : (Jvm.Cond.soleField "FuneralDebts$Clause" "n") ∈ lw_all := lw_g (lw_at lw_m5 3 rfl) rfl
theorem q1035 : (Jvm.Cond.laysFinal "FuneralDebts$Clause" "FuneralDebts$Clause" "test" "LFuneralDebts$Test;") ∈ lw_all := lw_g (lw_at lw_m5 4 rfl) rfl
theorem q1036 : (Jvm.Cond.soleField "FuneralDebts$Clause" "test") ∈ lw_all := lw_g (lw_at lw_m5 5 rfl) rfl
theorem q1037 : (Jvm.Cond.superclass "FuneralDebts$Clause" "java/lang/Object") ∈ lw_all := lw_g (lw_at lw_m5 6 rfl) rfl
theorem q1785 : (Jvm.Cond.castable "FuneralDebts$Clause" "java/lang/Object") ∈ lw_tbl := lw_at lw_m8 34 rfl
theorem in_X16 : ∀ w ∈ wsX160, w ∈ lw_all := lw_in wsX160 [1033, 1035] (by decide +kernel) (by decide +kernel)
/-! FuneralDebts$Test -/
set_option maxRecDepth 100000
def RX17 : String := "FuneralDebts$Test"
abbrev cX17_init : ByteArray := prog_16_method_1_code
def yX17_init : MethodName := ⟨RX17, "<init>", "()V"⟩
theorem dX17_init_0 : decode cX17_init 0 = .ok (.aload_n 0, 1) := by decide +kernel
theorem dX17_init_1 : decode cX17_init 1 = .ok (.invokespecial 1, 3) := by decide +kernel
theorem dX17_init_4 : decode cX17_init 4 = .ok (.return_, 1) := by decide +kernel
theorem q101 : (Jvm.Cond.initialized "FuneralDebts$Test") ∈ lw_all := lw_g (lw_at lw_m1 30 rfl) rfl
theorem q552 : (Jvm.Cond.declares ({ cls := "FuneralDebts$Test", name := "holds", desc := "(LFuneralDebts$Look;)Z" } : Jvm.MethodName)) ∈ lw_tbl := lw_at lw_m3 1 rfl
theorem q553 : (Jvm.Cond.sameMethod "FuneralDebts$Test" "FuneralDebts$Test" "holds" "(LFuneralDebts$Look;)Z") ∈ lw_all := lw_g (lw_at lw_m3 2 rfl) rfl
theorem q907 : (Jvm.Cond.instanceMethod ({ cls := "FuneralDebts$Test", name := "<init>", desc := "()V" } : Jvm.MethodName)) ∈ lw_all := lw_g (lw_at lw_m4 116 rfl) rfl
theorem q908 : (Jvm.Cond.code ({ cls := "FuneralDebts$Test", name := "<init>", desc := "()V" } : Jvm.MethodName) prog_16_method_1_code (1 : Nat) (Option.none : Option Jvm.ClassFile.FieldType)) ∈ lw_all := lw_g (lw_at lw_m4 117 rfl) rfl
theorem q909 : (Jvm.Cond.methodLink "FuneralDebts$Test" (1 : Nat) ({ cls := "java/lang/Object", name := "<init>", desc := "()V" } : Jvm.MethodName)) ∈ lw_all := lw_g (lw_at lw_m4 118 rfl) rfl
/-! FuneralDebts$Some -/
set_option maxRecDepth 100000
def RX18 : String := "FuneralDebts$Some"
def TX18 : u_T := fun k => match k with
  | 0 => ("FuneralDebts$Some", "isAll", "Z", true)
  | _ => ("FuneralDebts$Some", "of", "Ljava/util/ArrayList;", true)
def tyX18 : Nat → FieldType := fun k => match k with
  | 0 => .boolean
  | _ => .object "java/util/ArrayList"
abbrev wsX180 : List Cond := u_ws RX18 TX18 2
theorem nmX18 : ∀ a, a < 2 → ∀ b, b < 2 → a ≠ b → (TX18 a).2.1 ≠ (TX18 b).2.1 := by decide +kernel
theorem tyX18_ok : ∀ k, k < 2 → parseFieldDescriptor (TX18 k).2.2.1 = some (tyX18 k) := by decide +kernel
abbrev cX18_holds : ByteArray := prog_13_method_2_code
def yX18_holds : MethodName := ⟨RX18, "holds", "(LFuneralDebts$Look;)Z"⟩
def dkwX18_holds_2 : List UInt8 := [132, 2, 1, 167, 255, 207, 42, 180, 0, 16, 172]
abbrev dktX18_holds_2 : List UInt8 := dkwX18_holds_2 ++ []
def dkwX18_holds_1 : List UInt8 := [43, 182, 0, 28, 42, 180, 0, 16, 159, 0, 16, 42, 180, 0, 16, 154, 0, 7, 4, 167, 0, 4, 3, 172]
abbrev dktX18_holds_1 : List UInt8 := dkwX18_holds_1 ++ dktX18_holds_2
def dkwX18_holds_0 : List UInt8 := [3, 61, 28, 42, 180, 0, 10, 182, 0, 20, 162, 0, 44, 42, 180, 0, 10, 28, 182, 0, 24, 192, 0, 2]
abbrev dktX18_holds_0 : List UInt8 := dkwX18_holds_0 ++ dktX18_holds_1
theorem dksX18_holds_0 : cX18_holds.data.toList.drop 0 = dktX18_holds_0 := by decide +kernel
theorem dksX18_holds_1 : cX18_holds.data.toList.drop 24 = dktX18_holds_1 := dk_seg dksX18_holds_0 24 rfl rfl
theorem dksX18_holds_2 : cX18_holds.data.toList.drop 48 = dktX18_holds_2 := dk_seg dksX18_holds_1 24 rfl rfl
theorem dX18_holds_0 : decode cX18_holds 0 = .ok (.iconst 0, 1) := dk_3 (dk_at dksX18_holds_0 0 rfl rfl)
theorem dX18_holds_1 : decode cX18_holds 1 = .ok (.istore_n 2, 1) := dk_61 (dk_at dksX18_holds_0 1 rfl rfl)
theorem dX18_holds_2 : decode cX18_holds 2 = .ok (.iload_n 2, 1) := dk_28 (dk_at dksX18_holds_0 2 rfl rfl)
theorem dX18_holds_3 : decode cX18_holds 3 = .ok (.aload_n 0, 1) := dk_42 (dk_at dksX18_holds_0 3 rfl rfl)
theorem dX18_holds_4 : decode cX18_holds 4 = .ok (.getfield 10, 3) := dk_180 0 10 (dk_at dksX18_holds_0 4 rfl rfl)
theorem dX18_holds_7 : decode cX18_holds 7 = .ok (.invokevirtual 20, 3) := dk_182 0 20 (dk_at dksX18_holds_0 7 rfl rfl)
theorem dX18_holds_10 : decode cX18_holds 10 = .ok (.if_icmp .ge 44, 3) := dk_162 0 44 (dk_at dksX18_holds_0 10 rfl rfl)
theorem dX18_holds_13 : decode cX18_holds 13 = .ok (.aload_n 0, 1) := dk_42 (dk_at dksX18_holds_0 13 rfl rfl)
theorem dX18_holds_14 : decode cX18_holds 14 = .ok (.getfield 10, 3) := dk_180 0 10 (dk_at dksX18_holds_0 14 rfl rfl)
theorem dX18_holds_17 : decode cX18_holds 17 = .ok (.iload_n 2, 1) := dk_28 (dk_at dksX18_holds_0 17 rfl rfl)
theorem dX18_holds_18 : decode cX18_holds 18 = .ok (.invokevirtual 24, 3) := dk_182 0 24 (dk_at dksX18_holds_0 18 rfl rfl)
theorem dX18_holds_21 : decode cX18_holds 21 = .ok (.checkcast 2, 3) := dk_192 0 2 (dk_at dksX18_holds_0 21 rfl rfl)
theorem dX18_holds_24 : decode cX18_holds 24 = .ok (.aload_n 1, 1) := dk_43 (dk_at dksX18_holds_1 0 rfl rfl)
theorem dX18_holds_25 : decode cX18_holds 25 = .ok (.invokevirtual 28, 3) := dk_182 0 28 (dk_at dksX18_holds_1 1 rfl rfl)
theorem dX18_holds_28 : decode cX18_holds 28 = .ok (.aload_n 0, 1) := dk_42 (dk_at dksX18_holds_1 4 rfl rfl)
theorem dX18_holds_29 : decode cX18_holds 29 = .ok (.getfield 16, 3) := dk_180 0 16 (dk_at dksX18_holds_1 5 rfl rfl)
theorem dX18_holds_32 : decode cX18_holds 32 = .ok (.if_icmp .eq 16, 3) := dk_159 0 16 (dk_at dksX18_holds_1 8 rfl rfl)
theorem dX18_holds_35 : decode cX18_holds 35 = .ok (.aload_n 0, 1) := dk_42 (dk_at dksX18_holds_1 11 rfl rfl)
theorem dX18_holds_36 : decode cX18_holds 36 = .ok (.getfield 16, 3) := dk_180 0 16 (dk_at dksX18_holds_1 12 rfl rfl)
theorem dX18_holds_39 : decode cX18_holds 39 = .ok (.ifCond .ne 7, 3) := dk_154 0 7 (dk_at dksX18_holds_1 15 rfl rfl)
theorem dX18_holds_42 : decode cX18_holds 42 = .ok (.iconst 1, 1) := dk_4 (dk_at dksX18_holds_1 18 rfl rfl)
theorem dX18_holds_43 : decode cX18_holds 43 = .ok (.goto 4, 3) := dk_167 0 4 (dk_at dksX18_holds_1 19 rfl rfl)
theorem dX18_holds_46 : decode cX18_holds 46 = .ok (.iconst 0, 1) := dk_3 (dk_at dksX18_holds_1 22 rfl rfl)
theorem dX18_holds_47 : decode cX18_holds 47 = .ok (.ireturn, 1) := dk_172 (dk_at dksX18_holds_1 23 rfl rfl)
theorem dX18_holds_48 : decode cX18_holds 48 = .ok (.iinc 2 1, 3) := dk_132 2 1 (dk_at dksX18_holds_2 0 rfl rfl)
theorem dX18_holds_51 : decode cX18_holds 51 = .ok (.goto (-49), 3) := dk_167 255 207 (dk_at dksX18_holds_2 3 rfl rfl)
theorem dX18_holds_54 : decode cX18_holds 54 = .ok (.aload_n 0, 1) := dk_42 (dk_at dksX18_holds_2 6 rfl rfl)
theorem dX18_holds_55 : decode cX18_holds 55 = .ok (.getfield 16, 3) := dk_180 0 16 (dk_at dksX18_holds_2 7 rfl rfl)
theorem dX18_holds_58 : decode cX18_holds 58 = .ok (.ireturn, 1) := dk_172 (dk_at dksX18_holds_2 10 rfl rfl)
abbrev cX18_init : ByteArray := prog_13_method_1_code
def yX18_init : MethodName := ⟨RX18, "<init>", "(Z)V"⟩
def dkwX18_init_0 : List UInt8 := [42, 183, 0, 1, 42, 187, 0, 7, 89, 183, 0, 9, 181, 0, 10, 42, 27, 181, 0, 16, 177]
abbrev dktX18_init_0 : List UInt8 := dkwX18_init_0 ++ []
theorem dksX18_init_0 : cX18_init.data.toList.drop 0 = dktX18_init_0 := by decide +kernel
theorem dX18_init_0 : decode cX18_init 0 = .ok (.aload_n 0, 1) := dk_42 (dk_at dksX18_init_0 0 rfl rfl)
theorem dX18_init_1 : decode cX18_init 1 = .ok (.invokespecial 1, 3) := dk_183 0 1 (dk_at dksX18_init_0 1 rfl rfl)
theorem dX18_init_4 : decode cX18_init 4 = .ok (.aload_n 0, 1) := dk_42 (dk_at dksX18_init_0 4 rfl rfl)
theorem dX18_init_5 : decode cX18_init 5 = .ok (.new 7, 3) := dk_187 0 7 (dk_at dksX18_init_0 5 rfl rfl)
theorem dX18_init_8 : decode cX18_init 8 = .ok (.dup, 1) := dk_89 (dk_at dksX18_init_0 8 rfl rfl)
theorem dX18_init_9 : decode cX18_init 9 = .ok (.invokespecial 9, 3) := dk_183 0 9 (dk_at dksX18_init_0 9 rfl rfl)
theorem dX18_init_12 : decode cX18_init 12 = .ok (.putfield 10, 3) := dk_181 0 10 (dk_at dksX18_init_0 12 rfl rfl)
theorem dX18_init_15 : decode cX18_init 15 = .ok (.aload_n 0, 1) := dk_42 (dk_at dksX18_init_0 15 rfl rfl)
theorem dX18_init_16 : decode cX18_init 16 = .ok (.iload_n 1, 1) := dk_27 (dk_at dksX18_init_0 16 rfl rfl)
theorem dX18_init_17 : decode cX18_init 17 = .ok (.putfield 16, 3) := dk_181 0 16 (dk_at dksX18_init_0 17 rfl rfl)
theorem dX18_init_20 : decode cX18_init 20 = .ok (.return_, 1) := dk_177 (dk_at dksX18_init_0 20 rfl rfl)
theorem q102 : (Jvm.Cond.initialized "FuneralDebts$Some") ∈ lw_all := lw_g (lw_at lw_m1 31 rfl) rfl
theorem q565 : (Jvm.Cond.instanceMethod ({ cls := "FuneralDebts$Some", name := "holds", desc := "(LFuneralDebts$Look;)Z" } : Jvm.MethodName)) ∈ lw_all := lw_g (lw_at lw_m3 14 rfl) rfl
theorem q566 : (Jvm.Cond.code ({ cls := "FuneralDebts$Some", name := "holds", desc := "(LFuneralDebts$Look;)Z" } : Jvm.MethodName) prog_13_method_2_code (3 : Nat) (Option.some Jvm.ClassFile.FieldType.boolean)) ∈ lw_all := lw_g (lw_at lw_m3 15 rfl) rfl
theorem q567 : (Jvm.Cond.methodLink "FuneralDebts$Some" (20 : Nat) ({ cls := "java/util/ArrayList", name := "size", desc := "()I" } : Jvm.MethodName)) ∈ lw_all := lw_g (lw_at lw_m3 16 rfl) rfl
theorem q568 : (Jvm.Cond.methodLink "FuneralDebts$Some" (24 : Nat) ({ cls := "java/util/ArrayList", name := "get", desc := "(I)Ljava/lang/Object;" } : Jvm.MethodName)) ∈ lw_all := lw_g (lw_at lw_m3 17 rfl) rfl
theorem q569 : (Jvm.Cond.classLink "FuneralDebts$Some" (2 : Nat) "FuneralDebts$Test") ∈ lw_all := lw_g (lw_at lw_m3 18 rfl) rfl
theorem q570 : (Jvm.Cond.methodLink "FuneralDebts$Some" (28 : Nat) ({ cls := "FuneralDebts$Test", name := "holds", desc := "(LFuneralDebts$Look;)Z" } : Jvm.MethodName)) ∈ lw_all := lw_g (lw_at lw_m3 19 rfl) rfl
theorem q571 : (Jvm.Cond.selects "FuneralDebts$Some" ({ cls := "FuneralDebts$Test", name := "holds", desc := "(LFuneralDebts$Look;)Z" } : Jvm.MethodName) ({ cls := "FuneralDebts$Some", name := "holds", desc := "(LFuneralDebts$Look;)Z" } : Jvm.MethodName)) ∈ lw_all := lw_g (lw_at lw_m3 20 rfl) rfl
theorem q902 : (Jvm.Cond.instantiable "FuneralDebts$Some" (2 : Nat)) ∈ lw_all := lw_g (lw_at lw_m4 111 rfl) rfl
theorem q904 : (Jvm.Cond.instanceMethod ({ cls := "FuneralDebts$Some", name := "<init>", desc := "(Z)V" } : Jvm.MethodName)) ∈ lw_all := lw_g (lw_at lw_m4 113 rfl) rfl
theorem q905 : (Jvm.Cond.code ({ cls := "FuneralDebts$Some", name := "<init>", desc := "(Z)V" } : Jvm.MethodName) prog_13_method_1_code (2 : Nat) (Option.none : Option Jvm.ClassFile.FieldType)) ∈ lw_all := lw_g (lw_at lw_m4 114 rfl) rfl
theorem q906 : (Jvm.Cond.methodLinkNest "FuneralDebts$Some" (1 : Nat) ({ cls := "FuneralDebts$Test", name := "<init>", desc := "()V" } : Jvm.MethodName) "FuneralDebts") ∈ lw_tbl := lw_at lw_m4 115 rfl
theorem q910 : (Jvm.Cond.classLink "FuneralDebts$Some" (7 : Nat) "java/util/ArrayList") ∈ lw_all := lw_g (lw_at lw_m4 119 rfl) rfl
theorem q911 : (Jvm.Cond.methodLink "FuneralDebts$Some" (9 : Nat) ({ cls := "java/util/ArrayList", name := "<init>", desc := "()V" } : Jvm.MethodName)) ∈ lw_all := lw_g (lw_at lw_m4 120 rfl) rfl
theorem q912 : (Jvm.Cond.fieldLink "FuneralDebts$Some" (16 : Nat) "FuneralDebts$Some" "isAll" "Z") ∈ lw_all := lw_g (lw_at lw_m4 121 rfl) rfl
theorem q913 : (Jvm.Cond.fieldLink "FuneralDebts$Some" (10 : Nat) "FuneralDebts$Some" "of" "Ljava/util/ArrayList;") ∈ lw_all := lw_g (lw_at lw_m4 122 rfl) rfl
theorem q915 : (Jvm.Cond.laysFinal "FuneralDebts$Some" "FuneralDebts$Some" "isAll" "Z") ∈ lw_all := lw_g (lw_at lw_m4 124 rfl) rfl
theorem q916 : (Jvm.Cond.soleField "FuneralDebts$Some" "isAll") ∈ lw_all := lw_g (lw_at lw_m4 125 rfl) rfl
theorem q917 : (Jvm.Cond.laysFinal "FuneralDebts$Some" "FuneralDebts$Some" "of" "Ljava/util/ArrayList;") ∈ lw_all := lw_g (lw_at lw_m4 126 rfl) rfl
theorem q918 : (Jvm.Cond.soleField "FuneralDebts$Some" "of") ∈ lw_all := lw_g (lw_at lw_m4 127 rfl) rfl
theorem q919 : (Jvm.Cond.superclass "FuneralDebts$Some" "FuneralDebts$Test") ∈ lw_all := lw_g (lw_at lw_m4 128 rfl) rfl
theorem q1000 : (Jvm.Cond.selects "FuneralDebts$Some" ({ cls := "java/lang/Object", name := "getClass", desc := "()Ljava/lang/Class;" } : Jvm.MethodName) ({ cls := "java/lang/Object", name := "getClass", desc := "()Ljava/lang/Class;" } : Jvm.MethodName)) ∈ lw_all := lw_g (lw_at lw_m4 209 rfl) rfl
theorem q1758 : (Jvm.Cond.castable "FuneralDebts$Some" "FuneralDebts$Test") ∈ lw_tbl := lw_at lw_m8 7 rfl
theorem q1786 : (Jvm.Cond.castable "FuneralDebts$Some" "java/lang/Object") ∈ lw_tbl := lw_at lw_m8 35 rfl
theorem in_X18 : ∀ w ∈ wsX180, w ∈ lw_all := lw_in wsX180 [915, 917] (by decide +kernel) (by decide +kernel)
/-! FuneralDebts$Not -/
set_option maxRecDepth 100000
def RX19 : String := "FuneralDebts$Not"
def TX19 : u_T := fun k => match k with
  | _ => ("FuneralDebts$Not", "of", "LFuneralDebts$Test;", true)
def tyX19 : Nat → FieldType := fun k => match k with
  | _ => .object "FuneralDebts$Test"
abbrev wsX190 : List Cond := u_ws RX19 TX19 1
theorem nmX19 : ∀ a, a < 1 → ∀ b, b < 1 → a ≠ b → (TX19 a).2.1 ≠ (TX19 b).2.1 := by decide +kernel
theorem tyX19_ok : ∀ k, k < 1 → parseFieldDescriptor (TX19 k).2.2.1 = some (tyX19 k) := by decide +kernel
abbrev cX19_holds : ByteArray := prog_9_method_2_code
def yX19_holds : MethodName := ⟨RX19, "holds", "(LFuneralDebts$Look;)Z"⟩
def dkwX19_holds_0 : List UInt8 := [42, 180, 0, 7, 43, 182, 0, 13, 154, 0, 7, 4, 167, 0, 4, 3, 172]
abbrev dktX19_holds_0 : List UInt8 := dkwX19_holds_0 ++ []
theorem dksX19_holds_0 : cX19_holds.data.toList.drop 0 = dktX19_holds_0 := by decide +kernel
theorem dX19_holds_0 : decode cX19_holds 0 = .ok (.aload_n 0, 1) := dk_42 (dk_at dksX19_holds_0 0 rfl rfl)
theorem dX19_holds_1 : decode cX19_holds 1 = .ok (.getfield 7, 3) := dk_180 0 7 (dk_at dksX19_holds_0 1 rfl rfl)
theorem dX19_holds_4 : decode cX19_holds 4 = .ok (.aload_n 1, 1) := dk_43 (dk_at dksX19_holds_0 4 rfl rfl)
theorem dX19_holds_5 : decode cX19_holds 5 = .ok (.invokevirtual 13, 3) := dk_182 0 13 (dk_at dksX19_holds_0 5 rfl rfl)
theorem dX19_holds_8 : decode cX19_holds 8 = .ok (.ifCond .ne 7, 3) := dk_154 0 7 (dk_at dksX19_holds_0 8 rfl rfl)
theorem dX19_holds_11 : decode cX19_holds 11 = .ok (.iconst 1, 1) := dk_4 (dk_at dksX19_holds_0 11 rfl rfl)
theorem dX19_holds_12 : decode cX19_holds 12 = .ok (.goto 4, 3) := dk_167 0 4 (dk_at dksX19_holds_0 12 rfl rfl)
theorem dX19_holds_15 : decode cX19_holds 15 = .ok (.iconst 0, 1) := dk_3 (dk_at dksX19_holds_0 15 rfl rfl)
theorem dX19_holds_16 : decode cX19_holds 16 = .ok (.ireturn, 1) := dk_172 (dk_at dksX19_holds_0 16 rfl rfl)
abbrev cX19_init : ByteArray := prog_9_method_1_code
def yX19_init : MethodName := ⟨RX19, "<init>", "(LFuneralDebts$Test;)V"⟩
def dkwX19_init_0 : List UInt8 := [42, 183, 0, 1, 42, 43, 181, 0, 7, 177]
abbrev dktX19_init_0 : List UInt8 := dkwX19_init_0 ++ []
theorem dksX19_init_0 : cX19_init.data.toList.drop 0 = dktX19_init_0 := by decide +kernel
theorem dX19_init_0 : decode cX19_init 0 = .ok (.aload_n 0, 1) := dk_42 (dk_at dksX19_init_0 0 rfl rfl)
theorem dX19_init_1 : decode cX19_init 1 = .ok (.invokespecial 1, 3) := dk_183 0 1 (dk_at dksX19_init_0 1 rfl rfl)
theorem dX19_init_4 : decode cX19_init 4 = .ok (.aload_n 0, 1) := dk_42 (dk_at dksX19_init_0 4 rfl rfl)
theorem dX19_init_5 : decode cX19_init 5 = .ok (.aload_n 1, 1) := dk_43 (dk_at dksX19_init_0 5 rfl rfl)
theorem dX19_init_6 : decode cX19_init 6 = .ok (.putfield 7, 3) := dk_181 0 7 (dk_at dksX19_init_0 6 rfl rfl)
theorem dX19_init_9 : decode cX19_init 9 = .ok (.return_, 1) := dk_177 (dk_at dksX19_init_0 9 rfl rfl)
theorem q103 : (Jvm.Cond.initialized "FuneralDebts$Not") ∈ lw_all := lw_g (lw_at lw_m1 32 rfl) rfl
theorem q561 : (Jvm.Cond.selects "FuneralDebts$Not" ({ cls := "FuneralDebts$Test", name := "holds", desc := "(LFuneralDebts$Look;)Z" } : Jvm.MethodName) ({ cls := "FuneralDebts$Not", name := "holds", desc := "(LFuneralDebts$Look;)Z" } : Jvm.MethodName)) ∈ lw_all := lw_g (lw_at lw_m3 10 rfl) rfl
theorem q562 : (Jvm.Cond.instanceMethod ({ cls := "FuneralDebts$Not", name := "holds", desc := "(LFuneralDebts$Look;)Z" } : Jvm.MethodName)) ∈ lw_all := lw_g (lw_at lw_m3 11 rfl) rfl
theorem q563 : (Jvm.Cond.code ({ cls := "FuneralDebts$Not", name := "holds", desc := "(LFuneralDebts$Look;)Z" } : Jvm.MethodName) prog_9_method_2_code (2 : Nat) (Option.some Jvm.ClassFile.FieldType.boolean)) ∈ lw_all := lw_g (lw_at lw_m3 12 rfl) rfl
theorem q564 : (Jvm.Cond.methodLink "FuneralDebts$Not" (13 : Nat) ({ cls := "FuneralDebts$Test", name := "holds", desc := "(LFuneralDebts$Look;)Z" } : Jvm.MethodName)) ∈ lw_all := lw_g (lw_at lw_m3 13 rfl) rfl
theorem q933 : (Jvm.Cond.instantiable "FuneralDebts$Not" (1 : Nat)) ∈ lw_all := lw_g (lw_at lw_m4 142 rfl) rfl
theorem q935 : (Jvm.Cond.instanceMethod ({ cls := "FuneralDebts$Not", name := "<init>", desc := "(LFuneralDebts$Test;)V" } : Jvm.MethodName)) ∈ lw_all := lw_g (lw_at lw_m4 144 rfl) rfl
theorem q936 : (Jvm.Cond.code ({ cls := "FuneralDebts$Not", name := "<init>", desc := "(LFuneralDebts$Test;)V" } : Jvm.MethodName) prog_9_method_1_code (2 : Nat) (Option.none : Option Jvm.ClassFile.FieldType)) ∈ lw_all := lw_g (lw_at lw_m4 145 rfl) rfl
theorem q937 : (Jvm.Cond.methodLinkNest "FuneralDebts$Not" (1 : Nat) ({ cls := "FuneralDebts$Test", name := "<init>", desc := "()V" } : Jvm.MethodName) "FuneralDebts") ∈ lw_tbl := lw_at lw_m4 146 rfl
theorem q938 : (Jvm.Cond.fieldLink "FuneralDebts$Not" (7 : Nat) "FuneralDebts$Not" "of" "LFuneralDebts$Test;") ∈ lw_all := lw_g (lw_at lw_m4 147 rfl) rfl
theorem q939 : (Jvm.Cond.laysFinal "FuneralDebts$Not" "FuneralDebts$Not" "of" "LFuneralDebts$Test;") ∈ lw_all := lw_g (lw_at lw_m4 148 rfl) rfl
theorem q940 : (Jvm.Cond.soleField "FuneralDebts$Not" "of") ∈ lw_all := lw_g (lw_at lw_m4 149 rfl) rfl
theorem q941 : (Jvm.Cond.superclass "FuneralDebts$Not" "FuneralDebts$Test") ∈ lw_all := lw_g (lw_at lw_m4 150 rfl) rfl
theorem q996 : (Jvm.Cond.selects "FuneralDebts$Not" ({ cls := "java/lang/Object", name := "getClass", desc := "()Ljava/lang/Class;" } : Jvm.MethodName) ({ cls := "java/lang/Object", name := "getClass", desc := "()Ljava/lang/Class;" } : Jvm.MethodName)) ∈ lw_all := lw_g (lw_at lw_m4 205 rfl) rfl
theorem q1757 : (Jvm.Cond.castable "FuneralDebts$Not" "FuneralDebts$Test") ∈ lw_tbl := lw_at lw_m8 6 rfl
theorem q1787 : (Jvm.Cond.castable "FuneralDebts$Not" "java/lang/Object") ∈ lw_tbl := lw_at lw_m8 36 rfl
theorem in_X19 : ∀ w ∈ wsX190, w ∈ lw_all := lw_in wsX190 [939] (by decide +kernel) (by decide +kernel)
/-! FuneralDebts$Against -/
set_option maxRecDepth 100000
def RX20 : String := "FuneralDebts$Against"
def TX20 : u_T := fun k => match k with
  | 0 => ("FuneralDebts$Against", "letter", "I", true)
  | 1 => ("FuneralDebts$Against", "sign", "I", true)
  | _ => ("FuneralDebts$Against", "n", "I", true)
def tyX20 : Nat → FieldType := fun k => match k with
  | 0 => .int
  | 1 => .int
  | _ => .int
abbrev wsX200 : List Cond := u_ws RX20 TX20 3
theorem nmX20 : ∀ a, a < 3 → ∀ b, b < 3 → a ≠ b → (TX20 a).2.1 ≠ (TX20 b).2.1 := by decide +kernel
theorem tyX20_ok : ∀ k, k < 3 → parseFieldDescriptor (TX20 k).2.2.1 = some (tyX20 k) := by decide +kernel
abbrev cX20_holds : ByteArray := prog_2_method_2_code
def yX20_holds : MethodName := ⟨RX20, "holds", "(LFuneralDebts$Look;)Z"⟩
def dkwX20_holds_3 : List UInt8 := [182, 0, 19, 42, 180, 0, 16, 164, 0, 7, 4, 167, 0, 4, 3, 172]
abbrev dktX20_holds_3 : List UInt8 := dkwX20_holds_3 ++ []
def dkwX20_holds_2 : List UInt8 := [182, 0, 19, 42, 180, 0, 16, 160, 0, 7, 4, 167, 0, 27, 3, 167, 0, 23, 43, 42, 180, 0, 7]
abbrev dktX20_holds_2 : List UInt8 := dkwX20_holds_2 ++ dktX20_holds_3
def dkwX20_holds_1 : List UInt8 := [4, 167, 0, 59, 3, 167, 0, 55, 42, 180, 0, 13, 16, 61, 160, 0, 26, 43, 42, 180, 0, 7]
abbrev dktX20_holds_1 : List UInt8 := dkwX20_holds_1 ++ dktX20_holds_2
def dkwX20_holds_0 : List UInt8 := [42, 180, 0, 13, 16, 60, 160, 0, 26, 43, 42, 180, 0, 7, 182, 0, 19, 42, 180, 0, 16, 162, 0, 7]
abbrev dktX20_holds_0 : List UInt8 := dkwX20_holds_0 ++ dktX20_holds_1
theorem dksX20_holds_0 : cX20_holds.data.toList.drop 0 = dktX20_holds_0 := by decide +kernel
theorem dksX20_holds_1 : cX20_holds.data.toList.drop 24 = dktX20_holds_1 := dk_seg dksX20_holds_0 24 rfl rfl
theorem dksX20_holds_2 : cX20_holds.data.toList.drop 46 = dktX20_holds_2 := dk_seg dksX20_holds_1 22 rfl rfl
theorem dksX20_holds_3 : cX20_holds.data.toList.drop 69 = dktX20_holds_3 := dk_seg dksX20_holds_2 23 rfl rfl
theorem dX20_holds_0 : decode cX20_holds 0 = .ok (.aload_n 0, 1) := dk_42 (dk_at dksX20_holds_0 0 rfl rfl)
theorem dX20_holds_1 : decode cX20_holds 1 = .ok (.getfield 13, 3) := dk_180 0 13 (dk_at dksX20_holds_0 1 rfl rfl)
theorem dX20_holds_4 : decode cX20_holds 4 = .ok (.bipush 60, 2) := dk_16 60 (dk_at dksX20_holds_0 4 rfl rfl)
theorem dX20_holds_6 : decode cX20_holds 6 = .ok (.if_icmp .ne 26, 3) := dk_160 0 26 (dk_at dksX20_holds_0 6 rfl rfl)
theorem dX20_holds_9 : decode cX20_holds 9 = .ok (.aload_n 1, 1) := dk_43 (dk_at dksX20_holds_0 9 rfl rfl)
theorem dX20_holds_10 : decode cX20_holds 10 = .ok (.aload_n 0, 1) := dk_42 (dk_at dksX20_holds_0 10 rfl rfl)
theorem dX20_holds_11 : decode cX20_holds 11 = .ok (.getfield 7, 3) := dk_180 0 7 (dk_at dksX20_holds_0 11 rfl rfl)
theorem dX20_holds_14 : decode cX20_holds 14 = .ok (.invokevirtual 19, 3) := dk_182 0 19 (dk_at dksX20_holds_0 14 rfl rfl)
theorem dX20_holds_17 : decode cX20_holds 17 = .ok (.aload_n 0, 1) := dk_42 (dk_at dksX20_holds_0 17 rfl rfl)
theorem dX20_holds_18 : decode cX20_holds 18 = .ok (.getfield 16, 3) := dk_180 0 16 (dk_at dksX20_holds_0 18 rfl rfl)
theorem dX20_holds_21 : decode cX20_holds 21 = .ok (.if_icmp .ge 7, 3) := dk_162 0 7 (dk_at dksX20_holds_0 21 rfl rfl)
theorem dX20_holds_24 : decode cX20_holds 24 = .ok (.iconst 1, 1) := dk_4 (dk_at dksX20_holds_1 0 rfl rfl)
theorem dX20_holds_25 : decode cX20_holds 25 = .ok (.goto 59, 3) := dk_167 0 59 (dk_at dksX20_holds_1 1 rfl rfl)
theorem dX20_holds_28 : decode cX20_holds 28 = .ok (.iconst 0, 1) := dk_3 (dk_at dksX20_holds_1 4 rfl rfl)
theorem dX20_holds_29 : decode cX20_holds 29 = .ok (.goto 55, 3) := dk_167 0 55 (dk_at dksX20_holds_1 5 rfl rfl)
theorem dX20_holds_32 : decode cX20_holds 32 = .ok (.aload_n 0, 1) := dk_42 (dk_at dksX20_holds_1 8 rfl rfl)
theorem dX20_holds_33 : decode cX20_holds 33 = .ok (.getfield 13, 3) := dk_180 0 13 (dk_at dksX20_holds_1 9 rfl rfl)
theorem dX20_holds_36 : decode cX20_holds 36 = .ok (.bipush 61, 2) := dk_16 61 (dk_at dksX20_holds_1 12 rfl rfl)
theorem dX20_holds_38 : decode cX20_holds 38 = .ok (.if_icmp .ne 26, 3) := dk_160 0 26 (dk_at dksX20_holds_1 14 rfl rfl)
theorem dX20_holds_41 : decode cX20_holds 41 = .ok (.aload_n 1, 1) := dk_43 (dk_at dksX20_holds_1 17 rfl rfl)
theorem dX20_holds_42 : decode cX20_holds 42 = .ok (.aload_n 0, 1) := dk_42 (dk_at dksX20_holds_1 18 rfl rfl)
theorem dX20_holds_43 : decode cX20_holds 43 = .ok (.getfield 7, 3) := dk_180 0 7 (dk_at dksX20_holds_1 19 rfl rfl)
theorem dX20_holds_46 : decode cX20_holds 46 = .ok (.invokevirtual 19, 3) := dk_182 0 19 (dk_at dksX20_holds_2 0 rfl rfl)
theorem dX20_holds_49 : decode cX20_holds 49 = .ok (.aload_n 0, 1) := dk_42 (dk_at dksX20_holds_2 3 rfl rfl)
theorem dX20_holds_50 : decode cX20_holds 50 = .ok (.getfield 16, 3) := dk_180 0 16 (dk_at dksX20_holds_2 4 rfl rfl)
theorem dX20_holds_53 : decode cX20_holds 53 = .ok (.if_icmp .ne 7, 3) := dk_160 0 7 (dk_at dksX20_holds_2 7 rfl rfl)
theorem dX20_holds_56 : decode cX20_holds 56 = .ok (.iconst 1, 1) := dk_4 (dk_at dksX20_holds_2 10 rfl rfl)
theorem dX20_holds_57 : decode cX20_holds 57 = .ok (.goto 27, 3) := dk_167 0 27 (dk_at dksX20_holds_2 11 rfl rfl)
theorem dX20_holds_60 : decode cX20_holds 60 = .ok (.iconst 0, 1) := dk_3 (dk_at dksX20_holds_2 14 rfl rfl)
theorem dX20_holds_61 : decode cX20_holds 61 = .ok (.goto 23, 3) := dk_167 0 23 (dk_at dksX20_holds_2 15 rfl rfl)
theorem dX20_holds_64 : decode cX20_holds 64 = .ok (.aload_n 1, 1) := dk_43 (dk_at dksX20_holds_2 18 rfl rfl)
theorem dX20_holds_65 : decode cX20_holds 65 = .ok (.aload_n 0, 1) := dk_42 (dk_at dksX20_holds_2 19 rfl rfl)
theorem dX20_holds_66 : decode cX20_holds 66 = .ok (.getfield 7, 3) := dk_180 0 7 (dk_at dksX20_holds_2 20 rfl rfl)
theorem dX20_holds_69 : decode cX20_holds 69 = .ok (.invokevirtual 19, 3) := dk_182 0 19 (dk_at dksX20_holds_3 0 rfl rfl)
theorem dX20_holds_72 : decode cX20_holds 72 = .ok (.aload_n 0, 1) := dk_42 (dk_at dksX20_holds_3 3 rfl rfl)
theorem dX20_holds_73 : decode cX20_holds 73 = .ok (.getfield 16, 3) := dk_180 0 16 (dk_at dksX20_holds_3 4 rfl rfl)
theorem dX20_holds_76 : decode cX20_holds 76 = .ok (.if_icmp .le 7, 3) := dk_164 0 7 (dk_at dksX20_holds_3 7 rfl rfl)
theorem dX20_holds_79 : decode cX20_holds 79 = .ok (.iconst 1, 1) := dk_4 (dk_at dksX20_holds_3 10 rfl rfl)
theorem dX20_holds_80 : decode cX20_holds 80 = .ok (.goto 4, 3) := dk_167 0 4 (dk_at dksX20_holds_3 11 rfl rfl)
theorem dX20_holds_83 : decode cX20_holds 83 = .ok (.iconst 0, 1) := dk_3 (dk_at dksX20_holds_3 14 rfl rfl)
theorem dX20_holds_84 : decode cX20_holds 84 = .ok (.ireturn, 1) := dk_172 (dk_at dksX20_holds_3 15 rfl rfl)
abbrev cX20_init : ByteArray := prog_2_method_1_code
def yX20_init : MethodName := ⟨RX20, "<init>", "(III)V"⟩
def dkwX20_init_0 : List UInt8 := [42, 183, 0, 1, 42, 27, 181, 0, 7, 42, 28, 181, 0, 13, 42, 29, 181, 0, 16, 177]
abbrev dktX20_init_0 : List UInt8 := dkwX20_init_0 ++ []
theorem dksX20_init_0 : cX20_init.data.toList.drop 0 = dktX20_init_0 := by decide +kernel
theorem dX20_init_0 : decode cX20_init 0 = .ok (.aload_n 0, 1) := dk_42 (dk_at dksX20_init_0 0 rfl rfl)
theorem dX20_init_1 : decode cX20_init 1 = .ok (.invokespecial 1, 3) := dk_183 0 1 (dk_at dksX20_init_0 1 rfl rfl)
theorem dX20_init_4 : decode cX20_init 4 = .ok (.aload_n 0, 1) := dk_42 (dk_at dksX20_init_0 4 rfl rfl)
theorem dX20_init_5 : decode cX20_init 5 = .ok (.iload_n 1, 1) := dk_27 (dk_at dksX20_init_0 5 rfl rfl)
theorem dX20_init_6 : decode cX20_init 6 = .ok (.putfield 7, 3) := dk_181 0 7 (dk_at dksX20_init_0 6 rfl rfl)
theorem dX20_init_9 : decode cX20_init 9 = .ok (.aload_n 0, 1) := dk_42 (dk_at dksX20_init_0 9 rfl rfl)
theorem dX20_init_10 : decode cX20_init 10 = .ok (.iload_n 2, 1) := dk_28 (dk_at dksX20_init_0 10 rfl rfl)
theorem dX20_init_11 : decode cX20_init 11 = .ok (.putfield 13, 3) := dk_181 0 13 (dk_at dksX20_init_0 11 rfl rfl)
theorem dX20_init_14 : decode cX20_init 14 = .ok (.aload_n 0, 1) := dk_42 (dk_at dksX20_init_0 14 rfl rfl)
theorem dX20_init_15 : decode cX20_init 15 = .ok (.iload_n 3, 1) := dk_29 (dk_at dksX20_init_0 15 rfl rfl)
theorem dX20_init_16 : decode cX20_init 16 = .ok (.putfield 16, 3) := dk_181 0 16 (dk_at dksX20_init_0 16 rfl rfl)
theorem dX20_init_19 : decode cX20_init 19 = .ok (.return_, 1) := dk_177 (dk_at dksX20_init_0 19 rfl rfl)
theorem q104 : (Jvm.Cond.initialized "FuneralDebts$Against") ∈ lw_all := lw_g (lw_at lw_m1 33 rfl) rfl
theorem q554 : (Jvm.Cond.selects "FuneralDebts$Against" ({ cls := "FuneralDebts$Test", name := "holds", desc := "(LFuneralDebts$Look;)Z" } : Jvm.MethodName) ({ cls := "FuneralDebts$Against", name := "holds", desc := "(LFuneralDebts$Look;)Z" } : Jvm.MethodName)) ∈ lw_all := lw_g (lw_at lw_m3 3 rfl) rfl
theorem q555 : (Jvm.Cond.instanceMethod ({ cls := "FuneralDebts$Against", name := "holds", desc := "(LFuneralDebts$Look;)Z" } : Jvm.MethodName)) ∈ lw_all := lw_g (lw_at lw_m3 4 rfl) rfl
theorem q556 : (Jvm.Cond.code ({ cls := "FuneralDebts$Against", name := "holds", desc := "(LFuneralDebts$Look;)Z" } : Jvm.MethodName) prog_2_method_2_code (2 : Nat) (Option.some Jvm.ClassFile.FieldType.boolean)) ∈ lw_all := lw_g (lw_at lw_m3 5 rfl) rfl
theorem q557 : (Jvm.Cond.methodLink "FuneralDebts$Against" (19 : Nat) ({ cls := "FuneralDebts$Look", name := "of", desc := "(I)I" } : Jvm.MethodName)) ∈ lw_all := lw_g (lw_at lw_m3 6 rfl) rfl
theorem q943 : (Jvm.Cond.instantiable "FuneralDebts$Against" (3 : Nat)) ∈ lw_all := lw_g (lw_at lw_m4 152 rfl) rfl
theorem q945 : (Jvm.Cond.instanceMethod ({ cls := "FuneralDebts$Against", name := "<init>", desc := "(III)V" } : Jvm.MethodName)) ∈ lw_all := lw_g (lw_at lw_m4 154 rfl) rfl
theorem q946 : (Jvm.Cond.code ({ cls := "FuneralDebts$Against", name := "<init>", desc := "(III)V" } : Jvm.MethodName) prog_2_method_1_code (4 : Nat) (Option.none : Option Jvm.ClassFile.FieldType)) ∈ lw_all := lw_g (lw_at lw_m4 155 rfl) rfl
theorem q947 : (Jvm.Cond.methodLinkNest "FuneralDebts$Against" (1 : Nat) ({ cls := "FuneralDebts$Test", name := "<init>", desc := "()V" } : Jvm.MethodName) "FuneralDebts") ∈ lw_tbl := lw_at lw_m4 156 rfl
theorem q948 : (Jvm.Cond.fieldLink "FuneralDebts$Against" (7 : Nat) "FuneralDebts$Against" "letter" "I") ∈ lw_all := lw_g (lw_at lw_m4 157 rfl) rfl
theorem q949 : (Jvm.Cond.fieldLink "FuneralDebts$Against" (13 : Nat) "FuneralDebts$Against" "sign" "I") ∈ lw_all := lw_g (lw_at lw_m4 158 rfl) rfl
theorem q950 : (Jvm.Cond.fieldLink "FuneralDebts$Against" (16 : Nat) "FuneralDebts$Against" "n" "I") ∈ lw_all := lw_g (lw_at lw_m4 159 rfl) rfl
theorem q951 : (Jvm.Cond.laysFinal "FuneralDebts$Against" "FuneralDebts$Against" "letter" "I") ∈ lw_all := lw_g (lw_at lw_m4 160 rfl) rfl
theorem q952 : (Jvm.Cond.soleField "FuneralDebts$Against" "letter") ∈ lw_all := lw_g (lw_at lw_m4 161 rfl) rfl
theorem q953 : (Jvm.Cond.laysFinal "FuneralDebts$Against" "FuneralDebts$Against" "sign" "I") ∈ lw_all := lw_g (lw_at lw_m4 162 rfl) rfl
theorem q954 : (Jvm.Cond.soleField "FuneralDebts$Against" "sign") ∈ lw_all := lw_g (lw_at lw_m4 163 rfl) rfl
theorem q955 : (Jvm.Cond.laysFinal "FuneralDebts$Against" "FuneralDebts$Against" "n" "I") ∈ lw_all := lw_g (lw_at lw_m4 164 rfl) rfl
theorem q956 : (Jvm.Cond.soleField "FuneralDebts$Against" "n") ∈ lw_all := lw_g (lw_at lw_m4 165 rfl) rfl
theorem q957 : (Jvm.Cond.superclass "FuneralDebts$Against" "FuneralDebts$Test") ∈ lw_all := lw_g (lw_at lw_m4 166 rfl) rfl
theorem q989 : (Jvm.Cond.selects "FuneralDebts$Against" ({ cls := "java/lang/Object", name := "getClass", desc := "()Ljava/lang/Class;" } : Jvm.MethodName) ({ cls := "java/lang/Object", name := "getClass", desc := "()Ljava/lang/Class;" } : Jvm.MethodName)) ∈ lw_all := lw_g (lw_at lw_m4 198 rfl) rfl
theorem q1756 : (Jvm.Cond.castable "FuneralDebts$Against" "FuneralDebts$Test") ∈ lw_tbl := lw_at lw_m8 5 rfl
theorem q1788 : (Jvm.Cond.castable "FuneralDebts$Against" "java/lang/Object") ∈ lw_tbl := lw_at lw_m8 37 rfl
theorem in_X20 : ∀ w ∈ wsX200, w ∈ lw_all := lw_in wsX200 [951, 953, 955] (by decide +kernel) (by decide +kernel)
