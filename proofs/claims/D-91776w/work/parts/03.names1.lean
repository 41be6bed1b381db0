/-! DECODE ROWS BY BYTES: one lemma an opcode; a method's code is cut into short pieces once, and a row reads its own piece alone. -/
set_option maxRecDepth 100000
/-- the code has just these bytes from pc on -/
def DkAt (code : ByteArray) (pc : Nat) (bs : List UInt8) : Prop := ∀ (j : Nat) (b : UInt8), bs[j]? = some b → code.data.toList[pc + j]? = some b
/-- the piece W has the bytes bs from its place j on -/
def dkIn (W : List UInt8) (j : Nat) (bs : List UInt8) : Bool := decide ((W.drop j).take bs.length = bs)
theorem dk_seg {l W T : List UInt8} {o o2 : Nat} (h : l.drop o = W ++ T) (n : Nat) (hn : W.length = n) (ho : o + n = o2) : l.drop o2 = T := by
  subst ho
  rw [← List.drop_drop, h, List.drop_left' hn]
theorem dk_at {code : ByteArray} {W T bs : List UInt8} {o pc : Nat} (h : code.data.toList.drop o = W ++ T) (j : Nat) (hp : o + j = pc) (hw : dkIn W j bs = true) : DkAt code pc bs := by
  subst hp
  intro i b e
  have h1 := of_decide_eq_true hw
  have h2 : i < bs.length := (List.getElem?_eq_some_iff.mp e).1
  have h3 : W[j + i]? = some b := by
    rw [← h1, List.getElem?_take, if_pos h2, List.getElem?_drop] at e
    exact e
  have h4 : j + i < W.length := (List.getElem?_eq_some_iff.mp h3).1
  have h5 : (code.data.toList.drop o)[j + i]? = some b := by
    rw [h, List.getElem?_append_left h4]
    exact h3
  rw [List.getElem?_drop, ← Nat.add_assoc] at h5
  exact h5
theorem dk_u1 {A : ByteArray} {p : Nat} {b : UInt8} (h : A.data.toList[p]? = some b) : (Reader.u1 : Reader DecodeError Nat) A p = .ok (b.toNat, p + 1) := by
  obtain ⟨h1, h2⟩ := List.getElem?_eq_some_iff.mp h
  have h3 : p < A.size := by simpa using h1
  have h4 : A[p]'h3 = b := h2
  have e : (Reader.u1 : Reader DecodeError Nat) A p = (if h : p < A.size then .ok (A[p].toNat, p + 1) else .error (HasTruncated.truncated p)) := by
    show (do if h : p < A.size then do set (p + 1); Pure.pure A[p].toNat else MonadExcept.throw (HasTruncated.truncated p) : Reader DecodeError Nat) A p = _
    by_cases hi : p < A.size
    · rw [dif_pos hi, dif_pos hi]; rfl
    · rw [dif_neg hi, dif_neg hi]; rfl
  rw [e, dif_pos h3, h4]
theorem dk_bind {α β : Type} {r : Reader DecodeError α} {f : α → Reader DecodeError β} {A : ByteArray} {p s : Nat} {a : α} (h : r A p = .ok (a, s)) : (r >>= f) A p = f a A s := by
  show (do let (a, s) ← r A p; f a A s : Except DecodeError (β × Nat)) = _
  rw [h]
  rfl
theorem dk_map {α β : Type} {r : Reader DecodeError α} {g : α → β} {A : ByteArray} {p s : Nat} {a : α} (h : r A p = .ok (a, s)) : (g <$> r) A p = .ok (g a, s) := by
  show (do let (a, s) ← r A p; .ok (g a, s) : Except DecodeError (β × Nat)) = _
  rw [h]
  rfl
theorem dk_u2 {A : ByteArray} {p : Nat} {a b : UInt8} (h : A.data.toList[p]? = some a) (h2 : A.data.toList[p + 1]? = some b) : (Reader.u2 : Reader DecodeError Nat) A p = .ok (a.toNat * 256 + b.toNat, p + 2) := by
  show (Reader.u1 >>= fun hi => Reader.u1 >>= fun lo => Pure.pure (hi * 256 + lo) : Reader DecodeError Nat) A p = _
  rw [dk_bind (dk_u1 h), dk_bind (dk_u1 h2)]
  rfl
theorem dk_of {code : ByteArray} {pc n : Nat} {i : Instr} (h : Decoder.instr pc code pc = .ok (i, pc + n)) : decode code pc = .ok (i, n) := by
  have e : decode code pc = (match Decoder.instr pc code pc with | .error x => .error x | .ok (j, s) => .ok (j, s - pc)) := by
    show (do let (j, s) ← Decoder.instr pc code pc; Pure.pure (j, s - pc) : Except DecodeError (Instr × Nat)) = _
    cases Decoder.instr pc code pc <;> rfl
  rw [e, h]
  show Except.ok (i, pc + n - pc) = _
  rw [Nat.add_sub_cancel_left]
theorem dk_1 {code : ByteArray} {pc : Nat} (h : DkAt code pc [1]) : decode code pc = .ok (.aconst_null, 1) := dk_of ((dk_bind (dk_u1 (h 0 _ rfl))).trans rfl)
theorem dk_2 {code : ByteArray} {pc : Nat} (h : DkAt code pc [2]) : decode code pc = .ok (.iconst (-1), 1) := dk_of ((dk_bind (dk_u1 (h 0 _ rfl))).trans rfl)
theorem dk_3 {code : ByteArray} {pc : Nat} (h : DkAt code pc [3]) : decode code pc = .ok (.iconst 0, 1) := dk_of ((dk_bind (dk_u1 (h 0 _ rfl))).trans rfl)
theorem dk_4 {code : ByteArray} {pc : Nat} (h : DkAt code pc [4]) : decode code pc = .ok (.iconst 1, 1) := dk_of ((dk_bind (dk_u1 (h 0 _ rfl))).trans rfl)
theorem dk_5 {code : ByteArray} {pc : Nat} (h : DkAt code pc [5]) : decode code pc = .ok (.iconst 2, 1) := dk_of ((dk_bind (dk_u1 (h 0 _ rfl))).trans rfl)
theorem dk_6 {code : ByteArray} {pc : Nat} (h : DkAt code pc [6]) : decode code pc = .ok (.iconst 3, 1) := dk_of ((dk_bind (dk_u1 (h 0 _ rfl))).trans rfl)
theorem dk_7 {code : ByteArray} {pc : Nat} (h : DkAt code pc [7]) : decode code pc = .ok (.iconst 4, 1) := dk_of ((dk_bind (dk_u1 (h 0 _ rfl))).trans rfl)
theorem dk_8 {code : ByteArray} {pc : Nat} (h : DkAt code pc [8]) : decode code pc = .ok (.iconst 5, 1) := dk_of ((dk_bind (dk_u1 (h 0 _ rfl))).trans rfl)
theorem dk_9 {code : ByteArray} {pc : Nat} (h : DkAt code pc [9]) : decode code pc = .ok (.lconst 0, 1) := dk_of ((dk_bind (dk_u1 (h 0 _ rfl))).trans rfl)
theorem dk_10 {code : ByteArray} {pc : Nat} (h : DkAt code pc [10]) : decode code pc = .ok (.lconst 1, 1) := dk_of ((dk_bind (dk_u1 (h 0 _ rfl))).trans rfl)
theorem dk_16 {code : ByteArray} {pc : Nat} (a : UInt8) (h : DkAt code pc [16, a]) : decode code pc = .ok (.bipush (Reader.signed 8 a.toNat), 2) := dk_of ((dk_bind (dk_u1 (h 0 _ rfl))).trans ((dk_bind (dk_map (dk_u1 (h 1 _ rfl)))).trans rfl))
theorem dk_17 {code : ByteArray} {pc : Nat} (a b : UInt8) (h : DkAt code pc [17, a, b]) : decode code pc = .ok (.sipush (Reader.signed 16 (a.toNat * 256 + b.toNat)), 3) := dk_of ((dk_bind (dk_u1 (h 0 _ rfl))).trans ((dk_bind (dk_map (dk_u2 (h 1 _ rfl) (h 2 _ rfl)))).trans rfl))
theorem dk_18 {code : ByteArray} {pc : Nat} (a : UInt8) (h : DkAt code pc [18, a]) : decode code pc = .ok (.ldc a.toNat, 2) := dk_of ((dk_bind (dk_u1 (h 0 _ rfl))).trans ((dk_bind (dk_u1 (h 1 _ rfl))).trans rfl))
theorem dk_19 {code : ByteArray} {pc : Nat} (a b : UInt8) (h : DkAt code pc [19, a, b]) : decode code pc = .ok (.ldc_w (a.toNat * 256 + b.toNat), 3) := dk_of ((dk_bind (dk_u1 (h 0 _ rfl))).trans ((dk_bind (dk_u2 (h 1 _ rfl) (h 2 _ rfl))).trans rfl))
theorem dk_20 {code : ByteArray} {pc : Nat} (a b : UInt8) (h : DkAt code pc [20, a, b]) : decode code pc = .ok (.ldc2_w (a.toNat * 256 + b.toNat), 3) := dk_of ((dk_bind (dk_u1 (h 0 _ rfl))).trans ((dk_bind (dk_u2 (h 1 _ rfl) (h 2 _ rfl))).trans rfl))
theorem dk_21 {code : ByteArray} {pc : Nat} (a : UInt8) (h : DkAt code pc [21, a]) : decode code pc = .ok (.iload a.toNat, 2) := dk_of ((dk_bind (dk_u1 (h 0 _ rfl))).trans ((dk_bind (dk_u1 (h 1 _ rfl))).trans rfl))
theorem dk_22 {code : ByteArray} {pc : Nat} (a : UInt8) (h : DkAt code pc [22, a]) : decode code pc = .ok (.lload a.toNat, 2) := dk_of ((dk_bind (dk_u1 (h 0 _ rfl))).trans ((dk_bind (dk_u1 (h 1 _ rfl))).trans rfl))
theorem dk_25 {code : ByteArray} {pc : Nat} (a : UInt8) (h : DkAt code pc [25, a]) : decode code pc = .ok (.aload a.toNat, 2) := dk_of ((dk_bind (dk_u1 (h 0 _ rfl))).trans ((dk_bind (dk_u1 (h 1 _ rfl))).trans rfl))
theorem dk_26 {code : ByteArray} {pc : Nat} (h : DkAt code pc [26]) : decode code pc = .ok (.iload_n 0, 1) := dk_of ((dk_bind (dk_u1 (h 0 _ rfl))).trans rfl)
theorem dk_27 {code : ByteArray} {pc : Nat} (h : DkAt code pc [27]) : decode code pc = .ok (.iload_n 1, 1) := dk_of ((dk_bind (dk_u1 (h 0 _ rfl))).trans rfl)
theorem dk_28 {code : ByteArray} {pc : Nat} (h : DkAt code pc [28]) : decode code pc = .ok (.iload_n 2, 1) := dk_of ((dk_bind (dk_u1 (h 0 _ rfl))).trans rfl)
theorem dk_29 {code : ByteArray} {pc : Nat} (h : DkAt code pc [29]) : decode code pc = .ok (.iload_n 3, 1) := dk_of ((dk_bind (dk_u1 (h 0 _ rfl))).trans rfl)
theorem dk_30 {code : ByteArray} {pc : Nat} (h : DkAt code pc [30]) : decode code pc = .ok (.lload_n 0, 1) := dk_of ((dk_bind (dk_u1 (h 0 _ rfl))).trans rfl)
theorem dk_32 {code : ByteArray} {pc : Nat} (h : DkAt code pc [32]) : decode code pc = .ok (.lload_n 2, 1) := dk_of ((dk_bind (dk_u1 (h 0 _ rfl))).trans rfl)
theorem dk_33 {code : ByteArray} {pc : Nat} (h : DkAt code pc [33]) : decode code pc = .ok (.lload_n 3, 1) := dk_of ((dk_bind (dk_u1 (h 0 _ rfl))).trans rfl)
theorem dk_42 {code : ByteArray} {pc : Nat} (h : DkAt code pc [42]) : decode code pc = .ok (.aload_n 0, 1) := dk_of ((dk_bind (dk_u1 (h 0 _ rfl))).trans rfl)
theorem dk_43 {code : ByteArray} {pc : Nat} (h : DkAt code pc [43]) : decode code pc = .ok (.aload_n 1, 1) := dk_of ((dk_bind (dk_u1 (h 0 _ rfl))).trans rfl)
theorem dk_44 {code : ByteArray} {pc : Nat} (h : DkAt code pc [44]) : decode code pc = .ok (.aload_n 2, 1) := dk_of ((dk_bind (dk_u1 (h 0 _ rfl))).trans rfl)
theorem dk_45 {code : ByteArray} {pc : Nat} (h : DkAt code pc [45]) : decode code pc = .ok (.aload_n 3, 1) := dk_of ((dk_bind (dk_u1 (h 0 _ rfl))).trans rfl)
theorem dk_46 {code : ByteArray} {pc : Nat} (h : DkAt code pc [46]) : decode code pc = .ok (.iaload, 1) := dk_of ((dk_bind (dk_u1 (h 0 _ rfl))).trans rfl)
theorem dk_47 {code : ByteArray} {pc : Nat} (h : DkAt code pc [47]) : decode code pc = .ok (.laload, 1) := dk_of ((dk_bind (dk_u1 (h 0 _ rfl))).trans rfl)
theorem dk_50 {code : ByteArray} {pc : Nat} (h : DkAt code pc [50]) : decode code pc = .ok (.aaload, 1) := dk_of ((dk_bind (dk_u1 (h 0 _ rfl))).trans rfl)
theorem dk_51 {code : ByteArray} {pc : Nat} (h : DkAt code pc [51]) : decode code pc = .ok (.baload, 1) := dk_of ((dk_bind (dk_u1 (h 0 _ rfl))).trans rfl)
theorem dk_54 {code : ByteArray} {pc : Nat} (a : UInt8) (h : DkAt code pc [54, a]) : decode code pc = .ok (.istore a.toNat, 2) := dk_of ((dk_bind (dk_u1 (h 0 _ rfl))).trans ((dk_bind (dk_u1 (h 1 _ rfl))).trans rfl))
theorem dk_55 {code : ByteArray} {pc : Nat} (a : UInt8) (h : DkAt code pc [55, a]) : decode code pc = .ok (.lstore a.toNat, 2) := dk_of ((dk_bind (dk_u1 (h 0 _ rfl))).trans ((dk_bind (dk_u1 (h 1 _ rfl))).trans rfl))
theorem dk_58 {code : ByteArray} {pc : Nat} (a : UInt8) (h : DkAt code pc [58, a]) : decode code pc = .ok (.astore a.toNat, 2) := dk_of ((dk_bind (dk_u1 (h 0 _ rfl))).trans ((dk_bind (dk_u1 (h 1 _ rfl))).trans rfl))
theorem dk_59 {code : ByteArray} {pc : Nat} (h : DkAt code pc [59]) : decode code pc = .ok (.istore_n 0, 1) := dk_of ((dk_bind (dk_u1 (h 0 _ rfl))).trans rfl)
theorem dk_60 {code : ByteArray} {pc : Nat} (h : DkAt code pc [60]) : decode code pc = .ok (.istore_n 1, 1) := dk_of ((dk_bind (dk_u1 (h 0 _ rfl))).trans rfl)
theorem dk_61 {code : ByteArray} {pc : Nat} (h : DkAt code pc [61]) : decode code pc = .ok (.istore_n 2, 1) := dk_of ((dk_bind (dk_u1 (h 0 _ rfl))).trans rfl)
theorem dk_62 {code : ByteArray} {pc : Nat} (h : DkAt code pc [62]) : decode code pc = .ok (.istore_n 3, 1) := dk_of ((dk_bind (dk_u1 (h 0 _ rfl))).trans rfl)
theorem dk_66 {code : ByteArray} {pc : Nat} (h : DkAt code pc [66]) : decode code pc = .ok (.lstore_n 3, 1) := dk_of ((dk_bind (dk_u1 (h 0 _ rfl))).trans rfl)
theorem dk_76 {code : ByteArray} {pc : Nat} (h : DkAt code pc [76]) : decode code pc = .ok (.astore_n 1, 1) := dk_of ((dk_bind (dk_u1 (h 0 _ rfl))).trans rfl)
theorem dk_77 {code : ByteArray} {pc : Nat} (h : DkAt code pc [77]) : decode code pc = .ok (.astore_n 2, 1) := dk_of ((dk_bind (dk_u1 (h 0 _ rfl))).trans rfl)
theorem dk_78 {code : ByteArray} {pc : Nat} (h : DkAt code pc [78]) : decode code pc = .ok (.astore_n 3, 1) := dk_of ((dk_bind (dk_u1 (h 0 _ rfl))).trans rfl)
theorem dk_79 {code : ByteArray} {pc : Nat} (h : DkAt code pc [79]) : decode code pc = .ok (.iastore, 1) := dk_of ((dk_bind (dk_u1 (h 0 _ rfl))).trans rfl)
theorem dk_80 {code : ByteArray} {pc : Nat} (h : DkAt code pc [80]) : decode code pc = .ok (.lastore, 1) := dk_of ((dk_bind (dk_u1 (h 0 _ rfl))).trans rfl)
theorem dk_83 {code : ByteArray} {pc : Nat} (h : DkAt code pc [83]) : decode code pc = .ok (.aastore, 1) := dk_of ((dk_bind (dk_u1 (h 0 _ rfl))).trans rfl)
theorem dk_84 {code : ByteArray} {pc : Nat} (h : DkAt code pc [84]) : decode code pc = .ok (.bastore, 1) := dk_of ((dk_bind (dk_u1 (h 0 _ rfl))).trans rfl)
theorem dk_87 {code : ByteArray} {pc : Nat} (h : DkAt code pc [87]) : decode code pc = .ok (.pop, 1) := dk_of ((dk_bind (dk_u1 (h 0 _ rfl))).trans rfl)
theorem dk_89 {code : ByteArray} {pc : Nat} (h : DkAt code pc [89]) : decode code pc = .ok (.dup, 1) := dk_of ((dk_bind (dk_u1 (h 0 _ rfl))).trans rfl)
theorem dk_90 {code : ByteArray} {pc : Nat} (h : DkAt code pc [90]) : decode code pc = .ok (.dup_x1, 1) := dk_of ((dk_bind (dk_u1 (h 0 _ rfl))).trans rfl)
theorem dk_92 {code : ByteArray} {pc : Nat} (h : DkAt code pc [92]) : decode code pc = .ok (.dup2, 1) := dk_of ((dk_bind (dk_u1 (h 0 _ rfl))).trans rfl)
theorem dk_96 {code : ByteArray} {pc : Nat} (h : DkAt code pc [96]) : decode code pc = .ok (.iadd, 1) := dk_of ((dk_bind (dk_u1 (h 0 _ rfl))).trans rfl)
theorem dk_97 {code : ByteArray} {pc : Nat} (h : DkAt code pc [97]) : decode code pc = .ok (.ladd, 1) := dk_of ((dk_bind (dk_u1 (h 0 _ rfl))).trans rfl)
theorem dk_100 {code : ByteArray} {pc : Nat} (h : DkAt code pc [100]) : decode code pc = .ok (.isub, 1) := dk_of ((dk_bind (dk_u1 (h 0 _ rfl))).trans rfl)
theorem dk_104 {code : ByteArray} {pc : Nat} (h : DkAt code pc [104]) : decode code pc = .ok (.imul, 1) := dk_of ((dk_bind (dk_u1 (h 0 _ rfl))).trans rfl)
theorem dk_105 {code : ByteArray} {pc : Nat} (h : DkAt code pc [105]) : decode code pc = .ok (.lmul, 1) := dk_of ((dk_bind (dk_u1 (h 0 _ rfl))).trans rfl)
theorem dk_108 {code : ByteArray} {pc : Nat} (h : DkAt code pc [108]) : decode code pc = .ok (.idiv, 1) := dk_of ((dk_bind (dk_u1 (h 0 _ rfl))).trans rfl)
theorem dk_109 {code : ByteArray} {pc : Nat} (h : DkAt code pc [109]) : decode code pc = .ok (.ldiv, 1) := dk_of ((dk_bind (dk_u1 (h 0 _ rfl))).trans rfl)
theorem dk_112 {code : ByteArray} {pc : Nat} (h : DkAt code pc [112]) : decode code pc = .ok (.irem, 1) := dk_of ((dk_bind (dk_u1 (h 0 _ rfl))).trans rfl)
theorem dk_116 {code : ByteArray} {pc : Nat} (h : DkAt code pc [116]) : decode code pc = .ok (.ineg, 1) := dk_of ((dk_bind (dk_u1 (h 0 _ rfl))).trans rfl)
theorem dk_117 {code : ByteArray} {pc : Nat} (h : DkAt code pc [117]) : decode code pc = .ok (.lneg, 1) := dk_of ((dk_bind (dk_u1 (h 0 _ rfl))).trans rfl)
theorem dk_120 {code : ByteArray} {pc : Nat} (h : DkAt code pc [120]) : decode code pc = .ok (.ishl, 1) := dk_of ((dk_bind (dk_u1 (h 0 _ rfl))).trans rfl)
theorem dk_121 {code : ByteArray} {pc : Nat} (h : DkAt code pc [121]) : decode code pc = .ok (.lshl, 1) := dk_of ((dk_bind (dk_u1 (h 0 _ rfl))).trans rfl)
theorem dk_122 {code : ByteArray} {pc : Nat} (h : DkAt code pc [122]) : decode code pc = .ok (.ishr, 1) := dk_of ((dk_bind (dk_u1 (h 0 _ rfl))).trans rfl)
theorem dk_124 {code : ByteArray} {pc : Nat} (h : DkAt code pc [124]) : decode code pc = .ok (.iushr, 1) := dk_of ((dk_bind (dk_u1 (h 0 _ rfl))).trans rfl)
theorem dk_126 {code : ByteArray} {pc : Nat} (h : DkAt code pc [126]) : decode code pc = .ok (.iand, 1) := dk_of ((dk_bind (dk_u1 (h 0 _ rfl))).trans rfl)
theorem dk_128 {code : ByteArray} {pc : Nat} (h : DkAt code pc [128]) : decode code pc = .ok (.ior, 1) := dk_of ((dk_bind (dk_u1 (h 0 _ rfl))).trans rfl)
theorem dk_129 {code : ByteArray} {pc : Nat} (h : DkAt code pc [129]) : decode code pc = .ok (.lor, 1) := dk_of ((dk_bind (dk_u1 (h 0 _ rfl))).trans rfl)
theorem dk_130 {code : ByteArray} {pc : Nat} (h : DkAt code pc [130]) : decode code pc = .ok (.ixor, 1) := dk_of ((dk_bind (dk_u1 (h 0 _ rfl))).trans rfl)
theorem dk_132 {code : ByteArray} {pc : Nat} (a b : UInt8) (h : DkAt code pc [132, a, b]) : decode code pc = .ok (.iinc a.toNat (Reader.signed 8 b.toNat), 3) := dk_of ((dk_bind (dk_u1 (h 0 _ rfl))).trans ((dk_bind (dk_u1 (h 1 _ rfl))).trans ((dk_bind (dk_map (dk_u1 (h 2 _ rfl)))).trans rfl)))
theorem dk_133 {code : ByteArray} {pc : Nat} (h : DkAt code pc [133]) : decode code pc = .ok (.i2l, 1) := dk_of ((dk_bind (dk_u1 (h 0 _ rfl))).trans rfl)
theorem dk_136 {code : ByteArray} {pc : Nat} (h : DkAt code pc [136]) : decode code pc = .ok (.l2i, 1) := dk_of ((dk_bind (dk_u1 (h 0 _ rfl))).trans rfl)
theorem dk_145 {code : ByteArray} {pc : Nat} (h : DkAt code pc [145]) : decode code pc = .ok (.i2b, 1) := dk_of ((dk_bind (dk_u1 (h 0 _ rfl))).trans rfl)
theorem dk_146 {code : ByteArray} {pc : Nat} (h : DkAt code pc [146]) : decode code pc = .ok (.i2c, 1) := dk_of ((dk_bind (dk_u1 (h 0 _ rfl))).trans rfl)
theorem dk_148 {code : ByteArray} {pc : Nat} (h : DkAt code pc [148]) : decode code pc = .ok (.lcmp, 1) := dk_of ((dk_bind (dk_u1 (h 0 _ rfl))).trans rfl)
theorem dk_153 {code : ByteArray} {pc : Nat} (a b : UInt8) (h : DkAt code pc [153, a, b]) : decode code pc = .ok (.ifCond .eq (Reader.signed 16 (a.toNat * 256 + b.toNat)), 3) := dk_of ((dk_bind (dk_u1 (h 0 _ rfl))).trans ((dk_bind (dk_map (dk_u2 (h 1 _ rfl) (h 2 _ rfl)))).trans rfl))
theorem dk_154 {code : ByteArray} {pc : Nat} (a b : UInt8) (h : DkAt code pc [154, a, b]) : decode code pc = .ok (.ifCond .ne (Reader.signed 16 (a.toNat * 256 + b.toNat)), 3) := dk_of ((dk_bind (dk_u1 (h 0 _ rfl))).trans ((dk_bind (dk_map (dk_u2 (h 1 _ rfl) (h 2 _ rfl)))).trans rfl))
theorem dk_155 {code : ByteArray} {pc : Nat} (a b : UInt8) (h : DkAt code pc [155, a, b]) : decode code pc = .ok (.ifCond .lt (Reader.signed 16 (a.toNat * 256 + b.toNat)), 3) := dk_of ((dk_bind (dk_u1 (h 0 _ rfl))).trans ((dk_bind (dk_map (dk_u2 (h 1 _ rfl) (h 2 _ rfl)))).trans rfl))
theorem dk_156 {code : ByteArray} {pc : Nat} (a b : UInt8) (h : DkAt code pc [156, a, b]) : decode code pc = .ok (.ifCond .ge (Reader.signed 16 (a.toNat * 256 + b.toNat)), 3) := dk_of ((dk_bind (dk_u1 (h 0 _ rfl))).trans ((dk_bind (dk_map (dk_u2 (h 1 _ rfl) (h 2 _ rfl)))).trans rfl))
theorem dk_157 {code : ByteArray} {pc : Nat} (a b : UInt8) (h : DkAt code pc [157, a, b]) : decode code pc = .ok (.ifCond .gt (Reader.signed 16 (a.toNat * 256 + b.toNat)), 3) := dk_of ((dk_bind (dk_u1 (h 0 _ rfl))).trans ((dk_bind (dk_map (dk_u2 (h 1 _ rfl) (h 2 _ rfl)))).trans rfl))
theorem dk_158 {code : ByteArray} {pc : Nat} (a b : UInt8) (h : DkAt code pc [158, a, b]) : decode code pc = .ok (.ifCond .le (Reader.signed 16 (a.toNat * 256 + b.toNat)), 3) := dk_of ((dk_bind (dk_u1 (h 0 _ rfl))).trans ((dk_bind (dk_map (dk_u2 (h 1 _ rfl) (h 2 _ rfl)))).trans rfl))
theorem dk_159 {code : ByteArray} {pc : Nat} (a b : UInt8) (h : DkAt code pc [159, a, b]) : decode code pc = .ok (.if_icmp .eq (Reader.signed 16 (a.toNat * 256 + b.toNat)), 3) := dk_of ((dk_bind (dk_u1 (h 0 _ rfl))).trans ((dk_bind (dk_map (dk_u2 (h 1 _ rfl) (h 2 _ rfl)))).trans rfl))
theorem dk_160 {code : ByteArray} {pc : Nat} (a b : UInt8) (h : DkAt code pc [160, a, b]) : decode code pc = .ok (.if_icmp .ne (Reader.signed 16 (a.toNat * 256 + b.toNat)), 3) := dk_of ((dk_bind (dk_u1 (h 0 _ rfl))).trans ((dk_bind (dk_map (dk_u2 (h 1 _ rfl) (h 2 _ rfl)))).trans rfl))
theorem dk_161 {code : ByteArray} {pc : Nat} (a b : UInt8) (h : DkAt code pc [161, a, b]) : decode code pc = .ok (.if_icmp .lt (Reader.signed 16 (a.toNat * 256 + b.toNat)), 3) := dk_of ((dk_bind (dk_u1 (h 0 _ rfl))).trans ((dk_bind (dk_map (dk_u2 (h 1 _ rfl) (h 2 _ rfl)))).trans rfl))
theorem dk_162 {code : ByteArray} {pc : Nat} (a b : UInt8) (h : DkAt code pc [162, a, b]) : decode code pc = .ok (.if_icmp .ge (Reader.signed 16 (a.toNat * 256 + b.toNat)), 3) := dk_of ((dk_bind (dk_u1 (h 0 _ rfl))).trans ((dk_bind (dk_map (dk_u2 (h 1 _ rfl) (h 2 _ rfl)))).trans rfl))
theorem dk_163 {code : ByteArray} {pc : Nat} (a b : UInt8) (h : DkAt code pc [163, a, b]) : decode code pc = .ok (.if_icmp .gt (Reader.signed 16 (a.toNat * 256 + b.toNat)), 3) := dk_of ((dk_bind (dk_u1 (h 0 _ rfl))).trans ((dk_bind (dk_map (dk_u2 (h 1 _ rfl) (h 2 _ rfl)))).trans rfl))
theorem dk_164 {code : ByteArray} {pc : Nat} (a b : UInt8) (h : DkAt code pc [164, a, b]) : decode code pc = .ok (.if_icmp .le (Reader.signed 16 (a.toNat * 256 + b.toNat)), 3) := dk_of ((dk_bind (dk_u1 (h 0 _ rfl))).trans ((dk_bind (dk_map (dk_u2 (h 1 _ rfl) (h 2 _ rfl)))).trans rfl))
theorem dk_165 {code : ByteArray} {pc : Nat} (a b : UInt8) (h : DkAt code pc [165, a, b]) : decode code pc = .ok (.if_acmp .eq (Reader.signed 16 (a.toNat * 256 + b.toNat)), 3) := dk_of ((dk_bind (dk_u1 (h 0 _ rfl))).trans ((dk_bind (dk_map (dk_u2 (h 1 _ rfl) (h 2 _ rfl)))).trans rfl))
theorem dk_166 {code : ByteArray} {pc : Nat} (a b : UInt8) (h : DkAt code pc [166, a, b]) : decode code pc = .ok (.if_acmp .ne (Reader.signed 16 (a.toNat * 256 + b.toNat)), 3) := dk_of ((dk_bind (dk_u1 (h 0 _ rfl))).trans ((dk_bind (dk_map (dk_u2 (h 1 _ rfl) (h 2 _ rfl)))).trans rfl))
theorem dk_167 {code : ByteArray} {pc : Nat} (a b : UInt8) (h : DkAt code pc [167, a, b]) : decode code pc = .ok (.goto (Reader.signed 16 (a.toNat * 256 + b.toNat)), 3) := dk_of ((dk_bind (dk_u1 (h 0 _ rfl))).trans ((dk_bind (dk_map (dk_u2 (h 1 _ rfl) (h 2 _ rfl)))).trans rfl))
theorem dk_172 {code : ByteArray} {pc : Nat} (h : DkAt code pc [172]) : decode code pc = .ok (.ireturn, 1) := dk_of ((dk_bind (dk_u1 (h 0 _ rfl))).trans rfl)
theorem dk_173 {code : ByteArray} {pc : Nat} (h : DkAt code pc [173]) : decode code pc = .ok (.lreturn, 1) := dk_of ((dk_bind (dk_u1 (h 0 _ rfl))).trans rfl)
theorem dk_176 {code : ByteArray} {pc : Nat} (h : DkAt code pc [176]) : decode code pc = .ok (.areturn, 1) := dk_of ((dk_bind (dk_u1 (h 0 _ rfl))).trans rfl)
theorem dk_177 {code : ByteArray} {pc : Nat} (h : DkAt code pc [177]) : decode code pc = .ok (.return_, 1) := dk_of ((dk_bind (dk_u1 (h 0 _ rfl))).trans rfl)
theorem dk_178 {code : ByteArray} {pc : Nat} (a b : UInt8) (h : DkAt code pc [178, a, b]) : decode code pc = .ok (.getstatic (a.toNat * 256 + b.toNat), 3) := dk_of ((dk_bind (dk_u1 (h 0 _ rfl))).trans ((dk_bind (dk_u2 (h 1 _ rfl) (h 2 _ rfl))).trans rfl))
theorem dk_180 {code : ByteArray} {pc : Nat} (a b : UInt8) (h : DkAt code pc [180, a, b]) : decode code pc = .ok (.getfield (a.toNat * 256 + b.toNat), 3) := dk_of ((dk_bind (dk_u1 (h 0 _ rfl))).trans ((dk_bind (dk_u2 (h 1 _ rfl) (h 2 _ rfl))).trans rfl))
theorem dk_181 {code : ByteArray} {pc : Nat} (a b : UInt8) (h : DkAt code pc [181, a, b]) : decode code pc = .ok (.putfield (a.toNat * 256 + b.toNat), 3) := dk_of ((dk_bind (dk_u1 (h 0 _ rfl))).trans ((dk_bind (dk_u2 (h 1 _ rfl) (h 2 _ rfl))).trans rfl))
theorem dk_182 {code : ByteArray} {pc : Nat} (a b : UInt8) (h : DkAt code pc [182, a, b]) : decode code pc = .ok (.invokevirtual (a.toNat * 256 + b.toNat), 3) := dk_of ((dk_bind (dk_u1 (h 0 _ rfl))).trans ((dk_bind (dk_u2 (h 1 _ rfl) (h 2 _ rfl))).trans rfl))
theorem dk_183 {code : ByteArray} {pc : Nat} (a b : UInt8) (h : DkAt code pc [183, a, b]) : decode code pc = .ok (.invokespecial (a.toNat * 256 + b.toNat), 3) := dk_of ((dk_bind (dk_u1 (h 0 _ rfl))).trans ((dk_bind (dk_u2 (h 1 _ rfl) (h 2 _ rfl))).trans rfl))
theorem dk_184 {code : ByteArray} {pc : Nat} (a b : UInt8) (h : DkAt code pc [184, a, b]) : decode code pc = .ok (.invokestatic (a.toNat * 256 + b.toNat), 3) := dk_of ((dk_bind (dk_u1 (h 0 _ rfl))).trans ((dk_bind (dk_u2 (h 1 _ rfl) (h 2 _ rfl))).trans rfl))
theorem dk_187 {code : ByteArray} {pc : Nat} (a b : UInt8) (h : DkAt code pc [187, a, b]) : decode code pc = .ok (.new (a.toNat * 256 + b.toNat), 3) := dk_of ((dk_bind (dk_u1 (h 0 _ rfl))).trans ((dk_bind (dk_u2 (h 1 _ rfl) (h 2 _ rfl))).trans rfl))
theorem dk_188_4 {code : ByteArray} {pc : Nat} (h : DkAt code pc [188, 4]) : decode code pc = .ok (.newarray .boolean, 2) := dk_of ((dk_bind (dk_u1 (h 0 _ rfl))).trans ((dk_bind (dk_u1 (h 1 _ rfl))).trans rfl))
theorem dk_188_8 {code : ByteArray} {pc : Nat} (h : DkAt code pc [188, 8]) : decode code pc = .ok (.newarray .byte, 2) := dk_of ((dk_bind (dk_u1 (h 0 _ rfl))).trans ((dk_bind (dk_u1 (h 1 _ rfl))).trans rfl))
theorem dk_188_10 {code : ByteArray} {pc : Nat} (h : DkAt code pc [188, 10]) : decode code pc = .ok (.newarray .int, 2) := dk_of ((dk_bind (dk_u1 (h 0 _ rfl))).trans ((dk_bind (dk_u1 (h 1 _ rfl))).trans rfl))
theorem dk_188_11 {code : ByteArray} {pc : Nat} (h : DkAt code pc [188, 11]) : decode code pc = .ok (.newarray .long, 2) := dk_of ((dk_bind (dk_u1 (h 0 _ rfl))).trans ((dk_bind (dk_u1 (h 1 _ rfl))).trans rfl))
theorem dk_189 {code : ByteArray} {pc : Nat} (a b : UInt8) (h : DkAt code pc [189, a, b]) : decode code pc = .ok (.anewarray (a.toNat * 256 + b.toNat), 3) := dk_of ((dk_bind (dk_u1 (h 0 _ rfl))).trans ((dk_bind (dk_u2 (h 1 _ rfl) (h 2 _ rfl))).trans rfl))
theorem dk_190 {code : ByteArray} {pc : Nat} (h : DkAt code pc [190]) : decode code pc = .ok (.arraylength, 1) := dk_of ((dk_bind (dk_u1 (h 0 _ rfl))).trans rfl)
theorem dk_191 {code : ByteArray} {pc : Nat} (h : DkAt code pc [191]) : decode code pc = .ok (.athrow, 1) := dk_of ((dk_bind (dk_u1 (h 0 _ rfl))).trans rfl)
theorem dk_192 {code : ByteArray} {pc : Nat} (a b : UInt8) (h : DkAt code pc [192, a, b]) : decode code pc = .ok (.checkcast (a.toNat * 256 + b.toNat), 3) := dk_of ((dk_bind (dk_u1 (h 0 _ rfl))).trans ((dk_bind (dk_u2 (h 1 _ rfl) (h 2 _ rfl))).trans rfl))
theorem dk_198 {code : ByteArray} {pc : Nat} (a b : UInt8) (h : DkAt code pc [198, a, b]) : decode code pc = .ok (.ifnull (Reader.signed 16 (a.toNat * 256 + b.toNat)), 3) := dk_of ((dk_bind (dk_u1 (h 0 _ rfl))).trans ((dk_bind (dk_map (dk_u2 (h 1 _ rfl) (h 2 _ rfl)))).trans rfl))

/-! WiredNets$Flood -/
set_option maxRecDepth 100000
def RX2 : String := "WiredNets$Flood"
def TX2 : u_T := fun k => match k with
  | 0 => ("WiredNets$Flood", "far", "[I", true)
  | 1 => ("WiredNets$Flood", "seen", "I", false)
  | 2 => ("WiredNets$Flood", "greatest", "I", false)
  | _ => ("WiredNets$Flood", "sum", "I", false)
def tyX2 : Nat → FieldType := fun k => match k with
  | 0 => .array .int
  | 1 => .int
  | 2 => .int
  | _ => .int
abbrev wsX20 : List Cond := u_ws RX2 TX2 4
theorem nmX2 : ∀ a, a < 4 → ∀ b, b < 4 → a ≠ b → (TX2 a).2.1 ≠ (TX2 b).2.1 := by decide +kernel
theorem tyX2_ok : ∀ k, k < 4 → parseFieldDescriptor (TX2 k).2.2.1 = some (tyX2 k) := by decide +kernel
abbrev cX2_init : ByteArray := prog_2_method_1_code
def yX2_init : MethodName := ⟨RX2, "<init>", "()V"⟩
def dkwX2_init_0 : List UInt8 := [42, 183, 0, 3, 42, 16, 24, 188, 10, 181, 0, 9, 177]
abbrev dktX2_init_0 : List UInt8 := dkwX2_init_0 ++ []
theorem dksX2_init_0 : cX2_init.data.toList.drop 0 = dktX2_init_0 := by decide +kernel
theorem dX2_init_0 : decode cX2_init 0 = .ok (.aload_n 0, 1) := dk_42 (dk_at dksX2_init_0 0 rfl rfl)
theorem dX2_init_1 : decode cX2_init 1 = .ok (.invokespecial 3, 3) := dk_183 0 3 (dk_at dksX2_init_0 1 rfl rfl)
theorem dX2_init_4 : decode cX2_init 4 = .ok (.aload_n 0, 1) := dk_42 (dk_at dksX2_init_0 4 rfl rfl)
theorem dX2_init_5 : decode cX2_init 5 = .ok (.bipush 24, 2) := dk_16 24 (dk_at dksX2_init_0 5 rfl rfl)
theorem dX2_init_7 : decode cX2_init 7 = .ok (.newarray .int, 2) := dk_188_10 (dk_at dksX2_init_0 7 rfl rfl)
theorem dX2_init_9 : decode cX2_init 9 = .ok (.putfield 9, 3) := dk_181 0 9 (dk_at dksX2_init_0 9 rfl rfl)
theorem dX2_init_12 : decode cX2_init 12 = .ok (.return_, 1) := dk_177 (dk_at dksX2_init_0 12 rfl rfl)
abbrev cX2_distance : ByteArray := prog_2_method_7_code
def yX2_distance : MethodName := ⟨RX2, "distance", "(LWiredNets$Net;II)I"⟩
def dkwX2_distance_1 : List UInt8 := [180, 0, 9, 29, 46, 167, 0, 4, 2, 172]
abbrev dktX2_distance_1 : List UInt8 := dkwX2_distance_1 ++ []
def dkwX2_distance_0 : List UInt8 := [42, 43, 28, 43, 182, 0, 46, 182, 0, 36, 42, 180, 0, 15, 29, 122, 4, 126, 4, 160, 0, 12, 42]
abbrev dktX2_distance_0 : List UInt8 := dkwX2_distance_0 ++ dktX2_distance_1
theorem dksX2_distance_0 : cX2_distance.data.toList.drop 0 = dktX2_distance_0 := by decide +kernel
theorem dksX2_distance_1 : cX2_distance.data.toList.drop 23 = dktX2_distance_1 := dk_seg dksX2_distance_0 23 rfl rfl
theorem dX2_distance_0 : decode cX2_distance 0 = .ok (.aload_n 0, 1) := dk_42 (dk_at dksX2_distance_0 0 rfl rfl)
theorem dX2_distance_1 : decode cX2_distance 1 = .ok (.aload_n 1, 1) := dk_43 (dk_at dksX2_distance_0 1 rfl rfl)
theorem dX2_distance_2 : decode cX2_distance 2 = .ok (.iload_n 2, 1) := dk_28 (dk_at dksX2_distance_0 2 rfl rfl)
theorem dX2_distance_3 : decode cX2_distance 3 = .ok (.aload_n 1, 1) := dk_43 (dk_at dksX2_distance_0 3 rfl rfl)
theorem dX2_distance_4 : decode cX2_distance 4 = .ok (.invokevirtual 46, 3) := dk_182 0 46 (dk_at dksX2_distance_0 4 rfl rfl)
theorem dX2_distance_7 : decode cX2_distance 7 = .ok (.invokevirtual 36, 3) := dk_182 0 36 (dk_at dksX2_distance_0 7 rfl rfl)
theorem dX2_distance_10 : decode cX2_distance 10 = .ok (.aload_n 0, 1) := dk_42 (dk_at dksX2_distance_0 10 rfl rfl)
theorem dX2_distance_11 : decode cX2_distance 11 = .ok (.getfield 15, 3) := dk_180 0 15 (dk_at dksX2_distance_0 11 rfl rfl)
theorem dX2_distance_14 : decode cX2_distance 14 = .ok (.iload_n 3, 1) := dk_29 (dk_at dksX2_distance_0 14 rfl rfl)
theorem dX2_distance_15 : decode cX2_distance 15 = .ok (.ishr, 1) := dk_122 (dk_at dksX2_distance_0 15 rfl rfl)
theorem dX2_distance_16 : decode cX2_distance 16 = .ok (.iconst 1, 1) := dk_4 (dk_at dksX2_distance_0 16 rfl rfl)
theorem dX2_distance_17 : decode cX2_distance 17 = .ok (.iand, 1) := dk_126 (dk_at dksX2_distance_0 17 rfl rfl)
theorem dX2_distance_18 : decode cX2_distance 18 = .ok (.iconst 1, 1) := dk_4 (dk_at dksX2_distance_0 18 rfl rfl)
theorem dX2_distance_19 : decode cX2_distance 19 = .ok (.if_icmp .ne 12, 3) := dk_160 0 12 (dk_at dksX2_distance_0 19 rfl rfl)
theorem dX2_distance_22 : decode cX2_distance 22 = .ok (.aload_n 0, 1) := dk_42 (dk_at dksX2_distance_0 22 rfl rfl)
theorem dX2_distance_23 : decode cX2_distance 23 = .ok (.getfield 9, 3) := dk_180 0 9 (dk_at dksX2_distance_1 0 rfl rfl)
theorem dX2_distance_26 : decode cX2_distance 26 = .ok (.iload_n 3, 1) := dk_29 (dk_at dksX2_distance_1 3 rfl rfl)
theorem dX2_distance_27 : decode cX2_distance 27 = .ok (.iaload, 1) := dk_46 (dk_at dksX2_distance_1 4 rfl rfl)
theorem dX2_distance_28 : decode cX2_distance 28 = .ok (.goto 4, 3) := dk_167 0 4 (dk_at dksX2_distance_1 5 rfl rfl)
theorem dX2_distance_31 : decode cX2_distance 31 = .ok (.iconst (-1), 1) := dk_2 (dk_at dksX2_distance_1 8 rfl rfl)
theorem dX2_distance_32 : decode cX2_distance 32 = .ok (.ireturn, 1) := dk_172 (dk_at dksX2_distance_1 9 rfl rfl)
abbrev cX2_run : ByteArray := prog_2_method_2_code
def yX2_run : MethodName := ⟨RX2, "run", "(LWiredNets$Net;II)V"⟩
def dkwX2_run_6 : List UInt8 := [4, 100, 126, 54, 7, 167, 255, 213, 132, 5, 1, 167, 255, 135, 177]
abbrev dktX2_run_6 : List UInt8 := dkwX2_run_6 ++ []
def dkwX2_run_5 : List UInt8 := [21, 5, 79, 42, 21, 5, 181, 0, 19, 42, 89, 180, 0, 22, 21, 5, 96, 181, 0, 22, 21, 7, 21, 7]
abbrev dktX2_run_5 : List UInt8 := dkwX2_run_5 ++ dktX2_run_6
def dkwX2_run_4 : List UInt8 := [21, 4, 128, 181, 0, 15, 21, 4, 54, 7, 21, 7, 153, 0, 44, 42, 180, 0, 9, 21, 7, 184, 0, 30]
abbrev dktX2_run_4 : List UInt8 := dkwX2_run_4 ++ dktX2_run_5
def dkwX2_run_3 : List UInt8 := [126, 54, 7, 167, 255, 227, 21, 6, 29, 126, 42, 180, 0, 15, 2, 130, 126, 54, 4, 42, 89, 180, 0, 15]
abbrev dktX2_run_3 : List UInt8 := dkwX2_run_3 ++ dktX2_run_4
def dkwX2_run_2 : List UInt8 := [153, 0, 30, 21, 6, 43, 180, 0, 25, 21, 7, 184, 0, 30, 46, 128, 54, 6, 21, 7, 21, 7, 4, 100]
abbrev dktX2_run_2 : List UInt8 := dkwX2_run_2 ++ dktX2_run_3
def dkwX2_run_1 : List UInt8 := [42, 180, 0, 15, 54, 4, 4, 54, 5, 21, 4, 153, 0, 122, 3, 54, 6, 21, 4, 54, 7, 21, 7]
abbrev dktX2_run_1 : List UInt8 := dkwX2_run_1 ++ dktX2_run_2
def dkwX2_run_0 : List UInt8 := [42, 4, 28, 120, 181, 0, 15, 42, 3, 181, 0, 19, 42, 3, 181, 0, 22, 42, 180, 0, 9, 28, 3, 79]
abbrev dktX2_run_0 : List UInt8 := dkwX2_run_0 ++ dktX2_run_1
theorem dksX2_run_0 : cX2_run.data.toList.drop 0 = dktX2_run_0 := by decide +kernel
theorem dksX2_run_1 : cX2_run.data.toList.drop 24 = dktX2_run_1 := dk_seg dksX2_run_0 24 rfl rfl
theorem dksX2_run_2 : cX2_run.data.toList.drop 47 = dktX2_run_2 := dk_seg dksX2_run_1 23 rfl rfl
theorem dksX2_run_3 : cX2_run.data.toList.drop 71 = dktX2_run_3 := dk_seg dksX2_run_2 24 rfl rfl
theorem dksX2_run_4 : cX2_run.data.toList.drop 95 = dktX2_run_4 := dk_seg dksX2_run_3 24 rfl rfl
theorem dksX2_run_5 : cX2_run.data.toList.drop 119 = dktX2_run_5 := dk_seg dksX2_run_4 24 rfl rfl
theorem dksX2_run_6 : cX2_run.data.toList.drop 143 = dktX2_run_6 := dk_seg dksX2_run_5 24 rfl rfl
theorem dX2_run_0 : decode cX2_run 0 = .ok (.aload_n 0, 1) := dk_42 (dk_at dksX2_run_0 0 rfl rfl)
theorem dX2_run_1 : decode cX2_run 1 = .ok (.iconst 1, 1) := dk_4 (dk_at dksX2_run_0 1 rfl rfl)
theorem dX2_run_2 : decode cX2_run 2 = .ok (.iload_n 2, 1) := dk_28 (dk_at dksX2_run_0 2 rfl rfl)
theorem dX2_run_3 : decode cX2_run 3 = .ok (.ishl, 1) := dk_120 (dk_at dksX2_run_0 3 rfl rfl)
theorem dX2_run_4 : decode cX2_run 4 = .ok (.putfield 15, 3) := dk_181 0 15 (dk_at dksX2_run_0 4 rfl rfl)
theorem dX2_run_7 : decode cX2_run 7 = .ok (.aload_n 0, 1) := dk_42 (dk_at dksX2_run_0 7 rfl rfl)
theorem dX2_run_8 : decode cX2_run 8 = .ok (.iconst 0, 1) := dk_3 (dk_at dksX2_run_0 8 rfl rfl)
theorem dX2_run_9 : decode cX2_run 9 = .ok (.putfield 19, 3) := dk_181 0 19 (dk_at dksX2_run_0 9 rfl rfl)
theorem dX2_run_12 : decode cX2_run 12 = .ok (.aload_n 0, 1) := dk_42 (dk_at dksX2_run_0 12 rfl rfl)
theorem dX2_run_13 : decode cX2_run 13 = .ok (.iconst 0, 1) := dk_3 (dk_at dksX2_run_0 13 rfl rfl)
theorem dX2_run_14 : decode cX2_run 14 = .ok (.putfield 22, 3) := dk_181 0 22 (dk_at dksX2_run_0 14 rfl rfl)
theorem dX2_run_17 : decode cX2_run 17 = .ok (.aload_n 0, 1) := dk_42 (dk_at dksX2_run_0 17 rfl rfl)
theorem dX2_run_18 : decode cX2_run 18 = .ok (.getfield 9, 3) := dk_180 0 9 (dk_at dksX2_run_0 18 rfl rfl)
theorem dX2_run_21 : decode cX2_run 21 = .ok (.iload_n 2, 1) := dk_28 (dk_at dksX2_run_0 21 rfl rfl)
theorem dX2_run_22 : decode cX2_run 22 = .ok (.iconst 0, 1) := dk_3 (dk_at dksX2_run_0 22 rfl rfl)
theorem dX2_run_23 : decode cX2_run 23 = .ok (.iastore, 1) := dk_79 (dk_at dksX2_run_0 23 rfl rfl)
theorem dX2_run_24 : decode cX2_run 24 = .ok (.aload_n 0, 1) := dk_42 (dk_at dksX2_run_1 0 rfl rfl)
theorem dX2_run_25 : decode cX2_run 25 = .ok (.getfield 15, 3) := dk_180 0 15 (dk_at dksX2_run_1 1 rfl rfl)
theorem dX2_run_28 : decode cX2_run 28 = .ok (.istore 4, 2) := dk_54 4 (dk_at dksX2_run_1 4 rfl rfl)
theorem dX2_run_30 : decode cX2_run 30 = .ok (.iconst 1, 1) := dk_4 (dk_at dksX2_run_1 6 rfl rfl)
theorem dX2_run_31 : decode cX2_run 31 = .ok (.istore 5, 2) := dk_54 5 (dk_at dksX2_run_1 7 rfl rfl)
theorem dX2_run_33 : decode cX2_run 33 = .ok (.iload 4, 2) := dk_21 4 (dk_at dksX2_run_1 9 rfl rfl)
theorem dX2_run_35 : decode cX2_run 35 = .ok (.ifCond .eq 122, 3) := dk_153 0 122 (dk_at dksX2_run_1 11 rfl rfl)
theorem dX2_run_38 : decode cX2_run 38 = .ok (.iconst 0, 1) := dk_3 (dk_at dksX2_run_1 14 rfl rfl)
theorem dX2_run_39 : decode cX2_run 39 = .ok (.istore 6, 2) := dk_54 6 (dk_at dksX2_run_1 15 rfl rfl)
theorem dX2_run_41 : decode cX2_run 41 = .ok (.iload 4, 2) := dk_21 4 (dk_at dksX2_run_1 17 rfl rfl)
theorem dX2_run_43 : decode cX2_run 43 = .ok (.istore 7, 2) := dk_54 7 (dk_at dksX2_run_1 19 rfl rfl)
theorem dX2_run_45 : decode cX2_run 45 = .ok (.iload 7, 2) := dk_21 7 (dk_at dksX2_run_1 21 rfl rfl)
theorem dX2_run_47 : decode cX2_run 47 = .ok (.ifCond .eq 30, 3) := dk_153 0 30 (dk_at dksX2_run_2 0 rfl rfl)
theorem dX2_run_50 : decode cX2_run 50 = .ok (.iload 6, 2) := dk_21 6 (dk_at dksX2_run_2 3 rfl rfl)
theorem dX2_run_52 : decode cX2_run 52 = .ok (.aload_n 1, 1) := dk_43 (dk_at dksX2_run_2 5 rfl rfl)
theorem dX2_run_53 : decode cX2_run 53 = .ok (.getfield 25, 3) := dk_180 0 25 (dk_at dksX2_run_2 6 rfl rfl)
theorem dX2_run_56 : decode cX2_run 56 = .ok (.iload 7, 2) := dk_21 7 (dk_at dksX2_run_2 9 rfl rfl)
theorem dX2_run_58 : decode cX2_run 58 = .ok (.invokestatic 30, 3) := dk_184 0 30 (dk_at dksX2_run_2 11 rfl rfl)
theorem dX2_run_61 : decode cX2_run 61 = .ok (.iaload, 1) := dk_46 (dk_at dksX2_run_2 14 rfl rfl)
theorem dX2_run_62 : decode cX2_run 62 = .ok (.ior, 1) := dk_128 (dk_at dksX2_run_2 15 rfl rfl)
theorem dX2_run_63 : decode cX2_run 63 = .ok (.istore 6, 2) := dk_54 6 (dk_at dksX2_run_2 16 rfl rfl)
theorem dX2_run_65 : decode cX2_run 65 = .ok (.iload 7, 2) := dk_21 7 (dk_at dksX2_run_2 18 rfl rfl)
theorem dX2_run_67 : decode cX2_run 67 = .ok (.iload 7, 2) := dk_21 7 (dk_at dksX2_run_2 20 rfl rfl)
theorem dX2_run_69 : decode cX2_run 69 = .ok (.iconst 1, 1) := dk_4 (dk_at dksX2_run_2 22 rfl rfl)
theorem dX2_run_70 : decode cX2_run 70 = .ok (.isub, 1) := dk_100 (dk_at dksX2_run_2 23 rfl rfl)
theorem dX2_run_71 : decode cX2_run 71 = .ok (.iand, 1) := dk_126 (dk_at dksX2_run_3 0 rfl rfl)
theorem dX2_run_72 : decode cX2_run 72 = .ok (.istore 7, 2) := dk_54 7 (dk_at dksX2_run_3 1 rfl rfl)
theorem dX2_run_74 : decode cX2_run 74 = .ok (.goto (-29), 3) := dk_167 255 227 (dk_at dksX2_run_3 3 rfl rfl)
theorem dX2_run_77 : decode cX2_run 77 = .ok (.iload 6, 2) := dk_21 6 (dk_at dksX2_run_3 6 rfl rfl)
theorem dX2_run_79 : decode cX2_run 79 = .ok (.iload_n 3, 1) := dk_29 (dk_at dksX2_run_3 8 rfl rfl)
theorem dX2_run_80 : decode cX2_run 80 = .ok (.iand, 1) := dk_126 (dk_at dksX2_run_3 9 rfl rfl)
theorem dX2_run_81 : decode cX2_run 81 = .ok (.aload_n 0, 1) := dk_42 (dk_at dksX2_run_3 10 rfl rfl)
theorem dX2_run_82 : decode cX2_run 82 = .ok (.getfield 15, 3) := dk_180 0 15 (dk_at dksX2_run_3 11 rfl rfl)
theorem dX2_run_85 : decode cX2_run 85 = .ok (.iconst (-1), 1) := dk_2 (dk_at dksX2_run_3 14 rfl rfl)
theorem dX2_run_86 : decode cX2_run 86 = .ok (.ixor, 1) := dk_130 (dk_at dksX2_run_3 15 rfl rfl)
theorem dX2_run_87 : decode cX2_run 87 = .ok (.iand, 1) := dk_126 (dk_at dksX2_run_3 16 rfl rfl)
theorem dX2_run_88 : decode cX2_run 88 = .ok (.istore 4, 2) := dk_54 4 (dk_at dksX2_run_3 17 rfl rfl)
theorem dX2_run_90 : decode cX2_run 90 = .ok (.aload_n 0, 1) := dk_42 (dk_at dksX2_run_3 19 rfl rfl)
theorem dX2_run_91 : decode cX2_run 91 = .ok (.dup, 1) := dk_89 (dk_at dksX2_run_3 20 rfl rfl)
theorem dX2_run_92 : decode cX2_run 92 = .ok (.getfield 15, 3) := dk_180 0 15 (dk_at dksX2_run_3 21 rfl rfl)
theorem dX2_run_95 : decode cX2_run 95 = .ok (.iload 4, 2) := dk_21 4 (dk_at dksX2_run_4 0 rfl rfl)
theorem dX2_run_97 : decode cX2_run 97 = .ok (.ior, 1) := dk_128 (dk_at dksX2_run_4 2 rfl rfl)
theorem dX2_run_98 : decode cX2_run 98 = .ok (.putfield 15, 3) := dk_181 0 15 (dk_at dksX2_run_4 3 rfl rfl)
theorem dX2_run_101 : decode cX2_run 101 = .ok (.iload 4, 2) := dk_21 4 (dk_at dksX2_run_4 6 rfl rfl)
theorem dX2_run_103 : decode cX2_run 103 = .ok (.istore 7, 2) := dk_54 7 (dk_at dksX2_run_4 8 rfl rfl)
theorem dX2_run_105 : decode cX2_run 105 = .ok (.iload 7, 2) := dk_21 7 (dk_at dksX2_run_4 10 rfl rfl)
theorem dX2_run_107 : decode cX2_run 107 = .ok (.ifCond .eq 44, 3) := dk_153 0 44 (dk_at dksX2_run_4 12 rfl rfl)
theorem dX2_run_110 : decode cX2_run 110 = .ok (.aload_n 0, 1) := dk_42 (dk_at dksX2_run_4 15 rfl rfl)
theorem dX2_run_111 : decode cX2_run 111 = .ok (.getfield 9, 3) := dk_180 0 9 (dk_at dksX2_run_4 16 rfl rfl)
theorem dX2_run_114 : decode cX2_run 114 = .ok (.iload 7, 2) := dk_21 7 (dk_at dksX2_run_4 19 rfl rfl)
theorem dX2_run_116 : decode cX2_run 116 = .ok (.invokestatic 30, 3) := dk_184 0 30 (dk_at dksX2_run_4 21 rfl rfl)
theorem dX2_run_119 : decode cX2_run 119 = .ok (.iload 5, 2) := dk_21 5 (dk_at dksX2_run_5 0 rfl rfl)
theorem dX2_run_121 : decode cX2_run 121 = .ok (.iastore, 1) := dk_79 (dk_at dksX2_run_5 2 rfl rfl)
theorem dX2_run_122 : decode cX2_run 122 = .ok (.aload_n 0, 1) := dk_42 (dk_at dksX2_run_5 3 rfl rfl)
theorem dX2_run_123 : decode cX2_run 123 = .ok (.iload 5, 2) := dk_21 5 (dk_at dksX2_run_5 4 rfl rfl)
theorem dX2_run_125 : decode cX2_run 125 = .ok (.putfield 19, 3) := dk_181 0 19 (dk_at dksX2_run_5 6 rfl rfl)
theorem dX2_run_128 : decode cX2_run 128 = .ok (.aload_n 0, 1) := dk_42 (dk_at dksX2_run_5 9 rfl rfl)
theorem dX2_run_129 : decode cX2_run 129 = .ok (.dup, 1) := dk_89 (dk_at dksX2_run_5 10 rfl rfl)
theorem dX2_run_130 : decode cX2_run 130 = .ok (.getfield 22, 3) := dk_180 0 22 (dk_at dksX2_run_5 11 rfl rfl)
theorem dX2_run_133 : decode cX2_run 133 = .ok (.iload 5, 2) := dk_21 5 (dk_at dksX2_run_5 14 rfl rfl)
theorem dX2_run_135 : decode cX2_run 135 = .ok (.iadd, 1) := dk_96 (dk_at dksX2_run_5 16 rfl rfl)
theorem dX2_run_136 : decode cX2_run 136 = .ok (.putfield 22, 3) := dk_181 0 22 (dk_at dksX2_run_5 17 rfl rfl)
theorem dX2_run_139 : decode cX2_run 139 = .ok (.iload 7, 2) := dk_21 7 (dk_at dksX2_run_5 20 rfl rfl)
theorem dX2_run_141 : decode cX2_run 141 = .ok (.iload 7, 2) := dk_21 7 (dk_at dksX2_run_5 22 rfl rfl)
theorem dX2_run_143 : decode cX2_run 143 = .ok (.iconst 1, 1) := dk_4 (dk_at dksX2_run_6 0 rfl rfl)
theorem dX2_run_144 : decode cX2_run 144 = .ok (.isub, 1) := dk_100 (dk_at dksX2_run_6 1 rfl rfl)
theorem dX2_run_145 : decode cX2_run 145 = .ok (.iand, 1) := dk_126 (dk_at dksX2_run_6 2 rfl rfl)
theorem dX2_run_146 : decode cX2_run 146 = .ok (.istore 7, 2) := dk_54 7 (dk_at dksX2_run_6 3 rfl rfl)
theorem dX2_run_148 : decode cX2_run 148 = .ok (.goto (-43), 3) := dk_167 255 213 (dk_at dksX2_run_6 5 rfl rfl)
theorem dX2_run_151 : decode cX2_run 151 = .ok (.iinc 5 1, 3) := dk_132 5 1 (dk_at dksX2_run_6 8 rfl rfl)
theorem dX2_run_154 : decode cX2_run 154 = .ok (.goto (-121), 3) := dk_167 255 135 (dk_at dksX2_run_6 11 rfl rfl)
theorem dX2_run_157 : decode cX2_run 157 = .ok (.return_, 1) := dk_177 (dk_at dksX2_run_6 14 rfl rfl)
abbrev cX2_isJoined : ByteArray := prog_2_method_4_code
def yX2_isJoined : MethodName := ⟨RX2, "isJoined", "(LWiredNets$Net;)Z"⟩
def dkwX2_isJoined_1 : List UInt8 := [167, 0, 4, 3, 172]
abbrev dktX2_isJoined_1 : List UInt8 := dkwX2_isJoined_1 ++ []
def dkwX2_isJoined_0 : List UInt8 := [42, 43, 3, 43, 182, 0, 46, 182, 0, 36, 42, 180, 0, 15, 43, 182, 0, 46, 160, 0, 7, 4]
abbrev dktX2_isJoined_0 : List UInt8 := dkwX2_isJoined_0 ++ dktX2_isJoined_1
theorem dksX2_isJoined_0 : cX2_isJoined.data.toList.drop 0 = dktX2_isJoined_0 := by decide +kernel
theorem dksX2_isJoined_1 : cX2_isJoined.data.toList.drop 22 = dktX2_isJoined_1 := dk_seg dksX2_isJoined_0 22 rfl rfl
theorem dX2_isJoined_0 : decode cX2_isJoined 0 = .ok (.aload_n 0, 1) := dk_42 (dk_at dksX2_isJoined_0 0 rfl rfl)
theorem dX2_isJoined_1 : decode cX2_isJoined 1 = .ok (.aload_n 1, 1) := dk_43 (dk_at dksX2_isJoined_0 1 rfl rfl)
theorem dX2_isJoined_2 : decode cX2_isJoined 2 = .ok (.iconst 0, 1) := dk_3 (dk_at dksX2_isJoined_0 2 rfl rfl)
theorem dX2_isJoined_3 : decode cX2_isJoined 3 = .ok (.aload_n 1, 1) := dk_43 (dk_at dksX2_isJoined_0 3 rfl rfl)
theorem dX2_isJoined_4 : decode cX2_isJoined 4 = .ok (.invokevirtual 46, 3) := dk_182 0 46 (dk_at dksX2_isJoined_0 4 rfl rfl)
theorem dX2_isJoined_7 : decode cX2_isJoined 7 = .ok (.invokevirtual 36, 3) := dk_182 0 36 (dk_at dksX2_isJoined_0 7 rfl rfl)
theorem dX2_isJoined_10 : decode cX2_isJoined 10 = .ok (.aload_n 0, 1) := dk_42 (dk_at dksX2_isJoined_0 10 rfl rfl)
theorem dX2_isJoined_11 : decode cX2_isJoined 11 = .ok (.getfield 15, 3) := dk_180 0 15 (dk_at dksX2_isJoined_0 11 rfl rfl)
theorem dX2_isJoined_14 : decode cX2_isJoined 14 = .ok (.aload_n 1, 1) := dk_43 (dk_at dksX2_isJoined_0 14 rfl rfl)
theorem dX2_isJoined_15 : decode cX2_isJoined 15 = .ok (.invokevirtual 46, 3) := dk_182 0 46 (dk_at dksX2_isJoined_0 15 rfl rfl)
theorem dX2_isJoined_18 : decode cX2_isJoined 18 = .ok (.if_icmp .ne 7, 3) := dk_160 0 7 (dk_at dksX2_isJoined_0 18 rfl rfl)
theorem dX2_isJoined_21 : decode cX2_isJoined 21 = .ok (.iconst 1, 1) := dk_4 (dk_at dksX2_isJoined_0 21 rfl rfl)
theorem dX2_isJoined_22 : decode cX2_isJoined 22 = .ok (.goto 4, 3) := dk_167 0 4 (dk_at dksX2_isJoined_1 0 rfl rfl)
theorem dX2_isJoined_25 : decode cX2_isJoined 25 = .ok (.iconst 0, 1) := dk_3 (dk_at dksX2_isJoined_1 3 rfl rfl)
theorem dX2_isJoined_26 : decode cX2_isJoined 26 = .ok (.ireturn, 1) := dk_172 (dk_at dksX2_isJoined_1 4 rfl rfl)
abbrev cX2_farthest : ByteArray := prog_2_method_3_code
def yX2_farthest : MethodName := ⟨RX2, "farthest", "(LWiredNets$Net;I)I"⟩
def dkwX2_farthest_2 : List UInt8 := [100, 126, 54, 4, 167, 255, 211, 29, 172]
abbrev dktX2_farthest_2 : List UInt8 := dkwX2_farthest_2 ++ []
def dkwX2_farthest_1 : List UInt8 := [180, 0, 15, 28, 159, 0, 6, 16, 100, 172, 29, 42, 180, 0, 19, 184, 0, 40, 62, 21, 4, 21, 4, 4]
abbrev dktX2_farthest_1 : List UInt8 := dkwX2_farthest_1 ++ dktX2_farthest_2
def dkwX2_farthest_0 : List UInt8 := [3, 62, 28, 54, 4, 21, 4, 153, 0, 46, 42, 43, 21, 4, 184, 0, 30, 28, 182, 0, 36, 42]
abbrev dktX2_farthest_0 : List UInt8 := dkwX2_farthest_0 ++ dktX2_farthest_1
theorem dksX2_farthest_0 : cX2_farthest.data.toList.drop 0 = dktX2_farthest_0 := by decide +kernel
theorem dksX2_farthest_1 : cX2_farthest.data.toList.drop 22 = dktX2_farthest_1 := dk_seg dksX2_farthest_0 22 rfl rfl
theorem dksX2_farthest_2 : cX2_farthest.data.toList.drop 46 = dktX2_farthest_2 := dk_seg dksX2_farthest_1 24 rfl rfl
theorem dX2_farthest_0 : decode cX2_farthest 0 = .ok (.iconst 0, 1) := dk_3 (dk_at dksX2_farthest_0 0 rfl rfl)
theorem dX2_farthest_1 : decode cX2_farthest 1 = .ok (.istore_n 3, 1) := dk_62 (dk_at dksX2_farthest_0 1 rfl rfl)
theorem dX2_farthest_2 : decode cX2_farthest 2 = .ok (.iload_n 2, 1) := dk_28 (dk_at dksX2_farthest_0 2 rfl rfl)
theorem dX2_farthest_3 : decode cX2_farthest 3 = .ok (.istore 4, 2) := dk_54 4 (dk_at dksX2_farthest_0 3 rfl rfl)
theorem dX2_farthest_5 : decode cX2_farthest 5 = .ok (.iload 4, 2) := dk_21 4 (dk_at dksX2_farthest_0 5 rfl rfl)
theorem dX2_farthest_7 : decode cX2_farthest 7 = .ok (.ifCond .eq 46, 3) := dk_153 0 46 (dk_at dksX2_farthest_0 7 rfl rfl)
theorem dX2_farthest_10 : decode cX2_farthest 10 = .ok (.aload_n 0, 1) := dk_42 (dk_at dksX2_farthest_0 10 rfl rfl)
theorem dX2_farthest_11 : decode cX2_farthest 11 = .ok (.aload_n 1, 1) := dk_43 (dk_at dksX2_farthest_0 11 rfl rfl)
theorem dX2_farthest_12 : decode cX2_farthest 12 = .ok (.iload 4, 2) := dk_21 4 (dk_at dksX2_farthest_0 12 rfl rfl)
theorem dX2_farthest_14 : decode cX2_farthest 14 = .ok (.invokestatic 30, 3) := dk_184 0 30 (dk_at dksX2_farthest_0 14 rfl rfl)
theorem dX2_farthest_17 : decode cX2_farthest 17 = .ok (.iload_n 2, 1) := dk_28 (dk_at dksX2_farthest_0 17 rfl rfl)
theorem dX2_farthest_18 : decode cX2_farthest 18 = .ok (.invokevirtual 36, 3) := dk_182 0 36 (dk_at dksX2_farthest_0 18 rfl rfl)
theorem dX2_farthest_21 : decode cX2_farthest 21 = .ok (.aload_n 0, 1) := dk_42 (dk_at dksX2_farthest_0 21 rfl rfl)
theorem dX2_farthest_22 : decode cX2_farthest 22 = .ok (.getfield 15, 3) := dk_180 0 15 (dk_at dksX2_farthest_1 0 rfl rfl)
theorem dX2_farthest_25 : decode cX2_farthest 25 = .ok (.iload_n 2, 1) := dk_28 (dk_at dksX2_farthest_1 3 rfl rfl)
theorem dX2_farthest_26 : decode cX2_farthest 26 = .ok (.if_icmp .eq 6, 3) := dk_159 0 6 (dk_at dksX2_farthest_1 4 rfl rfl)
theorem dX2_farthest_29 : decode cX2_farthest 29 = .ok (.bipush 100, 2) := dk_16 100 (dk_at dksX2_farthest_1 7 rfl rfl)
theorem dX2_farthest_31 : decode cX2_farthest 31 = .ok (.ireturn, 1) := dk_172 (dk_at dksX2_farthest_1 9 rfl rfl)
theorem dX2_farthest_32 : decode cX2_farthest 32 = .ok (.iload_n 3, 1) := dk_29 (dk_at dksX2_farthest_1 10 rfl rfl)
theorem dX2_farthest_33 : decode cX2_farthest 33 = .ok (.aload_n 0, 1) := dk_42 (dk_at dksX2_farthest_1 11 rfl rfl)
theorem dX2_farthest_34 : decode cX2_farthest 34 = .ok (.getfield 19, 3) := dk_180 0 19 (dk_at dksX2_farthest_1 12 rfl rfl)
theorem dX2_farthest_37 : decode cX2_farthest 37 = .ok (.invokestatic 40, 3) := dk_184 0 40 (dk_at dksX2_farthest_1 15 rfl rfl)
theorem dX2_farthest_40 : decode cX2_farthest 40 = .ok (.istore_n 3, 1) := dk_62 (dk_at dksX2_farthest_1 18 rfl rfl)
theorem dX2_farthest_41 : decode cX2_farthest 41 = .ok (.iload 4, 2) := dk_21 4 (dk_at dksX2_farthest_1 19 rfl rfl)
theorem dX2_farthest_43 : decode cX2_farthest 43 = .ok (.iload 4, 2) := dk_21 4 (dk_at dksX2_farthest_1 21 rfl rfl)
theorem dX2_farthest_45 : decode cX2_farthest 45 = .ok (.iconst 1, 1) := dk_4 (dk_at dksX2_farthest_1 23 rfl rfl)
theorem dX2_farthest_46 : decode cX2_farthest 46 = .ok (.isub, 1) := dk_100 (dk_at dksX2_farthest_2 0 rfl rfl)
theorem dX2_farthest_47 : decode cX2_farthest 47 = .ok (.iand, 1) := dk_126 (dk_at dksX2_farthest_2 1 rfl rfl)
theorem dX2_farthest_48 : decode cX2_farthest 48 = .ok (.istore 4, 2) := dk_54 4 (dk_at dksX2_farthest_2 2 rfl rfl)
theorem dX2_farthest_50 : decode cX2_farthest 50 = .ok (.goto (-45), 3) := dk_167 255 211 (dk_at dksX2_farthest_2 4 rfl rfl)
theorem dX2_farthest_53 : decode cX2_farthest 53 = .ok (.iload_n 3, 1) := dk_29 (dk_at dksX2_farthest_2 7 rfl rfl)
theorem dX2_farthest_54 : decode cX2_farthest 54 = .ok (.ireturn, 1) := dk_172 (dk_at dksX2_farthest_2 8 rfl rfl)
abbrev cX2_sums : ByteArray := prog_2_method_5_code
def yX2_sums : MethodName := ⟨RX2, "sums", "(LWiredNets$Net;)I"⟩
def dkwX2_sums_1 : List UInt8 := [180, 0, 22, 96, 61, 132, 3, 1, 167, 255, 228, 28, 5, 108, 172]
abbrev dktX2_sums_1 : List UInt8 := dkwX2_sums_1 ++ []
def dkwX2_sums_0 : List UInt8 := [3, 61, 3, 62, 29, 43, 180, 0, 50, 162, 0, 26, 42, 43, 29, 43, 182, 0, 46, 182, 0, 36, 28, 42]
abbrev dktX2_sums_0 : List UInt8 := dkwX2_sums_0 ++ dktX2_sums_1
theorem dksX2_sums_0 : cX2_sums.data.toList.drop 0 = dktX2_sums_0 := by decide +kernel
theorem dksX2_sums_1 : cX2_sums.data.toList.drop 24 = dktX2_sums_1 := dk_seg dksX2_sums_0 24 rfl rfl
theorem dX2_sums_0 : decode cX2_sums 0 = .ok (.iconst 0, 1) := dk_3 (dk_at dksX2_sums_0 0 rfl rfl)
theorem dX2_sums_1 : decode cX2_sums 1 = .ok (.istore_n 2, 1) := dk_61 (dk_at dksX2_sums_0 1 rfl rfl)
theorem dX2_sums_2 : decode cX2_sums 2 = .ok (.iconst 0, 1) := dk_3 (dk_at dksX2_sums_0 2 rfl rfl)
theorem dX2_sums_3 : decode cX2_sums 3 = .ok (.istore_n 3, 1) := dk_62 (dk_at dksX2_sums_0 3 rfl rfl)
theorem dX2_sums_4 : decode cX2_sums 4 = .ok (.iload_n 3, 1) := dk_29 (dk_at dksX2_sums_0 4 rfl rfl)
theorem dX2_sums_5 : decode cX2_sums 5 = .ok (.aload_n 1, 1) := dk_43 (dk_at dksX2_sums_0 5 rfl rfl)
theorem dX2_sums_6 : decode cX2_sums 6 = .ok (.getfield 50, 3) := dk_180 0 50 (dk_at dksX2_sums_0 6 rfl rfl)
theorem dX2_sums_9 : decode cX2_sums 9 = .ok (.if_icmp .ge 26, 3) := dk_162 0 26 (dk_at dksX2_sums_0 9 rfl rfl)
theorem dX2_sums_12 : decode cX2_sums 12 = .ok (.aload_n 0, 1) := dk_42 (dk_at dksX2_sums_0 12 rfl rfl)
theorem dX2_sums_13 : decode cX2_sums 13 = .ok (.aload_n 1, 1) := dk_43 (dk_at dksX2_sums_0 13 rfl rfl)
theorem dX2_sums_14 : decode cX2_sums 14 = .ok (.iload_n 3, 1) := dk_29 (dk_at dksX2_sums_0 14 rfl rfl)
theorem dX2_sums_15 : decode cX2_sums 15 = .ok (.aload_n 1, 1) := dk_43 (dk_at dksX2_sums_0 15 rfl rfl)
theorem dX2_sums_16 : decode cX2_sums 16 = .ok (.invokevirtual 46, 3) := dk_182 0 46 (dk_at dksX2_sums_0 16 rfl rfl)
theorem dX2_sums_19 : decode cX2_sums 19 = .ok (.invokevirtual 36, 3) := dk_182 0 36 (dk_at dksX2_sums_0 19 rfl rfl)
theorem dX2_sums_22 : decode cX2_sums 22 = .ok (.iload_n 2, 1) := dk_28 (dk_at dksX2_sums_0 22 rfl rfl)
theorem dX2_sums_23 : decode cX2_sums 23 = .ok (.aload_n 0, 1) := dk_42 (dk_at dksX2_sums_0 23 rfl rfl)
theorem dX2_sums_24 : decode cX2_sums 24 = .ok (.getfield 22, 3) := dk_180 0 22 (dk_at dksX2_sums_1 0 rfl rfl)
theorem dX2_sums_27 : decode cX2_sums 27 = .ok (.iadd, 1) := dk_96 (dk_at dksX2_sums_1 3 rfl rfl)
theorem dX2_sums_28 : decode cX2_sums 28 = .ok (.istore_n 2, 1) := dk_61 (dk_at dksX2_sums_1 4 rfl rfl)
theorem dX2_sums_29 : decode cX2_sums 29 = .ok (.iinc 3 1, 3) := dk_132 3 1 (dk_at dksX2_sums_1 5 rfl rfl)
theorem dX2_sums_32 : decode cX2_sums 32 = .ok (.goto (-28), 3) := dk_167 255 228 (dk_at dksX2_sums_1 8 rfl rfl)
theorem dX2_sums_35 : decode cX2_sums 35 = .ok (.iload_n 2, 1) := dk_28 (dk_at dksX2_sums_1 11 rfl rfl)
theorem dX2_sums_36 : decode cX2_sums 36 = .ok (.iconst 2, 1) := dk_5 (dk_at dksX2_sums_1 12 rfl rfl)
theorem dX2_sums_37 : decode cX2_sums 37 = .ok (.idiv, 1) := dk_108 (dk_at dksX2_sums_1 13 rfl rfl)
theorem dX2_sums_38 : decode cX2_sums 38 = .ok (.ireturn, 1) := dk_172 (dk_at dksX2_sums_1 14 rfl rfl)
abbrev cX2_girth : ByteArray := prog_2_method_8_code
def yX2_girth : MethodName := ⟨RX2, "girth", "(LWiredNets$Net;)I"⟩
def dkwX2_girth_4 : List UInt8 := [132, 4, 1, 167, 255, 168, 28, 172]
abbrev dktX2_girth_4 : List UInt8 := dkwX2_girth_4 ++ []
def dkwX2_girth_3 : List UInt8 := [21, 5, 2, 159, 0, 21, 28, 2, 159, 0, 11, 21, 5, 4, 96, 28, 162, 0, 8, 21, 5, 4, 96, 61]
abbrev dktX2_girth_3 : List UInt8 := dkwX2_girth_3 ++ dktX2_girth_4
def dkwX2_girth_2 : List UInt8 := [126, 182, 0, 70, 54, 5, 43, 45, 21, 4, 46, 8, 122, 45, 21, 4, 46, 16, 31, 126, 182, 0, 74]
abbrev dktX2_girth_2 : List UInt8 := dkwX2_girth_2 ++ dktX2_girth_3
def dkwX2_girth_1 : List UInt8 := [45, 21, 4, 46, 16, 31, 126, 182, 0, 66, 42, 43, 45, 21, 4, 46, 8, 122, 45, 21, 4, 46, 16, 31]
abbrev dktX2_girth_1 : List UInt8 := dkwX2_girth_1 ++ dktX2_girth_2
def dkwX2_girth_0 : List UInt8 := [2, 61, 43, 182, 0, 62, 78, 3, 54, 4, 21, 4, 45, 190, 162, 0, 87, 43, 45, 21, 4, 46, 8, 122]
abbrev dktX2_girth_0 : List UInt8 := dkwX2_girth_0 ++ dktX2_girth_1
theorem dksX2_girth_0 : cX2_girth.data.toList.drop 0 = dktX2_girth_0 := by decide +kernel
theorem dksX2_girth_1 : cX2_girth.data.toList.drop 24 = dktX2_girth_1 := dk_seg dksX2_girth_0 24 rfl rfl
theorem dksX2_girth_2 : cX2_girth.data.toList.drop 48 = dktX2_girth_2 := dk_seg dksX2_girth_1 24 rfl rfl
theorem dksX2_girth_3 : cX2_girth.data.toList.drop 71 = dktX2_girth_3 := dk_seg dksX2_girth_2 23 rfl rfl
theorem dksX2_girth_4 : cX2_girth.data.toList.drop 95 = dktX2_girth_4 := dk_seg dksX2_girth_3 24 rfl rfl
theorem dX2_girth_0 : decode cX2_girth 0 = .ok (.iconst (-1), 1) := dk_2 (dk_at dksX2_girth_0 0 rfl rfl)
theorem dX2_girth_1 : decode cX2_girth 1 = .ok (.istore_n 2, 1) := dk_61 (dk_at dksX2_girth_0 1 rfl rfl)
theorem dX2_girth_2 : decode cX2_girth 2 = .ok (.aload_n 1, 1) := dk_43 (dk_at dksX2_girth_0 2 rfl rfl)
theorem dX2_girth_3 : decode cX2_girth 3 = .ok (.invokevirtual 62, 3) := dk_182 0 62 (dk_at dksX2_girth_0 3 rfl rfl)
theorem dX2_girth_6 : decode cX2_girth 6 = .ok (.astore_n 3, 1) := dk_78 (dk_at dksX2_girth_0 6 rfl rfl)
theorem dX2_girth_7 : decode cX2_girth 7 = .ok (.iconst 0, 1) := dk_3 (dk_at dksX2_girth_0 7 rfl rfl)
theorem dX2_girth_8 : decode cX2_girth 8 = .ok (.istore 4, 2) := dk_54 4 (dk_at dksX2_girth_0 8 rfl rfl)
theorem dX2_girth_10 : decode cX2_girth 10 = .ok (.iload 4, 2) := dk_21 4 (dk_at dksX2_girth_0 10 rfl rfl)
theorem dX2_girth_12 : decode cX2_girth 12 = .ok (.aload_n 3, 1) := dk_45 (dk_at dksX2_girth_0 12 rfl rfl)
theorem dX2_girth_13 : decode cX2_girth 13 = .ok (.arraylength, 1) := dk_190 (dk_at dksX2_girth_0 13 rfl rfl)
theorem dX2_girth_14 : decode cX2_girth 14 = .ok (.if_icmp .ge 87, 3) := dk_162 0 87 (dk_at dksX2_girth_0 14 rfl rfl)
theorem dX2_girth_17 : decode cX2_girth 17 = .ok (.aload_n 1, 1) := dk_43 (dk_at dksX2_girth_0 17 rfl rfl)
theorem dX2_girth_18 : decode cX2_girth 18 = .ok (.aload_n 3, 1) := dk_45 (dk_at dksX2_girth_0 18 rfl rfl)
theorem dX2_girth_19 : decode cX2_girth 19 = .ok (.iload 4, 2) := dk_21 4 (dk_at dksX2_girth_0 19 rfl rfl)
theorem dX2_girth_21 : decode cX2_girth 21 = .ok (.iaload, 1) := dk_46 (dk_at dksX2_girth_0 21 rfl rfl)
theorem dX2_girth_22 : decode cX2_girth 22 = .ok (.iconst 5, 1) := dk_8 (dk_at dksX2_girth_0 22 rfl rfl)
theorem dX2_girth_23 : decode cX2_girth 23 = .ok (.ishr, 1) := dk_122 (dk_at dksX2_girth_0 23 rfl rfl)
theorem dX2_girth_24 : decode cX2_girth 24 = .ok (.aload_n 3, 1) := dk_45 (dk_at dksX2_girth_1 0 rfl rfl)
theorem dX2_girth_25 : decode cX2_girth 25 = .ok (.iload 4, 2) := dk_21 4 (dk_at dksX2_girth_1 1 rfl rfl)
theorem dX2_girth_27 : decode cX2_girth 27 = .ok (.iaload, 1) := dk_46 (dk_at dksX2_girth_1 3 rfl rfl)
theorem dX2_girth_28 : decode cX2_girth 28 = .ok (.bipush 31, 2) := dk_16 31 (dk_at dksX2_girth_1 4 rfl rfl)
theorem dX2_girth_30 : decode cX2_girth 30 = .ok (.iand, 1) := dk_126 (dk_at dksX2_girth_1 6 rfl rfl)
theorem dX2_girth_31 : decode cX2_girth 31 = .ok (.invokevirtual 66, 3) := dk_182 0 66 (dk_at dksX2_girth_1 7 rfl rfl)
theorem dX2_girth_34 : decode cX2_girth 34 = .ok (.aload_n 0, 1) := dk_42 (dk_at dksX2_girth_1 10 rfl rfl)
theorem dX2_girth_35 : decode cX2_girth 35 = .ok (.aload_n 1, 1) := dk_43 (dk_at dksX2_girth_1 11 rfl rfl)
theorem dX2_girth_36 : decode cX2_girth 36 = .ok (.aload_n 3, 1) := dk_45 (dk_at dksX2_girth_1 12 rfl rfl)
theorem dX2_girth_37 : decode cX2_girth 37 = .ok (.iload 4, 2) := dk_21 4 (dk_at dksX2_girth_1 13 rfl rfl)
theorem dX2_girth_39 : decode cX2_girth 39 = .ok (.iaload, 1) := dk_46 (dk_at dksX2_girth_1 15 rfl rfl)
theorem dX2_girth_40 : decode cX2_girth 40 = .ok (.iconst 5, 1) := dk_8 (dk_at dksX2_girth_1 16 rfl rfl)
theorem dX2_girth_41 : decode cX2_girth 41 = .ok (.ishr, 1) := dk_122 (dk_at dksX2_girth_1 17 rfl rfl)
theorem dX2_girth_42 : decode cX2_girth 42 = .ok (.aload_n 3, 1) := dk_45 (dk_at dksX2_girth_1 18 rfl rfl)
theorem dX2_girth_43 : decode cX2_girth 43 = .ok (.iload 4, 2) := dk_21 4 (dk_at dksX2_girth_1 19 rfl rfl)
theorem dX2_girth_45 : decode cX2_girth 45 = .ok (.iaload, 1) := dk_46 (dk_at dksX2_girth_1 21 rfl rfl)
theorem dX2_girth_46 : decode cX2_girth 46 = .ok (.bipush 31, 2) := dk_16 31 (dk_at dksX2_girth_1 22 rfl rfl)
theorem dX2_girth_48 : decode cX2_girth 48 = .ok (.iand, 1) := dk_126 (dk_at dksX2_girth_2 0 rfl rfl)
theorem dX2_girth_49 : decode cX2_girth 49 = .ok (.invokevirtual 70, 3) := dk_182 0 70 (dk_at dksX2_girth_2 1 rfl rfl)
theorem dX2_girth_52 : decode cX2_girth 52 = .ok (.istore 5, 2) := dk_54 5 (dk_at dksX2_girth_2 4 rfl rfl)
theorem dX2_girth_54 : decode cX2_girth 54 = .ok (.aload_n 1, 1) := dk_43 (dk_at dksX2_girth_2 6 rfl rfl)
theorem dX2_girth_55 : decode cX2_girth 55 = .ok (.aload_n 3, 1) := dk_45 (dk_at dksX2_girth_2 7 rfl rfl)
theorem dX2_girth_56 : decode cX2_girth 56 = .ok (.iload 4, 2) := dk_21 4 (dk_at dksX2_girth_2 8 rfl rfl)
theorem dX2_girth_58 : decode cX2_girth 58 = .ok (.iaload, 1) := dk_46 (dk_at dksX2_girth_2 10 rfl rfl)
theorem dX2_girth_59 : decode cX2_girth 59 = .ok (.iconst 5, 1) := dk_8 (dk_at dksX2_girth_2 11 rfl rfl)
theorem dX2_girth_60 : decode cX2_girth 60 = .ok (.ishr, 1) := dk_122 (dk_at dksX2_girth_2 12 rfl rfl)
theorem dX2_girth_61 : decode cX2_girth 61 = .ok (.aload_n 3, 1) := dk_45 (dk_at dksX2_girth_2 13 rfl rfl)
theorem dX2_girth_62 : decode cX2_girth 62 = .ok (.iload 4, 2) := dk_21 4 (dk_at dksX2_girth_2 14 rfl rfl)
theorem dX2_girth_64 : decode cX2_girth 64 = .ok (.iaload, 1) := dk_46 (dk_at dksX2_girth_2 16 rfl rfl)
theorem dX2_girth_65 : decode cX2_girth 65 = .ok (.bipush 31, 2) := dk_16 31 (dk_at dksX2_girth_2 17 rfl rfl)
theorem dX2_girth_67 : decode cX2_girth 67 = .ok (.iand, 1) := dk_126 (dk_at dksX2_girth_2 19 rfl rfl)
theorem dX2_girth_68 : decode cX2_girth 68 = .ok (.invokevirtual 74, 3) := dk_182 0 74 (dk_at dksX2_girth_2 20 rfl rfl)
theorem dX2_girth_71 : decode cX2_girth 71 = .ok (.iload 5, 2) := dk_21 5 (dk_at dksX2_girth_3 0 rfl rfl)
theorem dX2_girth_73 : decode cX2_girth 73 = .ok (.iconst (-1), 1) := dk_2 (dk_at dksX2_girth_3 2 rfl rfl)
theorem dX2_girth_74 : decode cX2_girth 74 = .ok (.if_icmp .eq 21, 3) := dk_159 0 21 (dk_at dksX2_girth_3 3 rfl rfl)
theorem dX2_girth_77 : decode cX2_girth 77 = .ok (.iload_n 2, 1) := dk_28 (dk_at dksX2_girth_3 6 rfl rfl)
theorem dX2_girth_78 : decode cX2_girth 78 = .ok (.iconst (-1), 1) := dk_2 (dk_at dksX2_girth_3 7 rfl rfl)
theorem dX2_girth_79 : decode cX2_girth 79 = .ok (.if_icmp .eq 11, 3) := dk_159 0 11 (dk_at dksX2_girth_3 8 rfl rfl)
theorem dX2_girth_82 : decode cX2_girth 82 = .ok (.iload 5, 2) := dk_21 5 (dk_at dksX2_girth_3 11 rfl rfl)
theorem dX2_girth_84 : decode cX2_girth 84 = .ok (.iconst 1, 1) := dk_4 (dk_at dksX2_girth_3 13 rfl rfl)
theorem dX2_girth_85 : decode cX2_girth 85 = .ok (.iadd, 1) := dk_96 (dk_at dksX2_girth_3 14 rfl rfl)
theorem dX2_girth_86 : decode cX2_girth 86 = .ok (.iload_n 2, 1) := dk_28 (dk_at dksX2_girth_3 15 rfl rfl)
theorem dX2_girth_87 : decode cX2_girth 87 = .ok (.if_icmp .ge 8, 3) := dk_162 0 8 (dk_at dksX2_girth_3 16 rfl rfl)
theorem dX2_girth_90 : decode cX2_girth 90 = .ok (.iload 5, 2) := dk_21 5 (dk_at dksX2_girth_3 19 rfl rfl)
theorem dX2_girth_92 : decode cX2_girth 92 = .ok (.iconst 1, 1) := dk_4 (dk_at dksX2_girth_3 21 rfl rfl)
theorem dX2_girth_93 : decode cX2_girth 93 = .ok (.iadd, 1) := dk_96 (dk_at dksX2_girth_3 22 rfl rfl)
theorem dX2_girth_94 : decode cX2_girth 94 = .ok (.istore_n 2, 1) := dk_61 (dk_at dksX2_girth_3 23 rfl rfl)
theorem dX2_girth_95 : decode cX2_girth 95 = .ok (.iinc 4 1, 3) := dk_132 4 1 (dk_at dksX2_girth_4 0 rfl rfl)
theorem dX2_girth_98 : decode cX2_girth 98 = .ok (.goto (-88), 3) := dk_167 255 168 (dk_at dksX2_girth_4 3 rfl rfl)
theorem dX2_girth_101 : decode cX2_girth 101 = .ok (.iload_n 2, 1) := dk_28 (dk_at dksX2_girth_4 6 rfl rfl)
theorem dX2_girth_102 : decode cX2_girth 102 = .ok (.ireturn, 1) := dk_172 (dk_at dksX2_girth_4 7 rfl rfl)
abbrev cX2_price : ByteArray := prog_2_method_6_code
def yX2_price : MethodName := ⟨RX2, "price", "(LWiredNets$Net;)I"⟩
def dkwX2_price_1 : List UInt8 := [28, 104, 42, 43, 182, 0, 58, 96, 172]
abbrev dktX2_price_1 : List UInt8 := dkwX2_price_1 ++ []
def dkwX2_price_0 : List UInt8 := [42, 43, 43, 182, 0, 46, 182, 0, 53, 61, 28, 16, 100, 160, 0, 8, 18, 57, 167, 0, 14, 17, 3, 232]
abbrev dktX2_price_0 : List UInt8 := dkwX2_price_0 ++ dktX2_price_1
theorem dksX2_price_0 : cX2_price.data.toList.drop 0 = dktX2_price_0 := by decide +kernel
theorem dksX2_price_1 : cX2_price.data.toList.drop 24 = dktX2_price_1 := dk_seg dksX2_price_0 24 rfl rfl
theorem dX2_price_0 : decode cX2_price 0 = .ok (.aload_n 0, 1) := dk_42 (dk_at dksX2_price_0 0 rfl rfl)
theorem dX2_price_1 : decode cX2_price 1 = .ok (.aload_n 1, 1) := dk_43 (dk_at dksX2_price_0 1 rfl rfl)
theorem dX2_price_2 : decode cX2_price 2 = .ok (.aload_n 1, 1) := dk_43 (dk_at dksX2_price_0 2 rfl rfl)
theorem dX2_price_3 : decode cX2_price 3 = .ok (.invokevirtual 46, 3) := dk_182 0 46 (dk_at dksX2_price_0 3 rfl rfl)
theorem dX2_price_6 : decode cX2_price 6 = .ok (.invokevirtual 53, 3) := dk_182 0 53 (dk_at dksX2_price_0 6 rfl rfl)
theorem dX2_price_9 : decode cX2_price 9 = .ok (.istore_n 2, 1) := dk_61 (dk_at dksX2_price_0 9 rfl rfl)
theorem dX2_price_10 : decode cX2_price 10 = .ok (.iload_n 2, 1) := dk_28 (dk_at dksX2_price_0 10 rfl rfl)
theorem dX2_price_11 : decode cX2_price 11 = .ok (.bipush 100, 2) := dk_16 100 (dk_at dksX2_price_0 11 rfl rfl)
theorem dX2_price_13 : decode cX2_price 13 = .ok (.if_icmp .ne 8, 3) := dk_160 0 8 (dk_at dksX2_price_0 13 rfl rfl)
theorem dX2_price_16 : decode cX2_price 16 = .ok (.ldc 57, 2) := dk_18 57 (dk_at dksX2_price_0 16 rfl rfl)
theorem dX2_price_18 : decode cX2_price 18 = .ok (.goto 14, 3) := dk_167 0 14 (dk_at dksX2_price_0 18 rfl rfl)
theorem dX2_price_21 : decode cX2_price 21 = .ok (.sipush 1000, 3) := dk_17 3 232 (dk_at dksX2_price_0 21 rfl rfl)
theorem dX2_price_24 : decode cX2_price 24 = .ok (.iload_n 2, 1) := dk_28 (dk_at dksX2_price_1 0 rfl rfl)
theorem dX2_price_25 : decode cX2_price 25 = .ok (.imul, 1) := dk_104 (dk_at dksX2_price_1 1 rfl rfl)
theorem dX2_price_26 : decode cX2_price 26 = .ok (.aload_n 0, 1) := dk_42 (dk_at dksX2_price_1 2 rfl rfl)
theorem dX2_price_27 : decode cX2_price 27 = .ok (.aload_n 1, 1) := dk_43 (dk_at dksX2_price_1 3 rfl rfl)
theorem dX2_price_28 : decode cX2_price 28 = .ok (.invokevirtual 58, 3) := dk_182 0 58 (dk_at dksX2_price_1 4 rfl rfl)
theorem dX2_price_31 : decode cX2_price 31 = .ok (.iadd, 1) := dk_96 (dk_at dksX2_price_1 7 rfl rfl)
theorem dX2_price_32 : decode cX2_price 32 = .ok (.ireturn, 1) := dk_172 (dk_at dksX2_price_1 8 rfl rfl)
theorem q110 : (Jvm.Cond.initialized "WiredNets$Flood") ∈ lw_all := lw_g (lw_at lw_m1 2 rfl) rfl
theorem q154 : (Jvm.Cond.instantiable "WiredNets$Flood" (4 : Nat)) ∈ lw_all := lw_g (lw_at lw_m1 46 rfl) rfl
theorem q156 : (Jvm.Cond.instanceMethod ({ cls := "WiredNets$Flood", name := "<init>", desc := "()V" } : Jvm.MethodName)) ∈ lw_all := lw_g (lw_at lw_m1 48 rfl) rfl
theorem q157 : (Jvm.Cond.code ({ cls := "WiredNets$Flood", name := "<init>", desc := "()V" } : Jvm.MethodName) prog_2_method_1_code (1 : Nat) (Option.none : Option Jvm.ClassFile.FieldType)) ∈ lw_all := lw_g (lw_at lw_m1 49 rfl) rfl
theorem q158 : (Jvm.Cond.methodLink "WiredNets$Flood" (3 : Nat) ({ cls := "java/lang/Object", name := "<init>", desc := "()V" } : Jvm.MethodName)) ∈ lw_all := lw_g (lw_at lw_m1 50 rfl) rfl
theorem q159 : (Jvm.Cond.fieldLink "WiredNets$Flood" (9 : Nat) "WiredNets$Flood" "far" "[I") ∈ lw_all := lw_g (lw_at lw_m1 51 rfl) rfl
theorem q161 : (Jvm.Cond.fieldLink "WiredNets$Flood" (15 : Nat) "WiredNets$Flood" "seen" "I") ∈ lw_all := lw_g (lw_at lw_m1 53 rfl) rfl
theorem q162 : (Jvm.Cond.fieldLink "WiredNets$Flood" (19 : Nat) "WiredNets$Flood" "greatest" "I") ∈ lw_all := lw_g (lw_at lw_m1 54 rfl) rfl
theorem q163 : (Jvm.Cond.fieldLink "WiredNets$Flood" (22 : Nat) "WiredNets$Flood" "sum" "I") ∈ lw_all := lw_g (lw_at lw_m1 55 rfl) rfl
theorem q164 : (Jvm.Cond.laysFinal "WiredNets$Flood" "WiredNets$Flood" "far" "[I") ∈ lw_all := lw_g (lw_at lw_m1 56 rfl) rfl
theorem q165 : (Jvm.Cond.soleField "WiredNets$Flood" "far") ∈ lw_all := lw_g (lw_at lw_m1 57 rfl) rfl
theorem q166 : (Jvm.Cond.lays "WiredNets$Flood" "WiredNets$Flood" "seen" "I") ∈ lw_all := lw_g (lw_at lw_m1 58 rfl) rfl
theorem q167 : (Jvm.Cond.soleField "WiredNets$Flood" "seen") ∈ lw_all := lw_g (lw_at lw_m1 59 rfl) rfl
theorem q168 : (Jvm.Cond.lays "WiredNets$Flood" "WiredNets$Flood" "greatest" "I") ∈ lw_all := lw_g (lw_at lw_m1 60 rfl) rfl
theorem q169 : (Jvm.Cond.soleField "WiredNets$Flood" "greatest") ∈ lw_all := lw_g (lw_at lw_m1 61 rfl) rfl
theorem q170 : (Jvm.Cond.lays "WiredNets$Flood" "WiredNets$Flood" "sum" "I") ∈ lw_all := lw_g (lw_at lw_m1 62 rfl) rfl
theorem q171 : (Jvm.Cond.soleField "WiredNets$Flood" "sum") ∈ lw_all := lw_g (lw_at lw_m1 63 rfl) rfl
theorem q172 : (Jvm.Cond.superclass "WiredNets$Flood" "java/lang/Object") ∈ lw_all := lw_g (lw_at lw_m1 64 rfl) rfl
theorem q244 : (Jvm.Cond.fieldLinkNest "WiredNets$Flood" (50 : Nat) "WiredNets$Net" "n" "I" "WiredNets") ∈ lw_tbl := lw_at lw_m1 136 rfl
theorem q252 : (Jvm.Cond.fieldLinkNest "WiredNets$Flood" (25 : Nat) "WiredNets$Net" "near" "[I" "WiredNets") ∈ lw_tbl := lw_at lw_m1 144 rfl
theorem q796 : (Jvm.Cond.instanceMethod ({ cls := "WiredNets$Flood", name := "distance", desc := "(LWiredNets$Net;II)I" } : Jvm.MethodName)) ∈ lw_all := lw_g (lw_at lw_m3 208 rfl) rfl
theorem q797 : (Jvm.Cond.selects "WiredNets$Flood" ({ cls := "WiredNets$Flood", name := "distance", desc := "(LWiredNets$Net;II)I" } : Jvm.MethodName) ({ cls := "WiredNets$Flood", name := "distance", desc := "(LWiredNets$Net;II)I" } : Jvm.MethodName)) ∈ lw_all := lw_g (lw_at lw_m3 209 rfl) rfl
theorem q798 : (Jvm.Cond.code ({ cls := "WiredNets$Flood", name := "distance", desc := "(LWiredNets$Net;II)I" } : Jvm.MethodName) prog_2_method_7_code (4 : Nat) (Option.some Jvm.ClassFile.FieldType.int)) ∈ lw_all := lw_g (lw_at lw_m3 210 rfl) rfl
theorem q799 : (Jvm.Cond.methodLink "WiredNets$Flood" (46 : Nat) ({ cls := "WiredNets$Net", name := "all", desc := "()I" } : Jvm.MethodName)) ∈ lw_all := lw_g (lw_at lw_m3 211 rfl) rfl
theorem q803 : (Jvm.Cond.methodLink "WiredNets$Flood" (36 : Nat) ({ cls := "WiredNets$Flood", name := "run", desc := "(LWiredNets$Net;II)V" } : Jvm.MethodName)) ∈ lw_all := lw_g (lw_at lw_m3 215 rfl) rfl
theorem q804 : (Jvm.Cond.instanceMethod ({ cls := "WiredNets$Flood", name := "run", desc := "(LWiredNets$Net;II)V" } : Jvm.MethodName)) ∈ lw_all := lw_g (lw_at lw_m3 216 rfl) rfl
theorem q805 : (Jvm.Cond.selects "WiredNets$Flood" ({ cls := "WiredNets$Flood", name := "run", desc := "(LWiredNets$Net;II)V" } : Jvm.MethodName) ({ cls := "WiredNets$Flood", name := "run", desc := "(LWiredNets$Net;II)V" } : Jvm.MethodName)) ∈ lw_all := lw_g (lw_at lw_m3 217 rfl) rfl
theorem q806 : (Jvm.Cond.code ({ cls := "WiredNets$Flood", name := "run", desc := "(LWiredNets$Net;II)V" } : Jvm.MethodName) prog_2_method_2_code (8 : Nat) (Option.none : Option Jvm.ClassFile.FieldType)) ∈ lw_all := lw_g (lw_at lw_m3 218 rfl) rfl
theorem q807 : (Jvm.Cond.methodLink "WiredNets$Flood" (30 : Nat) ({ cls := "java/lang/Integer", name := "numberOfTrailingZeros", desc := "(I)I" } : Jvm.MethodName)) ∈ lw_all := lw_g (lw_at lw_m3 219 rfl) rfl
theorem q819 : (Jvm.Cond.instanceMethod ({ cls := "WiredNets$Flood", name := "isJoined", desc := "(LWiredNets$Net;)Z" } : Jvm.MethodName)) ∈ lw_all := lw_g (lw_at lw_m3 231 rfl) rfl
theorem q820 : (Jvm.Cond.selects "WiredNets$Flood" ({ cls := "WiredNets$Flood", name := "isJoined", desc := "(LWiredNets$Net;)Z" } : Jvm.MethodName) ({ cls := "WiredNets$Flood", name := "isJoined", desc := "(LWiredNets$Net;)Z" } : Jvm.MethodName)) ∈ lw_all := lw_g (lw_at lw_m3 232 rfl) rfl
theorem q821 : (Jvm.Cond.code ({ cls := "WiredNets$Flood", name := "isJoined", desc := "(LWiredNets$Net;)Z" } : Jvm.MethodName) prog_2_method_4_code (2 : Nat) (Option.some Jvm.ClassFile.FieldType.boolean)) ∈ lw_all := lw_g (lw_at lw_m3 233 rfl) rfl
theorem q824 : (Jvm.Cond.instanceMethod ({ cls := "WiredNets$Flood", name := "farthest", desc := "(LWiredNets$Net;I)I" } : Jvm.MethodName)) ∈ lw_all := lw_g (lw_at lw_m3 236 rfl) rfl
theorem q825 : (Jvm.Cond.selects "WiredNets$Flood" ({ cls := "WiredNets$Flood", name := "farthest", desc := "(LWiredNets$Net;I)I" } : Jvm.MethodName) ({ cls := "WiredNets$Flood", name := "farthest", desc := "(LWiredNets$Net;I)I" } : Jvm.MethodName)) ∈ lw_all := lw_g (lw_at lw_m3 237 rfl) rfl
theorem q826 : (Jvm.Cond.code ({ cls := "WiredNets$Flood", name := "farthest", desc := "(LWiredNets$Net;I)I" } : Jvm.MethodName) prog_2_method_3_code (5 : Nat) (Option.some Jvm.ClassFile.FieldType.int)) ∈ lw_all := lw_g (lw_at lw_m3 238 rfl) rfl
theorem q827 : (Jvm.Cond.methodLink "WiredNets$Flood" (40 : Nat) ({ cls := "java/lang/Math", name := "max", desc := "(II)I" } : Jvm.MethodName)) ∈ lw_all := lw_g (lw_at lw_m3 239 rfl) rfl
theorem q829 : (Jvm.Cond.instanceMethod ({ cls := "WiredNets$Flood", name := "sums", desc := "(LWiredNets$Net;)I" } : Jvm.MethodName)) ∈ lw_all := lw_g (lw_at lw_m4 1 rfl) rfl
theorem q830 : (Jvm.Cond.selects "WiredNets$Flood" ({ cls := "WiredNets$Flood", name := "sums", desc := "(LWiredNets$Net;)I" } : Jvm.MethodName) ({ cls := "WiredNets$Flood", name := "sums", desc := "(LWiredNets$Net;)I" } : Jvm.MethodName)) ∈ lw_all := lw_g (lw_at lw_m4 2 rfl) rfl
theorem q831 : (Jvm.Cond.code ({ cls := "WiredNets$Flood", name := "sums", desc := "(LWiredNets$Net;)I" } : Jvm.MethodName) prog_2_method_5_code (4 : Nat) (Option.some Jvm.ClassFile.FieldType.int)) ∈ lw_all := lw_g (lw_at lw_m4 3 rfl) rfl
theorem q833 : (Jvm.Cond.instanceMethod ({ cls := "WiredNets$Flood", name := "girth", desc := "(LWiredNets$Net;)I" } : Jvm.MethodName)) ∈ lw_all := lw_g (lw_at lw_m4 5 rfl) rfl
theorem q834 : (Jvm.Cond.selects "WiredNets$Flood" ({ cls := "WiredNets$Flood", name := "girth", desc := "(LWiredNets$Net;)I" } : Jvm.MethodName) ({ cls := "WiredNets$Flood", name := "girth", desc := "(LWiredNets$Net;)I" } : Jvm.MethodName)) ∈ lw_all := lw_g (lw_at lw_m4 6 rfl) rfl
theorem q835 : (Jvm.Cond.code ({ cls := "WiredNets$Flood", name := "girth", desc := "(LWiredNets$Net;)I" } : Jvm.MethodName) prog_2_method_8_code (6 : Nat) (Option.some Jvm.ClassFile.FieldType.int)) ∈ lw_all := lw_g (lw_at lw_m4 7 rfl) rfl
theorem q836 : (Jvm.Cond.methodLink "WiredNets$Flood" (62 : Nat) ({ cls := "WiredNets$Net", name := "row", desc := "()[I" } : Jvm.MethodName)) ∈ lw_all := lw_g (lw_at lw_m4 8 rfl) rfl
theorem q837 : (Jvm.Cond.methodLink "WiredNets$Flood" (66 : Nat) ({ cls := "WiredNets$Net", name := "clear", desc := "(II)V" } : Jvm.MethodName)) ∈ lw_all := lw_g (lw_at lw_m4 9 rfl) rfl
theorem q838 : (Jvm.Cond.methodLink "WiredNets$Flood" (70 : Nat) ({ cls := "WiredNets$Flood", name := "distance", desc := "(LWiredNets$Net;II)I" } : Jvm.MethodName)) ∈ lw_all := lw_g (lw_at lw_m4 10 rfl) rfl
theorem q839 : (Jvm.Cond.methodLink "WiredNets$Flood" (74 : Nat) ({ cls := "WiredNets$Net", name := "set", desc := "(II)V" } : Jvm.MethodName)) ∈ lw_all := lw_g (lw_at lw_m4 11 rfl) rfl
theorem q863 : (Jvm.Cond.instanceMethod ({ cls := "WiredNets$Flood", name := "price", desc := "(LWiredNets$Net;)I" } : Jvm.MethodName)) ∈ lw_all := lw_g (lw_at lw_m4 35 rfl) rfl
theorem q864 : (Jvm.Cond.selects "WiredNets$Flood" ({ cls := "WiredNets$Flood", name := "price", desc := "(LWiredNets$Net;)I" } : Jvm.MethodName) ({ cls := "WiredNets$Flood", name := "price", desc := "(LWiredNets$Net;)I" } : Jvm.MethodName)) ∈ lw_all := lw_g (lw_at lw_m4 36 rfl) rfl
theorem q865 : (Jvm.Cond.code ({ cls := "WiredNets$Flood", name := "price", desc := "(LWiredNets$Net;)I" } : Jvm.MethodName) prog_2_method_6_code (3 : Nat) (Option.some Jvm.ClassFile.FieldType.int)) ∈ lw_all := lw_g (lw_at lw_m4 37 rfl) rfl
theorem q866 : (Jvm.Cond.methodLink "WiredNets$Flood" (53 : Nat) ({ cls := "WiredNets$Flood", name := "farthest", desc := "(LWiredNets$Net;I)I" } : Jvm.MethodName)) ∈ lw_all := lw_g (lw_at lw_m4 38 rfl) rfl
theorem q867 : (Jvm.Cond.constant "WiredNets$Flood" (57 : Nat) (1000000 : Int32)) ∈ lw_all := lw_g (lw_at lw_m4 39 rfl) rfl
theorem q868 : (Jvm.Cond.methodLink "WiredNets$Flood" (58 : Nat) ({ cls := "WiredNets$Flood", name := "sums", desc := "(LWiredNets$Net;)I" } : Jvm.MethodName)) ∈ lw_all := lw_g (lw_at lw_m4 40 rfl) rfl
theorem q1144 : (Jvm.Cond.selects "WiredNets$Flood" ({ cls := "java/lang/Object", name := "getClass", desc := "()Ljava/lang/Class;" } : Jvm.MethodName) ({ cls := "java/lang/Object", name := "getClass", desc := "()Ljava/lang/Class;" } : Jvm.MethodName)) ∈ lw_all := lw_g (lw_at lw_m5 76 rfl) rfl
theorem q2171 : (Jvm.Cond.castable "WiredNets$Flood" "java/lang/Object") ∈ lw_tbl := lw_at lw_m9 143 rfl
theorem in_X2 : ∀ w ∈ wsX20, w ∈ lw_all := lw_in wsX20 [164, 166, 168, 170] (by decide +kernel) (by decide +kernel)

/-! WiredNets$Flow -/
set_option maxRecDepth 100000
def RX3 : String := "WiredNets$Flow"
def TX3 : u_T := fun k => match k with
  | 0 => ("WiredNets$Flow", "room", "[[I", true)
  | 1 => ("WiredNets$Flow", "from", "[I", true)
  | 2 => ("WiredNets$Flow", "line", "[I", true)
  | _ => ("WiredNets$Flow", "places", "I", false)
def tyX3 : Nat → FieldType := fun k => match k with
  | 0 => .array (.array .int)
  | 1 => .array .int
  | 2 => .array .int
  | _ => .int
abbrev wsX30 : List Cond := u_ws RX3 TX3 4
theorem nmX3 : ∀ a, a < 4 → ∀ b, b < 4 → a ≠ b → (TX3 a).2.1 ≠ (TX3 b).2.1 := by decide +kernel
theorem tyX3_ok : ∀ k, k < 4 → parseFieldDescriptor (TX3 k).2.2.1 = some (tyX3 k) := by decide +kernel
abbrev cX3_init : ByteArray := prog_4_method_1_code
def yX3_init : MethodName := ⟨RX3, "<init>", "()V"⟩
def dkwX3_init_1 : List UInt8 := [42, 16, 48, 188, 10, 181, 0, 20, 177]
abbrev dktX3_init_1 : List UInt8 := dkwX3_init_1 ++ []
def dkwX3_init_0 : List UInt8 := [42, 183, 0, 3, 42, 16, 48, 16, 48, 197, 0, 9, 2, 181, 0, 11, 42, 16, 48, 188, 10, 181, 0, 16]
abbrev dktX3_init_0 : List UInt8 := dkwX3_init_0 ++ dktX3_init_1
theorem dksX3_init_0 : cX3_init.data.toList.drop 0 = dktX3_init_0 := by decide +kernel
theorem dksX3_init_1 : cX3_init.data.toList.drop 24 = dktX3_init_1 := dk_seg dksX3_init_0 24 rfl rfl
theorem dX3_init_0 : decode cX3_init 0 = .ok (.aload_n 0, 1) := dk_42 (dk_at dksX3_init_0 0 rfl rfl)
theorem dX3_init_1 : decode cX3_init 1 = .ok (.invokespecial 3, 3) := dk_183 0 3 (dk_at dksX3_init_0 1 rfl rfl)
theorem dX3_init_4 : decode cX3_init 4 = .ok (.aload_n 0, 1) := dk_42 (dk_at dksX3_init_0 4 rfl rfl)
theorem dX3_init_5 : decode cX3_init 5 = .ok (.bipush 48, 2) := dk_16 48 (dk_at dksX3_init_0 5 rfl rfl)
theorem dX3_init_7 : decode cX3_init 7 = .ok (.bipush 48, 2) := dk_16 48 (dk_at dksX3_init_0 7 rfl rfl)
theorem dX3_init_9 : decode cX3_init 9 = .ok (.multianewarray 9 2, 4) := by decide +kernel
theorem dX3_init_13 : decode cX3_init 13 = .ok (.putfield 11, 3) := dk_181 0 11 (dk_at dksX3_init_0 13 rfl rfl)
theorem dX3_init_16 : decode cX3_init 16 = .ok (.aload_n 0, 1) := dk_42 (dk_at dksX3_init_0 16 rfl rfl)
theorem dX3_init_17 : decode cX3_init 17 = .ok (.bipush 48, 2) := dk_16 48 (dk_at dksX3_init_0 17 rfl rfl)
theorem dX3_init_19 : decode cX3_init 19 = .ok (.newarray .int, 2) := dk_188_10 (dk_at dksX3_init_0 19 rfl rfl)
theorem dX3_init_21 : decode cX3_init 21 = .ok (.putfield 16, 3) := dk_181 0 16 (dk_at dksX3_init_0 21 rfl rfl)
theorem dX3_init_24 : decode cX3_init 24 = .ok (.aload_n 0, 1) := dk_42 (dk_at dksX3_init_1 0 rfl rfl)
theorem dX3_init_25 : decode cX3_init 25 = .ok (.bipush 48, 2) := dk_16 48 (dk_at dksX3_init_1 1 rfl rfl)
theorem dX3_init_27 : decode cX3_init 27 = .ok (.newarray .int, 2) := dk_188_10 (dk_at dksX3_init_1 3 rfl rfl)
theorem dX3_init_29 : decode cX3_init 29 = .ok (.putfield 20, 3) := dk_181 0 20 (dk_at dksX3_init_1 5 rfl rfl)
theorem dX3_init_32 : decode cX3_init 32 = .ok (.return_, 1) := dk_177 (dk_at dksX3_init_1 8 rfl rfl)
abbrev cX3_thin : ByteArray := prog_4_method_5_code
def yX3_thin : MethodName := ⟨RX3, "thin", "(LWiredNets$Net;)I"⟩
def dkwX3_thin_1 : List UInt8 := [184, 0, 47, 61, 132, 3, 1, 167, 255, 232, 43, 180, 0, 23, 4, 160, 0, 7, 2, 167, 0, 4, 28, 172]
abbrev dktX3_thin_1 : List UInt8 := dkwX3_thin_1 ++ []
def dkwX3_thin_0 : List UInt8 := [16, 24, 61, 4, 62, 29, 43, 180, 0, 23, 162, 0, 22, 28, 42, 43, 3, 29, 3, 182, 0, 43]
abbrev dktX3_thin_0 : List UInt8 := dkwX3_thin_0 ++ dktX3_thin_1
theorem dksX3_thin_0 : cX3_thin.data.toList.drop 0 = dktX3_thin_0 := by decide +kernel
theorem dksX3_thin_1 : cX3_thin.data.toList.drop 22 = dktX3_thin_1 := dk_seg dksX3_thin_0 22 rfl rfl
theorem dX3_thin_0 : decode cX3_thin 0 = .ok (.bipush 24, 2) := dk_16 24 (dk_at dksX3_thin_0 0 rfl rfl)
theorem dX3_thin_2 : decode cX3_thin 2 = .ok (.istore_n 2, 1) := dk_61 (dk_at dksX3_thin_0 2 rfl rfl)
theorem dX3_thin_3 : decode cX3_thin 3 = .ok (.iconst 1, 1) := dk_4 (dk_at dksX3_thin_0 3 rfl rfl)
theorem dX3_thin_4 : decode cX3_thin 4 = .ok (.istore_n 3, 1) := dk_62 (dk_at dksX3_thin_0 4 rfl rfl)
theorem dX3_thin_5 : decode cX3_thin 5 = .ok (.iload_n 3, 1) := dk_29 (dk_at dksX3_thin_0 5 rfl rfl)
theorem dX3_thin_6 : decode cX3_thin 6 = .ok (.aload_n 1, 1) := dk_43 (dk_at dksX3_thin_0 6 rfl rfl)
theorem dX3_thin_7 : decode cX3_thin 7 = .ok (.getfield 23, 3) := dk_180 0 23 (dk_at dksX3_thin_0 7 rfl rfl)
theorem dX3_thin_10 : decode cX3_thin 10 = .ok (.if_icmp .ge 22, 3) := dk_162 0 22 (dk_at dksX3_thin_0 10 rfl rfl)
theorem dX3_thin_13 : decode cX3_thin 13 = .ok (.iload_n 2, 1) := dk_28 (dk_at dksX3_thin_0 13 rfl rfl)
theorem dX3_thin_14 : decode cX3_thin 14 = .ok (.aload_n 0, 1) := dk_42 (dk_at dksX3_thin_0 14 rfl rfl)
theorem dX3_thin_15 : decode cX3_thin 15 = .ok (.aload_n 1, 1) := dk_43 (dk_at dksX3_thin_0 15 rfl rfl)
theorem dX3_thin_16 : decode cX3_thin 16 = .ok (.iconst 0, 1) := dk_3 (dk_at dksX3_thin_0 16 rfl rfl)
theorem dX3_thin_17 : decode cX3_thin 17 = .ok (.iload_n 3, 1) := dk_29 (dk_at dksX3_thin_0 17 rfl rfl)
theorem dX3_thin_18 : decode cX3_thin 18 = .ok (.iconst 0, 1) := dk_3 (dk_at dksX3_thin_0 18 rfl rfl)
theorem dX3_thin_19 : decode cX3_thin 19 = .ok (.invokevirtual 43, 3) := dk_182 0 43 (dk_at dksX3_thin_0 19 rfl rfl)
theorem dX3_thin_22 : decode cX3_thin 22 = .ok (.invokestatic 47, 3) := dk_184 0 47 (dk_at dksX3_thin_1 0 rfl rfl)
theorem dX3_thin_25 : decode cX3_thin 25 = .ok (.istore_n 2, 1) := dk_61 (dk_at dksX3_thin_1 3 rfl rfl)
theorem dX3_thin_26 : decode cX3_thin 26 = .ok (.iinc 3 1, 3) := dk_132 3 1 (dk_at dksX3_thin_1 4 rfl rfl)
theorem dX3_thin_29 : decode cX3_thin 29 = .ok (.goto (-24), 3) := dk_167 255 232 (dk_at dksX3_thin_1 7 rfl rfl)
theorem dX3_thin_32 : decode cX3_thin 32 = .ok (.aload_n 1, 1) := dk_43 (dk_at dksX3_thin_1 10 rfl rfl)
theorem dX3_thin_33 : decode cX3_thin 33 = .ok (.getfield 23, 3) := dk_180 0 23 (dk_at dksX3_thin_1 11 rfl rfl)
theorem dX3_thin_36 : decode cX3_thin 36 = .ok (.iconst 1, 1) := dk_4 (dk_at dksX3_thin_1 14 rfl rfl)
theorem dX3_thin_37 : decode cX3_thin 37 = .ok (.if_icmp .ne 7, 3) := dk_160 0 7 (dk_at dksX3_thin_1 15 rfl rfl)
theorem dX3_thin_40 : decode cX3_thin 40 = .ok (.iconst (-1), 1) := dk_2 (dk_at dksX3_thin_1 18 rfl rfl)
theorem dX3_thin_41 : decode cX3_thin 41 = .ok (.goto 4, 3) := dk_167 0 4 (dk_at dksX3_thin_1 19 rfl rfl)
theorem dX3_thin_44 : decode cX3_thin 44 = .ok (.iload_n 2, 1) := dk_28 (dk_at dksX3_thin_1 22 rfl rfl)
theorem dX3_thin_45 : decode cX3_thin 45 = .ok (.ireturn, 1) := dk_172 (dk_at dksX3_thin_1 23 rfl rfl)
abbrev cX3_most : ByteArray := prog_4_method_4_code
def yX3_most : MethodName := ⟨RX3, "most", "(LWiredNets$Net;IIZ)I"⟩
def dkwX3_most_4 : List UInt8 := [132, 5, 1, 167, 255, 173, 21, 5, 172]
abbrev dktX3_most_4 : List UInt8 := dkwX3_most_4 ++ []
def dkwX3_most_3 : List UInt8 := [180, 0, 16, 21, 6, 46, 92, 46, 4, 96, 79, 42, 180, 0, 16, 21, 6, 46, 54, 6, 167, 255, 199]
abbrev dktX3_most_3 : List UInt8 := dkwX3_most_3 ++ dktX3_most_4
def dkwX3_most_2 : List UInt8 := [180, 0, 16, 21, 6, 46, 50, 21, 6, 92, 46, 4, 100, 79, 42, 180, 0, 11, 21, 6, 50, 42]
abbrev dktX3_most_2 : List UInt8 := dkwX3_most_2 ++ dktX3_most_3
def dkwX3_most_1 : List UInt8 := [153, 0, 74, 5, 29, 104, 54, 6, 21, 6, 5, 28, 104, 4, 96, 159, 0, 53, 42, 180, 0, 11, 42]
abbrev dktX3_most_1 : List UInt8 := dkwX3_most_1 ++ dktX3_most_2
def dkwX3_most_0 : List UInt8 := [42, 43, 21, 4, 182, 0, 36, 3, 54, 5, 42, 5, 28, 104, 4, 96, 5, 29, 104, 182, 0, 40]
abbrev dktX3_most_0 : List UInt8 := dkwX3_most_0 ++ dktX3_most_1
theorem dksX3_most_0 : cX3_most.data.toList.drop 0 = dktX3_most_0 := by decide +kernel
theorem dksX3_most_1 : cX3_most.data.toList.drop 22 = dktX3_most_1 := dk_seg dksX3_most_0 22 rfl rfl
theorem dksX3_most_2 : cX3_most.data.toList.drop 45 = dktX3_most_2 := dk_seg dksX3_most_1 23 rfl rfl
theorem dksX3_most_3 : cX3_most.data.toList.drop 67 = dktX3_most_3 := dk_seg dksX3_most_2 22 rfl rfl
theorem dksX3_most_4 : cX3_most.data.toList.drop 90 = dktX3_most_4 := dk_seg dksX3_most_3 23 rfl rfl
theorem dX3_most_0 : decode cX3_most 0 = .ok (.aload_n 0, 1) := dk_42 (dk_at dksX3_most_0 0 rfl rfl)
theorem dX3_most_1 : decode cX3_most 1 = .ok (.aload_n 1, 1) := dk_43 (dk_at dksX3_most_0 1 rfl rfl)
theorem dX3_most_2 : decode cX3_most 2 = .ok (.iload 4, 2) := dk_21 4 (dk_at dksX3_most_0 2 rfl rfl)
theorem dX3_most_4 : decode cX3_most 4 = .ok (.invokevirtual 36, 3) := dk_182 0 36 (dk_at dksX3_most_0 4 rfl rfl)
theorem dX3_most_7 : decode cX3_most 7 = .ok (.iconst 0, 1) := dk_3 (dk_at dksX3_most_0 7 rfl rfl)
theorem dX3_most_8 : decode cX3_most 8 = .ok (.istore 5, 2) := dk_54 5 (dk_at dksX3_most_0 8 rfl rfl)
theorem dX3_most_10 : decode cX3_most 10 = .ok (.aload_n 0, 1) := dk_42 (dk_at dksX3_most_0 10 rfl rfl)
theorem dX3_most_11 : decode cX3_most 11 = .ok (.iconst 2, 1) := dk_5 (dk_at dksX3_most_0 11 rfl rfl)
theorem dX3_most_12 : decode cX3_most 12 = .ok (.iload_n 2, 1) := dk_28 (dk_at dksX3_most_0 12 rfl rfl)
theorem dX3_most_13 : decode cX3_most 13 = .ok (.imul, 1) := dk_104 (dk_at dksX3_most_0 13 rfl rfl)
theorem dX3_most_14 : decode cX3_most 14 = .ok (.iconst 1, 1) := dk_4 (dk_at dksX3_most_0 14 rfl rfl)
theorem dX3_most_15 : decode cX3_most 15 = .ok (.iadd, 1) := dk_96 (dk_at dksX3_most_0 15 rfl rfl)
theorem dX3_most_16 : decode cX3_most 16 = .ok (.iconst 2, 1) := dk_5 (dk_at dksX3_most_0 16 rfl rfl)
theorem dX3_most_17 : decode cX3_most 17 = .ok (.iload_n 3, 1) := dk_29 (dk_at dksX3_most_0 17 rfl rfl)
theorem dX3_most_18 : decode cX3_most 18 = .ok (.imul, 1) := dk_104 (dk_at dksX3_most_0 18 rfl rfl)
theorem dX3_most_19 : decode cX3_most 19 = .ok (.invokevirtual 40, 3) := dk_182 0 40 (dk_at dksX3_most_0 19 rfl rfl)
theorem dX3_most_22 : decode cX3_most 22 = .ok (.ifCond .eq 74, 3) := dk_153 0 74 (dk_at dksX3_most_1 0 rfl rfl)
theorem dX3_most_25 : decode cX3_most 25 = .ok (.iconst 2, 1) := dk_5 (dk_at dksX3_most_1 3 rfl rfl)
theorem dX3_most_26 : decode cX3_most 26 = .ok (.iload_n 3, 1) := dk_29 (dk_at dksX3_most_1 4 rfl rfl)
theorem dX3_most_27 : decode cX3_most 27 = .ok (.imul, 1) := dk_104 (dk_at dksX3_most_1 5 rfl rfl)
theorem dX3_most_28 : decode cX3_most 28 = .ok (.istore 6, 2) := dk_54 6 (dk_at dksX3_most_1 6 rfl rfl)
theorem dX3_most_30 : decode cX3_most 30 = .ok (.iload 6, 2) := dk_21 6 (dk_at dksX3_most_1 8 rfl rfl)
theorem dX3_most_32 : decode cX3_most 32 = .ok (.iconst 2, 1) := dk_5 (dk_at dksX3_most_1 10 rfl rfl)
theorem dX3_most_33 : decode cX3_most 33 = .ok (.iload_n 2, 1) := dk_28 (dk_at dksX3_most_1 11 rfl rfl)
theorem dX3_most_34 : decode cX3_most 34 = .ok (.imul, 1) := dk_104 (dk_at dksX3_most_1 12 rfl rfl)
theorem dX3_most_35 : decode cX3_most 35 = .ok (.iconst 1, 1) := dk_4 (dk_at dksX3_most_1 13 rfl rfl)
theorem dX3_most_36 : decode cX3_most 36 = .ok (.iadd, 1) := dk_96 (dk_at dksX3_most_1 14 rfl rfl)
theorem dX3_most_37 : decode cX3_most 37 = .ok (.if_icmp .eq 53, 3) := dk_159 0 53 (dk_at dksX3_most_1 15 rfl rfl)
theorem dX3_most_40 : decode cX3_most 40 = .ok (.aload_n 0, 1) := dk_42 (dk_at dksX3_most_1 18 rfl rfl)
theorem dX3_most_41 : decode cX3_most 41 = .ok (.getfield 11, 3) := dk_180 0 11 (dk_at dksX3_most_1 19 rfl rfl)
theorem dX3_most_44 : decode cX3_most 44 = .ok (.aload_n 0, 1) := dk_42 (dk_at dksX3_most_1 22 rfl rfl)
theorem dX3_most_45 : decode cX3_most 45 = .ok (.getfield 16, 3) := dk_180 0 16 (dk_at dksX3_most_2 0 rfl rfl)
theorem dX3_most_48 : decode cX3_most 48 = .ok (.iload 6, 2) := dk_21 6 (dk_at dksX3_most_2 3 rfl rfl)
theorem dX3_most_50 : decode cX3_most 50 = .ok (.iaload, 1) := dk_46 (dk_at dksX3_most_2 5 rfl rfl)
theorem dX3_most_51 : decode cX3_most 51 = .ok (.aaload, 1) := dk_50 (dk_at dksX3_most_2 6 rfl rfl)
theorem dX3_most_52 : decode cX3_most 52 = .ok (.iload 6, 2) := dk_21 6 (dk_at dksX3_most_2 7 rfl rfl)
theorem dX3_most_54 : decode cX3_most 54 = .ok (.dup2, 1) := dk_92 (dk_at dksX3_most_2 9 rfl rfl)
theorem dX3_most_55 : decode cX3_most 55 = .ok (.iaload, 1) := dk_46 (dk_at dksX3_most_2 10 rfl rfl)
theorem dX3_most_56 : decode cX3_most 56 = .ok (.iconst 1, 1) := dk_4 (dk_at dksX3_most_2 11 rfl rfl)
theorem dX3_most_57 : decode cX3_most 57 = .ok (.isub, 1) := dk_100 (dk_at dksX3_most_2 12 rfl rfl)
theorem dX3_most_58 : decode cX3_most 58 = .ok (.iastore, 1) := dk_79 (dk_at dksX3_most_2 13 rfl rfl)
theorem dX3_most_59 : decode cX3_most 59 = .ok (.aload_n 0, 1) := dk_42 (dk_at dksX3_most_2 14 rfl rfl)
theorem dX3_most_60 : decode cX3_most 60 = .ok (.getfield 11, 3) := dk_180 0 11 (dk_at dksX3_most_2 15 rfl rfl)
theorem dX3_most_63 : decode cX3_most 63 = .ok (.iload 6, 2) := dk_21 6 (dk_at dksX3_most_2 18 rfl rfl)
theorem dX3_most_65 : decode cX3_most 65 = .ok (.aaload, 1) := dk_50 (dk_at dksX3_most_2 20 rfl rfl)
theorem dX3_most_66 : decode cX3_most 66 = .ok (.aload_n 0, 1) := dk_42 (dk_at dksX3_most_2 21 rfl rfl)
theorem dX3_most_67 : decode cX3_most 67 = .ok (.getfield 16, 3) := dk_180 0 16 (dk_at dksX3_most_3 0 rfl rfl)
theorem dX3_most_70 : decode cX3_most 70 = .ok (.iload 6, 2) := dk_21 6 (dk_at dksX3_most_3 3 rfl rfl)
theorem dX3_most_72 : decode cX3_most 72 = .ok (.iaload, 1) := dk_46 (dk_at dksX3_most_3 5 rfl rfl)
theorem dX3_most_73 : decode cX3_most 73 = .ok (.dup2, 1) := dk_92 (dk_at dksX3_most_3 6 rfl rfl)
theorem dX3_most_74 : decode cX3_most 74 = .ok (.iaload, 1) := dk_46 (dk_at dksX3_most_3 7 rfl rfl)
theorem dX3_most_75 : decode cX3_most 75 = .ok (.iconst 1, 1) := dk_4 (dk_at dksX3_most_3 8 rfl rfl)
theorem dX3_most_76 : decode cX3_most 76 = .ok (.iadd, 1) := dk_96 (dk_at dksX3_most_3 9 rfl rfl)
theorem dX3_most_77 : decode cX3_most 77 = .ok (.iastore, 1) := dk_79 (dk_at dksX3_most_3 10 rfl rfl)
theorem dX3_most_78 : decode cX3_most 78 = .ok (.aload_n 0, 1) := dk_42 (dk_at dksX3_most_3 11 rfl rfl)
theorem dX3_most_79 : decode cX3_most 79 = .ok (.getfield 16, 3) := dk_180 0 16 (dk_at dksX3_most_3 12 rfl rfl)
theorem dX3_most_82 : decode cX3_most 82 = .ok (.iload 6, 2) := dk_21 6 (dk_at dksX3_most_3 15 rfl rfl)
theorem dX3_most_84 : decode cX3_most 84 = .ok (.iaload, 1) := dk_46 (dk_at dksX3_most_3 17 rfl rfl)
theorem dX3_most_85 : decode cX3_most 85 = .ok (.istore 6, 2) := dk_54 6 (dk_at dksX3_most_3 18 rfl rfl)
theorem dX3_most_87 : decode cX3_most 87 = .ok (.goto (-57), 3) := dk_167 255 199 (dk_at dksX3_most_3 20 rfl rfl)
theorem dX3_most_90 : decode cX3_most 90 = .ok (.iinc 5 1, 3) := dk_132 5 1 (dk_at dksX3_most_4 0 rfl rfl)
theorem dX3_most_93 : decode cX3_most 93 = .ok (.goto (-83), 3) := dk_167 255 173 (dk_at dksX3_most_4 3 rfl rfl)
theorem dX3_most_96 : decode cX3_most 96 = .ok (.iload 5, 2) := dk_21 5 (dk_at dksX3_most_4 6 rfl rfl)
theorem dX3_most_98 : decode cX3_most 98 = .ok (.ireturn, 1) := dk_172 (dk_at dksX3_most_4 8 rfl rfl)
abbrev cX3_lay : ByteArray := prog_4_method_2_code
def yX3_lay : MethodName := ⟨RX3, "lay", "(LWiredNets$Net;Z)V"⟩
def dkwX3_lay_5 : List UInt8 := [4, 96, 50, 5, 21, 4, 104, 4, 79, 132, 4, 1, 167, 255, 218, 132, 3, 1, 167, 255, 177, 177]
abbrev dktX3_lay_5 : List UInt8 := dkwX3_lay_5 ++ []
def dkwX3_lay_4 : List UInt8 := [43, 180, 0, 23, 162, 0, 35, 43, 29, 21, 4, 182, 0, 32, 153, 0, 19, 42, 180, 0, 11, 5, 29, 104]
abbrev dktX3_lay_4 : List UInt8 := dkwX3_lay_4 ++ dktX3_lay_5
def dkwX3_lay_3 : List UInt8 := [29, 104, 50, 5, 29, 104, 4, 96, 28, 153, 0, 7, 4, 167, 0, 5, 16, 24, 79, 3, 54, 4, 21, 4]
abbrev dktX3_lay_3 : List UInt8 := dkwX3_lay_3 ++ dktX3_lay_4
def dkwX3_lay_2 : List UInt8 := [167, 255, 234, 132, 3, 1, 167, 255, 217, 3, 62, 29, 43, 180, 0, 23, 162, 0, 77, 42, 180, 0, 11, 5]
abbrev dktX3_lay_2 : List UInt8 := dkwX3_lay_2 ++ dktX3_lay_3
def dkwX3_lay_1 : List UInt8 := [21, 4, 42, 180, 0, 29, 162, 0, 19, 42, 180, 0, 11, 29, 50, 21, 4, 3, 79, 132, 4, 1]
abbrev dktX3_lay_1 : List UInt8 := dkwX3_lay_1 ++ dktX3_lay_2
def dkwX3_lay_0 : List UInt8 := [42, 5, 43, 180, 0, 23, 104, 181, 0, 29, 3, 62, 29, 42, 180, 0, 29, 162, 0, 37, 3, 54, 4]
abbrev dktX3_lay_0 : List UInt8 := dkwX3_lay_0 ++ dktX3_lay_1
theorem dksX3_lay_0 : cX3_lay.data.toList.drop 0 = dktX3_lay_0 := by decide +kernel
theorem dksX3_lay_1 : cX3_lay.data.toList.drop 23 = dktX3_lay_1 := dk_seg dksX3_lay_0 23 rfl rfl
theorem dksX3_lay_2 : cX3_lay.data.toList.drop 45 = dktX3_lay_2 := dk_seg dksX3_lay_1 22 rfl rfl
theorem dksX3_lay_3 : cX3_lay.data.toList.drop 69 = dktX3_lay_3 := dk_seg dksX3_lay_2 24 rfl rfl
theorem dksX3_lay_4 : cX3_lay.data.toList.drop 93 = dktX3_lay_4 := dk_seg dksX3_lay_3 24 rfl rfl
theorem dksX3_lay_5 : cX3_lay.data.toList.drop 117 = dktX3_lay_5 := dk_seg dksX3_lay_4 24 rfl rfl
theorem dX3_lay_0 : decode cX3_lay 0 = .ok (.aload_n 0, 1) := dk_42 (dk_at dksX3_lay_0 0 rfl rfl)
theorem dX3_lay_1 : decode cX3_lay 1 = .ok (.iconst 2, 1) := dk_5 (dk_at dksX3_lay_0 1 rfl rfl)
theorem dX3_lay_2 : decode cX3_lay 2 = .ok (.aload_n 1, 1) := dk_43 (dk_at dksX3_lay_0 2 rfl rfl)
theorem dX3_lay_3 : decode cX3_lay 3 = .ok (.getfield 23, 3) := dk_180 0 23 (dk_at dksX3_lay_0 3 rfl rfl)
theorem dX3_lay_6 : decode cX3_lay 6 = .ok (.imul, 1) := dk_104 (dk_at dksX3_lay_0 6 rfl rfl)
theorem dX3_lay_7 : decode cX3_lay 7 = .ok (.putfield 29, 3) := dk_181 0 29 (dk_at dksX3_lay_0 7 rfl rfl)
theorem dX3_lay_10 : decode cX3_lay 10 = .ok (.iconst 0, 1) := dk_3 (dk_at dksX3_lay_0 10 rfl rfl)
theorem dX3_lay_11 : decode cX3_lay 11 = .ok (.istore_n 3, 1) := dk_62 (dk_at dksX3_lay_0 11 rfl rfl)
theorem dX3_lay_12 : decode cX3_lay 12 = .ok (.iload_n 3, 1) := dk_29 (dk_at dksX3_lay_0 12 rfl rfl)
theorem dX3_lay_13 : decode cX3_lay 13 = .ok (.aload_n 0, 1) := dk_42 (dk_at dksX3_lay_0 13 rfl rfl)
theorem dX3_lay_14 : decode cX3_lay 14 = .ok (.getfield 29, 3) := dk_180 0 29 (dk_at dksX3_lay_0 14 rfl rfl)
theorem dX3_lay_17 : decode cX3_lay 17 = .ok (.if_icmp .ge 37, 3) := dk_162 0 37 (dk_at dksX3_lay_0 17 rfl rfl)
theorem dX3_lay_20 : decode cX3_lay 20 = .ok (.iconst 0, 1) := dk_3 (dk_at dksX3_lay_0 20 rfl rfl)
theorem dX3_lay_21 : decode cX3_lay 21 = .ok (.istore 4, 2) := dk_54 4 (dk_at dksX3_lay_0 21 rfl rfl)
theorem dX3_lay_23 : decode cX3_lay 23 = .ok (.iload 4, 2) := dk_21 4 (dk_at dksX3_lay_1 0 rfl rfl)
theorem dX3_lay_25 : decode cX3_lay 25 = .ok (.aload_n 0, 1) := dk_42 (dk_at dksX3_lay_1 2 rfl rfl)
theorem dX3_lay_26 : decode cX3_lay 26 = .ok (.getfield 29, 3) := dk_180 0 29 (dk_at dksX3_lay_1 3 rfl rfl)
theorem dX3_lay_29 : decode cX3_lay 29 = .ok (.if_icmp .ge 19, 3) := dk_162 0 19 (dk_at dksX3_lay_1 6 rfl rfl)
theorem dX3_lay_32 : decode cX3_lay 32 = .ok (.aload_n 0, 1) := dk_42 (dk_at dksX3_lay_1 9 rfl rfl)
theorem dX3_lay_33 : decode cX3_lay 33 = .ok (.getfield 11, 3) := dk_180 0 11 (dk_at dksX3_lay_1 10 rfl rfl)
theorem dX3_lay_36 : decode cX3_lay 36 = .ok (.iload_n 3, 1) := dk_29 (dk_at dksX3_lay_1 13 rfl rfl)
theorem dX3_lay_37 : decode cX3_lay 37 = .ok (.aaload, 1) := dk_50 (dk_at dksX3_lay_1 14 rfl rfl)
theorem dX3_lay_38 : decode cX3_lay 38 = .ok (.iload 4, 2) := dk_21 4 (dk_at dksX3_lay_1 15 rfl rfl)
theorem dX3_lay_40 : decode cX3_lay 40 = .ok (.iconst 0, 1) := dk_3 (dk_at dksX3_lay_1 17 rfl rfl)
theorem dX3_lay_41 : decode cX3_lay 41 = .ok (.iastore, 1) := dk_79 (dk_at dksX3_lay_1 18 rfl rfl)
theorem dX3_lay_42 : decode cX3_lay 42 = .ok (.iinc 4 1, 3) := dk_132 4 1 (dk_at dksX3_lay_1 19 rfl rfl)
theorem dX3_lay_45 : decode cX3_lay 45 = .ok (.goto (-22), 3) := dk_167 255 234 (dk_at dksX3_lay_2 0 rfl rfl)
theorem dX3_lay_48 : decode cX3_lay 48 = .ok (.iinc 3 1, 3) := dk_132 3 1 (dk_at dksX3_lay_2 3 rfl rfl)
theorem dX3_lay_51 : decode cX3_lay 51 = .ok (.goto (-39), 3) := dk_167 255 217 (dk_at dksX3_lay_2 6 rfl rfl)
theorem dX3_lay_54 : decode cX3_lay 54 = .ok (.iconst 0, 1) := dk_3 (dk_at dksX3_lay_2 9 rfl rfl)
theorem dX3_lay_55 : decode cX3_lay 55 = .ok (.istore_n 3, 1) := dk_62 (dk_at dksX3_lay_2 10 rfl rfl)
theorem dX3_lay_56 : decode cX3_lay 56 = .ok (.iload_n 3, 1) := dk_29 (dk_at dksX3_lay_2 11 rfl rfl)
theorem dX3_lay_57 : decode cX3_lay 57 = .ok (.aload_n 1, 1) := dk_43 (dk_at dksX3_lay_2 12 rfl rfl)
theorem dX3_lay_58 : decode cX3_lay 58 = .ok (.getfield 23, 3) := dk_180 0 23 (dk_at dksX3_lay_2 13 rfl rfl)
theorem dX3_lay_61 : decode cX3_lay 61 = .ok (.if_icmp .ge 77, 3) := dk_162 0 77 (dk_at dksX3_lay_2 16 rfl rfl)
theorem dX3_lay_64 : decode cX3_lay 64 = .ok (.aload_n 0, 1) := dk_42 (dk_at dksX3_lay_2 19 rfl rfl)
theorem dX3_lay_65 : decode cX3_lay 65 = .ok (.getfield 11, 3) := dk_180 0 11 (dk_at dksX3_lay_2 20 rfl rfl)
theorem dX3_lay_68 : decode cX3_lay 68 = .ok (.iconst 2, 1) := dk_5 (dk_at dksX3_lay_2 23 rfl rfl)
theorem dX3_lay_69 : decode cX3_lay 69 = .ok (.iload_n 3, 1) := dk_29 (dk_at dksX3_lay_3 0 rfl rfl)
theorem dX3_lay_70 : decode cX3_lay 70 = .ok (.imul, 1) := dk_104 (dk_at dksX3_lay_3 1 rfl rfl)
theorem dX3_lay_71 : decode cX3_lay 71 = .ok (.aaload, 1) := dk_50 (dk_at dksX3_lay_3 2 rfl rfl)
theorem dX3_lay_72 : decode cX3_lay 72 = .ok (.iconst 2, 1) := dk_5 (dk_at dksX3_lay_3 3 rfl rfl)
theorem dX3_lay_73 : decode cX3_lay 73 = .ok (.iload_n 3, 1) := dk_29 (dk_at dksX3_lay_3 4 rfl rfl)
theorem dX3_lay_74 : decode cX3_lay 74 = .ok (.imul, 1) := dk_104 (dk_at dksX3_lay_3 5 rfl rfl)
theorem dX3_lay_75 : decode cX3_lay 75 = .ok (.iconst 1, 1) := dk_4 (dk_at dksX3_lay_3 6 rfl rfl)
theorem dX3_lay_76 : decode cX3_lay 76 = .ok (.iadd, 1) := dk_96 (dk_at dksX3_lay_3 7 rfl rfl)
theorem dX3_lay_77 : decode cX3_lay 77 = .ok (.iload_n 2, 1) := dk_28 (dk_at dksX3_lay_3 8 rfl rfl)
theorem dX3_lay_78 : decode cX3_lay 78 = .ok (.ifCond .eq 7, 3) := dk_153 0 7 (dk_at dksX3_lay_3 9 rfl rfl)
theorem dX3_lay_81 : decode cX3_lay 81 = .ok (.iconst 1, 1) := dk_4 (dk_at dksX3_lay_3 12 rfl rfl)
theorem dX3_lay_82 : decode cX3_lay 82 = .ok (.goto 5, 3) := dk_167 0 5 (dk_at dksX3_lay_3 13 rfl rfl)
theorem dX3_lay_85 : decode cX3_lay 85 = .ok (.bipush 24, 2) := dk_16 24 (dk_at dksX3_lay_3 16 rfl rfl)
theorem dX3_lay_87 : decode cX3_lay 87 = .ok (.iastore, 1) := dk_79 (dk_at dksX3_lay_3 18 rfl rfl)
theorem dX3_lay_88 : decode cX3_lay 88 = .ok (.iconst 0, 1) := dk_3 (dk_at dksX3_lay_3 19 rfl rfl)
theorem dX3_lay_89 : decode cX3_lay 89 = .ok (.istore 4, 2) := dk_54 4 (dk_at dksX3_lay_3 20 rfl rfl)
theorem dX3_lay_91 : decode cX3_lay 91 = .ok (.iload 4, 2) := dk_21 4 (dk_at dksX3_lay_3 22 rfl rfl)
theorem dX3_lay_93 : decode cX3_lay 93 = .ok (.aload_n 1, 1) := dk_43 (dk_at dksX3_lay_4 0 rfl rfl)
theorem dX3_lay_94 : decode cX3_lay 94 = .ok (.getfield 23, 3) := dk_180 0 23 (dk_at dksX3_lay_4 1 rfl rfl)
theorem dX3_lay_97 : decode cX3_lay 97 = .ok (.if_icmp .ge 35, 3) := dk_162 0 35 (dk_at dksX3_lay_4 4 rfl rfl)
theorem dX3_lay_100 : decode cX3_lay 100 = .ok (.aload_n 1, 1) := dk_43 (dk_at dksX3_lay_4 7 rfl rfl)
theorem dX3_lay_101 : decode cX3_lay 101 = .ok (.iload_n 3, 1) := dk_29 (dk_at dksX3_lay_4 8 rfl rfl)
theorem dX3_lay_102 : decode cX3_lay 102 = .ok (.iload 4, 2) := dk_21 4 (dk_at dksX3_lay_4 9 rfl rfl)
theorem dX3_lay_104 : decode cX3_lay 104 = .ok (.invokevirtual 32, 3) := dk_182 0 32 (dk_at dksX3_lay_4 11 rfl rfl)
theorem dX3_lay_107 : decode cX3_lay 107 = .ok (.ifCond .eq 19, 3) := dk_153 0 19 (dk_at dksX3_lay_4 14 rfl rfl)
theorem dX3_lay_110 : decode cX3_lay 110 = .ok (.aload_n 0, 1) := dk_42 (dk_at dksX3_lay_4 17 rfl rfl)
theorem dX3_lay_111 : decode cX3_lay 111 = .ok (.getfield 11, 3) := dk_180 0 11 (dk_at dksX3_lay_4 18 rfl rfl)
theorem dX3_lay_114 : decode cX3_lay 114 = .ok (.iconst 2, 1) := dk_5 (dk_at dksX3_lay_4 21 rfl rfl)
theorem dX3_lay_115 : decode cX3_lay 115 = .ok (.iload_n 3, 1) := dk_29 (dk_at dksX3_lay_4 22 rfl rfl)
theorem dX3_lay_116 : decode cX3_lay 116 = .ok (.imul, 1) := dk_104 (dk_at dksX3_lay_4 23 rfl rfl)
theorem dX3_lay_117 : decode cX3_lay 117 = .ok (.iconst 1, 1) := dk_4 (dk_at dksX3_lay_5 0 rfl rfl)
theorem dX3_lay_118 : decode cX3_lay 118 = .ok (.iadd, 1) := dk_96 (dk_at dksX3_lay_5 1 rfl rfl)
theorem dX3_lay_119 : decode cX3_lay 119 = .ok (.aaload, 1) := dk_50 (dk_at dksX3_lay_5 2 rfl rfl)
theorem dX3_lay_120 : decode cX3_lay 120 = .ok (.iconst 2, 1) := dk_5 (dk_at dksX3_lay_5 3 rfl rfl)
theorem dX3_lay_121 : decode cX3_lay 121 = .ok (.iload 4, 2) := dk_21 4 (dk_at dksX3_lay_5 4 rfl rfl)
theorem dX3_lay_123 : decode cX3_lay 123 = .ok (.imul, 1) := dk_104 (dk_at dksX3_lay_5 6 rfl rfl)
theorem dX3_lay_124 : decode cX3_lay 124 = .ok (.iconst 1, 1) := dk_4 (dk_at dksX3_lay_5 7 rfl rfl)
theorem dX3_lay_125 : decode cX3_lay 125 = .ok (.iastore, 1) := dk_79 (dk_at dksX3_lay_5 8 rfl rfl)
theorem dX3_lay_126 : decode cX3_lay 126 = .ok (.iinc 4 1, 3) := dk_132 4 1 (dk_at dksX3_lay_5 9 rfl rfl)
theorem dX3_lay_129 : decode cX3_lay 129 = .ok (.goto (-38), 3) := dk_167 255 218 (dk_at dksX3_lay_5 12 rfl rfl)
theorem dX3_lay_132 : decode cX3_lay 132 = .ok (.iinc 3 1, 3) := dk_132 3 1 (dk_at dksX3_lay_5 15 rfl rfl)
theorem dX3_lay_135 : decode cX3_lay 135 = .ok (.goto (-79), 3) := dk_167 255 177 (dk_at dksX3_lay_5 18 rfl rfl)
theorem dX3_lay_138 : decode cX3_lay 138 = .ok (.return_, 1) := dk_177 (dk_at dksX3_lay_5 21 rfl rfl)
abbrev cX3_finds : ByteArray := prog_4_method_3_code
def yX3_finds : MethodName := ⟨RX3, "finds", "(II)Z"⟩
def dkwX3_finds_6 : List UInt8 := [2, 159, 0, 7, 4, 167, 0, 4, 3, 172]
abbrev dktX3_finds_6 : List UInt8 := dkwX3_finds_6 ++ []
def dkwX3_finds_5 : List UInt8 := [21, 6, 79, 132, 3, 1, 132, 6, 1, 167, 255, 197, 132, 4, 1, 167, 255, 163, 42, 180, 0, 16, 28, 46]
abbrev dktX3_finds_5 : List UInt8 := dkwX3_finds_5 ++ dktX3_finds_6
def dkwX3_finds_4 : List UInt8 := [21, 6, 46, 2, 159, 0, 6, 167, 0, 23, 42, 180, 0, 16, 21, 6, 21, 5, 79, 42, 180, 0, 20, 29]
abbrev dktX3_finds_4 : List UInt8 := dkwX3_finds_4 ++ dktX3_finds_5
def dkwX3_finds_3 : List UInt8 := [42, 180, 0, 29, 162, 0, 56, 42, 180, 0, 11, 21, 5, 50, 21, 6, 46, 153, 0, 37, 42, 180, 0, 16]
abbrev dktX3_finds_3 : List UInt8 := dkwX3_finds_3 ++ dktX3_finds_4
def dkwX3_finds_2 : List UInt8 := [42, 180, 0, 16, 28, 46, 2, 160, 0, 83, 42, 180, 0, 20, 21, 4, 46, 54, 5, 3, 54, 6, 21, 6]
abbrev dktX3_finds_2 : List UInt8 := dkwX3_finds_2 ++ dktX3_finds_3
def dkwX3_finds_1 : List UInt8 := [62, 42, 180, 0, 20, 3, 27, 79, 42, 180, 0, 16, 27, 27, 79, 3, 54, 4, 21, 4, 29, 162, 0, 93]
abbrev dktX3_finds_1 : List UInt8 := dkwX3_finds_1 ++ dktX3_finds_2
def dkwX3_finds_0 : List UInt8 := [3, 62, 29, 42, 180, 0, 29, 162, 0, 16, 42, 180, 0, 16, 29, 2, 79, 132, 3, 1, 167, 255, 238, 4]
abbrev dktX3_finds_0 : List UInt8 := dkwX3_finds_0 ++ dktX3_finds_1
theorem dksX3_finds_0 : cX3_finds.data.toList.drop 0 = dktX3_finds_0 := by decide +kernel
theorem dksX3_finds_1 : cX3_finds.data.toList.drop 24 = dktX3_finds_1 := dk_seg dksX3_finds_0 24 rfl rfl
theorem dksX3_finds_2 : cX3_finds.data.toList.drop 48 = dktX3_finds_2 := dk_seg dksX3_finds_1 24 rfl rfl
theorem dksX3_finds_3 : cX3_finds.data.toList.drop 72 = dktX3_finds_3 := dk_seg dksX3_finds_2 24 rfl rfl
theorem dksX3_finds_4 : cX3_finds.data.toList.drop 96 = dktX3_finds_4 := dk_seg dksX3_finds_3 24 rfl rfl
theorem dksX3_finds_5 : cX3_finds.data.toList.drop 120 = dktX3_finds_5 := dk_seg dksX3_finds_4 24 rfl rfl
theorem dksX3_finds_6 : cX3_finds.data.toList.drop 144 = dktX3_finds_6 := dk_seg dksX3_finds_5 24 rfl rfl
theorem dX3_finds_0 : decode cX3_finds 0 = .ok (.iconst 0, 1) := dk_3 (dk_at dksX3_finds_0 0 rfl rfl)
theorem dX3_finds_1 : decode cX3_finds 1 = .ok (.istore_n 3, 1) := dk_62 (dk_at dksX3_finds_0 1 rfl rfl)
theorem dX3_finds_2 : decode cX3_finds 2 = .ok (.iload_n 3, 1) := dk_29 (dk_at dksX3_finds_0 2 rfl rfl)
theorem dX3_finds_3 : decode cX3_finds 3 = .ok (.aload_n 0, 1) := dk_42 (dk_at dksX3_finds_0 3 rfl rfl)
theorem dX3_finds_4 : decode cX3_finds 4 = .ok (.getfield 29, 3) := dk_180 0 29 (dk_at dksX3_finds_0 4 rfl rfl)
theorem dX3_finds_7 : decode cX3_finds 7 = .ok (.if_icmp .ge 16, 3) := dk_162 0 16 (dk_at dksX3_finds_0 7 rfl rfl)
theorem dX3_finds_10 : decode cX3_finds 10 = .ok (.aload_n 0, 1) := dk_42 (dk_at dksX3_finds_0 10 rfl rfl)
theorem dX3_finds_11 : decode cX3_finds 11 = .ok (.getfield 16, 3) := dk_180 0 16 (dk_at dksX3_finds_0 11 rfl rfl)
theorem dX3_finds_14 : decode cX3_finds 14 = .ok (.iload_n 3, 1) := dk_29 (dk_at dksX3_finds_0 14 rfl rfl)
theorem dX3_finds_15 : decode cX3_finds 15 = .ok (.iconst (-1), 1) := dk_2 (dk_at dksX3_finds_0 15 rfl rfl)
theorem dX3_finds_16 : decode cX3_finds 16 = .ok (.iastore, 1) := dk_79 (dk_at dksX3_finds_0 16 rfl rfl)
theorem dX3_finds_17 : decode cX3_finds 17 = .ok (.iinc 3 1, 3) := dk_132 3 1 (dk_at dksX3_finds_0 17 rfl rfl)
theorem dX3_finds_20 : decode cX3_finds 20 = .ok (.goto (-18), 3) := dk_167 255 238 (dk_at dksX3_finds_0 20 rfl rfl)
theorem dX3_finds_23 : decode cX3_finds 23 = .ok (.iconst 1, 1) := dk_4 (dk_at dksX3_finds_0 23 rfl rfl)
theorem dX3_finds_24 : decode cX3_finds 24 = .ok (.istore_n 3, 1) := dk_62 (dk_at dksX3_finds_1 0 rfl rfl)
theorem dX3_finds_25 : decode cX3_finds 25 = .ok (.aload_n 0, 1) := dk_42 (dk_at dksX3_finds_1 1 rfl rfl)
theorem dX3_finds_26 : decode cX3_finds 26 = .ok (.getfield 20, 3) := dk_180 0 20 (dk_at dksX3_finds_1 2 rfl rfl)
theorem dX3_finds_29 : decode cX3_finds 29 = .ok (.iconst 0, 1) := dk_3 (dk_at dksX3_finds_1 5 rfl rfl)
theorem dX3_finds_30 : decode cX3_finds 30 = .ok (.iload_n 1, 1) := dk_27 (dk_at dksX3_finds_1 6 rfl rfl)
theorem dX3_finds_31 : decode cX3_finds 31 = .ok (.iastore, 1) := dk_79 (dk_at dksX3_finds_1 7 rfl rfl)
theorem dX3_finds_32 : decode cX3_finds 32 = .ok (.aload_n 0, 1) := dk_42 (dk_at dksX3_finds_1 8 rfl rfl)
theorem dX3_finds_33 : decode cX3_finds 33 = .ok (.getfield 16, 3) := dk_180 0 16 (dk_at dksX3_finds_1 9 rfl rfl)
theorem dX3_finds_36 : decode cX3_finds 36 = .ok (.iload_n 1, 1) := dk_27 (dk_at dksX3_finds_1 12 rfl rfl)
theorem dX3_finds_37 : decode cX3_finds 37 = .ok (.iload_n 1, 1) := dk_27 (dk_at dksX3_finds_1 13 rfl rfl)
theorem dX3_finds_38 : decode cX3_finds 38 = .ok (.iastore, 1) := dk_79 (dk_at dksX3_finds_1 14 rfl rfl)
theorem dX3_finds_39 : decode cX3_finds 39 = .ok (.iconst 0, 1) := dk_3 (dk_at dksX3_finds_1 15 rfl rfl)
theorem dX3_finds_40 : decode cX3_finds 40 = .ok (.istore 4, 2) := dk_54 4 (dk_at dksX3_finds_1 16 rfl rfl)
theorem dX3_finds_42 : decode cX3_finds 42 = .ok (.iload 4, 2) := dk_21 4 (dk_at dksX3_finds_1 18 rfl rfl)
theorem dX3_finds_44 : decode cX3_finds 44 = .ok (.iload_n 3, 1) := dk_29 (dk_at dksX3_finds_1 20 rfl rfl)
theorem dX3_finds_45 : decode cX3_finds 45 = .ok (.if_icmp .ge 93, 3) := dk_162 0 93 (dk_at dksX3_finds_1 21 rfl rfl)
theorem dX3_finds_48 : decode cX3_finds 48 = .ok (.aload_n 0, 1) := dk_42 (dk_at dksX3_finds_2 0 rfl rfl)
theorem dX3_finds_49 : decode cX3_finds 49 = .ok (.getfield 16, 3) := dk_180 0 16 (dk_at dksX3_finds_2 1 rfl rfl)
theorem dX3_finds_52 : decode cX3_finds 52 = .ok (.iload_n 2, 1) := dk_28 (dk_at dksX3_finds_2 4 rfl rfl)
theorem dX3_finds_53 : decode cX3_finds 53 = .ok (.iaload, 1) := dk_46 (dk_at dksX3_finds_2 5 rfl rfl)
theorem dX3_finds_54 : decode cX3_finds 54 = .ok (.iconst (-1), 1) := dk_2 (dk_at dksX3_finds_2 6 rfl rfl)
theorem dX3_finds_55 : decode cX3_finds 55 = .ok (.if_icmp .ne 83, 3) := dk_160 0 83 (dk_at dksX3_finds_2 7 rfl rfl)
theorem dX3_finds_58 : decode cX3_finds 58 = .ok (.aload_n 0, 1) := dk_42 (dk_at dksX3_finds_2 10 rfl rfl)
theorem dX3_finds_59 : decode cX3_finds 59 = .ok (.getfield 20, 3) := dk_180 0 20 (dk_at dksX3_finds_2 11 rfl rfl)
theorem dX3_finds_62 : decode cX3_finds 62 = .ok (.iload 4, 2) := dk_21 4 (dk_at dksX3_finds_2 14 rfl rfl)
theorem dX3_finds_64 : decode cX3_finds 64 = .ok (.iaload, 1) := dk_46 (dk_at dksX3_finds_2 16 rfl rfl)
theorem dX3_finds_65 : decode cX3_finds 65 = .ok (.istore 5, 2) := dk_54 5 (dk_at dksX3_finds_2 17 rfl rfl)
theorem dX3_finds_67 : decode cX3_finds 67 = .ok (.iconst 0, 1) := dk_3 (dk_at dksX3_finds_2 19 rfl rfl)
theorem dX3_finds_68 : decode cX3_finds 68 = .ok (.istore 6, 2) := dk_54 6 (dk_at dksX3_finds_2 20 rfl rfl)
theorem dX3_finds_70 : decode cX3_finds 70 = .ok (.iload 6, 2) := dk_21 6 (dk_at dksX3_finds_2 22 rfl rfl)
theorem dX3_finds_72 : decode cX3_finds 72 = .ok (.aload_n 0, 1) := dk_42 (dk_at dksX3_finds_3 0 rfl rfl)
theorem dX3_finds_73 : decode cX3_finds 73 = .ok (.getfield 29, 3) := dk_180 0 29 (dk_at dksX3_finds_3 1 rfl rfl)
theorem dX3_finds_76 : decode cX3_finds 76 = .ok (.if_icmp .ge 56, 3) := dk_162 0 56 (dk_at dksX3_finds_3 4 rfl rfl)
theorem dX3_finds_79 : decode cX3_finds 79 = .ok (.aload_n 0, 1) := dk_42 (dk_at dksX3_finds_3 7 rfl rfl)
theorem dX3_finds_80 : decode cX3_finds 80 = .ok (.getfield 11, 3) := dk_180 0 11 (dk_at dksX3_finds_3 8 rfl rfl)
theorem dX3_finds_83 : decode cX3_finds 83 = .ok (.iload 5, 2) := dk_21 5 (dk_at dksX3_finds_3 11 rfl rfl)
theorem dX3_finds_85 : decode cX3_finds 85 = .ok (.aaload, 1) := dk_50 (dk_at dksX3_finds_3 13 rfl rfl)
theorem dX3_finds_86 : decode cX3_finds 86 = .ok (.iload 6, 2) := dk_21 6 (dk_at dksX3_finds_3 14 rfl rfl)
theorem dX3_finds_88 : decode cX3_finds 88 = .ok (.iaload, 1) := dk_46 (dk_at dksX3_finds_3 16 rfl rfl)
theorem dX3_finds_89 : decode cX3_finds 89 = .ok (.ifCond .eq 37, 3) := dk_153 0 37 (dk_at dksX3_finds_3 17 rfl rfl)
theorem dX3_finds_92 : decode cX3_finds 92 = .ok (.aload_n 0, 1) := dk_42 (dk_at dksX3_finds_3 20 rfl rfl)
theorem dX3_finds_93 : decode cX3_finds 93 = .ok (.getfield 16, 3) := dk_180 0 16 (dk_at dksX3_finds_3 21 rfl rfl)
theorem dX3_finds_96 : decode cX3_finds 96 = .ok (.iload 6, 2) := dk_21 6 (dk_at dksX3_finds_4 0 rfl rfl)
theorem dX3_finds_98 : decode cX3_finds 98 = .ok (.iaload, 1) := dk_46 (dk_at dksX3_finds_4 2 rfl rfl)
theorem dX3_finds_99 : decode cX3_finds 99 = .ok (.iconst (-1), 1) := dk_2 (dk_at dksX3_finds_4 3 rfl rfl)
theorem dX3_finds_100 : decode cX3_finds 100 = .ok (.if_icmp .eq 6, 3) := dk_159 0 6 (dk_at dksX3_finds_4 4 rfl rfl)
theorem dX3_finds_103 : decode cX3_finds 103 = .ok (.goto 23, 3) := dk_167 0 23 (dk_at dksX3_finds_4 7 rfl rfl)
theorem dX3_finds_106 : decode cX3_finds 106 = .ok (.aload_n 0, 1) := dk_42 (dk_at dksX3_finds_4 10 rfl rfl)
theorem dX3_finds_107 : decode cX3_finds 107 = .ok (.getfield 16, 3) := dk_180 0 16 (dk_at dksX3_finds_4 11 rfl rfl)
theorem dX3_finds_110 : decode cX3_finds 110 = .ok (.iload 6, 2) := dk_21 6 (dk_at dksX3_finds_4 14 rfl rfl)
theorem dX3_finds_112 : decode cX3_finds 112 = .ok (.iload 5, 2) := dk_21 5 (dk_at dksX3_finds_4 16 rfl rfl)
theorem dX3_finds_114 : decode cX3_finds 114 = .ok (.iastore, 1) := dk_79 (dk_at dksX3_finds_4 18 rfl rfl)
theorem dX3_finds_115 : decode cX3_finds 115 = .ok (.aload_n 0, 1) := dk_42 (dk_at dksX3_finds_4 19 rfl rfl)
theorem dX3_finds_116 : decode cX3_finds 116 = .ok (.getfield 20, 3) := dk_180 0 20 (dk_at dksX3_finds_4 20 rfl rfl)
theorem dX3_finds_119 : decode cX3_finds 119 = .ok (.iload_n 3, 1) := dk_29 (dk_at dksX3_finds_4 23 rfl rfl)
theorem dX3_finds_120 : decode cX3_finds 120 = .ok (.iload 6, 2) := dk_21 6 (dk_at dksX3_finds_5 0 rfl rfl)
theorem dX3_finds_122 : decode cX3_finds 122 = .ok (.iastore, 1) := dk_79 (dk_at dksX3_finds_5 2 rfl rfl)
theorem dX3_finds_123 : decode cX3_finds 123 = .ok (.iinc 3 1, 3) := dk_132 3 1 (dk_at dksX3_finds_5 3 rfl rfl)
theorem dX3_finds_126 : decode cX3_finds 126 = .ok (.iinc 6 1, 3) := dk_132 6 1 (dk_at dksX3_finds_5 6 rfl rfl)
theorem dX3_finds_129 : decode cX3_finds 129 = .ok (.goto (-59), 3) := dk_167 255 197 (dk_at dksX3_finds_5 9 rfl rfl)
theorem dX3_finds_132 : decode cX3_finds 132 = .ok (.iinc 4 1, 3) := dk_132 4 1 (dk_at dksX3_finds_5 12 rfl rfl)
theorem dX3_finds_135 : decode cX3_finds 135 = .ok (.goto (-93), 3) := dk_167 255 163 (dk_at dksX3_finds_5 15 rfl rfl)
theorem dX3_finds_138 : decode cX3_finds 138 = .ok (.aload_n 0, 1) := dk_42 (dk_at dksX3_finds_5 18 rfl rfl)
theorem dX3_finds_139 : decode cX3_finds 139 = .ok (.getfield 16, 3) := dk_180 0 16 (dk_at dksX3_finds_5 19 rfl rfl)
theorem dX3_finds_142 : decode cX3_finds 142 = .ok (.iload_n 2, 1) := dk_28 (dk_at dksX3_finds_5 22 rfl rfl)
theorem dX3_finds_143 : decode cX3_finds 143 = .ok (.iaload, 1) := dk_46 (dk_at dksX3_finds_5 23 rfl rfl)
theorem dX3_finds_144 : decode cX3_finds 144 = .ok (.iconst (-1), 1) := dk_2 (dk_at dksX3_finds_6 0 rfl rfl)
theorem dX3_finds_145 : decode cX3_finds 145 = .ok (.if_icmp .eq 7, 3) := dk_159 0 7 (dk_at dksX3_finds_6 1 rfl rfl)
theorem dX3_finds_148 : decode cX3_finds 148 = .ok (.iconst 1, 1) := dk_4 (dk_at dksX3_finds_6 4 rfl rfl)
theorem dX3_finds_149 : decode cX3_finds 149 = .ok (.goto 4, 3) := dk_167 0 4 (dk_at dksX3_finds_6 5 rfl rfl)
theorem dX3_finds_152 : decode cX3_finds 152 = .ok (.iconst 0, 1) := dk_3 (dk_at dksX3_finds_6 8 rfl rfl)
theorem dX3_finds_153 : decode cX3_finds 153 = .ok (.ireturn, 1) := dk_172 (dk_at dksX3_finds_6 9 rfl rfl)
abbrev cX3_thinKnots : ByteArray := prog_4_method_6_code
def yX3_thinKnots : MethodName := ⟨RX3, "thinKnots", "(LWiredNets$Net;)I"⟩
def dkwX3_thinKnots_2 : List UInt8 := [182, 0, 43, 184, 0, 47, 61, 132, 4, 1, 167, 255, 220, 132, 3, 1, 167, 255, 201, 28, 172]
abbrev dktX3_thinKnots_2 : List UInt8 := dkwX3_thinKnots_2 ++ []
def dkwX3_thinKnots_1 : List UInt8 := [43, 180, 0, 23, 162, 0, 33, 43, 29, 21, 4, 182, 0, 32, 154, 0, 17, 28, 42, 43, 29, 21, 4, 4]
abbrev dktX3_thinKnots_1 : List UInt8 := dkwX3_thinKnots_1 ++ dktX3_thinKnots_2
def dkwX3_thinKnots_0 : List UInt8 := [43, 180, 0, 23, 4, 100, 61, 3, 62, 29, 43, 180, 0, 23, 162, 0, 53, 29, 4, 96, 54, 4, 21, 4]
abbrev dktX3_thinKnots_0 : List UInt8 := dkwX3_thinKnots_0 ++ dktX3_thinKnots_1
theorem dksX3_thinKnots_0 : cX3_thinKnots.data.toList.drop 0 = dktX3_thinKnots_0 := by decide +kernel
theorem dksX3_thinKnots_1 : cX3_thinKnots.data.toList.drop 24 = dktX3_thinKnots_1 := dk_seg dksX3_thinKnots_0 24 rfl rfl
theorem dksX3_thinKnots_2 : cX3_thinKnots.data.toList.drop 48 = dktX3_thinKnots_2 := dk_seg dksX3_thinKnots_1 24 rfl rfl
theorem dX3_thinKnots_0 : decode cX3_thinKnots 0 = .ok (.aload_n 1, 1) := dk_43 (dk_at dksX3_thinKnots_0 0 rfl rfl)
theorem dX3_thinKnots_1 : decode cX3_thinKnots 1 = .ok (.getfield 23, 3) := dk_180 0 23 (dk_at dksX3_thinKnots_0 1 rfl rfl)
theorem dX3_thinKnots_4 : decode cX3_thinKnots 4 = .ok (.iconst 1, 1) := dk_4 (dk_at dksX3_thinKnots_0 4 rfl rfl)
theorem dX3_thinKnots_5 : decode cX3_thinKnots 5 = .ok (.isub, 1) := dk_100 (dk_at dksX3_thinKnots_0 5 rfl rfl)
theorem dX3_thinKnots_6 : decode cX3_thinKnots 6 = .ok (.istore_n 2, 1) := dk_61 (dk_at dksX3_thinKnots_0 6 rfl rfl)
theorem dX3_thinKnots_7 : decode cX3_thinKnots 7 = .ok (.iconst 0, 1) := dk_3 (dk_at dksX3_thinKnots_0 7 rfl rfl)
theorem dX3_thinKnots_8 : decode cX3_thinKnots 8 = .ok (.istore_n 3, 1) := dk_62 (dk_at dksX3_thinKnots_0 8 rfl rfl)
theorem dX3_thinKnots_9 : decode cX3_thinKnots 9 = .ok (.iload_n 3, 1) := dk_29 (dk_at dksX3_thinKnots_0 9 rfl rfl)
theorem dX3_thinKnots_10 : decode cX3_thinKnots 10 = .ok (.aload_n 1, 1) := dk_43 (dk_at dksX3_thinKnots_0 10 rfl rfl)
theorem dX3_thinKnots_11 : decode cX3_thinKnots 11 = .ok (.getfield 23, 3) := dk_180 0 23 (dk_at dksX3_thinKnots_0 11 rfl rfl)
theorem dX3_thinKnots_14 : decode cX3_thinKnots 14 = .ok (.if_icmp .ge 53, 3) := dk_162 0 53 (dk_at dksX3_thinKnots_0 14 rfl rfl)
theorem dX3_thinKnots_17 : decode cX3_thinKnots 17 = .ok (.iload_n 3, 1) := dk_29 (dk_at dksX3_thinKnots_0 17 rfl rfl)
theorem dX3_thinKnots_18 : decode cX3_thinKnots 18 = .ok (.iconst 1, 1) := dk_4 (dk_at dksX3_thinKnots_0 18 rfl rfl)
theorem dX3_thinKnots_19 : decode cX3_thinKnots 19 = .ok (.iadd, 1) := dk_96 (dk_at dksX3_thinKnots_0 19 rfl rfl)
theorem dX3_thinKnots_20 : decode cX3_thinKnots 20 = .ok (.istore 4, 2) := dk_54 4 (dk_at dksX3_thinKnots_0 20 rfl rfl)
theorem dX3_thinKnots_22 : decode cX3_thinKnots 22 = .ok (.iload 4, 2) := dk_21 4 (dk_at dksX3_thinKnots_0 22 rfl rfl)
theorem dX3_thinKnots_24 : decode cX3_thinKnots 24 = .ok (.aload_n 1, 1) := dk_43 (dk_at dksX3_thinKnots_1 0 rfl rfl)
theorem dX3_thinKnots_25 : decode cX3_thinKnots 25 = .ok (.getfield 23, 3) := dk_180 0 23 (dk_at dksX3_thinKnots_1 1 rfl rfl)
theorem dX3_thinKnots_28 : decode cX3_thinKnots 28 = .ok (.if_icmp .ge 33, 3) := dk_162 0 33 (dk_at dksX3_thinKnots_1 4 rfl rfl)
theorem dX3_thinKnots_31 : decode cX3_thinKnots 31 = .ok (.aload_n 1, 1) := dk_43 (dk_at dksX3_thinKnots_1 7 rfl rfl)
theorem dX3_thinKnots_32 : decode cX3_thinKnots 32 = .ok (.iload_n 3, 1) := dk_29 (dk_at dksX3_thinKnots_1 8 rfl rfl)
theorem dX3_thinKnots_33 : decode cX3_thinKnots 33 = .ok (.iload 4, 2) := dk_21 4 (dk_at dksX3_thinKnots_1 9 rfl rfl)
theorem dX3_thinKnots_35 : decode cX3_thinKnots 35 = .ok (.invokevirtual 32, 3) := dk_182 0 32 (dk_at dksX3_thinKnots_1 11 rfl rfl)
theorem dX3_thinKnots_38 : decode cX3_thinKnots 38 = .ok (.ifCond .ne 17, 3) := dk_154 0 17 (dk_at dksX3_thinKnots_1 14 rfl rfl)
theorem dX3_thinKnots_41 : decode cX3_thinKnots 41 = .ok (.iload_n 2, 1) := dk_28 (dk_at dksX3_thinKnots_1 17 rfl rfl)
theorem dX3_thinKnots_42 : decode cX3_thinKnots 42 = .ok (.aload_n 0, 1) := dk_42 (dk_at dksX3_thinKnots_1 18 rfl rfl)
theorem dX3_thinKnots_43 : decode cX3_thinKnots 43 = .ok (.aload_n 1, 1) := dk_43 (dk_at dksX3_thinKnots_1 19 rfl rfl)
theorem dX3_thinKnots_44 : decode cX3_thinKnots 44 = .ok (.iload_n 3, 1) := dk_29 (dk_at dksX3_thinKnots_1 20 rfl rfl)
theorem dX3_thinKnots_45 : decode cX3_thinKnots 45 = .ok (.iload 4, 2) := dk_21 4 (dk_at dksX3_thinKnots_1 21 rfl rfl)
theorem dX3_thinKnots_47 : decode cX3_thinKnots 47 = .ok (.iconst 1, 1) := dk_4 (dk_at dksX3_thinKnots_1 23 rfl rfl)
theorem dX3_thinKnots_48 : decode cX3_thinKnots 48 = .ok (.invokevirtual 43, 3) := dk_182 0 43 (dk_at dksX3_thinKnots_2 0 rfl rfl)
theorem dX3_thinKnots_51 : decode cX3_thinKnots 51 = .ok (.invokestatic 47, 3) := dk_184 0 47 (dk_at dksX3_thinKnots_2 3 rfl rfl)
theorem dX3_thinKnots_54 : decode cX3_thinKnots 54 = .ok (.istore_n 2, 1) := dk_61 (dk_at dksX3_thinKnots_2 6 rfl rfl)
theorem dX3_thinKnots_55 : decode cX3_thinKnots 55 = .ok (.iinc 4 1, 3) := dk_132 4 1 (dk_at dksX3_thinKnots_2 7 rfl rfl)
theorem dX3_thinKnots_58 : decode cX3_thinKnots 58 = .ok (.goto (-36), 3) := dk_167 255 220 (dk_at dksX3_thinKnots_2 10 rfl rfl)
theorem dX3_thinKnots_61 : decode cX3_thinKnots 61 = .ok (.iinc 3 1, 3) := dk_132 3 1 (dk_at dksX3_thinKnots_2 13 rfl rfl)
theorem dX3_thinKnots_64 : decode cX3_thinKnots 64 = .ok (.goto (-55), 3) := dk_167 255 201 (dk_at dksX3_thinKnots_2 16 rfl rfl)
theorem dX3_thinKnots_67 : decode cX3_thinKnots 67 = .ok (.iload_n 2, 1) := dk_28 (dk_at dksX3_thinKnots_2 19 rfl rfl)
theorem dX3_thinKnots_68 : decode cX3_thinKnots 68 = .ok (.ireturn, 1) := dk_172 (dk_at dksX3_thinKnots_2 20 rfl rfl)
theorem q111 : (Jvm.Cond.initialized "WiredNets$Flow") ∈ lw_all := lw_g (lw_at lw_m1 3 rfl) rfl
theorem q176 : (Jvm.Cond.instantiable "WiredNets$Flow" (4 : Nat)) ∈ lw_all := lw_g (lw_at lw_m1 68 rfl) rfl
theorem q178 : (Jvm.Cond.instanceMethod ({ cls := "WiredNets$Flow", name := "<init>", desc := "()V" } : Jvm.MethodName)) ∈ lw_all := lw_g (lw_at lw_m1 70 rfl) rfl
theorem q179 : (Jvm.Cond.code ({ cls := "WiredNets$Flow", name := "<init>", desc := "()V" } : Jvm.MethodName) prog_4_method_1_code (1 : Nat) (Option.none : Option Jvm.ClassFile.FieldType)) ∈ lw_all := lw_g (lw_at lw_m1 71 rfl) rfl
theorem q180 : (Jvm.Cond.methodLink "WiredNets$Flow" (3 : Nat) ({ cls := "java/lang/Object", name := "<init>", desc := "()V" } : Jvm.MethodName)) ∈ lw_all := lw_g (lw_at lw_m1 72 rfl) rfl
theorem q181 : (Jvm.Cond.classLink "WiredNets$Flow" (9 : Nat) "[[I") ∈ lw_all := lw_g (lw_at lw_m1 73 rfl) rfl
theorem q183 : (Jvm.Cond.fieldLink "WiredNets$Flow" (11 : Nat) "WiredNets$Flow" "room" "[[I") ∈ lw_all := lw_g (lw_at lw_m1 75 rfl) rfl
theorem q184 : (Jvm.Cond.fieldLink "WiredNets$Flow" (16 : Nat) "WiredNets$Flow" "from" "[I") ∈ lw_all := lw_g (lw_at lw_m1 76 rfl) rfl
theorem q185 : (Jvm.Cond.fieldLink "WiredNets$Flow" (20 : Nat) "WiredNets$Flow" "line" "[I") ∈ lw_all := lw_g (lw_at lw_m1 77 rfl) rfl
theorem q186 : (Jvm.Cond.fieldLink "WiredNets$Flow" (29 : Nat) "WiredNets$Flow" "places" "I") ∈ lw_all := lw_g (lw_at lw_m1 78 rfl) rfl
theorem q187 : (Jvm.Cond.laysFinal "WiredNets$Flow" "WiredNets$Flow" "room" "[[I") ∈ lw_all := lw_g (lw_at lw_m1 79 rfl) rfl
theorem q188 : (Jvm.Cond.soleField "WiredNets$Flow" "room") ∈ lw_all := lw_g (lw_at lw_m1 80 rfl) rfl
theorem q189 : (Jvm.Cond.laysFinal "WiredNets$Flow" "WiredNets$Flow" "from" "[I") ∈ lw_all := lw_g (lw_at lw_m1 81 rfl) rfl
theorem q190 : (Jvm.Cond.soleField "WiredNets$Flow" "from") ∈ lw_all := lw_g (lw_at lw_m1 82 rfl) rfl
theorem q191 : (Jvm.Cond.laysFinal "WiredNets$Flow" "WiredNets$Flow" "line" "[I") ∈ lw_all := lw_g (lw_at lw_m1 83 rfl) rfl
theorem q192 : (Jvm.Cond.soleField "WiredNets$Flow" "line") ∈ lw_all := lw_g (lw_at lw_m1 84 rfl) rfl
theorem q193 : (Jvm.Cond.lays "WiredNets$Flow" "WiredNets$Flow" "places" "I") ∈ lw_all := lw_g (lw_at lw_m1 85 rfl) rfl
theorem q194 : (Jvm.Cond.soleField "WiredNets$Flow" "places") ∈ lw_all := lw_g (lw_at lw_m1 86 rfl) rfl
theorem q195 : (Jvm.Cond.superclass "WiredNets$Flow" "java/lang/Object") ∈ lw_all := lw_g (lw_at lw_m1 87 rfl) rfl
theorem q241 : (Jvm.Cond.fieldLinkNest "WiredNets$Flow" (23 : Nat) "WiredNets$Net" "n" "I" "WiredNets") ∈ lw_tbl := lw_at lw_m1 133 rfl
theorem q841 : (Jvm.Cond.instanceMethod ({ cls := "WiredNets$Flow", name := "thin", desc := "(LWiredNets$Net;)I" } : Jvm.MethodName)) ∈ lw_all := lw_g (lw_at lw_m4 13 rfl) rfl
theorem q842 : (Jvm.Cond.selects "WiredNets$Flow" ({ cls := "WiredNets$Flow", name := "thin", desc := "(LWiredNets$Net;)I" } : Jvm.MethodName) ({ cls := "WiredNets$Flow", name := "thin", desc := "(LWiredNets$Net;)I" } : Jvm.MethodName)) ∈ lw_all := lw_g (lw_at lw_m4 14 rfl) rfl
theorem q843 : (Jvm.Cond.code ({ cls := "WiredNets$Flow", name := "thin", desc := "(LWiredNets$Net;)I" } : Jvm.MethodName) prog_4_method_5_code (4 : Nat) (Option.some Jvm.ClassFile.FieldType.int)) ∈ lw_all := lw_g (lw_at lw_m4 15 rfl) rfl
theorem q844 : (Jvm.Cond.methodLink "WiredNets$Flow" (43 : Nat) ({ cls := "WiredNets$Flow", name := "most", desc := "(LWiredNets$Net;IIZ)I" } : Jvm.MethodName)) ∈ lw_all := lw_g (lw_at lw_m4 16 rfl) rfl
theorem q845 : (Jvm.Cond.instanceMethod ({ cls := "WiredNets$Flow", name := "most", desc := "(LWiredNets$Net;IIZ)I" } : Jvm.MethodName)) ∈ lw_all := lw_g (lw_at lw_m4 17 rfl) rfl
theorem q846 : (Jvm.Cond.selects "WiredNets$Flow" ({ cls := "WiredNets$Flow", name := "most", desc := "(LWiredNets$Net;IIZ)I" } : Jvm.MethodName) ({ cls := "WiredNets$Flow", name := "most", desc := "(LWiredNets$Net;IIZ)I" } : Jvm.MethodName)) ∈ lw_all := lw_g (lw_at lw_m4 18 rfl) rfl
theorem q847 : (Jvm.Cond.code ({ cls := "WiredNets$Flow", name := "most", desc := "(LWiredNets$Net;IIZ)I" } : Jvm.MethodName) prog_4_method_4_code (7 : Nat) (Option.some Jvm.ClassFile.FieldType.int)) ∈ lw_all := lw_g (lw_at lw_m4 19 rfl) rfl
theorem q848 : (Jvm.Cond.methodLink "WiredNets$Flow" (36 : Nat) ({ cls := "WiredNets$Flow", name := "lay", desc := "(LWiredNets$Net;Z)V" } : Jvm.MethodName)) ∈ lw_all := lw_g (lw_at lw_m4 20 rfl) rfl
theorem q849 : (Jvm.Cond.privateMethod ({ cls := "WiredNets$Flow", name := "lay", desc := "(LWiredNets$Net;Z)V" } : Jvm.MethodName)) ∈ lw_tbl := lw_at lw_m4 21 rfl
theorem q850 : (Jvm.Cond.instanceMethod ({ cls := "WiredNets$Flow", name := "lay", desc := "(LWiredNets$Net;Z)V" } : Jvm.MethodName)) ∈ lw_all := lw_g (lw_at lw_m4 22 rfl) rfl
theorem q851 : (Jvm.Cond.code ({ cls := "WiredNets$Flow", name := "lay", desc := "(LWiredNets$Net;Z)V" } : Jvm.MethodName) prog_4_method_2_code (5 : Nat) (Option.none : Option Jvm.ClassFile.FieldType)) ∈ lw_all := lw_g (lw_at lw_m4 23 rfl) rfl
theorem q852 : (Jvm.Cond.methodLink "WiredNets$Flow" (32 : Nat) ({ cls := "WiredNets$Net", name := "has", desc := "(II)Z" } : Jvm.MethodName)) ∈ lw_all := lw_g (lw_at lw_m4 24 rfl) rfl
theorem q853 : (Jvm.Cond.methodLink "WiredNets$Flow" (40 : Nat) ({ cls := "WiredNets$Flow", name := "finds", desc := "(II)Z" } : Jvm.MethodName)) ∈ lw_all := lw_g (lw_at lw_m4 25 rfl) rfl
theorem q854 : (Jvm.Cond.privateMethod ({ cls := "WiredNets$Flow", name := "finds", desc := "(II)Z" } : Jvm.MethodName)) ∈ lw_tbl := lw_at lw_m4 26 rfl
theorem q855 : (Jvm.Cond.instanceMethod ({ cls := "WiredNets$Flow", name := "finds", desc := "(II)Z" } : Jvm.MethodName)) ∈ lw_all := lw_g (lw_at lw_m4 27 rfl) rfl
theorem q856 : (Jvm.Cond.code ({ cls := "WiredNets$Flow", name := "finds", desc := "(II)Z" } : Jvm.MethodName) prog_4_method_3_code (7 : Nat) (Option.some Jvm.ClassFile.FieldType.boolean)) ∈ lw_all := lw_g (lw_at lw_m4 28 rfl) rfl
theorem q857 : (Jvm.Cond.methodLink "WiredNets$Flow" (47 : Nat) ({ cls := "java/lang/Math", name := "min", desc := "(II)I" } : Jvm.MethodName)) ∈ lw_all := lw_g (lw_at lw_m4 29 rfl) rfl
theorem q859 : (Jvm.Cond.instanceMethod ({ cls := "WiredNets$Flow", name := "thinKnots", desc := "(LWiredNets$Net;)I" } : Jvm.MethodName)) ∈ lw_all := lw_g (lw_at lw_m4 31 rfl) rfl
theorem q860 : (Jvm.Cond.selects "WiredNets$Flow" ({ cls := "WiredNets$Flow", name := "thinKnots", desc := "(LWiredNets$Net;)I" } : Jvm.MethodName) ({ cls := "WiredNets$Flow", name := "thinKnots", desc := "(LWiredNets$Net;)I" } : Jvm.MethodName)) ∈ lw_all := lw_g (lw_at lw_m4 32 rfl) rfl
theorem q861 : (Jvm.Cond.code ({ cls := "WiredNets$Flow", name := "thinKnots", desc := "(LWiredNets$Net;)I" } : Jvm.MethodName) prog_4_method_6_code (5 : Nat) (Option.some Jvm.ClassFile.FieldType.int)) ∈ lw_all := lw_g (lw_at lw_m4 33 rfl) rfl
theorem q1146 : (Jvm.Cond.selects "WiredNets$Flow" ({ cls := "java/lang/Object", name := "getClass", desc := "()Ljava/lang/Class;" } : Jvm.MethodName) ({ cls := "java/lang/Object", name := "getClass", desc := "()Ljava/lang/Class;" } : Jvm.MethodName)) ∈ lw_all := lw_g (lw_at lw_m5 78 rfl) rfl
theorem q2172 : (Jvm.Cond.castable "WiredNets$Flow" "java/lang/Object") ∈ lw_tbl := lw_at lw_m9 144 rfl
theorem in_X3 : ∀ w ∈ wsX30, w ∈ lw_all := lw_in wsX30 [187, 189, 191, 193] (by decide +kernel) (by decide +kernel)

/-! WiredNets$Small -/
set_option maxRecDepth 100000
def RX4 : String := "WiredNets$Small"
def TX4 : u_T := fun k => match k with
  | 0 => ("WiredNets$Small", "first", "[I", true)
  | 1 => ("WiredNets$Small", "second", "[I", true)
  | 2 => ("WiredNets$Small", "is", "[Z", true)
  | 3 => ("WiredNets$Small", "flood", "LWiredNets$Flood;", true)
  | 4 => ("WiredNets$Small", "x", "LWiredNets$Net;", true)
  | 5 => ("WiredNets$Small", "isTold", "Z", false)
  | 6 => ("WiredNets$Small", "pairs", "I", false)
  | 7 => ("WiredNets$Small", "many", "I", false)
  | 8 => ("WiredNets$Small", "kinds", "I", false)
  | 9 => ("WiredNets$Small", "fewest", "I", false)
  | 10 => ("WiredNets$Small", "least", "I", false)
  | 11 => ("WiredNets$Small", "turn", "[I", true)
  | 12 => ("WiredNets$Small", "image", "[I", true)
  | _ => ("WiredNets$Small", "n", "I", false)
def tyX4 : Nat → FieldType := fun k => match k with
  | 0 => .array .int
  | 1 => .array .int
  | 2 => .array .boolean
  | 3 => .object "WiredNets$Flood"
  | 4 => .object "WiredNets$Net"
  | 5 => .boolean
  | 6 => .int
  | 7 => .int
  | 8 => .int
  | 9 => .int
  | 10 => .int
  | 11 => .array .int
  | 12 => .array .int
  | _ => .int
abbrev wsX40 : List Cond := u_ws RX4 TX4 14
set_option maxRecDepth 100000 in
theorem nmX4 : ∀ a, a < 14 → ∀ b, b < 14 → a ≠ b → (TX4 a).2.1 ≠ (TX4 b).2.1 := by decide +kernel
set_option maxRecDepth 100000 in
theorem tyX4_ok : ∀ k, k < 14 → parseFieldDescriptor (TX4 k).2.2.1 = some (tyX4 k) := by decide +kernel
abbrev cX4_init : ByteArray := prog_11_method_1_code
def yX4_init : MethodName := ⟨RX4, "<init>", "()V"⟩
def dkwX4_init_3 : List UInt8 := [181, 0, 46, 42, 16, 15, 188, 10, 181, 0, 49, 177]
abbrev dktX4_init_3 : List UInt8 := dkwX4_init_3 ++ []
def dkwX4_init_2 : List UInt8 := [16, 8, 183, 0, 32, 181, 0, 35, 42, 2, 181, 0, 39, 42, 2, 181, 0, 43, 42, 16, 6, 188, 10]
abbrev dktX4_init_2 : List UInt8 := dkwX4_init_2 ++ dktX4_init_3
def dkwX4_init_1 : List UInt8 := [188, 4, 181, 0, 19, 42, 187, 0, 23, 89, 183, 0, 25, 181, 0, 26, 42, 187, 0, 30, 89, 16, 6]
abbrev dktX4_init_1 : List UInt8 := dkwX4_init_1 ++ dktX4_init_2
def dkwX4_init_0 : List UInt8 := [42, 183, 0, 3, 42, 16, 15, 188, 10, 181, 0, 9, 42, 16, 15, 188, 10, 181, 0, 15, 42, 18, 18]
abbrev dktX4_init_0 : List UInt8 := dkwX4_init_0 ++ dktX4_init_1
theorem dksX4_init_0 : cX4_init.data.toList.drop 0 = dktX4_init_0 := by decide +kernel
theorem dksX4_init_1 : cX4_init.data.toList.drop 23 = dktX4_init_1 := dk_seg dksX4_init_0 23 rfl rfl
theorem dksX4_init_2 : cX4_init.data.toList.drop 46 = dktX4_init_2 := dk_seg dksX4_init_1 23 rfl rfl
theorem dksX4_init_3 : cX4_init.data.toList.drop 69 = dktX4_init_3 := dk_seg dksX4_init_2 23 rfl rfl
theorem dX4_init_0 : decode cX4_init 0 = .ok (.aload_n 0, 1) := dk_42 (dk_at dksX4_init_0 0 rfl rfl)
theorem dX4_init_1 : decode cX4_init 1 = .ok (.invokespecial 3, 3) := dk_183 0 3 (dk_at dksX4_init_0 1 rfl rfl)
theorem dX4_init_4 : decode cX4_init 4 = .ok (.aload_n 0, 1) := dk_42 (dk_at dksX4_init_0 4 rfl rfl)
theorem dX4_init_5 : decode cX4_init 5 = .ok (.bipush 15, 2) := dk_16 15 (dk_at dksX4_init_0 5 rfl rfl)
theorem dX4_init_7 : decode cX4_init 7 = .ok (.newarray .int, 2) := dk_188_10 (dk_at dksX4_init_0 7 rfl rfl)
theorem dX4_init_9 : decode cX4_init 9 = .ok (.putfield 9, 3) := dk_181 0 9 (dk_at dksX4_init_0 9 rfl rfl)
theorem dX4_init_12 : decode cX4_init 12 = .ok (.aload_n 0, 1) := dk_42 (dk_at dksX4_init_0 12 rfl rfl)
theorem dX4_init_13 : decode cX4_init 13 = .ok (.bipush 15, 2) := dk_16 15 (dk_at dksX4_init_0 13 rfl rfl)
theorem dX4_init_15 : decode cX4_init 15 = .ok (.newarray .int, 2) := dk_188_10 (dk_at dksX4_init_0 15 rfl rfl)
theorem dX4_init_17 : decode cX4_init 17 = .ok (.putfield 15, 3) := dk_181 0 15 (dk_at dksX4_init_0 17 rfl rfl)
theorem dX4_init_20 : decode cX4_init 20 = .ok (.aload_n 0, 1) := dk_42 (dk_at dksX4_init_0 20 rfl rfl)
theorem dX4_init_21 : decode cX4_init 21 = .ok (.ldc 18, 2) := dk_18 18 (dk_at dksX4_init_0 21 rfl rfl)
theorem dX4_init_23 : decode cX4_init 23 = .ok (.newarray .boolean, 2) := dk_188_4 (dk_at dksX4_init_1 0 rfl rfl)
theorem dX4_init_25 : decode cX4_init 25 = .ok (.putfield 19, 3) := dk_181 0 19 (dk_at dksX4_init_1 2 rfl rfl)
theorem dX4_init_28 : decode cX4_init 28 = .ok (.aload_n 0, 1) := dk_42 (dk_at dksX4_init_1 5 rfl rfl)
theorem dX4_init_29 : decode cX4_init 29 = .ok (.new 23, 3) := dk_187 0 23 (dk_at dksX4_init_1 6 rfl rfl)
theorem dX4_init_32 : decode cX4_init 32 = .ok (.dup, 1) := dk_89 (dk_at dksX4_init_1 9 rfl rfl)
theorem dX4_init_33 : decode cX4_init 33 = .ok (.invokespecial 25, 3) := dk_183 0 25 (dk_at dksX4_init_1 10 rfl rfl)
theorem dX4_init_36 : decode cX4_init 36 = .ok (.putfield 26, 3) := dk_181 0 26 (dk_at dksX4_init_1 13 rfl rfl)
theorem dX4_init_39 : decode cX4_init 39 = .ok (.aload_n 0, 1) := dk_42 (dk_at dksX4_init_1 16 rfl rfl)
theorem dX4_init_40 : decode cX4_init 40 = .ok (.new 30, 3) := dk_187 0 30 (dk_at dksX4_init_1 17 rfl rfl)
theorem dX4_init_43 : decode cX4_init 43 = .ok (.dup, 1) := dk_89 (dk_at dksX4_init_1 20 rfl rfl)
theorem dX4_init_44 : decode cX4_init 44 = .ok (.bipush 6, 2) := dk_16 6 (dk_at dksX4_init_1 21 rfl rfl)
theorem dX4_init_46 : decode cX4_init 46 = .ok (.bipush 8, 2) := dk_16 8 (dk_at dksX4_init_2 0 rfl rfl)
theorem dX4_init_48 : decode cX4_init 48 = .ok (.invokespecial 32, 3) := dk_183 0 32 (dk_at dksX4_init_2 2 rfl rfl)
theorem dX4_init_51 : decode cX4_init 51 = .ok (.putfield 35, 3) := dk_181 0 35 (dk_at dksX4_init_2 5 rfl rfl)
theorem dX4_init_54 : decode cX4_init 54 = .ok (.aload_n 0, 1) := dk_42 (dk_at dksX4_init_2 8 rfl rfl)
theorem dX4_init_55 : decode cX4_init 55 = .ok (.iconst (-1), 1) := dk_2 (dk_at dksX4_init_2 9 rfl rfl)
theorem dX4_init_56 : decode cX4_init 56 = .ok (.putfield 39, 3) := dk_181 0 39 (dk_at dksX4_init_2 10 rfl rfl)
theorem dX4_init_59 : decode cX4_init 59 = .ok (.aload_n 0, 1) := dk_42 (dk_at dksX4_init_2 13 rfl rfl)
theorem dX4_init_60 : decode cX4_init 60 = .ok (.iconst (-1), 1) := dk_2 (dk_at dksX4_init_2 14 rfl rfl)
theorem dX4_init_61 : decode cX4_init 61 = .ok (.putfield 43, 3) := dk_181 0 43 (dk_at dksX4_init_2 15 rfl rfl)
theorem dX4_init_64 : decode cX4_init 64 = .ok (.aload_n 0, 1) := dk_42 (dk_at dksX4_init_2 18 rfl rfl)
theorem dX4_init_65 : decode cX4_init 65 = .ok (.bipush 6, 2) := dk_16 6 (dk_at dksX4_init_2 19 rfl rfl)
theorem dX4_init_67 : decode cX4_init 67 = .ok (.newarray .int, 2) := dk_188_10 (dk_at dksX4_init_2 21 rfl rfl)
theorem dX4_init_69 : decode cX4_init 69 = .ok (.putfield 46, 3) := dk_181 0 46 (dk_at dksX4_init_3 0 rfl rfl)
theorem dX4_init_72 : decode cX4_init 72 = .ok (.aload_n 0, 1) := dk_42 (dk_at dksX4_init_3 3 rfl rfl)
theorem dX4_init_73 : decode cX4_init 73 = .ok (.bipush 15, 2) := dk_16 15 (dk_at dksX4_init_3 4 rfl rfl)
theorem dX4_init_75 : decode cX4_init 75 = .ok (.newarray .int, 2) := dk_188_10 (dk_at dksX4_init_3 6 rfl rfl)
theorem dX4_init_77 : decode cX4_init 77 = .ok (.putfield 49, 3) := dk_181 0 49 (dk_at dksX4_init_3 8 rfl rfl)
theorem dX4_init_80 : decode cX4_init 80 = .ok (.return_, 1) := dk_177 (dk_at dksX4_init_3 11 rfl rfl)
abbrev cX4_run : ByteArray := prog_11_method_3_code
def yX4_run : MethodName := ⟨RX4, "run", "(III)I"⟩
def dkwX4_run_11 : List UInt8 := [181, 0, 102, 42, 180, 0, 83, 172]
abbrev dktX4_run_11 : List UInt8 := dkwX4_run_11 ++ []
def dkwX4_run_10 : List UInt8 := [180, 0, 86, 4, 96, 181, 0, 86, 42, 21, 4, 3, 3, 182, 0, 98, 132, 4, 1, 167, 255, 211, 42, 4]
abbrev dktX4_run_10 : List UInt8 := dkwX4_run_10 ++ dktX4_run_11
def dkwX4_run_9 : List UInt8 := [180, 0, 58, 120, 162, 0, 40, 42, 180, 0, 19, 21, 4, 51, 154, 0, 6, 167, 0, 21, 42, 89]
abbrev dktX4_run_9 : List UInt8 := dkwX4_run_9 ++ dktX4_run_10
def dkwX4_run_8 : List UInt8 := [181, 0, 39, 42, 21, 4, 181, 0, 43, 132, 4, 1, 167, 255, 171, 3, 54, 4, 21, 4, 4, 42]
abbrev dktX4_run_8 : List UInt8 := dkwX4_run_8 ++ dktX4_run_9
def dkwX4_run_7 : List UInt8 := [42, 180, 0, 39, 2, 159, 0, 15, 21, 5, 42, 180, 0, 39, 161, 0, 6, 167, 0, 15, 42, 21, 5]
abbrev dktX4_run_7 : List UInt8 := dkwX4_run_7 ++ dktX4_run_8
def dkwX4_run_6 : List UInt8 := [180, 0, 19, 21, 4, 4, 84, 42, 89, 180, 0, 83, 4, 96, 181, 0, 83, 21, 4, 184, 0, 93, 54, 5]
abbrev dktX4_run_6 : List UInt8 := dkwX4_run_6 ++ dktX4_run_7
def dkwX4_run_5 : List UInt8 := [180, 0, 58, 120, 162, 0, 80, 42, 21, 4, 28, 29, 182, 0, 89, 154, 0, 6, 167, 0, 60, 42]
abbrev dktX4_run_5 : List UInt8 := dkwX4_run_5 ++ dktX4_run_6
def dkwX4_run_4 : List UInt8 := [181, 0, 58, 132, 5, 1, 167, 255, 212, 132, 4, 1, 167, 255, 191, 3, 54, 4, 21, 4, 4, 42]
abbrev dktX4_run_4 : List UInt8 := dkwX4_run_4 ++ dktX4_run_5
def dkwX4_run_3 : List UInt8 := [180, 0, 58, 21, 4, 79, 42, 180, 0, 15, 42, 180, 0, 58, 21, 5, 79, 42, 89, 180, 0, 58, 4, 96]
abbrev dktX4_run_3 : List UInt8 := dkwX4_run_3 ++ dktX4_run_4
def dkwX4_run_2 : List UInt8 := [162, 0, 62, 21, 4, 4, 96, 54, 5, 21, 5, 42, 180, 0, 52, 162, 0, 41, 42, 180, 0, 9, 42]
abbrev dktX4_run_2 : List UInt8 := dkwX4_run_2 ++ dktX4_run_3
def dkwX4_run_1 : List UInt8 := [3, 181, 0, 86, 42, 2, 181, 0, 39, 42, 2, 181, 0, 43, 3, 54, 4, 21, 4, 42, 180, 0, 52]
abbrev dktX4_run_1 : List UInt8 := dkwX4_run_1 ++ dktX4_run_2
def dkwX4_run_0 : List UInt8 := [42, 27, 181, 0, 52, 42, 180, 0, 35, 27, 181, 0, 82, 42, 3, 181, 0, 58, 42, 3, 181, 0, 83, 42]
abbrev dktX4_run_0 : List UInt8 := dkwX4_run_0 ++ dktX4_run_1
theorem dksX4_run_0 : cX4_run.data.toList.drop 0 = dktX4_run_0 := by decide +kernel
theorem dksX4_run_1 : cX4_run.data.toList.drop 24 = dktX4_run_1 := dk_seg dksX4_run_0 24 rfl rfl
theorem dksX4_run_2 : cX4_run.data.toList.drop 47 = dktX4_run_2 := dk_seg dksX4_run_1 23 rfl rfl
theorem dksX4_run_3 : cX4_run.data.toList.drop 70 = dktX4_run_3 := dk_seg dksX4_run_2 23 rfl rfl
theorem dksX4_run_4 : cX4_run.data.toList.drop 94 = dktX4_run_4 := dk_seg dksX4_run_3 24 rfl rfl
theorem dksX4_run_5 : cX4_run.data.toList.drop 116 = dktX4_run_5 := dk_seg dksX4_run_4 22 rfl rfl
theorem dksX4_run_6 : cX4_run.data.toList.drop 138 = dktX4_run_6 := dk_seg dksX4_run_5 22 rfl rfl
theorem dksX4_run_7 : cX4_run.data.toList.drop 162 = dktX4_run_7 := dk_seg dksX4_run_6 24 rfl rfl
theorem dksX4_run_8 : cX4_run.data.toList.drop 185 = dktX4_run_8 := dk_seg dksX4_run_7 23 rfl rfl
theorem dksX4_run_9 : cX4_run.data.toList.drop 207 = dktX4_run_9 := dk_seg dksX4_run_8 22 rfl rfl
theorem dksX4_run_10 : cX4_run.data.toList.drop 229 = dktX4_run_10 := dk_seg dksX4_run_9 22 rfl rfl
theorem dksX4_run_11 : cX4_run.data.toList.drop 253 = dktX4_run_11 := dk_seg dksX4_run_10 24 rfl rfl
theorem dX4_run_0 : decode cX4_run 0 = .ok (.aload_n 0, 1) := dk_42 (dk_at dksX4_run_0 0 rfl rfl)
theorem dX4_run_1 : decode cX4_run 1 = .ok (.iload_n 1, 1) := dk_27 (dk_at dksX4_run_0 1 rfl rfl)
theorem dX4_run_2 : decode cX4_run 2 = .ok (.putfield 52, 3) := dk_181 0 52 (dk_at dksX4_run_0 2 rfl rfl)
theorem dX4_run_5 : decode cX4_run 5 = .ok (.aload_n 0, 1) := dk_42 (dk_at dksX4_run_0 5 rfl rfl)
theorem dX4_run_6 : decode cX4_run 6 = .ok (.getfield 35, 3) := dk_180 0 35 (dk_at dksX4_run_0 6 rfl rfl)
theorem dX4_run_9 : decode cX4_run 9 = .ok (.iload_n 1, 1) := dk_27 (dk_at dksX4_run_0 9 rfl rfl)
theorem dX4_run_10 : decode cX4_run 10 = .ok (.putfield 82, 3) := dk_181 0 82 (dk_at dksX4_run_0 10 rfl rfl)
theorem dX4_run_13 : decode cX4_run 13 = .ok (.aload_n 0, 1) := dk_42 (dk_at dksX4_run_0 13 rfl rfl)
theorem dX4_run_14 : decode cX4_run 14 = .ok (.iconst 0, 1) := dk_3 (dk_at dksX4_run_0 14 rfl rfl)
theorem dX4_run_15 : decode cX4_run 15 = .ok (.putfield 58, 3) := dk_181 0 58 (dk_at dksX4_run_0 15 rfl rfl)
theorem dX4_run_18 : decode cX4_run 18 = .ok (.aload_n 0, 1) := dk_42 (dk_at dksX4_run_0 18 rfl rfl)
theorem dX4_run_19 : decode cX4_run 19 = .ok (.iconst 0, 1) := dk_3 (dk_at dksX4_run_0 19 rfl rfl)
theorem dX4_run_20 : decode cX4_run 20 = .ok (.putfield 83, 3) := dk_181 0 83 (dk_at dksX4_run_0 20 rfl rfl)
theorem dX4_run_23 : decode cX4_run 23 = .ok (.aload_n 0, 1) := dk_42 (dk_at dksX4_run_0 23 rfl rfl)
theorem dX4_run_24 : decode cX4_run 24 = .ok (.iconst 0, 1) := dk_3 (dk_at dksX4_run_1 0 rfl rfl)
theorem dX4_run_25 : decode cX4_run 25 = .ok (.putfield 86, 3) := dk_181 0 86 (dk_at dksX4_run_1 1 rfl rfl)
theorem dX4_run_28 : decode cX4_run 28 = .ok (.aload_n 0, 1) := dk_42 (dk_at dksX4_run_1 4 rfl rfl)
theorem dX4_run_29 : decode cX4_run 29 = .ok (.iconst (-1), 1) := dk_2 (dk_at dksX4_run_1 5 rfl rfl)
theorem dX4_run_30 : decode cX4_run 30 = .ok (.putfield 39, 3) := dk_181 0 39 (dk_at dksX4_run_1 6 rfl rfl)
theorem dX4_run_33 : decode cX4_run 33 = .ok (.aload_n 0, 1) := dk_42 (dk_at dksX4_run_1 9 rfl rfl)
theorem dX4_run_34 : decode cX4_run 34 = .ok (.iconst (-1), 1) := dk_2 (dk_at dksX4_run_1 10 rfl rfl)
theorem dX4_run_35 : decode cX4_run 35 = .ok (.putfield 43, 3) := dk_181 0 43 (dk_at dksX4_run_1 11 rfl rfl)
theorem dX4_run_38 : decode cX4_run 38 = .ok (.iconst 0, 1) := dk_3 (dk_at dksX4_run_1 14 rfl rfl)
theorem dX4_run_39 : decode cX4_run 39 = .ok (.istore 4, 2) := dk_54 4 (dk_at dksX4_run_1 15 rfl rfl)
theorem dX4_run_41 : decode cX4_run 41 = .ok (.iload 4, 2) := dk_21 4 (dk_at dksX4_run_1 17 rfl rfl)
theorem dX4_run_43 : decode cX4_run 43 = .ok (.aload_n 0, 1) := dk_42 (dk_at dksX4_run_1 19 rfl rfl)
theorem dX4_run_44 : decode cX4_run 44 = .ok (.getfield 52, 3) := dk_180 0 52 (dk_at dksX4_run_1 20 rfl rfl)
theorem dX4_run_47 : decode cX4_run 47 = .ok (.if_icmp .ge 62, 3) := dk_162 0 62 (dk_at dksX4_run_2 0 rfl rfl)
theorem dX4_run_50 : decode cX4_run 50 = .ok (.iload 4, 2) := dk_21 4 (dk_at dksX4_run_2 3 rfl rfl)
theorem dX4_run_52 : decode cX4_run 52 = .ok (.iconst 1, 1) := dk_4 (dk_at dksX4_run_2 5 rfl rfl)
theorem dX4_run_53 : decode cX4_run 53 = .ok (.iadd, 1) := dk_96 (dk_at dksX4_run_2 6 rfl rfl)
theorem dX4_run_54 : decode cX4_run 54 = .ok (.istore 5, 2) := dk_54 5 (dk_at dksX4_run_2 7 rfl rfl)
theorem dX4_run_56 : decode cX4_run 56 = .ok (.iload 5, 2) := dk_21 5 (dk_at dksX4_run_2 9 rfl rfl)
theorem dX4_run_58 : decode cX4_run 58 = .ok (.aload_n 0, 1) := dk_42 (dk_at dksX4_run_2 11 rfl rfl)
theorem dX4_run_59 : decode cX4_run 59 = .ok (.getfield 52, 3) := dk_180 0 52 (dk_at dksX4_run_2 12 rfl rfl)
theorem dX4_run_62 : decode cX4_run 62 = .ok (.if_icmp .ge 41, 3) := dk_162 0 41 (dk_at dksX4_run_2 15 rfl rfl)
theorem dX4_run_65 : decode cX4_run 65 = .ok (.aload_n 0, 1) := dk_42 (dk_at dksX4_run_2 18 rfl rfl)
theorem dX4_run_66 : decode cX4_run 66 = .ok (.getfield 9, 3) := dk_180 0 9 (dk_at dksX4_run_2 19 rfl rfl)
theorem dX4_run_69 : decode cX4_run 69 = .ok (.aload_n 0, 1) := dk_42 (dk_at dksX4_run_2 22 rfl rfl)
theorem dX4_run_70 : decode cX4_run 70 = .ok (.getfield 58, 3) := dk_180 0 58 (dk_at dksX4_run_3 0 rfl rfl)
theorem dX4_run_73 : decode cX4_run 73 = .ok (.iload 4, 2) := dk_21 4 (dk_at dksX4_run_3 3 rfl rfl)
theorem dX4_run_75 : decode cX4_run 75 = .ok (.iastore, 1) := dk_79 (dk_at dksX4_run_3 5 rfl rfl)
theorem dX4_run_76 : decode cX4_run 76 = .ok (.aload_n 0, 1) := dk_42 (dk_at dksX4_run_3 6 rfl rfl)
theorem dX4_run_77 : decode cX4_run 77 = .ok (.getfield 15, 3) := dk_180 0 15 (dk_at dksX4_run_3 7 rfl rfl)
theorem dX4_run_80 : decode cX4_run 80 = .ok (.aload_n 0, 1) := dk_42 (dk_at dksX4_run_3 10 rfl rfl)
theorem dX4_run_81 : decode cX4_run 81 = .ok (.getfield 58, 3) := dk_180 0 58 (dk_at dksX4_run_3 11 rfl rfl)
theorem dX4_run_84 : decode cX4_run 84 = .ok (.iload 5, 2) := dk_21 5 (dk_at dksX4_run_3 14 rfl rfl)
theorem dX4_run_86 : decode cX4_run 86 = .ok (.iastore, 1) := dk_79 (dk_at dksX4_run_3 16 rfl rfl)
theorem dX4_run_87 : decode cX4_run 87 = .ok (.aload_n 0, 1) := dk_42 (dk_at dksX4_run_3 17 rfl rfl)
theorem dX4_run_88 : decode cX4_run 88 = .ok (.dup, 1) := dk_89 (dk_at dksX4_run_3 18 rfl rfl)
theorem dX4_run_89 : decode cX4_run 89 = .ok (.getfield 58, 3) := dk_180 0 58 (dk_at dksX4_run_3 19 rfl rfl)
theorem dX4_run_92 : decode cX4_run 92 = .ok (.iconst 1, 1) := dk_4 (dk_at dksX4_run_3 22 rfl rfl)
theorem dX4_run_93 : decode cX4_run 93 = .ok (.iadd, 1) := dk_96 (dk_at dksX4_run_3 23 rfl rfl)
theorem dX4_run_94 : decode cX4_run 94 = .ok (.putfield 58, 3) := dk_181 0 58 (dk_at dksX4_run_4 0 rfl rfl)
theorem dX4_run_97 : decode cX4_run 97 = .ok (.iinc 5 1, 3) := dk_132 5 1 (dk_at dksX4_run_4 3 rfl rfl)
theorem dX4_run_100 : decode cX4_run 100 = .ok (.goto (-44), 3) := dk_167 255 212 (dk_at dksX4_run_4 6 rfl rfl)
theorem dX4_run_103 : decode cX4_run 103 = .ok (.iinc 4 1, 3) := dk_132 4 1 (dk_at dksX4_run_4 9 rfl rfl)
theorem dX4_run_106 : decode cX4_run 106 = .ok (.goto (-65), 3) := dk_167 255 191 (dk_at dksX4_run_4 12 rfl rfl)
theorem dX4_run_109 : decode cX4_run 109 = .ok (.iconst 0, 1) := dk_3 (dk_at dksX4_run_4 15 rfl rfl)
theorem dX4_run_110 : decode cX4_run 110 = .ok (.istore 4, 2) := dk_54 4 (dk_at dksX4_run_4 16 rfl rfl)
theorem dX4_run_112 : decode cX4_run 112 = .ok (.iload 4, 2) := dk_21 4 (dk_at dksX4_run_4 18 rfl rfl)
theorem dX4_run_114 : decode cX4_run 114 = .ok (.iconst 1, 1) := dk_4 (dk_at dksX4_run_4 20 rfl rfl)
theorem dX4_run_115 : decode cX4_run 115 = .ok (.aload_n 0, 1) := dk_42 (dk_at dksX4_run_4 21 rfl rfl)
theorem dX4_run_116 : decode cX4_run 116 = .ok (.getfield 58, 3) := dk_180 0 58 (dk_at dksX4_run_5 0 rfl rfl)
theorem dX4_run_119 : decode cX4_run 119 = .ok (.ishl, 1) := dk_120 (dk_at dksX4_run_5 3 rfl rfl)
theorem dX4_run_120 : decode cX4_run 120 = .ok (.if_icmp .ge 80, 3) := dk_162 0 80 (dk_at dksX4_run_5 4 rfl rfl)
theorem dX4_run_123 : decode cX4_run 123 = .ok (.aload_n 0, 1) := dk_42 (dk_at dksX4_run_5 7 rfl rfl)
theorem dX4_run_124 : decode cX4_run 124 = .ok (.iload 4, 2) := dk_21 4 (dk_at dksX4_run_5 8 rfl rfl)
theorem dX4_run_126 : decode cX4_run 126 = .ok (.iload_n 2, 1) := dk_28 (dk_at dksX4_run_5 10 rfl rfl)
theorem dX4_run_127 : decode cX4_run 127 = .ok (.iload_n 3, 1) := dk_29 (dk_at dksX4_run_5 11 rfl rfl)
theorem dX4_run_128 : decode cX4_run 128 = .ok (.invokevirtual 89, 3) := dk_182 0 89 (dk_at dksX4_run_5 12 rfl rfl)
theorem dX4_run_131 : decode cX4_run 131 = .ok (.ifCond .ne 6, 3) := dk_154 0 6 (dk_at dksX4_run_5 15 rfl rfl)
theorem dX4_run_134 : decode cX4_run 134 = .ok (.goto 60, 3) := dk_167 0 60 (dk_at dksX4_run_5 18 rfl rfl)
theorem dX4_run_137 : decode cX4_run 137 = .ok (.aload_n 0, 1) := dk_42 (dk_at dksX4_run_5 21 rfl rfl)
theorem dX4_run_138 : decode cX4_run 138 = .ok (.getfield 19, 3) := dk_180 0 19 (dk_at dksX4_run_6 0 rfl rfl)
theorem dX4_run_141 : decode cX4_run 141 = .ok (.iload 4, 2) := dk_21 4 (dk_at dksX4_run_6 3 rfl rfl)
theorem dX4_run_143 : decode cX4_run 143 = .ok (.iconst 1, 1) := dk_4 (dk_at dksX4_run_6 5 rfl rfl)
theorem dX4_run_144 : decode cX4_run 144 = .ok (.bastore, 1) := dk_84 (dk_at dksX4_run_6 6 rfl rfl)
theorem dX4_run_145 : decode cX4_run 145 = .ok (.aload_n 0, 1) := dk_42 (dk_at dksX4_run_6 7 rfl rfl)
theorem dX4_run_146 : decode cX4_run 146 = .ok (.dup, 1) := dk_89 (dk_at dksX4_run_6 8 rfl rfl)
theorem dX4_run_147 : decode cX4_run 147 = .ok (.getfield 83, 3) := dk_180 0 83 (dk_at dksX4_run_6 9 rfl rfl)
theorem dX4_run_150 : decode cX4_run 150 = .ok (.iconst 1, 1) := dk_4 (dk_at dksX4_run_6 12 rfl rfl)
theorem dX4_run_151 : decode cX4_run 151 = .ok (.iadd, 1) := dk_96 (dk_at dksX4_run_6 13 rfl rfl)
theorem dX4_run_152 : decode cX4_run 152 = .ok (.putfield 83, 3) := dk_181 0 83 (dk_at dksX4_run_6 14 rfl rfl)
theorem dX4_run_155 : decode cX4_run 155 = .ok (.iload 4, 2) := dk_21 4 (dk_at dksX4_run_6 17 rfl rfl)
theorem dX4_run_157 : decode cX4_run 157 = .ok (.invokestatic 93, 3) := dk_184 0 93 (dk_at dksX4_run_6 19 rfl rfl)
theorem dX4_run_160 : decode cX4_run 160 = .ok (.istore 5, 2) := dk_54 5 (dk_at dksX4_run_6 22 rfl rfl)
theorem dX4_run_162 : decode cX4_run 162 = .ok (.aload_n 0, 1) := dk_42 (dk_at dksX4_run_7 0 rfl rfl)
theorem dX4_run_163 : decode cX4_run 163 = .ok (.getfield 39, 3) := dk_180 0 39 (dk_at dksX4_run_7 1 rfl rfl)
theorem dX4_run_166 : decode cX4_run 166 = .ok (.iconst (-1), 1) := dk_2 (dk_at dksX4_run_7 4 rfl rfl)
theorem dX4_run_167 : decode cX4_run 167 = .ok (.if_icmp .eq 15, 3) := dk_159 0 15 (dk_at dksX4_run_7 5 rfl rfl)
theorem dX4_run_170 : decode cX4_run 170 = .ok (.iload 5, 2) := dk_21 5 (dk_at dksX4_run_7 8 rfl rfl)
theorem dX4_run_172 : decode cX4_run 172 = .ok (.aload_n 0, 1) := dk_42 (dk_at dksX4_run_7 10 rfl rfl)
theorem dX4_run_173 : decode cX4_run 173 = .ok (.getfield 39, 3) := dk_180 0 39 (dk_at dksX4_run_7 11 rfl rfl)
theorem dX4_run_176 : decode cX4_run 176 = .ok (.if_icmp .lt 6, 3) := dk_161 0 6 (dk_at dksX4_run_7 14 rfl rfl)
theorem dX4_run_179 : decode cX4_run 179 = .ok (.goto 15, 3) := dk_167 0 15 (dk_at dksX4_run_7 17 rfl rfl)
theorem dX4_run_182 : decode cX4_run 182 = .ok (.aload_n 0, 1) := dk_42 (dk_at dksX4_run_7 20 rfl rfl)
theorem dX4_run_183 : decode cX4_run 183 = .ok (.iload 5, 2) := dk_21 5 (dk_at dksX4_run_7 21 rfl rfl)
theorem dX4_run_185 : decode cX4_run 185 = .ok (.putfield 39, 3) := dk_181 0 39 (dk_at dksX4_run_8 0 rfl rfl)
theorem dX4_run_188 : decode cX4_run 188 = .ok (.aload_n 0, 1) := dk_42 (dk_at dksX4_run_8 3 rfl rfl)
theorem dX4_run_189 : decode cX4_run 189 = .ok (.iload 4, 2) := dk_21 4 (dk_at dksX4_run_8 4 rfl rfl)
theorem dX4_run_191 : decode cX4_run 191 = .ok (.putfield 43, 3) := dk_181 0 43 (dk_at dksX4_run_8 6 rfl rfl)
theorem dX4_run_194 : decode cX4_run 194 = .ok (.iinc 4 1, 3) := dk_132 4 1 (dk_at dksX4_run_8 9 rfl rfl)
theorem dX4_run_197 : decode cX4_run 197 = .ok (.goto (-85), 3) := dk_167 255 171 (dk_at dksX4_run_8 12 rfl rfl)
theorem dX4_run_200 : decode cX4_run 200 = .ok (.iconst 0, 1) := dk_3 (dk_at dksX4_run_8 15 rfl rfl)
theorem dX4_run_201 : decode cX4_run 201 = .ok (.istore 4, 2) := dk_54 4 (dk_at dksX4_run_8 16 rfl rfl)
theorem dX4_run_203 : decode cX4_run 203 = .ok (.iload 4, 2) := dk_21 4 (dk_at dksX4_run_8 18 rfl rfl)
theorem dX4_run_205 : decode cX4_run 205 = .ok (.iconst 1, 1) := dk_4 (dk_at dksX4_run_8 20 rfl rfl)
theorem dX4_run_206 : decode cX4_run 206 = .ok (.aload_n 0, 1) := dk_42 (dk_at dksX4_run_8 21 rfl rfl)
theorem dX4_run_207 : decode cX4_run 207 = .ok (.getfield 58, 3) := dk_180 0 58 (dk_at dksX4_run_9 0 rfl rfl)
theorem dX4_run_210 : decode cX4_run 210 = .ok (.ishl, 1) := dk_120 (dk_at dksX4_run_9 3 rfl rfl)
theorem dX4_run_211 : decode cX4_run 211 = .ok (.if_icmp .ge 40, 3) := dk_162 0 40 (dk_at dksX4_run_9 4 rfl rfl)
theorem dX4_run_214 : decode cX4_run 214 = .ok (.aload_n 0, 1) := dk_42 (dk_at dksX4_run_9 7 rfl rfl)
theorem dX4_run_215 : decode cX4_run 215 = .ok (.getfield 19, 3) := dk_180 0 19 (dk_at dksX4_run_9 8 rfl rfl)
theorem dX4_run_218 : decode cX4_run 218 = .ok (.iload 4, 2) := dk_21 4 (dk_at dksX4_run_9 11 rfl rfl)
theorem dX4_run_220 : decode cX4_run 220 = .ok (.baload, 1) := dk_51 (dk_at dksX4_run_9 13 rfl rfl)
theorem dX4_run_221 : decode cX4_run 221 = .ok (.ifCond .ne 6, 3) := dk_154 0 6 (dk_at dksX4_run_9 14 rfl rfl)
theorem dX4_run_224 : decode cX4_run 224 = .ok (.goto 21, 3) := dk_167 0 21 (dk_at dksX4_run_9 17 rfl rfl)
theorem dX4_run_227 : decode cX4_run 227 = .ok (.aload_n 0, 1) := dk_42 (dk_at dksX4_run_9 20 rfl rfl)
theorem dX4_run_228 : decode cX4_run 228 = .ok (.dup, 1) := dk_89 (dk_at dksX4_run_9 21 rfl rfl)
theorem dX4_run_229 : decode cX4_run 229 = .ok (.getfield 86, 3) := dk_180 0 86 (dk_at dksX4_run_10 0 rfl rfl)
theorem dX4_run_232 : decode cX4_run 232 = .ok (.iconst 1, 1) := dk_4 (dk_at dksX4_run_10 3 rfl rfl)
theorem dX4_run_233 : decode cX4_run 233 = .ok (.iadd, 1) := dk_96 (dk_at dksX4_run_10 4 rfl rfl)
theorem dX4_run_234 : decode cX4_run 234 = .ok (.putfield 86, 3) := dk_181 0 86 (dk_at dksX4_run_10 5 rfl rfl)
theorem dX4_run_237 : decode cX4_run 237 = .ok (.aload_n 0, 1) := dk_42 (dk_at dksX4_run_10 8 rfl rfl)
theorem dX4_run_238 : decode cX4_run 238 = .ok (.iload 4, 2) := dk_21 4 (dk_at dksX4_run_10 9 rfl rfl)
theorem dX4_run_240 : decode cX4_run 240 = .ok (.iconst 0, 1) := dk_3 (dk_at dksX4_run_10 11 rfl rfl)
theorem dX4_run_241 : decode cX4_run 241 = .ok (.iconst 0, 1) := dk_3 (dk_at dksX4_run_10 12 rfl rfl)
theorem dX4_run_242 : decode cX4_run 242 = .ok (.invokevirtual 98, 3) := dk_182 0 98 (dk_at dksX4_run_10 13 rfl rfl)
theorem dX4_run_245 : decode cX4_run 245 = .ok (.iinc 4 1, 3) := dk_132 4 1 (dk_at dksX4_run_10 16 rfl rfl)
theorem dX4_run_248 : decode cX4_run 248 = .ok (.goto (-45), 3) := dk_167 255 211 (dk_at dksX4_run_10 19 rfl rfl)
theorem dX4_run_251 : decode cX4_run 251 = .ok (.aload_n 0, 1) := dk_42 (dk_at dksX4_run_10 22 rfl rfl)
theorem dX4_run_252 : decode cX4_run 252 = .ok (.iconst 1, 1) := dk_4 (dk_at dksX4_run_10 23 rfl rfl)
theorem dX4_run_253 : decode cX4_run 253 = .ok (.putfield 102, 3) := dk_181 0 102 (dk_at dksX4_run_11 0 rfl rfl)
theorem dX4_run_256 : decode cX4_run 256 = .ok (.aload_n 0, 1) := dk_42 (dk_at dksX4_run_11 3 rfl rfl)
theorem dX4_run_257 : decode cX4_run 257 = .ok (.getfield 83, 3) := dk_180 0 83 (dk_at dksX4_run_11 4 rfl rfl)
theorem dX4_run_260 : decode cX4_run 260 = .ok (.ireturn, 1) := dk_172 (dk_at dksX4_run_11 7 rfl rfl)
abbrev cX4_fits : ByteArray := prog_11_method_2_code
def yX4_fits : MethodName := ⟨RX4, "fits", "(III)Z"⟩
def dkwX4_fits_6 : List UInt8 := [167, 0, 4, 3, 172]
abbrev dktX4_fits_6 : List UInt8 := dkwX4_fits_6 ++ []
def dkwX4_fits_5 : List UInt8 := [42, 180, 0, 35, 42, 180, 0, 35, 182, 0, 68, 182, 0, 72, 29, 16, 99, 184, 0, 76, 163, 0, 7, 4]
abbrev dktX4_fits_5 : List UInt8 := dkwX4_fits_5 ++ dktX4_fits_6
def dkwX4_fits_4 : List UInt8 := [180, 0, 35, 21, 4, 182, 0, 64, 28, 164, 0, 5, 3, 172, 132, 4, 1, 167, 255, 229, 42, 180, 0, 26]
abbrev dktX4_fits_4 : List UInt8 := dkwX4_fits_4 ++ dktX4_fits_5
def dkwX4_fits_3 : List UInt8 := [182, 0, 61, 132, 4, 1, 167, 255, 213, 3, 54, 4, 21, 4, 42, 180, 0, 52, 162, 0, 24, 42]
abbrev dktX4_fits_3 : List UInt8 := dkwX4_fits_3 ++ dktX4_fits_4
def dkwX4_fits_2 : List UInt8 := [4, 160, 0, 24, 42, 180, 0, 35, 42, 180, 0, 9, 21, 4, 46, 42, 180, 0, 15, 21, 4, 46]
abbrev dktX4_fits_2 : List UInt8 := dkwX4_fits_2 ++ dktX4_fits_3
def dkwX4_fits_1 : List UInt8 := [132, 4, 1, 167, 255, 233, 3, 54, 4, 21, 4, 42, 180, 0, 58, 162, 0, 40, 27, 21, 4, 122, 4, 126]
abbrev dktX4_fits_1 : List UInt8 := dkwX4_fits_1 ++ dktX4_fits_2
def dkwX4_fits_0 : List UInt8 := [3, 54, 4, 21, 4, 42, 180, 0, 52, 162, 0, 20, 42, 180, 0, 35, 180, 0, 55, 21, 4, 3, 79]
abbrev dktX4_fits_0 : List UInt8 := dkwX4_fits_0 ++ dktX4_fits_1
theorem dksX4_fits_0 : cX4_fits.data.toList.drop 0 = dktX4_fits_0 := by decide +kernel
theorem dksX4_fits_1 : cX4_fits.data.toList.drop 23 = dktX4_fits_1 := dk_seg dksX4_fits_0 23 rfl rfl
theorem dksX4_fits_2 : cX4_fits.data.toList.drop 47 = dktX4_fits_2 := dk_seg dksX4_fits_1 24 rfl rfl
theorem dksX4_fits_3 : cX4_fits.data.toList.drop 69 = dktX4_fits_3 := dk_seg dksX4_fits_2 22 rfl rfl
theorem dksX4_fits_4 : cX4_fits.data.toList.drop 91 = dktX4_fits_4 := dk_seg dksX4_fits_3 22 rfl rfl
theorem dksX4_fits_5 : cX4_fits.data.toList.drop 115 = dktX4_fits_5 := dk_seg dksX4_fits_4 24 rfl rfl
theorem dksX4_fits_6 : cX4_fits.data.toList.drop 139 = dktX4_fits_6 := dk_seg dksX4_fits_5 24 rfl rfl
theorem dX4_fits_0 : decode cX4_fits 0 = .ok (.iconst 0, 1) := dk_3 (dk_at dksX4_fits_0 0 rfl rfl)
theorem dX4_fits_1 : decode cX4_fits 1 = .ok (.istore 4, 2) := dk_54 4 (dk_at dksX4_fits_0 1 rfl rfl)
theorem dX4_fits_3 : decode cX4_fits 3 = .ok (.iload 4, 2) := dk_21 4 (dk_at dksX4_fits_0 3 rfl rfl)
theorem dX4_fits_5 : decode cX4_fits 5 = .ok (.aload_n 0, 1) := dk_42 (dk_at dksX4_fits_0 5 rfl rfl)
theorem dX4_fits_6 : decode cX4_fits 6 = .ok (.getfield 52, 3) := dk_180 0 52 (dk_at dksX4_fits_0 6 rfl rfl)
theorem dX4_fits_9 : decode cX4_fits 9 = .ok (.if_icmp .ge 20, 3) := dk_162 0 20 (dk_at dksX4_fits_0 9 rfl rfl)
theorem dX4_fits_12 : decode cX4_fits 12 = .ok (.aload_n 0, 1) := dk_42 (dk_at dksX4_fits_0 12 rfl rfl)
theorem dX4_fits_13 : decode cX4_fits 13 = .ok (.getfield 35, 3) := dk_180 0 35 (dk_at dksX4_fits_0 13 rfl rfl)
theorem dX4_fits_16 : decode cX4_fits 16 = .ok (.getfield 55, 3) := dk_180 0 55 (dk_at dksX4_fits_0 16 rfl rfl)
theorem dX4_fits_19 : decode cX4_fits 19 = .ok (.iload 4, 2) := dk_21 4 (dk_at dksX4_fits_0 19 rfl rfl)
theorem dX4_fits_21 : decode cX4_fits 21 = .ok (.iconst 0, 1) := dk_3 (dk_at dksX4_fits_0 21 rfl rfl)
theorem dX4_fits_22 : decode cX4_fits 22 = .ok (.iastore, 1) := dk_79 (dk_at dksX4_fits_0 22 rfl rfl)
theorem dX4_fits_23 : decode cX4_fits 23 = .ok (.iinc 4 1, 3) := dk_132 4 1 (dk_at dksX4_fits_1 0 rfl rfl)
theorem dX4_fits_26 : decode cX4_fits 26 = .ok (.goto (-23), 3) := dk_167 255 233 (dk_at dksX4_fits_1 3 rfl rfl)
theorem dX4_fits_29 : decode cX4_fits 29 = .ok (.iconst 0, 1) := dk_3 (dk_at dksX4_fits_1 6 rfl rfl)
theorem dX4_fits_30 : decode cX4_fits 30 = .ok (.istore 4, 2) := dk_54 4 (dk_at dksX4_fits_1 7 rfl rfl)
theorem dX4_fits_32 : decode cX4_fits 32 = .ok (.iload 4, 2) := dk_21 4 (dk_at dksX4_fits_1 9 rfl rfl)
theorem dX4_fits_34 : decode cX4_fits 34 = .ok (.aload_n 0, 1) := dk_42 (dk_at dksX4_fits_1 11 rfl rfl)
theorem dX4_fits_35 : decode cX4_fits 35 = .ok (.getfield 58, 3) := dk_180 0 58 (dk_at dksX4_fits_1 12 rfl rfl)
theorem dX4_fits_38 : decode cX4_fits 38 = .ok (.if_icmp .ge 40, 3) := dk_162 0 40 (dk_at dksX4_fits_1 15 rfl rfl)
theorem dX4_fits_41 : decode cX4_fits 41 = .ok (.iload_n 1, 1) := dk_27 (dk_at dksX4_fits_1 18 rfl rfl)
theorem dX4_fits_42 : decode cX4_fits 42 = .ok (.iload 4, 2) := dk_21 4 (dk_at dksX4_fits_1 19 rfl rfl)
theorem dX4_fits_44 : decode cX4_fits 44 = .ok (.ishr, 1) := dk_122 (dk_at dksX4_fits_1 21 rfl rfl)
theorem dX4_fits_45 : decode cX4_fits 45 = .ok (.iconst 1, 1) := dk_4 (dk_at dksX4_fits_1 22 rfl rfl)
theorem dX4_fits_46 : decode cX4_fits 46 = .ok (.iand, 1) := dk_126 (dk_at dksX4_fits_1 23 rfl rfl)
theorem dX4_fits_47 : decode cX4_fits 47 = .ok (.iconst 1, 1) := dk_4 (dk_at dksX4_fits_2 0 rfl rfl)
theorem dX4_fits_48 : decode cX4_fits 48 = .ok (.if_icmp .ne 24, 3) := dk_160 0 24 (dk_at dksX4_fits_2 1 rfl rfl)
theorem dX4_fits_51 : decode cX4_fits 51 = .ok (.aload_n 0, 1) := dk_42 (dk_at dksX4_fits_2 4 rfl rfl)
theorem dX4_fits_52 : decode cX4_fits 52 = .ok (.getfield 35, 3) := dk_180 0 35 (dk_at dksX4_fits_2 5 rfl rfl)
theorem dX4_fits_55 : decode cX4_fits 55 = .ok (.aload_n 0, 1) := dk_42 (dk_at dksX4_fits_2 8 rfl rfl)
theorem dX4_fits_56 : decode cX4_fits 56 = .ok (.getfield 9, 3) := dk_180 0 9 (dk_at dksX4_fits_2 9 rfl rfl)
theorem dX4_fits_59 : decode cX4_fits 59 = .ok (.iload 4, 2) := dk_21 4 (dk_at dksX4_fits_2 12 rfl rfl)
theorem dX4_fits_61 : decode cX4_fits 61 = .ok (.iaload, 1) := dk_46 (dk_at dksX4_fits_2 14 rfl rfl)
theorem dX4_fits_62 : decode cX4_fits 62 = .ok (.aload_n 0, 1) := dk_42 (dk_at dksX4_fits_2 15 rfl rfl)
theorem dX4_fits_63 : decode cX4_fits 63 = .ok (.getfield 15, 3) := dk_180 0 15 (dk_at dksX4_fits_2 16 rfl rfl)
theorem dX4_fits_66 : decode cX4_fits 66 = .ok (.iload 4, 2) := dk_21 4 (dk_at dksX4_fits_2 19 rfl rfl)
theorem dX4_fits_68 : decode cX4_fits 68 = .ok (.iaload, 1) := dk_46 (dk_at dksX4_fits_2 21 rfl rfl)
theorem dX4_fits_69 : decode cX4_fits 69 = .ok (.invokevirtual 61, 3) := dk_182 0 61 (dk_at dksX4_fits_3 0 rfl rfl)
theorem dX4_fits_72 : decode cX4_fits 72 = .ok (.iinc 4 1, 3) := dk_132 4 1 (dk_at dksX4_fits_3 3 rfl rfl)
theorem dX4_fits_75 : decode cX4_fits 75 = .ok (.goto (-43), 3) := dk_167 255 213 (dk_at dksX4_fits_3 6 rfl rfl)
theorem dX4_fits_78 : decode cX4_fits 78 = .ok (.iconst 0, 1) := dk_3 (dk_at dksX4_fits_3 9 rfl rfl)
theorem dX4_fits_79 : decode cX4_fits 79 = .ok (.istore 4, 2) := dk_54 4 (dk_at dksX4_fits_3 10 rfl rfl)
theorem dX4_fits_81 : decode cX4_fits 81 = .ok (.iload 4, 2) := dk_21 4 (dk_at dksX4_fits_3 12 rfl rfl)
theorem dX4_fits_83 : decode cX4_fits 83 = .ok (.aload_n 0, 1) := dk_42 (dk_at dksX4_fits_3 14 rfl rfl)
theorem dX4_fits_84 : decode cX4_fits 84 = .ok (.getfield 52, 3) := dk_180 0 52 (dk_at dksX4_fits_3 15 rfl rfl)
theorem dX4_fits_87 : decode cX4_fits 87 = .ok (.if_icmp .ge 24, 3) := dk_162 0 24 (dk_at dksX4_fits_3 18 rfl rfl)
theorem dX4_fits_90 : decode cX4_fits 90 = .ok (.aload_n 0, 1) := dk_42 (dk_at dksX4_fits_3 21 rfl rfl)
theorem dX4_fits_91 : decode cX4_fits 91 = .ok (.getfield 35, 3) := dk_180 0 35 (dk_at dksX4_fits_4 0 rfl rfl)
theorem dX4_fits_94 : decode cX4_fits 94 = .ok (.iload 4, 2) := dk_21 4 (dk_at dksX4_fits_4 3 rfl rfl)
theorem dX4_fits_96 : decode cX4_fits 96 = .ok (.invokevirtual 64, 3) := dk_182 0 64 (dk_at dksX4_fits_4 5 rfl rfl)
theorem dX4_fits_99 : decode cX4_fits 99 = .ok (.iload_n 2, 1) := dk_28 (dk_at dksX4_fits_4 8 rfl rfl)
theorem dX4_fits_100 : decode cX4_fits 100 = .ok (.if_icmp .le 5, 3) := dk_164 0 5 (dk_at dksX4_fits_4 9 rfl rfl)
theorem dX4_fits_103 : decode cX4_fits 103 = .ok (.iconst 0, 1) := dk_3 (dk_at dksX4_fits_4 12 rfl rfl)
theorem dX4_fits_104 : decode cX4_fits 104 = .ok (.ireturn, 1) := dk_172 (dk_at dksX4_fits_4 13 rfl rfl)
theorem dX4_fits_105 : decode cX4_fits 105 = .ok (.iinc 4 1, 3) := dk_132 4 1 (dk_at dksX4_fits_4 14 rfl rfl)
theorem dX4_fits_108 : decode cX4_fits 108 = .ok (.goto (-27), 3) := dk_167 255 229 (dk_at dksX4_fits_4 17 rfl rfl)
theorem dX4_fits_111 : decode cX4_fits 111 = .ok (.aload_n 0, 1) := dk_42 (dk_at dksX4_fits_4 20 rfl rfl)
theorem dX4_fits_112 : decode cX4_fits 112 = .ok (.getfield 26, 3) := dk_180 0 26 (dk_at dksX4_fits_4 21 rfl rfl)
theorem dX4_fits_115 : decode cX4_fits 115 = .ok (.aload_n 0, 1) := dk_42 (dk_at dksX4_fits_5 0 rfl rfl)
theorem dX4_fits_116 : decode cX4_fits 116 = .ok (.getfield 35, 3) := dk_180 0 35 (dk_at dksX4_fits_5 1 rfl rfl)
theorem dX4_fits_119 : decode cX4_fits 119 = .ok (.aload_n 0, 1) := dk_42 (dk_at dksX4_fits_5 4 rfl rfl)
theorem dX4_fits_120 : decode cX4_fits 120 = .ok (.getfield 35, 3) := dk_180 0 35 (dk_at dksX4_fits_5 5 rfl rfl)
theorem dX4_fits_123 : decode cX4_fits 123 = .ok (.invokevirtual 68, 3) := dk_182 0 68 (dk_at dksX4_fits_5 8 rfl rfl)
theorem dX4_fits_126 : decode cX4_fits 126 = .ok (.invokevirtual 72, 3) := dk_182 0 72 (dk_at dksX4_fits_5 11 rfl rfl)
theorem dX4_fits_129 : decode cX4_fits 129 = .ok (.iload_n 3, 1) := dk_29 (dk_at dksX4_fits_5 14 rfl rfl)
theorem dX4_fits_130 : decode cX4_fits 130 = .ok (.bipush 99, 2) := dk_16 99 (dk_at dksX4_fits_5 15 rfl rfl)
theorem dX4_fits_132 : decode cX4_fits 132 = .ok (.invokestatic 76, 3) := dk_184 0 76 (dk_at dksX4_fits_5 17 rfl rfl)
theorem dX4_fits_135 : decode cX4_fits 135 = .ok (.if_icmp .gt 7, 3) := dk_163 0 7 (dk_at dksX4_fits_5 20 rfl rfl)
theorem dX4_fits_138 : decode cX4_fits 138 = .ok (.iconst 1, 1) := dk_4 (dk_at dksX4_fits_5 23 rfl rfl)
theorem dX4_fits_139 : decode cX4_fits 139 = .ok (.goto 4, 3) := dk_167 0 4 (dk_at dksX4_fits_6 0 rfl rfl)
theorem dX4_fits_142 : decode cX4_fits 142 = .ok (.iconst 0, 1) := dk_3 (dk_at dksX4_fits_6 3 rfl rfl)
theorem dX4_fits_143 : decode cX4_fits 143 = .ok (.ireturn, 1) := dk_172 (dk_at dksX4_fits_6 4 rfl rfl)
abbrev cX4_strike : ByteArray := prog_11_method_5_code
def yX4_strike : MethodName := ⟨RX4, "strike", "(III)V"⟩
def dkwX4_strike_5 : List UInt8 := [4, 96, 29, 4, 21, 4, 120, 128, 182, 0, 98, 132, 4, 1, 167, 255, 209, 177]
abbrev dktX4_strike_5 : List UInt8 := dkwX4_strike_5 ++ []
def dkwX4_strike_4 : List UInt8 := [29, 21, 4, 122, 4, 126, 4, 160, 0, 6, 167, 0, 25, 42, 180, 0, 46, 28, 21, 4, 79, 42, 27, 28]
abbrev dktX4_strike_4 : List UInt8 := dkwX4_strike_4 ++ dktX4_strike_5
def dkwX4_strike_3 : List UInt8 := [167, 255, 199, 42, 180, 0, 19, 21, 4, 3, 84, 177, 3, 54, 4, 21, 4, 42, 180, 0, 52, 162, 0, 44]
abbrev dktX4_strike_3 : List UInt8 := dkwX4_strike_3 ++ dktX4_strike_4
def dkwX4_strike_2 : List UInt8 := [46, 42, 180, 0, 46, 42, 180, 0, 15, 21, 5, 46, 46, 182, 0, 109, 120, 128, 54, 4, 132, 5, 1]
abbrev dktX4_strike_2 : List UInt8 := dkwX4_strike_2 ++ dktX4_strike_3
def dkwX4_strike_1 : List UInt8 := [21, 5, 122, 4, 126, 4, 160, 0, 38, 21, 4, 4, 42, 42, 180, 0, 46, 42, 180, 0, 9, 21, 5, 46]
abbrev dktX4_strike_1 : List UInt8 := dkwX4_strike_1 ++ dktX4_strike_2
def dkwX4_strike_0 : List UInt8 := [28, 42, 180, 0, 52, 160, 0, 78, 3, 54, 4, 3, 54, 5, 21, 5, 42, 180, 0, 58, 162, 0, 54, 27]
abbrev dktX4_strike_0 : List UInt8 := dkwX4_strike_0 ++ dktX4_strike_1
theorem dksX4_strike_0 : cX4_strike.data.toList.drop 0 = dktX4_strike_0 := by decide +kernel
theorem dksX4_strike_1 : cX4_strike.data.toList.drop 24 = dktX4_strike_1 := dk_seg dksX4_strike_0 24 rfl rfl
theorem dksX4_strike_2 : cX4_strike.data.toList.drop 48 = dktX4_strike_2 := dk_seg dksX4_strike_1 24 rfl rfl
theorem dksX4_strike_3 : cX4_strike.data.toList.drop 71 = dktX4_strike_3 := dk_seg dksX4_strike_2 23 rfl rfl
theorem dksX4_strike_4 : cX4_strike.data.toList.drop 95 = dktX4_strike_4 := dk_seg dksX4_strike_3 24 rfl rfl
theorem dksX4_strike_5 : cX4_strike.data.toList.drop 119 = dktX4_strike_5 := dk_seg dksX4_strike_4 24 rfl rfl
theorem dX4_strike_0 : decode cX4_strike 0 = .ok (.iload_n 2, 1) := dk_28 (dk_at dksX4_strike_0 0 rfl rfl)
theorem dX4_strike_1 : decode cX4_strike 1 = .ok (.aload_n 0, 1) := dk_42 (dk_at dksX4_strike_0 1 rfl rfl)
theorem dX4_strike_2 : decode cX4_strike 2 = .ok (.getfield 52, 3) := dk_180 0 52 (dk_at dksX4_strike_0 2 rfl rfl)
theorem dX4_strike_5 : decode cX4_strike 5 = .ok (.if_icmp .ne 78, 3) := dk_160 0 78 (dk_at dksX4_strike_0 5 rfl rfl)
theorem dX4_strike_8 : decode cX4_strike 8 = .ok (.iconst 0, 1) := dk_3 (dk_at dksX4_strike_0 8 rfl rfl)
theorem dX4_strike_9 : decode cX4_strike 9 = .ok (.istore 4, 2) := dk_54 4 (dk_at dksX4_strike_0 9 rfl rfl)
theorem dX4_strike_11 : decode cX4_strike 11 = .ok (.iconst 0, 1) := dk_3 (dk_at dksX4_strike_0 11 rfl rfl)
theorem dX4_strike_12 : decode cX4_strike 12 = .ok (.istore 5, 2) := dk_54 5 (dk_at dksX4_strike_0 12 rfl rfl)
theorem dX4_strike_14 : decode cX4_strike 14 = .ok (.iload 5, 2) := dk_21 5 (dk_at dksX4_strike_0 14 rfl rfl)
theorem dX4_strike_16 : decode cX4_strike 16 = .ok (.aload_n 0, 1) := dk_42 (dk_at dksX4_strike_0 16 rfl rfl)
theorem dX4_strike_17 : decode cX4_strike 17 = .ok (.getfield 58, 3) := dk_180 0 58 (dk_at dksX4_strike_0 17 rfl rfl)
theorem dX4_strike_20 : decode cX4_strike 20 = .ok (.if_icmp .ge 54, 3) := dk_162 0 54 (dk_at dksX4_strike_0 20 rfl rfl)
theorem dX4_strike_23 : decode cX4_strike 23 = .ok (.iload_n 1, 1) := dk_27 (dk_at dksX4_strike_0 23 rfl rfl)
theorem dX4_strike_24 : decode cX4_strike 24 = .ok (.iload 5, 2) := dk_21 5 (dk_at dksX4_strike_1 0 rfl rfl)
theorem dX4_strike_26 : decode cX4_strike 26 = .ok (.ishr, 1) := dk_122 (dk_at dksX4_strike_1 2 rfl rfl)
theorem dX4_strike_27 : decode cX4_strike 27 = .ok (.iconst 1, 1) := dk_4 (dk_at dksX4_strike_1 3 rfl rfl)
theorem dX4_strike_28 : decode cX4_strike 28 = .ok (.iand, 1) := dk_126 (dk_at dksX4_strike_1 4 rfl rfl)
theorem dX4_strike_29 : decode cX4_strike 29 = .ok (.iconst 1, 1) := dk_4 (dk_at dksX4_strike_1 5 rfl rfl)
theorem dX4_strike_30 : decode cX4_strike 30 = .ok (.if_icmp .ne 38, 3) := dk_160 0 38 (dk_at dksX4_strike_1 6 rfl rfl)
theorem dX4_strike_33 : decode cX4_strike 33 = .ok (.iload 4, 2) := dk_21 4 (dk_at dksX4_strike_1 9 rfl rfl)
theorem dX4_strike_35 : decode cX4_strike 35 = .ok (.iconst 1, 1) := dk_4 (dk_at dksX4_strike_1 11 rfl rfl)
theorem dX4_strike_36 : decode cX4_strike 36 = .ok (.aload_n 0, 1) := dk_42 (dk_at dksX4_strike_1 12 rfl rfl)
theorem dX4_strike_37 : decode cX4_strike 37 = .ok (.aload_n 0, 1) := dk_42 (dk_at dksX4_strike_1 13 rfl rfl)
theorem dX4_strike_38 : decode cX4_strike 38 = .ok (.getfield 46, 3) := dk_180 0 46 (dk_at dksX4_strike_1 14 rfl rfl)
theorem dX4_strike_41 : decode cX4_strike 41 = .ok (.aload_n 0, 1) := dk_42 (dk_at dksX4_strike_1 17 rfl rfl)
theorem dX4_strike_42 : decode cX4_strike 42 = .ok (.getfield 9, 3) := dk_180 0 9 (dk_at dksX4_strike_1 18 rfl rfl)
theorem dX4_strike_45 : decode cX4_strike 45 = .ok (.iload 5, 2) := dk_21 5 (dk_at dksX4_strike_1 21 rfl rfl)
theorem dX4_strike_47 : decode cX4_strike 47 = .ok (.iaload, 1) := dk_46 (dk_at dksX4_strike_1 23 rfl rfl)
theorem dX4_strike_48 : decode cX4_strike 48 = .ok (.iaload, 1) := dk_46 (dk_at dksX4_strike_2 0 rfl rfl)
theorem dX4_strike_49 : decode cX4_strike 49 = .ok (.aload_n 0, 1) := dk_42 (dk_at dksX4_strike_2 1 rfl rfl)
theorem dX4_strike_50 : decode cX4_strike 50 = .ok (.getfield 46, 3) := dk_180 0 46 (dk_at dksX4_strike_2 2 rfl rfl)
theorem dX4_strike_53 : decode cX4_strike 53 = .ok (.aload_n 0, 1) := dk_42 (dk_at dksX4_strike_2 5 rfl rfl)
theorem dX4_strike_54 : decode cX4_strike 54 = .ok (.getfield 15, 3) := dk_180 0 15 (dk_at dksX4_strike_2 6 rfl rfl)
theorem dX4_strike_57 : decode cX4_strike 57 = .ok (.iload 5, 2) := dk_21 5 (dk_at dksX4_strike_2 9 rfl rfl)
theorem dX4_strike_59 : decode cX4_strike 59 = .ok (.iaload, 1) := dk_46 (dk_at dksX4_strike_2 11 rfl rfl)
theorem dX4_strike_60 : decode cX4_strike 60 = .ok (.iaload, 1) := dk_46 (dk_at dksX4_strike_2 12 rfl rfl)
theorem dX4_strike_61 : decode cX4_strike 61 = .ok (.invokevirtual 109, 3) := dk_182 0 109 (dk_at dksX4_strike_2 13 rfl rfl)
theorem dX4_strike_64 : decode cX4_strike 64 = .ok (.ishl, 1) := dk_120 (dk_at dksX4_strike_2 16 rfl rfl)
theorem dX4_strike_65 : decode cX4_strike 65 = .ok (.ior, 1) := dk_128 (dk_at dksX4_strike_2 17 rfl rfl)
theorem dX4_strike_66 : decode cX4_strike 66 = .ok (.istore 4, 2) := dk_54 4 (dk_at dksX4_strike_2 18 rfl rfl)
theorem dX4_strike_68 : decode cX4_strike 68 = .ok (.iinc 5 1, 3) := dk_132 5 1 (dk_at dksX4_strike_2 20 rfl rfl)
theorem dX4_strike_71 : decode cX4_strike 71 = .ok (.goto (-57), 3) := dk_167 255 199 (dk_at dksX4_strike_3 0 rfl rfl)
theorem dX4_strike_74 : decode cX4_strike 74 = .ok (.aload_n 0, 1) := dk_42 (dk_at dksX4_strike_3 3 rfl rfl)
theorem dX4_strike_75 : decode cX4_strike 75 = .ok (.getfield 19, 3) := dk_180 0 19 (dk_at dksX4_strike_3 4 rfl rfl)
theorem dX4_strike_78 : decode cX4_strike 78 = .ok (.iload 4, 2) := dk_21 4 (dk_at dksX4_strike_3 7 rfl rfl)
theorem dX4_strike_80 : decode cX4_strike 80 = .ok (.iconst 0, 1) := dk_3 (dk_at dksX4_strike_3 9 rfl rfl)
theorem dX4_strike_81 : decode cX4_strike 81 = .ok (.bastore, 1) := dk_84 (dk_at dksX4_strike_3 10 rfl rfl)
theorem dX4_strike_82 : decode cX4_strike 82 = .ok (.return_, 1) := dk_177 (dk_at dksX4_strike_3 11 rfl rfl)
theorem dX4_strike_83 : decode cX4_strike 83 = .ok (.iconst 0, 1) := dk_3 (dk_at dksX4_strike_3 12 rfl rfl)
theorem dX4_strike_84 : decode cX4_strike 84 = .ok (.istore 4, 2) := dk_54 4 (dk_at dksX4_strike_3 13 rfl rfl)
theorem dX4_strike_86 : decode cX4_strike 86 = .ok (.iload 4, 2) := dk_21 4 (dk_at dksX4_strike_3 15 rfl rfl)
theorem dX4_strike_88 : decode cX4_strike 88 = .ok (.aload_n 0, 1) := dk_42 (dk_at dksX4_strike_3 17 rfl rfl)
theorem dX4_strike_89 : decode cX4_strike 89 = .ok (.getfield 52, 3) := dk_180 0 52 (dk_at dksX4_strike_3 18 rfl rfl)
theorem dX4_strike_92 : decode cX4_strike 92 = .ok (.if_icmp .ge 44, 3) := dk_162 0 44 (dk_at dksX4_strike_3 21 rfl rfl)
theorem dX4_strike_95 : decode cX4_strike 95 = .ok (.iload_n 3, 1) := dk_29 (dk_at dksX4_strike_4 0 rfl rfl)
theorem dX4_strike_96 : decode cX4_strike 96 = .ok (.iload 4, 2) := dk_21 4 (dk_at dksX4_strike_4 1 rfl rfl)
theorem dX4_strike_98 : decode cX4_strike 98 = .ok (.ishr, 1) := dk_122 (dk_at dksX4_strike_4 3 rfl rfl)
theorem dX4_strike_99 : decode cX4_strike 99 = .ok (.iconst 1, 1) := dk_4 (dk_at dksX4_strike_4 4 rfl rfl)
theorem dX4_strike_100 : decode cX4_strike 100 = .ok (.iand, 1) := dk_126 (dk_at dksX4_strike_4 5 rfl rfl)
theorem dX4_strike_101 : decode cX4_strike 101 = .ok (.iconst 1, 1) := dk_4 (dk_at dksX4_strike_4 6 rfl rfl)
theorem dX4_strike_102 : decode cX4_strike 102 = .ok (.if_icmp .ne 6, 3) := dk_160 0 6 (dk_at dksX4_strike_4 7 rfl rfl)
theorem dX4_strike_105 : decode cX4_strike 105 = .ok (.goto 25, 3) := dk_167 0 25 (dk_at dksX4_strike_4 10 rfl rfl)
theorem dX4_strike_108 : decode cX4_strike 108 = .ok (.aload_n 0, 1) := dk_42 (dk_at dksX4_strike_4 13 rfl rfl)
theorem dX4_strike_109 : decode cX4_strike 109 = .ok (.getfield 46, 3) := dk_180 0 46 (dk_at dksX4_strike_4 14 rfl rfl)
theorem dX4_strike_112 : decode cX4_strike 112 = .ok (.iload_n 2, 1) := dk_28 (dk_at dksX4_strike_4 17 rfl rfl)
theorem dX4_strike_113 : decode cX4_strike 113 = .ok (.iload 4, 2) := dk_21 4 (dk_at dksX4_strike_4 18 rfl rfl)
theorem dX4_strike_115 : decode cX4_strike 115 = .ok (.iastore, 1) := dk_79 (dk_at dksX4_strike_4 20 rfl rfl)
theorem dX4_strike_116 : decode cX4_strike 116 = .ok (.aload_n 0, 1) := dk_42 (dk_at dksX4_strike_4 21 rfl rfl)
theorem dX4_strike_117 : decode cX4_strike 117 = .ok (.iload_n 1, 1) := dk_27 (dk_at dksX4_strike_4 22 rfl rfl)
theorem dX4_strike_118 : decode cX4_strike 118 = .ok (.iload_n 2, 1) := dk_28 (dk_at dksX4_strike_4 23 rfl rfl)
theorem dX4_strike_119 : decode cX4_strike 119 = .ok (.iconst 1, 1) := dk_4 (dk_at dksX4_strike_5 0 rfl rfl)
theorem dX4_strike_120 : decode cX4_strike 120 = .ok (.iadd, 1) := dk_96 (dk_at dksX4_strike_5 1 rfl rfl)
theorem dX4_strike_121 : decode cX4_strike 121 = .ok (.iload_n 3, 1) := dk_29 (dk_at dksX4_strike_5 2 rfl rfl)
theorem dX4_strike_122 : decode cX4_strike 122 = .ok (.iconst 1, 1) := dk_4 (dk_at dksX4_strike_5 3 rfl rfl)
theorem dX4_strike_123 : decode cX4_strike 123 = .ok (.iload 4, 2) := dk_21 4 (dk_at dksX4_strike_5 4 rfl rfl)
theorem dX4_strike_125 : decode cX4_strike 125 = .ok (.ishl, 1) := dk_120 (dk_at dksX4_strike_5 6 rfl rfl)
theorem dX4_strike_126 : decode cX4_strike 126 = .ok (.ior, 1) := dk_128 (dk_at dksX4_strike_5 7 rfl rfl)
theorem dX4_strike_127 : decode cX4_strike 127 = .ok (.invokevirtual 98, 3) := dk_182 0 98 (dk_at dksX4_strike_5 8 rfl rfl)
theorem dX4_strike_130 : decode cX4_strike 130 = .ok (.iinc 4 1, 3) := dk_132 4 1 (dk_at dksX4_strike_5 11 rfl rfl)
theorem dX4_strike_133 : decode cX4_strike 133 = .ok (.goto (-47), 3) := dk_167 255 209 (dk_at dksX4_strike_5 14 rfl rfl)
theorem dX4_strike_136 : decode cX4_strike 136 = .ok (.return_, 1) := dk_177 (dk_at dksX4_strike_5 17 rfl rfl)
abbrev cX4_pair : ByteArray := prog_11_method_4_code
def yX4_pair : MethodName := ⟨RX4, "pair", "(II)I"⟩
def dkwX4_pair_1 : List UInt8 := [184, 0, 106, 159, 0, 9, 132, 3, 1, 167, 255, 225, 29, 172]
abbrev dktX4_pair_1 : List UInt8 := dkwX4_pair_1 ++ []
def dkwX4_pair_0 : List UInt8 := [3, 62, 42, 180, 0, 9, 29, 46, 27, 28, 184, 0, 76, 160, 0, 17, 42, 180, 0, 15, 29, 46, 27, 28]
abbrev dktX4_pair_0 : List UInt8 := dkwX4_pair_0 ++ dktX4_pair_1
theorem dksX4_pair_0 : cX4_pair.data.toList.drop 0 = dktX4_pair_0 := by decide +kernel
theorem dksX4_pair_1 : cX4_pair.data.toList.drop 24 = dktX4_pair_1 := dk_seg dksX4_pair_0 24 rfl rfl
theorem dX4_pair_0 : decode cX4_pair 0 = .ok (.iconst 0, 1) := dk_3 (dk_at dksX4_pair_0 0 rfl rfl)
theorem dX4_pair_1 : decode cX4_pair 1 = .ok (.istore_n 3, 1) := dk_62 (dk_at dksX4_pair_0 1 rfl rfl)
theorem dX4_pair_2 : decode cX4_pair 2 = .ok (.aload_n 0, 1) := dk_42 (dk_at dksX4_pair_0 2 rfl rfl)
theorem dX4_pair_3 : decode cX4_pair 3 = .ok (.getfield 9, 3) := dk_180 0 9 (dk_at dksX4_pair_0 3 rfl rfl)
theorem dX4_pair_6 : decode cX4_pair 6 = .ok (.iload_n 3, 1) := dk_29 (dk_at dksX4_pair_0 6 rfl rfl)
theorem dX4_pair_7 : decode cX4_pair 7 = .ok (.iaload, 1) := dk_46 (dk_at dksX4_pair_0 7 rfl rfl)
theorem dX4_pair_8 : decode cX4_pair 8 = .ok (.iload_n 1, 1) := dk_27 (dk_at dksX4_pair_0 8 rfl rfl)
theorem dX4_pair_9 : decode cX4_pair 9 = .ok (.iload_n 2, 1) := dk_28 (dk_at dksX4_pair_0 9 rfl rfl)
theorem dX4_pair_10 : decode cX4_pair 10 = .ok (.invokestatic 76, 3) := dk_184 0 76 (dk_at dksX4_pair_0 10 rfl rfl)
theorem dX4_pair_13 : decode cX4_pair 13 = .ok (.if_icmp .ne 17, 3) := dk_160 0 17 (dk_at dksX4_pair_0 13 rfl rfl)
theorem dX4_pair_16 : decode cX4_pair 16 = .ok (.aload_n 0, 1) := dk_42 (dk_at dksX4_pair_0 16 rfl rfl)
theorem dX4_pair_17 : decode cX4_pair 17 = .ok (.getfield 15, 3) := dk_180 0 15 (dk_at dksX4_pair_0 17 rfl rfl)
theorem dX4_pair_20 : decode cX4_pair 20 = .ok (.iload_n 3, 1) := dk_29 (dk_at dksX4_pair_0 20 rfl rfl)
theorem dX4_pair_21 : decode cX4_pair 21 = .ok (.iaload, 1) := dk_46 (dk_at dksX4_pair_0 21 rfl rfl)
theorem dX4_pair_22 : decode cX4_pair 22 = .ok (.iload_n 1, 1) := dk_27 (dk_at dksX4_pair_0 22 rfl rfl)
theorem dX4_pair_23 : decode cX4_pair 23 = .ok (.iload_n 2, 1) := dk_28 (dk_at dksX4_pair_0 23 rfl rfl)
theorem dX4_pair_24 : decode cX4_pair 24 = .ok (.invokestatic 106, 3) := dk_184 0 106 (dk_at dksX4_pair_1 0 rfl rfl)
theorem dX4_pair_27 : decode cX4_pair 27 = .ok (.if_icmp .eq 9, 3) := dk_159 0 9 (dk_at dksX4_pair_1 3 rfl rfl)
theorem dX4_pair_30 : decode cX4_pair 30 = .ok (.iinc 3 1, 3) := dk_132 3 1 (dk_at dksX4_pair_1 6 rfl rfl)
theorem dX4_pair_33 : decode cX4_pair 33 = .ok (.goto (-31), 3) := dk_167 255 225 (dk_at dksX4_pair_1 9 rfl rfl)
theorem dX4_pair_36 : decode cX4_pair 36 = .ok (.iload_n 3, 1) := dk_29 (dk_at dksX4_pair_1 12 rfl rfl)
theorem dX4_pair_37 : decode cX4_pair 37 = .ok (.ireturn, 1) := dk_172 (dk_at dksX4_pair_1 13 rfl rfl)
theorem q115 : (Jvm.Cond.initialized "WiredNets$Small") ∈ lw_all := lw_g (lw_at lw_m1 7 rfl) rfl
theorem q223 : (Jvm.Cond.instantiable "WiredNets$Small" (14 : Nat)) ∈ lw_all := lw_g (lw_at lw_m1 115 rfl) rfl
theorem q225 : (Jvm.Cond.instanceMethod ({ cls := "WiredNets$Small", name := "<init>", desc := "()V" } : Jvm.MethodName)) ∈ lw_all := lw_g (lw_at lw_m1 117 rfl) rfl
theorem q226 : (Jvm.Cond.code ({ cls := "WiredNets$Small", name := "<init>", desc := "()V" } : Jvm.MethodName) prog_11_method_1_code (1 : Nat) (Option.none : Option Jvm.ClassFile.FieldType)) ∈ lw_all := lw_g (lw_at lw_m1 118 rfl) rfl
theorem q227 : (Jvm.Cond.methodLink "WiredNets$Small" (3 : Nat) ({ cls := "java/lang/Object", name := "<init>", desc := "()V" } : Jvm.MethodName)) ∈ lw_all := lw_g (lw_at lw_m1 119 rfl) rfl
theorem q228 : (Jvm.Cond.constant "WiredNets$Small" (18 : Nat) (32768 : Int32)) ∈ lw_all := lw_g (lw_at lw_m1 120 rfl) rfl
theorem q229 : (Jvm.Cond.classLink "WiredNets$Small" (23 : Nat) "WiredNets$Flood") ∈ lw_all := lw_g (lw_at lw_m1 121 rfl) rfl
theorem q230 : (Jvm.Cond.methodLinkNest "WiredNets$Small" (25 : Nat) ({ cls := "WiredNets$Flood", name := "<init>", desc := "()V" } : Jvm.MethodName) "WiredNets") ∈ lw_tbl := lw_at lw_m1 122 rfl
theorem q231 : (Jvm.Cond.classLink "WiredNets$Small" (30 : Nat) "WiredNets$Net") ∈ lw_all := lw_g (lw_at lw_m1 123 rfl) rfl
theorem q233 : (Jvm.Cond.methodLink "WiredNets$Small" (32 : Nat) ({ cls := "WiredNets$Net", name := "<init>", desc := "(II)V" } : Jvm.MethodName)) ∈ lw_all := lw_g (lw_at lw_m1 125 rfl) rfl
theorem q243 : (Jvm.Cond.fieldLinkNest "WiredNets$Small" (82 : Nat) "WiredNets$Net" "n" "I" "WiredNets") ∈ lw_tbl := lw_at lw_m1 135 rfl
theorem q250 : (Jvm.Cond.fieldLinkNest "WiredNets$Small" (55 : Nat) "WiredNets$Net" "near" "[I" "WiredNets") ∈ lw_tbl := lw_at lw_m1 142 rfl
theorem q265 : (Jvm.Cond.fieldLink "WiredNets$Small" (9 : Nat) "WiredNets$Small" "first" "[I") ∈ lw_all := lw_g (lw_at lw_m1 157 rfl) rfl
theorem q266 : (Jvm.Cond.fieldLink "WiredNets$Small" (15 : Nat) "WiredNets$Small" "second" "[I") ∈ lw_all := lw_g (lw_at lw_m1 158 rfl) rfl
theorem q267 : (Jvm.Cond.fieldLink "WiredNets$Small" (19 : Nat) "WiredNets$Small" "is" "[Z") ∈ lw_all := lw_g (lw_at lw_m1 159 rfl) rfl
theorem q268 : (Jvm.Cond.fieldLink "WiredNets$Small" (26 : Nat) "WiredNets$Small" "flood" "LWiredNets$Flood;") ∈ lw_all := lw_g (lw_at lw_m1 160 rfl) rfl
theorem q269 : (Jvm.Cond.fieldLink "WiredNets$Small" (35 : Nat) "WiredNets$Small" "x" "LWiredNets$Net;") ∈ lw_all := lw_g (lw_at lw_m1 161 rfl) rfl
theorem q270 : (Jvm.Cond.fieldLink "WiredNets$Small" (102 : Nat) "WiredNets$Small" "isTold" "Z") ∈ lw_all := lw_g (lw_at lw_m1 162 rfl) rfl
theorem q272 : (Jvm.Cond.fieldLink "WiredNets$Small" (58 : Nat) "WiredNets$Small" "pairs" "I") ∈ lw_all := lw_g (lw_at lw_m1 164 rfl) rfl
theorem q273 : (Jvm.Cond.fieldLink "WiredNets$Small" (83 : Nat) "WiredNets$Small" "many" "I") ∈ lw_all := lw_g (lw_at lw_m1 165 rfl) rfl
theorem q275 : (Jvm.Cond.fieldLink "WiredNets$Small" (86 : Nat) "WiredNets$Small" "kinds" "I") ∈ lw_all := lw_g (lw_at lw_m1 167 rfl) rfl
theorem q277 : (Jvm.Cond.fieldLink "WiredNets$Small" (39 : Nat) "WiredNets$Small" "fewest" "I") ∈ lw_all := lw_g (lw_at lw_m1 169 rfl) rfl
theorem q279 : (Jvm.Cond.fieldLink "WiredNets$Small" (43 : Nat) "WiredNets$Small" "least" "I") ∈ lw_all := lw_g (lw_at lw_m1 171 rfl) rfl
theorem q281 : (Jvm.Cond.fieldLink "WiredNets$Small" (46 : Nat) "WiredNets$Small" "turn" "[I") ∈ lw_all := lw_g (lw_at lw_m1 173 rfl) rfl
theorem q282 : (Jvm.Cond.fieldLink "WiredNets$Small" (49 : Nat) "WiredNets$Small" "image" "[I") ∈ lw_all := lw_g (lw_at lw_m1 174 rfl) rfl
theorem q283 : (Jvm.Cond.fieldLink "WiredNets$Small" (52 : Nat) "WiredNets$Small" "n" "I") ∈ lw_all := lw_g (lw_at lw_m1 175 rfl) rfl
theorem q284 : (Jvm.Cond.laysFinal "WiredNets$Small" "WiredNets$Small" "first" "[I") ∈ lw_all := lw_g (lw_at lw_m1 176 rfl) rfl
theorem q285 : (Jvm.Cond.soleField "WiredNets$Small" "first") ∈ lw_all := lw_g (lw_at lw_m1 177 rfl) rfl
theorem q286 : (Jvm.Cond.laysFinal "WiredNets$Small" "WiredNets$Small" "second" "[I") ∈ lw_all := lw_g (lw_at lw_m1 178 rfl) rfl
theorem q287 : (Jvm.Cond.soleField "WiredNets$Small" "second") ∈ lw_all := lw_g (lw_at lw_m1 179 rfl) rfl
theorem q288 : (Jvm.Cond.laysFinal "WiredNets$Small" "WiredNets$Small" "is" "[Z") ∈ lw_all := lw_g (lw_at lw_m1 180 rfl) rfl
theorem q289 : (Jvm.Cond.soleField "WiredNets$Small" "is") ∈ lw_all := lw_g (lw_at lw_m1 181 rfl) rfl
theorem q290 : (Jvm.Cond.laysFinal "WiredNets$Small" "WiredNets$Small" "flood" "LWiredNets$Flood;") ∈ lw_all := lw_g (lw_at lw_m1 182 rfl) rfl
theorem q291 : (Jvm.Cond.soleField "WiredNets$Small" "flood") ∈ lw_all := lw_g (lw_at lw_m1 183 rfl) rfl
theorem q292 : (Jvm.Cond.laysFinal "WiredNets$Small" "WiredNets$Small" "x" "LWiredNets$Net;") ∈ lw_all := lw_g (lw_at lw_m1 184 rfl) rfl
theorem q293 : (Jvm.Cond.soleField "WiredNets$Small" "x") ∈ lw_all := lw_g (lw_at lw_m1 185 rfl) rfl
theorem q294 : (Jvm.Cond.lays "WiredNets$Small" "WiredNets$Small" "isTold" "Z") ∈ lw_all := lw_g (lw_at lw_m1 186 rfl) rfl
theorem q295 : (Jvm.Cond.soleField "WiredNets$Small" "isTold") ∈ lw_all := lw_g (lw_at lw_m1 187 rfl) rfl
theorem q296 : (Jvm.Cond.lays "WiredNets$Small" "WiredNets$Small" "pairs" "I") ∈ lw_all := lw_g (lw_at lw_m1 188 rfl) rfl
theorem q297 : (Jvm.Cond.soleField "WiredNets$Small" "pairs") ∈ lw_all := lw_g (lw_at lw_m1 189 rfl) rfl
theorem q298 : (Jvm.Cond.lays "WiredNets$Small" "WiredNets$Small" "many" "I") ∈ lw_all := lw_g (lw_at lw_m1 190 rfl) rfl
theorem q299 : (Jvm.Cond.soleField "WiredNets$Small" "many") ∈ lw_all := lw_g (lw_at lw_m1 191 rfl) rfl
theorem q300 : (Jvm.Cond.lays "WiredNets$Small" "WiredNets$Small" "kinds" "I") ∈ lw_all := lw_g (lw_at lw_m1 192 rfl) rfl
theorem q301 : (Jvm.Cond.soleField "WiredNets$Small" "kinds") ∈ lw_all := lw_g (lw_at lw_m1 193 rfl) rfl
theorem q302 : (Jvm.Cond.lays "WiredNets$Small" "WiredNets$Small" "fewest" "I") ∈ lw_all := lw_g (lw_at lw_m1 194 rfl) rfl
theorem q303 : (Jvm.Cond.soleField "WiredNets$Small" "fewest") ∈ lw_all := lw_g (lw_at lw_m1 195 rfl) rfl
theorem q304 : (Jvm.Cond.lays "WiredNets$Small" "WiredNets$Small" "least" "I") ∈ lw_all := lw_g (lw_at lw_m1 196 rfl) rfl
theorem q305 : (Jvm.Cond.soleField "WiredNets$Small" "least") ∈ lw_all := lw_g (lw_at lw_m1 197 rfl) rfl
theorem q306 : (Jvm.Cond.laysFinal "WiredNets$Small" "WiredNets$Small" "turn" "[I") ∈ lw_all := lw_g (lw_at lw_m1 198 rfl) rfl
theorem q307 : (Jvm.Cond.soleField "WiredNets$Small" "turn") ∈ lw_all := lw_g (lw_at lw_m1 199 rfl) rfl
theorem q308 : (Jvm.Cond.laysFinal "WiredNets$Small" "WiredNets$Small" "image" "[I") ∈ lw_all := lw_g (lw_at lw_m1 200 rfl) rfl
theorem q309 : (Jvm.Cond.soleField "WiredNets$Small" "image") ∈ lw_all := lw_g (lw_at lw_m1 201 rfl) rfl
theorem q310 : (Jvm.Cond.lays "WiredNets$Small" "WiredNets$Small" "n" "I") ∈ lw_all := lw_g (lw_at lw_m1 202 rfl) rfl
theorem q311 : (Jvm.Cond.soleField "WiredNets$Small" "n") ∈ lw_all := lw_g (lw_at lw_m1 203 rfl) rfl
theorem q312 : (Jvm.Cond.superclass "WiredNets$Small" "java/lang/Object") ∈ lw_all := lw_g (lw_at lw_m1 204 rfl) rfl
theorem q1024 : (Jvm.Cond.instanceMethod ({ cls := "WiredNets$Small", name := "run", desc := "(III)I" } : Jvm.MethodName)) ∈ lw_all := lw_g (lw_at lw_m4 196 rfl) rfl
theorem q1025 : (Jvm.Cond.selects "WiredNets$Small" ({ cls := "WiredNets$Small", name := "run", desc := "(III)I" } : Jvm.MethodName) ({ cls := "WiredNets$Small", name := "run", desc := "(III)I" } : Jvm.MethodName)) ∈ lw_all := lw_g (lw_at lw_m4 197 rfl) rfl
theorem q1026 : (Jvm.Cond.code ({ cls := "WiredNets$Small", name := "run", desc := "(III)I" } : Jvm.MethodName) prog_11_method_3_code (6 : Nat) (Option.some Jvm.ClassFile.FieldType.int)) ∈ lw_all := lw_g (lw_at lw_m4 198 rfl) rfl
theorem q1027 : (Jvm.Cond.methodLink "WiredNets$Small" (89 : Nat) ({ cls := "WiredNets$Small", name := "fits", desc := "(III)Z" } : Jvm.MethodName)) ∈ lw_all := lw_g (lw_at lw_m4 199 rfl) rfl
theorem q1028 : (Jvm.Cond.privateMethod ({ cls := "WiredNets$Small", name := "fits", desc := "(III)Z" } : Jvm.MethodName)) ∈ lw_tbl := lw_at lw_m4 200 rfl
theorem q1029 : (Jvm.Cond.instanceMethod ({ cls := "WiredNets$Small", name := "fits", desc := "(III)Z" } : Jvm.MethodName)) ∈ lw_all := lw_g (lw_at lw_m4 201 rfl) rfl
theorem q1030 : (Jvm.Cond.code ({ cls := "WiredNets$Small", name := "fits", desc := "(III)Z" } : Jvm.MethodName) prog_11_method_2_code (5 : Nat) (Option.some Jvm.ClassFile.FieldType.boolean)) ∈ lw_all := lw_g (lw_at lw_m4 202 rfl) rfl
theorem q1031 : (Jvm.Cond.methodLink "WiredNets$Small" (61 : Nat) ({ cls := "WiredNets$Net", name := "set", desc := "(II)V" } : Jvm.MethodName)) ∈ lw_all := lw_g (lw_at lw_m4 203 rfl) rfl
theorem q1032 : (Jvm.Cond.methodLink "WiredNets$Small" (64 : Nat) ({ cls := "WiredNets$Net", name := "lines", desc := "(I)I" } : Jvm.MethodName)) ∈ lw_all := lw_g (lw_at lw_m4 204 rfl) rfl
theorem q1033 : (Jvm.Cond.methodLink "WiredNets$Small" (68 : Nat) ({ cls := "WiredNets$Net", name := "all", desc := "()I" } : Jvm.MethodName)) ∈ lw_all := lw_g (lw_at lw_m4 205 rfl) rfl
theorem q1034 : (Jvm.Cond.methodLink "WiredNets$Small" (72 : Nat) ({ cls := "WiredNets$Flood", name := "farthest", desc := "(LWiredNets$Net;I)I" } : Jvm.MethodName)) ∈ lw_all := lw_g (lw_at lw_m4 206 rfl) rfl
theorem q1035 : (Jvm.Cond.methodLink "WiredNets$Small" (76 : Nat) ({ cls := "java/lang/Math", name := "min", desc := "(II)I" } : Jvm.MethodName)) ∈ lw_all := lw_g (lw_at lw_m4 207 rfl) rfl
theorem q1036 : (Jvm.Cond.methodLink "WiredNets$Small" (93 : Nat) ({ cls := "java/lang/Integer", name := "bitCount", desc := "(I)I" } : Jvm.MethodName)) ∈ lw_all := lw_g (lw_at lw_m4 208 rfl) rfl
theorem q1037 : (Jvm.Cond.methodLink "WiredNets$Small" (98 : Nat) ({ cls := "WiredNets$Small", name := "strike", desc := "(III)V" } : Jvm.MethodName)) ∈ lw_all := lw_g (lw_at lw_m4 209 rfl) rfl
theorem q1038 : (Jvm.Cond.privateMethod ({ cls := "WiredNets$Small", name := "strike", desc := "(III)V" } : Jvm.MethodName)) ∈ lw_tbl := lw_at lw_m4 210 rfl
theorem q1039 : (Jvm.Cond.instanceMethod ({ cls := "WiredNets$Small", name := "strike", desc := "(III)V" } : Jvm.MethodName)) ∈ lw_all := lw_g (lw_at lw_m4 211 rfl) rfl
theorem q1040 : (Jvm.Cond.code ({ cls := "WiredNets$Small", name := "strike", desc := "(III)V" } : Jvm.MethodName) prog_11_method_5_code (6 : Nat) (Option.none : Option Jvm.ClassFile.FieldType)) ∈ lw_all := lw_g (lw_at lw_m4 212 rfl) rfl
theorem q1041 : (Jvm.Cond.methodLink "WiredNets$Small" (109 : Nat) ({ cls := "WiredNets$Small", name := "pair", desc := "(II)I" } : Jvm.MethodName)) ∈ lw_all := lw_g (lw_at lw_m4 213 rfl) rfl
theorem q1042 : (Jvm.Cond.privateMethod ({ cls := "WiredNets$Small", name := "pair", desc := "(II)I" } : Jvm.MethodName)) ∈ lw_tbl := lw_at lw_m4 214 rfl
theorem q1043 : (Jvm.Cond.instanceMethod ({ cls := "WiredNets$Small", name := "pair", desc := "(II)I" } : Jvm.MethodName)) ∈ lw_all := lw_g (lw_at lw_m4 215 rfl) rfl
theorem q1044 : (Jvm.Cond.code ({ cls := "WiredNets$Small", name := "pair", desc := "(II)I" } : Jvm.MethodName) prog_11_method_4_code (4 : Nat) (Option.some Jvm.ClassFile.FieldType.int)) ∈ lw_all := lw_g (lw_at lw_m4 216 rfl) rfl
theorem q1045 : (Jvm.Cond.methodLink "WiredNets$Small" (106 : Nat) ({ cls := "java/lang/Math", name := "max", desc := "(II)I" } : Jvm.MethodName)) ∈ lw_all := lw_g (lw_at lw_m4 217 rfl) rfl
theorem q1152 : (Jvm.Cond.selects "WiredNets$Small" ({ cls := "java/lang/Object", name := "getClass", desc := "()Ljava/lang/Class;" } : Jvm.MethodName) ({ cls := "java/lang/Object", name := "getClass", desc := "()Ljava/lang/Class;" } : Jvm.MethodName)) ∈ lw_all := lw_g (lw_at lw_m5 84 rfl) rfl
theorem q2174 : (Jvm.Cond.castable "WiredNets$Small" "java/lang/Object") ∈ lw_tbl := lw_at lw_m9 146 rfl
theorem in_X4 : ∀ w ∈ wsX40, w ∈ lw_all := lw_in wsX40 [284, 286, 288, 290, 292, 294, 296, 298, 300, 302, 304, 306, 308, 310] (by decide +kernel) (by decide +kernel)

/-! WiredNets$Net -/
set_option maxRecDepth 100000
def RX5 : String := "WiredNets$Net"
def TX5 : u_T := fun k => match k with
  | 0 => ("WiredNets$Net", "n", "I", false)
  | 1 => ("WiredNets$Net", "degree", "I", false)
  | _ => ("WiredNets$Net", "near", "[I", true)
def tyX5 : Nat → FieldType := fun k => match k with
  | 0 => .int
  | 1 => .int
  | _ => .array .int
abbrev wsX50 : List Cond := u_ws RX5 TX5 3
theorem nmX5 : ∀ a, a < 3 → ∀ b, b < 3 → a ≠ b → (TX5 a).2.1 ≠ (TX5 b).2.1 := by decide +kernel
theorem tyX5_ok : ∀ k, k < 3 → parseFieldDescriptor (TX5 k).2.2.1 = some (tyX5 k) := by decide +kernel
abbrev cX5_init : ByteArray := prog_6_method_1_code
def yX5_init : MethodName := ⟨RX5, "<init>", "(II)V"⟩
def dkwX5_init_0 : List UInt8 := [42, 183, 0, 3, 42, 16, 24, 188, 10, 181, 0, 9, 42, 27, 181, 0, 15, 42, 28, 181, 0, 19, 177]
abbrev dktX5_init_0 : List UInt8 := dkwX5_init_0 ++ []
theorem dksX5_init_0 : cX5_init.data.toList.drop 0 = dktX5_init_0 := by decide +kernel
theorem dX5_init_0 : decode cX5_init 0 = .ok (.aload_n 0, 1) := dk_42 (dk_at dksX5_init_0 0 rfl rfl)
theorem dX5_init_1 : decode cX5_init 1 = .ok (.invokespecial 3, 3) := dk_183 0 3 (dk_at dksX5_init_0 1 rfl rfl)
theorem dX5_init_4 : decode cX5_init 4 = .ok (.aload_n 0, 1) := dk_42 (dk_at dksX5_init_0 4 rfl rfl)
theorem dX5_init_5 : decode cX5_init 5 = .ok (.bipush 24, 2) := dk_16 24 (dk_at dksX5_init_0 5 rfl rfl)
theorem dX5_init_7 : decode cX5_init 7 = .ok (.newarray .int, 2) := dk_188_10 (dk_at dksX5_init_0 7 rfl rfl)
theorem dX5_init_9 : decode cX5_init 9 = .ok (.putfield 9, 3) := dk_181 0 9 (dk_at dksX5_init_0 9 rfl rfl)
theorem dX5_init_12 : decode cX5_init 12 = .ok (.aload_n 0, 1) := dk_42 (dk_at dksX5_init_0 12 rfl rfl)
theorem dX5_init_13 : decode cX5_init 13 = .ok (.iload_n 1, 1) := dk_27 (dk_at dksX5_init_0 13 rfl rfl)
theorem dX5_init_14 : decode cX5_init 14 = .ok (.putfield 15, 3) := dk_181 0 15 (dk_at dksX5_init_0 14 rfl rfl)
theorem dX5_init_17 : decode cX5_init 17 = .ok (.aload_n 0, 1) := dk_42 (dk_at dksX5_init_0 17 rfl rfl)
theorem dX5_init_18 : decode cX5_init 18 = .ok (.iload_n 2, 1) := dk_28 (dk_at dksX5_init_0 18 rfl rfl)
theorem dX5_init_19 : decode cX5_init 19 = .ok (.putfield 19, 3) := dk_181 0 19 (dk_at dksX5_init_0 19 rfl rfl)
theorem dX5_init_22 : decode cX5_init 22 = .ok (.return_, 1) := dk_177 (dk_at dksX5_init_0 22 rfl rfl)
abbrev cX5_can : ByteArray := prog_6_method_2_code
def yX5_can : MethodName := ⟨RX5, "can", "(II)Z"⟩
def dkwX5_can_1 : List UInt8 := [3, 172]
abbrev dktX5_can_1 : List UInt8 := dkwX5_can_1 ++ []
def dkwX5_can_0 : List UInt8 := [26, 4, 16, 24, 184, 0, 22, 153, 0, 17, 27, 4, 16, 8, 184, 0, 22, 153, 0, 7, 4, 167, 0, 4]
abbrev dktX5_can_0 : List UInt8 := dkwX5_can_0 ++ dktX5_can_1
theorem dksX5_can_0 : cX5_can.data.toList.drop 0 = dktX5_can_0 := by decide +kernel
theorem dksX5_can_1 : cX5_can.data.toList.drop 24 = dktX5_can_1 := dk_seg dksX5_can_0 24 rfl rfl
theorem dX5_can_0 : decode cX5_can 0 = .ok (.iload_n 0, 1) := dk_26 (dk_at dksX5_can_0 0 rfl rfl)
theorem dX5_can_1 : decode cX5_can 1 = .ok (.iconst 1, 1) := dk_4 (dk_at dksX5_can_0 1 rfl rfl)
theorem dX5_can_2 : decode cX5_can 2 = .ok (.bipush 24, 2) := dk_16 24 (dk_at dksX5_can_0 2 rfl rfl)
theorem dX5_can_4 : decode cX5_can 4 = .ok (.invokestatic 22, 3) := dk_184 0 22 (dk_at dksX5_can_0 4 rfl rfl)
theorem dX5_can_7 : decode cX5_can 7 = .ok (.ifCond .eq 17, 3) := dk_153 0 17 (dk_at dksX5_can_0 7 rfl rfl)
theorem dX5_can_10 : decode cX5_can 10 = .ok (.iload_n 1, 1) := dk_27 (dk_at dksX5_can_0 10 rfl rfl)
theorem dX5_can_11 : decode cX5_can 11 = .ok (.iconst 1, 1) := dk_4 (dk_at dksX5_can_0 11 rfl rfl)
theorem dX5_can_12 : decode cX5_can 12 = .ok (.bipush 8, 2) := dk_16 8 (dk_at dksX5_can_0 12 rfl rfl)
theorem dX5_can_14 : decode cX5_can 14 = .ok (.invokestatic 22, 3) := dk_184 0 22 (dk_at dksX5_can_0 14 rfl rfl)
theorem dX5_can_17 : decode cX5_can 17 = .ok (.ifCond .eq 7, 3) := dk_153 0 7 (dk_at dksX5_can_0 17 rfl rfl)
theorem dX5_can_20 : decode cX5_can 20 = .ok (.iconst 1, 1) := dk_4 (dk_at dksX5_can_0 20 rfl rfl)
theorem dX5_can_21 : decode cX5_can 21 = .ok (.goto 4, 3) := dk_167 0 4 (dk_at dksX5_can_0 21 rfl rfl)
theorem dX5_can_24 : decode cX5_can 24 = .ok (.iconst 0, 1) := dk_3 (dk_at dksX5_can_1 0 rfl rfl)
theorem dX5_can_25 : decode cX5_can 25 = .ok (.ireturn, 1) := dk_172 (dk_at dksX5_can_1 1 rfl rfl)
abbrev cX5_set : ByteArray := prog_6_method_6_code
def yX5_set : MethodName := ⟨RX5, "set", "(II)V"⟩
def dkwX5_set_1 : List UInt8 := [177]
abbrev dktX5_set_1 : List UInt8 := dkwX5_set_1 ++ []
def dkwX5_set_0 : List UInt8 := [42, 180, 0, 9, 27, 92, 46, 4, 28, 120, 128, 79, 42, 180, 0, 9, 28, 92, 46, 4, 27, 120, 128, 79]
abbrev dktX5_set_0 : List UInt8 := dkwX5_set_0 ++ dktX5_set_1
theorem dksX5_set_0 : cX5_set.data.toList.drop 0 = dktX5_set_0 := by decide +kernel
theorem dksX5_set_1 : cX5_set.data.toList.drop 24 = dktX5_set_1 := dk_seg dksX5_set_0 24 rfl rfl
theorem dX5_set_0 : decode cX5_set 0 = .ok (.aload_n 0, 1) := dk_42 (dk_at dksX5_set_0 0 rfl rfl)
theorem dX5_set_1 : decode cX5_set 1 = .ok (.getfield 9, 3) := dk_180 0 9 (dk_at dksX5_set_0 1 rfl rfl)
theorem dX5_set_4 : decode cX5_set 4 = .ok (.iload_n 1, 1) := dk_27 (dk_at dksX5_set_0 4 rfl rfl)
theorem dX5_set_5 : decode cX5_set 5 = .ok (.dup2, 1) := dk_92 (dk_at dksX5_set_0 5 rfl rfl)
theorem dX5_set_6 : decode cX5_set 6 = .ok (.iaload, 1) := dk_46 (dk_at dksX5_set_0 6 rfl rfl)
theorem dX5_set_7 : decode cX5_set 7 = .ok (.iconst 1, 1) := dk_4 (dk_at dksX5_set_0 7 rfl rfl)
theorem dX5_set_8 : decode cX5_set 8 = .ok (.iload_n 2, 1) := dk_28 (dk_at dksX5_set_0 8 rfl rfl)
theorem dX5_set_9 : decode cX5_set 9 = .ok (.ishl, 1) := dk_120 (dk_at dksX5_set_0 9 rfl rfl)
theorem dX5_set_10 : decode cX5_set 10 = .ok (.ior, 1) := dk_128 (dk_at dksX5_set_0 10 rfl rfl)
theorem dX5_set_11 : decode cX5_set 11 = .ok (.iastore, 1) := dk_79 (dk_at dksX5_set_0 11 rfl rfl)
theorem dX5_set_12 : decode cX5_set 12 = .ok (.aload_n 0, 1) := dk_42 (dk_at dksX5_set_0 12 rfl rfl)
theorem dX5_set_13 : decode cX5_set 13 = .ok (.getfield 9, 3) := dk_180 0 9 (dk_at dksX5_set_0 13 rfl rfl)
theorem dX5_set_16 : decode cX5_set 16 = .ok (.iload_n 2, 1) := dk_28 (dk_at dksX5_set_0 16 rfl rfl)
theorem dX5_set_17 : decode cX5_set 17 = .ok (.dup2, 1) := dk_92 (dk_at dksX5_set_0 17 rfl rfl)
theorem dX5_set_18 : decode cX5_set 18 = .ok (.iaload, 1) := dk_46 (dk_at dksX5_set_0 18 rfl rfl)
theorem dX5_set_19 : decode cX5_set 19 = .ok (.iconst 1, 1) := dk_4 (dk_at dksX5_set_0 19 rfl rfl)
theorem dX5_set_20 : decode cX5_set 20 = .ok (.iload_n 1, 1) := dk_27 (dk_at dksX5_set_0 20 rfl rfl)
theorem dX5_set_21 : decode cX5_set 21 = .ok (.ishl, 1) := dk_120 (dk_at dksX5_set_0 21 rfl rfl)
theorem dX5_set_22 : decode cX5_set 22 = .ok (.ior, 1) := dk_128 (dk_at dksX5_set_0 22 rfl rfl)
theorem dX5_set_23 : decode cX5_set 23 = .ok (.iastore, 1) := dk_79 (dk_at dksX5_set_0 23 rfl rfl)
theorem dX5_set_24 : decode cX5_set 24 = .ok (.return_, 1) := dk_177 (dk_at dksX5_set_1 0 rfl rfl)
abbrev cX5_mayJoin : ByteArray := prog_6_method_8_code
def yX5_mayJoin : MethodName := ⟨RX5, "mayJoin", "(II)Z"⟩
def dkwX5_mayJoin_1 : List UInt8 := [162, 0, 19, 42, 28, 182, 0, 39, 42, 180, 0, 19, 162, 0, 7, 4, 167, 0, 4, 3, 172]
abbrev dktX5_mayJoin_1 : List UInt8 := dkwX5_mayJoin_1 ++ []
def dkwX5_mayJoin_0 : List UInt8 := [27, 28, 159, 0, 40, 42, 27, 28, 182, 0, 35, 154, 0, 31, 42, 27, 182, 0, 39, 42, 180, 0, 19]
abbrev dktX5_mayJoin_0 : List UInt8 := dkwX5_mayJoin_0 ++ dktX5_mayJoin_1
theorem dksX5_mayJoin_0 : cX5_mayJoin.data.toList.drop 0 = dktX5_mayJoin_0 := by decide +kernel
theorem dksX5_mayJoin_1 : cX5_mayJoin.data.toList.drop 23 = dktX5_mayJoin_1 := dk_seg dksX5_mayJoin_0 23 rfl rfl
theorem dX5_mayJoin_0 : decode cX5_mayJoin 0 = .ok (.iload_n 1, 1) := dk_27 (dk_at dksX5_mayJoin_0 0 rfl rfl)
theorem dX5_mayJoin_1 : decode cX5_mayJoin 1 = .ok (.iload_n 2, 1) := dk_28 (dk_at dksX5_mayJoin_0 1 rfl rfl)
theorem dX5_mayJoin_2 : decode cX5_mayJoin 2 = .ok (.if_icmp .eq 40, 3) := dk_159 0 40 (dk_at dksX5_mayJoin_0 2 rfl rfl)
theorem dX5_mayJoin_5 : decode cX5_mayJoin 5 = .ok (.aload_n 0, 1) := dk_42 (dk_at dksX5_mayJoin_0 5 rfl rfl)
theorem dX5_mayJoin_6 : decode cX5_mayJoin 6 = .ok (.iload_n 1, 1) := dk_27 (dk_at dksX5_mayJoin_0 6 rfl rfl)
theorem dX5_mayJoin_7 : decode cX5_mayJoin 7 = .ok (.iload_n 2, 1) := dk_28 (dk_at dksX5_mayJoin_0 7 rfl rfl)
theorem dX5_mayJoin_8 : decode cX5_mayJoin 8 = .ok (.invokevirtual 35, 3) := dk_182 0 35 (dk_at dksX5_mayJoin_0 8 rfl rfl)
theorem dX5_mayJoin_11 : decode cX5_mayJoin 11 = .ok (.ifCond .ne 31, 3) := dk_154 0 31 (dk_at dksX5_mayJoin_0 11 rfl rfl)
theorem dX5_mayJoin_14 : decode cX5_mayJoin 14 = .ok (.aload_n 0, 1) := dk_42 (dk_at dksX5_mayJoin_0 14 rfl rfl)
theorem dX5_mayJoin_15 : decode cX5_mayJoin 15 = .ok (.iload_n 1, 1) := dk_27 (dk_at dksX5_mayJoin_0 15 rfl rfl)
theorem dX5_mayJoin_16 : decode cX5_mayJoin 16 = .ok (.invokevirtual 39, 3) := dk_182 0 39 (dk_at dksX5_mayJoin_0 16 rfl rfl)
theorem dX5_mayJoin_19 : decode cX5_mayJoin 19 = .ok (.aload_n 0, 1) := dk_42 (dk_at dksX5_mayJoin_0 19 rfl rfl)
theorem dX5_mayJoin_20 : decode cX5_mayJoin 20 = .ok (.getfield 19, 3) := dk_180 0 19 (dk_at dksX5_mayJoin_0 20 rfl rfl)
theorem dX5_mayJoin_23 : decode cX5_mayJoin 23 = .ok (.if_icmp .ge 19, 3) := dk_162 0 19 (dk_at dksX5_mayJoin_1 0 rfl rfl)
theorem dX5_mayJoin_26 : decode cX5_mayJoin 26 = .ok (.aload_n 0, 1) := dk_42 (dk_at dksX5_mayJoin_1 3 rfl rfl)
theorem dX5_mayJoin_27 : decode cX5_mayJoin 27 = .ok (.iload_n 2, 1) := dk_28 (dk_at dksX5_mayJoin_1 4 rfl rfl)
theorem dX5_mayJoin_28 : decode cX5_mayJoin 28 = .ok (.invokevirtual 39, 3) := dk_182 0 39 (dk_at dksX5_mayJoin_1 5 rfl rfl)
theorem dX5_mayJoin_31 : decode cX5_mayJoin 31 = .ok (.aload_n 0, 1) := dk_42 (dk_at dksX5_mayJoin_1 8 rfl rfl)
theorem dX5_mayJoin_32 : decode cX5_mayJoin 32 = .ok (.getfield 19, 3) := dk_180 0 19 (dk_at dksX5_mayJoin_1 9 rfl rfl)
theorem dX5_mayJoin_35 : decode cX5_mayJoin 35 = .ok (.if_icmp .ge 7, 3) := dk_162 0 7 (dk_at dksX5_mayJoin_1 12 rfl rfl)
theorem dX5_mayJoin_38 : decode cX5_mayJoin 38 = .ok (.iconst 1, 1) := dk_4 (dk_at dksX5_mayJoin_1 15 rfl rfl)
theorem dX5_mayJoin_39 : decode cX5_mayJoin 39 = .ok (.goto 4, 3) := dk_167 0 4 (dk_at dksX5_mayJoin_1 16 rfl rfl)
theorem dX5_mayJoin_42 : decode cX5_mayJoin 42 = .ok (.iconst 0, 1) := dk_3 (dk_at dksX5_mayJoin_1 19 rfl rfl)
theorem dX5_mayJoin_43 : decode cX5_mayJoin 43 = .ok (.ireturn, 1) := dk_172 (dk_at dksX5_mayJoin_1 20 rfl rfl)
abbrev cX5_has : ByteArray := prog_6_method_4_code
def yX5_has : MethodName := ⟨RX5, "has", "(II)Z"⟩
def dkwX5_has_0 : List UInt8 := [42, 180, 0, 9, 27, 46, 28, 122, 4, 126, 4, 160, 0, 7, 4, 167, 0, 4, 3, 172]
abbrev dktX5_has_0 : List UInt8 := dkwX5_has_0 ++ []
theorem dksX5_has_0 : cX5_has.data.toList.drop 0 = dktX5_has_0 := by decide +kernel
theorem dX5_has_0 : decode cX5_has 0 = .ok (.aload_n 0, 1) := dk_42 (dk_at dksX5_has_0 0 rfl rfl)
theorem dX5_has_1 : decode cX5_has 1 = .ok (.getfield 9, 3) := dk_180 0 9 (dk_at dksX5_has_0 1 rfl rfl)
theorem dX5_has_4 : decode cX5_has 4 = .ok (.iload_n 1, 1) := dk_27 (dk_at dksX5_has_0 4 rfl rfl)
theorem dX5_has_5 : decode cX5_has 5 = .ok (.iaload, 1) := dk_46 (dk_at dksX5_has_0 5 rfl rfl)
theorem dX5_has_6 : decode cX5_has 6 = .ok (.iload_n 2, 1) := dk_28 (dk_at dksX5_has_0 6 rfl rfl)
theorem dX5_has_7 : decode cX5_has 7 = .ok (.ishr, 1) := dk_122 (dk_at dksX5_has_0 7 rfl rfl)
theorem dX5_has_8 : decode cX5_has 8 = .ok (.iconst 1, 1) := dk_4 (dk_at dksX5_has_0 8 rfl rfl)
theorem dX5_has_9 : decode cX5_has 9 = .ok (.iand, 1) := dk_126 (dk_at dksX5_has_0 9 rfl rfl)
theorem dX5_has_10 : decode cX5_has 10 = .ok (.iconst 1, 1) := dk_4 (dk_at dksX5_has_0 10 rfl rfl)
theorem dX5_has_11 : decode cX5_has 11 = .ok (.if_icmp .ne 7, 3) := dk_160 0 7 (dk_at dksX5_has_0 11 rfl rfl)
theorem dX5_has_14 : decode cX5_has 14 = .ok (.iconst 1, 1) := dk_4 (dk_at dksX5_has_0 14 rfl rfl)
theorem dX5_has_15 : decode cX5_has 15 = .ok (.goto 4, 3) := dk_167 0 4 (dk_at dksX5_has_0 15 rfl rfl)
theorem dX5_has_18 : decode cX5_has 18 = .ok (.iconst 0, 1) := dk_3 (dk_at dksX5_has_0 18 rfl rfl)
theorem dX5_has_19 : decode cX5_has 19 = .ok (.ireturn, 1) := dk_172 (dk_at dksX5_has_0 19 rfl rfl)
abbrev cX5_lines : ByteArray := prog_6_method_5_code
def yX5_lines : MethodName := ⟨RX5, "lines", "(I)I"⟩
def dkwX5_lines_0 : List UInt8 := [42, 180, 0, 9, 27, 46, 184, 0, 29, 172]
abbrev dktX5_lines_0 : List UInt8 := dkwX5_lines_0 ++ []
theorem dksX5_lines_0 : cX5_lines.data.toList.drop 0 = dktX5_lines_0 := by decide +kernel
theorem dX5_lines_0 : decode cX5_lines 0 = .ok (.aload_n 0, 1) := dk_42 (dk_at dksX5_lines_0 0 rfl rfl)
theorem dX5_lines_1 : decode cX5_lines 1 = .ok (.getfield 9, 3) := dk_180 0 9 (dk_at dksX5_lines_0 1 rfl rfl)
theorem dX5_lines_4 : decode cX5_lines 4 = .ok (.iload_n 1, 1) := dk_27 (dk_at dksX5_lines_0 4 rfl rfl)
theorem dX5_lines_5 : decode cX5_lines 5 = .ok (.iaload, 1) := dk_46 (dk_at dksX5_lines_0 5 rfl rfl)
theorem dX5_lines_6 : decode cX5_lines 6 = .ok (.invokestatic 29, 3) := dk_184 0 29 (dk_at dksX5_lines_0 6 rfl rfl)
theorem dX5_lines_9 : decode cX5_lines 9 = .ok (.ireturn, 1) := dk_172 (dk_at dksX5_lines_0 9 rfl rfl)
abbrev cX5_clear : ByteArray := prog_6_method_7_code
def yX5_clear : MethodName := ⟨RX5, "clear", "(II)V"⟩
def dkwX5_clear_1 : List UInt8 := [2, 130, 126, 79, 177]
abbrev dktX5_clear_1 : List UInt8 := dkwX5_clear_1 ++ []
def dkwX5_clear_0 : List UInt8 := [42, 180, 0, 9, 27, 92, 46, 4, 28, 120, 2, 130, 126, 79, 42, 180, 0, 9, 28, 92, 46, 4, 27, 120]
abbrev dktX5_clear_0 : List UInt8 := dkwX5_clear_0 ++ dktX5_clear_1
theorem dksX5_clear_0 : cX5_clear.data.toList.drop 0 = dktX5_clear_0 := by decide +kernel
theorem dksX5_clear_1 : cX5_clear.data.toList.drop 24 = dktX5_clear_1 := dk_seg dksX5_clear_0 24 rfl rfl
theorem dX5_clear_0 : decode cX5_clear 0 = .ok (.aload_n 0, 1) := dk_42 (dk_at dksX5_clear_0 0 rfl rfl)
theorem dX5_clear_1 : decode cX5_clear 1 = .ok (.getfield 9, 3) := dk_180 0 9 (dk_at dksX5_clear_0 1 rfl rfl)
theorem dX5_clear_4 : decode cX5_clear 4 = .ok (.iload_n 1, 1) := dk_27 (dk_at dksX5_clear_0 4 rfl rfl)
theorem dX5_clear_5 : decode cX5_clear 5 = .ok (.dup2, 1) := dk_92 (dk_at dksX5_clear_0 5 rfl rfl)
theorem dX5_clear_6 : decode cX5_clear 6 = .ok (.iaload, 1) := dk_46 (dk_at dksX5_clear_0 6 rfl rfl)
theorem dX5_clear_7 : decode cX5_clear 7 = .ok (.iconst 1, 1) := dk_4 (dk_at dksX5_clear_0 7 rfl rfl)
theorem dX5_clear_8 : decode cX5_clear 8 = .ok (.iload_n 2, 1) := dk_28 (dk_at dksX5_clear_0 8 rfl rfl)
theorem dX5_clear_9 : decode cX5_clear 9 = .ok (.ishl, 1) := dk_120 (dk_at dksX5_clear_0 9 rfl rfl)
theorem dX5_clear_10 : decode cX5_clear 10 = .ok (.iconst (-1), 1) := dk_2 (dk_at dksX5_clear_0 10 rfl rfl)
theorem dX5_clear_11 : decode cX5_clear 11 = .ok (.ixor, 1) := dk_130 (dk_at dksX5_clear_0 11 rfl rfl)
theorem dX5_clear_12 : decode cX5_clear 12 = .ok (.iand, 1) := dk_126 (dk_at dksX5_clear_0 12 rfl rfl)
theorem dX5_clear_13 : decode cX5_clear 13 = .ok (.iastore, 1) := dk_79 (dk_at dksX5_clear_0 13 rfl rfl)
theorem dX5_clear_14 : decode cX5_clear 14 = .ok (.aload_n 0, 1) := dk_42 (dk_at dksX5_clear_0 14 rfl rfl)
theorem dX5_clear_15 : decode cX5_clear 15 = .ok (.getfield 9, 3) := dk_180 0 9 (dk_at dksX5_clear_0 15 rfl rfl)
theorem dX5_clear_18 : decode cX5_clear 18 = .ok (.iload_n 2, 1) := dk_28 (dk_at dksX5_clear_0 18 rfl rfl)
theorem dX5_clear_19 : decode cX5_clear 19 = .ok (.dup2, 1) := dk_92 (dk_at dksX5_clear_0 19 rfl rfl)
theorem dX5_clear_20 : decode cX5_clear 20 = .ok (.iaload, 1) := dk_46 (dk_at dksX5_clear_0 20 rfl rfl)
theorem dX5_clear_21 : decode cX5_clear 21 = .ok (.iconst 1, 1) := dk_4 (dk_at dksX5_clear_0 21 rfl rfl)
theorem dX5_clear_22 : decode cX5_clear 22 = .ok (.iload_n 1, 1) := dk_27 (dk_at dksX5_clear_0 22 rfl rfl)
theorem dX5_clear_23 : decode cX5_clear 23 = .ok (.ishl, 1) := dk_120 (dk_at dksX5_clear_0 23 rfl rfl)
theorem dX5_clear_24 : decode cX5_clear 24 = .ok (.iconst (-1), 1) := dk_2 (dk_at dksX5_clear_1 0 rfl rfl)
theorem dX5_clear_25 : decode cX5_clear 25 = .ok (.ixor, 1) := dk_130 (dk_at dksX5_clear_1 1 rfl rfl)
theorem dX5_clear_26 : decode cX5_clear 26 = .ok (.iand, 1) := dk_126 (dk_at dksX5_clear_1 2 rfl rfl)
theorem dX5_clear_27 : decode cX5_clear 27 = .ok (.iastore, 1) := dk_79 (dk_at dksX5_clear_1 3 rfl rfl)
theorem dX5_clear_28 : decode cX5_clear 28 = .ok (.return_, 1) := dk_177 (dk_at dksX5_clear_1 4 rfl rfl)
abbrev cX5_copy : ByteArray := prog_6_method_3_code
def yX5_copy : MethodName := ⟨RX5, "copy", "()LWiredNets$Net;"⟩
def dkwX5_copy_1 : List UInt8 := [162, 0, 21, 43, 180, 0, 9, 28, 42, 180, 0, 9, 28, 46, 79, 132, 2, 1, 167, 255, 233, 43, 176]
abbrev dktX5_copy_1 : List UInt8 := dkwX5_copy_1 ++ []
def dkwX5_copy_0 : List UInt8 := [187, 0, 10, 89, 42, 180, 0, 15, 42, 180, 0, 19, 183, 0, 26, 76, 3, 61, 28, 42, 180, 0, 15]
abbrev dktX5_copy_0 : List UInt8 := dkwX5_copy_0 ++ dktX5_copy_1
theorem dksX5_copy_0 : cX5_copy.data.toList.drop 0 = dktX5_copy_0 := by decide +kernel
theorem dksX5_copy_1 : cX5_copy.data.toList.drop 23 = dktX5_copy_1 := dk_seg dksX5_copy_0 23 rfl rfl
theorem dX5_copy_0 : decode cX5_copy 0 = .ok (.new 10, 3) := dk_187 0 10 (dk_at dksX5_copy_0 0 rfl rfl)
theorem dX5_copy_3 : decode cX5_copy 3 = .ok (.dup, 1) := dk_89 (dk_at dksX5_copy_0 3 rfl rfl)
theorem dX5_copy_4 : decode cX5_copy 4 = .ok (.aload_n 0, 1) := dk_42 (dk_at dksX5_copy_0 4 rfl rfl)
theorem dX5_copy_5 : decode cX5_copy 5 = .ok (.getfield 15, 3) := dk_180 0 15 (dk_at dksX5_copy_0 5 rfl rfl)
theorem dX5_copy_8 : decode cX5_copy 8 = .ok (.aload_n 0, 1) := dk_42 (dk_at dksX5_copy_0 8 rfl rfl)
theorem dX5_copy_9 : decode cX5_copy 9 = .ok (.getfield 19, 3) := dk_180 0 19 (dk_at dksX5_copy_0 9 rfl rfl)
theorem dX5_copy_12 : decode cX5_copy 12 = .ok (.invokespecial 26, 3) := dk_183 0 26 (dk_at dksX5_copy_0 12 rfl rfl)
theorem dX5_copy_15 : decode cX5_copy 15 = .ok (.astore_n 1, 1) := dk_76 (dk_at dksX5_copy_0 15 rfl rfl)
theorem dX5_copy_16 : decode cX5_copy 16 = .ok (.iconst 0, 1) := dk_3 (dk_at dksX5_copy_0 16 rfl rfl)
theorem dX5_copy_17 : decode cX5_copy 17 = .ok (.istore_n 2, 1) := dk_61 (dk_at dksX5_copy_0 17 rfl rfl)
theorem dX5_copy_18 : decode cX5_copy 18 = .ok (.iload_n 2, 1) := dk_28 (dk_at dksX5_copy_0 18 rfl rfl)
theorem dX5_copy_19 : decode cX5_copy 19 = .ok (.aload_n 0, 1) := dk_42 (dk_at dksX5_copy_0 19 rfl rfl)
theorem dX5_copy_20 : decode cX5_copy 20 = .ok (.getfield 15, 3) := dk_180 0 15 (dk_at dksX5_copy_0 20 rfl rfl)
theorem dX5_copy_23 : decode cX5_copy 23 = .ok (.if_icmp .ge 21, 3) := dk_162 0 21 (dk_at dksX5_copy_1 0 rfl rfl)
theorem dX5_copy_26 : decode cX5_copy 26 = .ok (.aload_n 1, 1) := dk_43 (dk_at dksX5_copy_1 3 rfl rfl)
theorem dX5_copy_27 : decode cX5_copy 27 = .ok (.getfield 9, 3) := dk_180 0 9 (dk_at dksX5_copy_1 4 rfl rfl)
theorem dX5_copy_30 : decode cX5_copy 30 = .ok (.iload_n 2, 1) := dk_28 (dk_at dksX5_copy_1 7 rfl rfl)
theorem dX5_copy_31 : decode cX5_copy 31 = .ok (.aload_n 0, 1) := dk_42 (dk_at dksX5_copy_1 8 rfl rfl)
theorem dX5_copy_32 : decode cX5_copy 32 = .ok (.getfield 9, 3) := dk_180 0 9 (dk_at dksX5_copy_1 9 rfl rfl)
theorem dX5_copy_35 : decode cX5_copy 35 = .ok (.iload_n 2, 1) := dk_28 (dk_at dksX5_copy_1 12 rfl rfl)
theorem dX5_copy_36 : decode cX5_copy 36 = .ok (.iaload, 1) := dk_46 (dk_at dksX5_copy_1 13 rfl rfl)
theorem dX5_copy_37 : decode cX5_copy 37 = .ok (.iastore, 1) := dk_79 (dk_at dksX5_copy_1 14 rfl rfl)
theorem dX5_copy_38 : decode cX5_copy 38 = .ok (.iinc 2 1, 3) := dk_132 2 1 (dk_at dksX5_copy_1 15 rfl rfl)
theorem dX5_copy_41 : decode cX5_copy 41 = .ok (.goto (-23), 3) := dk_167 255 233 (dk_at dksX5_copy_1 18 rfl rfl)
theorem dX5_copy_44 : decode cX5_copy 44 = .ok (.aload_n 1, 1) := dk_43 (dk_at dksX5_copy_1 21 rfl rfl)
theorem dX5_copy_45 : decode cX5_copy 45 = .ok (.areturn, 1) := dk_176 (dk_at dksX5_copy_1 22 rfl rfl)
abbrev cX5_count : ByteArray := prog_6_method_9_code
def yX5_count : MethodName := ⟨RX5, "count", "()I"⟩
def dkwX5_count_1 : List UInt8 := [167, 255, 237, 27, 5, 108, 172]
abbrev dktX5_count_1 : List UInt8 := dkwX5_count_1 ++ []
def dkwX5_count_0 : List UInt8 := [3, 60, 3, 61, 28, 42, 180, 0, 15, 162, 0, 17, 27, 42, 28, 182, 0, 39, 96, 60, 132, 2, 1]
abbrev dktX5_count_0 : List UInt8 := dkwX5_count_0 ++ dktX5_count_1
theorem dksX5_count_0 : cX5_count.data.toList.drop 0 = dktX5_count_0 := by decide +kernel
theorem dksX5_count_1 : cX5_count.data.toList.drop 23 = dktX5_count_1 := dk_seg dksX5_count_0 23 rfl rfl
theorem dX5_count_0 : decode cX5_count 0 = .ok (.iconst 0, 1) := dk_3 (dk_at dksX5_count_0 0 rfl rfl)
theorem dX5_count_1 : decode cX5_count 1 = .ok (.istore_n 1, 1) := dk_60 (dk_at dksX5_count_0 1 rfl rfl)
theorem dX5_count_2 : decode cX5_count 2 = .ok (.iconst 0, 1) := dk_3 (dk_at dksX5_count_0 2 rfl rfl)
theorem dX5_count_3 : decode cX5_count 3 = .ok (.istore_n 2, 1) := dk_61 (dk_at dksX5_count_0 3 rfl rfl)
theorem dX5_count_4 : decode cX5_count 4 = .ok (.iload_n 2, 1) := dk_28 (dk_at dksX5_count_0 4 rfl rfl)
theorem dX5_count_5 : decode cX5_count 5 = .ok (.aload_n 0, 1) := dk_42 (dk_at dksX5_count_0 5 rfl rfl)
theorem dX5_count_6 : decode cX5_count 6 = .ok (.getfield 15, 3) := dk_180 0 15 (dk_at dksX5_count_0 6 rfl rfl)
theorem dX5_count_9 : decode cX5_count 9 = .ok (.if_icmp .ge 17, 3) := dk_162 0 17 (dk_at dksX5_count_0 9 rfl rfl)
theorem dX5_count_12 : decode cX5_count 12 = .ok (.iload_n 1, 1) := dk_27 (dk_at dksX5_count_0 12 rfl rfl)
theorem dX5_count_13 : decode cX5_count 13 = .ok (.aload_n 0, 1) := dk_42 (dk_at dksX5_count_0 13 rfl rfl)
theorem dX5_count_14 : decode cX5_count 14 = .ok (.iload_n 2, 1) := dk_28 (dk_at dksX5_count_0 14 rfl rfl)
theorem dX5_count_15 : decode cX5_count 15 = .ok (.invokevirtual 39, 3) := dk_182 0 39 (dk_at dksX5_count_0 15 rfl rfl)
theorem dX5_count_18 : decode cX5_count 18 = .ok (.iadd, 1) := dk_96 (dk_at dksX5_count_0 18 rfl rfl)
theorem dX5_count_19 : decode cX5_count 19 = .ok (.istore_n 1, 1) := dk_60 (dk_at dksX5_count_0 19 rfl rfl)
theorem dX5_count_20 : decode cX5_count 20 = .ok (.iinc 2 1, 3) := dk_132 2 1 (dk_at dksX5_count_0 20 rfl rfl)
theorem dX5_count_23 : decode cX5_count 23 = .ok (.goto (-19), 3) := dk_167 255 237 (dk_at dksX5_count_1 0 rfl rfl)
theorem dX5_count_26 : decode cX5_count 26 = .ok (.iload_n 1, 1) := dk_27 (dk_at dksX5_count_1 3 rfl rfl)
theorem dX5_count_27 : decode cX5_count 27 = .ok (.iconst 2, 1) := dk_5 (dk_at dksX5_count_1 4 rfl rfl)
theorem dX5_count_28 : decode cX5_count 28 = .ok (.idiv, 1) := dk_108 (dk_at dksX5_count_1 5 rfl rfl)
theorem dX5_count_29 : decode cX5_count 29 = .ok (.ireturn, 1) := dk_172 (dk_at dksX5_count_1 6 rfl rfl)
abbrev cX5_row : ByteArray := prog_6_method_11_code
def yX5_row : MethodName := ⟨RX5, "row", "()[I"⟩
def dkwX5_row_0 : List UInt8 := [42, 182, 0, 42, 188, 10, 76, 42, 43, 182, 0, 46, 43, 176]
abbrev dktX5_row_0 : List UInt8 := dkwX5_row_0 ++ []
theorem dksX5_row_0 : cX5_row.data.toList.drop 0 = dktX5_row_0 := by decide +kernel
theorem dX5_row_0 : decode cX5_row 0 = .ok (.aload_n 0, 1) := dk_42 (dk_at dksX5_row_0 0 rfl rfl)
theorem dX5_row_1 : decode cX5_row 1 = .ok (.invokevirtual 42, 3) := dk_182 0 42 (dk_at dksX5_row_0 1 rfl rfl)
theorem dX5_row_4 : decode cX5_row 4 = .ok (.newarray .int, 2) := dk_188_10 (dk_at dksX5_row_0 4 rfl rfl)
theorem dX5_row_6 : decode cX5_row 6 = .ok (.astore_n 1, 1) := dk_76 (dk_at dksX5_row_0 6 rfl rfl)
theorem dX5_row_7 : decode cX5_row 7 = .ok (.aload_n 0, 1) := dk_42 (dk_at dksX5_row_0 7 rfl rfl)
theorem dX5_row_8 : decode cX5_row 8 = .ok (.aload_n 1, 1) := dk_43 (dk_at dksX5_row_0 8 rfl rfl)
theorem dX5_row_9 : decode cX5_row 9 = .ok (.invokevirtual 46, 3) := dk_182 0 46 (dk_at dksX5_row_0 9 rfl rfl)
theorem dX5_row_12 : decode cX5_row 12 = .ok (.aload_n 1, 1) := dk_43 (dk_at dksX5_row_0 12 rfl rfl)
theorem dX5_row_13 : decode cX5_row 13 = .ok (.areturn, 1) := dk_176 (dk_at dksX5_row_0 13 rfl rfl)
abbrev cX5_tellRow : ByteArray := prog_6_method_12_code
def yX5_tellRow : MethodName := ⟨RX5, "tellRow", "([I)V"⟩
def dkwX5_tellRow_2 : List UInt8 := [96, 79, 132, 2, 1, 132, 4, 1, 167, 255, 218, 132, 3, 1, 167, 255, 199, 177]
abbrev dktX5_tellRow_2 : List UInt8 := dkwX5_tellRow_2 ++ []
def dkwX5_tellRow_1 : List UInt8 := [162, 0, 35, 42, 29, 21, 4, 182, 0, 35, 154, 0, 6, 167, 0, 16, 43, 28, 16, 32, 29, 104, 21, 4]
abbrev dktX5_tellRow_1 : List UInt8 := dkwX5_tellRow_1 ++ dktX5_tellRow_2
def dkwX5_tellRow_0 : List UInt8 := [3, 61, 3, 62, 29, 42, 180, 0, 15, 162, 0, 55, 29, 4, 96, 54, 4, 21, 4, 42, 180, 0, 15]
abbrev dktX5_tellRow_0 : List UInt8 := dkwX5_tellRow_0 ++ dktX5_tellRow_1
theorem dksX5_tellRow_0 : cX5_tellRow.data.toList.drop 0 = dktX5_tellRow_0 := by decide +kernel
theorem dksX5_tellRow_1 : cX5_tellRow.data.toList.drop 23 = dktX5_tellRow_1 := dk_seg dksX5_tellRow_0 23 rfl rfl
theorem dksX5_tellRow_2 : cX5_tellRow.data.toList.drop 47 = dktX5_tellRow_2 := dk_seg dksX5_tellRow_1 24 rfl rfl
theorem dX5_tellRow_0 : decode cX5_tellRow 0 = .ok (.iconst 0, 1) := dk_3 (dk_at dksX5_tellRow_0 0 rfl rfl)
theorem dX5_tellRow_1 : decode cX5_tellRow 1 = .ok (.istore_n 2, 1) := dk_61 (dk_at dksX5_tellRow_0 1 rfl rfl)
theorem dX5_tellRow_2 : decode cX5_tellRow 2 = .ok (.iconst 0, 1) := dk_3 (dk_at dksX5_tellRow_0 2 rfl rfl)
theorem dX5_tellRow_3 : decode cX5_tellRow 3 = .ok (.istore_n 3, 1) := dk_62 (dk_at dksX5_tellRow_0 3 rfl rfl)
theorem dX5_tellRow_4 : decode cX5_tellRow 4 = .ok (.iload_n 3, 1) := dk_29 (dk_at dksX5_tellRow_0 4 rfl rfl)
theorem dX5_tellRow_5 : decode cX5_tellRow 5 = .ok (.aload_n 0, 1) := dk_42 (dk_at dksX5_tellRow_0 5 rfl rfl)
theorem dX5_tellRow_6 : decode cX5_tellRow 6 = .ok (.getfield 15, 3) := dk_180 0 15 (dk_at dksX5_tellRow_0 6 rfl rfl)
theorem dX5_tellRow_9 : decode cX5_tellRow 9 = .ok (.if_icmp .ge 55, 3) := dk_162 0 55 (dk_at dksX5_tellRow_0 9 rfl rfl)
theorem dX5_tellRow_12 : decode cX5_tellRow 12 = .ok (.iload_n 3, 1) := dk_29 (dk_at dksX5_tellRow_0 12 rfl rfl)
theorem dX5_tellRow_13 : decode cX5_tellRow 13 = .ok (.iconst 1, 1) := dk_4 (dk_at dksX5_tellRow_0 13 rfl rfl)
theorem dX5_tellRow_14 : decode cX5_tellRow 14 = .ok (.iadd, 1) := dk_96 (dk_at dksX5_tellRow_0 14 rfl rfl)
theorem dX5_tellRow_15 : decode cX5_tellRow 15 = .ok (.istore 4, 2) := dk_54 4 (dk_at dksX5_tellRow_0 15 rfl rfl)
theorem dX5_tellRow_17 : decode cX5_tellRow 17 = .ok (.iload 4, 2) := dk_21 4 (dk_at dksX5_tellRow_0 17 rfl rfl)
theorem dX5_tellRow_19 : decode cX5_tellRow 19 = .ok (.aload_n 0, 1) := dk_42 (dk_at dksX5_tellRow_0 19 rfl rfl)
theorem dX5_tellRow_20 : decode cX5_tellRow 20 = .ok (.getfield 15, 3) := dk_180 0 15 (dk_at dksX5_tellRow_0 20 rfl rfl)
theorem dX5_tellRow_23 : decode cX5_tellRow 23 = .ok (.if_icmp .ge 35, 3) := dk_162 0 35 (dk_at dksX5_tellRow_1 0 rfl rfl)
theorem dX5_tellRow_26 : decode cX5_tellRow 26 = .ok (.aload_n 0, 1) := dk_42 (dk_at dksX5_tellRow_1 3 rfl rfl)
theorem dX5_tellRow_27 : decode cX5_tellRow 27 = .ok (.iload_n 3, 1) := dk_29 (dk_at dksX5_tellRow_1 4 rfl rfl)
theorem dX5_tellRow_28 : decode cX5_tellRow 28 = .ok (.iload 4, 2) := dk_21 4 (dk_at dksX5_tellRow_1 5 rfl rfl)
theorem dX5_tellRow_30 : decode cX5_tellRow 30 = .ok (.invokevirtual 35, 3) := dk_182 0 35 (dk_at dksX5_tellRow_1 7 rfl rfl)
theorem dX5_tellRow_33 : decode cX5_tellRow 33 = .ok (.ifCond .ne 6, 3) := dk_154 0 6 (dk_at dksX5_tellRow_1 10 rfl rfl)
theorem dX5_tellRow_36 : decode cX5_tellRow 36 = .ok (.goto 16, 3) := dk_167 0 16 (dk_at dksX5_tellRow_1 13 rfl rfl)
theorem dX5_tellRow_39 : decode cX5_tellRow 39 = .ok (.aload_n 1, 1) := dk_43 (dk_at dksX5_tellRow_1 16 rfl rfl)
theorem dX5_tellRow_40 : decode cX5_tellRow 40 = .ok (.iload_n 2, 1) := dk_28 (dk_at dksX5_tellRow_1 17 rfl rfl)
theorem dX5_tellRow_41 : decode cX5_tellRow 41 = .ok (.bipush 32, 2) := dk_16 32 (dk_at dksX5_tellRow_1 18 rfl rfl)
theorem dX5_tellRow_43 : decode cX5_tellRow 43 = .ok (.iload_n 3, 1) := dk_29 (dk_at dksX5_tellRow_1 20 rfl rfl)
theorem dX5_tellRow_44 : decode cX5_tellRow 44 = .ok (.imul, 1) := dk_104 (dk_at dksX5_tellRow_1 21 rfl rfl)
theorem dX5_tellRow_45 : decode cX5_tellRow 45 = .ok (.iload 4, 2) := dk_21 4 (dk_at dksX5_tellRow_1 22 rfl rfl)
theorem dX5_tellRow_47 : decode cX5_tellRow 47 = .ok (.iadd, 1) := dk_96 (dk_at dksX5_tellRow_2 0 rfl rfl)
theorem dX5_tellRow_48 : decode cX5_tellRow 48 = .ok (.iastore, 1) := dk_79 (dk_at dksX5_tellRow_2 1 rfl rfl)
theorem dX5_tellRow_49 : decode cX5_tellRow 49 = .ok (.iinc 2 1, 3) := dk_132 2 1 (dk_at dksX5_tellRow_2 2 rfl rfl)
theorem dX5_tellRow_52 : decode cX5_tellRow 52 = .ok (.iinc 4 1, 3) := dk_132 4 1 (dk_at dksX5_tellRow_2 5 rfl rfl)
theorem dX5_tellRow_55 : decode cX5_tellRow 55 = .ok (.goto (-38), 3) := dk_167 255 218 (dk_at dksX5_tellRow_2 8 rfl rfl)
theorem dX5_tellRow_58 : decode cX5_tellRow 58 = .ok (.iinc 3 1, 3) := dk_132 3 1 (dk_at dksX5_tellRow_2 11 rfl rfl)
theorem dX5_tellRow_61 : decode cX5_tellRow 61 = .ok (.goto (-57), 3) := dk_167 255 199 (dk_at dksX5_tellRow_2 14 rfl rfl)
theorem dX5_tellRow_64 : decode cX5_tellRow 64 = .ok (.return_, 1) := dk_177 (dk_at dksX5_tellRow_2 17 rfl rfl)
abbrev cX5_all : ByteArray := prog_6_method_10_code
def yX5_all : MethodName := ⟨RX5, "all", "()I"⟩
def dkwX5_all_0 : List UInt8 := [4, 42, 180, 0, 15, 120, 4, 100, 172]
abbrev dktX5_all_0 : List UInt8 := dkwX5_all_0 ++ []
theorem dksX5_all_0 : cX5_all.data.toList.drop 0 = dktX5_all_0 := by decide +kernel
theorem dX5_all_0 : decode cX5_all 0 = .ok (.iconst 1, 1) := dk_4 (dk_at dksX5_all_0 0 rfl rfl)
theorem dX5_all_1 : decode cX5_all 1 = .ok (.aload_n 0, 1) := dk_42 (dk_at dksX5_all_0 1 rfl rfl)
theorem dX5_all_2 : decode cX5_all 2 = .ok (.getfield 15, 3) := dk_180 0 15 (dk_at dksX5_all_0 2 rfl rfl)
theorem dX5_all_5 : decode cX5_all 5 = .ok (.ishl, 1) := dk_120 (dk_at dksX5_all_0 5 rfl rfl)
theorem dX5_all_6 : decode cX5_all 6 = .ok (.iconst 1, 1) := dk_4 (dk_at dksX5_all_0 6 rfl rfl)
theorem dX5_all_7 : decode cX5_all 7 = .ok (.isub, 1) := dk_100 (dk_at dksX5_all_0 7 rfl rfl)
theorem dX5_all_8 : decode cX5_all 8 = .ok (.ireturn, 1) := dk_172 (dk_at dksX5_all_0 8 rfl rfl)
theorem q116 : (Jvm.Cond.initialized "WiredNets$Net") ∈ lw_all := lw_g (lw_at lw_m1 8 rfl) rfl
theorem q232 : (Jvm.Cond.instantiable "WiredNets$Net" (3 : Nat)) ∈ lw_all := lw_g (lw_at lw_m1 124 rfl) rfl
theorem q234 : (Jvm.Cond.instanceMethod ({ cls := "WiredNets$Net", name := "<init>", desc := "(II)V" } : Jvm.MethodName)) ∈ lw_all := lw_g (lw_at lw_m1 126 rfl) rfl
theorem q235 : (Jvm.Cond.code ({ cls := "WiredNets$Net", name := "<init>", desc := "(II)V" } : Jvm.MethodName) prog_6_method_1_code (3 : Nat) (Option.none : Option Jvm.ClassFile.FieldType)) ∈ lw_all := lw_g (lw_at lw_m1 127 rfl) rfl
theorem q236 : (Jvm.Cond.methodLink "WiredNets$Net" (3 : Nat) ({ cls := "java/lang/Object", name := "<init>", desc := "()V" } : Jvm.MethodName)) ∈ lw_all := lw_g (lw_at lw_m1 128 rfl) rfl
theorem q237 : (Jvm.Cond.fieldLink "WiredNets$Net" (15 : Nat) "WiredNets$Net" "n" "I") ∈ lw_all := lw_g (lw_at lw_m1 129 rfl) rfl
theorem q247 : (Jvm.Cond.fieldLink "WiredNets$Net" (19 : Nat) "WiredNets$Net" "degree" "I") ∈ lw_all := lw_g (lw_at lw_m1 139 rfl) rfl
theorem q249 : (Jvm.Cond.fieldLink "WiredNets$Net" (9 : Nat) "WiredNets$Net" "near" "[I") ∈ lw_all := lw_g (lw_at lw_m1 141 rfl) rfl
theorem q257 : (Jvm.Cond.lays "WiredNets$Net" "WiredNets$Net" "n" "I") ∈ lw_all := lw_g (lw_at lw_m1 149 rfl) rfl
theorem q258 : (Jvm.Cond.soleField "WiredNets$Net" "n") ∈ lw_all := lw_g (lw_at lw_m1 150 rfl) rfl
theorem q259 : (Jvm.Cond.lays "WiredNets$Net" "WiredNets$Net" "degree" "I") ∈ lw_all := lw_g (lw_at lw_m1 151 rfl) rfl
theorem q260 : (Jvm.Cond.soleField "WiredNets$Net" "degree") ∈ lw_all := lw_g (lw_at lw_m1 152 rfl) rfl
theorem q261 : (Jvm.Cond.laysFinal "WiredNets$Net" "WiredNets$Net" "near" "[I") ∈ lw_all := lw_g (lw_at lw_m1 153 rfl) rfl
theorem q262 : (Jvm.Cond.soleField "WiredNets$Net" "near") ∈ lw_all := lw_g (lw_at lw_m1 154 rfl) rfl
theorem q263 : (Jvm.Cond.superclass "WiredNets$Net" "java/lang/Object") ∈ lw_all := lw_g (lw_at lw_m1 155 rfl) rfl
theorem q353 : (Jvm.Cond.static ({ cls := "WiredNets$Net", name := "can", desc := "(II)Z" } : Jvm.MethodName)) ∈ lw_all := lw_g (lw_at lw_m2 5 rfl) rfl
theorem q354 : (Jvm.Cond.code ({ cls := "WiredNets$Net", name := "can", desc := "(II)Z" } : Jvm.MethodName) prog_6_method_2_code (2 : Nat) (Option.some Jvm.ClassFile.FieldType.boolean)) ∈ lw_all := lw_g (lw_at lw_m2 6 rfl) rfl
theorem q355 : (Jvm.Cond.methodLinkNest "WiredNets$Net" (22 : Nat) ({ cls := "WiredNets", name := "in", desc := "(III)Z" } : Jvm.MethodName) "WiredNets") ∈ lw_tbl := lw_at lw_m2 7 rfl
theorem q418 : (Jvm.Cond.instanceMethod ({ cls := "WiredNets$Net", name := "set", desc := "(II)V" } : Jvm.MethodName)) ∈ lw_all := lw_g (lw_at lw_m2 70 rfl) rfl
theorem q419 : (Jvm.Cond.selects "WiredNets$Net" ({ cls := "WiredNets$Net", name := "set", desc := "(II)V" } : Jvm.MethodName) ({ cls := "WiredNets$Net", name := "set", desc := "(II)V" } : Jvm.MethodName)) ∈ lw_all := lw_g (lw_at lw_m2 71 rfl) rfl
theorem q420 : (Jvm.Cond.code ({ cls := "WiredNets$Net", name := "set", desc := "(II)V" } : Jvm.MethodName) prog_6_method_6_code (3 : Nat) (Option.none : Option Jvm.ClassFile.FieldType)) ∈ lw_all := lw_g (lw_at lw_m2 72 rfl) rfl
theorem q504 : (Jvm.Cond.instanceMethod ({ cls := "WiredNets$Net", name := "mayJoin", desc := "(II)Z" } : Jvm.MethodName)) ∈ lw_all := lw_g (lw_at lw_m2 156 rfl) rfl
theorem q505 : (Jvm.Cond.selects "WiredNets$Net" ({ cls := "WiredNets$Net", name := "mayJoin", desc := "(II)Z" } : Jvm.MethodName) ({ cls := "WiredNets$Net", name := "mayJoin", desc := "(II)Z" } : Jvm.MethodName)) ∈ lw_all := lw_g (lw_at lw_m2 157 rfl) rfl
theorem q506 : (Jvm.Cond.code ({ cls := "WiredNets$Net", name := "mayJoin", desc := "(II)Z" } : Jvm.MethodName) prog_6_method_8_code (3 : Nat) (Option.some Jvm.ClassFile.FieldType.boolean)) ∈ lw_all := lw_g (lw_at lw_m2 158 rfl) rfl
theorem q507 : (Jvm.Cond.methodLink "WiredNets$Net" (35 : Nat) ({ cls := "WiredNets$Net", name := "has", desc := "(II)Z" } : Jvm.MethodName)) ∈ lw_all := lw_g (lw_at lw_m2 159 rfl) rfl
theorem q508 : (Jvm.Cond.instanceMethod ({ cls := "WiredNets$Net", name := "has", desc := "(II)Z" } : Jvm.MethodName)) ∈ lw_all := lw_g (lw_at lw_m2 160 rfl) rfl
theorem q509 : (Jvm.Cond.selects "WiredNets$Net" ({ cls := "WiredNets$Net", name := "has", desc := "(II)Z" } : Jvm.MethodName) ({ cls := "WiredNets$Net", name := "has", desc := "(II)Z" } : Jvm.MethodName)) ∈ lw_all := lw_g (lw_at lw_m2 161 rfl) rfl
theorem q510 : (Jvm.Cond.code ({ cls := "WiredNets$Net", name := "has", desc := "(II)Z" } : Jvm.MethodName) prog_6_method_4_code (3 : Nat) (Option.some Jvm.ClassFile.FieldType.boolean)) ∈ lw_all := lw_g (lw_at lw_m2 162 rfl) rfl
theorem q511 : (Jvm.Cond.methodLink "WiredNets$Net" (39 : Nat) ({ cls := "WiredNets$Net", name := "lines", desc := "(I)I" } : Jvm.MethodName)) ∈ lw_all := lw_g (lw_at lw_m2 163 rfl) rfl
theorem q512 : (Jvm.Cond.instanceMethod ({ cls := "WiredNets$Net", name := "lines", desc := "(I)I" } : Jvm.MethodName)) ∈ lw_all := lw_g (lw_at lw_m2 164 rfl) rfl
theorem q513 : (Jvm.Cond.selects "WiredNets$Net" ({ cls := "WiredNets$Net", name := "lines", desc := "(I)I" } : Jvm.MethodName) ({ cls := "WiredNets$Net", name := "lines", desc := "(I)I" } : Jvm.MethodName)) ∈ lw_all := lw_g (lw_at lw_m2 165 rfl) rfl
theorem q514 : (Jvm.Cond.code ({ cls := "WiredNets$Net", name := "lines", desc := "(I)I" } : Jvm.MethodName) prog_6_method_5_code (2 : Nat) (Option.some Jvm.ClassFile.FieldType.int)) ∈ lw_all := lw_g (lw_at lw_m2 166 rfl) rfl
theorem q515 : (Jvm.Cond.methodLink "WiredNets$Net" (29 : Nat) ({ cls := "java/lang/Integer", name := "bitCount", desc := "(I)I" } : Jvm.MethodName)) ∈ lw_all := lw_g (lw_at lw_m2 167 rfl) rfl
theorem q526 : (Jvm.Cond.instanceMethod ({ cls := "WiredNets$Net", name := "clear", desc := "(II)V" } : Jvm.MethodName)) ∈ lw_all := lw_g (lw_at lw_m2 178 rfl) rfl
theorem q527 : (Jvm.Cond.selects "WiredNets$Net" ({ cls := "WiredNets$Net", name := "clear", desc := "(II)V" } : Jvm.MethodName) ({ cls := "WiredNets$Net", name := "clear", desc := "(II)V" } : Jvm.MethodName)) ∈ lw_all := lw_g (lw_at lw_m2 179 rfl) rfl
theorem q528 : (Jvm.Cond.code ({ cls := "WiredNets$Net", name := "clear", desc := "(II)V" } : Jvm.MethodName) prog_6_method_7_code (3 : Nat) (Option.none : Option Jvm.ClassFile.FieldType)) ∈ lw_all := lw_g (lw_at lw_m2 180 rfl) rfl
theorem q753 : (Jvm.Cond.instanceMethod ({ cls := "WiredNets$Net", name := "copy", desc := "()LWiredNets$Net;" } : Jvm.MethodName)) ∈ lw_all := lw_g (lw_at lw_m3 165 rfl) rfl
theorem q754 : (Jvm.Cond.selects "WiredNets$Net" ({ cls := "WiredNets$Net", name := "copy", desc := "()LWiredNets$Net;" } : Jvm.MethodName) ({ cls := "WiredNets$Net", name := "copy", desc := "()LWiredNets$Net;" } : Jvm.MethodName)) ∈ lw_all := lw_g (lw_at lw_m3 166 rfl) rfl
theorem q755 : (Jvm.Cond.code ({ cls := "WiredNets$Net", name := "copy", desc := "()LWiredNets$Net;" } : Jvm.MethodName) prog_6_method_3_code (3 : Nat) (Option.some (Jvm.ClassFile.FieldType.object "WiredNets$Net"))) ∈ lw_all := lw_g (lw_at lw_m3 167 rfl) rfl
theorem q756 : (Jvm.Cond.classLink "WiredNets$Net" (10 : Nat) "WiredNets$Net") ∈ lw_all := lw_g (lw_at lw_m3 168 rfl) rfl
theorem q757 : (Jvm.Cond.methodLink "WiredNets$Net" (26 : Nat) ({ cls := "WiredNets$Net", name := "<init>", desc := "(II)V" } : Jvm.MethodName)) ∈ lw_all := lw_g (lw_at lw_m3 169 rfl) rfl
theorem q766 : (Jvm.Cond.instanceMethod ({ cls := "WiredNets$Net", name := "count", desc := "()I" } : Jvm.MethodName)) ∈ lw_all := lw_g (lw_at lw_m3 178 rfl) rfl
theorem q767 : (Jvm.Cond.selects "WiredNets$Net" ({ cls := "WiredNets$Net", name := "count", desc := "()I" } : Jvm.MethodName) ({ cls := "WiredNets$Net", name := "count", desc := "()I" } : Jvm.MethodName)) ∈ lw_all := lw_g (lw_at lw_m3 179 rfl) rfl
theorem q768 : (Jvm.Cond.code ({ cls := "WiredNets$Net", name := "count", desc := "()I" } : Jvm.MethodName) prog_6_method_9_code (3 : Nat) (Option.some Jvm.ClassFile.FieldType.int)) ∈ lw_all := lw_g (lw_at lw_m3 180 rfl) rfl
theorem q780 : (Jvm.Cond.instanceMethod ({ cls := "WiredNets$Net", name := "row", desc := "()[I" } : Jvm.MethodName)) ∈ lw_all := lw_g (lw_at lw_m3 192 rfl) rfl
theorem q781 : (Jvm.Cond.selects "WiredNets$Net" ({ cls := "WiredNets$Net", name := "row", desc := "()[I" } : Jvm.MethodName) ({ cls := "WiredNets$Net", name := "row", desc := "()[I" } : Jvm.MethodName)) ∈ lw_all := lw_g (lw_at lw_m3 193 rfl) rfl
theorem q782 : (Jvm.Cond.code ({ cls := "WiredNets$Net", name := "row", desc := "()[I" } : Jvm.MethodName) prog_6_method_11_code (2 : Nat) (Option.some (Jvm.ClassFile.FieldType.array Jvm.ClassFile.FieldType.int))) ∈ lw_all := lw_g (lw_at lw_m3 194 rfl) rfl
theorem q783 : (Jvm.Cond.methodLink "WiredNets$Net" (42 : Nat) ({ cls := "WiredNets$Net", name := "count", desc := "()I" } : Jvm.MethodName)) ∈ lw_all := lw_g (lw_at lw_m3 195 rfl) rfl
theorem q784 : (Jvm.Cond.methodLink "WiredNets$Net" (46 : Nat) ({ cls := "WiredNets$Net", name := "tellRow", desc := "([I)V" } : Jvm.MethodName)) ∈ lw_all := lw_g (lw_at lw_m3 196 rfl) rfl
theorem q785 : (Jvm.Cond.instanceMethod ({ cls := "WiredNets$Net", name := "tellRow", desc := "([I)V" } : Jvm.MethodName)) ∈ lw_all := lw_g (lw_at lw_m3 197 rfl) rfl
theorem q786 : (Jvm.Cond.selects "WiredNets$Net" ({ cls := "WiredNets$Net", name := "tellRow", desc := "([I)V" } : Jvm.MethodName) ({ cls := "WiredNets$Net", name := "tellRow", desc := "([I)V" } : Jvm.MethodName)) ∈ lw_all := lw_g (lw_at lw_m3 198 rfl) rfl
theorem q787 : (Jvm.Cond.code ({ cls := "WiredNets$Net", name := "tellRow", desc := "([I)V" } : Jvm.MethodName) prog_6_method_12_code (5 : Nat) (Option.none : Option Jvm.ClassFile.FieldType)) ∈ lw_all := lw_g (lw_at lw_m3 199 rfl) rfl
theorem q800 : (Jvm.Cond.instanceMethod ({ cls := "WiredNets$Net", name := "all", desc := "()I" } : Jvm.MethodName)) ∈ lw_all := lw_g (lw_at lw_m3 212 rfl) rfl
theorem q801 : (Jvm.Cond.selects "WiredNets$Net" ({ cls := "WiredNets$Net", name := "all", desc := "()I" } : Jvm.MethodName) ({ cls := "WiredNets$Net", name := "all", desc := "()I" } : Jvm.MethodName)) ∈ lw_all := lw_g (lw_at lw_m3 213 rfl) rfl
theorem q802 : (Jvm.Cond.code ({ cls := "WiredNets$Net", name := "all", desc := "()I" } : Jvm.MethodName) prog_6_method_10_code (1 : Nat) (Option.some Jvm.ClassFile.FieldType.int)) ∈ lw_all := lw_g (lw_at lw_m3 214 rfl) rfl
theorem q1148 : (Jvm.Cond.selects "WiredNets$Net" ({ cls := "java/lang/Object", name := "getClass", desc := "()Ljava/lang/Class;" } : Jvm.MethodName) ({ cls := "java/lang/Object", name := "getClass", desc := "()Ljava/lang/Class;" } : Jvm.MethodName)) ∈ lw_all := lw_g (lw_at lw_m5 80 rfl) rfl
theorem q2169 : (Jvm.Cond.castable "WiredNets$Net" "java/lang/Object") ∈ lw_tbl := lw_at lw_m9 141 rfl
theorem in_X5 : ∀ w ∈ wsX50, w ∈ lw_all := lw_in wsX50 [257, 259, 261] (by decide +kernel) (by decide +kernel)

/-! WiredNets$Group -/
set_option maxRecDepth 100000
def RX9 : String := "WiredNets$Group"
def TX9 : u_T := fun k => match k with
  | 0 => ("WiredNets$Group", "kind", "I", true)
  | 1 => ("WiredNets$Group", "a", "I", true)
  | _ => ("WiredNets$Group", "size", "I", true)
def tyX9 : Nat → FieldType := fun k => match k with
  | 0 => .int
  | 1 => .int
  | _ => .int
abbrev wsX90 : List Cond := u_ws RX9 TX9 3
theorem nmX9 : ∀ a, a < 3 → ∀ b, b < 3 → a ≠ b → (TX9 a).2.1 ≠ (TX9 b).2.1 := by decide +kernel
theorem tyX9_ok : ∀ k, k < 3 → parseFieldDescriptor (TX9 k).2.2.1 = some (tyX9 k) := by decide +kernel
abbrev cX9_can : ByteArray := prog_5_method_2_code
def yX9_can : MethodName := ⟨RX9, "can", "(III)Z"⟩
def dkwX9_can_2 : List UInt8 := [167, 0, 4, 3, 172]
abbrev dktX9_can_2 : List UInt8 := dkwX9_can_2 ++ []
def dkwX9_can_1 : List UInt8 := [184, 0, 21, 153, 0, 24, 27, 28, 104, 16, 24, 163, 0, 16, 26, 153, 0, 8, 28, 5, 160, 0, 7, 4]
abbrev dktX9_can_1 : List UInt8 := dkwX9_can_1 ++ dktX9_can_2
def dkwX9_can_0 : List UInt8 := [26, 3, 4, 184, 0, 21, 153, 0, 44, 27, 4, 16, 24, 184, 0, 21, 153, 0, 34, 28, 4, 16, 24]
abbrev dktX9_can_0 : List UInt8 := dkwX9_can_0 ++ dktX9_can_1
theorem dksX9_can_0 : cX9_can.data.toList.drop 0 = dktX9_can_0 := by decide +kernel
theorem dksX9_can_1 : cX9_can.data.toList.drop 23 = dktX9_can_1 := dk_seg dksX9_can_0 23 rfl rfl
theorem dksX9_can_2 : cX9_can.data.toList.drop 47 = dktX9_can_2 := dk_seg dksX9_can_1 24 rfl rfl
theorem dX9_can_0 : decode cX9_can 0 = .ok (.iload_n 0, 1) := dk_26 (dk_at dksX9_can_0 0 rfl rfl)
theorem dX9_can_1 : decode cX9_can 1 = .ok (.iconst 0, 1) := dk_3 (dk_at dksX9_can_0 1 rfl rfl)
theorem dX9_can_2 : decode cX9_can 2 = .ok (.iconst 1, 1) := dk_4 (dk_at dksX9_can_0 2 rfl rfl)
theorem dX9_can_3 : decode cX9_can 3 = .ok (.invokestatic 21, 3) := dk_184 0 21 (dk_at dksX9_can_0 3 rfl rfl)
theorem dX9_can_6 : decode cX9_can 6 = .ok (.ifCond .eq 44, 3) := dk_153 0 44 (dk_at dksX9_can_0 6 rfl rfl)
theorem dX9_can_9 : decode cX9_can 9 = .ok (.iload_n 1, 1) := dk_27 (dk_at dksX9_can_0 9 rfl rfl)
theorem dX9_can_10 : decode cX9_can 10 = .ok (.iconst 1, 1) := dk_4 (dk_at dksX9_can_0 10 rfl rfl)
theorem dX9_can_11 : decode cX9_can 11 = .ok (.bipush 24, 2) := dk_16 24 (dk_at dksX9_can_0 11 rfl rfl)
theorem dX9_can_13 : decode cX9_can 13 = .ok (.invokestatic 21, 3) := dk_184 0 21 (dk_at dksX9_can_0 13 rfl rfl)
theorem dX9_can_16 : decode cX9_can 16 = .ok (.ifCond .eq 34, 3) := dk_153 0 34 (dk_at dksX9_can_0 16 rfl rfl)
theorem dX9_can_19 : decode cX9_can 19 = .ok (.iload_n 2, 1) := dk_28 (dk_at dksX9_can_0 19 rfl rfl)
theorem dX9_can_20 : decode cX9_can 20 = .ok (.iconst 1, 1) := dk_4 (dk_at dksX9_can_0 20 rfl rfl)
theorem dX9_can_21 : decode cX9_can 21 = .ok (.bipush 24, 2) := dk_16 24 (dk_at dksX9_can_0 21 rfl rfl)
theorem dX9_can_23 : decode cX9_can 23 = .ok (.invokestatic 21, 3) := dk_184 0 21 (dk_at dksX9_can_1 0 rfl rfl)
theorem dX9_can_26 : decode cX9_can 26 = .ok (.ifCond .eq 24, 3) := dk_153 0 24 (dk_at dksX9_can_1 3 rfl rfl)
theorem dX9_can_29 : decode cX9_can 29 = .ok (.iload_n 1, 1) := dk_27 (dk_at dksX9_can_1 6 rfl rfl)
theorem dX9_can_30 : decode cX9_can 30 = .ok (.iload_n 2, 1) := dk_28 (dk_at dksX9_can_1 7 rfl rfl)
theorem dX9_can_31 : decode cX9_can 31 = .ok (.imul, 1) := dk_104 (dk_at dksX9_can_1 8 rfl rfl)
theorem dX9_can_32 : decode cX9_can 32 = .ok (.bipush 24, 2) := dk_16 24 (dk_at dksX9_can_1 9 rfl rfl)
theorem dX9_can_34 : decode cX9_can 34 = .ok (.if_icmp .gt 16, 3) := dk_163 0 16 (dk_at dksX9_can_1 11 rfl rfl)
theorem dX9_can_37 : decode cX9_can 37 = .ok (.iload_n 0, 1) := dk_26 (dk_at dksX9_can_1 14 rfl rfl)
theorem dX9_can_38 : decode cX9_can 38 = .ok (.ifCond .eq 8, 3) := dk_153 0 8 (dk_at dksX9_can_1 15 rfl rfl)
theorem dX9_can_41 : decode cX9_can 41 = .ok (.iload_n 2, 1) := dk_28 (dk_at dksX9_can_1 18 rfl rfl)
theorem dX9_can_42 : decode cX9_can 42 = .ok (.iconst 2, 1) := dk_5 (dk_at dksX9_can_1 19 rfl rfl)
theorem dX9_can_43 : decode cX9_can 43 = .ok (.if_icmp .ne 7, 3) := dk_160 0 7 (dk_at dksX9_can_1 20 rfl rfl)
theorem dX9_can_46 : decode cX9_can 46 = .ok (.iconst 1, 1) := dk_4 (dk_at dksX9_can_1 23 rfl rfl)
theorem dX9_can_47 : decode cX9_can 47 = .ok (.goto 4, 3) := dk_167 0 4 (dk_at dksX9_can_2 0 rfl rfl)
theorem dX9_can_50 : decode cX9_can 50 = .ok (.iconst 0, 1) := dk_3 (dk_at dksX9_can_2 3 rfl rfl)
theorem dX9_can_51 : decode cX9_can 51 = .ok (.ireturn, 1) := dk_172 (dk_at dksX9_can_2 4 rfl rfl)
abbrev cX9_init : ByteArray := prog_5_method_1_code
def yX9_init : MethodName := ⟨RX9, "<init>", "(III)V"⟩
def dkwX9_init_0 : List UInt8 := [42, 183, 0, 3, 42, 27, 181, 0, 9, 42, 28, 181, 0, 15, 42, 28, 29, 104, 181, 0, 18, 177]
abbrev dktX9_init_0 : List UInt8 := dkwX9_init_0 ++ []
theorem dksX9_init_0 : cX9_init.data.toList.drop 0 = dktX9_init_0 := by decide +kernel
theorem dX9_init_0 : decode cX9_init 0 = .ok (.aload_n 0, 1) := dk_42 (dk_at dksX9_init_0 0 rfl rfl)
theorem dX9_init_1 : decode cX9_init 1 = .ok (.invokespecial 3, 3) := dk_183 0 3 (dk_at dksX9_init_0 1 rfl rfl)
theorem dX9_init_4 : decode cX9_init 4 = .ok (.aload_n 0, 1) := dk_42 (dk_at dksX9_init_0 4 rfl rfl)
theorem dX9_init_5 : decode cX9_init 5 = .ok (.iload_n 1, 1) := dk_27 (dk_at dksX9_init_0 5 rfl rfl)
theorem dX9_init_6 : decode cX9_init 6 = .ok (.putfield 9, 3) := dk_181 0 9 (dk_at dksX9_init_0 6 rfl rfl)
theorem dX9_init_9 : decode cX9_init 9 = .ok (.aload_n 0, 1) := dk_42 (dk_at dksX9_init_0 9 rfl rfl)
theorem dX9_init_10 : decode cX9_init 10 = .ok (.iload_n 2, 1) := dk_28 (dk_at dksX9_init_0 10 rfl rfl)
theorem dX9_init_11 : decode cX9_init 11 = .ok (.putfield 15, 3) := dk_181 0 15 (dk_at dksX9_init_0 11 rfl rfl)
theorem dX9_init_14 : decode cX9_init 14 = .ok (.aload_n 0, 1) := dk_42 (dk_at dksX9_init_0 14 rfl rfl)
theorem dX9_init_15 : decode cX9_init 15 = .ok (.iload_n 2, 1) := dk_28 (dk_at dksX9_init_0 15 rfl rfl)
theorem dX9_init_16 : decode cX9_init 16 = .ok (.iload_n 3, 1) := dk_29 (dk_at dksX9_init_0 16 rfl rfl)
theorem dX9_init_17 : decode cX9_init 17 = .ok (.imul, 1) := dk_104 (dk_at dksX9_init_0 17 rfl rfl)
theorem dX9_init_18 : decode cX9_init 18 = .ok (.putfield 18, 3) := dk_181 0 18 (dk_at dksX9_init_0 18 rfl rfl)
theorem dX9_init_21 : decode cX9_init 21 = .ok (.return_, 1) := dk_177 (dk_at dksX9_init_0 21 rfl rfl)
abbrev cX9_areMoves : ByteArray := prog_5_method_5_code
def yX9_areMoves : MethodName := ⟨RX9, "areMoves", "(I)Z"⟩
def dkwX9_areMoves_3 : List UInt8 := [172]
abbrev dktX9_areMoves_3 : List UInt8 := dkwX9_areMoves_3 ++ []
def dkwX9_areMoves_2 : List UInt8 := [160, 0, 17, 27, 42, 28, 182, 0, 35, 122, 4, 126, 154, 0, 5, 3, 172, 132, 2, 1, 167, 255, 222, 4]
abbrev dktX9_areMoves_2 : List UInt8 := dkwX9_areMoves_2 ++ dktX9_areMoves_3
def dkwX9_areMoves_1 : List UInt8 := [16, 8, 164, 0, 5, 3, 172, 4, 61, 28, 42, 180, 0, 18, 162, 0, 32, 27, 28, 122, 4, 126, 4]
abbrev dktX9_areMoves_1 : List UInt8 := dkwX9_areMoves_1 ++ dktX9_areMoves_2
def dkwX9_areMoves_0 : List UInt8 := [27, 155, 0, 28, 27, 42, 180, 0, 18, 122, 154, 0, 19, 27, 4, 126, 4, 159, 0, 12, 27, 184, 0, 29]
abbrev dktX9_areMoves_0 : List UInt8 := dkwX9_areMoves_0 ++ dktX9_areMoves_1
theorem dksX9_areMoves_0 : cX9_areMoves.data.toList.drop 0 = dktX9_areMoves_0 := by decide +kernel
theorem dksX9_areMoves_1 : cX9_areMoves.data.toList.drop 24 = dktX9_areMoves_1 := dk_seg dksX9_areMoves_0 24 rfl rfl
theorem dksX9_areMoves_2 : cX9_areMoves.data.toList.drop 47 = dktX9_areMoves_2 := dk_seg dksX9_areMoves_1 23 rfl rfl
theorem dksX9_areMoves_3 : cX9_areMoves.data.toList.drop 71 = dktX9_areMoves_3 := dk_seg dksX9_areMoves_2 24 rfl rfl
theorem dX9_areMoves_0 : decode cX9_areMoves 0 = .ok (.iload_n 1, 1) := dk_27 (dk_at dksX9_areMoves_0 0 rfl rfl)
theorem dX9_areMoves_1 : decode cX9_areMoves 1 = .ok (.ifCond .lt 28, 3) := dk_155 0 28 (dk_at dksX9_areMoves_0 1 rfl rfl)
theorem dX9_areMoves_4 : decode cX9_areMoves 4 = .ok (.iload_n 1, 1) := dk_27 (dk_at dksX9_areMoves_0 4 rfl rfl)
theorem dX9_areMoves_5 : decode cX9_areMoves 5 = .ok (.aload_n 0, 1) := dk_42 (dk_at dksX9_areMoves_0 5 rfl rfl)
theorem dX9_areMoves_6 : decode cX9_areMoves 6 = .ok (.getfield 18, 3) := dk_180 0 18 (dk_at dksX9_areMoves_0 6 rfl rfl)
theorem dX9_areMoves_9 : decode cX9_areMoves 9 = .ok (.ishr, 1) := dk_122 (dk_at dksX9_areMoves_0 9 rfl rfl)
theorem dX9_areMoves_10 : decode cX9_areMoves 10 = .ok (.ifCond .ne 19, 3) := dk_154 0 19 (dk_at dksX9_areMoves_0 10 rfl rfl)
theorem dX9_areMoves_13 : decode cX9_areMoves 13 = .ok (.iload_n 1, 1) := dk_27 (dk_at dksX9_areMoves_0 13 rfl rfl)
theorem dX9_areMoves_14 : decode cX9_areMoves 14 = .ok (.iconst 1, 1) := dk_4 (dk_at dksX9_areMoves_0 14 rfl rfl)
theorem dX9_areMoves_15 : decode cX9_areMoves 15 = .ok (.iand, 1) := dk_126 (dk_at dksX9_areMoves_0 15 rfl rfl)
theorem dX9_areMoves_16 : decode cX9_areMoves 16 = .ok (.iconst 1, 1) := dk_4 (dk_at dksX9_areMoves_0 16 rfl rfl)
theorem dX9_areMoves_17 : decode cX9_areMoves 17 = .ok (.if_icmp .eq 12, 3) := dk_159 0 12 (dk_at dksX9_areMoves_0 17 rfl rfl)
theorem dX9_areMoves_20 : decode cX9_areMoves 20 = .ok (.iload_n 1, 1) := dk_27 (dk_at dksX9_areMoves_0 20 rfl rfl)
theorem dX9_areMoves_21 : decode cX9_areMoves 21 = .ok (.invokestatic 29, 3) := dk_184 0 29 (dk_at dksX9_areMoves_0 21 rfl rfl)
theorem dX9_areMoves_24 : decode cX9_areMoves 24 = .ok (.bipush 8, 2) := dk_16 8 (dk_at dksX9_areMoves_1 0 rfl rfl)
theorem dX9_areMoves_26 : decode cX9_areMoves 26 = .ok (.if_icmp .le 5, 3) := dk_164 0 5 (dk_at dksX9_areMoves_1 2 rfl rfl)
theorem dX9_areMoves_29 : decode cX9_areMoves 29 = .ok (.iconst 0, 1) := dk_3 (dk_at dksX9_areMoves_1 5 rfl rfl)
theorem dX9_areMoves_30 : decode cX9_areMoves 30 = .ok (.ireturn, 1) := dk_172 (dk_at dksX9_areMoves_1 6 rfl rfl)
theorem dX9_areMoves_31 : decode cX9_areMoves 31 = .ok (.iconst 1, 1) := dk_4 (dk_at dksX9_areMoves_1 7 rfl rfl)
theorem dX9_areMoves_32 : decode cX9_areMoves 32 = .ok (.istore_n 2, 1) := dk_61 (dk_at dksX9_areMoves_1 8 rfl rfl)
theorem dX9_areMoves_33 : decode cX9_areMoves 33 = .ok (.iload_n 2, 1) := dk_28 (dk_at dksX9_areMoves_1 9 rfl rfl)
theorem dX9_areMoves_34 : decode cX9_areMoves 34 = .ok (.aload_n 0, 1) := dk_42 (dk_at dksX9_areMoves_1 10 rfl rfl)
theorem dX9_areMoves_35 : decode cX9_areMoves 35 = .ok (.getfield 18, 3) := dk_180 0 18 (dk_at dksX9_areMoves_1 11 rfl rfl)
theorem dX9_areMoves_38 : decode cX9_areMoves 38 = .ok (.if_icmp .ge 32, 3) := dk_162 0 32 (dk_at dksX9_areMoves_1 14 rfl rfl)
theorem dX9_areMoves_41 : decode cX9_areMoves 41 = .ok (.iload_n 1, 1) := dk_27 (dk_at dksX9_areMoves_1 17 rfl rfl)
theorem dX9_areMoves_42 : decode cX9_areMoves 42 = .ok (.iload_n 2, 1) := dk_28 (dk_at dksX9_areMoves_1 18 rfl rfl)
theorem dX9_areMoves_43 : decode cX9_areMoves 43 = .ok (.ishr, 1) := dk_122 (dk_at dksX9_areMoves_1 19 rfl rfl)
theorem dX9_areMoves_44 : decode cX9_areMoves 44 = .ok (.iconst 1, 1) := dk_4 (dk_at dksX9_areMoves_1 20 rfl rfl)
theorem dX9_areMoves_45 : decode cX9_areMoves 45 = .ok (.iand, 1) := dk_126 (dk_at dksX9_areMoves_1 21 rfl rfl)
theorem dX9_areMoves_46 : decode cX9_areMoves 46 = .ok (.iconst 1, 1) := dk_4 (dk_at dksX9_areMoves_1 22 rfl rfl)
theorem dX9_areMoves_47 : decode cX9_areMoves 47 = .ok (.if_icmp .ne 17, 3) := dk_160 0 17 (dk_at dksX9_areMoves_2 0 rfl rfl)
theorem dX9_areMoves_50 : decode cX9_areMoves 50 = .ok (.iload_n 1, 1) := dk_27 (dk_at dksX9_areMoves_2 3 rfl rfl)
theorem dX9_areMoves_51 : decode cX9_areMoves 51 = .ok (.aload_n 0, 1) := dk_42 (dk_at dksX9_areMoves_2 4 rfl rfl)
theorem dX9_areMoves_52 : decode cX9_areMoves 52 = .ok (.iload_n 2, 1) := dk_28 (dk_at dksX9_areMoves_2 5 rfl rfl)
theorem dX9_areMoves_53 : decode cX9_areMoves 53 = .ok (.invokevirtual 35, 3) := dk_182 0 35 (dk_at dksX9_areMoves_2 6 rfl rfl)
theorem dX9_areMoves_56 : decode cX9_areMoves 56 = .ok (.ishr, 1) := dk_122 (dk_at dksX9_areMoves_2 9 rfl rfl)
theorem dX9_areMoves_57 : decode cX9_areMoves 57 = .ok (.iconst 1, 1) := dk_4 (dk_at dksX9_areMoves_2 10 rfl rfl)
theorem dX9_areMoves_58 : decode cX9_areMoves 58 = .ok (.iand, 1) := dk_126 (dk_at dksX9_areMoves_2 11 rfl rfl)
theorem dX9_areMoves_59 : decode cX9_areMoves 59 = .ok (.ifCond .ne 5, 3) := dk_154 0 5 (dk_at dksX9_areMoves_2 12 rfl rfl)
theorem dX9_areMoves_62 : decode cX9_areMoves 62 = .ok (.iconst 0, 1) := dk_3 (dk_at dksX9_areMoves_2 15 rfl rfl)
theorem dX9_areMoves_63 : decode cX9_areMoves 63 = .ok (.ireturn, 1) := dk_172 (dk_at dksX9_areMoves_2 16 rfl rfl)
theorem dX9_areMoves_64 : decode cX9_areMoves 64 = .ok (.iinc 2 1, 3) := dk_132 2 1 (dk_at dksX9_areMoves_2 17 rfl rfl)
theorem dX9_areMoves_67 : decode cX9_areMoves 67 = .ok (.goto (-34), 3) := dk_167 255 222 (dk_at dksX9_areMoves_2 20 rfl rfl)
theorem dX9_areMoves_70 : decode cX9_areMoves 70 = .ok (.iconst 1, 1) := dk_4 (dk_at dksX9_areMoves_2 23 rfl rfl)
theorem dX9_areMoves_71 : decode cX9_areMoves 71 = .ok (.ireturn, 1) := dk_172 (dk_at dksX9_areMoves_3 0 rfl rfl)
abbrev cX9_opposite : ByteArray := prog_5_method_4_code
def yX9_opposite : MethodName := ⟨RX9, "opposite", "(I)I"⟩
def dkwX9_opposite_0 : List UInt8 := [3, 61, 42, 27, 28, 182, 0, 25, 153, 0, 9, 132, 2, 1, 167, 255, 244, 28, 172]
abbrev dktX9_opposite_0 : List UInt8 := dkwX9_opposite_0 ++ []
theorem dksX9_opposite_0 : cX9_opposite.data.toList.drop 0 = dktX9_opposite_0 := by decide +kernel
theorem dX9_opposite_0 : decode cX9_opposite 0 = .ok (.iconst 0, 1) := dk_3 (dk_at dksX9_opposite_0 0 rfl rfl)
theorem dX9_opposite_1 : decode cX9_opposite 1 = .ok (.istore_n 2, 1) := dk_61 (dk_at dksX9_opposite_0 1 rfl rfl)
theorem dX9_opposite_2 : decode cX9_opposite 2 = .ok (.aload_n 0, 1) := dk_42 (dk_at dksX9_opposite_0 2 rfl rfl)
theorem dX9_opposite_3 : decode cX9_opposite 3 = .ok (.iload_n 1, 1) := dk_27 (dk_at dksX9_opposite_0 3 rfl rfl)
theorem dX9_opposite_4 : decode cX9_opposite 4 = .ok (.iload_n 2, 1) := dk_28 (dk_at dksX9_opposite_0 4 rfl rfl)
theorem dX9_opposite_5 : decode cX9_opposite 5 = .ok (.invokevirtual 25, 3) := dk_182 0 25 (dk_at dksX9_opposite_0 5 rfl rfl)
theorem dX9_opposite_8 : decode cX9_opposite 8 = .ok (.ifCond .eq 9, 3) := dk_153 0 9 (dk_at dksX9_opposite_0 8 rfl rfl)
theorem dX9_opposite_11 : decode cX9_opposite 11 = .ok (.iinc 2 1, 3) := dk_132 2 1 (dk_at dksX9_opposite_0 11 rfl rfl)
theorem dX9_opposite_14 : decode cX9_opposite 14 = .ok (.goto (-12), 3) := dk_167 255 244 (dk_at dksX9_opposite_0 14 rfl rfl)
theorem dX9_opposite_17 : decode cX9_opposite 17 = .ok (.iload_n 2, 1) := dk_28 (dk_at dksX9_opposite_0 17 rfl rfl)
theorem dX9_opposite_18 : decode cX9_opposite 18 = .ok (.ireturn, 1) := dk_172 (dk_at dksX9_opposite_0 18 rfl rfl)
abbrev cX9_then : ByteArray := prog_5_method_3_code
def yX9_then : MethodName := ⟨RX9, "then", "(II)I"⟩
def dkwX9_then_4 : List UInt8 := [42, 180, 0, 18, 42, 180, 0, 15, 108, 112, 104, 96, 172]
abbrev dktX9_then_4 : List UInt8 := dkwX9_then_4 ++ []
def dkwX9_then_3 : List UInt8 := [21, 6, 130, 104, 96, 172, 29, 21, 5, 96, 42, 180, 0, 15, 112, 42, 180, 0, 15, 21, 4, 21, 6, 96]
abbrev dktX9_then_3 : List UInt8 := dkwX9_then_3 ++ dktX9_then_4
def dkwX9_then_2 : List UInt8 := [100, 42, 180, 0, 15, 96, 167, 0, 7, 29, 21, 5, 96, 42, 180, 0, 15, 112, 42, 180, 0, 15, 21, 4]
abbrev dktX9_then_2 : List UInt8 := dkwX9_then_2 ++ dktX9_then_3
def dkwX9_then_1 : List UInt8 := [42, 180, 0, 15, 108, 54, 6, 42, 180, 0, 9, 4, 160, 0, 42, 21, 4, 4, 160, 0, 15, 29, 21, 5]
abbrev dktX9_then_1 : List UInt8 := dkwX9_then_1 ++ dktX9_then_2
def dkwX9_then_0 : List UInt8 := [27, 42, 180, 0, 15, 112, 62, 27, 42, 180, 0, 15, 108, 54, 4, 28, 42, 180, 0, 15, 112, 54, 5, 28]
abbrev dktX9_then_0 : List UInt8 := dkwX9_then_0 ++ dktX9_then_1
theorem dksX9_then_0 : cX9_then.data.toList.drop 0 = dktX9_then_0 := by decide +kernel
theorem dksX9_then_1 : cX9_then.data.toList.drop 24 = dktX9_then_1 := dk_seg dksX9_then_0 24 rfl rfl
theorem dksX9_then_2 : cX9_then.data.toList.drop 48 = dktX9_then_2 := dk_seg dksX9_then_1 24 rfl rfl
theorem dksX9_then_3 : cX9_then.data.toList.drop 72 = dktX9_then_3 := dk_seg dksX9_then_2 24 rfl rfl
theorem dksX9_then_4 : cX9_then.data.toList.drop 96 = dktX9_then_4 := dk_seg dksX9_then_3 24 rfl rfl
theorem dX9_then_0 : decode cX9_then 0 = .ok (.iload_n 1, 1) := dk_27 (dk_at dksX9_then_0 0 rfl rfl)
theorem dX9_then_1 : decode cX9_then 1 = .ok (.aload_n 0, 1) := dk_42 (dk_at dksX9_then_0 1 rfl rfl)
theorem dX9_then_2 : decode cX9_then 2 = .ok (.getfield 15, 3) := dk_180 0 15 (dk_at dksX9_then_0 2 rfl rfl)
theorem dX9_then_5 : decode cX9_then 5 = .ok (.irem, 1) := dk_112 (dk_at dksX9_then_0 5 rfl rfl)
theorem dX9_then_6 : decode cX9_then 6 = .ok (.istore_n 3, 1) := dk_62 (dk_at dksX9_then_0 6 rfl rfl)
theorem dX9_then_7 : decode cX9_then 7 = .ok (.iload_n 1, 1) := dk_27 (dk_at dksX9_then_0 7 rfl rfl)
theorem dX9_then_8 : decode cX9_then 8 = .ok (.aload_n 0, 1) := dk_42 (dk_at dksX9_then_0 8 rfl rfl)
theorem dX9_then_9 : decode cX9_then 9 = .ok (.getfield 15, 3) := dk_180 0 15 (dk_at dksX9_then_0 9 rfl rfl)
theorem dX9_then_12 : decode cX9_then 12 = .ok (.idiv, 1) := dk_108 (dk_at dksX9_then_0 12 rfl rfl)
theorem dX9_then_13 : decode cX9_then 13 = .ok (.istore 4, 2) := dk_54 4 (dk_at dksX9_then_0 13 rfl rfl)
theorem dX9_then_15 : decode cX9_then 15 = .ok (.iload_n 2, 1) := dk_28 (dk_at dksX9_then_0 15 rfl rfl)
theorem dX9_then_16 : decode cX9_then 16 = .ok (.aload_n 0, 1) := dk_42 (dk_at dksX9_then_0 16 rfl rfl)
theorem dX9_then_17 : decode cX9_then 17 = .ok (.getfield 15, 3) := dk_180 0 15 (dk_at dksX9_then_0 17 rfl rfl)
theorem dX9_then_20 : decode cX9_then 20 = .ok (.irem, 1) := dk_112 (dk_at dksX9_then_0 20 rfl rfl)
theorem dX9_then_21 : decode cX9_then 21 = .ok (.istore 5, 2) := dk_54 5 (dk_at dksX9_then_0 21 rfl rfl)
theorem dX9_then_23 : decode cX9_then 23 = .ok (.iload_n 2, 1) := dk_28 (dk_at dksX9_then_0 23 rfl rfl)
theorem dX9_then_24 : decode cX9_then 24 = .ok (.aload_n 0, 1) := dk_42 (dk_at dksX9_then_1 0 rfl rfl)
theorem dX9_then_25 : decode cX9_then 25 = .ok (.getfield 15, 3) := dk_180 0 15 (dk_at dksX9_then_1 1 rfl rfl)
theorem dX9_then_28 : decode cX9_then 28 = .ok (.idiv, 1) := dk_108 (dk_at dksX9_then_1 4 rfl rfl)
theorem dX9_then_29 : decode cX9_then 29 = .ok (.istore 6, 2) := dk_54 6 (dk_at dksX9_then_1 5 rfl rfl)
theorem dX9_then_31 : decode cX9_then 31 = .ok (.aload_n 0, 1) := dk_42 (dk_at dksX9_then_1 7 rfl rfl)
theorem dX9_then_32 : decode cX9_then 32 = .ok (.getfield 9, 3) := dk_180 0 9 (dk_at dksX9_then_1 8 rfl rfl)
theorem dX9_then_35 : decode cX9_then 35 = .ok (.iconst 1, 1) := dk_4 (dk_at dksX9_then_1 11 rfl rfl)
theorem dX9_then_36 : decode cX9_then 36 = .ok (.if_icmp .ne 42, 3) := dk_160 0 42 (dk_at dksX9_then_1 12 rfl rfl)
theorem dX9_then_39 : decode cX9_then 39 = .ok (.iload 4, 2) := dk_21 4 (dk_at dksX9_then_1 15 rfl rfl)
theorem dX9_then_41 : decode cX9_then 41 = .ok (.iconst 1, 1) := dk_4 (dk_at dksX9_then_1 17 rfl rfl)
theorem dX9_then_42 : decode cX9_then 42 = .ok (.if_icmp .ne 15, 3) := dk_160 0 15 (dk_at dksX9_then_1 18 rfl rfl)
theorem dX9_then_45 : decode cX9_then 45 = .ok (.iload_n 3, 1) := dk_29 (dk_at dksX9_then_1 21 rfl rfl)
theorem dX9_then_46 : decode cX9_then 46 = .ok (.iload 5, 2) := dk_21 5 (dk_at dksX9_then_1 22 rfl rfl)
theorem dX9_then_48 : decode cX9_then 48 = .ok (.isub, 1) := dk_100 (dk_at dksX9_then_2 0 rfl rfl)
theorem dX9_then_49 : decode cX9_then 49 = .ok (.aload_n 0, 1) := dk_42 (dk_at dksX9_then_2 1 rfl rfl)
theorem dX9_then_50 : decode cX9_then 50 = .ok (.getfield 15, 3) := dk_180 0 15 (dk_at dksX9_then_2 2 rfl rfl)
theorem dX9_then_53 : decode cX9_then 53 = .ok (.iadd, 1) := dk_96 (dk_at dksX9_then_2 5 rfl rfl)
theorem dX9_then_54 : decode cX9_then 54 = .ok (.goto 7, 3) := dk_167 0 7 (dk_at dksX9_then_2 6 rfl rfl)
theorem dX9_then_57 : decode cX9_then 57 = .ok (.iload_n 3, 1) := dk_29 (dk_at dksX9_then_2 9 rfl rfl)
theorem dX9_then_58 : decode cX9_then 58 = .ok (.iload 5, 2) := dk_21 5 (dk_at dksX9_then_2 10 rfl rfl)
theorem dX9_then_60 : decode cX9_then 60 = .ok (.iadd, 1) := dk_96 (dk_at dksX9_then_2 12 rfl rfl)
theorem dX9_then_61 : decode cX9_then 61 = .ok (.aload_n 0, 1) := dk_42 (dk_at dksX9_then_2 13 rfl rfl)
theorem dX9_then_62 : decode cX9_then 62 = .ok (.getfield 15, 3) := dk_180 0 15 (dk_at dksX9_then_2 14 rfl rfl)
theorem dX9_then_65 : decode cX9_then 65 = .ok (.irem, 1) := dk_112 (dk_at dksX9_then_2 17 rfl rfl)
theorem dX9_then_66 : decode cX9_then 66 = .ok (.aload_n 0, 1) := dk_42 (dk_at dksX9_then_2 18 rfl rfl)
theorem dX9_then_67 : decode cX9_then 67 = .ok (.getfield 15, 3) := dk_180 0 15 (dk_at dksX9_then_2 19 rfl rfl)
theorem dX9_then_70 : decode cX9_then 70 = .ok (.iload 4, 2) := dk_21 4 (dk_at dksX9_then_2 22 rfl rfl)
theorem dX9_then_72 : decode cX9_then 72 = .ok (.iload 6, 2) := dk_21 6 (dk_at dksX9_then_3 0 rfl rfl)
theorem dX9_then_74 : decode cX9_then 74 = .ok (.ixor, 1) := dk_130 (dk_at dksX9_then_3 2 rfl rfl)
theorem dX9_then_75 : decode cX9_then 75 = .ok (.imul, 1) := dk_104 (dk_at dksX9_then_3 3 rfl rfl)
theorem dX9_then_76 : decode cX9_then 76 = .ok (.iadd, 1) := dk_96 (dk_at dksX9_then_3 4 rfl rfl)
theorem dX9_then_77 : decode cX9_then 77 = .ok (.ireturn, 1) := dk_172 (dk_at dksX9_then_3 5 rfl rfl)
theorem dX9_then_78 : decode cX9_then 78 = .ok (.iload_n 3, 1) := dk_29 (dk_at dksX9_then_3 6 rfl rfl)
theorem dX9_then_79 : decode cX9_then 79 = .ok (.iload 5, 2) := dk_21 5 (dk_at dksX9_then_3 7 rfl rfl)
theorem dX9_then_81 : decode cX9_then 81 = .ok (.iadd, 1) := dk_96 (dk_at dksX9_then_3 9 rfl rfl)
theorem dX9_then_82 : decode cX9_then 82 = .ok (.aload_n 0, 1) := dk_42 (dk_at dksX9_then_3 10 rfl rfl)
theorem dX9_then_83 : decode cX9_then 83 = .ok (.getfield 15, 3) := dk_180 0 15 (dk_at dksX9_then_3 11 rfl rfl)
theorem dX9_then_86 : decode cX9_then 86 = .ok (.irem, 1) := dk_112 (dk_at dksX9_then_3 14 rfl rfl)
theorem dX9_then_87 : decode cX9_then 87 = .ok (.aload_n 0, 1) := dk_42 (dk_at dksX9_then_3 15 rfl rfl)
theorem dX9_then_88 : decode cX9_then 88 = .ok (.getfield 15, 3) := dk_180 0 15 (dk_at dksX9_then_3 16 rfl rfl)
theorem dX9_then_91 : decode cX9_then 91 = .ok (.iload 4, 2) := dk_21 4 (dk_at dksX9_then_3 19 rfl rfl)
theorem dX9_then_93 : decode cX9_then 93 = .ok (.iload 6, 2) := dk_21 6 (dk_at dksX9_then_3 21 rfl rfl)
theorem dX9_then_95 : decode cX9_then 95 = .ok (.iadd, 1) := dk_96 (dk_at dksX9_then_3 23 rfl rfl)
theorem dX9_then_96 : decode cX9_then 96 = .ok (.aload_n 0, 1) := dk_42 (dk_at dksX9_then_4 0 rfl rfl)
theorem dX9_then_97 : decode cX9_then 97 = .ok (.getfield 18, 3) := dk_180 0 18 (dk_at dksX9_then_4 1 rfl rfl)
theorem dX9_then_100 : decode cX9_then 100 = .ok (.aload_n 0, 1) := dk_42 (dk_at dksX9_then_4 4 rfl rfl)
theorem dX9_then_101 : decode cX9_then 101 = .ok (.getfield 15, 3) := dk_180 0 15 (dk_at dksX9_then_4 5 rfl rfl)
theorem dX9_then_104 : decode cX9_then 104 = .ok (.idiv, 1) := dk_108 (dk_at dksX9_then_4 8 rfl rfl)
theorem dX9_then_105 : decode cX9_then 105 = .ok (.irem, 1) := dk_112 (dk_at dksX9_then_4 9 rfl rfl)
theorem dX9_then_106 : decode cX9_then 106 = .ok (.imul, 1) := dk_104 (dk_at dksX9_then_4 10 rfl rfl)
theorem dX9_then_107 : decode cX9_then 107 = .ok (.iadd, 1) := dk_96 (dk_at dksX9_then_4 11 rfl rfl)
theorem dX9_then_108 : decode cX9_then 108 = .ok (.ireturn, 1) := dk_172 (dk_at dksX9_then_4 12 rfl rfl)
abbrev cX9_net : ByteArray := prog_5_method_6_code
def yX9_net : MethodName := ⟨RX9, "net", "(I)LWiredNets$Net;"⟩
def dkwX9_net_3 : List UInt8 := [132, 3, 1, 167, 255, 205, 44, 176]
abbrev dktX9_net_3 : List UInt8 := dkwX9_net_3 ++ []
def dkwX9_net_2 : List UInt8 := [4, 160, 0, 15, 44, 29, 42, 29, 21, 4, 182, 0, 25, 182, 0, 48, 132, 4, 1, 167, 255, 222]
abbrev dktX9_net_2 : List UInt8 := dkwX9_net_2 ++ dktX9_net_3
def dkwX9_net_1 : List UInt8 := [180, 0, 18, 162, 0, 49, 4, 54, 4, 21, 4, 42, 180, 0, 18, 162, 0, 31, 27, 21, 4, 122, 4, 126]
abbrev dktX9_net_1 : List UInt8 := dkwX9_net_1 ++ dktX9_net_2
def dkwX9_net_0 : List UInt8 := [187, 0, 38, 89, 42, 180, 0, 18, 4, 27, 184, 0, 29, 184, 0, 40, 183, 0, 45, 77, 3, 62, 29, 42]
abbrev dktX9_net_0 : List UInt8 := dkwX9_net_0 ++ dktX9_net_1
theorem dksX9_net_0 : cX9_net.data.toList.drop 0 = dktX9_net_0 := by decide +kernel
theorem dksX9_net_1 : cX9_net.data.toList.drop 24 = dktX9_net_1 := dk_seg dksX9_net_0 24 rfl rfl
theorem dksX9_net_2 : cX9_net.data.toList.drop 48 = dktX9_net_2 := dk_seg dksX9_net_1 24 rfl rfl
theorem dksX9_net_3 : cX9_net.data.toList.drop 70 = dktX9_net_3 := dk_seg dksX9_net_2 22 rfl rfl
theorem dX9_net_0 : decode cX9_net 0 = .ok (.new 38, 3) := dk_187 0 38 (dk_at dksX9_net_0 0 rfl rfl)
theorem dX9_net_3 : decode cX9_net 3 = .ok (.dup, 1) := dk_89 (dk_at dksX9_net_0 3 rfl rfl)
theorem dX9_net_4 : decode cX9_net 4 = .ok (.aload_n 0, 1) := dk_42 (dk_at dksX9_net_0 4 rfl rfl)
theorem dX9_net_5 : decode cX9_net 5 = .ok (.getfield 18, 3) := dk_180 0 18 (dk_at dksX9_net_0 5 rfl rfl)
theorem dX9_net_8 : decode cX9_net 8 = .ok (.iconst 1, 1) := dk_4 (dk_at dksX9_net_0 8 rfl rfl)
theorem dX9_net_9 : decode cX9_net 9 = .ok (.iload_n 1, 1) := dk_27 (dk_at dksX9_net_0 9 rfl rfl)
theorem dX9_net_10 : decode cX9_net 10 = .ok (.invokestatic 29, 3) := dk_184 0 29 (dk_at dksX9_net_0 10 rfl rfl)
theorem dX9_net_13 : decode cX9_net 13 = .ok (.invokestatic 40, 3) := dk_184 0 40 (dk_at dksX9_net_0 13 rfl rfl)
theorem dX9_net_16 : decode cX9_net 16 = .ok (.invokespecial 45, 3) := dk_183 0 45 (dk_at dksX9_net_0 16 rfl rfl)
theorem dX9_net_19 : decode cX9_net 19 = .ok (.astore_n 2, 1) := dk_77 (dk_at dksX9_net_0 19 rfl rfl)
theorem dX9_net_20 : decode cX9_net 20 = .ok (.iconst 0, 1) := dk_3 (dk_at dksX9_net_0 20 rfl rfl)
theorem dX9_net_21 : decode cX9_net 21 = .ok (.istore_n 3, 1) := dk_62 (dk_at dksX9_net_0 21 rfl rfl)
theorem dX9_net_22 : decode cX9_net 22 = .ok (.iload_n 3, 1) := dk_29 (dk_at dksX9_net_0 22 rfl rfl)
theorem dX9_net_23 : decode cX9_net 23 = .ok (.aload_n 0, 1) := dk_42 (dk_at dksX9_net_0 23 rfl rfl)
theorem dX9_net_24 : decode cX9_net 24 = .ok (.getfield 18, 3) := dk_180 0 18 (dk_at dksX9_net_1 0 rfl rfl)
theorem dX9_net_27 : decode cX9_net 27 = .ok (.if_icmp .ge 49, 3) := dk_162 0 49 (dk_at dksX9_net_1 3 rfl rfl)
theorem dX9_net_30 : decode cX9_net 30 = .ok (.iconst 1, 1) := dk_4 (dk_at dksX9_net_1 6 rfl rfl)
theorem dX9_net_31 : decode cX9_net 31 = .ok (.istore 4, 2) := dk_54 4 (dk_at dksX9_net_1 7 rfl rfl)
theorem dX9_net_33 : decode cX9_net 33 = .ok (.iload 4, 2) := dk_21 4 (dk_at dksX9_net_1 9 rfl rfl)
theorem dX9_net_35 : decode cX9_net 35 = .ok (.aload_n 0, 1) := dk_42 (dk_at dksX9_net_1 11 rfl rfl)
theorem dX9_net_36 : decode cX9_net 36 = .ok (.getfield 18, 3) := dk_180 0 18 (dk_at dksX9_net_1 12 rfl rfl)
theorem dX9_net_39 : decode cX9_net 39 = .ok (.if_icmp .ge 31, 3) := dk_162 0 31 (dk_at dksX9_net_1 15 rfl rfl)
theorem dX9_net_42 : decode cX9_net 42 = .ok (.iload_n 1, 1) := dk_27 (dk_at dksX9_net_1 18 rfl rfl)
theorem dX9_net_43 : decode cX9_net 43 = .ok (.iload 4, 2) := dk_21 4 (dk_at dksX9_net_1 19 rfl rfl)
theorem dX9_net_45 : decode cX9_net 45 = .ok (.ishr, 1) := dk_122 (dk_at dksX9_net_1 21 rfl rfl)
theorem dX9_net_46 : decode cX9_net 46 = .ok (.iconst 1, 1) := dk_4 (dk_at dksX9_net_1 22 rfl rfl)
theorem dX9_net_47 : decode cX9_net 47 = .ok (.iand, 1) := dk_126 (dk_at dksX9_net_1 23 rfl rfl)
theorem dX9_net_48 : decode cX9_net 48 = .ok (.iconst 1, 1) := dk_4 (dk_at dksX9_net_2 0 rfl rfl)
theorem dX9_net_49 : decode cX9_net 49 = .ok (.if_icmp .ne 15, 3) := dk_160 0 15 (dk_at dksX9_net_2 1 rfl rfl)
theorem dX9_net_52 : decode cX9_net 52 = .ok (.aload_n 2, 1) := dk_44 (dk_at dksX9_net_2 4 rfl rfl)
theorem dX9_net_53 : decode cX9_net 53 = .ok (.iload_n 3, 1) := dk_29 (dk_at dksX9_net_2 5 rfl rfl)
theorem dX9_net_54 : decode cX9_net 54 = .ok (.aload_n 0, 1) := dk_42 (dk_at dksX9_net_2 6 rfl rfl)
theorem dX9_net_55 : decode cX9_net 55 = .ok (.iload_n 3, 1) := dk_29 (dk_at dksX9_net_2 7 rfl rfl)
theorem dX9_net_56 : decode cX9_net 56 = .ok (.iload 4, 2) := dk_21 4 (dk_at dksX9_net_2 8 rfl rfl)
theorem dX9_net_58 : decode cX9_net 58 = .ok (.invokevirtual 25, 3) := dk_182 0 25 (dk_at dksX9_net_2 10 rfl rfl)
theorem dX9_net_61 : decode cX9_net 61 = .ok (.invokevirtual 48, 3) := dk_182 0 48 (dk_at dksX9_net_2 13 rfl rfl)
theorem dX9_net_64 : decode cX9_net 64 = .ok (.iinc 4 1, 3) := dk_132 4 1 (dk_at dksX9_net_2 16 rfl rfl)
theorem dX9_net_67 : decode cX9_net 67 = .ok (.goto (-34), 3) := dk_167 255 222 (dk_at dksX9_net_2 19 rfl rfl)
theorem dX9_net_70 : decode cX9_net 70 = .ok (.iinc 3 1, 3) := dk_132 3 1 (dk_at dksX9_net_3 0 rfl rfl)
theorem dX9_net_73 : decode cX9_net 73 = .ok (.goto (-51), 3) := dk_167 255 205 (dk_at dksX9_net_3 3 rfl rfl)
theorem dX9_net_76 : decode cX9_net 76 = .ok (.aload_n 2, 1) := dk_44 (dk_at dksX9_net_3 6 rfl rfl)
theorem dX9_net_77 : decode cX9_net 77 = .ok (.areturn, 1) := dk_176 (dk_at dksX9_net_3 7 rfl rfl)
theorem q132 : (Jvm.Cond.initialized "WiredNets$Group") ∈ lw_all := lw_g (lw_at lw_m1 24 rfl) rfl
theorem q370 : (Jvm.Cond.static ({ cls := "WiredNets$Group", name := "can", desc := "(III)Z" } : Jvm.MethodName)) ∈ lw_all := lw_g (lw_at lw_m2 22 rfl) rfl
theorem q371 : (Jvm.Cond.code ({ cls := "WiredNets$Group", name := "can", desc := "(III)Z" } : Jvm.MethodName) prog_5_method_2_code (3 : Nat) (Option.some Jvm.ClassFile.FieldType.boolean)) ∈ lw_all := lw_g (lw_at lw_m2 23 rfl) rfl
theorem q372 : (Jvm.Cond.methodLinkNest "WiredNets$Group" (21 : Nat) ({ cls := "WiredNets", name := "in", desc := "(III)Z" } : Jvm.MethodName) "WiredNets") ∈ lw_tbl := lw_at lw_m2 24 rfl
theorem q374 : (Jvm.Cond.instantiable "WiredNets$Group" (3 : Nat)) ∈ lw_all := lw_g (lw_at lw_m2 26 rfl) rfl
theorem q376 : (Jvm.Cond.instanceMethod ({ cls := "WiredNets$Group", name := "<init>", desc := "(III)V" } : Jvm.MethodName)) ∈ lw_all := lw_g (lw_at lw_m2 28 rfl) rfl
theorem q377 : (Jvm.Cond.code ({ cls := "WiredNets$Group", name := "<init>", desc := "(III)V" } : Jvm.MethodName) prog_5_method_1_code (4 : Nat) (Option.none : Option Jvm.ClassFile.FieldType)) ∈ lw_all := lw_g (lw_at lw_m2 29 rfl) rfl
theorem q378 : (Jvm.Cond.methodLink "WiredNets$Group" (3 : Nat) ({ cls := "java/lang/Object", name := "<init>", desc := "()V" } : Jvm.MethodName)) ∈ lw_all := lw_g (lw_at lw_m2 30 rfl) rfl
theorem q379 : (Jvm.Cond.fieldLink "WiredNets$Group" (9 : Nat) "WiredNets$Group" "kind" "I") ∈ lw_all := lw_g (lw_at lw_m2 31 rfl) rfl
theorem q380 : (Jvm.Cond.fieldLink "WiredNets$Group" (15 : Nat) "WiredNets$Group" "a" "I") ∈ lw_all := lw_g (lw_at lw_m2 32 rfl) rfl
theorem q381 : (Jvm.Cond.fieldLink "WiredNets$Group" (18 : Nat) "WiredNets$Group" "size" "I") ∈ lw_all := lw_g (lw_at lw_m2 33 rfl) rfl
theorem q383 : (Jvm.Cond.laysFinal "WiredNets$Group" "WiredNets$Group" "kind" "I") ∈ lw_all := lw_g (lw_at lw_m2 35 rfl) rfl
theorem q384 : (Jvm.Cond.soleField "WiredNets$Group" "kind") ∈ lw_all := lw_g (lw_at lw_m2 36 rfl) rfl
theorem q385 : (Jvm.Cond.laysFinal "WiredNets$Group" "WiredNets$Group" "a" "I") ∈ lw_all := lw_g (lw_at lw_m2 37 rfl) rfl
theorem q386 : (Jvm.Cond.soleField "WiredNets$Group" "a") ∈ lw_all := lw_g (lw_at lw_m2 38 rfl) rfl
theorem q387 : (Jvm.Cond.laysFinal "WiredNets$Group" "WiredNets$Group" "size" "I") ∈ lw_all := lw_g (lw_at lw_m2 39 rfl) rfl
theorem q388 : (Jvm.Cond.soleField "WiredNets$Group" "size") ∈ lw_all := lw_g (lw_at lw_m2 40 rfl) rfl
theorem q389 : (Jvm.Cond.superclass "WiredNets$Group" "java/lang/Object") ∈ lw_all := lw_g (lw_at lw_m2 41 rfl) rfl
theorem q391 : (Jvm.Cond.instanceMethod ({ cls := "WiredNets$Group", name := "areMoves", desc := "(I)Z" } : Jvm.MethodName)) ∈ lw_all := lw_g (lw_at lw_m2 43 rfl) rfl
theorem q392 : (Jvm.Cond.selects "WiredNets$Group" ({ cls := "WiredNets$Group", name := "areMoves", desc := "(I)Z" } : Jvm.MethodName) ({ cls := "WiredNets$Group", name := "areMoves", desc := "(I)Z" } : Jvm.MethodName)) ∈ lw_all := lw_g (lw_at lw_m2 44 rfl) rfl
theorem q393 : (Jvm.Cond.code ({ cls := "WiredNets$Group", name := "areMoves", desc := "(I)Z" } : Jvm.MethodName) prog_5_method_5_code (3 : Nat) (Option.some Jvm.ClassFile.FieldType.boolean)) ∈ lw_all := lw_g (lw_at lw_m2 45 rfl) rfl
theorem q394 : (Jvm.Cond.methodLink "WiredNets$Group" (29 : Nat) ({ cls := "java/lang/Integer", name := "bitCount", desc := "(I)I" } : Jvm.MethodName)) ∈ lw_all := lw_g (lw_at lw_m2 46 rfl) rfl
theorem q400 : (Jvm.Cond.methodLink "WiredNets$Group" (35 : Nat) ({ cls := "WiredNets$Group", name := "opposite", desc := "(I)I" } : Jvm.MethodName)) ∈ lw_all := lw_g (lw_at lw_m2 52 rfl) rfl
theorem q401 : (Jvm.Cond.instanceMethod ({ cls := "WiredNets$Group", name := "opposite", desc := "(I)I" } : Jvm.MethodName)) ∈ lw_all := lw_g (lw_at lw_m2 53 rfl) rfl
theorem q402 : (Jvm.Cond.selects "WiredNets$Group" ({ cls := "WiredNets$Group", name := "opposite", desc := "(I)I" } : Jvm.MethodName) ({ cls := "WiredNets$Group", name := "opposite", desc := "(I)I" } : Jvm.MethodName)) ∈ lw_all := lw_g (lw_at lw_m2 54 rfl) rfl
theorem q403 : (Jvm.Cond.code ({ cls := "WiredNets$Group", name := "opposite", desc := "(I)I" } : Jvm.MethodName) prog_5_method_4_code (3 : Nat) (Option.some Jvm.ClassFile.FieldType.int)) ∈ lw_all := lw_g (lw_at lw_m2 55 rfl) rfl
theorem q404 : (Jvm.Cond.methodLink "WiredNets$Group" (25 : Nat) ({ cls := "WiredNets$Group", name := "then", desc := "(II)I" } : Jvm.MethodName)) ∈ lw_all := lw_g (lw_at lw_m2 56 rfl) rfl
theorem q405 : (Jvm.Cond.instanceMethod ({ cls := "WiredNets$Group", name := "then", desc := "(II)I" } : Jvm.MethodName)) ∈ lw_all := lw_g (lw_at lw_m2 57 rfl) rfl
theorem q406 : (Jvm.Cond.selects "WiredNets$Group" ({ cls := "WiredNets$Group", name := "then", desc := "(II)I" } : Jvm.MethodName) ({ cls := "WiredNets$Group", name := "then", desc := "(II)I" } : Jvm.MethodName)) ∈ lw_all := lw_g (lw_at lw_m2 58 rfl) rfl
theorem q407 : (Jvm.Cond.code ({ cls := "WiredNets$Group", name := "then", desc := "(II)I" } : Jvm.MethodName) prog_5_method_3_code (7 : Nat) (Option.some Jvm.ClassFile.FieldType.int)) ∈ lw_all := lw_g (lw_at lw_m2 59 rfl) rfl
theorem q409 : (Jvm.Cond.instanceMethod ({ cls := "WiredNets$Group", name := "net", desc := "(I)LWiredNets$Net;" } : Jvm.MethodName)) ∈ lw_all := lw_g (lw_at lw_m2 61 rfl) rfl
theorem q410 : (Jvm.Cond.selects "WiredNets$Group" ({ cls := "WiredNets$Group", name := "net", desc := "(I)LWiredNets$Net;" } : Jvm.MethodName) ({ cls := "WiredNets$Group", name := "net", desc := "(I)LWiredNets$Net;" } : Jvm.MethodName)) ∈ lw_all := lw_g (lw_at lw_m2 62 rfl) rfl
theorem q411 : (Jvm.Cond.code ({ cls := "WiredNets$Group", name := "net", desc := "(I)LWiredNets$Net;" } : Jvm.MethodName) prog_5_method_6_code (5 : Nat) (Option.some (Jvm.ClassFile.FieldType.object "WiredNets$Net"))) ∈ lw_all := lw_g (lw_at lw_m2 63 rfl) rfl
theorem q412 : (Jvm.Cond.classLink "WiredNets$Group" (38 : Nat) "WiredNets$Net") ∈ lw_all := lw_g (lw_at lw_m2 64 rfl) rfl
theorem q413 : (Jvm.Cond.methodLink "WiredNets$Group" (40 : Nat) ({ cls := "java/lang/Math", name := "max", desc := "(II)I" } : Jvm.MethodName)) ∈ lw_all := lw_g (lw_at lw_m2 65 rfl) rfl
theorem q416 : (Jvm.Cond.methodLink "WiredNets$Group" (45 : Nat) ({ cls := "WiredNets$Net", name := "<init>", desc := "(II)V" } : Jvm.MethodName)) ∈ lw_all := lw_g (lw_at lw_m2 68 rfl) rfl
theorem q417 : (Jvm.Cond.methodLink "WiredNets$Group" (48 : Nat) ({ cls := "WiredNets$Net", name := "set", desc := "(II)V" } : Jvm.MethodName)) ∈ lw_all := lw_g (lw_at lw_m2 69 rfl) rfl
theorem q1147 : (Jvm.Cond.selects "WiredNets$Group" ({ cls := "java/lang/Object", name := "getClass", desc := "()Ljava/lang/Class;" } : Jvm.MethodName) ({ cls := "java/lang/Object", name := "getClass", desc := "()Ljava/lang/Class;" } : Jvm.MethodName)) ∈ lw_all := lw_g (lw_at lw_m5 79 rfl) rfl
theorem q2180 : (Jvm.Cond.castable "WiredNets$Group" "java/lang/Object") ∈ lw_tbl := lw_at lw_m9 152 rfl
theorem in_X9 : ∀ w ∈ wsX90, w ∈ lw_all := lw_in wsX90 [383, 385, 387] (by decide +kernel) (by decide +kernel)

/-! WiredNets$Own -/
set_option maxRecDepth 100000
def RX10 : String := "WiredNets$Own"
abbrev cX10_poly : ByteArray := prog_7_method_2_code
def yX10_poly : MethodName := ⟨RX10, "poly", "(LWiredNets$Net;)[J"⟩
def dkwX10_poly_5 : List UInt8 := [167, 255, 165, 44, 176]
abbrev dktX10_poly_5 : List UInt8 := dkwX10_poly_5 ++ []
def dkwX10_poly_4 : List UInt8 := [132, 7, 1, 167, 255, 235, 44, 27, 21, 4, 100, 22, 5, 117, 21, 4, 133, 109, 80, 132, 4, 1]
abbrev dktX10_poly_4 : List UInt8 := dkwX10_poly_4 ++ dktX10_poly_5
def dkwX10_poly_3 : List UInt8 := [55, 5, 3, 54, 7, 21, 7, 27, 162, 0, 21, 22, 5, 45, 21, 7, 50, 21, 7, 47, 97, 55, 5]
abbrev dktX10_poly_3 : List UInt8 := dkwX10_poly_3 ++ dktX10_poly_4
def dkwX10_poly_2 : List UInt8 := [47, 44, 27, 21, 4, 100, 4, 96, 47, 97, 80, 132, 5, 1, 167, 255, 229, 42, 45, 184, 0, 15, 78, 9]
abbrev dktX10_poly_2 : List UInt8 := dkwX10_poly_2 ++ dktX10_poly_3
def dkwX10_poly_1 : List UInt8 := [54, 4, 21, 4, 27, 163, 0, 91, 3, 54, 5, 21, 5, 27, 162, 0, 27, 45, 21, 5, 50, 21, 5, 92]
abbrev dktX10_poly_1 : List UInt8 := dkwX10_poly_1 ++ dktX10_poly_2
def dkwX10_poly_0 : List UInt8 := [42, 180, 0, 7, 60, 27, 4, 96, 188, 11, 77, 44, 27, 10, 80, 27, 27, 197, 0, 13, 2, 78, 4]
abbrev dktX10_poly_0 : List UInt8 := dkwX10_poly_0 ++ dktX10_poly_1
theorem dksX10_poly_0 : cX10_poly.data.toList.drop 0 = dktX10_poly_0 := by decide +kernel
theorem dksX10_poly_1 : cX10_poly.data.toList.drop 23 = dktX10_poly_1 := dk_seg dksX10_poly_0 23 rfl rfl
theorem dksX10_poly_2 : cX10_poly.data.toList.drop 47 = dktX10_poly_2 := dk_seg dksX10_poly_1 24 rfl rfl
theorem dksX10_poly_3 : cX10_poly.data.toList.drop 71 = dktX10_poly_3 := dk_seg dksX10_poly_2 24 rfl rfl
theorem dksX10_poly_4 : cX10_poly.data.toList.drop 94 = dktX10_poly_4 := dk_seg dksX10_poly_3 23 rfl rfl
theorem dksX10_poly_5 : cX10_poly.data.toList.drop 116 = dktX10_poly_5 := dk_seg dksX10_poly_4 22 rfl rfl
theorem dX10_poly_0 : decode cX10_poly 0 = .ok (.aload_n 0, 1) := dk_42 (dk_at dksX10_poly_0 0 rfl rfl)
theorem dX10_poly_1 : decode cX10_poly 1 = .ok (.getfield 7, 3) := dk_180 0 7 (dk_at dksX10_poly_0 1 rfl rfl)
theorem dX10_poly_4 : decode cX10_poly 4 = .ok (.istore_n 1, 1) := dk_60 (dk_at dksX10_poly_0 4 rfl rfl)
theorem dX10_poly_5 : decode cX10_poly 5 = .ok (.iload_n 1, 1) := dk_27 (dk_at dksX10_poly_0 5 rfl rfl)
theorem dX10_poly_6 : decode cX10_poly 6 = .ok (.iconst 1, 1) := dk_4 (dk_at dksX10_poly_0 6 rfl rfl)
theorem dX10_poly_7 : decode cX10_poly 7 = .ok (.iadd, 1) := dk_96 (dk_at dksX10_poly_0 7 rfl rfl)
theorem dX10_poly_8 : decode cX10_poly 8 = .ok (.newarray .long, 2) := dk_188_11 (dk_at dksX10_poly_0 8 rfl rfl)
theorem dX10_poly_10 : decode cX10_poly 10 = .ok (.astore_n 2, 1) := dk_77 (dk_at dksX10_poly_0 10 rfl rfl)
theorem dX10_poly_11 : decode cX10_poly 11 = .ok (.aload_n 2, 1) := dk_44 (dk_at dksX10_poly_0 11 rfl rfl)
theorem dX10_poly_12 : decode cX10_poly 12 = .ok (.iload_n 1, 1) := dk_27 (dk_at dksX10_poly_0 12 rfl rfl)
theorem dX10_poly_13 : decode cX10_poly 13 = .ok (.lconst 1, 1) := dk_10 (dk_at dksX10_poly_0 13 rfl rfl)
theorem dX10_poly_14 : decode cX10_poly 14 = .ok (.lastore, 1) := dk_80 (dk_at dksX10_poly_0 14 rfl rfl)
theorem dX10_poly_15 : decode cX10_poly 15 = .ok (.iload_n 1, 1) := dk_27 (dk_at dksX10_poly_0 15 rfl rfl)
theorem dX10_poly_16 : decode cX10_poly 16 = .ok (.iload_n 1, 1) := dk_27 (dk_at dksX10_poly_0 16 rfl rfl)
theorem dX10_poly_17 : decode cX10_poly 17 = .ok (.multianewarray 13 2, 4) := by decide +kernel
theorem dX10_poly_21 : decode cX10_poly 21 = .ok (.astore_n 3, 1) := dk_78 (dk_at dksX10_poly_0 21 rfl rfl)
theorem dX10_poly_22 : decode cX10_poly 22 = .ok (.iconst 1, 1) := dk_4 (dk_at dksX10_poly_0 22 rfl rfl)
theorem dX10_poly_23 : decode cX10_poly 23 = .ok (.istore 4, 2) := dk_54 4 (dk_at dksX10_poly_1 0 rfl rfl)
theorem dX10_poly_25 : decode cX10_poly 25 = .ok (.iload 4, 2) := dk_21 4 (dk_at dksX10_poly_1 2 rfl rfl)
theorem dX10_poly_27 : decode cX10_poly 27 = .ok (.iload_n 1, 1) := dk_27 (dk_at dksX10_poly_1 4 rfl rfl)
theorem dX10_poly_28 : decode cX10_poly 28 = .ok (.if_icmp .gt 91, 3) := dk_163 0 91 (dk_at dksX10_poly_1 5 rfl rfl)
theorem dX10_poly_31 : decode cX10_poly 31 = .ok (.iconst 0, 1) := dk_3 (dk_at dksX10_poly_1 8 rfl rfl)
theorem dX10_poly_32 : decode cX10_poly 32 = .ok (.istore 5, 2) := dk_54 5 (dk_at dksX10_poly_1 9 rfl rfl)
theorem dX10_poly_34 : decode cX10_poly 34 = .ok (.iload 5, 2) := dk_21 5 (dk_at dksX10_poly_1 11 rfl rfl)
theorem dX10_poly_36 : decode cX10_poly 36 = .ok (.iload_n 1, 1) := dk_27 (dk_at dksX10_poly_1 13 rfl rfl)
theorem dX10_poly_37 : decode cX10_poly 37 = .ok (.if_icmp .ge 27, 3) := dk_162 0 27 (dk_at dksX10_poly_1 14 rfl rfl)
theorem dX10_poly_40 : decode cX10_poly 40 = .ok (.aload_n 3, 1) := dk_45 (dk_at dksX10_poly_1 17 rfl rfl)
theorem dX10_poly_41 : decode cX10_poly 41 = .ok (.iload 5, 2) := dk_21 5 (dk_at dksX10_poly_1 18 rfl rfl)
theorem dX10_poly_43 : decode cX10_poly 43 = .ok (.aaload, 1) := dk_50 (dk_at dksX10_poly_1 20 rfl rfl)
theorem dX10_poly_44 : decode cX10_poly 44 = .ok (.iload 5, 2) := dk_21 5 (dk_at dksX10_poly_1 21 rfl rfl)
theorem dX10_poly_46 : decode cX10_poly 46 = .ok (.dup2, 1) := dk_92 (dk_at dksX10_poly_1 23 rfl rfl)
theorem dX10_poly_47 : decode cX10_poly 47 = .ok (.laload, 1) := dk_47 (dk_at dksX10_poly_2 0 rfl rfl)
theorem dX10_poly_48 : decode cX10_poly 48 = .ok (.aload_n 2, 1) := dk_44 (dk_at dksX10_poly_2 1 rfl rfl)
theorem dX10_poly_49 : decode cX10_poly 49 = .ok (.iload_n 1, 1) := dk_27 (dk_at dksX10_poly_2 2 rfl rfl)
theorem dX10_poly_50 : decode cX10_poly 50 = .ok (.iload 4, 2) := dk_21 4 (dk_at dksX10_poly_2 3 rfl rfl)
theorem dX10_poly_52 : decode cX10_poly 52 = .ok (.isub, 1) := dk_100 (dk_at dksX10_poly_2 5 rfl rfl)
theorem dX10_poly_53 : decode cX10_poly 53 = .ok (.iconst 1, 1) := dk_4 (dk_at dksX10_poly_2 6 rfl rfl)
theorem dX10_poly_54 : decode cX10_poly 54 = .ok (.iadd, 1) := dk_96 (dk_at dksX10_poly_2 7 rfl rfl)
theorem dX10_poly_55 : decode cX10_poly 55 = .ok (.laload, 1) := dk_47 (dk_at dksX10_poly_2 8 rfl rfl)
theorem dX10_poly_56 : decode cX10_poly 56 = .ok (.ladd, 1) := dk_97 (dk_at dksX10_poly_2 9 rfl rfl)
theorem dX10_poly_57 : decode cX10_poly 57 = .ok (.lastore, 1) := dk_80 (dk_at dksX10_poly_2 10 rfl rfl)
theorem dX10_poly_58 : decode cX10_poly 58 = .ok (.iinc 5 1, 3) := dk_132 5 1 (dk_at dksX10_poly_2 11 rfl rfl)
theorem dX10_poly_61 : decode cX10_poly 61 = .ok (.goto (-27), 3) := dk_167 255 229 (dk_at dksX10_poly_2 14 rfl rfl)
theorem dX10_poly_64 : decode cX10_poly 64 = .ok (.aload_n 0, 1) := dk_42 (dk_at dksX10_poly_2 17 rfl rfl)
theorem dX10_poly_65 : decode cX10_poly 65 = .ok (.aload_n 3, 1) := dk_45 (dk_at dksX10_poly_2 18 rfl rfl)
theorem dX10_poly_66 : decode cX10_poly 66 = .ok (.invokestatic 15, 3) := dk_184 0 15 (dk_at dksX10_poly_2 19 rfl rfl)
theorem dX10_poly_69 : decode cX10_poly 69 = .ok (.astore_n 3, 1) := dk_78 (dk_at dksX10_poly_2 22 rfl rfl)
theorem dX10_poly_70 : decode cX10_poly 70 = .ok (.lconst 0, 1) := dk_9 (dk_at dksX10_poly_2 23 rfl rfl)
theorem dX10_poly_71 : decode cX10_poly 71 = .ok (.lstore 5, 2) := dk_55 5 (dk_at dksX10_poly_3 0 rfl rfl)
theorem dX10_poly_73 : decode cX10_poly 73 = .ok (.iconst 0, 1) := dk_3 (dk_at dksX10_poly_3 2 rfl rfl)
theorem dX10_poly_74 : decode cX10_poly 74 = .ok (.istore 7, 2) := dk_54 7 (dk_at dksX10_poly_3 3 rfl rfl)
theorem dX10_poly_76 : decode cX10_poly 76 = .ok (.iload 7, 2) := dk_21 7 (dk_at dksX10_poly_3 5 rfl rfl)
theorem dX10_poly_78 : decode cX10_poly 78 = .ok (.iload_n 1, 1) := dk_27 (dk_at dksX10_poly_3 7 rfl rfl)
theorem dX10_poly_79 : decode cX10_poly 79 = .ok (.if_icmp .ge 21, 3) := dk_162 0 21 (dk_at dksX10_poly_3 8 rfl rfl)
theorem dX10_poly_82 : decode cX10_poly 82 = .ok (.lload 5, 2) := dk_22 5 (dk_at dksX10_poly_3 11 rfl rfl)
theorem dX10_poly_84 : decode cX10_poly 84 = .ok (.aload_n 3, 1) := dk_45 (dk_at dksX10_poly_3 13 rfl rfl)
theorem dX10_poly_85 : decode cX10_poly 85 = .ok (.iload 7, 2) := dk_21 7 (dk_at dksX10_poly_3 14 rfl rfl)
theorem dX10_poly_87 : decode cX10_poly 87 = .ok (.aaload, 1) := dk_50 (dk_at dksX10_poly_3 16 rfl rfl)
theorem dX10_poly_88 : decode cX10_poly 88 = .ok (.iload 7, 2) := dk_21 7 (dk_at dksX10_poly_3 17 rfl rfl)
theorem dX10_poly_90 : decode cX10_poly 90 = .ok (.laload, 1) := dk_47 (dk_at dksX10_poly_3 19 rfl rfl)
theorem dX10_poly_91 : decode cX10_poly 91 = .ok (.ladd, 1) := dk_97 (dk_at dksX10_poly_3 20 rfl rfl)
theorem dX10_poly_92 : decode cX10_poly 92 = .ok (.lstore 5, 2) := dk_55 5 (dk_at dksX10_poly_3 21 rfl rfl)
theorem dX10_poly_94 : decode cX10_poly 94 = .ok (.iinc 7 1, 3) := dk_132 7 1 (dk_at dksX10_poly_4 0 rfl rfl)
theorem dX10_poly_97 : decode cX10_poly 97 = .ok (.goto (-21), 3) := dk_167 255 235 (dk_at dksX10_poly_4 3 rfl rfl)
theorem dX10_poly_100 : decode cX10_poly 100 = .ok (.aload_n 2, 1) := dk_44 (dk_at dksX10_poly_4 6 rfl rfl)
theorem dX10_poly_101 : decode cX10_poly 101 = .ok (.iload_n 1, 1) := dk_27 (dk_at dksX10_poly_4 7 rfl rfl)
theorem dX10_poly_102 : decode cX10_poly 102 = .ok (.iload 4, 2) := dk_21 4 (dk_at dksX10_poly_4 8 rfl rfl)
theorem dX10_poly_104 : decode cX10_poly 104 = .ok (.isub, 1) := dk_100 (dk_at dksX10_poly_4 10 rfl rfl)
theorem dX10_poly_105 : decode cX10_poly 105 = .ok (.lload 5, 2) := dk_22 5 (dk_at dksX10_poly_4 11 rfl rfl)
theorem dX10_poly_107 : decode cX10_poly 107 = .ok (.lneg, 1) := dk_117 (dk_at dksX10_poly_4 13 rfl rfl)
theorem dX10_poly_108 : decode cX10_poly 108 = .ok (.iload 4, 2) := dk_21 4 (dk_at dksX10_poly_4 14 rfl rfl)
theorem dX10_poly_110 : decode cX10_poly 110 = .ok (.i2l, 1) := dk_133 (dk_at dksX10_poly_4 16 rfl rfl)
theorem dX10_poly_111 : decode cX10_poly 111 = .ok (.ldiv, 1) := dk_109 (dk_at dksX10_poly_4 17 rfl rfl)
theorem dX10_poly_112 : decode cX10_poly 112 = .ok (.lastore, 1) := dk_80 (dk_at dksX10_poly_4 18 rfl rfl)
theorem dX10_poly_113 : decode cX10_poly 113 = .ok (.iinc 4 1, 3) := dk_132 4 1 (dk_at dksX10_poly_4 19 rfl rfl)
theorem dX10_poly_116 : decode cX10_poly 116 = .ok (.goto (-91), 3) := dk_167 255 165 (dk_at dksX10_poly_5 0 rfl rfl)
theorem dX10_poly_119 : decode cX10_poly 119 = .ok (.aload_n 2, 1) := dk_44 (dk_at dksX10_poly_5 3 rfl rfl)
theorem dX10_poly_120 : decode cX10_poly 120 = .ok (.areturn, 1) := dk_176 (dk_at dksX10_poly_5 4 rfl rfl)
abbrev cX10_behind : ByteArray := prog_7_method_3_code
def yX10_behind : MethodName := ⟨RX10, "behind", "(LWiredNets$Net;[[J)[[J"⟩
def dkwX10_behind_3 : List UInt8 := [167, 255, 225, 21, 4, 21, 4, 4, 100, 126, 54, 4, 167, 255, 205, 132, 3, 1, 167, 255, 183, 44, 176]
abbrev dktX10_behind_3 : List UInt8 := dkwX10_behind_3 ++ []
def dkwX10_behind_2 : List UInt8 := [44, 29, 50, 21, 5, 92, 47, 43, 21, 4, 184, 0, 25, 50, 21, 5, 47, 97, 80, 132, 5, 1]
abbrev dktX10_behind_2 : List UInt8 := dkwX10_behind_2 ++ dktX10_behind_3
def dkwX10_behind_1 : List UInt8 := [180, 0, 21, 29, 46, 54, 4, 21, 4, 153, 0, 52, 3, 54, 5, 21, 5, 42, 180, 0, 7, 162, 0, 28]
abbrev dktX10_behind_1 : List UInt8 := dkwX10_behind_1 ++ dktX10_behind_2
def dkwX10_behind_0 : List UInt8 := [42, 180, 0, 7, 42, 180, 0, 7, 197, 0, 13, 2, 77, 3, 62, 29, 42, 180, 0, 7, 162, 0, 71, 42]
abbrev dktX10_behind_0 : List UInt8 := dkwX10_behind_0 ++ dktX10_behind_1
theorem dksX10_behind_0 : cX10_behind.data.toList.drop 0 = dktX10_behind_0 := by decide +kernel
theorem dksX10_behind_1 : cX10_behind.data.toList.drop 24 = dktX10_behind_1 := dk_seg dksX10_behind_0 24 rfl rfl
theorem dksX10_behind_2 : cX10_behind.data.toList.drop 48 = dktX10_behind_2 := dk_seg dksX10_behind_1 24 rfl rfl
theorem dksX10_behind_3 : cX10_behind.data.toList.drop 70 = dktX10_behind_3 := dk_seg dksX10_behind_2 22 rfl rfl
theorem dX10_behind_0 : decode cX10_behind 0 = .ok (.aload_n 0, 1) := dk_42 (dk_at dksX10_behind_0 0 rfl rfl)
theorem dX10_behind_1 : decode cX10_behind 1 = .ok (.getfield 7, 3) := dk_180 0 7 (dk_at dksX10_behind_0 1 rfl rfl)
theorem dX10_behind_4 : decode cX10_behind 4 = .ok (.aload_n 0, 1) := dk_42 (dk_at dksX10_behind_0 4 rfl rfl)
theorem dX10_behind_5 : decode cX10_behind 5 = .ok (.getfield 7, 3) := dk_180 0 7 (dk_at dksX10_behind_0 5 rfl rfl)
theorem dX10_behind_8 : decode cX10_behind 8 = .ok (.multianewarray 13 2, 4) := by decide +kernel
theorem dX10_behind_12 : decode cX10_behind 12 = .ok (.astore_n 2, 1) := dk_77 (dk_at dksX10_behind_0 12 rfl rfl)
theorem dX10_behind_13 : decode cX10_behind 13 = .ok (.iconst 0, 1) := dk_3 (dk_at dksX10_behind_0 13 rfl rfl)
theorem dX10_behind_14 : decode cX10_behind 14 = .ok (.istore_n 3, 1) := dk_62 (dk_at dksX10_behind_0 14 rfl rfl)
theorem dX10_behind_15 : decode cX10_behind 15 = .ok (.iload_n 3, 1) := dk_29 (dk_at dksX10_behind_0 15 rfl rfl)
theorem dX10_behind_16 : decode cX10_behind 16 = .ok (.aload_n 0, 1) := dk_42 (dk_at dksX10_behind_0 16 rfl rfl)
theorem dX10_behind_17 : decode cX10_behind 17 = .ok (.getfield 7, 3) := dk_180 0 7 (dk_at dksX10_behind_0 17 rfl rfl)
theorem dX10_behind_20 : decode cX10_behind 20 = .ok (.if_icmp .ge 71, 3) := dk_162 0 71 (dk_at dksX10_behind_0 20 rfl rfl)
theorem dX10_behind_23 : decode cX10_behind 23 = .ok (.aload_n 0, 1) := dk_42 (dk_at dksX10_behind_0 23 rfl rfl)
theorem dX10_behind_24 : decode cX10_behind 24 = .ok (.getfield 21, 3) := dk_180 0 21 (dk_at dksX10_behind_1 0 rfl rfl)
theorem dX10_behind_27 : decode cX10_behind 27 = .ok (.iload_n 3, 1) := dk_29 (dk_at dksX10_behind_1 3 rfl rfl)
theorem dX10_behind_28 : decode cX10_behind 28 = .ok (.iaload, 1) := dk_46 (dk_at dksX10_behind_1 4 rfl rfl)
theorem dX10_behind_29 : decode cX10_behind 29 = .ok (.istore 4, 2) := dk_54 4 (dk_at dksX10_behind_1 5 rfl rfl)
theorem dX10_behind_31 : decode cX10_behind 31 = .ok (.iload 4, 2) := dk_21 4 (dk_at dksX10_behind_1 7 rfl rfl)
theorem dX10_behind_33 : decode cX10_behind 33 = .ok (.ifCond .eq 52, 3) := dk_153 0 52 (dk_at dksX10_behind_1 9 rfl rfl)
theorem dX10_behind_36 : decode cX10_behind 36 = .ok (.iconst 0, 1) := dk_3 (dk_at dksX10_behind_1 12 rfl rfl)
theorem dX10_behind_37 : decode cX10_behind 37 = .ok (.istore 5, 2) := dk_54 5 (dk_at dksX10_behind_1 13 rfl rfl)
theorem dX10_behind_39 : decode cX10_behind 39 = .ok (.iload 5, 2) := dk_21 5 (dk_at dksX10_behind_1 15 rfl rfl)
theorem dX10_behind_41 : decode cX10_behind 41 = .ok (.aload_n 0, 1) := dk_42 (dk_at dksX10_behind_1 17 rfl rfl)
theorem dX10_behind_42 : decode cX10_behind 42 = .ok (.getfield 7, 3) := dk_180 0 7 (dk_at dksX10_behind_1 18 rfl rfl)
theorem dX10_behind_45 : decode cX10_behind 45 = .ok (.if_icmp .ge 28, 3) := dk_162 0 28 (dk_at dksX10_behind_1 21 rfl rfl)
theorem dX10_behind_48 : decode cX10_behind 48 = .ok (.aload_n 2, 1) := dk_44 (dk_at dksX10_behind_2 0 rfl rfl)
theorem dX10_behind_49 : decode cX10_behind 49 = .ok (.iload_n 3, 1) := dk_29 (dk_at dksX10_behind_2 1 rfl rfl)
theorem dX10_behind_50 : decode cX10_behind 50 = .ok (.aaload, 1) := dk_50 (dk_at dksX10_behind_2 2 rfl rfl)
theorem dX10_behind_51 : decode cX10_behind 51 = .ok (.iload 5, 2) := dk_21 5 (dk_at dksX10_behind_2 3 rfl rfl)
theorem dX10_behind_53 : decode cX10_behind 53 = .ok (.dup2, 1) := dk_92 (dk_at dksX10_behind_2 5 rfl rfl)
theorem dX10_behind_54 : decode cX10_behind 54 = .ok (.laload, 1) := dk_47 (dk_at dksX10_behind_2 6 rfl rfl)
theorem dX10_behind_55 : decode cX10_behind 55 = .ok (.aload_n 1, 1) := dk_43 (dk_at dksX10_behind_2 7 rfl rfl)
theorem dX10_behind_56 : decode cX10_behind 56 = .ok (.iload 4, 2) := dk_21 4 (dk_at dksX10_behind_2 8 rfl rfl)
theorem dX10_behind_58 : decode cX10_behind 58 = .ok (.invokestatic 25, 3) := dk_184 0 25 (dk_at dksX10_behind_2 10 rfl rfl)
theorem dX10_behind_61 : decode cX10_behind 61 = .ok (.aaload, 1) := dk_50 (dk_at dksX10_behind_2 13 rfl rfl)
theorem dX10_behind_62 : decode cX10_behind 62 = .ok (.iload 5, 2) := dk_21 5 (dk_at dksX10_behind_2 14 rfl rfl)
theorem dX10_behind_64 : decode cX10_behind 64 = .ok (.laload, 1) := dk_47 (dk_at dksX10_behind_2 16 rfl rfl)
theorem dX10_behind_65 : decode cX10_behind 65 = .ok (.ladd, 1) := dk_97 (dk_at dksX10_behind_2 17 rfl rfl)
theorem dX10_behind_66 : decode cX10_behind 66 = .ok (.lastore, 1) := dk_80 (dk_at dksX10_behind_2 18 rfl rfl)
theorem dX10_behind_67 : decode cX10_behind 67 = .ok (.iinc 5 1, 3) := dk_132 5 1 (dk_at dksX10_behind_2 19 rfl rfl)
theorem dX10_behind_70 : decode cX10_behind 70 = .ok (.goto (-31), 3) := dk_167 255 225 (dk_at dksX10_behind_3 0 rfl rfl)
theorem dX10_behind_73 : decode cX10_behind 73 = .ok (.iload 4, 2) := dk_21 4 (dk_at dksX10_behind_3 3 rfl rfl)
theorem dX10_behind_75 : decode cX10_behind 75 = .ok (.iload 4, 2) := dk_21 4 (dk_at dksX10_behind_3 5 rfl rfl)
theorem dX10_behind_77 : decode cX10_behind 77 = .ok (.iconst 1, 1) := dk_4 (dk_at dksX10_behind_3 7 rfl rfl)
theorem dX10_behind_78 : decode cX10_behind 78 = .ok (.isub, 1) := dk_100 (dk_at dksX10_behind_3 8 rfl rfl)
theorem dX10_behind_79 : decode cX10_behind 79 = .ok (.iand, 1) := dk_126 (dk_at dksX10_behind_3 9 rfl rfl)
theorem dX10_behind_80 : decode cX10_behind 80 = .ok (.istore 4, 2) := dk_54 4 (dk_at dksX10_behind_3 10 rfl rfl)
theorem dX10_behind_82 : decode cX10_behind 82 = .ok (.goto (-51), 3) := dk_167 255 205 (dk_at dksX10_behind_3 12 rfl rfl)
theorem dX10_behind_85 : decode cX10_behind 85 = .ok (.iinc 3 1, 3) := dk_132 3 1 (dk_at dksX10_behind_3 15 rfl rfl)
theorem dX10_behind_88 : decode cX10_behind 88 = .ok (.goto (-73), 3) := dk_167 255 183 (dk_at dksX10_behind_3 18 rfl rfl)
theorem dX10_behind_91 : decode cX10_behind 91 = .ok (.aload_n 2, 1) := dk_44 (dk_at dksX10_behind_3 21 rfl rfl)
theorem dX10_behind_92 : decode cX10_behind 92 = .ok (.areturn, 1) := dk_176 (dk_at dksX10_behind_3 22 rfl rfl)
abbrev cX10_above : ByteArray := prog_7_method_4_code
def yX10_above : MethodName := ⟨RX10, "above", "(LWiredNets$Net;I)I"⟩
def dkwX10_above_5 : List UInt8 := [54, 5, 132, 4, 1, 132, 6, 255, 167, 255, 201, 21, 4, 172]
abbrev dktX10_above_5 : List UInt8 := dkwX10_above_5 ++ []
def dkwX10_above_4 : List UInt8 := [167, 0, 4, 3, 21, 5, 158, 0, 7, 4, 167, 0, 4, 3, 160, 0, 6, 167, 0, 11, 21, 5, 116]
abbrev dktX10_above_4 : List UInt8 := dkwX10_above_4 ++ dktX10_above_5
def dkwX10_above_3 : List UInt8 := [21, 6, 155, 0, 56, 44, 21, 6, 47, 9, 148, 153, 0, 41, 44, 21, 6, 47, 9, 148, 158, 0, 7, 4]
abbrev dktX10_above_3 : List UInt8 := dkwX10_above_3 ++ dktX10_above_4
def dkwX10_above_2 : List UInt8 := [132, 5, 255, 167, 255, 230, 132, 4, 1, 167, 255, 213, 3, 54, 4, 4, 54, 5, 29, 4, 100, 54, 6]
abbrev dktX10_above_2 : List UInt8 := dkwX10_above_2 ++ dktX10_above_3
def dkwX10_above_1 : List UInt8 := [21, 5, 21, 4, 161, 0, 25, 44, 21, 5, 92, 47, 27, 133, 44, 21, 5, 4, 96, 47, 105, 97, 80]
abbrev dktX10_above_1 : List UInt8 := dkwX10_above_1 ++ dktX10_above_2
def dkwX10_above_0 : List UInt8 := [42, 184, 0, 31, 77, 42, 180, 0, 7, 62, 3, 54, 4, 21, 4, 29, 162, 0, 43, 29, 4, 100, 54, 5]
abbrev dktX10_above_0 : List UInt8 := dkwX10_above_0 ++ dktX10_above_1
theorem dksX10_above_0 : cX10_above.data.toList.drop 0 = dktX10_above_0 := by decide +kernel
theorem dksX10_above_1 : cX10_above.data.toList.drop 24 = dktX10_above_1 := dk_seg dksX10_above_0 24 rfl rfl
theorem dksX10_above_2 : cX10_above.data.toList.drop 47 = dktX10_above_2 := dk_seg dksX10_above_1 23 rfl rfl
theorem dksX10_above_3 : cX10_above.data.toList.drop 70 = dktX10_above_3 := dk_seg dksX10_above_2 23 rfl rfl
theorem dksX10_above_4 : cX10_above.data.toList.drop 94 = dktX10_above_4 := dk_seg dksX10_above_3 24 rfl rfl
theorem dksX10_above_5 : cX10_above.data.toList.drop 117 = dktX10_above_5 := dk_seg dksX10_above_4 23 rfl rfl
theorem dX10_above_0 : decode cX10_above 0 = .ok (.aload_n 0, 1) := dk_42 (dk_at dksX10_above_0 0 rfl rfl)
theorem dX10_above_1 : decode cX10_above 1 = .ok (.invokestatic 31, 3) := dk_184 0 31 (dk_at dksX10_above_0 1 rfl rfl)
theorem dX10_above_4 : decode cX10_above 4 = .ok (.astore_n 2, 1) := dk_77 (dk_at dksX10_above_0 4 rfl rfl)
theorem dX10_above_5 : decode cX10_above 5 = .ok (.aload_n 0, 1) := dk_42 (dk_at dksX10_above_0 5 rfl rfl)
theorem dX10_above_6 : decode cX10_above 6 = .ok (.getfield 7, 3) := dk_180 0 7 (dk_at dksX10_above_0 6 rfl rfl)
theorem dX10_above_9 : decode cX10_above 9 = .ok (.istore_n 3, 1) := dk_62 (dk_at dksX10_above_0 9 rfl rfl)
theorem dX10_above_10 : decode cX10_above 10 = .ok (.iconst 0, 1) := dk_3 (dk_at dksX10_above_0 10 rfl rfl)
theorem dX10_above_11 : decode cX10_above 11 = .ok (.istore 4, 2) := dk_54 4 (dk_at dksX10_above_0 11 rfl rfl)
theorem dX10_above_13 : decode cX10_above 13 = .ok (.iload 4, 2) := dk_21 4 (dk_at dksX10_above_0 13 rfl rfl)
theorem dX10_above_15 : decode cX10_above 15 = .ok (.iload_n 3, 1) := dk_29 (dk_at dksX10_above_0 15 rfl rfl)
theorem dX10_above_16 : decode cX10_above 16 = .ok (.if_icmp .ge 43, 3) := dk_162 0 43 (dk_at dksX10_above_0 16 rfl rfl)
theorem dX10_above_19 : decode cX10_above 19 = .ok (.iload_n 3, 1) := dk_29 (dk_at dksX10_above_0 19 rfl rfl)
theorem dX10_above_20 : decode cX10_above 20 = .ok (.iconst 1, 1) := dk_4 (dk_at dksX10_above_0 20 rfl rfl)
theorem dX10_above_21 : decode cX10_above 21 = .ok (.isub, 1) := dk_100 (dk_at dksX10_above_0 21 rfl rfl)
theorem dX10_above_22 : decode cX10_above 22 = .ok (.istore 5, 2) := dk_54 5 (dk_at dksX10_above_0 22 rfl rfl)
theorem dX10_above_24 : decode cX10_above 24 = .ok (.iload 5, 2) := dk_21 5 (dk_at dksX10_above_1 0 rfl rfl)
theorem dX10_above_26 : decode cX10_above 26 = .ok (.iload 4, 2) := dk_21 4 (dk_at dksX10_above_1 2 rfl rfl)
theorem dX10_above_28 : decode cX10_above 28 = .ok (.if_icmp .lt 25, 3) := dk_161 0 25 (dk_at dksX10_above_1 4 rfl rfl)
theorem dX10_above_31 : decode cX10_above 31 = .ok (.aload_n 2, 1) := dk_44 (dk_at dksX10_above_1 7 rfl rfl)
theorem dX10_above_32 : decode cX10_above 32 = .ok (.iload 5, 2) := dk_21 5 (dk_at dksX10_above_1 8 rfl rfl)
theorem dX10_above_34 : decode cX10_above 34 = .ok (.dup2, 1) := dk_92 (dk_at dksX10_above_1 10 rfl rfl)
theorem dX10_above_35 : decode cX10_above 35 = .ok (.laload, 1) := dk_47 (dk_at dksX10_above_1 11 rfl rfl)
theorem dX10_above_36 : decode cX10_above 36 = .ok (.iload_n 1, 1) := dk_27 (dk_at dksX10_above_1 12 rfl rfl)
theorem dX10_above_37 : decode cX10_above 37 = .ok (.i2l, 1) := dk_133 (dk_at dksX10_above_1 13 rfl rfl)
theorem dX10_above_38 : decode cX10_above 38 = .ok (.aload_n 2, 1) := dk_44 (dk_at dksX10_above_1 14 rfl rfl)
theorem dX10_above_39 : decode cX10_above 39 = .ok (.iload 5, 2) := dk_21 5 (dk_at dksX10_above_1 15 rfl rfl)
theorem dX10_above_41 : decode cX10_above 41 = .ok (.iconst 1, 1) := dk_4 (dk_at dksX10_above_1 17 rfl rfl)
theorem dX10_above_42 : decode cX10_above 42 = .ok (.iadd, 1) := dk_96 (dk_at dksX10_above_1 18 rfl rfl)
theorem dX10_above_43 : decode cX10_above 43 = .ok (.laload, 1) := dk_47 (dk_at dksX10_above_1 19 rfl rfl)
theorem dX10_above_44 : decode cX10_above 44 = .ok (.lmul, 1) := dk_105 (dk_at dksX10_above_1 20 rfl rfl)
theorem dX10_above_45 : decode cX10_above 45 = .ok (.ladd, 1) := dk_97 (dk_at dksX10_above_1 21 rfl rfl)
theorem dX10_above_46 : decode cX10_above 46 = .ok (.lastore, 1) := dk_80 (dk_at dksX10_above_1 22 rfl rfl)
theorem dX10_above_47 : decode cX10_above 47 = .ok (.iinc 5 (-1), 3) := dk_132 5 255 (dk_at dksX10_above_2 0 rfl rfl)
theorem dX10_above_50 : decode cX10_above 50 = .ok (.goto (-26), 3) := dk_167 255 230 (dk_at dksX10_above_2 3 rfl rfl)
theorem dX10_above_53 : decode cX10_above 53 = .ok (.iinc 4 1, 3) := dk_132 4 1 (dk_at dksX10_above_2 6 rfl rfl)
theorem dX10_above_56 : decode cX10_above 56 = .ok (.goto (-43), 3) := dk_167 255 213 (dk_at dksX10_above_2 9 rfl rfl)
theorem dX10_above_59 : decode cX10_above 59 = .ok (.iconst 0, 1) := dk_3 (dk_at dksX10_above_2 12 rfl rfl)
theorem dX10_above_60 : decode cX10_above 60 = .ok (.istore 4, 2) := dk_54 4 (dk_at dksX10_above_2 13 rfl rfl)
theorem dX10_above_62 : decode cX10_above 62 = .ok (.iconst 1, 1) := dk_4 (dk_at dksX10_above_2 15 rfl rfl)
theorem dX10_above_63 : decode cX10_above 63 = .ok (.istore 5, 2) := dk_54 5 (dk_at dksX10_above_2 16 rfl rfl)
theorem dX10_above_65 : decode cX10_above 65 = .ok (.iload_n 3, 1) := dk_29 (dk_at dksX10_above_2 18 rfl rfl)
theorem dX10_above_66 : decode cX10_above 66 = .ok (.iconst 1, 1) := dk_4 (dk_at dksX10_above_2 19 rfl rfl)
theorem dX10_above_67 : decode cX10_above 67 = .ok (.isub, 1) := dk_100 (dk_at dksX10_above_2 20 rfl rfl)
theorem dX10_above_68 : decode cX10_above 68 = .ok (.istore 6, 2) := dk_54 6 (dk_at dksX10_above_2 21 rfl rfl)
theorem dX10_above_70 : decode cX10_above 70 = .ok (.iload 6, 2) := dk_21 6 (dk_at dksX10_above_3 0 rfl rfl)
theorem dX10_above_72 : decode cX10_above 72 = .ok (.ifCond .lt 56, 3) := dk_155 0 56 (dk_at dksX10_above_3 2 rfl rfl)
theorem dX10_above_75 : decode cX10_above 75 = .ok (.aload_n 2, 1) := dk_44 (dk_at dksX10_above_3 5 rfl rfl)
theorem dX10_above_76 : decode cX10_above 76 = .ok (.iload 6, 2) := dk_21 6 (dk_at dksX10_above_3 6 rfl rfl)
theorem dX10_above_78 : decode cX10_above 78 = .ok (.laload, 1) := dk_47 (dk_at dksX10_above_3 8 rfl rfl)
theorem dX10_above_79 : decode cX10_above 79 = .ok (.lconst 0, 1) := dk_9 (dk_at dksX10_above_3 9 rfl rfl)
theorem dX10_above_80 : decode cX10_above 80 = .ok (.lcmp, 1) := dk_148 (dk_at dksX10_above_3 10 rfl rfl)
theorem dX10_above_81 : decode cX10_above 81 = .ok (.ifCond .eq 41, 3) := dk_153 0 41 (dk_at dksX10_above_3 11 rfl rfl)
theorem dX10_above_84 : decode cX10_above 84 = .ok (.aload_n 2, 1) := dk_44 (dk_at dksX10_above_3 14 rfl rfl)
theorem dX10_above_85 : decode cX10_above 85 = .ok (.iload 6, 2) := dk_21 6 (dk_at dksX10_above_3 15 rfl rfl)
theorem dX10_above_87 : decode cX10_above 87 = .ok (.laload, 1) := dk_47 (dk_at dksX10_above_3 17 rfl rfl)
theorem dX10_above_88 : decode cX10_above 88 = .ok (.lconst 0, 1) := dk_9 (dk_at dksX10_above_3 18 rfl rfl)
theorem dX10_above_89 : decode cX10_above 89 = .ok (.lcmp, 1) := dk_148 (dk_at dksX10_above_3 19 rfl rfl)
theorem dX10_above_90 : decode cX10_above 90 = .ok (.ifCond .le 7, 3) := dk_158 0 7 (dk_at dksX10_above_3 20 rfl rfl)
theorem dX10_above_93 : decode cX10_above 93 = .ok (.iconst 1, 1) := dk_4 (dk_at dksX10_above_3 23 rfl rfl)
theorem dX10_above_94 : decode cX10_above 94 = .ok (.goto 4, 3) := dk_167 0 4 (dk_at dksX10_above_4 0 rfl rfl)
theorem dX10_above_97 : decode cX10_above 97 = .ok (.iconst 0, 1) := dk_3 (dk_at dksX10_above_4 3 rfl rfl)
theorem dX10_above_98 : decode cX10_above 98 = .ok (.iload 5, 2) := dk_21 5 (dk_at dksX10_above_4 4 rfl rfl)
theorem dX10_above_100 : decode cX10_above 100 = .ok (.ifCond .le 7, 3) := dk_158 0 7 (dk_at dksX10_above_4 6 rfl rfl)
theorem dX10_above_103 : decode cX10_above 103 = .ok (.iconst 1, 1) := dk_4 (dk_at dksX10_above_4 9 rfl rfl)
theorem dX10_above_104 : decode cX10_above 104 = .ok (.goto 4, 3) := dk_167 0 4 (dk_at dksX10_above_4 10 rfl rfl)
theorem dX10_above_107 : decode cX10_above 107 = .ok (.iconst 0, 1) := dk_3 (dk_at dksX10_above_4 13 rfl rfl)
theorem dX10_above_108 : decode cX10_above 108 = .ok (.if_icmp .ne 6, 3) := dk_160 0 6 (dk_at dksX10_above_4 14 rfl rfl)
theorem dX10_above_111 : decode cX10_above 111 = .ok (.goto 11, 3) := dk_167 0 11 (dk_at dksX10_above_4 17 rfl rfl)
theorem dX10_above_114 : decode cX10_above 114 = .ok (.iload 5, 2) := dk_21 5 (dk_at dksX10_above_4 20 rfl rfl)
theorem dX10_above_116 : decode cX10_above 116 = .ok (.ineg, 1) := dk_116 (dk_at dksX10_above_4 22 rfl rfl)
theorem dX10_above_117 : decode cX10_above 117 = .ok (.istore 5, 2) := dk_54 5 (dk_at dksX10_above_5 0 rfl rfl)
theorem dX10_above_119 : decode cX10_above 119 = .ok (.iinc 4 1, 3) := dk_132 4 1 (dk_at dksX10_above_5 2 rfl rfl)
theorem dX10_above_122 : decode cX10_above 122 = .ok (.iinc 6 (-1), 3) := dk_132 6 255 (dk_at dksX10_above_5 5 rfl rfl)
theorem dX10_above_125 : decode cX10_above 125 = .ok (.goto (-55), 3) := dk_167 255 201 (dk_at dksX10_above_5 8 rfl rfl)
theorem dX10_above_128 : decode cX10_above 128 = .ok (.iload 4, 2) := dk_21 4 (dk_at dksX10_above_5 11 rfl rfl)
theorem dX10_above_130 : decode cX10_above 130 = .ok (.ireturn, 1) := dk_172 (dk_at dksX10_above_5 13 rfl rfl)
abbrev cX10_walks : ByteArray := prog_7_method_5_code
def yX10_walks : MethodName := ⟨RX10, "walks", "(LWiredNets$Net;I)J"⟩
def dkwX10_walks_3 : List UInt8 := [50, 21, 5, 47, 97, 66, 132, 5, 1, 167, 255, 234, 33, 173]
abbrev dktX10_walks_3 : List UInt8 := dkwX10_walks_3 ++ []
def dkwX10_walks_2 : List UInt8 := [132, 3, 1, 167, 255, 242, 9, 66, 3, 54, 5, 21, 5, 42, 180, 0, 7, 162, 0, 19, 33, 44, 21, 5]
abbrev dktX10_walks_2 : List UInt8 := dkwX10_walks_2 ++ dktX10_walks_3
def dkwX10_walks_1 : List UInt8 := [29, 50, 29, 10, 80, 132, 3, 1, 167, 255, 239, 3, 62, 29, 27, 162, 0, 15, 42, 44, 184, 0, 15, 77]
abbrev dktX10_walks_1 : List UInt8 := dkwX10_walks_1 ++ dktX10_walks_2
def dkwX10_walks_0 : List UInt8 := [42, 180, 0, 7, 42, 180, 0, 7, 197, 0, 13, 2, 77, 3, 62, 29, 42, 180, 0, 7, 162, 0, 15, 44]
abbrev dktX10_walks_0 : List UInt8 := dkwX10_walks_0 ++ dktX10_walks_1
theorem dksX10_walks_0 : cX10_walks.data.toList.drop 0 = dktX10_walks_0 := by decide +kernel
theorem dksX10_walks_1 : cX10_walks.data.toList.drop 24 = dktX10_walks_1 := dk_seg dksX10_walks_0 24 rfl rfl
theorem dksX10_walks_2 : cX10_walks.data.toList.drop 48 = dktX10_walks_2 := dk_seg dksX10_walks_1 24 rfl rfl
theorem dksX10_walks_3 : cX10_walks.data.toList.drop 72 = dktX10_walks_3 := dk_seg dksX10_walks_2 24 rfl rfl
theorem dX10_walks_0 : decode cX10_walks 0 = .ok (.aload_n 0, 1) := dk_42 (dk_at dksX10_walks_0 0 rfl rfl)
theorem dX10_walks_1 : decode cX10_walks 1 = .ok (.getfield 7, 3) := dk_180 0 7 (dk_at dksX10_walks_0 1 rfl rfl)
theorem dX10_walks_4 : decode cX10_walks 4 = .ok (.aload_n 0, 1) := dk_42 (dk_at dksX10_walks_0 4 rfl rfl)
theorem dX10_walks_5 : decode cX10_walks 5 = .ok (.getfield 7, 3) := dk_180 0 7 (dk_at dksX10_walks_0 5 rfl rfl)
theorem dX10_walks_8 : decode cX10_walks 8 = .ok (.multianewarray 13 2, 4) := by decide +kernel
theorem dX10_walks_12 : decode cX10_walks 12 = .ok (.astore_n 2, 1) := dk_77 (dk_at dksX10_walks_0 12 rfl rfl)
theorem dX10_walks_13 : decode cX10_walks 13 = .ok (.iconst 0, 1) := dk_3 (dk_at dksX10_walks_0 13 rfl rfl)
theorem dX10_walks_14 : decode cX10_walks 14 = .ok (.istore_n 3, 1) := dk_62 (dk_at dksX10_walks_0 14 rfl rfl)
theorem dX10_walks_15 : decode cX10_walks 15 = .ok (.iload_n 3, 1) := dk_29 (dk_at dksX10_walks_0 15 rfl rfl)
theorem dX10_walks_16 : decode cX10_walks 16 = .ok (.aload_n 0, 1) := dk_42 (dk_at dksX10_walks_0 16 rfl rfl)
theorem dX10_walks_17 : decode cX10_walks 17 = .ok (.getfield 7, 3) := dk_180 0 7 (dk_at dksX10_walks_0 17 rfl rfl)
theorem dX10_walks_20 : decode cX10_walks 20 = .ok (.if_icmp .ge 15, 3) := dk_162 0 15 (dk_at dksX10_walks_0 20 rfl rfl)
theorem dX10_walks_23 : decode cX10_walks 23 = .ok (.aload_n 2, 1) := dk_44 (dk_at dksX10_walks_0 23 rfl rfl)
theorem dX10_walks_24 : decode cX10_walks 24 = .ok (.iload_n 3, 1) := dk_29 (dk_at dksX10_walks_1 0 rfl rfl)
theorem dX10_walks_25 : decode cX10_walks 25 = .ok (.aaload, 1) := dk_50 (dk_at dksX10_walks_1 1 rfl rfl)
theorem dX10_walks_26 : decode cX10_walks 26 = .ok (.iload_n 3, 1) := dk_29 (dk_at dksX10_walks_1 2 rfl rfl)
theorem dX10_walks_27 : decode cX10_walks 27 = .ok (.lconst 1, 1) := dk_10 (dk_at dksX10_walks_1 3 rfl rfl)
theorem dX10_walks_28 : decode cX10_walks 28 = .ok (.lastore, 1) := dk_80 (dk_at dksX10_walks_1 4 rfl rfl)
theorem dX10_walks_29 : decode cX10_walks 29 = .ok (.iinc 3 1, 3) := dk_132 3 1 (dk_at dksX10_walks_1 5 rfl rfl)
theorem dX10_walks_32 : decode cX10_walks 32 = .ok (.goto (-17), 3) := dk_167 255 239 (dk_at dksX10_walks_1 8 rfl rfl)
theorem dX10_walks_35 : decode cX10_walks 35 = .ok (.iconst 0, 1) := dk_3 (dk_at dksX10_walks_1 11 rfl rfl)
theorem dX10_walks_36 : decode cX10_walks 36 = .ok (.istore_n 3, 1) := dk_62 (dk_at dksX10_walks_1 12 rfl rfl)
theorem dX10_walks_37 : decode cX10_walks 37 = .ok (.iload_n 3, 1) := dk_29 (dk_at dksX10_walks_1 13 rfl rfl)
theorem dX10_walks_38 : decode cX10_walks 38 = .ok (.iload_n 1, 1) := dk_27 (dk_at dksX10_walks_1 14 rfl rfl)
theorem dX10_walks_39 : decode cX10_walks 39 = .ok (.if_icmp .ge 15, 3) := dk_162 0 15 (dk_at dksX10_walks_1 15 rfl rfl)
theorem dX10_walks_42 : decode cX10_walks 42 = .ok (.aload_n 0, 1) := dk_42 (dk_at dksX10_walks_1 18 rfl rfl)
theorem dX10_walks_43 : decode cX10_walks 43 = .ok (.aload_n 2, 1) := dk_44 (dk_at dksX10_walks_1 19 rfl rfl)
theorem dX10_walks_44 : decode cX10_walks 44 = .ok (.invokestatic 15, 3) := dk_184 0 15 (dk_at dksX10_walks_1 20 rfl rfl)
theorem dX10_walks_47 : decode cX10_walks 47 = .ok (.astore_n 2, 1) := dk_77 (dk_at dksX10_walks_1 23 rfl rfl)
theorem dX10_walks_48 : decode cX10_walks 48 = .ok (.iinc 3 1, 3) := dk_132 3 1 (dk_at dksX10_walks_2 0 rfl rfl)
theorem dX10_walks_51 : decode cX10_walks 51 = .ok (.goto (-14), 3) := dk_167 255 242 (dk_at dksX10_walks_2 3 rfl rfl)
theorem dX10_walks_54 : decode cX10_walks 54 = .ok (.lconst 0, 1) := dk_9 (dk_at dksX10_walks_2 6 rfl rfl)
theorem dX10_walks_55 : decode cX10_walks 55 = .ok (.lstore_n 3, 1) := dk_66 (dk_at dksX10_walks_2 7 rfl rfl)
theorem dX10_walks_56 : decode cX10_walks 56 = .ok (.iconst 0, 1) := dk_3 (dk_at dksX10_walks_2 8 rfl rfl)
theorem dX10_walks_57 : decode cX10_walks 57 = .ok (.istore 5, 2) := dk_54 5 (dk_at dksX10_walks_2 9 rfl rfl)
theorem dX10_walks_59 : decode cX10_walks 59 = .ok (.iload 5, 2) := dk_21 5 (dk_at dksX10_walks_2 11 rfl rfl)
theorem dX10_walks_61 : decode cX10_walks 61 = .ok (.aload_n 0, 1) := dk_42 (dk_at dksX10_walks_2 13 rfl rfl)
theorem dX10_walks_62 : decode cX10_walks 62 = .ok (.getfield 7, 3) := dk_180 0 7 (dk_at dksX10_walks_2 14 rfl rfl)
theorem dX10_walks_65 : decode cX10_walks 65 = .ok (.if_icmp .ge 19, 3) := dk_162 0 19 (dk_at dksX10_walks_2 17 rfl rfl)
theorem dX10_walks_68 : decode cX10_walks 68 = .ok (.lload_n 3, 1) := dk_33 (dk_at dksX10_walks_2 20 rfl rfl)
theorem dX10_walks_69 : decode cX10_walks 69 = .ok (.aload_n 2, 1) := dk_44 (dk_at dksX10_walks_2 21 rfl rfl)
theorem dX10_walks_70 : decode cX10_walks 70 = .ok (.iload 5, 2) := dk_21 5 (dk_at dksX10_walks_2 22 rfl rfl)
theorem dX10_walks_72 : decode cX10_walks 72 = .ok (.aaload, 1) := dk_50 (dk_at dksX10_walks_3 0 rfl rfl)
theorem dX10_walks_73 : decode cX10_walks 73 = .ok (.iload 5, 2) := dk_21 5 (dk_at dksX10_walks_3 1 rfl rfl)
theorem dX10_walks_75 : decode cX10_walks 75 = .ok (.laload, 1) := dk_47 (dk_at dksX10_walks_3 3 rfl rfl)
theorem dX10_walks_76 : decode cX10_walks 76 = .ok (.ladd, 1) := dk_97 (dk_at dksX10_walks_3 4 rfl rfl)
theorem dX10_walks_77 : decode cX10_walks 77 = .ok (.lstore_n 3, 1) := dk_66 (dk_at dksX10_walks_3 5 rfl rfl)
theorem dX10_walks_78 : decode cX10_walks 78 = .ok (.iinc 5 1, 3) := dk_132 5 1 (dk_at dksX10_walks_3 6 rfl rfl)
theorem dX10_walks_81 : decode cX10_walks 81 = .ok (.goto (-22), 3) := dk_167 255 234 (dk_at dksX10_walks_3 9 rfl rfl)
theorem dX10_walks_84 : decode cX10_walks 84 = .ok (.lload_n 3, 1) := dk_33 (dk_at dksX10_walks_3 12 rfl rfl)
theorem dX10_walks_85 : decode cX10_walks 85 = .ok (.lreturn, 1) := dk_173 (dk_at dksX10_walks_3 13 rfl rfl)
theorem q133 : (Jvm.Cond.initialized "WiredNets$Own") ∈ lw_all := lw_g (lw_at lw_m1 25 rfl) rfl
theorem q240 : (Jvm.Cond.fieldLinkNest "WiredNets$Own" (7 : Nat) "WiredNets$Net" "n" "I" "WiredNets") ∈ lw_tbl := lw_at lw_m1 132 rfl
theorem q253 : (Jvm.Cond.fieldLinkNest "WiredNets$Own" (21 : Nat) "WiredNets$Net" "near" "[I" "WiredNets") ∈ lw_tbl := lw_at lw_m1 145 rfl
theorem q885 : (Jvm.Cond.static ({ cls := "WiredNets$Own", name := "poly", desc := "(LWiredNets$Net;)[J" } : Jvm.MethodName)) ∈ lw_all := lw_g (lw_at lw_m4 57 rfl) rfl
theorem q886 : (Jvm.Cond.code ({ cls := "WiredNets$Own", name := "poly", desc := "(LWiredNets$Net;)[J" } : Jvm.MethodName) prog_7_method_2_code (8 : Nat) (Option.some (Jvm.ClassFile.FieldType.array Jvm.ClassFile.FieldType.long))) ∈ lw_all := lw_g (lw_at lw_m4 58 rfl) rfl
theorem q887 : (Jvm.Cond.classLink "WiredNets$Own" (13 : Nat) "[[J") ∈ lw_all := lw_g (lw_at lw_m4 59 rfl) rfl
theorem q889 : (Jvm.Cond.methodLink "WiredNets$Own" (15 : Nat) ({ cls := "WiredNets$Own", name := "behind", desc := "(LWiredNets$Net;[[J)[[J" } : Jvm.MethodName)) ∈ lw_all := lw_g (lw_at lw_m4 61 rfl) rfl
theorem q890 : (Jvm.Cond.static ({ cls := "WiredNets$Own", name := "behind", desc := "(LWiredNets$Net;[[J)[[J" } : Jvm.MethodName)) ∈ lw_all := lw_g (lw_at lw_m4 62 rfl) rfl
theorem q891 : (Jvm.Cond.code ({ cls := "WiredNets$Own", name := "behind", desc := "(LWiredNets$Net;[[J)[[J" } : Jvm.MethodName) prog_7_method_3_code (6 : Nat) (Option.some (Jvm.ClassFile.FieldType.array (Jvm.ClassFile.FieldType.array Jvm.ClassFile.FieldType.long)))) ∈ lw_all := lw_g (lw_at lw_m4 63 rfl) rfl
theorem q892 : (Jvm.Cond.methodLink "WiredNets$Own" (25 : Nat) ({ cls := "java/lang/Integer", name := "numberOfTrailingZeros", desc := "(I)I" } : Jvm.MethodName)) ∈ lw_all := lw_g (lw_at lw_m4 64 rfl) rfl
theorem q902 : (Jvm.Cond.static ({ cls := "WiredNets$Own", name := "above", desc := "(LWiredNets$Net;I)I" } : Jvm.MethodName)) ∈ lw_all := lw_g (lw_at lw_m4 74 rfl) rfl
theorem q903 : (Jvm.Cond.code ({ cls := "WiredNets$Own", name := "above", desc := "(LWiredNets$Net;I)I" } : Jvm.MethodName) prog_7_method_4_code (7 : Nat) (Option.some Jvm.ClassFile.FieldType.int)) ∈ lw_all := lw_g (lw_at lw_m4 75 rfl) rfl
theorem q904 : (Jvm.Cond.methodLink "WiredNets$Own" (31 : Nat) ({ cls := "WiredNets$Own", name := "poly", desc := "(LWiredNets$Net;)[J" } : Jvm.MethodName)) ∈ lw_all := lw_g (lw_at lw_m4 76 rfl) rfl
theorem q913 : (Jvm.Cond.static ({ cls := "WiredNets$Own", name := "walks", desc := "(LWiredNets$Net;I)J" } : Jvm.MethodName)) ∈ lw_all := lw_g (lw_at lw_m4 85 rfl) rfl
theorem q914 : (Jvm.Cond.code ({ cls := "WiredNets$Own", name := "walks", desc := "(LWiredNets$Net;I)J" } : Jvm.MethodName) prog_7_method_5_code (6 : Nat) (Option.some Jvm.ClassFile.FieldType.long)) ∈ lw_all := lw_g (lw_at lw_m4 86 rfl) rfl

/-! WiredNets$Seek -/
set_option maxRecDepth 100000
def RX11 : String := "WiredNets$Seek"
def TX11 : u_T := fun k => match k with
  | 0 => ("WiredNets$Seek", "g", "LWiredNets$Group;", true)
  | 1 => ("WiredNets$Seek", "most", "I", true)
  | 2 => ("WiredNets$Seek", "all", "I", true)
  | 3 => ("WiredNets$Seek", "units", "[I", true)
  | 4 => ("WiredNets$Seek", "then", "[[I", true)
  | 5 => ("WiredNets$Seek", "line", "[I", true)
  | 6 => ("WiredNets$Seek", "far", "[I", true)
  | 7 => ("WiredNets$Seek", "unitMany", "I", false)
  | 8 => ("WiredNets$Seek", "best", "I", false)
  | 9 => ("WiredNets$Seek", "bestFar", "I", false)
  | _ => ("WiredNets$Seek", "bestSum", "I", false)
def tyX11 : Nat → FieldType := fun k => match k with
  | 0 => .object "WiredNets$Group"
  | 1 => .int
  | 2 => .int
  | 3 => .array .int
  | 4 => .array (.array .int)
  | 5 => .array .int
  | 6 => .array .int
  | 7 => .int
  | 8 => .int
  | 9 => .int
  | _ => .int
abbrev wsX110 : List Cond := u_ws RX11 TX11 11
theorem nmX11 : ∀ a, a < 11 → ∀ b, b < 11 → a ≠ b → (TX11 a).2.1 ≠ (TX11 b).2.1 := by decide +kernel
theorem tyX11_ok : ∀ k, k < 11 → parseFieldDescriptor (TX11 k).2.2.1 = some (tyX11 k) := by decide +kernel
abbrev cX11_init : ByteArray := prog_10_method_1_code
def yX11_init : MethodName := ⟨RX11, "<init>", "(LWiredNets$Group;I)V"⟩
def dkwX11_init_7 : List UInt8 := [181, 0, 52, 132, 3, 1, 167, 255, 202, 177]
abbrev dktX11_init_7 : List UInt8 := dkwX11_init_7 ++ []
def dkwX11_init_6 : List UInt8 := [42, 180, 0, 9, 42, 180, 0, 52, 4, 29, 120, 4, 21, 4, 120, 128, 79, 42, 89, 180, 0, 52, 4, 96]
abbrev dktX11_init_6 : List UInt8 := dkwX11_init_6 ++ dktX11_init_7
def dkwX11_init_5 : List UInt8 := [29, 43, 180, 0, 37, 162, 0, 52, 43, 29, 182, 0, 48, 54, 4, 21, 4, 29, 162, 0, 6, 167, 0, 30]
abbrev dktX11_init_5 : List UInt8 := dkwX11_init_5 ++ dktX11_init_6
def dkwX11_init_4 : List UInt8 := [21, 4, 43, 29, 21, 4, 182, 0, 45, 79, 132, 4, 1, 167, 255, 228, 132, 3, 1, 167, 255, 211, 4, 62]
abbrev dktX11_init_4 : List UInt8 := dkwX11_init_4 ++ dktX11_init_5
def dkwX11_init_3 : List UInt8 := [180, 0, 37, 162, 0, 43, 3, 54, 4, 21, 4, 43, 180, 0, 37, 162, 0, 25, 42, 180, 0, 17, 29, 50]
abbrev dktX11_init_3 : List UInt8 := dkwX11_init_3 ++ dktX11_init_4
def dkwX11_init_2 : List UInt8 := [181, 0, 30, 42, 28, 181, 0, 34, 42, 4, 43, 180, 0, 37, 120, 4, 100, 181, 0, 42, 3, 62, 29, 43]
abbrev dktX11_init_2 : List UInt8 := dkwX11_init_2 ++ dktX11_init_3
def dkwX11_init_1 : List UInt8 := [42, 16, 24, 188, 10, 181, 0, 20, 42, 16, 24, 188, 10, 181, 0, 23, 42, 2, 181, 0, 26, 42, 43]
abbrev dktX11_init_1 : List UInt8 := dkwX11_init_1 ++ dktX11_init_2
def dkwX11_init_0 : List UInt8 := [42, 183, 0, 3, 42, 16, 24, 188, 10, 181, 0, 9, 42, 16, 24, 16, 24, 197, 0, 15, 2, 181, 0, 17]
abbrev dktX11_init_0 : List UInt8 := dkwX11_init_0 ++ dktX11_init_1
theorem dksX11_init_0 : cX11_init.data.toList.drop 0 = dktX11_init_0 := by decide +kernel
theorem dksX11_init_1 : cX11_init.data.toList.drop 24 = dktX11_init_1 := dk_seg dksX11_init_0 24 rfl rfl
theorem dksX11_init_2 : cX11_init.data.toList.drop 47 = dktX11_init_2 := dk_seg dksX11_init_1 23 rfl rfl
theorem dksX11_init_3 : cX11_init.data.toList.drop 71 = dktX11_init_3 := dk_seg dksX11_init_2 24 rfl rfl
theorem dksX11_init_4 : cX11_init.data.toList.drop 95 = dktX11_init_4 := dk_seg dksX11_init_3 24 rfl rfl
theorem dksX11_init_5 : cX11_init.data.toList.drop 119 = dktX11_init_5 := dk_seg dksX11_init_4 24 rfl rfl
theorem dksX11_init_6 : cX11_init.data.toList.drop 143 = dktX11_init_6 := dk_seg dksX11_init_5 24 rfl rfl
theorem dksX11_init_7 : cX11_init.data.toList.drop 167 = dktX11_init_7 := dk_seg dksX11_init_6 24 rfl rfl
theorem dX11_init_0 : decode cX11_init 0 = .ok (.aload_n 0, 1) := dk_42 (dk_at dksX11_init_0 0 rfl rfl)
theorem dX11_init_1 : decode cX11_init 1 = .ok (.invokespecial 3, 3) := dk_183 0 3 (dk_at dksX11_init_0 1 rfl rfl)
theorem dX11_init_4 : decode cX11_init 4 = .ok (.aload_n 0, 1) := dk_42 (dk_at dksX11_init_0 4 rfl rfl)
theorem dX11_init_5 : decode cX11_init 5 = .ok (.bipush 24, 2) := dk_16 24 (dk_at dksX11_init_0 5 rfl rfl)
theorem dX11_init_7 : decode cX11_init 7 = .ok (.newarray .int, 2) := dk_188_10 (dk_at dksX11_init_0 7 rfl rfl)
theorem dX11_init_9 : decode cX11_init 9 = .ok (.putfield 9, 3) := dk_181 0 9 (dk_at dksX11_init_0 9 rfl rfl)
theorem dX11_init_12 : decode cX11_init 12 = .ok (.aload_n 0, 1) := dk_42 (dk_at dksX11_init_0 12 rfl rfl)
theorem dX11_init_13 : decode cX11_init 13 = .ok (.bipush 24, 2) := dk_16 24 (dk_at dksX11_init_0 13 rfl rfl)
theorem dX11_init_15 : decode cX11_init 15 = .ok (.bipush 24, 2) := dk_16 24 (dk_at dksX11_init_0 15 rfl rfl)
theorem dX11_init_17 : decode cX11_init 17 = .ok (.multianewarray 15 2, 4) := by decide +kernel
theorem dX11_init_21 : decode cX11_init 21 = .ok (.putfield 17, 3) := dk_181 0 17 (dk_at dksX11_init_0 21 rfl rfl)
theorem dX11_init_24 : decode cX11_init 24 = .ok (.aload_n 0, 1) := dk_42 (dk_at dksX11_init_1 0 rfl rfl)
theorem dX11_init_25 : decode cX11_init 25 = .ok (.bipush 24, 2) := dk_16 24 (dk_at dksX11_init_1 1 rfl rfl)
theorem dX11_init_27 : decode cX11_init 27 = .ok (.newarray .int, 2) := dk_188_10 (dk_at dksX11_init_1 3 rfl rfl)
theorem dX11_init_29 : decode cX11_init 29 = .ok (.putfield 20, 3) := dk_181 0 20 (dk_at dksX11_init_1 5 rfl rfl)
theorem dX11_init_32 : decode cX11_init 32 = .ok (.aload_n 0, 1) := dk_42 (dk_at dksX11_init_1 8 rfl rfl)
theorem dX11_init_33 : decode cX11_init 33 = .ok (.bipush 24, 2) := dk_16 24 (dk_at dksX11_init_1 9 rfl rfl)
theorem dX11_init_35 : decode cX11_init 35 = .ok (.newarray .int, 2) := dk_188_10 (dk_at dksX11_init_1 11 rfl rfl)
theorem dX11_init_37 : decode cX11_init 37 = .ok (.putfield 23, 3) := dk_181 0 23 (dk_at dksX11_init_1 13 rfl rfl)
theorem dX11_init_40 : decode cX11_init 40 = .ok (.aload_n 0, 1) := dk_42 (dk_at dksX11_init_1 16 rfl rfl)
theorem dX11_init_41 : decode cX11_init 41 = .ok (.iconst (-1), 1) := dk_2 (dk_at dksX11_init_1 17 rfl rfl)
theorem dX11_init_42 : decode cX11_init 42 = .ok (.putfield 26, 3) := dk_181 0 26 (dk_at dksX11_init_1 18 rfl rfl)
theorem dX11_init_45 : decode cX11_init 45 = .ok (.aload_n 0, 1) := dk_42 (dk_at dksX11_init_1 21 rfl rfl)
theorem dX11_init_46 : decode cX11_init 46 = .ok (.aload_n 1, 1) := dk_43 (dk_at dksX11_init_1 22 rfl rfl)
theorem dX11_init_47 : decode cX11_init 47 = .ok (.putfield 30, 3) := dk_181 0 30 (dk_at dksX11_init_2 0 rfl rfl)
theorem dX11_init_50 : decode cX11_init 50 = .ok (.aload_n 0, 1) := dk_42 (dk_at dksX11_init_2 3 rfl rfl)
theorem dX11_init_51 : decode cX11_init 51 = .ok (.iload_n 2, 1) := dk_28 (dk_at dksX11_init_2 4 rfl rfl)
theorem dX11_init_52 : decode cX11_init 52 = .ok (.putfield 34, 3) := dk_181 0 34 (dk_at dksX11_init_2 5 rfl rfl)
theorem dX11_init_55 : decode cX11_init 55 = .ok (.aload_n 0, 1) := dk_42 (dk_at dksX11_init_2 8 rfl rfl)
theorem dX11_init_56 : decode cX11_init 56 = .ok (.iconst 1, 1) := dk_4 (dk_at dksX11_init_2 9 rfl rfl)
theorem dX11_init_57 : decode cX11_init 57 = .ok (.aload_n 1, 1) := dk_43 (dk_at dksX11_init_2 10 rfl rfl)
theorem dX11_init_58 : decode cX11_init 58 = .ok (.getfield 37, 3) := dk_180 0 37 (dk_at dksX11_init_2 11 rfl rfl)
theorem dX11_init_61 : decode cX11_init 61 = .ok (.ishl, 1) := dk_120 (dk_at dksX11_init_2 14 rfl rfl)
theorem dX11_init_62 : decode cX11_init 62 = .ok (.iconst 1, 1) := dk_4 (dk_at dksX11_init_2 15 rfl rfl)
theorem dX11_init_63 : decode cX11_init 63 = .ok (.isub, 1) := dk_100 (dk_at dksX11_init_2 16 rfl rfl)
theorem dX11_init_64 : decode cX11_init 64 = .ok (.putfield 42, 3) := dk_181 0 42 (dk_at dksX11_init_2 17 rfl rfl)
theorem dX11_init_67 : decode cX11_init 67 = .ok (.iconst 0, 1) := dk_3 (dk_at dksX11_init_2 20 rfl rfl)
theorem dX11_init_68 : decode cX11_init 68 = .ok (.istore_n 3, 1) := dk_62 (dk_at dksX11_init_2 21 rfl rfl)
theorem dX11_init_69 : decode cX11_init 69 = .ok (.iload_n 3, 1) := dk_29 (dk_at dksX11_init_2 22 rfl rfl)
theorem dX11_init_70 : decode cX11_init 70 = .ok (.aload_n 1, 1) := dk_43 (dk_at dksX11_init_2 23 rfl rfl)
theorem dX11_init_71 : decode cX11_init 71 = .ok (.getfield 37, 3) := dk_180 0 37 (dk_at dksX11_init_3 0 rfl rfl)
theorem dX11_init_74 : decode cX11_init 74 = .ok (.if_icmp .ge 43, 3) := dk_162 0 43 (dk_at dksX11_init_3 3 rfl rfl)
theorem dX11_init_77 : decode cX11_init 77 = .ok (.iconst 0, 1) := dk_3 (dk_at dksX11_init_3 6 rfl rfl)
theorem dX11_init_78 : decode cX11_init 78 = .ok (.istore 4, 2) := dk_54 4 (dk_at dksX11_init_3 7 rfl rfl)
theorem dX11_init_80 : decode cX11_init 80 = .ok (.iload 4, 2) := dk_21 4 (dk_at dksX11_init_3 9 rfl rfl)
theorem dX11_init_82 : decode cX11_init 82 = .ok (.aload_n 1, 1) := dk_43 (dk_at dksX11_init_3 11 rfl rfl)
theorem dX11_init_83 : decode cX11_init 83 = .ok (.getfield 37, 3) := dk_180 0 37 (dk_at dksX11_init_3 12 rfl rfl)
theorem dX11_init_86 : decode cX11_init 86 = .ok (.if_icmp .ge 25, 3) := dk_162 0 25 (dk_at dksX11_init_3 15 rfl rfl)
theorem dX11_init_89 : decode cX11_init 89 = .ok (.aload_n 0, 1) := dk_42 (dk_at dksX11_init_3 18 rfl rfl)
theorem dX11_init_90 : decode cX11_init 90 = .ok (.getfield 17, 3) := dk_180 0 17 (dk_at dksX11_init_3 19 rfl rfl)
theorem dX11_init_93 : decode cX11_init 93 = .ok (.iload_n 3, 1) := dk_29 (dk_at dksX11_init_3 22 rfl rfl)
theorem dX11_init_94 : decode cX11_init 94 = .ok (.aaload, 1) := dk_50 (dk_at dksX11_init_3 23 rfl rfl)
theorem dX11_init_95 : decode cX11_init 95 = .ok (.iload 4, 2) := dk_21 4 (dk_at dksX11_init_4 0 rfl rfl)
theorem dX11_init_97 : decode cX11_init 97 = .ok (.aload_n 1, 1) := dk_43 (dk_at dksX11_init_4 2 rfl rfl)
theorem dX11_init_98 : decode cX11_init 98 = .ok (.iload_n 3, 1) := dk_29 (dk_at dksX11_init_4 3 rfl rfl)
theorem dX11_init_99 : decode cX11_init 99 = .ok (.iload 4, 2) := dk_21 4 (dk_at dksX11_init_4 4 rfl rfl)
theorem dX11_init_101 : decode cX11_init 101 = .ok (.invokevirtual 45, 3) := dk_182 0 45 (dk_at dksX11_init_4 6 rfl rfl)
theorem dX11_init_104 : decode cX11_init 104 = .ok (.iastore, 1) := dk_79 (dk_at dksX11_init_4 9 rfl rfl)
theorem dX11_init_105 : decode cX11_init 105 = .ok (.iinc 4 1, 3) := dk_132 4 1 (dk_at dksX11_init_4 10 rfl rfl)
theorem dX11_init_108 : decode cX11_init 108 = .ok (.goto (-28), 3) := dk_167 255 228 (dk_at dksX11_init_4 13 rfl rfl)
theorem dX11_init_111 : decode cX11_init 111 = .ok (.iinc 3 1, 3) := dk_132 3 1 (dk_at dksX11_init_4 16 rfl rfl)
theorem dX11_init_114 : decode cX11_init 114 = .ok (.goto (-45), 3) := dk_167 255 211 (dk_at dksX11_init_4 19 rfl rfl)
theorem dX11_init_117 : decode cX11_init 117 = .ok (.iconst 1, 1) := dk_4 (dk_at dksX11_init_4 22 rfl rfl)
theorem dX11_init_118 : decode cX11_init 118 = .ok (.istore_n 3, 1) := dk_62 (dk_at dksX11_init_4 23 rfl rfl)
theorem dX11_init_119 : decode cX11_init 119 = .ok (.iload_n 3, 1) := dk_29 (dk_at dksX11_init_5 0 rfl rfl)
theorem dX11_init_120 : decode cX11_init 120 = .ok (.aload_n 1, 1) := dk_43 (dk_at dksX11_init_5 1 rfl rfl)
theorem dX11_init_121 : decode cX11_init 121 = .ok (.getfield 37, 3) := dk_180 0 37 (dk_at dksX11_init_5 2 rfl rfl)
theorem dX11_init_124 : decode cX11_init 124 = .ok (.if_icmp .ge 52, 3) := dk_162 0 52 (dk_at dksX11_init_5 5 rfl rfl)
theorem dX11_init_127 : decode cX11_init 127 = .ok (.aload_n 1, 1) := dk_43 (dk_at dksX11_init_5 8 rfl rfl)
theorem dX11_init_128 : decode cX11_init 128 = .ok (.iload_n 3, 1) := dk_29 (dk_at dksX11_init_5 9 rfl rfl)
theorem dX11_init_129 : decode cX11_init 129 = .ok (.invokevirtual 48, 3) := dk_182 0 48 (dk_at dksX11_init_5 10 rfl rfl)
theorem dX11_init_132 : decode cX11_init 132 = .ok (.istore 4, 2) := dk_54 4 (dk_at dksX11_init_5 13 rfl rfl)
theorem dX11_init_134 : decode cX11_init 134 = .ok (.iload 4, 2) := dk_21 4 (dk_at dksX11_init_5 15 rfl rfl)
theorem dX11_init_136 : decode cX11_init 136 = .ok (.iload_n 3, 1) := dk_29 (dk_at dksX11_init_5 17 rfl rfl)
theorem dX11_init_137 : decode cX11_init 137 = .ok (.if_icmp .ge 6, 3) := dk_162 0 6 (dk_at dksX11_init_5 18 rfl rfl)
theorem dX11_init_140 : decode cX11_init 140 = .ok (.goto 30, 3) := dk_167 0 30 (dk_at dksX11_init_5 21 rfl rfl)
theorem dX11_init_143 : decode cX11_init 143 = .ok (.aload_n 0, 1) := dk_42 (dk_at dksX11_init_6 0 rfl rfl)
theorem dX11_init_144 : decode cX11_init 144 = .ok (.getfield 9, 3) := dk_180 0 9 (dk_at dksX11_init_6 1 rfl rfl)
theorem dX11_init_147 : decode cX11_init 147 = .ok (.aload_n 0, 1) := dk_42 (dk_at dksX11_init_6 4 rfl rfl)
theorem dX11_init_148 : decode cX11_init 148 = .ok (.getfield 52, 3) := dk_180 0 52 (dk_at dksX11_init_6 5 rfl rfl)
theorem dX11_init_151 : decode cX11_init 151 = .ok (.iconst 1, 1) := dk_4 (dk_at dksX11_init_6 8 rfl rfl)
theorem dX11_init_152 : decode cX11_init 152 = .ok (.iload_n 3, 1) := dk_29 (dk_at dksX11_init_6 9 rfl rfl)
theorem dX11_init_153 : decode cX11_init 153 = .ok (.ishl, 1) := dk_120 (dk_at dksX11_init_6 10 rfl rfl)
theorem dX11_init_154 : decode cX11_init 154 = .ok (.iconst 1, 1) := dk_4 (dk_at dksX11_init_6 11 rfl rfl)
theorem dX11_init_155 : decode cX11_init 155 = .ok (.iload 4, 2) := dk_21 4 (dk_at dksX11_init_6 12 rfl rfl)
theorem dX11_init_157 : decode cX11_init 157 = .ok (.ishl, 1) := dk_120 (dk_at dksX11_init_6 14 rfl rfl)
theorem dX11_init_158 : decode cX11_init 158 = .ok (.ior, 1) := dk_128 (dk_at dksX11_init_6 15 rfl rfl)
theorem dX11_init_159 : decode cX11_init 159 = .ok (.iastore, 1) := dk_79 (dk_at dksX11_init_6 16 rfl rfl)
theorem dX11_init_160 : decode cX11_init 160 = .ok (.aload_n 0, 1) := dk_42 (dk_at dksX11_init_6 17 rfl rfl)
theorem dX11_init_161 : decode cX11_init 161 = .ok (.dup, 1) := dk_89 (dk_at dksX11_init_6 18 rfl rfl)
theorem dX11_init_162 : decode cX11_init 162 = .ok (.getfield 52, 3) := dk_180 0 52 (dk_at dksX11_init_6 19 rfl rfl)
theorem dX11_init_165 : decode cX11_init 165 = .ok (.iconst 1, 1) := dk_4 (dk_at dksX11_init_6 22 rfl rfl)
theorem dX11_init_166 : decode cX11_init 166 = .ok (.iadd, 1) := dk_96 (dk_at dksX11_init_6 23 rfl rfl)
theorem dX11_init_167 : decode cX11_init 167 = .ok (.putfield 52, 3) := dk_181 0 52 (dk_at dksX11_init_7 0 rfl rfl)
theorem dX11_init_170 : decode cX11_init 170 = .ok (.iinc 3 1, 3) := dk_132 3 1 (dk_at dksX11_init_7 3 rfl rfl)
theorem dX11_init_173 : decode cX11_init 173 = .ok (.goto (-54), 3) := dk_167 255 202 (dk_at dksX11_init_7 6 rfl rfl)
theorem dX11_init_176 : decode cX11_init 176 = .ok (.return_, 1) := dk_177 (dk_at dksX11_init_7 9 rfl rfl)
abbrev cX11_run : ByteArray := prog_10_method_5_code
def yX11_run : MethodName := ⟨RX11, "run", "()I"⟩
def dkwX11_run_0 : List UInt8 := [42, 3, 3, 182, 0, 77, 42, 180, 0, 26, 172]
abbrev dktX11_run_0 : List UInt8 := dkwX11_run_0 ++ []
theorem dksX11_run_0 : cX11_run.data.toList.drop 0 = dktX11_run_0 := by decide +kernel
theorem dX11_run_0 : decode cX11_run 0 = .ok (.aload_n 0, 1) := dk_42 (dk_at dksX11_run_0 0 rfl rfl)
theorem dX11_run_1 : decode cX11_run 1 = .ok (.iconst 0, 1) := dk_3 (dk_at dksX11_run_0 1 rfl rfl)
theorem dX11_run_2 : decode cX11_run 2 = .ok (.iconst 0, 1) := dk_3 (dk_at dksX11_run_0 2 rfl rfl)
theorem dX11_run_3 : decode cX11_run 3 = .ok (.invokevirtual 77, 3) := dk_182 0 77 (dk_at dksX11_run_0 3 rfl rfl)
theorem dX11_run_6 : decode cX11_run 6 = .ok (.aload_n 0, 1) := dk_42 (dk_at dksX11_run_0 6 rfl rfl)
theorem dX11_run_7 : decode cX11_run 7 = .ok (.getfield 26, 3) := dk_180 0 26 (dk_at dksX11_run_0 7 rfl rfl)
theorem dX11_run_10 : decode cX11_run 10 = .ok (.ireturn, 1) := dk_172 (dk_at dksX11_run_0 10 rfl rfl)
abbrev cX11_go : ByteArray := prog_10_method_4_code
def yX11_go : MethodName := ⟨RX11, "go", "(II)V"⟩
def dkwX11_go_2 : List UInt8 := [180, 0, 9, 27, 46, 128, 182, 0, 77, 177]
abbrev dktX11_go_2 : List UInt8 := dkwX11_go_2 ++ []
def dkwX11_go_1 : List UInt8 := [180, 0, 9, 27, 46, 128, 184, 0, 70, 42, 180, 0, 34, 163, 0, 18, 42, 27, 4, 96, 28, 42]
abbrev dktX11_go_1 : List UInt8 := dkwX11_go_1 ++ dktX11_go_2
def dkwX11_go_0 : List UInt8 := [27, 42, 180, 0, 52, 160, 0, 9, 42, 28, 182, 0, 73, 177, 42, 27, 4, 96, 28, 182, 0, 77, 28, 42]
abbrev dktX11_go_0 : List UInt8 := dkwX11_go_0 ++ dktX11_go_1
theorem dksX11_go_0 : cX11_go.data.toList.drop 0 = dktX11_go_0 := by decide +kernel
theorem dksX11_go_1 : cX11_go.data.toList.drop 24 = dktX11_go_1 := dk_seg dksX11_go_0 24 rfl rfl
theorem dksX11_go_2 : cX11_go.data.toList.drop 46 = dktX11_go_2 := dk_seg dksX11_go_1 22 rfl rfl
theorem dX11_go_0 : decode cX11_go 0 = .ok (.iload_n 1, 1) := dk_27 (dk_at dksX11_go_0 0 rfl rfl)
theorem dX11_go_1 : decode cX11_go 1 = .ok (.aload_n 0, 1) := dk_42 (dk_at dksX11_go_0 1 rfl rfl)
theorem dX11_go_2 : decode cX11_go 2 = .ok (.getfield 52, 3) := dk_180 0 52 (dk_at dksX11_go_0 2 rfl rfl)
theorem dX11_go_5 : decode cX11_go 5 = .ok (.if_icmp .ne 9, 3) := dk_160 0 9 (dk_at dksX11_go_0 5 rfl rfl)
theorem dX11_go_8 : decode cX11_go 8 = .ok (.aload_n 0, 1) := dk_42 (dk_at dksX11_go_0 8 rfl rfl)
theorem dX11_go_9 : decode cX11_go 9 = .ok (.iload_n 2, 1) := dk_28 (dk_at dksX11_go_0 9 rfl rfl)
theorem dX11_go_10 : decode cX11_go 10 = .ok (.invokevirtual 73, 3) := dk_182 0 73 (dk_at dksX11_go_0 10 rfl rfl)
theorem dX11_go_13 : decode cX11_go 13 = .ok (.return_, 1) := dk_177 (dk_at dksX11_go_0 13 rfl rfl)
theorem dX11_go_14 : decode cX11_go 14 = .ok (.aload_n 0, 1) := dk_42 (dk_at dksX11_go_0 14 rfl rfl)
theorem dX11_go_15 : decode cX11_go 15 = .ok (.iload_n 1, 1) := dk_27 (dk_at dksX11_go_0 15 rfl rfl)
theorem dX11_go_16 : decode cX11_go 16 = .ok (.iconst 1, 1) := dk_4 (dk_at dksX11_go_0 16 rfl rfl)
theorem dX11_go_17 : decode cX11_go 17 = .ok (.iadd, 1) := dk_96 (dk_at dksX11_go_0 17 rfl rfl)
theorem dX11_go_18 : decode cX11_go 18 = .ok (.iload_n 2, 1) := dk_28 (dk_at dksX11_go_0 18 rfl rfl)
theorem dX11_go_19 : decode cX11_go 19 = .ok (.invokevirtual 77, 3) := dk_182 0 77 (dk_at dksX11_go_0 19 rfl rfl)
theorem dX11_go_22 : decode cX11_go 22 = .ok (.iload_n 2, 1) := dk_28 (dk_at dksX11_go_0 22 rfl rfl)
theorem dX11_go_23 : decode cX11_go 23 = .ok (.aload_n 0, 1) := dk_42 (dk_at dksX11_go_0 23 rfl rfl)
theorem dX11_go_24 : decode cX11_go 24 = .ok (.getfield 9, 3) := dk_180 0 9 (dk_at dksX11_go_1 0 rfl rfl)
theorem dX11_go_27 : decode cX11_go 27 = .ok (.iload_n 1, 1) := dk_27 (dk_at dksX11_go_1 3 rfl rfl)
theorem dX11_go_28 : decode cX11_go 28 = .ok (.iaload, 1) := dk_46 (dk_at dksX11_go_1 4 rfl rfl)
theorem dX11_go_29 : decode cX11_go 29 = .ok (.ior, 1) := dk_128 (dk_at dksX11_go_1 5 rfl rfl)
theorem dX11_go_30 : decode cX11_go 30 = .ok (.invokestatic 70, 3) := dk_184 0 70 (dk_at dksX11_go_1 6 rfl rfl)
theorem dX11_go_33 : decode cX11_go 33 = .ok (.aload_n 0, 1) := dk_42 (dk_at dksX11_go_1 9 rfl rfl)
theorem dX11_go_34 : decode cX11_go 34 = .ok (.getfield 34, 3) := dk_180 0 34 (dk_at dksX11_go_1 10 rfl rfl)
theorem dX11_go_37 : decode cX11_go 37 = .ok (.if_icmp .gt 18, 3) := dk_163 0 18 (dk_at dksX11_go_1 13 rfl rfl)
theorem dX11_go_40 : decode cX11_go 40 = .ok (.aload_n 0, 1) := dk_42 (dk_at dksX11_go_1 16 rfl rfl)
theorem dX11_go_41 : decode cX11_go 41 = .ok (.iload_n 1, 1) := dk_27 (dk_at dksX11_go_1 17 rfl rfl)
theorem dX11_go_42 : decode cX11_go 42 = .ok (.iconst 1, 1) := dk_4 (dk_at dksX11_go_1 18 rfl rfl)
theorem dX11_go_43 : decode cX11_go 43 = .ok (.iadd, 1) := dk_96 (dk_at dksX11_go_1 19 rfl rfl)
theorem dX11_go_44 : decode cX11_go 44 = .ok (.iload_n 2, 1) := dk_28 (dk_at dksX11_go_1 20 rfl rfl)
theorem dX11_go_45 : decode cX11_go 45 = .ok (.aload_n 0, 1) := dk_42 (dk_at dksX11_go_1 21 rfl rfl)
theorem dX11_go_46 : decode cX11_go 46 = .ok (.getfield 9, 3) := dk_180 0 9 (dk_at dksX11_go_2 0 rfl rfl)
theorem dX11_go_49 : decode cX11_go 49 = .ok (.iload_n 1, 1) := dk_27 (dk_at dksX11_go_2 3 rfl rfl)
theorem dX11_go_50 : decode cX11_go 50 = .ok (.iaload, 1) := dk_46 (dk_at dksX11_go_2 4 rfl rfl)
theorem dX11_go_51 : decode cX11_go 51 = .ok (.ior, 1) := dk_128 (dk_at dksX11_go_2 5 rfl rfl)
theorem dX11_go_52 : decode cX11_go 52 = .ok (.invokevirtual 77, 3) := dk_182 0 77 (dk_at dksX11_go_2 6 rfl rfl)
theorem dX11_go_55 : decode cX11_go 55 = .ok (.return_, 1) := dk_177 (dk_at dksX11_go_2 9 rfl rfl)
abbrev cX11_look : ByteArray := prog_10_method_2_code
def yX11_look : MethodName := ⟨RX11, "look", "(I)V"⟩
def dkwX11_look_8 : List UInt8 := [181, 0, 26, 42, 21, 5, 181, 0, 64, 42, 21, 4, 181, 0, 67, 177]
abbrev dktX11_look_8 : List UInt8 := dkwX11_look_8 ++ []
def dkwX11_look_7 : List UInt8 := [180, 0, 26, 2, 159, 0, 16, 42, 21, 5, 21, 4, 27, 182, 0, 60, 154, 0, 4, 177, 42, 27]
abbrev dktX11_look_7 : List UInt8 := dkwX11_look_7 ++ dktX11_look_8
def dkwX11_look_6 : List UInt8 := [180, 0, 42, 159, 0, 4, 177, 42, 180, 0, 23, 42, 180, 0, 20, 29, 4, 100, 46, 46, 54, 5, 42]
abbrev dktX11_look_6 : List UInt8 := dkwX11_look_6 ++ dktX11_look_7
def dkwX11_look_5 : List UInt8 := [132, 3, 1, 21, 6, 21, 6, 4, 100, 126, 54, 6, 167, 255, 158, 132, 5, 1, 167, 255, 143, 28, 42]
abbrev dktX11_look_5 : List UInt8 := dkwX11_look_5 ++ dktX11_look_6
def dkwX11_look_4 : List UInt8 := [4, 96, 79, 21, 4, 42, 180, 0, 23, 21, 7, 46, 96, 54, 4, 42, 180, 0, 20, 29, 21, 7, 79]
abbrev dktX11_look_4 : List UInt8 := dkwX11_look_4 ++ dktX11_look_5
def dkwX11_look_3 : List UInt8 := [4, 21, 7, 120, 128, 61, 42, 180, 0, 23, 21, 7, 42, 180, 0, 23, 42, 180, 0, 20, 21, 5, 46, 46]
abbrev dktX11_look_3 : List UInt8 := dkwX11_look_3 ++ dktX11_look_4
def dkwX11_look_2 : List UInt8 := [46, 50, 21, 6, 184, 0, 55, 46, 54, 7, 28, 21, 7, 122, 4, 126, 4, 160, 0, 6, 167, 0, 54, 28]
abbrev dktX11_look_2 : List UInt8 := dkwX11_look_2 ++ dktX11_look_3
def dkwX11_look_1 : List UInt8 := [21, 5, 29, 162, 0, 113, 27, 54, 6, 21, 6, 153, 0, 99, 42, 180, 0, 17, 42, 180, 0, 20, 21, 5]
abbrev dktX11_look_1 : List UInt8 := dkwX11_look_1 ++ dktX11_look_2
def dkwX11_look_0 : List UInt8 := [4, 61, 4, 62, 42, 180, 0, 20, 3, 3, 79, 42, 180, 0, 23, 3, 3, 79, 3, 54, 4, 3, 54, 5]
abbrev dktX11_look_0 : List UInt8 := dkwX11_look_0 ++ dktX11_look_1
theorem dksX11_look_0 : cX11_look.data.toList.drop 0 = dktX11_look_0 := by decide +kernel
theorem dksX11_look_1 : cX11_look.data.toList.drop 24 = dktX11_look_1 := dk_seg dksX11_look_0 24 rfl rfl
theorem dksX11_look_2 : cX11_look.data.toList.drop 48 = dktX11_look_2 := dk_seg dksX11_look_1 24 rfl rfl
theorem dksX11_look_3 : cX11_look.data.toList.drop 72 = dktX11_look_3 := dk_seg dksX11_look_2 24 rfl rfl
theorem dksX11_look_4 : cX11_look.data.toList.drop 96 = dktX11_look_4 := dk_seg dksX11_look_3 24 rfl rfl
theorem dksX11_look_5 : cX11_look.data.toList.drop 119 = dktX11_look_5 := dk_seg dksX11_look_4 23 rfl rfl
theorem dksX11_look_6 : cX11_look.data.toList.drop 142 = dktX11_look_6 := dk_seg dksX11_look_5 23 rfl rfl
theorem dksX11_look_7 : cX11_look.data.toList.drop 165 = dktX11_look_7 := dk_seg dksX11_look_6 23 rfl rfl
theorem dksX11_look_8 : cX11_look.data.toList.drop 187 = dktX11_look_8 := dk_seg dksX11_look_7 22 rfl rfl
theorem dX11_look_0 : decode cX11_look 0 = .ok (.iconst 1, 1) := dk_4 (dk_at dksX11_look_0 0 rfl rfl)
theorem dX11_look_1 : decode cX11_look 1 = .ok (.istore_n 2, 1) := dk_61 (dk_at dksX11_look_0 1 rfl rfl)
theorem dX11_look_2 : decode cX11_look 2 = .ok (.iconst 1, 1) := dk_4 (dk_at dksX11_look_0 2 rfl rfl)
theorem dX11_look_3 : decode cX11_look 3 = .ok (.istore_n 3, 1) := dk_62 (dk_at dksX11_look_0 3 rfl rfl)
theorem dX11_look_4 : decode cX11_look 4 = .ok (.aload_n 0, 1) := dk_42 (dk_at dksX11_look_0 4 rfl rfl)
theorem dX11_look_5 : decode cX11_look 5 = .ok (.getfield 20, 3) := dk_180 0 20 (dk_at dksX11_look_0 5 rfl rfl)
theorem dX11_look_8 : decode cX11_look 8 = .ok (.iconst 0, 1) := dk_3 (dk_at dksX11_look_0 8 rfl rfl)
theorem dX11_look_9 : decode cX11_look 9 = .ok (.iconst 0, 1) := dk_3 (dk_at dksX11_look_0 9 rfl rfl)
theorem dX11_look_10 : decode cX11_look 10 = .ok (.iastore, 1) := dk_79 (dk_at dksX11_look_0 10 rfl rfl)
theorem dX11_look_11 : decode cX11_look 11 = .ok (.aload_n 0, 1) := dk_42 (dk_at dksX11_look_0 11 rfl rfl)
theorem dX11_look_12 : decode cX11_look 12 = .ok (.getfield 23, 3) := dk_180 0 23 (dk_at dksX11_look_0 12 rfl rfl)
theorem dX11_look_15 : decode cX11_look 15 = .ok (.iconst 0, 1) := dk_3 (dk_at dksX11_look_0 15 rfl rfl)
theorem dX11_look_16 : decode cX11_look 16 = .ok (.iconst 0, 1) := dk_3 (dk_at dksX11_look_0 16 rfl rfl)
theorem dX11_look_17 : decode cX11_look 17 = .ok (.iastore, 1) := dk_79 (dk_at dksX11_look_0 17 rfl rfl)
theorem dX11_look_18 : decode cX11_look 18 = .ok (.iconst 0, 1) := dk_3 (dk_at dksX11_look_0 18 rfl rfl)
theorem dX11_look_19 : decode cX11_look 19 = .ok (.istore 4, 2) := dk_54 4 (dk_at dksX11_look_0 19 rfl rfl)
theorem dX11_look_21 : decode cX11_look 21 = .ok (.iconst 0, 1) := dk_3 (dk_at dksX11_look_0 21 rfl rfl)
theorem dX11_look_22 : decode cX11_look 22 = .ok (.istore 5, 2) := dk_54 5 (dk_at dksX11_look_0 22 rfl rfl)
theorem dX11_look_24 : decode cX11_look 24 = .ok (.iload 5, 2) := dk_21 5 (dk_at dksX11_look_1 0 rfl rfl)
theorem dX11_look_26 : decode cX11_look 26 = .ok (.iload_n 3, 1) := dk_29 (dk_at dksX11_look_1 2 rfl rfl)
theorem dX11_look_27 : decode cX11_look 27 = .ok (.if_icmp .ge 113, 3) := dk_162 0 113 (dk_at dksX11_look_1 3 rfl rfl)
theorem dX11_look_30 : decode cX11_look 30 = .ok (.iload_n 1, 1) := dk_27 (dk_at dksX11_look_1 6 rfl rfl)
theorem dX11_look_31 : decode cX11_look 31 = .ok (.istore 6, 2) := dk_54 6 (dk_at dksX11_look_1 7 rfl rfl)
theorem dX11_look_33 : decode cX11_look 33 = .ok (.iload 6, 2) := dk_21 6 (dk_at dksX11_look_1 9 rfl rfl)
theorem dX11_look_35 : decode cX11_look 35 = .ok (.ifCond .eq 99, 3) := dk_153 0 99 (dk_at dksX11_look_1 11 rfl rfl)
theorem dX11_look_38 : decode cX11_look 38 = .ok (.aload_n 0, 1) := dk_42 (dk_at dksX11_look_1 14 rfl rfl)
theorem dX11_look_39 : decode cX11_look 39 = .ok (.getfield 17, 3) := dk_180 0 17 (dk_at dksX11_look_1 15 rfl rfl)
theorem dX11_look_42 : decode cX11_look 42 = .ok (.aload_n 0, 1) := dk_42 (dk_at dksX11_look_1 18 rfl rfl)
theorem dX11_look_43 : decode cX11_look 43 = .ok (.getfield 20, 3) := dk_180 0 20 (dk_at dksX11_look_1 19 rfl rfl)
theorem dX11_look_46 : decode cX11_look 46 = .ok (.iload 5, 2) := dk_21 5 (dk_at dksX11_look_1 22 rfl rfl)
theorem dX11_look_48 : decode cX11_look 48 = .ok (.iaload, 1) := dk_46 (dk_at dksX11_look_2 0 rfl rfl)
theorem dX11_look_49 : decode cX11_look 49 = .ok (.aaload, 1) := dk_50 (dk_at dksX11_look_2 1 rfl rfl)
theorem dX11_look_50 : decode cX11_look 50 = .ok (.iload 6, 2) := dk_21 6 (dk_at dksX11_look_2 2 rfl rfl)
theorem dX11_look_52 : decode cX11_look 52 = .ok (.invokestatic 55, 3) := dk_184 0 55 (dk_at dksX11_look_2 4 rfl rfl)
theorem dX11_look_55 : decode cX11_look 55 = .ok (.iaload, 1) := dk_46 (dk_at dksX11_look_2 7 rfl rfl)
theorem dX11_look_56 : decode cX11_look 56 = .ok (.istore 7, 2) := dk_54 7 (dk_at dksX11_look_2 8 rfl rfl)
theorem dX11_look_58 : decode cX11_look 58 = .ok (.iload_n 2, 1) := dk_28 (dk_at dksX11_look_2 10 rfl rfl)
theorem dX11_look_59 : decode cX11_look 59 = .ok (.iload 7, 2) := dk_21 7 (dk_at dksX11_look_2 11 rfl rfl)
theorem dX11_look_61 : decode cX11_look 61 = .ok (.ishr, 1) := dk_122 (dk_at dksX11_look_2 13 rfl rfl)
theorem dX11_look_62 : decode cX11_look 62 = .ok (.iconst 1, 1) := dk_4 (dk_at dksX11_look_2 14 rfl rfl)
theorem dX11_look_63 : decode cX11_look 63 = .ok (.iand, 1) := dk_126 (dk_at dksX11_look_2 15 rfl rfl)
theorem dX11_look_64 : decode cX11_look 64 = .ok (.iconst 1, 1) := dk_4 (dk_at dksX11_look_2 16 rfl rfl)
theorem dX11_look_65 : decode cX11_look 65 = .ok (.if_icmp .ne 6, 3) := dk_160 0 6 (dk_at dksX11_look_2 17 rfl rfl)
theorem dX11_look_68 : decode cX11_look 68 = .ok (.goto 54, 3) := dk_167 0 54 (dk_at dksX11_look_2 20 rfl rfl)
theorem dX11_look_71 : decode cX11_look 71 = .ok (.iload_n 2, 1) := dk_28 (dk_at dksX11_look_2 23 rfl rfl)
theorem dX11_look_72 : decode cX11_look 72 = .ok (.iconst 1, 1) := dk_4 (dk_at dksX11_look_3 0 rfl rfl)
theorem dX11_look_73 : decode cX11_look 73 = .ok (.iload 7, 2) := dk_21 7 (dk_at dksX11_look_3 1 rfl rfl)
theorem dX11_look_75 : decode cX11_look 75 = .ok (.ishl, 1) := dk_120 (dk_at dksX11_look_3 3 rfl rfl)
theorem dX11_look_76 : decode cX11_look 76 = .ok (.ior, 1) := dk_128 (dk_at dksX11_look_3 4 rfl rfl)
theorem dX11_look_77 : decode cX11_look 77 = .ok (.istore_n 2, 1) := dk_61 (dk_at dksX11_look_3 5 rfl rfl)
theorem dX11_look_78 : decode cX11_look 78 = .ok (.aload_n 0, 1) := dk_42 (dk_at dksX11_look_3 6 rfl rfl)
theorem dX11_look_79 : decode cX11_look 79 = .ok (.getfield 23, 3) := dk_180 0 23 (dk_at dksX11_look_3 7 rfl rfl)
theorem dX11_look_82 : decode cX11_look 82 = .ok (.iload 7, 2) := dk_21 7 (dk_at dksX11_look_3 10 rfl rfl)
theorem dX11_look_84 : decode cX11_look 84 = .ok (.aload_n 0, 1) := dk_42 (dk_at dksX11_look_3 12 rfl rfl)
theorem dX11_look_85 : decode cX11_look 85 = .ok (.getfield 23, 3) := dk_180 0 23 (dk_at dksX11_look_3 13 rfl rfl)
theorem dX11_look_88 : decode cX11_look 88 = .ok (.aload_n 0, 1) := dk_42 (dk_at dksX11_look_3 16 rfl rfl)
theorem dX11_look_89 : decode cX11_look 89 = .ok (.getfield 20, 3) := dk_180 0 20 (dk_at dksX11_look_3 17 rfl rfl)
theorem dX11_look_92 : decode cX11_look 92 = .ok (.iload 5, 2) := dk_21 5 (dk_at dksX11_look_3 20 rfl rfl)
theorem dX11_look_94 : decode cX11_look 94 = .ok (.iaload, 1) := dk_46 (dk_at dksX11_look_3 22 rfl rfl)
theorem dX11_look_95 : decode cX11_look 95 = .ok (.iaload, 1) := dk_46 (dk_at dksX11_look_3 23 rfl rfl)
theorem dX11_look_96 : decode cX11_look 96 = .ok (.iconst 1, 1) := dk_4 (dk_at dksX11_look_4 0 rfl rfl)
theorem dX11_look_97 : decode cX11_look 97 = .ok (.iadd, 1) := dk_96 (dk_at dksX11_look_4 1 rfl rfl)
theorem dX11_look_98 : decode cX11_look 98 = .ok (.iastore, 1) := dk_79 (dk_at dksX11_look_4 2 rfl rfl)
theorem dX11_look_99 : decode cX11_look 99 = .ok (.iload 4, 2) := dk_21 4 (dk_at dksX11_look_4 3 rfl rfl)
theorem dX11_look_101 : decode cX11_look 101 = .ok (.aload_n 0, 1) := dk_42 (dk_at dksX11_look_4 5 rfl rfl)
theorem dX11_look_102 : decode cX11_look 102 = .ok (.getfield 23, 3) := dk_180 0 23 (dk_at dksX11_look_4 6 rfl rfl)
theorem dX11_look_105 : decode cX11_look 105 = .ok (.iload 7, 2) := dk_21 7 (dk_at dksX11_look_4 9 rfl rfl)
theorem dX11_look_107 : decode cX11_look 107 = .ok (.iaload, 1) := dk_46 (dk_at dksX11_look_4 11 rfl rfl)
theorem dX11_look_108 : decode cX11_look 108 = .ok (.iadd, 1) := dk_96 (dk_at dksX11_look_4 12 rfl rfl)
theorem dX11_look_109 : decode cX11_look 109 = .ok (.istore 4, 2) := dk_54 4 (dk_at dksX11_look_4 13 rfl rfl)
theorem dX11_look_111 : decode cX11_look 111 = .ok (.aload_n 0, 1) := dk_42 (dk_at dksX11_look_4 15 rfl rfl)
theorem dX11_look_112 : decode cX11_look 112 = .ok (.getfield 20, 3) := dk_180 0 20 (dk_at dksX11_look_4 16 rfl rfl)
theorem dX11_look_115 : decode cX11_look 115 = .ok (.iload_n 3, 1) := dk_29 (dk_at dksX11_look_4 19 rfl rfl)
theorem dX11_look_116 : decode cX11_look 116 = .ok (.iload 7, 2) := dk_21 7 (dk_at dksX11_look_4 20 rfl rfl)
theorem dX11_look_118 : decode cX11_look 118 = .ok (.iastore, 1) := dk_79 (dk_at dksX11_look_4 22 rfl rfl)
theorem dX11_look_119 : decode cX11_look 119 = .ok (.iinc 3 1, 3) := dk_132 3 1 (dk_at dksX11_look_5 0 rfl rfl)
theorem dX11_look_122 : decode cX11_look 122 = .ok (.iload 6, 2) := dk_21 6 (dk_at dksX11_look_5 3 rfl rfl)
theorem dX11_look_124 : decode cX11_look 124 = .ok (.iload 6, 2) := dk_21 6 (dk_at dksX11_look_5 5 rfl rfl)
theorem dX11_look_126 : decode cX11_look 126 = .ok (.iconst 1, 1) := dk_4 (dk_at dksX11_look_5 7 rfl rfl)
theorem dX11_look_127 : decode cX11_look 127 = .ok (.isub, 1) := dk_100 (dk_at dksX11_look_5 8 rfl rfl)
theorem dX11_look_128 : decode cX11_look 128 = .ok (.iand, 1) := dk_126 (dk_at dksX11_look_5 9 rfl rfl)
theorem dX11_look_129 : decode cX11_look 129 = .ok (.istore 6, 2) := dk_54 6 (dk_at dksX11_look_5 10 rfl rfl)
theorem dX11_look_131 : decode cX11_look 131 = .ok (.goto (-98), 3) := dk_167 255 158 (dk_at dksX11_look_5 12 rfl rfl)
theorem dX11_look_134 : decode cX11_look 134 = .ok (.iinc 5 1, 3) := dk_132 5 1 (dk_at dksX11_look_5 15 rfl rfl)
theorem dX11_look_137 : decode cX11_look 137 = .ok (.goto (-113), 3) := dk_167 255 143 (dk_at dksX11_look_5 18 rfl rfl)
theorem dX11_look_140 : decode cX11_look 140 = .ok (.iload_n 2, 1) := dk_28 (dk_at dksX11_look_5 21 rfl rfl)
theorem dX11_look_141 : decode cX11_look 141 = .ok (.aload_n 0, 1) := dk_42 (dk_at dksX11_look_5 22 rfl rfl)
theorem dX11_look_142 : decode cX11_look 142 = .ok (.getfield 42, 3) := dk_180 0 42 (dk_at dksX11_look_6 0 rfl rfl)
theorem dX11_look_145 : decode cX11_look 145 = .ok (.if_icmp .eq 4, 3) := dk_159 0 4 (dk_at dksX11_look_6 3 rfl rfl)
theorem dX11_look_148 : decode cX11_look 148 = .ok (.return_, 1) := dk_177 (dk_at dksX11_look_6 6 rfl rfl)
theorem dX11_look_149 : decode cX11_look 149 = .ok (.aload_n 0, 1) := dk_42 (dk_at dksX11_look_6 7 rfl rfl)
theorem dX11_look_150 : decode cX11_look 150 = .ok (.getfield 23, 3) := dk_180 0 23 (dk_at dksX11_look_6 8 rfl rfl)
theorem dX11_look_153 : decode cX11_look 153 = .ok (.aload_n 0, 1) := dk_42 (dk_at dksX11_look_6 11 rfl rfl)
theorem dX11_look_154 : decode cX11_look 154 = .ok (.getfield 20, 3) := dk_180 0 20 (dk_at dksX11_look_6 12 rfl rfl)
theorem dX11_look_157 : decode cX11_look 157 = .ok (.iload_n 3, 1) := dk_29 (dk_at dksX11_look_6 15 rfl rfl)
theorem dX11_look_158 : decode cX11_look 158 = .ok (.iconst 1, 1) := dk_4 (dk_at dksX11_look_6 16 rfl rfl)
theorem dX11_look_159 : decode cX11_look 159 = .ok (.isub, 1) := dk_100 (dk_at dksX11_look_6 17 rfl rfl)
theorem dX11_look_160 : decode cX11_look 160 = .ok (.iaload, 1) := dk_46 (dk_at dksX11_look_6 18 rfl rfl)
theorem dX11_look_161 : decode cX11_look 161 = .ok (.iaload, 1) := dk_46 (dk_at dksX11_look_6 19 rfl rfl)
theorem dX11_look_162 : decode cX11_look 162 = .ok (.istore 5, 2) := dk_54 5 (dk_at dksX11_look_6 20 rfl rfl)
theorem dX11_look_164 : decode cX11_look 164 = .ok (.aload_n 0, 1) := dk_42 (dk_at dksX11_look_6 22 rfl rfl)
theorem dX11_look_165 : decode cX11_look 165 = .ok (.getfield 26, 3) := dk_180 0 26 (dk_at dksX11_look_7 0 rfl rfl)
theorem dX11_look_168 : decode cX11_look 168 = .ok (.iconst (-1), 1) := dk_2 (dk_at dksX11_look_7 3 rfl rfl)
theorem dX11_look_169 : decode cX11_look 169 = .ok (.if_icmp .eq 16, 3) := dk_159 0 16 (dk_at dksX11_look_7 4 rfl rfl)
theorem dX11_look_172 : decode cX11_look 172 = .ok (.aload_n 0, 1) := dk_42 (dk_at dksX11_look_7 7 rfl rfl)
theorem dX11_look_173 : decode cX11_look 173 = .ok (.iload 5, 2) := dk_21 5 (dk_at dksX11_look_7 8 rfl rfl)
theorem dX11_look_175 : decode cX11_look 175 = .ok (.iload 4, 2) := dk_21 4 (dk_at dksX11_look_7 10 rfl rfl)
theorem dX11_look_177 : decode cX11_look 177 = .ok (.iload_n 1, 1) := dk_27 (dk_at dksX11_look_7 12 rfl rfl)
theorem dX11_look_178 : decode cX11_look 178 = .ok (.invokevirtual 60, 3) := dk_182 0 60 (dk_at dksX11_look_7 13 rfl rfl)
theorem dX11_look_181 : decode cX11_look 181 = .ok (.ifCond .ne 4, 3) := dk_154 0 4 (dk_at dksX11_look_7 16 rfl rfl)
theorem dX11_look_184 : decode cX11_look 184 = .ok (.return_, 1) := dk_177 (dk_at dksX11_look_7 19 rfl rfl)
theorem dX11_look_185 : decode cX11_look 185 = .ok (.aload_n 0, 1) := dk_42 (dk_at dksX11_look_7 20 rfl rfl)
theorem dX11_look_186 : decode cX11_look 186 = .ok (.iload_n 1, 1) := dk_27 (dk_at dksX11_look_7 21 rfl rfl)
theorem dX11_look_187 : decode cX11_look 187 = .ok (.putfield 26, 3) := dk_181 0 26 (dk_at dksX11_look_8 0 rfl rfl)
theorem dX11_look_190 : decode cX11_look 190 = .ok (.aload_n 0, 1) := dk_42 (dk_at dksX11_look_8 3 rfl rfl)
theorem dX11_look_191 : decode cX11_look 191 = .ok (.iload 5, 2) := dk_21 5 (dk_at dksX11_look_8 4 rfl rfl)
theorem dX11_look_193 : decode cX11_look 193 = .ok (.putfield 64, 3) := dk_181 0 64 (dk_at dksX11_look_8 6 rfl rfl)
theorem dX11_look_196 : decode cX11_look 196 = .ok (.aload_n 0, 1) := dk_42 (dk_at dksX11_look_8 9 rfl rfl)
theorem dX11_look_197 : decode cX11_look 197 = .ok (.iload 4, 2) := dk_21 4 (dk_at dksX11_look_8 10 rfl rfl)
theorem dX11_look_199 : decode cX11_look 199 = .ok (.putfield 67, 3) := dk_181 0 67 (dk_at dksX11_look_8 12 rfl rfl)
theorem dX11_look_202 : decode cX11_look 202 = .ok (.return_, 1) := dk_177 (dk_at dksX11_look_8 15 rfl rfl)
abbrev cX11_isBetter : ByteArray := prog_10_method_3_code
def yX11_isBetter : MethodName := ⟨RX11, "isBetter", "(III)Z"⟩
def dkwX11_isBetter_4 : List UInt8 := [172]
abbrev dktX11_isBetter_4 : List UInt8 := dkwX11_isBetter_4 ++ []
def dkwX11_isBetter_3 : List UInt8 := [162, 0, 7, 4, 167, 0, 20, 3, 167, 0, 16, 29, 42, 180, 0, 26, 162, 0, 7, 4, 167, 0, 4, 3]
abbrev dktX11_isBetter_3 : List UInt8 := dkwX11_isBetter_3 ++ dktX11_isBetter_4
def dkwX11_isBetter_2 : List UInt8 := [54, 4, 42, 180, 0, 26, 184, 0, 70, 54, 5, 21, 4, 21, 5, 159, 0, 18, 21, 4, 21, 5]
abbrev dktX11_isBetter_2 : List UInt8 := dkwX11_isBetter_2 ++ dktX11_isBetter_3
def dkwX11_isBetter_1 : List UInt8 := [180, 0, 67, 159, 0, 17, 28, 42, 180, 0, 67, 162, 0, 7, 4, 167, 0, 4, 3, 172, 29, 184, 0, 70]
abbrev dktX11_isBetter_1 : List UInt8 := dkwX11_isBetter_1 ++ dktX11_isBetter_2
def dkwX11_isBetter_0 : List UInt8 := [27, 42, 180, 0, 64, 159, 0, 17, 27, 42, 180, 0, 64, 162, 0, 7, 4, 167, 0, 4, 3, 172, 28, 42]
abbrev dktX11_isBetter_0 : List UInt8 := dkwX11_isBetter_0 ++ dktX11_isBetter_1
theorem dksX11_isBetter_0 : cX11_isBetter.data.toList.drop 0 = dktX11_isBetter_0 := by decide +kernel
theorem dksX11_isBetter_1 : cX11_isBetter.data.toList.drop 24 = dktX11_isBetter_1 := dk_seg dksX11_isBetter_0 24 rfl rfl
theorem dksX11_isBetter_2 : cX11_isBetter.data.toList.drop 48 = dktX11_isBetter_2 := dk_seg dksX11_isBetter_1 24 rfl rfl
theorem dksX11_isBetter_3 : cX11_isBetter.data.toList.drop 70 = dktX11_isBetter_3 := dk_seg dksX11_isBetter_2 22 rfl rfl
theorem dksX11_isBetter_4 : cX11_isBetter.data.toList.drop 94 = dktX11_isBetter_4 := dk_seg dksX11_isBetter_3 24 rfl rfl
theorem dX11_isBetter_0 : decode cX11_isBetter 0 = .ok (.iload_n 1, 1) := dk_27 (dk_at dksX11_isBetter_0 0 rfl rfl)
theorem dX11_isBetter_1 : decode cX11_isBetter 1 = .ok (.aload_n 0, 1) := dk_42 (dk_at dksX11_isBetter_0 1 rfl rfl)
theorem dX11_isBetter_2 : decode cX11_isBetter 2 = .ok (.getfield 64, 3) := dk_180 0 64 (dk_at dksX11_isBetter_0 2 rfl rfl)
theorem dX11_isBetter_5 : decode cX11_isBetter 5 = .ok (.if_icmp .eq 17, 3) := dk_159 0 17 (dk_at dksX11_isBetter_0 5 rfl rfl)
theorem dX11_isBetter_8 : decode cX11_isBetter 8 = .ok (.iload_n 1, 1) := dk_27 (dk_at dksX11_isBetter_0 8 rfl rfl)
theorem dX11_isBetter_9 : decode cX11_isBetter 9 = .ok (.aload_n 0, 1) := dk_42 (dk_at dksX11_isBetter_0 9 rfl rfl)
theorem dX11_isBetter_10 : decode cX11_isBetter 10 = .ok (.getfield 64, 3) := dk_180 0 64 (dk_at dksX11_isBetter_0 10 rfl rfl)
theorem dX11_isBetter_13 : decode cX11_isBetter 13 = .ok (.if_icmp .ge 7, 3) := dk_162 0 7 (dk_at dksX11_isBetter_0 13 rfl rfl)
theorem dX11_isBetter_16 : decode cX11_isBetter 16 = .ok (.iconst 1, 1) := dk_4 (dk_at dksX11_isBetter_0 16 rfl rfl)
theorem dX11_isBetter_17 : decode cX11_isBetter 17 = .ok (.goto 4, 3) := dk_167 0 4 (dk_at dksX11_isBetter_0 17 rfl rfl)
theorem dX11_isBetter_20 : decode cX11_isBetter 20 = .ok (.iconst 0, 1) := dk_3 (dk_at dksX11_isBetter_0 20 rfl rfl)
theorem dX11_isBetter_21 : decode cX11_isBetter 21 = .ok (.ireturn, 1) := dk_172 (dk_at dksX11_isBetter_0 21 rfl rfl)
theorem dX11_isBetter_22 : decode cX11_isBetter 22 = .ok (.iload_n 2, 1) := dk_28 (dk_at dksX11_isBetter_0 22 rfl rfl)
theorem dX11_isBetter_23 : decode cX11_isBetter 23 = .ok (.aload_n 0, 1) := dk_42 (dk_at dksX11_isBetter_0 23 rfl rfl)
theorem dX11_isBetter_24 : decode cX11_isBetter 24 = .ok (.getfield 67, 3) := dk_180 0 67 (dk_at dksX11_isBetter_1 0 rfl rfl)
theorem dX11_isBetter_27 : decode cX11_isBetter 27 = .ok (.if_icmp .eq 17, 3) := dk_159 0 17 (dk_at dksX11_isBetter_1 3 rfl rfl)
theorem dX11_isBetter_30 : decode cX11_isBetter 30 = .ok (.iload_n 2, 1) := dk_28 (dk_at dksX11_isBetter_1 6 rfl rfl)
theorem dX11_isBetter_31 : decode cX11_isBetter 31 = .ok (.aload_n 0, 1) := dk_42 (dk_at dksX11_isBetter_1 7 rfl rfl)
theorem dX11_isBetter_32 : decode cX11_isBetter 32 = .ok (.getfield 67, 3) := dk_180 0 67 (dk_at dksX11_isBetter_1 8 rfl rfl)
theorem dX11_isBetter_35 : decode cX11_isBetter 35 = .ok (.if_icmp .ge 7, 3) := dk_162 0 7 (dk_at dksX11_isBetter_1 11 rfl rfl)
theorem dX11_isBetter_38 : decode cX11_isBetter 38 = .ok (.iconst 1, 1) := dk_4 (dk_at dksX11_isBetter_1 14 rfl rfl)
theorem dX11_isBetter_39 : decode cX11_isBetter 39 = .ok (.goto 4, 3) := dk_167 0 4 (dk_at dksX11_isBetter_1 15 rfl rfl)
theorem dX11_isBetter_42 : decode cX11_isBetter 42 = .ok (.iconst 0, 1) := dk_3 (dk_at dksX11_isBetter_1 18 rfl rfl)
theorem dX11_isBetter_43 : decode cX11_isBetter 43 = .ok (.ireturn, 1) := dk_172 (dk_at dksX11_isBetter_1 19 rfl rfl)
theorem dX11_isBetter_44 : decode cX11_isBetter 44 = .ok (.iload_n 3, 1) := dk_29 (dk_at dksX11_isBetter_1 20 rfl rfl)
theorem dX11_isBetter_45 : decode cX11_isBetter 45 = .ok (.invokestatic 70, 3) := dk_184 0 70 (dk_at dksX11_isBetter_1 21 rfl rfl)
theorem dX11_isBetter_48 : decode cX11_isBetter 48 = .ok (.istore 4, 2) := dk_54 4 (dk_at dksX11_isBetter_2 0 rfl rfl)
theorem dX11_isBetter_50 : decode cX11_isBetter 50 = .ok (.aload_n 0, 1) := dk_42 (dk_at dksX11_isBetter_2 2 rfl rfl)
theorem dX11_isBetter_51 : decode cX11_isBetter 51 = .ok (.getfield 26, 3) := dk_180 0 26 (dk_at dksX11_isBetter_2 3 rfl rfl)
theorem dX11_isBetter_54 : decode cX11_isBetter 54 = .ok (.invokestatic 70, 3) := dk_184 0 70 (dk_at dksX11_isBetter_2 6 rfl rfl)
theorem dX11_isBetter_57 : decode cX11_isBetter 57 = .ok (.istore 5, 2) := dk_54 5 (dk_at dksX11_isBetter_2 9 rfl rfl)
theorem dX11_isBetter_59 : decode cX11_isBetter 59 = .ok (.iload 4, 2) := dk_21 4 (dk_at dksX11_isBetter_2 11 rfl rfl)
theorem dX11_isBetter_61 : decode cX11_isBetter 61 = .ok (.iload 5, 2) := dk_21 5 (dk_at dksX11_isBetter_2 13 rfl rfl)
theorem dX11_isBetter_63 : decode cX11_isBetter 63 = .ok (.if_icmp .eq 18, 3) := dk_159 0 18 (dk_at dksX11_isBetter_2 15 rfl rfl)
theorem dX11_isBetter_66 : decode cX11_isBetter 66 = .ok (.iload 4, 2) := dk_21 4 (dk_at dksX11_isBetter_2 18 rfl rfl)
theorem dX11_isBetter_68 : decode cX11_isBetter 68 = .ok (.iload 5, 2) := dk_21 5 (dk_at dksX11_isBetter_2 20 rfl rfl)
theorem dX11_isBetter_70 : decode cX11_isBetter 70 = .ok (.if_icmp .ge 7, 3) := dk_162 0 7 (dk_at dksX11_isBetter_3 0 rfl rfl)
theorem dX11_isBetter_73 : decode cX11_isBetter 73 = .ok (.iconst 1, 1) := dk_4 (dk_at dksX11_isBetter_3 3 rfl rfl)
theorem dX11_isBetter_74 : decode cX11_isBetter 74 = .ok (.goto 20, 3) := dk_167 0 20 (dk_at dksX11_isBetter_3 4 rfl rfl)
theorem dX11_isBetter_77 : decode cX11_isBetter 77 = .ok (.iconst 0, 1) := dk_3 (dk_at dksX11_isBetter_3 7 rfl rfl)
theorem dX11_isBetter_78 : decode cX11_isBetter 78 = .ok (.goto 16, 3) := dk_167 0 16 (dk_at dksX11_isBetter_3 8 rfl rfl)
theorem dX11_isBetter_81 : decode cX11_isBetter 81 = .ok (.iload_n 3, 1) := dk_29 (dk_at dksX11_isBetter_3 11 rfl rfl)
theorem dX11_isBetter_82 : decode cX11_isBetter 82 = .ok (.aload_n 0, 1) := dk_42 (dk_at dksX11_isBetter_3 12 rfl rfl)
theorem dX11_isBetter_83 : decode cX11_isBetter 83 = .ok (.getfield 26, 3) := dk_180 0 26 (dk_at dksX11_isBetter_3 13 rfl rfl)
theorem dX11_isBetter_86 : decode cX11_isBetter 86 = .ok (.if_icmp .ge 7, 3) := dk_162 0 7 (dk_at dksX11_isBetter_3 16 rfl rfl)
theorem dX11_isBetter_89 : decode cX11_isBetter 89 = .ok (.iconst 1, 1) := dk_4 (dk_at dksX11_isBetter_3 19 rfl rfl)
theorem dX11_isBetter_90 : decode cX11_isBetter 90 = .ok (.goto 4, 3) := dk_167 0 4 (dk_at dksX11_isBetter_3 20 rfl rfl)
theorem dX11_isBetter_93 : decode cX11_isBetter 93 = .ok (.iconst 0, 1) := dk_3 (dk_at dksX11_isBetter_3 23 rfl rfl)
theorem dX11_isBetter_94 : decode cX11_isBetter 94 = .ok (.ireturn, 1) := dk_172 (dk_at dksX11_isBetter_4 0 rfl rfl)
theorem q134 : (Jvm.Cond.initialized "WiredNets$Seek") ∈ lw_all := lw_g (lw_at lw_m1 26 rfl) rfl
theorem q382 : (Jvm.Cond.fieldLinkNest "WiredNets$Seek" (37 : Nat) "WiredNets$Group" "size" "I" "WiredNets") ∈ lw_tbl := lw_at lw_m2 34 rfl
theorem q956 : (Jvm.Cond.instantiable "WiredNets$Seek" (11 : Nat)) ∈ lw_all := lw_g (lw_at lw_m4 128 rfl) rfl
theorem q958 : (Jvm.Cond.instanceMethod ({ cls := "WiredNets$Seek", name := "<init>", desc := "(LWiredNets$Group;I)V" } : Jvm.MethodName)) ∈ lw_all := lw_g (lw_at lw_m4 130 rfl) rfl
theorem q959 : (Jvm.Cond.code ({ cls := "WiredNets$Seek", name := "<init>", desc := "(LWiredNets$Group;I)V" } : Jvm.MethodName) prog_10_method_1_code (5 : Nat) (Option.none : Option Jvm.ClassFile.FieldType)) ∈ lw_all := lw_g (lw_at lw_m4 131 rfl) rfl
theorem q960 : (Jvm.Cond.methodLink "WiredNets$Seek" (3 : Nat) ({ cls := "java/lang/Object", name := "<init>", desc := "()V" } : Jvm.MethodName)) ∈ lw_all := lw_g (lw_at lw_m4 132 rfl) rfl
theorem q961 : (Jvm.Cond.classLink "WiredNets$Seek" (15 : Nat) "[[I") ∈ lw_all := lw_g (lw_at lw_m4 133 rfl) rfl
theorem q962 : (Jvm.Cond.methodLink "WiredNets$Seek" (45 : Nat) ({ cls := "WiredNets$Group", name := "then", desc := "(II)I" } : Jvm.MethodName)) ∈ lw_all := lw_g (lw_at lw_m4 134 rfl) rfl
theorem q963 : (Jvm.Cond.methodLink "WiredNets$Seek" (48 : Nat) ({ cls := "WiredNets$Group", name := "opposite", desc := "(I)I" } : Jvm.MethodName)) ∈ lw_all := lw_g (lw_at lw_m4 135 rfl) rfl
theorem q964 : (Jvm.Cond.fieldLink "WiredNets$Seek" (30 : Nat) "WiredNets$Seek" "g" "LWiredNets$Group;") ∈ lw_all := lw_g (lw_at lw_m4 136 rfl) rfl
theorem q965 : (Jvm.Cond.fieldLink "WiredNets$Seek" (34 : Nat) "WiredNets$Seek" "most" "I") ∈ lw_all := lw_g (lw_at lw_m4 137 rfl) rfl
theorem q966 : (Jvm.Cond.fieldLink "WiredNets$Seek" (42 : Nat) "WiredNets$Seek" "all" "I") ∈ lw_all := lw_g (lw_at lw_m4 138 rfl) rfl
theorem q967 : (Jvm.Cond.fieldLink "WiredNets$Seek" (9 : Nat) "WiredNets$Seek" "units" "[I") ∈ lw_all := lw_g (lw_at lw_m4 139 rfl) rfl
theorem q968 : (Jvm.Cond.fieldLink "WiredNets$Seek" (17 : Nat) "WiredNets$Seek" "then" "[[I") ∈ lw_all := lw_g (lw_at lw_m4 140 rfl) rfl
theorem q969 : (Jvm.Cond.fieldLink "WiredNets$Seek" (20 : Nat) "WiredNets$Seek" "line" "[I") ∈ lw_all := lw_g (lw_at lw_m4 141 rfl) rfl
theorem q970 : (Jvm.Cond.fieldLink "WiredNets$Seek" (23 : Nat) "WiredNets$Seek" "far" "[I") ∈ lw_all := lw_g (lw_at lw_m4 142 rfl) rfl
theorem q971 : (Jvm.Cond.fieldLink "WiredNets$Seek" (52 : Nat) "WiredNets$Seek" "unitMany" "I") ∈ lw_all := lw_g (lw_at lw_m4 143 rfl) rfl
theorem q972 : (Jvm.Cond.fieldLink "WiredNets$Seek" (26 : Nat) "WiredNets$Seek" "best" "I") ∈ lw_all := lw_g (lw_at lw_m4 144 rfl) rfl
theorem q973 : (Jvm.Cond.fieldLink "WiredNets$Seek" (64 : Nat) "WiredNets$Seek" "bestFar" "I") ∈ lw_all := lw_g (lw_at lw_m4 145 rfl) rfl
theorem q974 : (Jvm.Cond.fieldLink "WiredNets$Seek" (67 : Nat) "WiredNets$Seek" "bestSum" "I") ∈ lw_all := lw_g (lw_at lw_m4 146 rfl) rfl
theorem q975 : (Jvm.Cond.laysFinal "WiredNets$Seek" "WiredNets$Seek" "g" "LWiredNets$Group;") ∈ lw_all := lw_g (lw_at lw_m4 147 rfl) rfl
theorem q976 : (Jvm.Cond.soleField "WiredNets$Seek" "g") ∈ lw_all := lw_g (lw_at lw_m4 148 rfl) rfl
theorem q977 : (Jvm.Cond.laysFinal "WiredNets$Seek" "WiredNets$Seek" "most" "I") ∈ lw_all := lw_g (lw_at lw_m4 149 rfl) rfl
theorem q978 : (Jvm.Cond.soleField "WiredNets$Seek" "most") ∈ lw_all := lw_g (lw_at lw_m4 150 rfl) rfl
theorem q979 : (Jvm.Cond.laysFinal "WiredNets$Seek" "WiredNets$Seek" "all" "I") ∈ lw_all := lw_g (lw_at lw_m4 151 rfl) rfl
theorem q980 : (Jvm.Cond.soleField "WiredNets$Seek" "all") ∈ lw_all := lw_g (lw_at lw_m4 152 rfl) rfl
theorem q981 : (Jvm.Cond.laysFinal "WiredNets$Seek" "WiredNets$Seek" "units" "[I") ∈ lw_all := lw_g (lw_at lw_m4 153 rfl) rfl
theorem q982 : (Jvm.Cond.soleField "WiredNets$Seek" "units") ∈ lw_all := lw_g (lw_at lw_m4 154 rfl) rfl
theorem q983 : (Jvm.Cond.laysFinal "WiredNets$Seek" "WiredNets$Seek" "then" "[[I") ∈ lw_all := lw_g (lw_at lw_m4 155 rfl) rfl
theorem q984 : (Jvm.Cond.soleField "WiredNets$Seek" "then") ∈ lw_all := lw_g (lw_at lw_m4 156 rfl) rfl
theorem q985 : (Jvm.Cond.laysFinal "WiredNets$Seek" "WiredNets$Seek" "line" "[I") ∈ lw_all := lw_g (lw_at lw_m4 157 rfl) rfl
theorem q986 : (Jvm.Cond.soleField "WiredNets$Seek" "line") ∈ lw_all := lw_g (lw_at lw_m4 158 rfl) rfl
theorem q987 : (Jvm.Cond.laysFinal "WiredNets$Seek" "WiredNets$Seek" "far" "[I") ∈ lw_all := lw_g (lw_at lw_m4 159 rfl) rfl
theorem q988 : (Jvm.Cond.soleField "WiredNets$Seek" "far") ∈ lw_all := lw_g (lw_at lw_m4 160 rfl) rfl
theorem q989 : (Jvm.Cond.lays "WiredNets$Seek" "WiredNets$Seek" "unitMany" "I") ∈ lw_all := lw_g (lw_at lw_m4 161 rfl) rfl
theorem q990 : (Jvm.Cond.soleField "WiredNets$Seek" "unitMany") ∈ lw_all := lw_g (lw_at lw_m4 162 rfl) rfl
theorem q991 : (Jvm.Cond.lays "WiredNets$Seek" "WiredNets$Seek" "best" "I") ∈ lw_all := lw_g (lw_at lw_m4 163 rfl) rfl
theorem q992 : (Jvm.Cond.soleField "WiredNets$Seek" "best") ∈ lw_all := lw_g (lw_at lw_m4 164 rfl) rfl
theorem q993 : (Jvm.Cond.lays "WiredNets$Seek" "WiredNets$Seek" "bestFar" "I") ∈ lw_all := lw_g (lw_at lw_m4 165 rfl) rfl
theorem q994 : (Jvm.Cond.soleField "WiredNets$Seek" "bestFar") ∈ lw_all := lw_g (lw_at lw_m4 166 rfl) rfl
theorem q995 : (Jvm.Cond.lays "WiredNets$Seek" "WiredNets$Seek" "bestSum" "I") ∈ lw_all := lw_g (lw_at lw_m4 167 rfl) rfl
theorem q996 : (Jvm.Cond.soleField "WiredNets$Seek" "bestSum") ∈ lw_all := lw_g (lw_at lw_m4 168 rfl) rfl
theorem q997 : (Jvm.Cond.superclass "WiredNets$Seek" "java/lang/Object") ∈ lw_all := lw_g (lw_at lw_m4 169 rfl) rfl
theorem q999 : (Jvm.Cond.instanceMethod ({ cls := "WiredNets$Seek", name := "run", desc := "()I" } : Jvm.MethodName)) ∈ lw_all := lw_g (lw_at lw_m4 171 rfl) rfl
theorem q1000 : (Jvm.Cond.selects "WiredNets$Seek" ({ cls := "WiredNets$Seek", name := "run", desc := "()I" } : Jvm.MethodName) ({ cls := "WiredNets$Seek", name := "run", desc := "()I" } : Jvm.MethodName)) ∈ lw_all := lw_g (lw_at lw_m4 172 rfl) rfl
theorem q1001 : (Jvm.Cond.code ({ cls := "WiredNets$Seek", name := "run", desc := "()I" } : Jvm.MethodName) prog_10_method_5_code (1 : Nat) (Option.some Jvm.ClassFile.FieldType.int)) ∈ lw_all := lw_g (lw_at lw_m4 173 rfl) rfl
theorem q1002 : (Jvm.Cond.methodLink "WiredNets$Seek" (77 : Nat) ({ cls := "WiredNets$Seek", name := "go", desc := "(II)V" } : Jvm.MethodName)) ∈ lw_all := lw_g (lw_at lw_m4 174 rfl) rfl
theorem q1003 : (Jvm.Cond.privateMethod ({ cls := "WiredNets$Seek", name := "go", desc := "(II)V" } : Jvm.MethodName)) ∈ lw_tbl := lw_at lw_m4 175 rfl
theorem q1004 : (Jvm.Cond.instanceMethod ({ cls := "WiredNets$Seek", name := "go", desc := "(II)V" } : Jvm.MethodName)) ∈ lw_all := lw_g (lw_at lw_m4 176 rfl) rfl
theorem q1005 : (Jvm.Cond.code ({ cls := "WiredNets$Seek", name := "go", desc := "(II)V" } : Jvm.MethodName) prog_10_method_4_code (3 : Nat) (Option.none : Option Jvm.ClassFile.FieldType)) ∈ lw_all := lw_g (lw_at lw_m4 177 rfl) rfl
theorem q1006 : (Jvm.Cond.methodLink "WiredNets$Seek" (73 : Nat) ({ cls := "WiredNets$Seek", name := "look", desc := "(I)V" } : Jvm.MethodName)) ∈ lw_all := lw_g (lw_at lw_m4 178 rfl) rfl
theorem q1007 : (Jvm.Cond.privateMethod ({ cls := "WiredNets$Seek", name := "look", desc := "(I)V" } : Jvm.MethodName)) ∈ lw_tbl := lw_at lw_m4 179 rfl
theorem q1008 : (Jvm.Cond.instanceMethod ({ cls := "WiredNets$Seek", name := "look", desc := "(I)V" } : Jvm.MethodName)) ∈ lw_all := lw_g (lw_at lw_m4 180 rfl) rfl
theorem q1009 : (Jvm.Cond.code ({ cls := "WiredNets$Seek", name := "look", desc := "(I)V" } : Jvm.MethodName) prog_10_method_2_code (8 : Nat) (Option.none : Option Jvm.ClassFile.FieldType)) ∈ lw_all := lw_g (lw_at lw_m4 181 rfl) rfl
theorem q1010 : (Jvm.Cond.methodLink "WiredNets$Seek" (55 : Nat) ({ cls := "java/lang/Integer", name := "numberOfTrailingZeros", desc := "(I)I" } : Jvm.MethodName)) ∈ lw_all := lw_g (lw_at lw_m4 182 rfl) rfl
theorem q1011 : (Jvm.Cond.methodLink "WiredNets$Seek" (60 : Nat) ({ cls := "WiredNets$Seek", name := "isBetter", desc := "(III)Z" } : Jvm.MethodName)) ∈ lw_all := lw_g (lw_at lw_m4 183 rfl) rfl
theorem q1012 : (Jvm.Cond.privateMethod ({ cls := "WiredNets$Seek", name := "isBetter", desc := "(III)Z" } : Jvm.MethodName)) ∈ lw_tbl := lw_at lw_m4 184 rfl
theorem q1013 : (Jvm.Cond.instanceMethod ({ cls := "WiredNets$Seek", name := "isBetter", desc := "(III)Z" } : Jvm.MethodName)) ∈ lw_all := lw_g (lw_at lw_m4 185 rfl) rfl
theorem q1014 : (Jvm.Cond.code ({ cls := "WiredNets$Seek", name := "isBetter", desc := "(III)Z" } : Jvm.MethodName) prog_10_method_3_code (6 : Nat) (Option.some Jvm.ClassFile.FieldType.boolean)) ∈ lw_all := lw_g (lw_at lw_m4 186 rfl) rfl
theorem q1015 : (Jvm.Cond.methodLink "WiredNets$Seek" (70 : Nat) ({ cls := "java/lang/Integer", name := "bitCount", desc := "(I)I" } : Jvm.MethodName)) ∈ lw_all := lw_g (lw_at lw_m4 187 rfl) rfl
theorem q1151 : (Jvm.Cond.selects "WiredNets$Seek" ({ cls := "java/lang/Object", name := "getClass", desc := "()Ljava/lang/Class;" } : Jvm.MethodName) ({ cls := "java/lang/Object", name := "getClass", desc := "()Ljava/lang/Class;" } : Jvm.MethodName)) ∈ lw_all := lw_g (lw_at lw_m5 83 rfl) rfl
theorem q2181 : (Jvm.Cond.castable "WiredNets$Seek" "java/lang/Object") ∈ lw_tbl := lw_at lw_m9 153 rfl
theorem in_X11 : ∀ w ∈ wsX110, w ∈ lw_all := lw_in wsX110 [975, 977, 979, 981, 983, 985, 987, 989, 991, 993, 995] (by decide +kernel) (by decide +kernel)

/-! WiredNets$Floor -/
set_option maxRecDepth 100000
def RX12 : String := "WiredNets$Floor"
def TX12 : u_T := fun k => match k with
  | 0 => ("WiredNets$Floor", "x", "LWiredNets$Net;", true)
  | 1 => ("WiredNets$Floor", "w", "I", true)
  | 2 => ("WiredNets$Floor", "lines", "[I", true)
  | 3 => ("WiredNets$Floor", "place", "[I", true)
  | 4 => ("WiredNets$Floor", "best", "[I", true)
  | _ => ("WiredNets$Floor", "least", "I", false)
def tyX12 : Nat → FieldType := fun k => match k with
  | 0 => .object "WiredNets$Net"
  | 1 => .int
  | 2 => .array .int
  | 3 => .array .int
  | 4 => .array .int
  | _ => .int
abbrev wsX120 : List Cond := u_ws RX12 TX12 6
theorem nmX12 : ∀ a, a < 6 → ∀ b, b < 6 → a ≠ b → (TX12 a).2.1 ≠ (TX12 b).2.1 := by decide +kernel
theorem tyX12_ok : ∀ k, k < 6 → parseFieldDescriptor (TX12 k).2.2.1 = some (tyX12 k) := by decide +kernel
abbrev cX12_init : ByteArray := prog_3_method_1_code
def yX12_init : MethodName := ⟨RX12, "<init>", "(LWiredNets$Net;I)V"⟩
def dkwX12_init_1 : List UInt8 := [181, 0, 28, 42, 43, 180, 0, 32, 188, 10, 181, 0, 35, 42, 43, 180, 0, 32, 188, 10, 181, 0, 38, 177]
abbrev dktX12_init_1 : List UInt8 := dkwX12_init_1 ++ []
def dkwX12_init_0 : List UInt8 := [42, 183, 0, 3, 42, 2, 181, 0, 9, 42, 43, 181, 0, 15, 42, 28, 181, 0, 19, 42, 43, 182, 0, 22]
abbrev dktX12_init_0 : List UInt8 := dkwX12_init_0 ++ dktX12_init_1
theorem dksX12_init_0 : cX12_init.data.toList.drop 0 = dktX12_init_0 := by decide +kernel
theorem dksX12_init_1 : cX12_init.data.toList.drop 24 = dktX12_init_1 := dk_seg dksX12_init_0 24 rfl rfl
theorem dX12_init_0 : decode cX12_init 0 = .ok (.aload_n 0, 1) := dk_42 (dk_at dksX12_init_0 0 rfl rfl)
theorem dX12_init_1 : decode cX12_init 1 = .ok (.invokespecial 3, 3) := dk_183 0 3 (dk_at dksX12_init_0 1 rfl rfl)
theorem dX12_init_4 : decode cX12_init 4 = .ok (.aload_n 0, 1) := dk_42 (dk_at dksX12_init_0 4 rfl rfl)
theorem dX12_init_5 : decode cX12_init 5 = .ok (.iconst (-1), 1) := dk_2 (dk_at dksX12_init_0 5 rfl rfl)
theorem dX12_init_6 : decode cX12_init 6 = .ok (.putfield 9, 3) := dk_181 0 9 (dk_at dksX12_init_0 6 rfl rfl)
theorem dX12_init_9 : decode cX12_init 9 = .ok (.aload_n 0, 1) := dk_42 (dk_at dksX12_init_0 9 rfl rfl)
theorem dX12_init_10 : decode cX12_init 10 = .ok (.aload_n 1, 1) := dk_43 (dk_at dksX12_init_0 10 rfl rfl)
theorem dX12_init_11 : decode cX12_init 11 = .ok (.putfield 15, 3) := dk_181 0 15 (dk_at dksX12_init_0 11 rfl rfl)
theorem dX12_init_14 : decode cX12_init 14 = .ok (.aload_n 0, 1) := dk_42 (dk_at dksX12_init_0 14 rfl rfl)
theorem dX12_init_15 : decode cX12_init 15 = .ok (.iload_n 2, 1) := dk_28 (dk_at dksX12_init_0 15 rfl rfl)
theorem dX12_init_16 : decode cX12_init 16 = .ok (.putfield 19, 3) := dk_181 0 19 (dk_at dksX12_init_0 16 rfl rfl)
theorem dX12_init_19 : decode cX12_init 19 = .ok (.aload_n 0, 1) := dk_42 (dk_at dksX12_init_0 19 rfl rfl)
theorem dX12_init_20 : decode cX12_init 20 = .ok (.aload_n 1, 1) := dk_43 (dk_at dksX12_init_0 20 rfl rfl)
theorem dX12_init_21 : decode cX12_init 21 = .ok (.invokevirtual 22, 3) := dk_182 0 22 (dk_at dksX12_init_0 21 rfl rfl)
theorem dX12_init_24 : decode cX12_init 24 = .ok (.putfield 28, 3) := dk_181 0 28 (dk_at dksX12_init_1 0 rfl rfl)
theorem dX12_init_27 : decode cX12_init 27 = .ok (.aload_n 0, 1) := dk_42 (dk_at dksX12_init_1 3 rfl rfl)
theorem dX12_init_28 : decode cX12_init 28 = .ok (.aload_n 1, 1) := dk_43 (dk_at dksX12_init_1 4 rfl rfl)
theorem dX12_init_29 : decode cX12_init 29 = .ok (.getfield 32, 3) := dk_180 0 32 (dk_at dksX12_init_1 5 rfl rfl)
theorem dX12_init_32 : decode cX12_init 32 = .ok (.newarray .int, 2) := dk_188_10 (dk_at dksX12_init_1 8 rfl rfl)
theorem dX12_init_34 : decode cX12_init 34 = .ok (.putfield 35, 3) := dk_181 0 35 (dk_at dksX12_init_1 10 rfl rfl)
theorem dX12_init_37 : decode cX12_init 37 = .ok (.aload_n 0, 1) := dk_42 (dk_at dksX12_init_1 13 rfl rfl)
theorem dX12_init_38 : decode cX12_init 38 = .ok (.aload_n 1, 1) := dk_43 (dk_at dksX12_init_1 14 rfl rfl)
theorem dX12_init_39 : decode cX12_init 39 = .ok (.getfield 32, 3) := dk_180 0 32 (dk_at dksX12_init_1 15 rfl rfl)
theorem dX12_init_42 : decode cX12_init 42 = .ok (.newarray .int, 2) := dk_188_10 (dk_at dksX12_init_1 18 rfl rfl)
theorem dX12_init_44 : decode cX12_init 44 = .ok (.putfield 38, 3) := dk_181 0 38 (dk_at dksX12_init_1 20 rfl rfl)
theorem dX12_init_47 : decode cX12_init 47 = .ok (.return_, 1) := dk_177 (dk_at dksX12_init_1 23 rfl rfl)
abbrev cX12_run : ByteArray := prog_3_method_7_code
def yX12_run : MethodName := ⟨RX12, "run", "()I"⟩
def dkwX12_run_1 : List UInt8 := [182, 0, 71, 42, 180, 0, 9, 172]
abbrev dktX12_run_1 : List UInt8 := dkwX12_run_1 ++ []
def dkwX12_run_0 : List UInt8 := [42, 180, 0, 15, 180, 0, 32, 16, 8, 163, 0, 13, 42, 3, 3, 3, 182, 0, 59, 167, 0, 7, 42]
abbrev dktX12_run_0 : List UInt8 := dkwX12_run_0 ++ dktX12_run_1
theorem dksX12_run_0 : cX12_run.data.toList.drop 0 = dktX12_run_0 := by decide +kernel
theorem dksX12_run_1 : cX12_run.data.toList.drop 23 = dktX12_run_1 := dk_seg dksX12_run_0 23 rfl rfl
theorem dX12_run_0 : decode cX12_run 0 = .ok (.aload_n 0, 1) := dk_42 (dk_at dksX12_run_0 0 rfl rfl)
theorem dX12_run_1 : decode cX12_run 1 = .ok (.getfield 15, 3) := dk_180 0 15 (dk_at dksX12_run_0 1 rfl rfl)
theorem dX12_run_4 : decode cX12_run 4 = .ok (.getfield 32, 3) := dk_180 0 32 (dk_at dksX12_run_0 4 rfl rfl)
theorem dX12_run_7 : decode cX12_run 7 = .ok (.bipush 8, 2) := dk_16 8 (dk_at dksX12_run_0 7 rfl rfl)
theorem dX12_run_9 : decode cX12_run 9 = .ok (.if_icmp .gt 13, 3) := dk_163 0 13 (dk_at dksX12_run_0 9 rfl rfl)
theorem dX12_run_12 : decode cX12_run 12 = .ok (.aload_n 0, 1) := dk_42 (dk_at dksX12_run_0 12 rfl rfl)
theorem dX12_run_13 : decode cX12_run 13 = .ok (.iconst 0, 1) := dk_3 (dk_at dksX12_run_0 13 rfl rfl)
theorem dX12_run_14 : decode cX12_run 14 = .ok (.iconst 0, 1) := dk_3 (dk_at dksX12_run_0 14 rfl rfl)
theorem dX12_run_15 : decode cX12_run 15 = .ok (.iconst 0, 1) := dk_3 (dk_at dksX12_run_0 15 rfl rfl)
theorem dX12_run_16 : decode cX12_run 16 = .ok (.invokevirtual 59, 3) := dk_182 0 59 (dk_at dksX12_run_0 16 rfl rfl)
theorem dX12_run_19 : decode cX12_run 19 = .ok (.goto 7, 3) := dk_167 0 7 (dk_at dksX12_run_0 19 rfl rfl)
theorem dX12_run_22 : decode cX12_run 22 = .ok (.aload_n 0, 1) := dk_42 (dk_at dksX12_run_0 22 rfl rfl)
theorem dX12_run_23 : decode cX12_run 23 = .ok (.invokevirtual 71, 3) := dk_182 0 71 (dk_at dksX12_run_1 0 rfl rfl)
theorem dX12_run_26 : decode cX12_run 26 = .ok (.aload_n 0, 1) := dk_42 (dk_at dksX12_run_1 3 rfl rfl)
theorem dX12_run_27 : decode cX12_run 27 = .ok (.getfield 9, 3) := dk_180 0 9 (dk_at dksX12_run_1 4 rfl rfl)
theorem dX12_run_30 : decode cX12_run 30 = .ok (.ireturn, 1) := dk_172 (dk_at dksX12_run_1 7 rfl rfl)
abbrev cX12_go : ByteArray := prog_3_method_4_code
def yX12_go : MethodName := ⟨RX12, "go", "(III)V"⟩
def dkwX12_go_7 : List UInt8 := [21, 4, 120, 128, 29, 21, 5, 96, 182, 0, 59, 132, 4, 1, 167, 255, 145, 177]
abbrev dktX12_go_7 : List UInt8 := dkwX12_go_7 ++ []
def dkwX12_go_6 : List UInt8 := [182, 0, 47, 96, 54, 5, 21, 6, 21, 6, 4, 100, 126, 54, 6, 167, 255, 221, 42, 27, 4, 96, 28, 4]
abbrev dktX12_go_6 : List UInt8 := dkwX12_go_6 ++ dktX12_go_7
def dkwX12_go_5 : List UInt8 := [126, 54, 6, 21, 6, 153, 0, 36, 21, 5, 42, 21, 4, 42, 180, 0, 35, 21, 6, 184, 0, 54, 46]
abbrev dktX12_go_5 : List UInt8 := dkwX12_go_5 ++ dktX12_go_6
def dkwX12_go_4 : List UInt8 := [180, 0, 35, 27, 21, 4, 79, 3, 54, 5, 42, 180, 0, 15, 180, 0, 51, 27, 46, 4, 27, 120, 4, 100]
abbrev dktX12_go_4 : List UInt8 := dkwX12_go_4 ++ dktX12_go_5
def dkwX12_go_3 : List UInt8 := [180, 0, 15, 180, 0, 32, 162, 0, 105, 28, 21, 4, 122, 4, 126, 4, 160, 0, 6, 167, 0, 86, 42]
abbrev dktX12_go_3 : List UInt8 := dkwX12_go_3 ++ dktX12_go_4
def dkwX12_go_2 : List UInt8 := [21, 4, 42, 180, 0, 35, 21, 4, 46, 79, 132, 4, 1, 167, 255, 233, 177, 3, 54, 4, 21, 4, 42]
abbrev dktX12_go_2 : List UInt8 := dkwX12_go_2 ++ dktX12_go_3
def dkwX12_go_1 : List UInt8 := [180, 0, 32, 160, 0, 38, 42, 29, 181, 0, 9, 3, 54, 4, 21, 4, 27, 162, 0, 23, 42, 180, 0, 38]
abbrev dktX12_go_1 : List UInt8 := dkwX12_go_1 ++ dktX12_go_2
def dkwX12_go_0 : List UInt8 := [42, 180, 0, 9, 2, 159, 0, 12, 29, 42, 180, 0, 9, 161, 0, 4, 177, 27, 42, 180, 0, 15]
abbrev dktX12_go_0 : List UInt8 := dkwX12_go_0 ++ dktX12_go_1
theorem dksX12_go_0 : cX12_go.data.toList.drop 0 = dktX12_go_0 := by decide +kernel
theorem dksX12_go_1 : cX12_go.data.toList.drop 22 = dktX12_go_1 := dk_seg dksX12_go_0 22 rfl rfl
theorem dksX12_go_2 : cX12_go.data.toList.drop 46 = dktX12_go_2 := dk_seg dksX12_go_1 24 rfl rfl
theorem dksX12_go_3 : cX12_go.data.toList.drop 69 = dktX12_go_3 := dk_seg dksX12_go_2 23 rfl rfl
theorem dksX12_go_4 : cX12_go.data.toList.drop 92 = dktX12_go_4 := dk_seg dksX12_go_3 23 rfl rfl
theorem dksX12_go_5 : cX12_go.data.toList.drop 116 = dktX12_go_5 := dk_seg dksX12_go_4 24 rfl rfl
theorem dksX12_go_6 : cX12_go.data.toList.drop 139 = dktX12_go_6 := dk_seg dksX12_go_5 23 rfl rfl
theorem dksX12_go_7 : cX12_go.data.toList.drop 163 = dktX12_go_7 := dk_seg dksX12_go_6 24 rfl rfl
theorem dX12_go_0 : decode cX12_go 0 = .ok (.aload_n 0, 1) := dk_42 (dk_at dksX12_go_0 0 rfl rfl)
theorem dX12_go_1 : decode cX12_go 1 = .ok (.getfield 9, 3) := dk_180 0 9 (dk_at dksX12_go_0 1 rfl rfl)
theorem dX12_go_4 : decode cX12_go 4 = .ok (.iconst (-1), 1) := dk_2 (dk_at dksX12_go_0 4 rfl rfl)
theorem dX12_go_5 : decode cX12_go 5 = .ok (.if_icmp .eq 12, 3) := dk_159 0 12 (dk_at dksX12_go_0 5 rfl rfl)
theorem dX12_go_8 : decode cX12_go 8 = .ok (.iload_n 3, 1) := dk_29 (dk_at dksX12_go_0 8 rfl rfl)
theorem dX12_go_9 : decode cX12_go 9 = .ok (.aload_n 0, 1) := dk_42 (dk_at dksX12_go_0 9 rfl rfl)
theorem dX12_go_10 : decode cX12_go 10 = .ok (.getfield 9, 3) := dk_180 0 9 (dk_at dksX12_go_0 10 rfl rfl)
theorem dX12_go_13 : decode cX12_go 13 = .ok (.if_icmp .lt 4, 3) := dk_161 0 4 (dk_at dksX12_go_0 13 rfl rfl)
theorem dX12_go_16 : decode cX12_go 16 = .ok (.return_, 1) := dk_177 (dk_at dksX12_go_0 16 rfl rfl)
theorem dX12_go_17 : decode cX12_go 17 = .ok (.iload_n 1, 1) := dk_27 (dk_at dksX12_go_0 17 rfl rfl)
theorem dX12_go_18 : decode cX12_go 18 = .ok (.aload_n 0, 1) := dk_42 (dk_at dksX12_go_0 18 rfl rfl)
theorem dX12_go_19 : decode cX12_go 19 = .ok (.getfield 15, 3) := dk_180 0 15 (dk_at dksX12_go_0 19 rfl rfl)
theorem dX12_go_22 : decode cX12_go 22 = .ok (.getfield 32, 3) := dk_180 0 32 (dk_at dksX12_go_1 0 rfl rfl)
theorem dX12_go_25 : decode cX12_go 25 = .ok (.if_icmp .ne 38, 3) := dk_160 0 38 (dk_at dksX12_go_1 3 rfl rfl)
theorem dX12_go_28 : decode cX12_go 28 = .ok (.aload_n 0, 1) := dk_42 (dk_at dksX12_go_1 6 rfl rfl)
theorem dX12_go_29 : decode cX12_go 29 = .ok (.iload_n 3, 1) := dk_29 (dk_at dksX12_go_1 7 rfl rfl)
theorem dX12_go_30 : decode cX12_go 30 = .ok (.putfield 9, 3) := dk_181 0 9 (dk_at dksX12_go_1 8 rfl rfl)
theorem dX12_go_33 : decode cX12_go 33 = .ok (.iconst 0, 1) := dk_3 (dk_at dksX12_go_1 11 rfl rfl)
theorem dX12_go_34 : decode cX12_go 34 = .ok (.istore 4, 2) := dk_54 4 (dk_at dksX12_go_1 12 rfl rfl)
theorem dX12_go_36 : decode cX12_go 36 = .ok (.iload 4, 2) := dk_21 4 (dk_at dksX12_go_1 14 rfl rfl)
theorem dX12_go_38 : decode cX12_go 38 = .ok (.iload_n 1, 1) := dk_27 (dk_at dksX12_go_1 16 rfl rfl)
theorem dX12_go_39 : decode cX12_go 39 = .ok (.if_icmp .ge 23, 3) := dk_162 0 23 (dk_at dksX12_go_1 17 rfl rfl)
theorem dX12_go_42 : decode cX12_go 42 = .ok (.aload_n 0, 1) := dk_42 (dk_at dksX12_go_1 20 rfl rfl)
theorem dX12_go_43 : decode cX12_go 43 = .ok (.getfield 38, 3) := dk_180 0 38 (dk_at dksX12_go_1 21 rfl rfl)
theorem dX12_go_46 : decode cX12_go 46 = .ok (.iload 4, 2) := dk_21 4 (dk_at dksX12_go_2 0 rfl rfl)
theorem dX12_go_48 : decode cX12_go 48 = .ok (.aload_n 0, 1) := dk_42 (dk_at dksX12_go_2 2 rfl rfl)
theorem dX12_go_49 : decode cX12_go 49 = .ok (.getfield 35, 3) := dk_180 0 35 (dk_at dksX12_go_2 3 rfl rfl)
theorem dX12_go_52 : decode cX12_go 52 = .ok (.iload 4, 2) := dk_21 4 (dk_at dksX12_go_2 6 rfl rfl)
theorem dX12_go_54 : decode cX12_go 54 = .ok (.iaload, 1) := dk_46 (dk_at dksX12_go_2 8 rfl rfl)
theorem dX12_go_55 : decode cX12_go 55 = .ok (.iastore, 1) := dk_79 (dk_at dksX12_go_2 9 rfl rfl)
theorem dX12_go_56 : decode cX12_go 56 = .ok (.iinc 4 1, 3) := dk_132 4 1 (dk_at dksX12_go_2 10 rfl rfl)
theorem dX12_go_59 : decode cX12_go 59 = .ok (.goto (-23), 3) := dk_167 255 233 (dk_at dksX12_go_2 13 rfl rfl)
theorem dX12_go_62 : decode cX12_go 62 = .ok (.return_, 1) := dk_177 (dk_at dksX12_go_2 16 rfl rfl)
theorem dX12_go_63 : decode cX12_go 63 = .ok (.iconst 0, 1) := dk_3 (dk_at dksX12_go_2 17 rfl rfl)
theorem dX12_go_64 : decode cX12_go 64 = .ok (.istore 4, 2) := dk_54 4 (dk_at dksX12_go_2 18 rfl rfl)
theorem dX12_go_66 : decode cX12_go 66 = .ok (.iload 4, 2) := dk_21 4 (dk_at dksX12_go_2 20 rfl rfl)
theorem dX12_go_68 : decode cX12_go 68 = .ok (.aload_n 0, 1) := dk_42 (dk_at dksX12_go_2 22 rfl rfl)
theorem dX12_go_69 : decode cX12_go 69 = .ok (.getfield 15, 3) := dk_180 0 15 (dk_at dksX12_go_3 0 rfl rfl)
theorem dX12_go_72 : decode cX12_go 72 = .ok (.getfield 32, 3) := dk_180 0 32 (dk_at dksX12_go_3 3 rfl rfl)
theorem dX12_go_75 : decode cX12_go 75 = .ok (.if_icmp .ge 105, 3) := dk_162 0 105 (dk_at dksX12_go_3 6 rfl rfl)
theorem dX12_go_78 : decode cX12_go 78 = .ok (.iload_n 2, 1) := dk_28 (dk_at dksX12_go_3 9 rfl rfl)
theorem dX12_go_79 : decode cX12_go 79 = .ok (.iload 4, 2) := dk_21 4 (dk_at dksX12_go_3 10 rfl rfl)
theorem dX12_go_81 : decode cX12_go 81 = .ok (.ishr, 1) := dk_122 (dk_at dksX12_go_3 12 rfl rfl)
theorem dX12_go_82 : decode cX12_go 82 = .ok (.iconst 1, 1) := dk_4 (dk_at dksX12_go_3 13 rfl rfl)
theorem dX12_go_83 : decode cX12_go 83 = .ok (.iand, 1) := dk_126 (dk_at dksX12_go_3 14 rfl rfl)
theorem dX12_go_84 : decode cX12_go 84 = .ok (.iconst 1, 1) := dk_4 (dk_at dksX12_go_3 15 rfl rfl)
theorem dX12_go_85 : decode cX12_go 85 = .ok (.if_icmp .ne 6, 3) := dk_160 0 6 (dk_at dksX12_go_3 16 rfl rfl)
theorem dX12_go_88 : decode cX12_go 88 = .ok (.goto 86, 3) := dk_167 0 86 (dk_at dksX12_go_3 19 rfl rfl)
theorem dX12_go_91 : decode cX12_go 91 = .ok (.aload_n 0, 1) := dk_42 (dk_at dksX12_go_3 22 rfl rfl)
theorem dX12_go_92 : decode cX12_go 92 = .ok (.getfield 35, 3) := dk_180 0 35 (dk_at dksX12_go_4 0 rfl rfl)
theorem dX12_go_95 : decode cX12_go 95 = .ok (.iload_n 1, 1) := dk_27 (dk_at dksX12_go_4 3 rfl rfl)
theorem dX12_go_96 : decode cX12_go 96 = .ok (.iload 4, 2) := dk_21 4 (dk_at dksX12_go_4 4 rfl rfl)
theorem dX12_go_98 : decode cX12_go 98 = .ok (.iastore, 1) := dk_79 (dk_at dksX12_go_4 6 rfl rfl)
theorem dX12_go_99 : decode cX12_go 99 = .ok (.iconst 0, 1) := dk_3 (dk_at dksX12_go_4 7 rfl rfl)
theorem dX12_go_100 : decode cX12_go 100 = .ok (.istore 5, 2) := dk_54 5 (dk_at dksX12_go_4 8 rfl rfl)
theorem dX12_go_102 : decode cX12_go 102 = .ok (.aload_n 0, 1) := dk_42 (dk_at dksX12_go_4 10 rfl rfl)
theorem dX12_go_103 : decode cX12_go 103 = .ok (.getfield 15, 3) := dk_180 0 15 (dk_at dksX12_go_4 11 rfl rfl)
theorem dX12_go_106 : decode cX12_go 106 = .ok (.getfield 51, 3) := dk_180 0 51 (dk_at dksX12_go_4 14 rfl rfl)
theorem dX12_go_109 : decode cX12_go 109 = .ok (.iload_n 1, 1) := dk_27 (dk_at dksX12_go_4 17 rfl rfl)
theorem dX12_go_110 : decode cX12_go 110 = .ok (.iaload, 1) := dk_46 (dk_at dksX12_go_4 18 rfl rfl)
theorem dX12_go_111 : decode cX12_go 111 = .ok (.iconst 1, 1) := dk_4 (dk_at dksX12_go_4 19 rfl rfl)
theorem dX12_go_112 : decode cX12_go 112 = .ok (.iload_n 1, 1) := dk_27 (dk_at dksX12_go_4 20 rfl rfl)
theorem dX12_go_113 : decode cX12_go 113 = .ok (.ishl, 1) := dk_120 (dk_at dksX12_go_4 21 rfl rfl)
theorem dX12_go_114 : decode cX12_go 114 = .ok (.iconst 1, 1) := dk_4 (dk_at dksX12_go_4 22 rfl rfl)
theorem dX12_go_115 : decode cX12_go 115 = .ok (.isub, 1) := dk_100 (dk_at dksX12_go_4 23 rfl rfl)
theorem dX12_go_116 : decode cX12_go 116 = .ok (.iand, 1) := dk_126 (dk_at dksX12_go_5 0 rfl rfl)
theorem dX12_go_117 : decode cX12_go 117 = .ok (.istore 6, 2) := dk_54 6 (dk_at dksX12_go_5 1 rfl rfl)
theorem dX12_go_119 : decode cX12_go 119 = .ok (.iload 6, 2) := dk_21 6 (dk_at dksX12_go_5 3 rfl rfl)
theorem dX12_go_121 : decode cX12_go 121 = .ok (.ifCond .eq 36, 3) := dk_153 0 36 (dk_at dksX12_go_5 5 rfl rfl)
theorem dX12_go_124 : decode cX12_go 124 = .ok (.iload 5, 2) := dk_21 5 (dk_at dksX12_go_5 8 rfl rfl)
theorem dX12_go_126 : decode cX12_go 126 = .ok (.aload_n 0, 1) := dk_42 (dk_at dksX12_go_5 10 rfl rfl)
theorem dX12_go_127 : decode cX12_go 127 = .ok (.iload 4, 2) := dk_21 4 (dk_at dksX12_go_5 11 rfl rfl)
theorem dX12_go_129 : decode cX12_go 129 = .ok (.aload_n 0, 1) := dk_42 (dk_at dksX12_go_5 13 rfl rfl)
theorem dX12_go_130 : decode cX12_go 130 = .ok (.getfield 35, 3) := dk_180 0 35 (dk_at dksX12_go_5 14 rfl rfl)
theorem dX12_go_133 : decode cX12_go 133 = .ok (.iload 6, 2) := dk_21 6 (dk_at dksX12_go_5 17 rfl rfl)
theorem dX12_go_135 : decode cX12_go 135 = .ok (.invokestatic 54, 3) := dk_184 0 54 (dk_at dksX12_go_5 19 rfl rfl)
theorem dX12_go_138 : decode cX12_go 138 = .ok (.iaload, 1) := dk_46 (dk_at dksX12_go_5 22 rfl rfl)
theorem dX12_go_139 : decode cX12_go 139 = .ok (.invokevirtual 47, 3) := dk_182 0 47 (dk_at dksX12_go_6 0 rfl rfl)
theorem dX12_go_142 : decode cX12_go 142 = .ok (.iadd, 1) := dk_96 (dk_at dksX12_go_6 3 rfl rfl)
theorem dX12_go_143 : decode cX12_go 143 = .ok (.istore 5, 2) := dk_54 5 (dk_at dksX12_go_6 4 rfl rfl)
theorem dX12_go_145 : decode cX12_go 145 = .ok (.iload 6, 2) := dk_21 6 (dk_at dksX12_go_6 6 rfl rfl)
theorem dX12_go_147 : decode cX12_go 147 = .ok (.iload 6, 2) := dk_21 6 (dk_at dksX12_go_6 8 rfl rfl)
theorem dX12_go_149 : decode cX12_go 149 = .ok (.iconst 1, 1) := dk_4 (dk_at dksX12_go_6 10 rfl rfl)
theorem dX12_go_150 : decode cX12_go 150 = .ok (.isub, 1) := dk_100 (dk_at dksX12_go_6 11 rfl rfl)
theorem dX12_go_151 : decode cX12_go 151 = .ok (.iand, 1) := dk_126 (dk_at dksX12_go_6 12 rfl rfl)
theorem dX12_go_152 : decode cX12_go 152 = .ok (.istore 6, 2) := dk_54 6 (dk_at dksX12_go_6 13 rfl rfl)
theorem dX12_go_154 : decode cX12_go 154 = .ok (.goto (-35), 3) := dk_167 255 221 (dk_at dksX12_go_6 15 rfl rfl)
theorem dX12_go_157 : decode cX12_go 157 = .ok (.aload_n 0, 1) := dk_42 (dk_at dksX12_go_6 18 rfl rfl)
theorem dX12_go_158 : decode cX12_go 158 = .ok (.iload_n 1, 1) := dk_27 (dk_at dksX12_go_6 19 rfl rfl)
theorem dX12_go_159 : decode cX12_go 159 = .ok (.iconst 1, 1) := dk_4 (dk_at dksX12_go_6 20 rfl rfl)
theorem dX12_go_160 : decode cX12_go 160 = .ok (.iadd, 1) := dk_96 (dk_at dksX12_go_6 21 rfl rfl)
theorem dX12_go_161 : decode cX12_go 161 = .ok (.iload_n 2, 1) := dk_28 (dk_at dksX12_go_6 22 rfl rfl)
theorem dX12_go_162 : decode cX12_go 162 = .ok (.iconst 1, 1) := dk_4 (dk_at dksX12_go_6 23 rfl rfl)
theorem dX12_go_163 : decode cX12_go 163 = .ok (.iload 4, 2) := dk_21 4 (dk_at dksX12_go_7 0 rfl rfl)
theorem dX12_go_165 : decode cX12_go 165 = .ok (.ishl, 1) := dk_120 (dk_at dksX12_go_7 2 rfl rfl)
theorem dX12_go_166 : decode cX12_go 166 = .ok (.ior, 1) := dk_128 (dk_at dksX12_go_7 3 rfl rfl)
theorem dX12_go_167 : decode cX12_go 167 = .ok (.iload_n 3, 1) := dk_29 (dk_at dksX12_go_7 4 rfl rfl)
theorem dX12_go_168 : decode cX12_go 168 = .ok (.iload 5, 2) := dk_21 5 (dk_at dksX12_go_7 5 rfl rfl)
theorem dX12_go_170 : decode cX12_go 170 = .ok (.iadd, 1) := dk_96 (dk_at dksX12_go_7 7 rfl rfl)
theorem dX12_go_171 : decode cX12_go 171 = .ok (.invokevirtual 59, 3) := dk_182 0 59 (dk_at dksX12_go_7 8 rfl rfl)
theorem dX12_go_174 : decode cX12_go 174 = .ok (.iinc 4 1, 3) := dk_132 4 1 (dk_at dksX12_go_7 11 rfl rfl)
theorem dX12_go_177 : decode cX12_go 177 = .ok (.goto (-111), 3) := dk_167 255 145 (dk_at dksX12_go_7 14 rfl rfl)
theorem dX12_go_180 : decode cX12_go 180 = .ok (.return_, 1) := dk_177 (dk_at dksX12_go_7 17 rfl rfl)
abbrev cX12_apart : ByteArray := prog_3_method_2_code
def yX12_apart : MethodName := ⟨RX12, "apart", "(II)I"⟩
def dkwX12_apart_1 : List UInt8 := [180, 0, 19, 108, 100, 184, 0, 41, 96, 172]
abbrev dktX12_apart_1 : List UInt8 := dkwX12_apart_1 ++ []
def dkwX12_apart_0 : List UInt8 := [27, 42, 180, 0, 19, 112, 28, 42, 180, 0, 19, 112, 100, 184, 0, 41, 27, 42, 180, 0, 19, 108, 28, 42]
abbrev dktX12_apart_0 : List UInt8 := dkwX12_apart_0 ++ dktX12_apart_1
theorem dksX12_apart_0 : cX12_apart.data.toList.drop 0 = dktX12_apart_0 := by decide +kernel
theorem dksX12_apart_1 : cX12_apart.data.toList.drop 24 = dktX12_apart_1 := dk_seg dksX12_apart_0 24 rfl rfl
theorem dX12_apart_0 : decode cX12_apart 0 = .ok (.iload_n 1, 1) := dk_27 (dk_at dksX12_apart_0 0 rfl rfl)
theorem dX12_apart_1 : decode cX12_apart 1 = .ok (.aload_n 0, 1) := dk_42 (dk_at dksX12_apart_0 1 rfl rfl)
theorem dX12_apart_2 : decode cX12_apart 2 = .ok (.getfield 19, 3) := dk_180 0 19 (dk_at dksX12_apart_0 2 rfl rfl)
theorem dX12_apart_5 : decode cX12_apart 5 = .ok (.irem, 1) := dk_112 (dk_at dksX12_apart_0 5 rfl rfl)
theorem dX12_apart_6 : decode cX12_apart 6 = .ok (.iload_n 2, 1) := dk_28 (dk_at dksX12_apart_0 6 rfl rfl)
theorem dX12_apart_7 : decode cX12_apart 7 = .ok (.aload_n 0, 1) := dk_42 (dk_at dksX12_apart_0 7 rfl rfl)
theorem dX12_apart_8 : decode cX12_apart 8 = .ok (.getfield 19, 3) := dk_180 0 19 (dk_at dksX12_apart_0 8 rfl rfl)
theorem dX12_apart_11 : decode cX12_apart 11 = .ok (.irem, 1) := dk_112 (dk_at dksX12_apart_0 11 rfl rfl)
theorem dX12_apart_12 : decode cX12_apart 12 = .ok (.isub, 1) := dk_100 (dk_at dksX12_apart_0 12 rfl rfl)
theorem dX12_apart_13 : decode cX12_apart 13 = .ok (.invokestatic 41, 3) := dk_184 0 41 (dk_at dksX12_apart_0 13 rfl rfl)
theorem dX12_apart_16 : decode cX12_apart 16 = .ok (.iload_n 1, 1) := dk_27 (dk_at dksX12_apart_0 16 rfl rfl)
theorem dX12_apart_17 : decode cX12_apart 17 = .ok (.aload_n 0, 1) := dk_42 (dk_at dksX12_apart_0 17 rfl rfl)
theorem dX12_apart_18 : decode cX12_apart 18 = .ok (.getfield 19, 3) := dk_180 0 19 (dk_at dksX12_apart_0 18 rfl rfl)
theorem dX12_apart_21 : decode cX12_apart 21 = .ok (.idiv, 1) := dk_108 (dk_at dksX12_apart_0 21 rfl rfl)
theorem dX12_apart_22 : decode cX12_apart 22 = .ok (.iload_n 2, 1) := dk_28 (dk_at dksX12_apart_0 22 rfl rfl)
theorem dX12_apart_23 : decode cX12_apart 23 = .ok (.aload_n 0, 1) := dk_42 (dk_at dksX12_apart_0 23 rfl rfl)
theorem dX12_apart_24 : decode cX12_apart 24 = .ok (.getfield 19, 3) := dk_180 0 19 (dk_at dksX12_apart_1 0 rfl rfl)
theorem dX12_apart_27 : decode cX12_apart 27 = .ok (.idiv, 1) := dk_108 (dk_at dksX12_apart_1 3 rfl rfl)
theorem dX12_apart_28 : decode cX12_apart 28 = .ok (.isub, 1) := dk_100 (dk_at dksX12_apart_1 4 rfl rfl)
theorem dX12_apart_29 : decode cX12_apart 29 = .ok (.invokestatic 41, 3) := dk_184 0 41 (dk_at dksX12_apart_1 5 rfl rfl)
theorem dX12_apart_32 : decode cX12_apart 32 = .ok (.iadd, 1) := dk_96 (dk_at dksX12_apart_1 8 rfl rfl)
theorem dX12_apart_33 : decode cX12_apart 33 = .ok (.ireturn, 1) := dk_172 (dk_at dksX12_apart_1 9 rfl rfl)
abbrev cX12_descend : ByteArray := prog_3_method_6_code
def yX12_descend : MethodName := ⟨RX12, "descend", "()V"⟩
def dkwX12_descend_8 : List UInt8 := [167, 255, 230, 177]
abbrev dktX12_descend_8 : List UInt8 := dkwX12_descend_8 ++ []
def dkwX12_descend_7 : List UInt8 := [180, 0, 15, 180, 0, 32, 162, 0, 21, 42, 180, 0, 38, 28, 42, 180, 0, 35, 28, 46, 79, 132, 2, 1]
abbrev dktX12_descend_7 : List UInt8 := dkwX12_descend_7 ++ dktX12_descend_8
def dkwX12_descend_6 : List UInt8 := [167, 0, 4, 3, 60, 27, 153, 0, 9, 42, 28, 29, 182, 0, 67, 167, 255, 136, 3, 61, 28, 42]
abbrev dktX12_descend_6 : List UInt8 := dkwX12_descend_6 ++ dktX12_descend_7
def dkwX12_descend_5 : List UInt8 := [21, 4, 61, 21, 5, 62, 132, 5, 1, 167, 255, 195, 132, 4, 1, 167, 255, 171, 28, 2, 159, 0, 7, 4]
abbrev dktX12_descend_5 : List UInt8 := dkwX12_descend_5 ++ dktX12_descend_6
def dkwX12_descend_4 : List UInt8 := [21, 5, 182, 0, 67, 21, 6, 42, 180, 0, 9, 161, 0, 6, 167, 0, 15, 42, 21, 6, 181, 0, 9]
abbrev dktX12_descend_4 : List UInt8 := dkwX12_descend_4 ++ dktX12_descend_5
def dkwX12_descend_3 : List UInt8 := [180, 0, 32, 162, 0, 55, 42, 21, 4, 21, 5, 182, 0, 67, 42, 182, 0, 63, 54, 6, 42, 21, 4]
abbrev dktX12_descend_3 : List UInt8 := dkwX12_descend_3 ++ dktX12_descend_4
def dkwX12_descend_2 : List UInt8 := [21, 4, 42, 180, 0, 15, 180, 0, 32, 162, 0, 79, 21, 4, 4, 96, 54, 5, 21, 5, 42, 180, 0, 15]
abbrev dktX12_descend_2 : List UInt8 := dkwX12_descend_2 ++ dktX12_descend_3
def dkwX12_descend_1 : List UInt8 := [167, 255, 235, 42, 42, 182, 0, 63, 181, 0, 9, 4, 60, 27, 153, 0, 122, 2, 61, 2, 62, 3, 54, 4]
abbrev dktX12_descend_1 : List UInt8 := dkwX12_descend_1 ++ dktX12_descend_2
def dkwX12_descend_0 : List UInt8 := [3, 60, 27, 42, 180, 0, 15, 180, 0, 32, 162, 0, 16, 42, 180, 0, 35, 27, 27, 79, 132, 1, 1]
abbrev dktX12_descend_0 : List UInt8 := dkwX12_descend_0 ++ dktX12_descend_1
theorem dksX12_descend_0 : cX12_descend.data.toList.drop 0 = dktX12_descend_0 := by decide +kernel
theorem dksX12_descend_1 : cX12_descend.data.toList.drop 23 = dktX12_descend_1 := dk_seg dksX12_descend_0 23 rfl rfl
theorem dksX12_descend_2 : cX12_descend.data.toList.drop 47 = dktX12_descend_2 := dk_seg dksX12_descend_1 24 rfl rfl
theorem dksX12_descend_3 : cX12_descend.data.toList.drop 71 = dktX12_descend_3 := dk_seg dksX12_descend_2 24 rfl rfl
theorem dksX12_descend_4 : cX12_descend.data.toList.drop 94 = dktX12_descend_4 := dk_seg dksX12_descend_3 23 rfl rfl
theorem dksX12_descend_5 : cX12_descend.data.toList.drop 117 = dktX12_descend_5 := dk_seg dksX12_descend_4 23 rfl rfl
theorem dksX12_descend_6 : cX12_descend.data.toList.drop 141 = dktX12_descend_6 := dk_seg dksX12_descend_5 24 rfl rfl
theorem dksX12_descend_7 : cX12_descend.data.toList.drop 163 = dktX12_descend_7 := dk_seg dksX12_descend_6 22 rfl rfl
theorem dksX12_descend_8 : cX12_descend.data.toList.drop 187 = dktX12_descend_8 := dk_seg dksX12_descend_7 24 rfl rfl
theorem dX12_descend_0 : decode cX12_descend 0 = .ok (.iconst 0, 1) := dk_3 (dk_at dksX12_descend_0 0 rfl rfl)
theorem dX12_descend_1 : decode cX12_descend 1 = .ok (.istore_n 1, 1) := dk_60 (dk_at dksX12_descend_0 1 rfl rfl)
theorem dX12_descend_2 : decode cX12_descend 2 = .ok (.iload_n 1, 1) := dk_27 (dk_at dksX12_descend_0 2 rfl rfl)
theorem dX12_descend_3 : decode cX12_descend 3 = .ok (.aload_n 0, 1) := dk_42 (dk_at dksX12_descend_0 3 rfl rfl)
theorem dX12_descend_4 : decode cX12_descend 4 = .ok (.getfield 15, 3) := dk_180 0 15 (dk_at dksX12_descend_0 4 rfl rfl)
theorem dX12_descend_7 : decode cX12_descend 7 = .ok (.getfield 32, 3) := dk_180 0 32 (dk_at dksX12_descend_0 7 rfl rfl)
theorem dX12_descend_10 : decode cX12_descend 10 = .ok (.if_icmp .ge 16, 3) := dk_162 0 16 (dk_at dksX12_descend_0 10 rfl rfl)
theorem dX12_descend_13 : decode cX12_descend 13 = .ok (.aload_n 0, 1) := dk_42 (dk_at dksX12_descend_0 13 rfl rfl)
theorem dX12_descend_14 : decode cX12_descend 14 = .ok (.getfield 35, 3) := dk_180 0 35 (dk_at dksX12_descend_0 14 rfl rfl)
theorem dX12_descend_17 : decode cX12_descend 17 = .ok (.iload_n 1, 1) := dk_27 (dk_at dksX12_descend_0 17 rfl rfl)
theorem dX12_descend_18 : decode cX12_descend 18 = .ok (.iload_n 1, 1) := dk_27 (dk_at dksX12_descend_0 18 rfl rfl)
theorem dX12_descend_19 : decode cX12_descend 19 = .ok (.iastore, 1) := dk_79 (dk_at dksX12_descend_0 19 rfl rfl)
theorem dX12_descend_20 : decode cX12_descend 20 = .ok (.iinc 1 1, 3) := dk_132 1 1 (dk_at dksX12_descend_0 20 rfl rfl)
theorem dX12_descend_23 : decode cX12_descend 23 = .ok (.goto (-21), 3) := dk_167 255 235 (dk_at dksX12_descend_1 0 rfl rfl)
theorem dX12_descend_26 : decode cX12_descend 26 = .ok (.aload_n 0, 1) := dk_42 (dk_at dksX12_descend_1 3 rfl rfl)
theorem dX12_descend_27 : decode cX12_descend 27 = .ok (.aload_n 0, 1) := dk_42 (dk_at dksX12_descend_1 4 rfl rfl)
theorem dX12_descend_28 : decode cX12_descend 28 = .ok (.invokevirtual 63, 3) := dk_182 0 63 (dk_at dksX12_descend_1 5 rfl rfl)
theorem dX12_descend_31 : decode cX12_descend 31 = .ok (.putfield 9, 3) := dk_181 0 9 (dk_at dksX12_descend_1 8 rfl rfl)
theorem dX12_descend_34 : decode cX12_descend 34 = .ok (.iconst 1, 1) := dk_4 (dk_at dksX12_descend_1 11 rfl rfl)
theorem dX12_descend_35 : decode cX12_descend 35 = .ok (.istore_n 1, 1) := dk_60 (dk_at dksX12_descend_1 12 rfl rfl)
theorem dX12_descend_36 : decode cX12_descend 36 = .ok (.iload_n 1, 1) := dk_27 (dk_at dksX12_descend_1 13 rfl rfl)
theorem dX12_descend_37 : decode cX12_descend 37 = .ok (.ifCond .eq 122, 3) := dk_153 0 122 (dk_at dksX12_descend_1 14 rfl rfl)
theorem dX12_descend_40 : decode cX12_descend 40 = .ok (.iconst (-1), 1) := dk_2 (dk_at dksX12_descend_1 17 rfl rfl)
theorem dX12_descend_41 : decode cX12_descend 41 = .ok (.istore_n 2, 1) := dk_61 (dk_at dksX12_descend_1 18 rfl rfl)
theorem dX12_descend_42 : decode cX12_descend 42 = .ok (.iconst (-1), 1) := dk_2 (dk_at dksX12_descend_1 19 rfl rfl)
theorem dX12_descend_43 : decode cX12_descend 43 = .ok (.istore_n 3, 1) := dk_62 (dk_at dksX12_descend_1 20 rfl rfl)
theorem dX12_descend_44 : decode cX12_descend 44 = .ok (.iconst 0, 1) := dk_3 (dk_at dksX12_descend_1 21 rfl rfl)
theorem dX12_descend_45 : decode cX12_descend 45 = .ok (.istore 4, 2) := dk_54 4 (dk_at dksX12_descend_1 22 rfl rfl)
theorem dX12_descend_47 : decode cX12_descend 47 = .ok (.iload 4, 2) := dk_21 4 (dk_at dksX12_descend_2 0 rfl rfl)
theorem dX12_descend_49 : decode cX12_descend 49 = .ok (.aload_n 0, 1) := dk_42 (dk_at dksX12_descend_2 2 rfl rfl)
theorem dX12_descend_50 : decode cX12_descend 50 = .ok (.getfield 15, 3) := dk_180 0 15 (dk_at dksX12_descend_2 3 rfl rfl)
theorem dX12_descend_53 : decode cX12_descend 53 = .ok (.getfield 32, 3) := dk_180 0 32 (dk_at dksX12_descend_2 6 rfl rfl)
theorem dX12_descend_56 : decode cX12_descend 56 = .ok (.if_icmp .ge 79, 3) := dk_162 0 79 (dk_at dksX12_descend_2 9 rfl rfl)
theorem dX12_descend_59 : decode cX12_descend 59 = .ok (.iload 4, 2) := dk_21 4 (dk_at dksX12_descend_2 12 rfl rfl)
theorem dX12_descend_61 : decode cX12_descend 61 = .ok (.iconst 1, 1) := dk_4 (dk_at dksX12_descend_2 14 rfl rfl)
theorem dX12_descend_62 : decode cX12_descend 62 = .ok (.iadd, 1) := dk_96 (dk_at dksX12_descend_2 15 rfl rfl)
theorem dX12_descend_63 : decode cX12_descend 63 = .ok (.istore 5, 2) := dk_54 5 (dk_at dksX12_descend_2 16 rfl rfl)
theorem dX12_descend_65 : decode cX12_descend 65 = .ok (.iload 5, 2) := dk_21 5 (dk_at dksX12_descend_2 18 rfl rfl)
theorem dX12_descend_67 : decode cX12_descend 67 = .ok (.aload_n 0, 1) := dk_42 (dk_at dksX12_descend_2 20 rfl rfl)
theorem dX12_descend_68 : decode cX12_descend 68 = .ok (.getfield 15, 3) := dk_180 0 15 (dk_at dksX12_descend_2 21 rfl rfl)
theorem dX12_descend_71 : decode cX12_descend 71 = .ok (.getfield 32, 3) := dk_180 0 32 (dk_at dksX12_descend_3 0 rfl rfl)
theorem dX12_descend_74 : decode cX12_descend 74 = .ok (.if_icmp .ge 55, 3) := dk_162 0 55 (dk_at dksX12_descend_3 3 rfl rfl)
theorem dX12_descend_77 : decode cX12_descend 77 = .ok (.aload_n 0, 1) := dk_42 (dk_at dksX12_descend_3 6 rfl rfl)
theorem dX12_descend_78 : decode cX12_descend 78 = .ok (.iload 4, 2) := dk_21 4 (dk_at dksX12_descend_3 7 rfl rfl)
theorem dX12_descend_80 : decode cX12_descend 80 = .ok (.iload 5, 2) := dk_21 5 (dk_at dksX12_descend_3 9 rfl rfl)
theorem dX12_descend_82 : decode cX12_descend 82 = .ok (.invokevirtual 67, 3) := dk_182 0 67 (dk_at dksX12_descend_3 11 rfl rfl)
theorem dX12_descend_85 : decode cX12_descend 85 = .ok (.aload_n 0, 1) := dk_42 (dk_at dksX12_descend_3 14 rfl rfl)
theorem dX12_descend_86 : decode cX12_descend 86 = .ok (.invokevirtual 63, 3) := dk_182 0 63 (dk_at dksX12_descend_3 15 rfl rfl)
theorem dX12_descend_89 : decode cX12_descend 89 = .ok (.istore 6, 2) := dk_54 6 (dk_at dksX12_descend_3 18 rfl rfl)
theorem dX12_descend_91 : decode cX12_descend 91 = .ok (.aload_n 0, 1) := dk_42 (dk_at dksX12_descend_3 20 rfl rfl)
theorem dX12_descend_92 : decode cX12_descend 92 = .ok (.iload 4, 2) := dk_21 4 (dk_at dksX12_descend_3 21 rfl rfl)
theorem dX12_descend_94 : decode cX12_descend 94 = .ok (.iload 5, 2) := dk_21 5 (dk_at dksX12_descend_4 0 rfl rfl)
theorem dX12_descend_96 : decode cX12_descend 96 = .ok (.invokevirtual 67, 3) := dk_182 0 67 (dk_at dksX12_descend_4 2 rfl rfl)
theorem dX12_descend_99 : decode cX12_descend 99 = .ok (.iload 6, 2) := dk_21 6 (dk_at dksX12_descend_4 5 rfl rfl)
theorem dX12_descend_101 : decode cX12_descend 101 = .ok (.aload_n 0, 1) := dk_42 (dk_at dksX12_descend_4 7 rfl rfl)
theorem dX12_descend_102 : decode cX12_descend 102 = .ok (.getfield 9, 3) := dk_180 0 9 (dk_at dksX12_descend_4 8 rfl rfl)
theorem dX12_descend_105 : decode cX12_descend 105 = .ok (.if_icmp .lt 6, 3) := dk_161 0 6 (dk_at dksX12_descend_4 11 rfl rfl)
theorem dX12_descend_108 : decode cX12_descend 108 = .ok (.goto 15, 3) := dk_167 0 15 (dk_at dksX12_descend_4 14 rfl rfl)
theorem dX12_descend_111 : decode cX12_descend 111 = .ok (.aload_n 0, 1) := dk_42 (dk_at dksX12_descend_4 17 rfl rfl)
theorem dX12_descend_112 : decode cX12_descend 112 = .ok (.iload 6, 2) := dk_21 6 (dk_at dksX12_descend_4 18 rfl rfl)
theorem dX12_descend_114 : decode cX12_descend 114 = .ok (.putfield 9, 3) := dk_181 0 9 (dk_at dksX12_descend_4 20 rfl rfl)
theorem dX12_descend_117 : decode cX12_descend 117 = .ok (.iload 4, 2) := dk_21 4 (dk_at dksX12_descend_5 0 rfl rfl)
theorem dX12_descend_119 : decode cX12_descend 119 = .ok (.istore_n 2, 1) := dk_61 (dk_at dksX12_descend_5 2 rfl rfl)
theorem dX12_descend_120 : decode cX12_descend 120 = .ok (.iload 5, 2) := dk_21 5 (dk_at dksX12_descend_5 3 rfl rfl)
theorem dX12_descend_122 : decode cX12_descend 122 = .ok (.istore_n 3, 1) := dk_62 (dk_at dksX12_descend_5 5 rfl rfl)
theorem dX12_descend_123 : decode cX12_descend 123 = .ok (.iinc 5 1, 3) := dk_132 5 1 (dk_at dksX12_descend_5 6 rfl rfl)
theorem dX12_descend_126 : decode cX12_descend 126 = .ok (.goto (-61), 3) := dk_167 255 195 (dk_at dksX12_descend_5 9 rfl rfl)
theorem dX12_descend_129 : decode cX12_descend 129 = .ok (.iinc 4 1, 3) := dk_132 4 1 (dk_at dksX12_descend_5 12 rfl rfl)
theorem dX12_descend_132 : decode cX12_descend 132 = .ok (.goto (-85), 3) := dk_167 255 171 (dk_at dksX12_descend_5 15 rfl rfl)
theorem dX12_descend_135 : decode cX12_descend 135 = .ok (.iload_n 2, 1) := dk_28 (dk_at dksX12_descend_5 18 rfl rfl)
theorem dX12_descend_136 : decode cX12_descend 136 = .ok (.iconst (-1), 1) := dk_2 (dk_at dksX12_descend_5 19 rfl rfl)
theorem dX12_descend_137 : decode cX12_descend 137 = .ok (.if_icmp .eq 7, 3) := dk_159 0 7 (dk_at dksX12_descend_5 20 rfl rfl)
theorem dX12_descend_140 : decode cX12_descend 140 = .ok (.iconst 1, 1) := dk_4 (dk_at dksX12_descend_5 23 rfl rfl)
theorem dX12_descend_141 : decode cX12_descend 141 = .ok (.goto 4, 3) := dk_167 0 4 (dk_at dksX12_descend_6 0 rfl rfl)
theorem dX12_descend_144 : decode cX12_descend 144 = .ok (.iconst 0, 1) := dk_3 (dk_at dksX12_descend_6 3 rfl rfl)
theorem dX12_descend_145 : decode cX12_descend 145 = .ok (.istore_n 1, 1) := dk_60 (dk_at dksX12_descend_6 4 rfl rfl)
theorem dX12_descend_146 : decode cX12_descend 146 = .ok (.iload_n 1, 1) := dk_27 (dk_at dksX12_descend_6 5 rfl rfl)
theorem dX12_descend_147 : decode cX12_descend 147 = .ok (.ifCond .eq 9, 3) := dk_153 0 9 (dk_at dksX12_descend_6 6 rfl rfl)
theorem dX12_descend_150 : decode cX12_descend 150 = .ok (.aload_n 0, 1) := dk_42 (dk_at dksX12_descend_6 9 rfl rfl)
theorem dX12_descend_151 : decode cX12_descend 151 = .ok (.iload_n 2, 1) := dk_28 (dk_at dksX12_descend_6 10 rfl rfl)
theorem dX12_descend_152 : decode cX12_descend 152 = .ok (.iload_n 3, 1) := dk_29 (dk_at dksX12_descend_6 11 rfl rfl)
theorem dX12_descend_153 : decode cX12_descend 153 = .ok (.invokevirtual 67, 3) := dk_182 0 67 (dk_at dksX12_descend_6 12 rfl rfl)
theorem dX12_descend_156 : decode cX12_descend 156 = .ok (.goto (-120), 3) := dk_167 255 136 (dk_at dksX12_descend_6 15 rfl rfl)
theorem dX12_descend_159 : decode cX12_descend 159 = .ok (.iconst 0, 1) := dk_3 (dk_at dksX12_descend_6 18 rfl rfl)
theorem dX12_descend_160 : decode cX12_descend 160 = .ok (.istore_n 2, 1) := dk_61 (dk_at dksX12_descend_6 19 rfl rfl)
theorem dX12_descend_161 : decode cX12_descend 161 = .ok (.iload_n 2, 1) := dk_28 (dk_at dksX12_descend_6 20 rfl rfl)
theorem dX12_descend_162 : decode cX12_descend 162 = .ok (.aload_n 0, 1) := dk_42 (dk_at dksX12_descend_6 21 rfl rfl)
theorem dX12_descend_163 : decode cX12_descend 163 = .ok (.getfield 15, 3) := dk_180 0 15 (dk_at dksX12_descend_7 0 rfl rfl)
theorem dX12_descend_166 : decode cX12_descend 166 = .ok (.getfield 32, 3) := dk_180 0 32 (dk_at dksX12_descend_7 3 rfl rfl)
theorem dX12_descend_169 : decode cX12_descend 169 = .ok (.if_icmp .ge 21, 3) := dk_162 0 21 (dk_at dksX12_descend_7 6 rfl rfl)
theorem dX12_descend_172 : decode cX12_descend 172 = .ok (.aload_n 0, 1) := dk_42 (dk_at dksX12_descend_7 9 rfl rfl)
theorem dX12_descend_173 : decode cX12_descend 173 = .ok (.getfield 38, 3) := dk_180 0 38 (dk_at dksX12_descend_7 10 rfl rfl)
theorem dX12_descend_176 : decode cX12_descend 176 = .ok (.iload_n 2, 1) := dk_28 (dk_at dksX12_descend_7 13 rfl rfl)
theorem dX12_descend_177 : decode cX12_descend 177 = .ok (.aload_n 0, 1) := dk_42 (dk_at dksX12_descend_7 14 rfl rfl)
theorem dX12_descend_178 : decode cX12_descend 178 = .ok (.getfield 35, 3) := dk_180 0 35 (dk_at dksX12_descend_7 15 rfl rfl)
theorem dX12_descend_181 : decode cX12_descend 181 = .ok (.iload_n 2, 1) := dk_28 (dk_at dksX12_descend_7 18 rfl rfl)
theorem dX12_descend_182 : decode cX12_descend 182 = .ok (.iaload, 1) := dk_46 (dk_at dksX12_descend_7 19 rfl rfl)
theorem dX12_descend_183 : decode cX12_descend 183 = .ok (.iastore, 1) := dk_79 (dk_at dksX12_descend_7 20 rfl rfl)
theorem dX12_descend_184 : decode cX12_descend 184 = .ok (.iinc 2 1, 3) := dk_132 2 1 (dk_at dksX12_descend_7 21 rfl rfl)
theorem dX12_descend_187 : decode cX12_descend 187 = .ok (.goto (-26), 3) := dk_167 255 230 (dk_at dksX12_descend_8 0 rfl rfl)
theorem dX12_descend_190 : decode cX12_descend 190 = .ok (.return_, 1) := dk_177 (dk_at dksX12_descend_8 3 rfl rfl)
abbrev cX12_length : ByteArray := prog_3_method_3_code
def yX12_length : MethodName := ⟨RX12, "length", "()I"⟩
def dkwX12_length_2 : List UInt8 := [132, 2, 1, 167, 255, 210, 27, 172]
abbrev dktX12_length_2 : List UInt8 := dkwX12_length_2 ++ []
def dkwX12_length_1 : List UInt8 := [46, 8, 122, 46, 42, 180, 0, 35, 42, 180, 0, 28, 28, 46, 16, 31, 126, 46, 182, 0, 47, 96, 60]
abbrev dktX12_length_1 : List UInt8 := dkwX12_length_1 ++ dktX12_length_2
def dkwX12_length_0 : List UInt8 := [3, 60, 3, 61, 28, 42, 180, 0, 28, 190, 162, 0, 43, 27, 42, 42, 180, 0, 35, 42, 180, 0, 28, 28]
abbrev dktX12_length_0 : List UInt8 := dkwX12_length_0 ++ dktX12_length_1
theorem dksX12_length_0 : cX12_length.data.toList.drop 0 = dktX12_length_0 := by decide +kernel
theorem dksX12_length_1 : cX12_length.data.toList.drop 24 = dktX12_length_1 := dk_seg dksX12_length_0 24 rfl rfl
theorem dksX12_length_2 : cX12_length.data.toList.drop 47 = dktX12_length_2 := dk_seg dksX12_length_1 23 rfl rfl
theorem dX12_length_0 : decode cX12_length 0 = .ok (.iconst 0, 1) := dk_3 (dk_at dksX12_length_0 0 rfl rfl)
theorem dX12_length_1 : decode cX12_length 1 = .ok (.istore_n 1, 1) := dk_60 (dk_at dksX12_length_0 1 rfl rfl)
theorem dX12_length_2 : decode cX12_length 2 = .ok (.iconst 0, 1) := dk_3 (dk_at dksX12_length_0 2 rfl rfl)
theorem dX12_length_3 : decode cX12_length 3 = .ok (.istore_n 2, 1) := dk_61 (dk_at dksX12_length_0 3 rfl rfl)
theorem dX12_length_4 : decode cX12_length 4 = .ok (.iload_n 2, 1) := dk_28 (dk_at dksX12_length_0 4 rfl rfl)
theorem dX12_length_5 : decode cX12_length 5 = .ok (.aload_n 0, 1) := dk_42 (dk_at dksX12_length_0 5 rfl rfl)
theorem dX12_length_6 : decode cX12_length 6 = .ok (.getfield 28, 3) := dk_180 0 28 (dk_at dksX12_length_0 6 rfl rfl)
theorem dX12_length_9 : decode cX12_length 9 = .ok (.arraylength, 1) := dk_190 (dk_at dksX12_length_0 9 rfl rfl)
theorem dX12_length_10 : decode cX12_length 10 = .ok (.if_icmp .ge 43, 3) := dk_162 0 43 (dk_at dksX12_length_0 10 rfl rfl)
theorem dX12_length_13 : decode cX12_length 13 = .ok (.iload_n 1, 1) := dk_27 (dk_at dksX12_length_0 13 rfl rfl)
theorem dX12_length_14 : decode cX12_length 14 = .ok (.aload_n 0, 1) := dk_42 (dk_at dksX12_length_0 14 rfl rfl)
theorem dX12_length_15 : decode cX12_length 15 = .ok (.aload_n 0, 1) := dk_42 (dk_at dksX12_length_0 15 rfl rfl)
theorem dX12_length_16 : decode cX12_length 16 = .ok (.getfield 35, 3) := dk_180 0 35 (dk_at dksX12_length_0 16 rfl rfl)
theorem dX12_length_19 : decode cX12_length 19 = .ok (.aload_n 0, 1) := dk_42 (dk_at dksX12_length_0 19 rfl rfl)
theorem dX12_length_20 : decode cX12_length 20 = .ok (.getfield 28, 3) := dk_180 0 28 (dk_at dksX12_length_0 20 rfl rfl)
theorem dX12_length_23 : decode cX12_length 23 = .ok (.iload_n 2, 1) := dk_28 (dk_at dksX12_length_0 23 rfl rfl)
theorem dX12_length_24 : decode cX12_length 24 = .ok (.iaload, 1) := dk_46 (dk_at dksX12_length_1 0 rfl rfl)
theorem dX12_length_25 : decode cX12_length 25 = .ok (.iconst 5, 1) := dk_8 (dk_at dksX12_length_1 1 rfl rfl)
theorem dX12_length_26 : decode cX12_length 26 = .ok (.ishr, 1) := dk_122 (dk_at dksX12_length_1 2 rfl rfl)
theorem dX12_length_27 : decode cX12_length 27 = .ok (.iaload, 1) := dk_46 (dk_at dksX12_length_1 3 rfl rfl)
theorem dX12_length_28 : decode cX12_length 28 = .ok (.aload_n 0, 1) := dk_42 (dk_at dksX12_length_1 4 rfl rfl)
theorem dX12_length_29 : decode cX12_length 29 = .ok (.getfield 35, 3) := dk_180 0 35 (dk_at dksX12_length_1 5 rfl rfl)
theorem dX12_length_32 : decode cX12_length 32 = .ok (.aload_n 0, 1) := dk_42 (dk_at dksX12_length_1 8 rfl rfl)
theorem dX12_length_33 : decode cX12_length 33 = .ok (.getfield 28, 3) := dk_180 0 28 (dk_at dksX12_length_1 9 rfl rfl)
theorem dX12_length_36 : decode cX12_length 36 = .ok (.iload_n 2, 1) := dk_28 (dk_at dksX12_length_1 12 rfl rfl)
theorem dX12_length_37 : decode cX12_length 37 = .ok (.iaload, 1) := dk_46 (dk_at dksX12_length_1 13 rfl rfl)
theorem dX12_length_38 : decode cX12_length 38 = .ok (.bipush 31, 2) := dk_16 31 (dk_at dksX12_length_1 14 rfl rfl)
theorem dX12_length_40 : decode cX12_length 40 = .ok (.iand, 1) := dk_126 (dk_at dksX12_length_1 16 rfl rfl)
theorem dX12_length_41 : decode cX12_length 41 = .ok (.iaload, 1) := dk_46 (dk_at dksX12_length_1 17 rfl rfl)
theorem dX12_length_42 : decode cX12_length 42 = .ok (.invokevirtual 47, 3) := dk_182 0 47 (dk_at dksX12_length_1 18 rfl rfl)
theorem dX12_length_45 : decode cX12_length 45 = .ok (.iadd, 1) := dk_96 (dk_at dksX12_length_1 21 rfl rfl)
theorem dX12_length_46 : decode cX12_length 46 = .ok (.istore_n 1, 1) := dk_60 (dk_at dksX12_length_1 22 rfl rfl)
theorem dX12_length_47 : decode cX12_length 47 = .ok (.iinc 2 1, 3) := dk_132 2 1 (dk_at dksX12_length_2 0 rfl rfl)
theorem dX12_length_50 : decode cX12_length 50 = .ok (.goto (-46), 3) := dk_167 255 210 (dk_at dksX12_length_2 3 rfl rfl)
theorem dX12_length_53 : decode cX12_length 53 = .ok (.iload_n 1, 1) := dk_27 (dk_at dksX12_length_2 6 rfl rfl)
theorem dX12_length_54 : decode cX12_length 54 = .ok (.ireturn, 1) := dk_172 (dk_at dksX12_length_2 7 rfl rfl)
abbrev cX12_exchange : ByteArray := prog_3_method_5_code
def yX12_exchange : MethodName := ⟨RX12, "exchange", "(II)V"⟩
def dkwX12_exchange_1 : List UInt8 := [29, 79, 177]
abbrev dktX12_exchange_1 : List UInt8 := dkwX12_exchange_1 ++ []
def dkwX12_exchange_0 : List UInt8 := [42, 180, 0, 35, 27, 46, 62, 42, 180, 0, 35, 27, 42, 180, 0, 35, 28, 46, 79, 42, 180, 0, 35, 28]
abbrev dktX12_exchange_0 : List UInt8 := dkwX12_exchange_0 ++ dktX12_exchange_1
theorem dksX12_exchange_0 : cX12_exchange.data.toList.drop 0 = dktX12_exchange_0 := by decide +kernel
theorem dksX12_exchange_1 : cX12_exchange.data.toList.drop 24 = dktX12_exchange_1 := dk_seg dksX12_exchange_0 24 rfl rfl
theorem dX12_exchange_0 : decode cX12_exchange 0 = .ok (.aload_n 0, 1) := dk_42 (dk_at dksX12_exchange_0 0 rfl rfl)
theorem dX12_exchange_1 : decode cX12_exchange 1 = .ok (.getfield 35, 3) := dk_180 0 35 (dk_at dksX12_exchange_0 1 rfl rfl)
theorem dX12_exchange_4 : decode cX12_exchange 4 = .ok (.iload_n 1, 1) := dk_27 (dk_at dksX12_exchange_0 4 rfl rfl)
theorem dX12_exchange_5 : decode cX12_exchange 5 = .ok (.iaload, 1) := dk_46 (dk_at dksX12_exchange_0 5 rfl rfl)
theorem dX12_exchange_6 : decode cX12_exchange 6 = .ok (.istore_n 3, 1) := dk_62 (dk_at dksX12_exchange_0 6 rfl rfl)
theorem dX12_exchange_7 : decode cX12_exchange 7 = .ok (.aload_n 0, 1) := dk_42 (dk_at dksX12_exchange_0 7 rfl rfl)
theorem dX12_exchange_8 : decode cX12_exchange 8 = .ok (.getfield 35, 3) := dk_180 0 35 (dk_at dksX12_exchange_0 8 rfl rfl)
theorem dX12_exchange_11 : decode cX12_exchange 11 = .ok (.iload_n 1, 1) := dk_27 (dk_at dksX12_exchange_0 11 rfl rfl)
theorem dX12_exchange_12 : decode cX12_exchange 12 = .ok (.aload_n 0, 1) := dk_42 (dk_at dksX12_exchange_0 12 rfl rfl)
theorem dX12_exchange_13 : decode cX12_exchange 13 = .ok (.getfield 35, 3) := dk_180 0 35 (dk_at dksX12_exchange_0 13 rfl rfl)
theorem dX12_exchange_16 : decode cX12_exchange 16 = .ok (.iload_n 2, 1) := dk_28 (dk_at dksX12_exchange_0 16 rfl rfl)
theorem dX12_exchange_17 : decode cX12_exchange 17 = .ok (.iaload, 1) := dk_46 (dk_at dksX12_exchange_0 17 rfl rfl)
theorem dX12_exchange_18 : decode cX12_exchange 18 = .ok (.iastore, 1) := dk_79 (dk_at dksX12_exchange_0 18 rfl rfl)
theorem dX12_exchange_19 : decode cX12_exchange 19 = .ok (.aload_n 0, 1) := dk_42 (dk_at dksX12_exchange_0 19 rfl rfl)
theorem dX12_exchange_20 : decode cX12_exchange 20 = .ok (.getfield 35, 3) := dk_180 0 35 (dk_at dksX12_exchange_0 20 rfl rfl)
theorem dX12_exchange_23 : decode cX12_exchange 23 = .ok (.iload_n 2, 1) := dk_28 (dk_at dksX12_exchange_0 23 rfl rfl)
theorem dX12_exchange_24 : decode cX12_exchange 24 = .ok (.iload_n 3, 1) := dk_29 (dk_at dksX12_exchange_1 0 rfl rfl)
theorem dX12_exchange_25 : decode cX12_exchange 25 = .ok (.iastore, 1) := dk_79 (dk_at dksX12_exchange_1 1 rfl rfl)
theorem dX12_exchange_26 : decode cX12_exchange 26 = .ok (.return_, 1) := dk_177 (dk_at dksX12_exchange_1 2 rfl rfl)
theorem q140 : (Jvm.Cond.initialized "WiredNets$Floor") ∈ lw_all := lw_g (lw_at lw_m1 32 rfl) rfl
theorem q238 : (Jvm.Cond.fieldLinkNest "WiredNets$Floor" (32 : Nat) "WiredNets$Net" "n" "I" "WiredNets") ∈ lw_tbl := lw_at lw_m1 130 rfl
theorem q254 : (Jvm.Cond.fieldLinkNest "WiredNets$Floor" (51 : Nat) "WiredNets$Net" "near" "[I" "WiredNets") ∈ lw_tbl := lw_at lw_m1 146 rfl
theorem q1145 : (Jvm.Cond.selects "WiredNets$Floor" ({ cls := "java/lang/Object", name := "getClass", desc := "()Ljava/lang/Class;" } : Jvm.MethodName) ({ cls := "java/lang/Object", name := "getClass", desc := "()Ljava/lang/Class;" } : Jvm.MethodName)) ∈ lw_all := lw_g (lw_at lw_m5 77 rfl) rfl
theorem q1228 : (Jvm.Cond.instantiable "WiredNets$Floor" (6 : Nat)) ∈ lw_all := lw_g (lw_at lw_m5 160 rfl) rfl
theorem q1230 : (Jvm.Cond.instanceMethod ({ cls := "WiredNets$Floor", name := "<init>", desc := "(LWiredNets$Net;I)V" } : Jvm.MethodName)) ∈ lw_all := lw_g (lw_at lw_m5 162 rfl) rfl
theorem q1231 : (Jvm.Cond.code ({ cls := "WiredNets$Floor", name := "<init>", desc := "(LWiredNets$Net;I)V" } : Jvm.MethodName) prog_3_method_1_code (3 : Nat) (Option.none : Option Jvm.ClassFile.FieldType)) ∈ lw_all := lw_g (lw_at lw_m5 163 rfl) rfl
theorem q1232 : (Jvm.Cond.methodLink "WiredNets$Floor" (3 : Nat) ({ cls := "java/lang/Object", name := "<init>", desc := "()V" } : Jvm.MethodName)) ∈ lw_all := lw_g (lw_at lw_m5 164 rfl) rfl
theorem q1233 : (Jvm.Cond.methodLink "WiredNets$Floor" (22 : Nat) ({ cls := "WiredNets$Net", name := "row", desc := "()[I" } : Jvm.MethodName)) ∈ lw_all := lw_g (lw_at lw_m5 165 rfl) rfl
theorem q1234 : (Jvm.Cond.fieldLink "WiredNets$Floor" (15 : Nat) "WiredNets$Floor" "x" "LWiredNets$Net;") ∈ lw_all := lw_g (lw_at lw_m5 166 rfl) rfl
theorem q1235 : (Jvm.Cond.fieldLink "WiredNets$Floor" (19 : Nat) "WiredNets$Floor" "w" "I") ∈ lw_all := lw_g (lw_at lw_m5 167 rfl) rfl
theorem q1236 : (Jvm.Cond.fieldLink "WiredNets$Floor" (28 : Nat) "WiredNets$Floor" "lines" "[I") ∈ lw_all := lw_g (lw_at lw_m5 168 rfl) rfl
theorem q1237 : (Jvm.Cond.fieldLink "WiredNets$Floor" (35 : Nat) "WiredNets$Floor" "place" "[I") ∈ lw_all := lw_g (lw_at lw_m5 169 rfl) rfl
theorem q1238 : (Jvm.Cond.fieldLink "WiredNets$Floor" (38 : Nat) "WiredNets$Floor" "best" "[I") ∈ lw_all := lw_g (lw_at lw_m5 170 rfl) rfl
theorem q1240 : (Jvm.Cond.fieldLink "WiredNets$Floor" (9 : Nat) "WiredNets$Floor" "least" "I") ∈ lw_all := lw_g (lw_at lw_m5 172 rfl) rfl
theorem q1241 : (Jvm.Cond.laysFinal "WiredNets$Floor" "WiredNets$Floor" "x" "LWiredNets$Net;") ∈ lw_all := lw_g (lw_at lw_m5 173 rfl) rfl
theorem q1242 : (Jvm.Cond.soleField "WiredNets$Floor" "x") ∈ lw_all := lw_g (lw_at lw_m5 174 rfl) rfl
theorem q1243 : (Jvm.Cond.laysFinal "WiredNets$Floor" "WiredNets$Floor" "w" "I") ∈ lw_all := lw_g (lw_at lw_m5 175 rfl) rfl
theorem q1244 : (Jvm.Cond.soleField "WiredNets$Floor" "w") ∈ lw_all := lw_g (lw_at lw_m5 176 rfl) rfl
theorem q1245 : (Jvm.Cond.laysFinal "WiredNets$Floor" "WiredNets$Floor" "lines" "[I") ∈ lw_all := lw_g (lw_at lw_m5 177 rfl) rfl
theorem q1246 : (Jvm.Cond.soleField "WiredNets$Floor" "lines") ∈ lw_all := lw_g (lw_at lw_m5 178 rfl) rfl
theorem q1247 : (Jvm.Cond.laysFinal "WiredNets$Floor" "WiredNets$Floor" "place" "[I") ∈ lw_all := lw_g (lw_at lw_m5 179 rfl) rfl
theorem q1248 : (Jvm.Cond.soleField "WiredNets$Floor" "place") ∈ lw_all := lw_g (lw_at lw_m5 180 rfl) rfl
theorem q1249 : (Jvm.Cond.laysFinal "WiredNets$Floor" "WiredNets$Floor" "best" "[I") ∈ lw_all := lw_g (lw_at lw_m5 181 rfl) rfl
theorem q1250 : (Jvm.Cond.soleField "WiredNets$Floor" "best") ∈ lw_all := lw_g (lw_at lw_m5 182 rfl) rfl
theorem q1251 : (Jvm.Cond.lays "WiredNets$Floor" "WiredNets$Floor" "least" "I") ∈ lw_all := lw_g (lw_at lw_m5 183 rfl) rfl
theorem q1252 : (Jvm.Cond.soleField "WiredNets$Floor" "least") ∈ lw_all := lw_g (lw_at lw_m5 184 rfl) rfl
theorem q1253 : (Jvm.Cond.superclass "WiredNets$Floor" "java/lang/Object") ∈ lw_all := lw_g (lw_at lw_m5 185 rfl) rfl
theorem q1255 : (Jvm.Cond.instanceMethod ({ cls := "WiredNets$Floor", name := "run", desc := "()I" } : Jvm.MethodName)) ∈ lw_all := lw_g (lw_at lw_m5 187 rfl) rfl
theorem q1256 : (Jvm.Cond.selects "WiredNets$Floor" ({ cls := "WiredNets$Floor", name := "run", desc := "()I" } : Jvm.MethodName) ({ cls := "WiredNets$Floor", name := "run", desc := "()I" } : Jvm.MethodName)) ∈ lw_all := lw_g (lw_at lw_m5 188 rfl) rfl
theorem q1257 : (Jvm.Cond.code ({ cls := "WiredNets$Floor", name := "run", desc := "()I" } : Jvm.MethodName) prog_3_method_7_code (1 : Nat) (Option.some Jvm.ClassFile.FieldType.int)) ∈ lw_all := lw_g (lw_at lw_m5 189 rfl) rfl
theorem q1258 : (Jvm.Cond.methodLink "WiredNets$Floor" (59 : Nat) ({ cls := "WiredNets$Floor", name := "go", desc := "(III)V" } : Jvm.MethodName)) ∈ lw_all := lw_g (lw_at lw_m5 190 rfl) rfl
theorem q1259 : (Jvm.Cond.privateMethod ({ cls := "WiredNets$Floor", name := "go", desc := "(III)V" } : Jvm.MethodName)) ∈ lw_tbl := lw_at lw_m5 191 rfl
theorem q1260 : (Jvm.Cond.instanceMethod ({ cls := "WiredNets$Floor", name := "go", desc := "(III)V" } : Jvm.MethodName)) ∈ lw_all := lw_g (lw_at lw_m5 192 rfl) rfl
theorem q1261 : (Jvm.Cond.code ({ cls := "WiredNets$Floor", name := "go", desc := "(III)V" } : Jvm.MethodName) prog_3_method_4_code (7 : Nat) (Option.none : Option Jvm.ClassFile.FieldType)) ∈ lw_all := lw_g (lw_at lw_m5 193 rfl) rfl
theorem q1262 : (Jvm.Cond.methodLink "WiredNets$Floor" (54 : Nat) ({ cls := "java/lang/Integer", name := "numberOfTrailingZeros", desc := "(I)I" } : Jvm.MethodName)) ∈ lw_all := lw_g (lw_at lw_m5 194 rfl) rfl
theorem q1263 : (Jvm.Cond.methodLink "WiredNets$Floor" (47 : Nat) ({ cls := "WiredNets$Floor", name := "apart", desc := "(II)I" } : Jvm.MethodName)) ∈ lw_all := lw_g (lw_at lw_m5 195 rfl) rfl
theorem q1264 : (Jvm.Cond.privateMethod ({ cls := "WiredNets$Floor", name := "apart", desc := "(II)I" } : Jvm.MethodName)) ∈ lw_tbl := lw_at lw_m5 196 rfl
theorem q1265 : (Jvm.Cond.instanceMethod ({ cls := "WiredNets$Floor", name := "apart", desc := "(II)I" } : Jvm.MethodName)) ∈ lw_all := lw_g (lw_at lw_m5 197 rfl) rfl
theorem q1266 : (Jvm.Cond.code ({ cls := "WiredNets$Floor", name := "apart", desc := "(II)I" } : Jvm.MethodName) prog_3_method_2_code (3 : Nat) (Option.some Jvm.ClassFile.FieldType.int)) ∈ lw_all := lw_g (lw_at lw_m5 198 rfl) rfl
theorem q1267 : (Jvm.Cond.methodLink "WiredNets$Floor" (41 : Nat) ({ cls := "java/lang/Math", name := "abs", desc := "(I)I" } : Jvm.MethodName)) ∈ lw_all := lw_g (lw_at lw_m5 199 rfl) rfl
theorem q1270 : (Jvm.Cond.methodLink "WiredNets$Floor" (71 : Nat) ({ cls := "WiredNets$Floor", name := "descend", desc := "()V" } : Jvm.MethodName)) ∈ lw_all := lw_g (lw_at lw_m5 202 rfl) rfl
theorem q1271 : (Jvm.Cond.privateMethod ({ cls := "WiredNets$Floor", name := "descend", desc := "()V" } : Jvm.MethodName)) ∈ lw_tbl := lw_at lw_m5 203 rfl
theorem q1272 : (Jvm.Cond.instanceMethod ({ cls := "WiredNets$Floor", name := "descend", desc := "()V" } : Jvm.MethodName)) ∈ lw_all := lw_g (lw_at lw_m5 204 rfl) rfl
theorem q1273 : (Jvm.Cond.code ({ cls := "WiredNets$Floor", name := "descend", desc := "()V" } : Jvm.MethodName) prog_3_method_6_code (7 : Nat) (Option.none : Option Jvm.ClassFile.FieldType)) ∈ lw_all := lw_g (lw_at lw_m5 205 rfl) rfl
theorem q1274 : (Jvm.Cond.methodLink "WiredNets$Floor" (63 : Nat) ({ cls := "WiredNets$Floor", name := "length", desc := "()I" } : Jvm.MethodName)) ∈ lw_all := lw_g (lw_at lw_m5 206 rfl) rfl
theorem q1275 : (Jvm.Cond.privateMethod ({ cls := "WiredNets$Floor", name := "length", desc := "()I" } : Jvm.MethodName)) ∈ lw_tbl := lw_at lw_m5 207 rfl
theorem q1276 : (Jvm.Cond.instanceMethod ({ cls := "WiredNets$Floor", name := "length", desc := "()I" } : Jvm.MethodName)) ∈ lw_all := lw_g (lw_at lw_m5 208 rfl) rfl
theorem q1277 : (Jvm.Cond.code ({ cls := "WiredNets$Floor", name := "length", desc := "()I" } : Jvm.MethodName) prog_3_method_3_code (3 : Nat) (Option.some Jvm.ClassFile.FieldType.int)) ∈ lw_all := lw_g (lw_at lw_m5 209 rfl) rfl
theorem q1278 : (Jvm.Cond.methodLink "WiredNets$Floor" (67 : Nat) ({ cls := "WiredNets$Floor", name := "exchange", desc := "(II)V" } : Jvm.MethodName)) ∈ lw_all := lw_g (lw_at lw_m5 210 rfl) rfl
theorem q1279 : (Jvm.Cond.privateMethod ({ cls := "WiredNets$Floor", name := "exchange", desc := "(II)V" } : Jvm.MethodName)) ∈ lw_tbl := lw_at lw_m5 211 rfl
theorem q1280 : (Jvm.Cond.instanceMethod ({ cls := "WiredNets$Floor", name := "exchange", desc := "(II)V" } : Jvm.MethodName)) ∈ lw_all := lw_g (lw_at lw_m5 212 rfl) rfl
theorem q1281 : (Jvm.Cond.code ({ cls := "WiredNets$Floor", name := "exchange", desc := "(II)V" } : Jvm.MethodName) prog_3_method_5_code (4 : Nat) (Option.none : Option Jvm.ClassFile.FieldType)) ∈ lw_all := lw_g (lw_at lw_m5 213 rfl) rfl
theorem q2183 : (Jvm.Cond.castable "WiredNets$Floor" "java/lang/Object") ∈ lw_tbl := lw_at lw_m9 155 rfl
theorem in_X12 : ∀ w ∈ wsX120, w ∈ lw_all := lw_in wsX120 [1241, 1243, 1245, 1247, 1249, 1251] (by decide +kernel) (by decide +kernel)

/-! WiredNets$Ways -/
set_option maxRecDepth 100000
def RX13 : String := "WiredNets$Ways"
def TX13 : u_T := fun k => match k with
  | 0 => ("WiredNets$Ways", "x", "LWiredNets$Net;", true)
  | 1 => ("WiredNets$Ways", "joined", "Z", true)
  | 2 => ("WiredNets$Ways", "far", "[[I", true)
  | 3 => ("WiredNets$Ways", "hop", "[[I", true)
  | 4 => ("WiredNets$Ways", "load", "[[I", true)
  | 5 => ("WiredNets$Ways", "follow", "[[I", true)
  | 6 => ("WiredNets$Ways", "sends", "[I", true)
  | 7 => ("WiredNets$Ways", "owner", "[I", true)
  | _ => ("WiredNets$Ways", "tried", "I", false)
def tyX13 : Nat → FieldType := fun k => match k with
  | 0 => .object "WiredNets$Net"
  | 1 => .boolean
  | 2 => .array (.array .int)
  | 3 => .array (.array .int)
  | 4 => .array (.array .int)
  | 5 => .array (.array .int)
  | 6 => .array .int
  | 7 => .array .int
  | _ => .int
abbrev wsX130 : List Cond := u_ws RX13 TX13 9
theorem nmX13 : ∀ a, a < 9 → ∀ b, b < 9 → a ≠ b → (TX13 a).2.1 ≠ (TX13 b).2.1 := by decide +kernel
theorem tyX13_ok : ∀ k, k < 9 → parseFieldDescriptor (TX13 k).2.2.1 = some (tyX13 k) := by decide +kernel
abbrev cX13_init : ByteArray := prog_12_method_1_code
def yX13_init : MethodName := ⟨RX13, "<init>", "(LWiredNets$Net;)V"⟩
def dkwX13_init_11 : List UInt8 := [132, 4, 1, 167, 255, 237, 132, 3, 1, 167, 255, 213, 177]
abbrev dktX13_init_11 : List UInt8 := dkwX13_init_11 ++ []
def dkwX13_init_10 : List UInt8 := [153, 0, 34, 3, 54, 4, 21, 4, 43, 180, 0, 47, 162, 0, 16, 42, 29, 21, 4, 182, 0, 67]
abbrev dktX13_init_10 : List UInt8 := dkwX13_init_10 ++ dktX13_init_11
def dkwX13_init_9 : List UInt8 := [167, 255, 218, 132, 3, 1, 167, 255, 194, 3, 62, 29, 43, 180, 0, 47, 162, 0, 41, 42, 180, 0, 43]
abbrev dktX13_init_9 : List UInt8 := dkwX13_init_9 ++ dktX13_init_10
def dkwX13_init_8 : List UInt8 := [21, 4, 29, 21, 4, 160, 0, 7, 2, 167, 0, 10, 42, 29, 21, 4, 182, 0, 63, 79, 132, 4, 1]
abbrev dktX13_init_8 : List UInt8 := dkwX13_init_8 ++ dktX13_init_9
def dkwX13_init_7 : List UInt8 := [180, 0, 43, 153, 0, 53, 3, 54, 4, 21, 4, 43, 180, 0, 47, 162, 0, 35, 42, 180, 0, 16, 29, 50]
abbrev dktX13_init_7 : List UInt8 := dkwX13_init_7 ++ dktX13_init_8
def dkwX13_init_6 : List UInt8 := [132, 4, 1, 167, 255, 228, 132, 3, 1, 167, 255, 201, 3, 62, 29, 43, 180, 0, 47, 162, 0, 60, 42]
abbrev dktX13_init_6 : List UInt8 := dkwX13_init_6 ++ dktX13_init_7
def dkwX13_init_5 : List UInt8 := [180, 0, 47, 162, 0, 25, 42, 180, 0, 11, 29, 50, 21, 4, 44, 180, 0, 61, 21, 4, 46, 79]
abbrev dktX13_init_5 : List UInt8 := dkwX13_init_5 ++ dktX13_init_6
def dkwX13_init_4 : List UInt8 := [43, 180, 0, 47, 162, 0, 53, 44, 43, 29, 43, 182, 0, 53, 182, 0, 57, 3, 54, 4, 21, 4, 43]
abbrev dktX13_init_4 : List UInt8 := dkwX13_init_4 ++ dktX13_init_5
def dkwX13_init_3 : List UInt8 := [43, 181, 0, 32, 187, 0, 36, 89, 183, 0, 38, 77, 42, 44, 43, 182, 0, 39, 181, 0, 43, 3, 62, 29]
abbrev dktX13_init_3 : List UInt8 := dkwX13_init_3 ++ dktX13_init_4
def dkwX13_init_2 : List UInt8 := [197, 0, 9, 2, 181, 0, 22, 42, 16, 24, 188, 10, 181, 0, 25, 42, 16, 24, 188, 10, 181, 0, 29, 42]
abbrev dktX13_init_2 : List UInt8 := dkwX13_init_2 ++ dktX13_init_3
def dkwX13_init_1 : List UInt8 := [197, 0, 9, 2, 181, 0, 16, 42, 16, 24, 16, 24, 197, 0, 9, 2, 181, 0, 19, 42, 16, 24, 16, 24]
abbrev dktX13_init_1 : List UInt8 := dkwX13_init_1 ++ dktX13_init_2
def dkwX13_init_0 : List UInt8 := [42, 183, 0, 3, 42, 16, 24, 16, 24, 197, 0, 9, 2, 181, 0, 11, 42, 16, 24, 16, 24]
abbrev dktX13_init_0 : List UInt8 := dkwX13_init_0 ++ dktX13_init_1
theorem dksX13_init_0 : cX13_init.data.toList.drop 0 = dktX13_init_0 := by decide +kernel
theorem dksX13_init_1 : cX13_init.data.toList.drop 21 = dktX13_init_1 := dk_seg dksX13_init_0 21 rfl rfl
theorem dksX13_init_2 : cX13_init.data.toList.drop 45 = dktX13_init_2 := dk_seg dksX13_init_1 24 rfl rfl
theorem dksX13_init_3 : cX13_init.data.toList.drop 69 = dktX13_init_3 := dk_seg dksX13_init_2 24 rfl rfl
theorem dksX13_init_4 : cX13_init.data.toList.drop 93 = dktX13_init_4 := dk_seg dksX13_init_3 24 rfl rfl
theorem dksX13_init_5 : cX13_init.data.toList.drop 116 = dktX13_init_5 := dk_seg dksX13_init_4 23 rfl rfl
theorem dksX13_init_6 : cX13_init.data.toList.drop 138 = dktX13_init_6 := dk_seg dksX13_init_5 22 rfl rfl
theorem dksX13_init_7 : cX13_init.data.toList.drop 161 = dktX13_init_7 := dk_seg dksX13_init_6 23 rfl rfl
theorem dksX13_init_8 : cX13_init.data.toList.drop 185 = dktX13_init_8 := dk_seg dksX13_init_7 24 rfl rfl
theorem dksX13_init_9 : cX13_init.data.toList.drop 208 = dktX13_init_9 := dk_seg dksX13_init_8 23 rfl rfl
theorem dksX13_init_10 : cX13_init.data.toList.drop 231 = dktX13_init_10 := dk_seg dksX13_init_9 23 rfl rfl
theorem dksX13_init_11 : cX13_init.data.toList.drop 253 = dktX13_init_11 := dk_seg dksX13_init_10 22 rfl rfl
theorem dX13_init_0 : decode cX13_init 0 = .ok (.aload_n 0, 1) := dk_42 (dk_at dksX13_init_0 0 rfl rfl)
theorem dX13_init_1 : decode cX13_init 1 = .ok (.invokespecial 3, 3) := dk_183 0 3 (dk_at dksX13_init_0 1 rfl rfl)
theorem dX13_init_4 : decode cX13_init 4 = .ok (.aload_n 0, 1) := dk_42 (dk_at dksX13_init_0 4 rfl rfl)
theorem dX13_init_5 : decode cX13_init 5 = .ok (.bipush 24, 2) := dk_16 24 (dk_at dksX13_init_0 5 rfl rfl)
theorem dX13_init_7 : decode cX13_init 7 = .ok (.bipush 24, 2) := dk_16 24 (dk_at dksX13_init_0 7 rfl rfl)
theorem dX13_init_9 : decode cX13_init 9 = .ok (.multianewarray 9 2, 4) := by decide +kernel
theorem dX13_init_13 : decode cX13_init 13 = .ok (.putfield 11, 3) := dk_181 0 11 (dk_at dksX13_init_0 13 rfl rfl)
theorem dX13_init_16 : decode cX13_init 16 = .ok (.aload_n 0, 1) := dk_42 (dk_at dksX13_init_0 16 rfl rfl)
theorem dX13_init_17 : decode cX13_init 17 = .ok (.bipush 24, 2) := dk_16 24 (dk_at dksX13_init_0 17 rfl rfl)
theorem dX13_init_19 : decode cX13_init 19 = .ok (.bipush 24, 2) := dk_16 24 (dk_at dksX13_init_0 19 rfl rfl)
theorem dX13_init_21 : decode cX13_init 21 = .ok (.multianewarray 9 2, 4) := by decide +kernel
theorem dX13_init_25 : decode cX13_init 25 = .ok (.putfield 16, 3) := dk_181 0 16 (dk_at dksX13_init_1 4 rfl rfl)
theorem dX13_init_28 : decode cX13_init 28 = .ok (.aload_n 0, 1) := dk_42 (dk_at dksX13_init_1 7 rfl rfl)
theorem dX13_init_29 : decode cX13_init 29 = .ok (.bipush 24, 2) := dk_16 24 (dk_at dksX13_init_1 8 rfl rfl)
theorem dX13_init_31 : decode cX13_init 31 = .ok (.bipush 24, 2) := dk_16 24 (dk_at dksX13_init_1 10 rfl rfl)
theorem dX13_init_33 : decode cX13_init 33 = .ok (.multianewarray 9 2, 4) := by decide +kernel
theorem dX13_init_37 : decode cX13_init 37 = .ok (.putfield 19, 3) := dk_181 0 19 (dk_at dksX13_init_1 16 rfl rfl)
theorem dX13_init_40 : decode cX13_init 40 = .ok (.aload_n 0, 1) := dk_42 (dk_at dksX13_init_1 19 rfl rfl)
theorem dX13_init_41 : decode cX13_init 41 = .ok (.bipush 24, 2) := dk_16 24 (dk_at dksX13_init_1 20 rfl rfl)
theorem dX13_init_43 : decode cX13_init 43 = .ok (.bipush 24, 2) := dk_16 24 (dk_at dksX13_init_1 22 rfl rfl)
theorem dX13_init_45 : decode cX13_init 45 = .ok (.multianewarray 9 2, 4) := by decide +kernel
theorem dX13_init_49 : decode cX13_init 49 = .ok (.putfield 22, 3) := dk_181 0 22 (dk_at dksX13_init_2 4 rfl rfl)
theorem dX13_init_52 : decode cX13_init 52 = .ok (.aload_n 0, 1) := dk_42 (dk_at dksX13_init_2 7 rfl rfl)
theorem dX13_init_53 : decode cX13_init 53 = .ok (.bipush 24, 2) := dk_16 24 (dk_at dksX13_init_2 8 rfl rfl)
theorem dX13_init_55 : decode cX13_init 55 = .ok (.newarray .int, 2) := dk_188_10 (dk_at dksX13_init_2 10 rfl rfl)
theorem dX13_init_57 : decode cX13_init 57 = .ok (.putfield 25, 3) := dk_181 0 25 (dk_at dksX13_init_2 12 rfl rfl)
theorem dX13_init_60 : decode cX13_init 60 = .ok (.aload_n 0, 1) := dk_42 (dk_at dksX13_init_2 15 rfl rfl)
theorem dX13_init_61 : decode cX13_init 61 = .ok (.bipush 24, 2) := dk_16 24 (dk_at dksX13_init_2 16 rfl rfl)
theorem dX13_init_63 : decode cX13_init 63 = .ok (.newarray .int, 2) := dk_188_10 (dk_at dksX13_init_2 18 rfl rfl)
theorem dX13_init_65 : decode cX13_init 65 = .ok (.putfield 29, 3) := dk_181 0 29 (dk_at dksX13_init_2 20 rfl rfl)
theorem dX13_init_68 : decode cX13_init 68 = .ok (.aload_n 0, 1) := dk_42 (dk_at dksX13_init_2 23 rfl rfl)
theorem dX13_init_69 : decode cX13_init 69 = .ok (.aload_n 1, 1) := dk_43 (dk_at dksX13_init_3 0 rfl rfl)
theorem dX13_init_70 : decode cX13_init 70 = .ok (.putfield 32, 3) := dk_181 0 32 (dk_at dksX13_init_3 1 rfl rfl)
theorem dX13_init_73 : decode cX13_init 73 = .ok (.new 36, 3) := dk_187 0 36 (dk_at dksX13_init_3 4 rfl rfl)
theorem dX13_init_76 : decode cX13_init 76 = .ok (.dup, 1) := dk_89 (dk_at dksX13_init_3 7 rfl rfl)
theorem dX13_init_77 : decode cX13_init 77 = .ok (.invokespecial 38, 3) := dk_183 0 38 (dk_at dksX13_init_3 8 rfl rfl)
theorem dX13_init_80 : decode cX13_init 80 = .ok (.astore_n 2, 1) := dk_77 (dk_at dksX13_init_3 11 rfl rfl)
theorem dX13_init_81 : decode cX13_init 81 = .ok (.aload_n 0, 1) := dk_42 (dk_at dksX13_init_3 12 rfl rfl)
theorem dX13_init_82 : decode cX13_init 82 = .ok (.aload_n 2, 1) := dk_44 (dk_at dksX13_init_3 13 rfl rfl)
theorem dX13_init_83 : decode cX13_init 83 = .ok (.aload_n 1, 1) := dk_43 (dk_at dksX13_init_3 14 rfl rfl)
theorem dX13_init_84 : decode cX13_init 84 = .ok (.invokevirtual 39, 3) := dk_182 0 39 (dk_at dksX13_init_3 15 rfl rfl)
theorem dX13_init_87 : decode cX13_init 87 = .ok (.putfield 43, 3) := dk_181 0 43 (dk_at dksX13_init_3 18 rfl rfl)
theorem dX13_init_90 : decode cX13_init 90 = .ok (.iconst 0, 1) := dk_3 (dk_at dksX13_init_3 21 rfl rfl)
theorem dX13_init_91 : decode cX13_init 91 = .ok (.istore_n 3, 1) := dk_62 (dk_at dksX13_init_3 22 rfl rfl)
theorem dX13_init_92 : decode cX13_init 92 = .ok (.iload_n 3, 1) := dk_29 (dk_at dksX13_init_3 23 rfl rfl)
theorem dX13_init_93 : decode cX13_init 93 = .ok (.aload_n 1, 1) := dk_43 (dk_at dksX13_init_4 0 rfl rfl)
theorem dX13_init_94 : decode cX13_init 94 = .ok (.getfield 47, 3) := dk_180 0 47 (dk_at dksX13_init_4 1 rfl rfl)
theorem dX13_init_97 : decode cX13_init 97 = .ok (.if_icmp .ge 53, 3) := dk_162 0 53 (dk_at dksX13_init_4 4 rfl rfl)
theorem dX13_init_100 : decode cX13_init 100 = .ok (.aload_n 2, 1) := dk_44 (dk_at dksX13_init_4 7 rfl rfl)
theorem dX13_init_101 : decode cX13_init 101 = .ok (.aload_n 1, 1) := dk_43 (dk_at dksX13_init_4 8 rfl rfl)
theorem dX13_init_102 : decode cX13_init 102 = .ok (.iload_n 3, 1) := dk_29 (dk_at dksX13_init_4 9 rfl rfl)
theorem dX13_init_103 : decode cX13_init 103 = .ok (.aload_n 1, 1) := dk_43 (dk_at dksX13_init_4 10 rfl rfl)
theorem dX13_init_104 : decode cX13_init 104 = .ok (.invokevirtual 53, 3) := dk_182 0 53 (dk_at dksX13_init_4 11 rfl rfl)
theorem dX13_init_107 : decode cX13_init 107 = .ok (.invokevirtual 57, 3) := dk_182 0 57 (dk_at dksX13_init_4 14 rfl rfl)
theorem dX13_init_110 : decode cX13_init 110 = .ok (.iconst 0, 1) := dk_3 (dk_at dksX13_init_4 17 rfl rfl)
theorem dX13_init_111 : decode cX13_init 111 = .ok (.istore 4, 2) := dk_54 4 (dk_at dksX13_init_4 18 rfl rfl)
theorem dX13_init_113 : decode cX13_init 113 = .ok (.iload 4, 2) := dk_21 4 (dk_at dksX13_init_4 20 rfl rfl)
theorem dX13_init_115 : decode cX13_init 115 = .ok (.aload_n 1, 1) := dk_43 (dk_at dksX13_init_4 22 rfl rfl)
theorem dX13_init_116 : decode cX13_init 116 = .ok (.getfield 47, 3) := dk_180 0 47 (dk_at dksX13_init_5 0 rfl rfl)
theorem dX13_init_119 : decode cX13_init 119 = .ok (.if_icmp .ge 25, 3) := dk_162 0 25 (dk_at dksX13_init_5 3 rfl rfl)
theorem dX13_init_122 : decode cX13_init 122 = .ok (.aload_n 0, 1) := dk_42 (dk_at dksX13_init_5 6 rfl rfl)
theorem dX13_init_123 : decode cX13_init 123 = .ok (.getfield 11, 3) := dk_180 0 11 (dk_at dksX13_init_5 7 rfl rfl)
theorem dX13_init_126 : decode cX13_init 126 = .ok (.iload_n 3, 1) := dk_29 (dk_at dksX13_init_5 10 rfl rfl)
theorem dX13_init_127 : decode cX13_init 127 = .ok (.aaload, 1) := dk_50 (dk_at dksX13_init_5 11 rfl rfl)
theorem dX13_init_128 : decode cX13_init 128 = .ok (.iload 4, 2) := dk_21 4 (dk_at dksX13_init_5 12 rfl rfl)
theorem dX13_init_130 : decode cX13_init 130 = .ok (.aload_n 2, 1) := dk_44 (dk_at dksX13_init_5 14 rfl rfl)
theorem dX13_init_131 : decode cX13_init 131 = .ok (.getfield 61, 3) := dk_180 0 61 (dk_at dksX13_init_5 15 rfl rfl)
theorem dX13_init_134 : decode cX13_init 134 = .ok (.iload 4, 2) := dk_21 4 (dk_at dksX13_init_5 18 rfl rfl)
theorem dX13_init_136 : decode cX13_init 136 = .ok (.iaload, 1) := dk_46 (dk_at dksX13_init_5 20 rfl rfl)
theorem dX13_init_137 : decode cX13_init 137 = .ok (.iastore, 1) := dk_79 (dk_at dksX13_init_5 21 rfl rfl)
theorem dX13_init_138 : decode cX13_init 138 = .ok (.iinc 4 1, 3) := dk_132 4 1 (dk_at dksX13_init_6 0 rfl rfl)
theorem dX13_init_141 : decode cX13_init 141 = .ok (.goto (-28), 3) := dk_167 255 228 (dk_at dksX13_init_6 3 rfl rfl)
theorem dX13_init_144 : decode cX13_init 144 = .ok (.iinc 3 1, 3) := dk_132 3 1 (dk_at dksX13_init_6 6 rfl rfl)
theorem dX13_init_147 : decode cX13_init 147 = .ok (.goto (-55), 3) := dk_167 255 201 (dk_at dksX13_init_6 9 rfl rfl)
theorem dX13_init_150 : decode cX13_init 150 = .ok (.iconst 0, 1) := dk_3 (dk_at dksX13_init_6 12 rfl rfl)
theorem dX13_init_151 : decode cX13_init 151 = .ok (.istore_n 3, 1) := dk_62 (dk_at dksX13_init_6 13 rfl rfl)
theorem dX13_init_152 : decode cX13_init 152 = .ok (.iload_n 3, 1) := dk_29 (dk_at dksX13_init_6 14 rfl rfl)
theorem dX13_init_153 : decode cX13_init 153 = .ok (.aload_n 1, 1) := dk_43 (dk_at dksX13_init_6 15 rfl rfl)
theorem dX13_init_154 : decode cX13_init 154 = .ok (.getfield 47, 3) := dk_180 0 47 (dk_at dksX13_init_6 16 rfl rfl)
theorem dX13_init_157 : decode cX13_init 157 = .ok (.if_icmp .ge 60, 3) := dk_162 0 60 (dk_at dksX13_init_6 19 rfl rfl)
theorem dX13_init_160 : decode cX13_init 160 = .ok (.aload_n 0, 1) := dk_42 (dk_at dksX13_init_6 22 rfl rfl)
theorem dX13_init_161 : decode cX13_init 161 = .ok (.getfield 43, 3) := dk_180 0 43 (dk_at dksX13_init_7 0 rfl rfl)
theorem dX13_init_164 : decode cX13_init 164 = .ok (.ifCond .eq 53, 3) := dk_153 0 53 (dk_at dksX13_init_7 3 rfl rfl)
theorem dX13_init_167 : decode cX13_init 167 = .ok (.iconst 0, 1) := dk_3 (dk_at dksX13_init_7 6 rfl rfl)
theorem dX13_init_168 : decode cX13_init 168 = .ok (.istore 4, 2) := dk_54 4 (dk_at dksX13_init_7 7 rfl rfl)
theorem dX13_init_170 : decode cX13_init 170 = .ok (.iload 4, 2) := dk_21 4 (dk_at dksX13_init_7 9 rfl rfl)
theorem dX13_init_172 : decode cX13_init 172 = .ok (.aload_n 1, 1) := dk_43 (dk_at dksX13_init_7 11 rfl rfl)
theorem dX13_init_173 : decode cX13_init 173 = .ok (.getfield 47, 3) := dk_180 0 47 (dk_at dksX13_init_7 12 rfl rfl)
theorem dX13_init_176 : decode cX13_init 176 = .ok (.if_icmp .ge 35, 3) := dk_162 0 35 (dk_at dksX13_init_7 15 rfl rfl)
theorem dX13_init_179 : decode cX13_init 179 = .ok (.aload_n 0, 1) := dk_42 (dk_at dksX13_init_7 18 rfl rfl)
theorem dX13_init_180 : decode cX13_init 180 = .ok (.getfield 16, 3) := dk_180 0 16 (dk_at dksX13_init_7 19 rfl rfl)
theorem dX13_init_183 : decode cX13_init 183 = .ok (.iload_n 3, 1) := dk_29 (dk_at dksX13_init_7 22 rfl rfl)
theorem dX13_init_184 : decode cX13_init 184 = .ok (.aaload, 1) := dk_50 (dk_at dksX13_init_7 23 rfl rfl)
theorem dX13_init_185 : decode cX13_init 185 = .ok (.iload 4, 2) := dk_21 4 (dk_at dksX13_init_8 0 rfl rfl)
theorem dX13_init_187 : decode cX13_init 187 = .ok (.iload_n 3, 1) := dk_29 (dk_at dksX13_init_8 2 rfl rfl)
theorem dX13_init_188 : decode cX13_init 188 = .ok (.iload 4, 2) := dk_21 4 (dk_at dksX13_init_8 3 rfl rfl)
theorem dX13_init_190 : decode cX13_init 190 = .ok (.if_icmp .ne 7, 3) := dk_160 0 7 (dk_at dksX13_init_8 5 rfl rfl)
theorem dX13_init_193 : decode cX13_init 193 = .ok (.iconst (-1), 1) := dk_2 (dk_at dksX13_init_8 8 rfl rfl)
theorem dX13_init_194 : decode cX13_init 194 = .ok (.goto 10, 3) := dk_167 0 10 (dk_at dksX13_init_8 9 rfl rfl)
theorem dX13_init_197 : decode cX13_init 197 = .ok (.aload_n 0, 1) := dk_42 (dk_at dksX13_init_8 12 rfl rfl)
theorem dX13_init_198 : decode cX13_init 198 = .ok (.iload_n 3, 1) := dk_29 (dk_at dksX13_init_8 13 rfl rfl)
theorem dX13_init_199 : decode cX13_init 199 = .ok (.iload 4, 2) := dk_21 4 (dk_at dksX13_init_8 14 rfl rfl)
theorem dX13_init_201 : decode cX13_init 201 = .ok (.invokevirtual 63, 3) := dk_182 0 63 (dk_at dksX13_init_8 16 rfl rfl)
theorem dX13_init_204 : decode cX13_init 204 = .ok (.iastore, 1) := dk_79 (dk_at dksX13_init_8 19 rfl rfl)
theorem dX13_init_205 : decode cX13_init 205 = .ok (.iinc 4 1, 3) := dk_132 4 1 (dk_at dksX13_init_8 20 rfl rfl)
theorem dX13_init_208 : decode cX13_init 208 = .ok (.goto (-38), 3) := dk_167 255 218 (dk_at dksX13_init_9 0 rfl rfl)
theorem dX13_init_211 : decode cX13_init 211 = .ok (.iinc 3 1, 3) := dk_132 3 1 (dk_at dksX13_init_9 3 rfl rfl)
theorem dX13_init_214 : decode cX13_init 214 = .ok (.goto (-62), 3) := dk_167 255 194 (dk_at dksX13_init_9 6 rfl rfl)
theorem dX13_init_217 : decode cX13_init 217 = .ok (.iconst 0, 1) := dk_3 (dk_at dksX13_init_9 9 rfl rfl)
theorem dX13_init_218 : decode cX13_init 218 = .ok (.istore_n 3, 1) := dk_62 (dk_at dksX13_init_9 10 rfl rfl)
theorem dX13_init_219 : decode cX13_init 219 = .ok (.iload_n 3, 1) := dk_29 (dk_at dksX13_init_9 11 rfl rfl)
theorem dX13_init_220 : decode cX13_init 220 = .ok (.aload_n 1, 1) := dk_43 (dk_at dksX13_init_9 12 rfl rfl)
theorem dX13_init_221 : decode cX13_init 221 = .ok (.getfield 47, 3) := dk_180 0 47 (dk_at dksX13_init_9 13 rfl rfl)
theorem dX13_init_224 : decode cX13_init 224 = .ok (.if_icmp .ge 41, 3) := dk_162 0 41 (dk_at dksX13_init_9 16 rfl rfl)
theorem dX13_init_227 : decode cX13_init 227 = .ok (.aload_n 0, 1) := dk_42 (dk_at dksX13_init_9 19 rfl rfl)
theorem dX13_init_228 : decode cX13_init 228 = .ok (.getfield 43, 3) := dk_180 0 43 (dk_at dksX13_init_9 20 rfl rfl)
theorem dX13_init_231 : decode cX13_init 231 = .ok (.ifCond .eq 34, 3) := dk_153 0 34 (dk_at dksX13_init_10 0 rfl rfl)
theorem dX13_init_234 : decode cX13_init 234 = .ok (.iconst 0, 1) := dk_3 (dk_at dksX13_init_10 3 rfl rfl)
theorem dX13_init_235 : decode cX13_init 235 = .ok (.istore 4, 2) := dk_54 4 (dk_at dksX13_init_10 4 rfl rfl)
theorem dX13_init_237 : decode cX13_init 237 = .ok (.iload 4, 2) := dk_21 4 (dk_at dksX13_init_10 6 rfl rfl)
theorem dX13_init_239 : decode cX13_init 239 = .ok (.aload_n 1, 1) := dk_43 (dk_at dksX13_init_10 8 rfl rfl)
theorem dX13_init_240 : decode cX13_init 240 = .ok (.getfield 47, 3) := dk_180 0 47 (dk_at dksX13_init_10 9 rfl rfl)
theorem dX13_init_243 : decode cX13_init 243 = .ok (.if_icmp .ge 16, 3) := dk_162 0 16 (dk_at dksX13_init_10 12 rfl rfl)
theorem dX13_init_246 : decode cX13_init 246 = .ok (.aload_n 0, 1) := dk_42 (dk_at dksX13_init_10 15 rfl rfl)
theorem dX13_init_247 : decode cX13_init 247 = .ok (.iload_n 3, 1) := dk_29 (dk_at dksX13_init_10 16 rfl rfl)
theorem dX13_init_248 : decode cX13_init 248 = .ok (.iload 4, 2) := dk_21 4 (dk_at dksX13_init_10 17 rfl rfl)
theorem dX13_init_250 : decode cX13_init 250 = .ok (.invokevirtual 67, 3) := dk_182 0 67 (dk_at dksX13_init_10 19 rfl rfl)
theorem dX13_init_253 : decode cX13_init 253 = .ok (.iinc 4 1, 3) := dk_132 4 1 (dk_at dksX13_init_11 0 rfl rfl)
theorem dX13_init_256 : decode cX13_init 256 = .ok (.goto (-19), 3) := dk_167 255 237 (dk_at dksX13_init_11 3 rfl rfl)
theorem dX13_init_259 : decode cX13_init 259 = .ok (.iinc 3 1, 3) := dk_132 3 1 (dk_at dksX13_init_11 6 rfl rfl)
theorem dX13_init_262 : decode cX13_init 262 = .ok (.goto (-43), 3) := dk_167 255 213 (dk_at dksX13_init_11 9 rfl rfl)
theorem dX13_init_265 : decode cX13_init 265 = .ok (.return_, 1) := dk_177 (dk_at dksX13_init_11 12 rfl rfl)
abbrev cX13_step : ByteArray := prog_12_method_2_code
def yX13_step : MethodName := ⟨RX13, "step", "(II)I"⟩
def dkwX13_step_1 : List UInt8 := [180, 0, 11, 27, 50, 28, 46, 4, 100, 159, 0, 9, 132, 3, 1, 167, 255, 220, 29, 172]
abbrev dktX13_step_1 : List UInt8 := dkwX13_step_1 ++ []
def dkwX13_step_0 : List UInt8 := [3, 62, 42, 180, 0, 32, 27, 29, 182, 0, 71, 153, 0, 24, 42, 180, 0, 11, 29, 50, 28, 46, 42]
abbrev dktX13_step_0 : List UInt8 := dkwX13_step_0 ++ dktX13_step_1
theorem dksX13_step_0 : cX13_step.data.toList.drop 0 = dktX13_step_0 := by decide +kernel
theorem dksX13_step_1 : cX13_step.data.toList.drop 23 = dktX13_step_1 := dk_seg dksX13_step_0 23 rfl rfl
theorem dX13_step_0 : decode cX13_step 0 = .ok (.iconst 0, 1) := dk_3 (dk_at dksX13_step_0 0 rfl rfl)
theorem dX13_step_1 : decode cX13_step 1 = .ok (.istore_n 3, 1) := dk_62 (dk_at dksX13_step_0 1 rfl rfl)
theorem dX13_step_2 : decode cX13_step 2 = .ok (.aload_n 0, 1) := dk_42 (dk_at dksX13_step_0 2 rfl rfl)
theorem dX13_step_3 : decode cX13_step 3 = .ok (.getfield 32, 3) := dk_180 0 32 (dk_at dksX13_step_0 3 rfl rfl)
theorem dX13_step_6 : decode cX13_step 6 = .ok (.iload_n 1, 1) := dk_27 (dk_at dksX13_step_0 6 rfl rfl)
theorem dX13_step_7 : decode cX13_step 7 = .ok (.iload_n 3, 1) := dk_29 (dk_at dksX13_step_0 7 rfl rfl)
theorem dX13_step_8 : decode cX13_step 8 = .ok (.invokevirtual 71, 3) := dk_182 0 71 (dk_at dksX13_step_0 8 rfl rfl)
theorem dX13_step_11 : decode cX13_step 11 = .ok (.ifCond .eq 24, 3) := dk_153 0 24 (dk_at dksX13_step_0 11 rfl rfl)
theorem dX13_step_14 : decode cX13_step 14 = .ok (.aload_n 0, 1) := dk_42 (dk_at dksX13_step_0 14 rfl rfl)
theorem dX13_step_15 : decode cX13_step 15 = .ok (.getfield 11, 3) := dk_180 0 11 (dk_at dksX13_step_0 15 rfl rfl)
theorem dX13_step_18 : decode cX13_step 18 = .ok (.iload_n 3, 1) := dk_29 (dk_at dksX13_step_0 18 rfl rfl)
theorem dX13_step_19 : decode cX13_step 19 = .ok (.aaload, 1) := dk_50 (dk_at dksX13_step_0 19 rfl rfl)
theorem dX13_step_20 : decode cX13_step 20 = .ok (.iload_n 2, 1) := dk_28 (dk_at dksX13_step_0 20 rfl rfl)
theorem dX13_step_21 : decode cX13_step 21 = .ok (.iaload, 1) := dk_46 (dk_at dksX13_step_0 21 rfl rfl)
theorem dX13_step_22 : decode cX13_step 22 = .ok (.aload_n 0, 1) := dk_42 (dk_at dksX13_step_0 22 rfl rfl)
theorem dX13_step_23 : decode cX13_step 23 = .ok (.getfield 11, 3) := dk_180 0 11 (dk_at dksX13_step_1 0 rfl rfl)
theorem dX13_step_26 : decode cX13_step 26 = .ok (.iload_n 1, 1) := dk_27 (dk_at dksX13_step_1 3 rfl rfl)
theorem dX13_step_27 : decode cX13_step 27 = .ok (.aaload, 1) := dk_50 (dk_at dksX13_step_1 4 rfl rfl)
theorem dX13_step_28 : decode cX13_step 28 = .ok (.iload_n 2, 1) := dk_28 (dk_at dksX13_step_1 5 rfl rfl)
theorem dX13_step_29 : decode cX13_step 29 = .ok (.iaload, 1) := dk_46 (dk_at dksX13_step_1 6 rfl rfl)
theorem dX13_step_30 : decode cX13_step 30 = .ok (.iconst 1, 1) := dk_4 (dk_at dksX13_step_1 7 rfl rfl)
theorem dX13_step_31 : decode cX13_step 31 = .ok (.isub, 1) := dk_100 (dk_at dksX13_step_1 8 rfl rfl)
theorem dX13_step_32 : decode cX13_step 32 = .ok (.if_icmp .eq 9, 3) := dk_159 0 9 (dk_at dksX13_step_1 9 rfl rfl)
theorem dX13_step_35 : decode cX13_step 35 = .ok (.iinc 3 1, 3) := dk_132 3 1 (dk_at dksX13_step_1 12 rfl rfl)
theorem dX13_step_38 : decode cX13_step 38 = .ok (.goto (-36), 3) := dk_167 255 220 (dk_at dksX13_step_1 15 rfl rfl)
theorem dX13_step_41 : decode cX13_step 41 = .ok (.iload_n 3, 1) := dk_29 (dk_at dksX13_step_1 18 rfl rfl)
theorem dX13_step_42 : decode cX13_step 42 = .ok (.ireturn, 1) := dk_172 (dk_at dksX13_step_1 19 rfl rfl)
abbrev cX13_walk : ByteArray := prog_12_method_3_code
def yX13_walk : MethodName := ⟨RX13, "walk", "(II)V"⟩
def dkwX13_walk_3 : List UInt8 := [177]
abbrev dktX13_walk_3 : List UInt8 := dkwX13_walk_3 ++ []
def dkwX13_walk_2 : List UInt8 := [42, 180, 0, 16, 21, 4, 50, 28, 46, 120, 128, 79, 42, 180, 0, 16, 29, 50, 28, 46, 62, 167, 255, 190]
abbrev dktX13_walk_2 : List UInt8 := dkwX13_walk_2 ++ dktX13_walk_3
def dkwX13_walk_1 : List UInt8 := [21, 4, 92, 46, 4, 96, 79, 21, 4, 28, 159, 0, 26, 42, 180, 0, 22, 29, 50, 21, 4, 92, 46, 4]
abbrev dktX13_walk_1 : List UInt8 := dkwX13_walk_1 ++ dktX13_walk_2
def dkwX13_walk_0 : List UInt8 := [27, 62, 29, 28, 159, 0, 67, 42, 180, 0, 16, 29, 50, 28, 46, 54, 4, 42, 180, 0, 19, 29, 50]
abbrev dktX13_walk_0 : List UInt8 := dkwX13_walk_0 ++ dktX13_walk_1
theorem dksX13_walk_0 : cX13_walk.data.toList.drop 0 = dktX13_walk_0 := by decide +kernel
theorem dksX13_walk_1 : cX13_walk.data.toList.drop 23 = dktX13_walk_1 := dk_seg dksX13_walk_0 23 rfl rfl
theorem dksX13_walk_2 : cX13_walk.data.toList.drop 47 = dktX13_walk_2 := dk_seg dksX13_walk_1 24 rfl rfl
theorem dksX13_walk_3 : cX13_walk.data.toList.drop 71 = dktX13_walk_3 := dk_seg dksX13_walk_2 24 rfl rfl
theorem dX13_walk_0 : decode cX13_walk 0 = .ok (.iload_n 1, 1) := dk_27 (dk_at dksX13_walk_0 0 rfl rfl)
theorem dX13_walk_1 : decode cX13_walk 1 = .ok (.istore_n 3, 1) := dk_62 (dk_at dksX13_walk_0 1 rfl rfl)
theorem dX13_walk_2 : decode cX13_walk 2 = .ok (.iload_n 3, 1) := dk_29 (dk_at dksX13_walk_0 2 rfl rfl)
theorem dX13_walk_3 : decode cX13_walk 3 = .ok (.iload_n 2, 1) := dk_28 (dk_at dksX13_walk_0 3 rfl rfl)
theorem dX13_walk_4 : decode cX13_walk 4 = .ok (.if_icmp .eq 67, 3) := dk_159 0 67 (dk_at dksX13_walk_0 4 rfl rfl)
theorem dX13_walk_7 : decode cX13_walk 7 = .ok (.aload_n 0, 1) := dk_42 (dk_at dksX13_walk_0 7 rfl rfl)
theorem dX13_walk_8 : decode cX13_walk 8 = .ok (.getfield 16, 3) := dk_180 0 16 (dk_at dksX13_walk_0 8 rfl rfl)
theorem dX13_walk_11 : decode cX13_walk 11 = .ok (.iload_n 3, 1) := dk_29 (dk_at dksX13_walk_0 11 rfl rfl)
theorem dX13_walk_12 : decode cX13_walk 12 = .ok (.aaload, 1) := dk_50 (dk_at dksX13_walk_0 12 rfl rfl)
theorem dX13_walk_13 : decode cX13_walk 13 = .ok (.iload_n 2, 1) := dk_28 (dk_at dksX13_walk_0 13 rfl rfl)
theorem dX13_walk_14 : decode cX13_walk 14 = .ok (.iaload, 1) := dk_46 (dk_at dksX13_walk_0 14 rfl rfl)
theorem dX13_walk_15 : decode cX13_walk 15 = .ok (.istore 4, 2) := dk_54 4 (dk_at dksX13_walk_0 15 rfl rfl)
theorem dX13_walk_17 : decode cX13_walk 17 = .ok (.aload_n 0, 1) := dk_42 (dk_at dksX13_walk_0 17 rfl rfl)
theorem dX13_walk_18 : decode cX13_walk 18 = .ok (.getfield 19, 3) := dk_180 0 19 (dk_at dksX13_walk_0 18 rfl rfl)
theorem dX13_walk_21 : decode cX13_walk 21 = .ok (.iload_n 3, 1) := dk_29 (dk_at dksX13_walk_0 21 rfl rfl)
theorem dX13_walk_22 : decode cX13_walk 22 = .ok (.aaload, 1) := dk_50 (dk_at dksX13_walk_0 22 rfl rfl)
theorem dX13_walk_23 : decode cX13_walk 23 = .ok (.iload 4, 2) := dk_21 4 (dk_at dksX13_walk_1 0 rfl rfl)
theorem dX13_walk_25 : decode cX13_walk 25 = .ok (.dup2, 1) := dk_92 (dk_at dksX13_walk_1 2 rfl rfl)
theorem dX13_walk_26 : decode cX13_walk 26 = .ok (.iaload, 1) := dk_46 (dk_at dksX13_walk_1 3 rfl rfl)
theorem dX13_walk_27 : decode cX13_walk 27 = .ok (.iconst 1, 1) := dk_4 (dk_at dksX13_walk_1 4 rfl rfl)
theorem dX13_walk_28 : decode cX13_walk 28 = .ok (.iadd, 1) := dk_96 (dk_at dksX13_walk_1 5 rfl rfl)
theorem dX13_walk_29 : decode cX13_walk 29 = .ok (.iastore, 1) := dk_79 (dk_at dksX13_walk_1 6 rfl rfl)
theorem dX13_walk_30 : decode cX13_walk 30 = .ok (.iload 4, 2) := dk_21 4 (dk_at dksX13_walk_1 7 rfl rfl)
theorem dX13_walk_32 : decode cX13_walk 32 = .ok (.iload_n 2, 1) := dk_28 (dk_at dksX13_walk_1 9 rfl rfl)
theorem dX13_walk_33 : decode cX13_walk 33 = .ok (.if_icmp .eq 26, 3) := dk_159 0 26 (dk_at dksX13_walk_1 10 rfl rfl)
theorem dX13_walk_36 : decode cX13_walk 36 = .ok (.aload_n 0, 1) := dk_42 (dk_at dksX13_walk_1 13 rfl rfl)
theorem dX13_walk_37 : decode cX13_walk 37 = .ok (.getfield 22, 3) := dk_180 0 22 (dk_at dksX13_walk_1 14 rfl rfl)
theorem dX13_walk_40 : decode cX13_walk 40 = .ok (.iload_n 3, 1) := dk_29 (dk_at dksX13_walk_1 17 rfl rfl)
theorem dX13_walk_41 : decode cX13_walk 41 = .ok (.aaload, 1) := dk_50 (dk_at dksX13_walk_1 18 rfl rfl)
theorem dX13_walk_42 : decode cX13_walk 42 = .ok (.iload 4, 2) := dk_21 4 (dk_at dksX13_walk_1 19 rfl rfl)
theorem dX13_walk_44 : decode cX13_walk 44 = .ok (.dup2, 1) := dk_92 (dk_at dksX13_walk_1 21 rfl rfl)
theorem dX13_walk_45 : decode cX13_walk 45 = .ok (.iaload, 1) := dk_46 (dk_at dksX13_walk_1 22 rfl rfl)
theorem dX13_walk_46 : decode cX13_walk 46 = .ok (.iconst 1, 1) := dk_4 (dk_at dksX13_walk_1 23 rfl rfl)
theorem dX13_walk_47 : decode cX13_walk 47 = .ok (.aload_n 0, 1) := dk_42 (dk_at dksX13_walk_2 0 rfl rfl)
theorem dX13_walk_48 : decode cX13_walk 48 = .ok (.getfield 16, 3) := dk_180 0 16 (dk_at dksX13_walk_2 1 rfl rfl)
theorem dX13_walk_51 : decode cX13_walk 51 = .ok (.iload 4, 2) := dk_21 4 (dk_at dksX13_walk_2 4 rfl rfl)
theorem dX13_walk_53 : decode cX13_walk 53 = .ok (.aaload, 1) := dk_50 (dk_at dksX13_walk_2 6 rfl rfl)
theorem dX13_walk_54 : decode cX13_walk 54 = .ok (.iload_n 2, 1) := dk_28 (dk_at dksX13_walk_2 7 rfl rfl)
theorem dX13_walk_55 : decode cX13_walk 55 = .ok (.iaload, 1) := dk_46 (dk_at dksX13_walk_2 8 rfl rfl)
theorem dX13_walk_56 : decode cX13_walk 56 = .ok (.ishl, 1) := dk_120 (dk_at dksX13_walk_2 9 rfl rfl)
theorem dX13_walk_57 : decode cX13_walk 57 = .ok (.ior, 1) := dk_128 (dk_at dksX13_walk_2 10 rfl rfl)
theorem dX13_walk_58 : decode cX13_walk 58 = .ok (.iastore, 1) := dk_79 (dk_at dksX13_walk_2 11 rfl rfl)
theorem dX13_walk_59 : decode cX13_walk 59 = .ok (.aload_n 0, 1) := dk_42 (dk_at dksX13_walk_2 12 rfl rfl)
theorem dX13_walk_60 : decode cX13_walk 60 = .ok (.getfield 16, 3) := dk_180 0 16 (dk_at dksX13_walk_2 13 rfl rfl)
theorem dX13_walk_63 : decode cX13_walk 63 = .ok (.iload_n 3, 1) := dk_29 (dk_at dksX13_walk_2 16 rfl rfl)
theorem dX13_walk_64 : decode cX13_walk 64 = .ok (.aaload, 1) := dk_50 (dk_at dksX13_walk_2 17 rfl rfl)
theorem dX13_walk_65 : decode cX13_walk 65 = .ok (.iload_n 2, 1) := dk_28 (dk_at dksX13_walk_2 18 rfl rfl)
theorem dX13_walk_66 : decode cX13_walk 66 = .ok (.iaload, 1) := dk_46 (dk_at dksX13_walk_2 19 rfl rfl)
theorem dX13_walk_67 : decode cX13_walk 67 = .ok (.istore_n 3, 1) := dk_62 (dk_at dksX13_walk_2 20 rfl rfl)
theorem dX13_walk_68 : decode cX13_walk 68 = .ok (.goto (-66), 3) := dk_167 255 190 (dk_at dksX13_walk_2 21 rfl rfl)
theorem dX13_walk_71 : decode cX13_walk 71 = .ok (.return_, 1) := dk_177 (dk_at dksX13_walk_3 0 rfl rfl)
abbrev cX13_locks : ByteArray := prog_12_method_4_code
def yX13_locks : MethodName := ⟨RX13, "locks", "()Z"⟩
def dkwX13_locks_10 : List UInt8 := [167, 0, 4, 3, 62, 132, 5, 1, 167, 255, 207, 132, 4, 1, 167, 255, 179, 29, 172]
abbrev dktX13_locks_10 : List UInt8 := dkwX13_locks_10 ++ []
def dkwX13_locks_9 : List UInt8 := [180, 0, 32, 21, 4, 21, 5, 182, 0, 71, 153, 0, 17, 43, 21, 4, 50, 21, 5, 51, 154, 0, 7, 4]
abbrev dktX13_locks_9 : List UInt8 := dkwX13_locks_9 ++ dktX13_locks_10
def dkwX13_locks_8 : List UInt8 := [153, 0, 64, 3, 54, 5, 21, 5, 42, 180, 0, 32, 180, 0, 47, 162, 0, 43, 29, 154, 0, 27, 42]
abbrev dktX13_locks_8 : List UInt8 := dkwX13_locks_8 ++ dktX13_locks_9
def dkwX13_locks_7 : List UInt8 := [167, 255, 107, 3, 62, 3, 54, 4, 21, 4, 42, 180, 0, 32, 180, 0, 47, 162, 0, 71, 42, 180, 0, 43]
abbrev dktX13_locks_7 : List UInt8 := dkwX13_locks_7 ++ dktX13_locks_8
def dkwX13_locks_6 : List UInt8 := [21, 5, 153, 0, 7, 4, 167, 0, 4, 3, 61, 132, 4, 1, 167, 255, 138, 132, 3, 1, 167, 255, 118]
abbrev dktX13_locks_6 : List UInt8 := dkwX13_locks_6 ++ dktX13_locks_7
def dkwX13_locks_5 : List UInt8 := [154, 0, 6, 3, 54, 5, 132, 6, 1, 167, 255, 210, 43, 29, 50, 21, 4, 21, 5, 84, 28, 154, 0, 8]
abbrev dktX13_locks_5 : List UInt8 := dkwX13_locks_5 ++ dktX13_locks_6
def dkwX13_locks_4 : List UInt8 := [180, 0, 22, 29, 50, 21, 4, 46, 21, 6, 122, 4, 126, 4, 160, 0, 16, 43, 21, 4, 50, 21, 6, 51]
abbrev dktX13_locks_4 : List UInt8 := dkwX13_locks_4 ++ dktX13_locks_5
def dkwX13_locks_3 : List UInt8 := [167, 0, 81, 4, 54, 5, 3, 54, 6, 21, 6, 42, 180, 0, 32, 180, 0, 47, 162, 0, 40, 42]
abbrev dktX13_locks_3 : List UInt8 := dkwX13_locks_3 ++ dktX13_locks_4
def dkwX13_locks_2 : List UInt8 := [42, 180, 0, 32, 29, 21, 4, 182, 0, 71, 153, 0, 93, 43, 29, 50, 21, 4, 51, 153, 0, 6]
abbrev dktX13_locks_2 : List UInt8 := dkwX13_locks_2 ++ dktX13_locks_3
def dkwX13_locks_1 : List UInt8 := [180, 0, 32, 180, 0, 47, 162, 0, 133, 3, 54, 4, 21, 4, 42, 180, 0, 32, 180, 0, 47, 162, 0, 112]
abbrev dktX13_locks_1 : List UInt8 := dkwX13_locks_1 ++ dktX13_locks_2
def dkwX13_locks_0 : List UInt8 := [16, 24, 16, 24, 197, 0, 75, 2, 76, 42, 180, 0, 43, 61, 28, 153, 0, 151, 3, 61, 3, 62, 29, 42]
abbrev dktX13_locks_0 : List UInt8 := dkwX13_locks_0 ++ dktX13_locks_1
theorem dksX13_locks_0 : cX13_locks.data.toList.drop 0 = dktX13_locks_0 := by decide +kernel
theorem dksX13_locks_1 : cX13_locks.data.toList.drop 24 = dktX13_locks_1 := dk_seg dksX13_locks_0 24 rfl rfl
theorem dksX13_locks_2 : cX13_locks.data.toList.drop 48 = dktX13_locks_2 := dk_seg dksX13_locks_1 24 rfl rfl
theorem dksX13_locks_3 : cX13_locks.data.toList.drop 70 = dktX13_locks_3 := dk_seg dksX13_locks_2 22 rfl rfl
theorem dksX13_locks_4 : cX13_locks.data.toList.drop 92 = dktX13_locks_4 := dk_seg dksX13_locks_3 22 rfl rfl
theorem dksX13_locks_5 : cX13_locks.data.toList.drop 116 = dktX13_locks_5 := dk_seg dksX13_locks_4 24 rfl rfl
theorem dksX13_locks_6 : cX13_locks.data.toList.drop 140 = dktX13_locks_6 := dk_seg dksX13_locks_5 24 rfl rfl
theorem dksX13_locks_7 : cX13_locks.data.toList.drop 163 = dktX13_locks_7 := dk_seg dksX13_locks_6 23 rfl rfl
theorem dksX13_locks_8 : cX13_locks.data.toList.drop 187 = dktX13_locks_8 := dk_seg dksX13_locks_7 24 rfl rfl
theorem dksX13_locks_9 : cX13_locks.data.toList.drop 210 = dktX13_locks_9 := dk_seg dksX13_locks_8 23 rfl rfl
theorem dksX13_locks_10 : cX13_locks.data.toList.drop 234 = dktX13_locks_10 := dk_seg dksX13_locks_9 24 rfl rfl
theorem dX13_locks_0 : decode cX13_locks 0 = .ok (.bipush 24, 2) := dk_16 24 (dk_at dksX13_locks_0 0 rfl rfl)
theorem dX13_locks_2 : decode cX13_locks 2 = .ok (.bipush 24, 2) := dk_16 24 (dk_at dksX13_locks_0 2 rfl rfl)
theorem dX13_locks_4 : decode cX13_locks 4 = .ok (.multianewarray 75 2, 4) := by decide +kernel
theorem dX13_locks_8 : decode cX13_locks 8 = .ok (.astore_n 1, 1) := dk_76 (dk_at dksX13_locks_0 8 rfl rfl)
theorem dX13_locks_9 : decode cX13_locks 9 = .ok (.aload_n 0, 1) := dk_42 (dk_at dksX13_locks_0 9 rfl rfl)
theorem dX13_locks_10 : decode cX13_locks 10 = .ok (.getfield 43, 3) := dk_180 0 43 (dk_at dksX13_locks_0 10 rfl rfl)
theorem dX13_locks_13 : decode cX13_locks 13 = .ok (.istore_n 2, 1) := dk_61 (dk_at dksX13_locks_0 13 rfl rfl)
theorem dX13_locks_14 : decode cX13_locks 14 = .ok (.iload_n 2, 1) := dk_28 (dk_at dksX13_locks_0 14 rfl rfl)
theorem dX13_locks_15 : decode cX13_locks 15 = .ok (.ifCond .eq 151, 3) := dk_153 0 151 (dk_at dksX13_locks_0 15 rfl rfl)
theorem dX13_locks_18 : decode cX13_locks 18 = .ok (.iconst 0, 1) := dk_3 (dk_at dksX13_locks_0 18 rfl rfl)
theorem dX13_locks_19 : decode cX13_locks 19 = .ok (.istore_n 2, 1) := dk_61 (dk_at dksX13_locks_0 19 rfl rfl)
theorem dX13_locks_20 : decode cX13_locks 20 = .ok (.iconst 0, 1) := dk_3 (dk_at dksX13_locks_0 20 rfl rfl)
theorem dX13_locks_21 : decode cX13_locks 21 = .ok (.istore_n 3, 1) := dk_62 (dk_at dksX13_locks_0 21 rfl rfl)
theorem dX13_locks_22 : decode cX13_locks 22 = .ok (.iload_n 3, 1) := dk_29 (dk_at dksX13_locks_0 22 rfl rfl)
theorem dX13_locks_23 : decode cX13_locks 23 = .ok (.aload_n 0, 1) := dk_42 (dk_at dksX13_locks_0 23 rfl rfl)
theorem dX13_locks_24 : decode cX13_locks 24 = .ok (.getfield 32, 3) := dk_180 0 32 (dk_at dksX13_locks_1 0 rfl rfl)
theorem dX13_locks_27 : decode cX13_locks 27 = .ok (.getfield 47, 3) := dk_180 0 47 (dk_at dksX13_locks_1 3 rfl rfl)
theorem dX13_locks_30 : decode cX13_locks 30 = .ok (.if_icmp .ge 133, 3) := dk_162 0 133 (dk_at dksX13_locks_1 6 rfl rfl)
theorem dX13_locks_33 : decode cX13_locks 33 = .ok (.iconst 0, 1) := dk_3 (dk_at dksX13_locks_1 9 rfl rfl)
theorem dX13_locks_34 : decode cX13_locks 34 = .ok (.istore 4, 2) := dk_54 4 (dk_at dksX13_locks_1 10 rfl rfl)
theorem dX13_locks_36 : decode cX13_locks 36 = .ok (.iload 4, 2) := dk_21 4 (dk_at dksX13_locks_1 12 rfl rfl)
theorem dX13_locks_38 : decode cX13_locks 38 = .ok (.aload_n 0, 1) := dk_42 (dk_at dksX13_locks_1 14 rfl rfl)
theorem dX13_locks_39 : decode cX13_locks 39 = .ok (.getfield 32, 3) := dk_180 0 32 (dk_at dksX13_locks_1 15 rfl rfl)
theorem dX13_locks_42 : decode cX13_locks 42 = .ok (.getfield 47, 3) := dk_180 0 47 (dk_at dksX13_locks_1 18 rfl rfl)
theorem dX13_locks_45 : decode cX13_locks 45 = .ok (.if_icmp .ge 112, 3) := dk_162 0 112 (dk_at dksX13_locks_1 21 rfl rfl)
theorem dX13_locks_48 : decode cX13_locks 48 = .ok (.aload_n 0, 1) := dk_42 (dk_at dksX13_locks_2 0 rfl rfl)
theorem dX13_locks_49 : decode cX13_locks 49 = .ok (.getfield 32, 3) := dk_180 0 32 (dk_at dksX13_locks_2 1 rfl rfl)
theorem dX13_locks_52 : decode cX13_locks 52 = .ok (.iload_n 3, 1) := dk_29 (dk_at dksX13_locks_2 4 rfl rfl)
theorem dX13_locks_53 : decode cX13_locks 53 = .ok (.iload 4, 2) := dk_21 4 (dk_at dksX13_locks_2 5 rfl rfl)
theorem dX13_locks_55 : decode cX13_locks 55 = .ok (.invokevirtual 71, 3) := dk_182 0 71 (dk_at dksX13_locks_2 7 rfl rfl)
theorem dX13_locks_58 : decode cX13_locks 58 = .ok (.ifCond .eq 93, 3) := dk_153 0 93 (dk_at dksX13_locks_2 10 rfl rfl)
theorem dX13_locks_61 : decode cX13_locks 61 = .ok (.aload_n 1, 1) := dk_43 (dk_at dksX13_locks_2 13 rfl rfl)
theorem dX13_locks_62 : decode cX13_locks 62 = .ok (.iload_n 3, 1) := dk_29 (dk_at dksX13_locks_2 14 rfl rfl)
theorem dX13_locks_63 : decode cX13_locks 63 = .ok (.aaload, 1) := dk_50 (dk_at dksX13_locks_2 15 rfl rfl)
theorem dX13_locks_64 : decode cX13_locks 64 = .ok (.iload 4, 2) := dk_21 4 (dk_at dksX13_locks_2 16 rfl rfl)
theorem dX13_locks_66 : decode cX13_locks 66 = .ok (.baload, 1) := dk_51 (dk_at dksX13_locks_2 18 rfl rfl)
theorem dX13_locks_67 : decode cX13_locks 67 = .ok (.ifCond .eq 6, 3) := dk_153 0 6 (dk_at dksX13_locks_2 19 rfl rfl)
theorem dX13_locks_70 : decode cX13_locks 70 = .ok (.goto 81, 3) := dk_167 0 81 (dk_at dksX13_locks_3 0 rfl rfl)
theorem dX13_locks_73 : decode cX13_locks 73 = .ok (.iconst 1, 1) := dk_4 (dk_at dksX13_locks_3 3 rfl rfl)
theorem dX13_locks_74 : decode cX13_locks 74 = .ok (.istore 5, 2) := dk_54 5 (dk_at dksX13_locks_3 4 rfl rfl)
theorem dX13_locks_76 : decode cX13_locks 76 = .ok (.iconst 0, 1) := dk_3 (dk_at dksX13_locks_3 6 rfl rfl)
theorem dX13_locks_77 : decode cX13_locks 77 = .ok (.istore 6, 2) := dk_54 6 (dk_at dksX13_locks_3 7 rfl rfl)
theorem dX13_locks_79 : decode cX13_locks 79 = .ok (.iload 6, 2) := dk_21 6 (dk_at dksX13_locks_3 9 rfl rfl)
theorem dX13_locks_81 : decode cX13_locks 81 = .ok (.aload_n 0, 1) := dk_42 (dk_at dksX13_locks_3 11 rfl rfl)
theorem dX13_locks_82 : decode cX13_locks 82 = .ok (.getfield 32, 3) := dk_180 0 32 (dk_at dksX13_locks_3 12 rfl rfl)
theorem dX13_locks_85 : decode cX13_locks 85 = .ok (.getfield 47, 3) := dk_180 0 47 (dk_at dksX13_locks_3 15 rfl rfl)
theorem dX13_locks_88 : decode cX13_locks 88 = .ok (.if_icmp .ge 40, 3) := dk_162 0 40 (dk_at dksX13_locks_3 18 rfl rfl)
theorem dX13_locks_91 : decode cX13_locks 91 = .ok (.aload_n 0, 1) := dk_42 (dk_at dksX13_locks_3 21 rfl rfl)
theorem dX13_locks_92 : decode cX13_locks 92 = .ok (.getfield 22, 3) := dk_180 0 22 (dk_at dksX13_locks_4 0 rfl rfl)
theorem dX13_locks_95 : decode cX13_locks 95 = .ok (.iload_n 3, 1) := dk_29 (dk_at dksX13_locks_4 3 rfl rfl)
theorem dX13_locks_96 : decode cX13_locks 96 = .ok (.aaload, 1) := dk_50 (dk_at dksX13_locks_4 4 rfl rfl)
theorem dX13_locks_97 : decode cX13_locks 97 = .ok (.iload 4, 2) := dk_21 4 (dk_at dksX13_locks_4 5 rfl rfl)
theorem dX13_locks_99 : decode cX13_locks 99 = .ok (.iaload, 1) := dk_46 (dk_at dksX13_locks_4 7 rfl rfl)
theorem dX13_locks_100 : decode cX13_locks 100 = .ok (.iload 6, 2) := dk_21 6 (dk_at dksX13_locks_4 8 rfl rfl)
theorem dX13_locks_102 : decode cX13_locks 102 = .ok (.ishr, 1) := dk_122 (dk_at dksX13_locks_4 10 rfl rfl)
theorem dX13_locks_103 : decode cX13_locks 103 = .ok (.iconst 1, 1) := dk_4 (dk_at dksX13_locks_4 11 rfl rfl)
theorem dX13_locks_104 : decode cX13_locks 104 = .ok (.iand, 1) := dk_126 (dk_at dksX13_locks_4 12 rfl rfl)
theorem dX13_locks_105 : decode cX13_locks 105 = .ok (.iconst 1, 1) := dk_4 (dk_at dksX13_locks_4 13 rfl rfl)
theorem dX13_locks_106 : decode cX13_locks 106 = .ok (.if_icmp .ne 16, 3) := dk_160 0 16 (dk_at dksX13_locks_4 14 rfl rfl)
theorem dX13_locks_109 : decode cX13_locks 109 = .ok (.aload_n 1, 1) := dk_43 (dk_at dksX13_locks_4 17 rfl rfl)
theorem dX13_locks_110 : decode cX13_locks 110 = .ok (.iload 4, 2) := dk_21 4 (dk_at dksX13_locks_4 18 rfl rfl)
theorem dX13_locks_112 : decode cX13_locks 112 = .ok (.aaload, 1) := dk_50 (dk_at dksX13_locks_4 20 rfl rfl)
theorem dX13_locks_113 : decode cX13_locks 113 = .ok (.iload 6, 2) := dk_21 6 (dk_at dksX13_locks_4 21 rfl rfl)
theorem dX13_locks_115 : decode cX13_locks 115 = .ok (.baload, 1) := dk_51 (dk_at dksX13_locks_4 23 rfl rfl)
theorem dX13_locks_116 : decode cX13_locks 116 = .ok (.ifCond .ne 6, 3) := dk_154 0 6 (dk_at dksX13_locks_5 0 rfl rfl)
theorem dX13_locks_119 : decode cX13_locks 119 = .ok (.iconst 0, 1) := dk_3 (dk_at dksX13_locks_5 3 rfl rfl)
theorem dX13_locks_120 : decode cX13_locks 120 = .ok (.istore 5, 2) := dk_54 5 (dk_at dksX13_locks_5 4 rfl rfl)
theorem dX13_locks_122 : decode cX13_locks 122 = .ok (.iinc 6 1, 3) := dk_132 6 1 (dk_at dksX13_locks_5 6 rfl rfl)
theorem dX13_locks_125 : decode cX13_locks 125 = .ok (.goto (-46), 3) := dk_167 255 210 (dk_at dksX13_locks_5 9 rfl rfl)
theorem dX13_locks_128 : decode cX13_locks 128 = .ok (.aload_n 1, 1) := dk_43 (dk_at dksX13_locks_5 12 rfl rfl)
theorem dX13_locks_129 : decode cX13_locks 129 = .ok (.iload_n 3, 1) := dk_29 (dk_at dksX13_locks_5 13 rfl rfl)
theorem dX13_locks_130 : decode cX13_locks 130 = .ok (.aaload, 1) := dk_50 (dk_at dksX13_locks_5 14 rfl rfl)
theorem dX13_locks_131 : decode cX13_locks 131 = .ok (.iload 4, 2) := dk_21 4 (dk_at dksX13_locks_5 15 rfl rfl)
theorem dX13_locks_133 : decode cX13_locks 133 = .ok (.iload 5, 2) := dk_21 5 (dk_at dksX13_locks_5 17 rfl rfl)
theorem dX13_locks_135 : decode cX13_locks 135 = .ok (.bastore, 1) := dk_84 (dk_at dksX13_locks_5 19 rfl rfl)
theorem dX13_locks_136 : decode cX13_locks 136 = .ok (.iload_n 2, 1) := dk_28 (dk_at dksX13_locks_5 20 rfl rfl)
theorem dX13_locks_137 : decode cX13_locks 137 = .ok (.ifCond .ne 8, 3) := dk_154 0 8 (dk_at dksX13_locks_5 21 rfl rfl)
theorem dX13_locks_140 : decode cX13_locks 140 = .ok (.iload 5, 2) := dk_21 5 (dk_at dksX13_locks_6 0 rfl rfl)
theorem dX13_locks_142 : decode cX13_locks 142 = .ok (.ifCond .eq 7, 3) := dk_153 0 7 (dk_at dksX13_locks_6 2 rfl rfl)
theorem dX13_locks_145 : decode cX13_locks 145 = .ok (.iconst 1, 1) := dk_4 (dk_at dksX13_locks_6 5 rfl rfl)
theorem dX13_locks_146 : decode cX13_locks 146 = .ok (.goto 4, 3) := dk_167 0 4 (dk_at dksX13_locks_6 6 rfl rfl)
theorem dX13_locks_149 : decode cX13_locks 149 = .ok (.iconst 0, 1) := dk_3 (dk_at dksX13_locks_6 9 rfl rfl)
theorem dX13_locks_150 : decode cX13_locks 150 = .ok (.istore_n 2, 1) := dk_61 (dk_at dksX13_locks_6 10 rfl rfl)
theorem dX13_locks_151 : decode cX13_locks 151 = .ok (.iinc 4 1, 3) := dk_132 4 1 (dk_at dksX13_locks_6 11 rfl rfl)
theorem dX13_locks_154 : decode cX13_locks 154 = .ok (.goto (-118), 3) := dk_167 255 138 (dk_at dksX13_locks_6 14 rfl rfl)
theorem dX13_locks_157 : decode cX13_locks 157 = .ok (.iinc 3 1, 3) := dk_132 3 1 (dk_at dksX13_locks_6 17 rfl rfl)
theorem dX13_locks_160 : decode cX13_locks 160 = .ok (.goto (-138), 3) := dk_167 255 118 (dk_at dksX13_locks_6 20 rfl rfl)
theorem dX13_locks_163 : decode cX13_locks 163 = .ok (.goto (-149), 3) := dk_167 255 107 (dk_at dksX13_locks_7 0 rfl rfl)
theorem dX13_locks_166 : decode cX13_locks 166 = .ok (.iconst 0, 1) := dk_3 (dk_at dksX13_locks_7 3 rfl rfl)
theorem dX13_locks_167 : decode cX13_locks 167 = .ok (.istore_n 3, 1) := dk_62 (dk_at dksX13_locks_7 4 rfl rfl)
theorem dX13_locks_168 : decode cX13_locks 168 = .ok (.iconst 0, 1) := dk_3 (dk_at dksX13_locks_7 5 rfl rfl)
theorem dX13_locks_169 : decode cX13_locks 169 = .ok (.istore 4, 2) := dk_54 4 (dk_at dksX13_locks_7 6 rfl rfl)
theorem dX13_locks_171 : decode cX13_locks 171 = .ok (.iload 4, 2) := dk_21 4 (dk_at dksX13_locks_7 8 rfl rfl)
theorem dX13_locks_173 : decode cX13_locks 173 = .ok (.aload_n 0, 1) := dk_42 (dk_at dksX13_locks_7 10 rfl rfl)
theorem dX13_locks_174 : decode cX13_locks 174 = .ok (.getfield 32, 3) := dk_180 0 32 (dk_at dksX13_locks_7 11 rfl rfl)
theorem dX13_locks_177 : decode cX13_locks 177 = .ok (.getfield 47, 3) := dk_180 0 47 (dk_at dksX13_locks_7 14 rfl rfl)
theorem dX13_locks_180 : decode cX13_locks 180 = .ok (.if_icmp .ge 71, 3) := dk_162 0 71 (dk_at dksX13_locks_7 17 rfl rfl)
theorem dX13_locks_183 : decode cX13_locks 183 = .ok (.aload_n 0, 1) := dk_42 (dk_at dksX13_locks_7 20 rfl rfl)
theorem dX13_locks_184 : decode cX13_locks 184 = .ok (.getfield 43, 3) := dk_180 0 43 (dk_at dksX13_locks_7 21 rfl rfl)
theorem dX13_locks_187 : decode cX13_locks 187 = .ok (.ifCond .eq 64, 3) := dk_153 0 64 (dk_at dksX13_locks_8 0 rfl rfl)
theorem dX13_locks_190 : decode cX13_locks 190 = .ok (.iconst 0, 1) := dk_3 (dk_at dksX13_locks_8 3 rfl rfl)
theorem dX13_locks_191 : decode cX13_locks 191 = .ok (.istore 5, 2) := dk_54 5 (dk_at dksX13_locks_8 4 rfl rfl)
theorem dX13_locks_193 : decode cX13_locks 193 = .ok (.iload 5, 2) := dk_21 5 (dk_at dksX13_locks_8 6 rfl rfl)
theorem dX13_locks_195 : decode cX13_locks 195 = .ok (.aload_n 0, 1) := dk_42 (dk_at dksX13_locks_8 8 rfl rfl)
theorem dX13_locks_196 : decode cX13_locks 196 = .ok (.getfield 32, 3) := dk_180 0 32 (dk_at dksX13_locks_8 9 rfl rfl)
theorem dX13_locks_199 : decode cX13_locks 199 = .ok (.getfield 47, 3) := dk_180 0 47 (dk_at dksX13_locks_8 12 rfl rfl)
theorem dX13_locks_202 : decode cX13_locks 202 = .ok (.if_icmp .ge 43, 3) := dk_162 0 43 (dk_at dksX13_locks_8 15 rfl rfl)
theorem dX13_locks_205 : decode cX13_locks 205 = .ok (.iload_n 3, 1) := dk_29 (dk_at dksX13_locks_8 18 rfl rfl)
theorem dX13_locks_206 : decode cX13_locks 206 = .ok (.ifCond .ne 27, 3) := dk_154 0 27 (dk_at dksX13_locks_8 19 rfl rfl)
theorem dX13_locks_209 : decode cX13_locks 209 = .ok (.aload_n 0, 1) := dk_42 (dk_at dksX13_locks_8 22 rfl rfl)
theorem dX13_locks_210 : decode cX13_locks 210 = .ok (.getfield 32, 3) := dk_180 0 32 (dk_at dksX13_locks_9 0 rfl rfl)
theorem dX13_locks_213 : decode cX13_locks 213 = .ok (.iload 4, 2) := dk_21 4 (dk_at dksX13_locks_9 3 rfl rfl)
theorem dX13_locks_215 : decode cX13_locks 215 = .ok (.iload 5, 2) := dk_21 5 (dk_at dksX13_locks_9 5 rfl rfl)
theorem dX13_locks_217 : decode cX13_locks 217 = .ok (.invokevirtual 71, 3) := dk_182 0 71 (dk_at dksX13_locks_9 7 rfl rfl)
theorem dX13_locks_220 : decode cX13_locks 220 = .ok (.ifCond .eq 17, 3) := dk_153 0 17 (dk_at dksX13_locks_9 10 rfl rfl)
theorem dX13_locks_223 : decode cX13_locks 223 = .ok (.aload_n 1, 1) := dk_43 (dk_at dksX13_locks_9 13 rfl rfl)
theorem dX13_locks_224 : decode cX13_locks 224 = .ok (.iload 4, 2) := dk_21 4 (dk_at dksX13_locks_9 14 rfl rfl)
theorem dX13_locks_226 : decode cX13_locks 226 = .ok (.aaload, 1) := dk_50 (dk_at dksX13_locks_9 16 rfl rfl)
theorem dX13_locks_227 : decode cX13_locks 227 = .ok (.iload 5, 2) := dk_21 5 (dk_at dksX13_locks_9 17 rfl rfl)
theorem dX13_locks_229 : decode cX13_locks 229 = .ok (.baload, 1) := dk_51 (dk_at dksX13_locks_9 19 rfl rfl)
theorem dX13_locks_230 : decode cX13_locks 230 = .ok (.ifCond .ne 7, 3) := dk_154 0 7 (dk_at dksX13_locks_9 20 rfl rfl)
theorem dX13_locks_233 : decode cX13_locks 233 = .ok (.iconst 1, 1) := dk_4 (dk_at dksX13_locks_9 23 rfl rfl)
theorem dX13_locks_234 : decode cX13_locks 234 = .ok (.goto 4, 3) := dk_167 0 4 (dk_at dksX13_locks_10 0 rfl rfl)
theorem dX13_locks_237 : decode cX13_locks 237 = .ok (.iconst 0, 1) := dk_3 (dk_at dksX13_locks_10 3 rfl rfl)
theorem dX13_locks_238 : decode cX13_locks 238 = .ok (.istore_n 3, 1) := dk_62 (dk_at dksX13_locks_10 4 rfl rfl)
theorem dX13_locks_239 : decode cX13_locks 239 = .ok (.iinc 5 1, 3) := dk_132 5 1 (dk_at dksX13_locks_10 5 rfl rfl)
theorem dX13_locks_242 : decode cX13_locks 242 = .ok (.goto (-49), 3) := dk_167 255 207 (dk_at dksX13_locks_10 8 rfl rfl)
theorem dX13_locks_245 : decode cX13_locks 245 = .ok (.iinc 4 1, 3) := dk_132 4 1 (dk_at dksX13_locks_10 11 rfl rfl)
theorem dX13_locks_248 : decode cX13_locks 248 = .ok (.goto (-77), 3) := dk_167 255 179 (dk_at dksX13_locks_10 14 rfl rfl)
theorem dX13_locks_251 : decode cX13_locks 251 = .ok (.iload_n 3, 1) := dk_29 (dk_at dksX13_locks_10 17 rfl rfl)
theorem dX13_locks_252 : decode cX13_locks 252 = .ok (.ireturn, 1) := dk_172 (dk_at dksX13_locks_10 18 rfl rfl)
abbrev cX13_pattern : ByteArray := prog_12_method_9_code
def yX13_pattern : MethodName := ⟨RX13, "pattern", "()I"⟩
def dkwX13_pattern_3 : List UInt8 := [132, 2, 1, 167, 255, 188, 27, 172]
abbrev dktX13_pattern_3 : List UInt8 := dkwX13_pattern_3 ++ []
def dkwX13_pattern_2 : List UInt8 := [29, 46, 27, 164, 0, 14, 27, 42, 28, 29, 182, 0, 88, 184, 0, 91, 60, 132, 3, 1, 167, 255, 207]
abbrev dktX13_pattern_2 : List UInt8 := dkwX13_pattern_2 ++ dktX13_pattern_3
def dkwX13_pattern_1 : List UInt8 := [180, 0, 47, 162, 0, 44, 42, 180, 0, 32, 28, 29, 182, 0, 71, 153, 0, 26, 42, 180, 0, 19, 28, 50]
abbrev dktX13_pattern_1 : List UInt8 := dkwX13_pattern_1 ++ dktX13_pattern_2
def dkwX13_pattern_0 : List UInt8 := [3, 60, 3, 61, 28, 42, 180, 0, 32, 180, 0, 47, 162, 0, 63, 3, 62, 29, 42, 180, 0, 32]
abbrev dktX13_pattern_0 : List UInt8 := dkwX13_pattern_0 ++ dktX13_pattern_1
theorem dksX13_pattern_0 : cX13_pattern.data.toList.drop 0 = dktX13_pattern_0 := by decide +kernel
theorem dksX13_pattern_1 : cX13_pattern.data.toList.drop 22 = dktX13_pattern_1 := dk_seg dksX13_pattern_0 22 rfl rfl
theorem dksX13_pattern_2 : cX13_pattern.data.toList.drop 46 = dktX13_pattern_2 := dk_seg dksX13_pattern_1 24 rfl rfl
theorem dksX13_pattern_3 : cX13_pattern.data.toList.drop 69 = dktX13_pattern_3 := dk_seg dksX13_pattern_2 23 rfl rfl
theorem dX13_pattern_0 : decode cX13_pattern 0 = .ok (.iconst 0, 1) := dk_3 (dk_at dksX13_pattern_0 0 rfl rfl)
theorem dX13_pattern_1 : decode cX13_pattern 1 = .ok (.istore_n 1, 1) := dk_60 (dk_at dksX13_pattern_0 1 rfl rfl)
theorem dX13_pattern_2 : decode cX13_pattern 2 = .ok (.iconst 0, 1) := dk_3 (dk_at dksX13_pattern_0 2 rfl rfl)
theorem dX13_pattern_3 : decode cX13_pattern 3 = .ok (.istore_n 2, 1) := dk_61 (dk_at dksX13_pattern_0 3 rfl rfl)
theorem dX13_pattern_4 : decode cX13_pattern 4 = .ok (.iload_n 2, 1) := dk_28 (dk_at dksX13_pattern_0 4 rfl rfl)
theorem dX13_pattern_5 : decode cX13_pattern 5 = .ok (.aload_n 0, 1) := dk_42 (dk_at dksX13_pattern_0 5 rfl rfl)
theorem dX13_pattern_6 : decode cX13_pattern 6 = .ok (.getfield 32, 3) := dk_180 0 32 (dk_at dksX13_pattern_0 6 rfl rfl)
theorem dX13_pattern_9 : decode cX13_pattern 9 = .ok (.getfield 47, 3) := dk_180 0 47 (dk_at dksX13_pattern_0 9 rfl rfl)
theorem dX13_pattern_12 : decode cX13_pattern 12 = .ok (.if_icmp .ge 63, 3) := dk_162 0 63 (dk_at dksX13_pattern_0 12 rfl rfl)
theorem dX13_pattern_15 : decode cX13_pattern 15 = .ok (.iconst 0, 1) := dk_3 (dk_at dksX13_pattern_0 15 rfl rfl)
theorem dX13_pattern_16 : decode cX13_pattern 16 = .ok (.istore_n 3, 1) := dk_62 (dk_at dksX13_pattern_0 16 rfl rfl)
theorem dX13_pattern_17 : decode cX13_pattern 17 = .ok (.iload_n 3, 1) := dk_29 (dk_at dksX13_pattern_0 17 rfl rfl)
theorem dX13_pattern_18 : decode cX13_pattern 18 = .ok (.aload_n 0, 1) := dk_42 (dk_at dksX13_pattern_0 18 rfl rfl)
theorem dX13_pattern_19 : decode cX13_pattern 19 = .ok (.getfield 32, 3) := dk_180 0 32 (dk_at dksX13_pattern_0 19 rfl rfl)
theorem dX13_pattern_22 : decode cX13_pattern 22 = .ok (.getfield 47, 3) := dk_180 0 47 (dk_at dksX13_pattern_1 0 rfl rfl)
theorem dX13_pattern_25 : decode cX13_pattern 25 = .ok (.if_icmp .ge 44, 3) := dk_162 0 44 (dk_at dksX13_pattern_1 3 rfl rfl)
theorem dX13_pattern_28 : decode cX13_pattern 28 = .ok (.aload_n 0, 1) := dk_42 (dk_at dksX13_pattern_1 6 rfl rfl)
theorem dX13_pattern_29 : decode cX13_pattern 29 = .ok (.getfield 32, 3) := dk_180 0 32 (dk_at dksX13_pattern_1 7 rfl rfl)
theorem dX13_pattern_32 : decode cX13_pattern 32 = .ok (.iload_n 2, 1) := dk_28 (dk_at dksX13_pattern_1 10 rfl rfl)
theorem dX13_pattern_33 : decode cX13_pattern 33 = .ok (.iload_n 3, 1) := dk_29 (dk_at dksX13_pattern_1 11 rfl rfl)
theorem dX13_pattern_34 : decode cX13_pattern 34 = .ok (.invokevirtual 71, 3) := dk_182 0 71 (dk_at dksX13_pattern_1 12 rfl rfl)
theorem dX13_pattern_37 : decode cX13_pattern 37 = .ok (.ifCond .eq 26, 3) := dk_153 0 26 (dk_at dksX13_pattern_1 15 rfl rfl)
theorem dX13_pattern_40 : decode cX13_pattern 40 = .ok (.aload_n 0, 1) := dk_42 (dk_at dksX13_pattern_1 18 rfl rfl)
theorem dX13_pattern_41 : decode cX13_pattern 41 = .ok (.getfield 19, 3) := dk_180 0 19 (dk_at dksX13_pattern_1 19 rfl rfl)
theorem dX13_pattern_44 : decode cX13_pattern 44 = .ok (.iload_n 2, 1) := dk_28 (dk_at dksX13_pattern_1 22 rfl rfl)
theorem dX13_pattern_45 : decode cX13_pattern 45 = .ok (.aaload, 1) := dk_50 (dk_at dksX13_pattern_1 23 rfl rfl)
theorem dX13_pattern_46 : decode cX13_pattern 46 = .ok (.iload_n 3, 1) := dk_29 (dk_at dksX13_pattern_2 0 rfl rfl)
theorem dX13_pattern_47 : decode cX13_pattern 47 = .ok (.iaload, 1) := dk_46 (dk_at dksX13_pattern_2 1 rfl rfl)
theorem dX13_pattern_48 : decode cX13_pattern 48 = .ok (.iload_n 1, 1) := dk_27 (dk_at dksX13_pattern_2 2 rfl rfl)
theorem dX13_pattern_49 : decode cX13_pattern 49 = .ok (.if_icmp .le 14, 3) := dk_164 0 14 (dk_at dksX13_pattern_2 3 rfl rfl)
theorem dX13_pattern_52 : decode cX13_pattern 52 = .ok (.iload_n 1, 1) := dk_27 (dk_at dksX13_pattern_2 6 rfl rfl)
theorem dX13_pattern_53 : decode cX13_pattern 53 = .ok (.aload_n 0, 1) := dk_42 (dk_at dksX13_pattern_2 7 rfl rfl)
theorem dX13_pattern_54 : decode cX13_pattern 54 = .ok (.iload_n 2, 1) := dk_28 (dk_at dksX13_pattern_2 8 rfl rfl)
theorem dX13_pattern_55 : decode cX13_pattern 55 = .ok (.iload_n 3, 1) := dk_29 (dk_at dksX13_pattern_2 9 rfl rfl)
theorem dX13_pattern_56 : decode cX13_pattern 56 = .ok (.invokevirtual 88, 3) := dk_182 0 88 (dk_at dksX13_pattern_2 10 rfl rfl)
theorem dX13_pattern_59 : decode cX13_pattern 59 = .ok (.invokestatic 91, 3) := dk_184 0 91 (dk_at dksX13_pattern_2 13 rfl rfl)
theorem dX13_pattern_62 : decode cX13_pattern 62 = .ok (.istore_n 1, 1) := dk_60 (dk_at dksX13_pattern_2 16 rfl rfl)
theorem dX13_pattern_63 : decode cX13_pattern 63 = .ok (.iinc 3 1, 3) := dk_132 3 1 (dk_at dksX13_pattern_2 17 rfl rfl)
theorem dX13_pattern_66 : decode cX13_pattern 66 = .ok (.goto (-49), 3) := dk_167 255 207 (dk_at dksX13_pattern_2 20 rfl rfl)
theorem dX13_pattern_69 : decode cX13_pattern 69 = .ok (.iinc 2 1, 3) := dk_132 2 1 (dk_at dksX13_pattern_3 0 rfl rfl)
theorem dX13_pattern_72 : decode cX13_pattern 72 = .ok (.goto (-68), 3) := dk_167 255 188 (dk_at dksX13_pattern_3 3 rfl rfl)
theorem dX13_pattern_75 : decode cX13_pattern 75 = .ok (.iload_n 1, 1) := dk_27 (dk_at dksX13_pattern_3 6 rfl rfl)
theorem dX13_pattern_76 : decode cX13_pattern 76 = .ok (.ireturn, 1) := dk_172 (dk_at dksX13_pattern_3 7 rfl rfl)
abbrev cX13_matching : ByteArray := prog_12_method_7_code
def yX13_matching : MethodName := ⟨RX13, "matching", "(II)I"⟩
def dkwX13_matching_5 : List UInt8 := [167, 255, 224, 29, 172]
abbrev dktX13_matching_5 : List UInt8 := dkwX13_matching_5 ++ []
def dkwX13_matching_4 : List UInt8 := [162, 0, 26, 42, 3, 181, 0, 81, 42, 21, 4, 182, 0, 84, 153, 0, 6, 132, 3, 1, 132, 4, 1]
abbrev dktX13_matching_4 : List UInt8 := dkwX13_matching_4 ++ dktX13_matching_5
def dkwX13_matching_3 : List UInt8 := [167, 255, 216, 132, 3, 1, 167, 255, 182, 3, 62, 3, 54, 4, 21, 4, 42, 180, 0, 32, 180, 0, 47]
abbrev dktX13_matching_3 : List UInt8 := dkwX13_matching_3 ++ dktX13_matching_4
def dkwX13_matching_2 : List UInt8 := [182, 0, 77, 153, 0, 16, 42, 180, 0, 25, 29, 92, 46, 4, 21, 4, 120, 128, 79, 132, 4, 1]
abbrev dktX13_matching_2 : List UInt8 := dkwX13_matching_2 ++ dktX13_matching_3
def dkwX13_matching_1 : List UInt8 := [29, 2, 79, 3, 54, 4, 21, 4, 42, 180, 0, 32, 180, 0, 47, 162, 0, 34, 42, 29, 21, 4, 27, 28]
abbrev dktX13_matching_1 : List UInt8 := dkwX13_matching_1 ++ dktX13_matching_2
def dkwX13_matching_0 : List UInt8 := [3, 62, 29, 42, 180, 0, 32, 180, 0, 47, 162, 0, 69, 42, 180, 0, 25, 29, 3, 79, 42, 180, 0, 29]
abbrev dktX13_matching_0 : List UInt8 := dkwX13_matching_0 ++ dktX13_matching_1
theorem dksX13_matching_0 : cX13_matching.data.toList.drop 0 = dktX13_matching_0 := by decide +kernel
theorem dksX13_matching_1 : cX13_matching.data.toList.drop 24 = dktX13_matching_1 := dk_seg dksX13_matching_0 24 rfl rfl
theorem dksX13_matching_2 : cX13_matching.data.toList.drop 48 = dktX13_matching_2 := dk_seg dksX13_matching_1 24 rfl rfl
theorem dksX13_matching_3 : cX13_matching.data.toList.drop 70 = dktX13_matching_3 := dk_seg dksX13_matching_2 22 rfl rfl
theorem dksX13_matching_4 : cX13_matching.data.toList.drop 93 = dktX13_matching_4 := dk_seg dksX13_matching_3 23 rfl rfl
theorem dksX13_matching_5 : cX13_matching.data.toList.drop 116 = dktX13_matching_5 := dk_seg dksX13_matching_4 23 rfl rfl
theorem dX13_matching_0 : decode cX13_matching 0 = .ok (.iconst 0, 1) := dk_3 (dk_at dksX13_matching_0 0 rfl rfl)
theorem dX13_matching_1 : decode cX13_matching 1 = .ok (.istore_n 3, 1) := dk_62 (dk_at dksX13_matching_0 1 rfl rfl)
theorem dX13_matching_2 : decode cX13_matching 2 = .ok (.iload_n 3, 1) := dk_29 (dk_at dksX13_matching_0 2 rfl rfl)
theorem dX13_matching_3 : decode cX13_matching 3 = .ok (.aload_n 0, 1) := dk_42 (dk_at dksX13_matching_0 3 rfl rfl)
theorem dX13_matching_4 : decode cX13_matching 4 = .ok (.getfield 32, 3) := dk_180 0 32 (dk_at dksX13_matching_0 4 rfl rfl)
theorem dX13_matching_7 : decode cX13_matching 7 = .ok (.getfield 47, 3) := dk_180 0 47 (dk_at dksX13_matching_0 7 rfl rfl)
theorem dX13_matching_10 : decode cX13_matching 10 = .ok (.if_icmp .ge 69, 3) := dk_162 0 69 (dk_at dksX13_matching_0 10 rfl rfl)
theorem dX13_matching_13 : decode cX13_matching 13 = .ok (.aload_n 0, 1) := dk_42 (dk_at dksX13_matching_0 13 rfl rfl)
theorem dX13_matching_14 : decode cX13_matching 14 = .ok (.getfield 25, 3) := dk_180 0 25 (dk_at dksX13_matching_0 14 rfl rfl)
theorem dX13_matching_17 : decode cX13_matching 17 = .ok (.iload_n 3, 1) := dk_29 (dk_at dksX13_matching_0 17 rfl rfl)
theorem dX13_matching_18 : decode cX13_matching 18 = .ok (.iconst 0, 1) := dk_3 (dk_at dksX13_matching_0 18 rfl rfl)
theorem dX13_matching_19 : decode cX13_matching 19 = .ok (.iastore, 1) := dk_79 (dk_at dksX13_matching_0 19 rfl rfl)
theorem dX13_matching_20 : decode cX13_matching 20 = .ok (.aload_n 0, 1) := dk_42 (dk_at dksX13_matching_0 20 rfl rfl)
theorem dX13_matching_21 : decode cX13_matching 21 = .ok (.getfield 29, 3) := dk_180 0 29 (dk_at dksX13_matching_0 21 rfl rfl)
theorem dX13_matching_24 : decode cX13_matching 24 = .ok (.iload_n 3, 1) := dk_29 (dk_at dksX13_matching_1 0 rfl rfl)
theorem dX13_matching_25 : decode cX13_matching 25 = .ok (.iconst (-1), 1) := dk_2 (dk_at dksX13_matching_1 1 rfl rfl)
theorem dX13_matching_26 : decode cX13_matching 26 = .ok (.iastore, 1) := dk_79 (dk_at dksX13_matching_1 2 rfl rfl)
theorem dX13_matching_27 : decode cX13_matching 27 = .ok (.iconst 0, 1) := dk_3 (dk_at dksX13_matching_1 3 rfl rfl)
theorem dX13_matching_28 : decode cX13_matching 28 = .ok (.istore 4, 2) := dk_54 4 (dk_at dksX13_matching_1 4 rfl rfl)
theorem dX13_matching_30 : decode cX13_matching 30 = .ok (.iload 4, 2) := dk_21 4 (dk_at dksX13_matching_1 6 rfl rfl)
theorem dX13_matching_32 : decode cX13_matching 32 = .ok (.aload_n 0, 1) := dk_42 (dk_at dksX13_matching_1 8 rfl rfl)
theorem dX13_matching_33 : decode cX13_matching 33 = .ok (.getfield 32, 3) := dk_180 0 32 (dk_at dksX13_matching_1 9 rfl rfl)
theorem dX13_matching_36 : decode cX13_matching 36 = .ok (.getfield 47, 3) := dk_180 0 47 (dk_at dksX13_matching_1 12 rfl rfl)
theorem dX13_matching_39 : decode cX13_matching 39 = .ok (.if_icmp .ge 34, 3) := dk_162 0 34 (dk_at dksX13_matching_1 15 rfl rfl)
theorem dX13_matching_42 : decode cX13_matching 42 = .ok (.aload_n 0, 1) := dk_42 (dk_at dksX13_matching_1 18 rfl rfl)
theorem dX13_matching_43 : decode cX13_matching 43 = .ok (.iload_n 3, 1) := dk_29 (dk_at dksX13_matching_1 19 rfl rfl)
theorem dX13_matching_44 : decode cX13_matching 44 = .ok (.iload 4, 2) := dk_21 4 (dk_at dksX13_matching_1 20 rfl rfl)
theorem dX13_matching_46 : decode cX13_matching 46 = .ok (.iload_n 1, 1) := dk_27 (dk_at dksX13_matching_1 22 rfl rfl)
theorem dX13_matching_47 : decode cX13_matching 47 = .ok (.iload_n 2, 1) := dk_28 (dk_at dksX13_matching_1 23 rfl rfl)
theorem dX13_matching_48 : decode cX13_matching 48 = .ok (.invokevirtual 77, 3) := dk_182 0 77 (dk_at dksX13_matching_2 0 rfl rfl)
theorem dX13_matching_51 : decode cX13_matching 51 = .ok (.ifCond .eq 16, 3) := dk_153 0 16 (dk_at dksX13_matching_2 3 rfl rfl)
theorem dX13_matching_54 : decode cX13_matching 54 = .ok (.aload_n 0, 1) := dk_42 (dk_at dksX13_matching_2 6 rfl rfl)
theorem dX13_matching_55 : decode cX13_matching 55 = .ok (.getfield 25, 3) := dk_180 0 25 (dk_at dksX13_matching_2 7 rfl rfl)
theorem dX13_matching_58 : decode cX13_matching 58 = .ok (.iload_n 3, 1) := dk_29 (dk_at dksX13_matching_2 10 rfl rfl)
theorem dX13_matching_59 : decode cX13_matching 59 = .ok (.dup2, 1) := dk_92 (dk_at dksX13_matching_2 11 rfl rfl)
theorem dX13_matching_60 : decode cX13_matching 60 = .ok (.iaload, 1) := dk_46 (dk_at dksX13_matching_2 12 rfl rfl)
theorem dX13_matching_61 : decode cX13_matching 61 = .ok (.iconst 1, 1) := dk_4 (dk_at dksX13_matching_2 13 rfl rfl)
theorem dX13_matching_62 : decode cX13_matching 62 = .ok (.iload 4, 2) := dk_21 4 (dk_at dksX13_matching_2 14 rfl rfl)
theorem dX13_matching_64 : decode cX13_matching 64 = .ok (.ishl, 1) := dk_120 (dk_at dksX13_matching_2 16 rfl rfl)
theorem dX13_matching_65 : decode cX13_matching 65 = .ok (.ior, 1) := dk_128 (dk_at dksX13_matching_2 17 rfl rfl)
theorem dX13_matching_66 : decode cX13_matching 66 = .ok (.iastore, 1) := dk_79 (dk_at dksX13_matching_2 18 rfl rfl)
theorem dX13_matching_67 : decode cX13_matching 67 = .ok (.iinc 4 1, 3) := dk_132 4 1 (dk_at dksX13_matching_2 19 rfl rfl)
theorem dX13_matching_70 : decode cX13_matching 70 = .ok (.goto (-40), 3) := dk_167 255 216 (dk_at dksX13_matching_3 0 rfl rfl)
theorem dX13_matching_73 : decode cX13_matching 73 = .ok (.iinc 3 1, 3) := dk_132 3 1 (dk_at dksX13_matching_3 3 rfl rfl)
theorem dX13_matching_76 : decode cX13_matching 76 = .ok (.goto (-74), 3) := dk_167 255 182 (dk_at dksX13_matching_3 6 rfl rfl)
theorem dX13_matching_79 : decode cX13_matching 79 = .ok (.iconst 0, 1) := dk_3 (dk_at dksX13_matching_3 9 rfl rfl)
theorem dX13_matching_80 : decode cX13_matching 80 = .ok (.istore_n 3, 1) := dk_62 (dk_at dksX13_matching_3 10 rfl rfl)
theorem dX13_matching_81 : decode cX13_matching 81 = .ok (.iconst 0, 1) := dk_3 (dk_at dksX13_matching_3 11 rfl rfl)
theorem dX13_matching_82 : decode cX13_matching 82 = .ok (.istore 4, 2) := dk_54 4 (dk_at dksX13_matching_3 12 rfl rfl)
theorem dX13_matching_84 : decode cX13_matching 84 = .ok (.iload 4, 2) := dk_21 4 (dk_at dksX13_matching_3 14 rfl rfl)
theorem dX13_matching_86 : decode cX13_matching 86 = .ok (.aload_n 0, 1) := dk_42 (dk_at dksX13_matching_3 16 rfl rfl)
theorem dX13_matching_87 : decode cX13_matching 87 = .ok (.getfield 32, 3) := dk_180 0 32 (dk_at dksX13_matching_3 17 rfl rfl)
theorem dX13_matching_90 : decode cX13_matching 90 = .ok (.getfield 47, 3) := dk_180 0 47 (dk_at dksX13_matching_3 20 rfl rfl)
theorem dX13_matching_93 : decode cX13_matching 93 = .ok (.if_icmp .ge 26, 3) := dk_162 0 26 (dk_at dksX13_matching_4 0 rfl rfl)
theorem dX13_matching_96 : decode cX13_matching 96 = .ok (.aload_n 0, 1) := dk_42 (dk_at dksX13_matching_4 3 rfl rfl)
theorem dX13_matching_97 : decode cX13_matching 97 = .ok (.iconst 0, 1) := dk_3 (dk_at dksX13_matching_4 4 rfl rfl)
theorem dX13_matching_98 : decode cX13_matching 98 = .ok (.putfield 81, 3) := dk_181 0 81 (dk_at dksX13_matching_4 5 rfl rfl)
theorem dX13_matching_101 : decode cX13_matching 101 = .ok (.aload_n 0, 1) := dk_42 (dk_at dksX13_matching_4 8 rfl rfl)
theorem dX13_matching_102 : decode cX13_matching 102 = .ok (.iload 4, 2) := dk_21 4 (dk_at dksX13_matching_4 9 rfl rfl)
theorem dX13_matching_104 : decode cX13_matching 104 = .ok (.invokevirtual 84, 3) := dk_182 0 84 (dk_at dksX13_matching_4 11 rfl rfl)
theorem dX13_matching_107 : decode cX13_matching 107 = .ok (.ifCond .eq 6, 3) := dk_153 0 6 (dk_at dksX13_matching_4 14 rfl rfl)
theorem dX13_matching_110 : decode cX13_matching 110 = .ok (.iinc 3 1, 3) := dk_132 3 1 (dk_at dksX13_matching_4 17 rfl rfl)
theorem dX13_matching_113 : decode cX13_matching 113 = .ok (.iinc 4 1, 3) := dk_132 4 1 (dk_at dksX13_matching_4 20 rfl rfl)
theorem dX13_matching_116 : decode cX13_matching 116 = .ok (.goto (-32), 3) := dk_167 255 224 (dk_at dksX13_matching_5 0 rfl rfl)
theorem dX13_matching_119 : decode cX13_matching 119 = .ok (.iload_n 3, 1) := dk_29 (dk_at dksX13_matching_5 3 rfl rfl)
theorem dX13_matching_120 : decode cX13_matching 120 = .ok (.ireturn, 1) := dk_172 (dk_at dksX13_matching_5 4 rfl rfl)
abbrev cX13_takes : ByteArray := prog_12_method_6_code
def yX13_takes : MethodName := ⟨RX13, "takes", "(IIII)Z"⟩
def dkwX13_takes_1 : List UInt8 := [21, 4, 160, 0, 5, 4, 172, 42, 180, 0, 16, 21, 5, 50, 28, 46, 54, 5, 167, 255, 217, 3, 172]
abbrev dktX13_takes_1 : List UInt8 := dkwX13_takes_1 ++ []
def dkwX13_takes_0 : List UInt8 := [27, 54, 5, 21, 5, 28, 159, 0, 39, 21, 5, 29, 160, 0, 19, 42, 180, 0, 16, 21, 5, 50, 28, 46]
abbrev dktX13_takes_0 : List UInt8 := dkwX13_takes_0 ++ dktX13_takes_1
theorem dksX13_takes_0 : cX13_takes.data.toList.drop 0 = dktX13_takes_0 := by decide +kernel
theorem dksX13_takes_1 : cX13_takes.data.toList.drop 24 = dktX13_takes_1 := dk_seg dksX13_takes_0 24 rfl rfl
theorem dX13_takes_0 : decode cX13_takes 0 = .ok (.iload_n 1, 1) := dk_27 (dk_at dksX13_takes_0 0 rfl rfl)
theorem dX13_takes_1 : decode cX13_takes 1 = .ok (.istore 5, 2) := dk_54 5 (dk_at dksX13_takes_0 1 rfl rfl)
theorem dX13_takes_3 : decode cX13_takes 3 = .ok (.iload 5, 2) := dk_21 5 (dk_at dksX13_takes_0 3 rfl rfl)
theorem dX13_takes_5 : decode cX13_takes 5 = .ok (.iload_n 2, 1) := dk_28 (dk_at dksX13_takes_0 5 rfl rfl)
theorem dX13_takes_6 : decode cX13_takes 6 = .ok (.if_icmp .eq 39, 3) := dk_159 0 39 (dk_at dksX13_takes_0 6 rfl rfl)
theorem dX13_takes_9 : decode cX13_takes 9 = .ok (.iload 5, 2) := dk_21 5 (dk_at dksX13_takes_0 9 rfl rfl)
theorem dX13_takes_11 : decode cX13_takes 11 = .ok (.iload_n 3, 1) := dk_29 (dk_at dksX13_takes_0 11 rfl rfl)
theorem dX13_takes_12 : decode cX13_takes 12 = .ok (.if_icmp .ne 19, 3) := dk_160 0 19 (dk_at dksX13_takes_0 12 rfl rfl)
theorem dX13_takes_15 : decode cX13_takes 15 = .ok (.aload_n 0, 1) := dk_42 (dk_at dksX13_takes_0 15 rfl rfl)
theorem dX13_takes_16 : decode cX13_takes 16 = .ok (.getfield 16, 3) := dk_180 0 16 (dk_at dksX13_takes_0 16 rfl rfl)
theorem dX13_takes_19 : decode cX13_takes 19 = .ok (.iload 5, 2) := dk_21 5 (dk_at dksX13_takes_0 19 rfl rfl)
theorem dX13_takes_21 : decode cX13_takes 21 = .ok (.aaload, 1) := dk_50 (dk_at dksX13_takes_0 21 rfl rfl)
theorem dX13_takes_22 : decode cX13_takes 22 = .ok (.iload_n 2, 1) := dk_28 (dk_at dksX13_takes_0 22 rfl rfl)
theorem dX13_takes_23 : decode cX13_takes 23 = .ok (.iaload, 1) := dk_46 (dk_at dksX13_takes_0 23 rfl rfl)
theorem dX13_takes_24 : decode cX13_takes 24 = .ok (.iload 4, 2) := dk_21 4 (dk_at dksX13_takes_1 0 rfl rfl)
theorem dX13_takes_26 : decode cX13_takes 26 = .ok (.if_icmp .ne 5, 3) := dk_160 0 5 (dk_at dksX13_takes_1 2 rfl rfl)
theorem dX13_takes_29 : decode cX13_takes 29 = .ok (.iconst 1, 1) := dk_4 (dk_at dksX13_takes_1 5 rfl rfl)
theorem dX13_takes_30 : decode cX13_takes 30 = .ok (.ireturn, 1) := dk_172 (dk_at dksX13_takes_1 6 rfl rfl)
theorem dX13_takes_31 : decode cX13_takes 31 = .ok (.aload_n 0, 1) := dk_42 (dk_at dksX13_takes_1 7 rfl rfl)
theorem dX13_takes_32 : decode cX13_takes 32 = .ok (.getfield 16, 3) := dk_180 0 16 (dk_at dksX13_takes_1 8 rfl rfl)
theorem dX13_takes_35 : decode cX13_takes 35 = .ok (.iload 5, 2) := dk_21 5 (dk_at dksX13_takes_1 11 rfl rfl)
theorem dX13_takes_37 : decode cX13_takes 37 = .ok (.aaload, 1) := dk_50 (dk_at dksX13_takes_1 13 rfl rfl)
theorem dX13_takes_38 : decode cX13_takes 38 = .ok (.iload_n 2, 1) := dk_28 (dk_at dksX13_takes_1 14 rfl rfl)
theorem dX13_takes_39 : decode cX13_takes 39 = .ok (.iaload, 1) := dk_46 (dk_at dksX13_takes_1 15 rfl rfl)
theorem dX13_takes_40 : decode cX13_takes 40 = .ok (.istore 5, 2) := dk_54 5 (dk_at dksX13_takes_1 16 rfl rfl)
theorem dX13_takes_42 : decode cX13_takes 42 = .ok (.goto (-39), 3) := dk_167 255 217 (dk_at dksX13_takes_1 18 rfl rfl)
theorem dX13_takes_45 : decode cX13_takes 45 = .ok (.iconst 0, 1) := dk_3 (dk_at dksX13_takes_1 21 rfl rfl)
theorem dX13_takes_46 : decode cX13_takes 46 = .ok (.ireturn, 1) := dk_172 (dk_at dksX13_takes_1 22 rfl rfl)
abbrev cX13_gets : ByteArray := prog_12_method_8_code
def yX13_gets : MethodName := ⟨RX13, "gets", "(I)Z"⟩
def dkwX13_gets_3 : List UInt8 := [182, 0, 84, 153, 0, 12, 42, 180, 0, 29, 28, 27, 79, 4, 172, 132, 2, 1, 167, 255, 170, 3, 172]
abbrev dktX13_gets_3 : List UInt8 := dkwX13_gets_3 ++ []
def dkwX13_gets_2 : List UInt8 := [28, 120, 128, 181, 0, 81, 42, 180, 0, 29, 28, 46, 2, 159, 0, 16, 42, 42, 180, 0, 29, 28, 46]
abbrev dktX13_gets_2 : List UInt8 := dkwX13_gets_2 ++ dktX13_gets_3
def dkwX13_gets_1 : List UInt8 := [153, 0, 62, 42, 180, 0, 81, 28, 122, 4, 126, 4, 160, 0, 6, 167, 0, 47, 42, 89, 180, 0, 81, 4]
abbrev dktX13_gets_1 : List UInt8 := dkwX13_gets_1 ++ dktX13_gets_2
def dkwX13_gets_0 : List UInt8 := [3, 61, 28, 42, 180, 0, 32, 180, 0, 47, 162, 0, 81, 42, 180, 0, 25, 27, 46, 28, 122, 4, 126]
abbrev dktX13_gets_0 : List UInt8 := dkwX13_gets_0 ++ dktX13_gets_1
theorem dksX13_gets_0 : cX13_gets.data.toList.drop 0 = dktX13_gets_0 := by decide +kernel
theorem dksX13_gets_1 : cX13_gets.data.toList.drop 23 = dktX13_gets_1 := dk_seg dksX13_gets_0 23 rfl rfl
theorem dksX13_gets_2 : cX13_gets.data.toList.drop 47 = dktX13_gets_2 := dk_seg dksX13_gets_1 24 rfl rfl
theorem dksX13_gets_3 : cX13_gets.data.toList.drop 70 = dktX13_gets_3 := dk_seg dksX13_gets_2 23 rfl rfl
theorem dX13_gets_0 : decode cX13_gets 0 = .ok (.iconst 0, 1) := dk_3 (dk_at dksX13_gets_0 0 rfl rfl)
theorem dX13_gets_1 : decode cX13_gets 1 = .ok (.istore_n 2, 1) := dk_61 (dk_at dksX13_gets_0 1 rfl rfl)
theorem dX13_gets_2 : decode cX13_gets 2 = .ok (.iload_n 2, 1) := dk_28 (dk_at dksX13_gets_0 2 rfl rfl)
theorem dX13_gets_3 : decode cX13_gets 3 = .ok (.aload_n 0, 1) := dk_42 (dk_at dksX13_gets_0 3 rfl rfl)
theorem dX13_gets_4 : decode cX13_gets 4 = .ok (.getfield 32, 3) := dk_180 0 32 (dk_at dksX13_gets_0 4 rfl rfl)
theorem dX13_gets_7 : decode cX13_gets 7 = .ok (.getfield 47, 3) := dk_180 0 47 (dk_at dksX13_gets_0 7 rfl rfl)
theorem dX13_gets_10 : decode cX13_gets 10 = .ok (.if_icmp .ge 81, 3) := dk_162 0 81 (dk_at dksX13_gets_0 10 rfl rfl)
theorem dX13_gets_13 : decode cX13_gets 13 = .ok (.aload_n 0, 1) := dk_42 (dk_at dksX13_gets_0 13 rfl rfl)
theorem dX13_gets_14 : decode cX13_gets 14 = .ok (.getfield 25, 3) := dk_180 0 25 (dk_at dksX13_gets_0 14 rfl rfl)
theorem dX13_gets_17 : decode cX13_gets 17 = .ok (.iload_n 1, 1) := dk_27 (dk_at dksX13_gets_0 17 rfl rfl)
theorem dX13_gets_18 : decode cX13_gets 18 = .ok (.iaload, 1) := dk_46 (dk_at dksX13_gets_0 18 rfl rfl)
theorem dX13_gets_19 : decode cX13_gets 19 = .ok (.iload_n 2, 1) := dk_28 (dk_at dksX13_gets_0 19 rfl rfl)
theorem dX13_gets_20 : decode cX13_gets 20 = .ok (.ishr, 1) := dk_122 (dk_at dksX13_gets_0 20 rfl rfl)
theorem dX13_gets_21 : decode cX13_gets 21 = .ok (.iconst 1, 1) := dk_4 (dk_at dksX13_gets_0 21 rfl rfl)
theorem dX13_gets_22 : decode cX13_gets 22 = .ok (.iand, 1) := dk_126 (dk_at dksX13_gets_0 22 rfl rfl)
theorem dX13_gets_23 : decode cX13_gets 23 = .ok (.ifCond .eq 62, 3) := dk_153 0 62 (dk_at dksX13_gets_1 0 rfl rfl)
theorem dX13_gets_26 : decode cX13_gets 26 = .ok (.aload_n 0, 1) := dk_42 (dk_at dksX13_gets_1 3 rfl rfl)
theorem dX13_gets_27 : decode cX13_gets 27 = .ok (.getfield 81, 3) := dk_180 0 81 (dk_at dksX13_gets_1 4 rfl rfl)
theorem dX13_gets_30 : decode cX13_gets 30 = .ok (.iload_n 2, 1) := dk_28 (dk_at dksX13_gets_1 7 rfl rfl)
theorem dX13_gets_31 : decode cX13_gets 31 = .ok (.ishr, 1) := dk_122 (dk_at dksX13_gets_1 8 rfl rfl)
theorem dX13_gets_32 : decode cX13_gets 32 = .ok (.iconst 1, 1) := dk_4 (dk_at dksX13_gets_1 9 rfl rfl)
theorem dX13_gets_33 : decode cX13_gets 33 = .ok (.iand, 1) := dk_126 (dk_at dksX13_gets_1 10 rfl rfl)
theorem dX13_gets_34 : decode cX13_gets 34 = .ok (.iconst 1, 1) := dk_4 (dk_at dksX13_gets_1 11 rfl rfl)
theorem dX13_gets_35 : decode cX13_gets 35 = .ok (.if_icmp .ne 6, 3) := dk_160 0 6 (dk_at dksX13_gets_1 12 rfl rfl)
theorem dX13_gets_38 : decode cX13_gets 38 = .ok (.goto 47, 3) := dk_167 0 47 (dk_at dksX13_gets_1 15 rfl rfl)
theorem dX13_gets_41 : decode cX13_gets 41 = .ok (.aload_n 0, 1) := dk_42 (dk_at dksX13_gets_1 18 rfl rfl)
theorem dX13_gets_42 : decode cX13_gets 42 = .ok (.dup, 1) := dk_89 (dk_at dksX13_gets_1 19 rfl rfl)
theorem dX13_gets_43 : decode cX13_gets 43 = .ok (.getfield 81, 3) := dk_180 0 81 (dk_at dksX13_gets_1 20 rfl rfl)
theorem dX13_gets_46 : decode cX13_gets 46 = .ok (.iconst 1, 1) := dk_4 (dk_at dksX13_gets_1 23 rfl rfl)
theorem dX13_gets_47 : decode cX13_gets 47 = .ok (.iload_n 2, 1) := dk_28 (dk_at dksX13_gets_2 0 rfl rfl)
theorem dX13_gets_48 : decode cX13_gets 48 = .ok (.ishl, 1) := dk_120 (dk_at dksX13_gets_2 1 rfl rfl)
theorem dX13_gets_49 : decode cX13_gets 49 = .ok (.ior, 1) := dk_128 (dk_at dksX13_gets_2 2 rfl rfl)
theorem dX13_gets_50 : decode cX13_gets 50 = .ok (.putfield 81, 3) := dk_181 0 81 (dk_at dksX13_gets_2 3 rfl rfl)
theorem dX13_gets_53 : decode cX13_gets 53 = .ok (.aload_n 0, 1) := dk_42 (dk_at dksX13_gets_2 6 rfl rfl)
theorem dX13_gets_54 : decode cX13_gets 54 = .ok (.getfield 29, 3) := dk_180 0 29 (dk_at dksX13_gets_2 7 rfl rfl)
theorem dX13_gets_57 : decode cX13_gets 57 = .ok (.iload_n 2, 1) := dk_28 (dk_at dksX13_gets_2 10 rfl rfl)
theorem dX13_gets_58 : decode cX13_gets 58 = .ok (.iaload, 1) := dk_46 (dk_at dksX13_gets_2 11 rfl rfl)
theorem dX13_gets_59 : decode cX13_gets 59 = .ok (.iconst (-1), 1) := dk_2 (dk_at dksX13_gets_2 12 rfl rfl)
theorem dX13_gets_60 : decode cX13_gets 60 = .ok (.if_icmp .eq 16, 3) := dk_159 0 16 (dk_at dksX13_gets_2 13 rfl rfl)
theorem dX13_gets_63 : decode cX13_gets 63 = .ok (.aload_n 0, 1) := dk_42 (dk_at dksX13_gets_2 16 rfl rfl)
theorem dX13_gets_64 : decode cX13_gets 64 = .ok (.aload_n 0, 1) := dk_42 (dk_at dksX13_gets_2 17 rfl rfl)
theorem dX13_gets_65 : decode cX13_gets 65 = .ok (.getfield 29, 3) := dk_180 0 29 (dk_at dksX13_gets_2 18 rfl rfl)
theorem dX13_gets_68 : decode cX13_gets 68 = .ok (.iload_n 2, 1) := dk_28 (dk_at dksX13_gets_2 21 rfl rfl)
theorem dX13_gets_69 : decode cX13_gets 69 = .ok (.iaload, 1) := dk_46 (dk_at dksX13_gets_2 22 rfl rfl)
theorem dX13_gets_70 : decode cX13_gets 70 = .ok (.invokevirtual 84, 3) := dk_182 0 84 (dk_at dksX13_gets_3 0 rfl rfl)
theorem dX13_gets_73 : decode cX13_gets 73 = .ok (.ifCond .eq 12, 3) := dk_153 0 12 (dk_at dksX13_gets_3 3 rfl rfl)
theorem dX13_gets_76 : decode cX13_gets 76 = .ok (.aload_n 0, 1) := dk_42 (dk_at dksX13_gets_3 6 rfl rfl)
theorem dX13_gets_77 : decode cX13_gets 77 = .ok (.getfield 29, 3) := dk_180 0 29 (dk_at dksX13_gets_3 7 rfl rfl)
theorem dX13_gets_80 : decode cX13_gets 80 = .ok (.iload_n 2, 1) := dk_28 (dk_at dksX13_gets_3 10 rfl rfl)
theorem dX13_gets_81 : decode cX13_gets 81 = .ok (.iload_n 1, 1) := dk_27 (dk_at dksX13_gets_3 11 rfl rfl)
theorem dX13_gets_82 : decode cX13_gets 82 = .ok (.iastore, 1) := dk_79 (dk_at dksX13_gets_3 12 rfl rfl)
theorem dX13_gets_83 : decode cX13_gets 83 = .ok (.iconst 1, 1) := dk_4 (dk_at dksX13_gets_3 13 rfl rfl)
theorem dX13_gets_84 : decode cX13_gets 84 = .ok (.ireturn, 1) := dk_172 (dk_at dksX13_gets_3 14 rfl rfl)
theorem dX13_gets_85 : decode cX13_gets 85 = .ok (.iinc 2 1, 3) := dk_132 2 1 (dk_at dksX13_gets_3 15 rfl rfl)
theorem dX13_gets_88 : decode cX13_gets 88 = .ok (.goto (-86), 3) := dk_167 255 170 (dk_at dksX13_gets_3 18 rfl rfl)
theorem dX13_gets_91 : decode cX13_gets 91 = .ok (.iconst 0, 1) := dk_3 (dk_at dksX13_gets_3 21 rfl rfl)
theorem dX13_gets_92 : decode cX13_gets 92 = .ok (.ireturn, 1) := dk_172 (dk_at dksX13_gets_3 22 rfl rfl)
abbrev cX13_heaviest : ByteArray := prog_12_method_5_code
def yX13_heaviest : MethodName := ⟨RX13, "heaviest", "()I"⟩
def dkwX13_heaviest_3 : List UInt8 := [16, 32, 28, 104, 29, 96, 60, 132, 3, 1, 167, 255, 194, 132, 2, 1, 167, 255, 175, 27, 172]
abbrev dktX13_heaviest_3 : List UInt8 := dkwX13_heaviest_3 ++ []
def dkwX13_heaviest_2 : List UInt8 := [180, 0, 19, 28, 50, 29, 46, 42, 180, 0, 19, 27, 8, 122, 50, 27, 16, 31, 126, 46, 164, 0, 10]
abbrev dktX13_heaviest_2 : List UInt8 := dkwX13_heaviest_2 ++ dktX13_heaviest_3
def dkwX13_heaviest_1 : List UInt8 := [180, 0, 47, 162, 0, 57, 42, 180, 0, 32, 28, 29, 182, 0, 71, 153, 0, 39, 27, 2, 159, 0, 27, 42]
abbrev dktX13_heaviest_1 : List UInt8 := dkwX13_heaviest_1 ++ dktX13_heaviest_2
def dkwX13_heaviest_0 : List UInt8 := [2, 60, 3, 61, 28, 42, 180, 0, 32, 180, 0, 47, 162, 0, 76, 3, 62, 29, 42, 180, 0, 32]
abbrev dktX13_heaviest_0 : List UInt8 := dkwX13_heaviest_0 ++ dktX13_heaviest_1
theorem dksX13_heaviest_0 : cX13_heaviest.data.toList.drop 0 = dktX13_heaviest_0 := by decide +kernel
theorem dksX13_heaviest_1 : cX13_heaviest.data.toList.drop 22 = dktX13_heaviest_1 := dk_seg dksX13_heaviest_0 22 rfl rfl
theorem dksX13_heaviest_2 : cX13_heaviest.data.toList.drop 46 = dktX13_heaviest_2 := dk_seg dksX13_heaviest_1 24 rfl rfl
theorem dksX13_heaviest_3 : cX13_heaviest.data.toList.drop 69 = dktX13_heaviest_3 := dk_seg dksX13_heaviest_2 23 rfl rfl
theorem dX13_heaviest_0 : decode cX13_heaviest 0 = .ok (.iconst (-1), 1) := dk_2 (dk_at dksX13_heaviest_0 0 rfl rfl)
theorem dX13_heaviest_1 : decode cX13_heaviest 1 = .ok (.istore_n 1, 1) := dk_60 (dk_at dksX13_heaviest_0 1 rfl rfl)
theorem dX13_heaviest_2 : decode cX13_heaviest 2 = .ok (.iconst 0, 1) := dk_3 (dk_at dksX13_heaviest_0 2 rfl rfl)
theorem dX13_heaviest_3 : decode cX13_heaviest 3 = .ok (.istore_n 2, 1) := dk_61 (dk_at dksX13_heaviest_0 3 rfl rfl)
theorem dX13_heaviest_4 : decode cX13_heaviest 4 = .ok (.iload_n 2, 1) := dk_28 (dk_at dksX13_heaviest_0 4 rfl rfl)
theorem dX13_heaviest_5 : decode cX13_heaviest 5 = .ok (.aload_n 0, 1) := dk_42 (dk_at dksX13_heaviest_0 5 rfl rfl)
theorem dX13_heaviest_6 : decode cX13_heaviest 6 = .ok (.getfield 32, 3) := dk_180 0 32 (dk_at dksX13_heaviest_0 6 rfl rfl)
theorem dX13_heaviest_9 : decode cX13_heaviest 9 = .ok (.getfield 47, 3) := dk_180 0 47 (dk_at dksX13_heaviest_0 9 rfl rfl)
theorem dX13_heaviest_12 : decode cX13_heaviest 12 = .ok (.if_icmp .ge 76, 3) := dk_162 0 76 (dk_at dksX13_heaviest_0 12 rfl rfl)
theorem dX13_heaviest_15 : decode cX13_heaviest 15 = .ok (.iconst 0, 1) := dk_3 (dk_at dksX13_heaviest_0 15 rfl rfl)
theorem dX13_heaviest_16 : decode cX13_heaviest 16 = .ok (.istore_n 3, 1) := dk_62 (dk_at dksX13_heaviest_0 16 rfl rfl)
theorem dX13_heaviest_17 : decode cX13_heaviest 17 = .ok (.iload_n 3, 1) := dk_29 (dk_at dksX13_heaviest_0 17 rfl rfl)
theorem dX13_heaviest_18 : decode cX13_heaviest 18 = .ok (.aload_n 0, 1) := dk_42 (dk_at dksX13_heaviest_0 18 rfl rfl)
theorem dX13_heaviest_19 : decode cX13_heaviest 19 = .ok (.getfield 32, 3) := dk_180 0 32 (dk_at dksX13_heaviest_0 19 rfl rfl)
theorem dX13_heaviest_22 : decode cX13_heaviest 22 = .ok (.getfield 47, 3) := dk_180 0 47 (dk_at dksX13_heaviest_1 0 rfl rfl)
theorem dX13_heaviest_25 : decode cX13_heaviest 25 = .ok (.if_icmp .ge 57, 3) := dk_162 0 57 (dk_at dksX13_heaviest_1 3 rfl rfl)
theorem dX13_heaviest_28 : decode cX13_heaviest 28 = .ok (.aload_n 0, 1) := dk_42 (dk_at dksX13_heaviest_1 6 rfl rfl)
theorem dX13_heaviest_29 : decode cX13_heaviest 29 = .ok (.getfield 32, 3) := dk_180 0 32 (dk_at dksX13_heaviest_1 7 rfl rfl)
theorem dX13_heaviest_32 : decode cX13_heaviest 32 = .ok (.iload_n 2, 1) := dk_28 (dk_at dksX13_heaviest_1 10 rfl rfl)
theorem dX13_heaviest_33 : decode cX13_heaviest 33 = .ok (.iload_n 3, 1) := dk_29 (dk_at dksX13_heaviest_1 11 rfl rfl)
theorem dX13_heaviest_34 : decode cX13_heaviest 34 = .ok (.invokevirtual 71, 3) := dk_182 0 71 (dk_at dksX13_heaviest_1 12 rfl rfl)
theorem dX13_heaviest_37 : decode cX13_heaviest 37 = .ok (.ifCond .eq 39, 3) := dk_153 0 39 (dk_at dksX13_heaviest_1 15 rfl rfl)
theorem dX13_heaviest_40 : decode cX13_heaviest 40 = .ok (.iload_n 1, 1) := dk_27 (dk_at dksX13_heaviest_1 18 rfl rfl)
theorem dX13_heaviest_41 : decode cX13_heaviest 41 = .ok (.iconst (-1), 1) := dk_2 (dk_at dksX13_heaviest_1 19 rfl rfl)
theorem dX13_heaviest_42 : decode cX13_heaviest 42 = .ok (.if_icmp .eq 27, 3) := dk_159 0 27 (dk_at dksX13_heaviest_1 20 rfl rfl)
theorem dX13_heaviest_45 : decode cX13_heaviest 45 = .ok (.aload_n 0, 1) := dk_42 (dk_at dksX13_heaviest_1 23 rfl rfl)
theorem dX13_heaviest_46 : decode cX13_heaviest 46 = .ok (.getfield 19, 3) := dk_180 0 19 (dk_at dksX13_heaviest_2 0 rfl rfl)
theorem dX13_heaviest_49 : decode cX13_heaviest 49 = .ok (.iload_n 2, 1) := dk_28 (dk_at dksX13_heaviest_2 3 rfl rfl)
theorem dX13_heaviest_50 : decode cX13_heaviest 50 = .ok (.aaload, 1) := dk_50 (dk_at dksX13_heaviest_2 4 rfl rfl)
theorem dX13_heaviest_51 : decode cX13_heaviest 51 = .ok (.iload_n 3, 1) := dk_29 (dk_at dksX13_heaviest_2 5 rfl rfl)
theorem dX13_heaviest_52 : decode cX13_heaviest 52 = .ok (.iaload, 1) := dk_46 (dk_at dksX13_heaviest_2 6 rfl rfl)
theorem dX13_heaviest_53 : decode cX13_heaviest 53 = .ok (.aload_n 0, 1) := dk_42 (dk_at dksX13_heaviest_2 7 rfl rfl)
theorem dX13_heaviest_54 : decode cX13_heaviest 54 = .ok (.getfield 19, 3) := dk_180 0 19 (dk_at dksX13_heaviest_2 8 rfl rfl)
theorem dX13_heaviest_57 : decode cX13_heaviest 57 = .ok (.iload_n 1, 1) := dk_27 (dk_at dksX13_heaviest_2 11 rfl rfl)
theorem dX13_heaviest_58 : decode cX13_heaviest 58 = .ok (.iconst 5, 1) := dk_8 (dk_at dksX13_heaviest_2 12 rfl rfl)
theorem dX13_heaviest_59 : decode cX13_heaviest 59 = .ok (.ishr, 1) := dk_122 (dk_at dksX13_heaviest_2 13 rfl rfl)
theorem dX13_heaviest_60 : decode cX13_heaviest 60 = .ok (.aaload, 1) := dk_50 (dk_at dksX13_heaviest_2 14 rfl rfl)
theorem dX13_heaviest_61 : decode cX13_heaviest 61 = .ok (.iload_n 1, 1) := dk_27 (dk_at dksX13_heaviest_2 15 rfl rfl)
theorem dX13_heaviest_62 : decode cX13_heaviest 62 = .ok (.bipush 31, 2) := dk_16 31 (dk_at dksX13_heaviest_2 16 rfl rfl)
theorem dX13_heaviest_64 : decode cX13_heaviest 64 = .ok (.iand, 1) := dk_126 (dk_at dksX13_heaviest_2 18 rfl rfl)
theorem dX13_heaviest_65 : decode cX13_heaviest 65 = .ok (.iaload, 1) := dk_46 (dk_at dksX13_heaviest_2 19 rfl rfl)
theorem dX13_heaviest_66 : decode cX13_heaviest 66 = .ok (.if_icmp .le 10, 3) := dk_164 0 10 (dk_at dksX13_heaviest_2 20 rfl rfl)
theorem dX13_heaviest_69 : decode cX13_heaviest 69 = .ok (.bipush 32, 2) := dk_16 32 (dk_at dksX13_heaviest_3 0 rfl rfl)
theorem dX13_heaviest_71 : decode cX13_heaviest 71 = .ok (.iload_n 2, 1) := dk_28 (dk_at dksX13_heaviest_3 2 rfl rfl)
theorem dX13_heaviest_72 : decode cX13_heaviest 72 = .ok (.imul, 1) := dk_104 (dk_at dksX13_heaviest_3 3 rfl rfl)
theorem dX13_heaviest_73 : decode cX13_heaviest 73 = .ok (.iload_n 3, 1) := dk_29 (dk_at dksX13_heaviest_3 4 rfl rfl)
theorem dX13_heaviest_74 : decode cX13_heaviest 74 = .ok (.iadd, 1) := dk_96 (dk_at dksX13_heaviest_3 5 rfl rfl)
theorem dX13_heaviest_75 : decode cX13_heaviest 75 = .ok (.istore_n 1, 1) := dk_60 (dk_at dksX13_heaviest_3 6 rfl rfl)
theorem dX13_heaviest_76 : decode cX13_heaviest 76 = .ok (.iinc 3 1, 3) := dk_132 3 1 (dk_at dksX13_heaviest_3 7 rfl rfl)
theorem dX13_heaviest_79 : decode cX13_heaviest 79 = .ok (.goto (-62), 3) := dk_167 255 194 (dk_at dksX13_heaviest_3 10 rfl rfl)
theorem dX13_heaviest_82 : decode cX13_heaviest 82 = .ok (.iinc 2 1, 3) := dk_132 2 1 (dk_at dksX13_heaviest_3 13 rfl rfl)
theorem dX13_heaviest_85 : decode cX13_heaviest 85 = .ok (.goto (-81), 3) := dk_167 255 175 (dk_at dksX13_heaviest_3 16 rfl rfl)
theorem dX13_heaviest_88 : decode cX13_heaviest 88 = .ok (.iload_n 1, 1) := dk_27 (dk_at dksX13_heaviest_3 19 rfl rfl)
theorem dX13_heaviest_89 : decode cX13_heaviest 89 = .ok (.ireturn, 1) := dk_172 (dk_at dksX13_heaviest_3 20 rfl rfl)
abbrev cX13_upward : ByteArray := prog_12_method_12_code
def yX13_upward : MethodName := ⟨RX13, "upward", "(IZ)I"⟩
def dkwX13_upward_3 : List UInt8 := [132, 4, 1, 167, 255, 187, 29, 172]
abbrev dktX13_upward_3 : List UInt8 := dkwX13_upward_3 ++ []
def dkwX13_upward_2 : List UInt8 := [21, 6, 46, 96, 167, 0, 12, 29, 25, 5, 21, 6, 46, 184, 0, 91, 62, 132, 6, 1, 167, 255, 217]
abbrev dktX13_upward_2 : List UInt8 := dkwX13_upward_2 ++ dktX13_upward_3
def dkwX13_upward_1 : List UInt8 := [58, 5, 3, 54, 6, 21, 6, 42, 180, 0, 32, 180, 0, 47, 162, 0, 33, 28, 153, 0, 13, 29, 25, 5]
abbrev dktX13_upward_1 : List UInt8 := dkwX13_upward_1 ++ dktX13_upward_2
def dkwX13_upward_0 : List UInt8 := [3, 62, 3, 54, 4, 21, 4, 42, 180, 0, 32, 180, 0, 47, 162, 0, 63, 42, 27, 21, 4, 182, 0, 112]
abbrev dktX13_upward_0 : List UInt8 := dkwX13_upward_0 ++ dktX13_upward_1
theorem dksX13_upward_0 : cX13_upward.data.toList.drop 0 = dktX13_upward_0 := by decide +kernel
theorem dksX13_upward_1 : cX13_upward.data.toList.drop 24 = dktX13_upward_1 := dk_seg dksX13_upward_0 24 rfl rfl
theorem dksX13_upward_2 : cX13_upward.data.toList.drop 48 = dktX13_upward_2 := dk_seg dksX13_upward_1 24 rfl rfl
theorem dksX13_upward_3 : cX13_upward.data.toList.drop 71 = dktX13_upward_3 := dk_seg dksX13_upward_2 23 rfl rfl
theorem dX13_upward_0 : decode cX13_upward 0 = .ok (.iconst 0, 1) := dk_3 (dk_at dksX13_upward_0 0 rfl rfl)
theorem dX13_upward_1 : decode cX13_upward 1 = .ok (.istore_n 3, 1) := dk_62 (dk_at dksX13_upward_0 1 rfl rfl)
theorem dX13_upward_2 : decode cX13_upward 2 = .ok (.iconst 0, 1) := dk_3 (dk_at dksX13_upward_0 2 rfl rfl)
theorem dX13_upward_3 : decode cX13_upward 3 = .ok (.istore 4, 2) := dk_54 4 (dk_at dksX13_upward_0 3 rfl rfl)
theorem dX13_upward_5 : decode cX13_upward 5 = .ok (.iload 4, 2) := dk_21 4 (dk_at dksX13_upward_0 5 rfl rfl)
theorem dX13_upward_7 : decode cX13_upward 7 = .ok (.aload_n 0, 1) := dk_42 (dk_at dksX13_upward_0 7 rfl rfl)
theorem dX13_upward_8 : decode cX13_upward 8 = .ok (.getfield 32, 3) := dk_180 0 32 (dk_at dksX13_upward_0 8 rfl rfl)
theorem dX13_upward_11 : decode cX13_upward 11 = .ok (.getfield 47, 3) := dk_180 0 47 (dk_at dksX13_upward_0 11 rfl rfl)
theorem dX13_upward_14 : decode cX13_upward 14 = .ok (.if_icmp .ge 63, 3) := dk_162 0 63 (dk_at dksX13_upward_0 14 rfl rfl)
theorem dX13_upward_17 : decode cX13_upward 17 = .ok (.aload_n 0, 1) := dk_42 (dk_at dksX13_upward_0 17 rfl rfl)
theorem dX13_upward_18 : decode cX13_upward 18 = .ok (.iload_n 1, 1) := dk_27 (dk_at dksX13_upward_0 18 rfl rfl)
theorem dX13_upward_19 : decode cX13_upward 19 = .ok (.iload 4, 2) := dk_21 4 (dk_at dksX13_upward_0 19 rfl rfl)
theorem dX13_upward_21 : decode cX13_upward 21 = .ok (.invokevirtual 112, 3) := dk_182 0 112 (dk_at dksX13_upward_0 21 rfl rfl)
theorem dX13_upward_24 : decode cX13_upward 24 = .ok (.astore 5, 2) := dk_58 5 (dk_at dksX13_upward_1 0 rfl rfl)
theorem dX13_upward_26 : decode cX13_upward 26 = .ok (.iconst 0, 1) := dk_3 (dk_at dksX13_upward_1 2 rfl rfl)
theorem dX13_upward_27 : decode cX13_upward 27 = .ok (.istore 6, 2) := dk_54 6 (dk_at dksX13_upward_1 3 rfl rfl)
theorem dX13_upward_29 : decode cX13_upward 29 = .ok (.iload 6, 2) := dk_21 6 (dk_at dksX13_upward_1 5 rfl rfl)
theorem dX13_upward_31 : decode cX13_upward 31 = .ok (.aload_n 0, 1) := dk_42 (dk_at dksX13_upward_1 7 rfl rfl)
theorem dX13_upward_32 : decode cX13_upward 32 = .ok (.getfield 32, 3) := dk_180 0 32 (dk_at dksX13_upward_1 8 rfl rfl)
theorem dX13_upward_35 : decode cX13_upward 35 = .ok (.getfield 47, 3) := dk_180 0 47 (dk_at dksX13_upward_1 11 rfl rfl)
theorem dX13_upward_38 : decode cX13_upward 38 = .ok (.if_icmp .ge 33, 3) := dk_162 0 33 (dk_at dksX13_upward_1 14 rfl rfl)
theorem dX13_upward_41 : decode cX13_upward 41 = .ok (.iload_n 2, 1) := dk_28 (dk_at dksX13_upward_1 17 rfl rfl)
theorem dX13_upward_42 : decode cX13_upward 42 = .ok (.ifCond .eq 13, 3) := dk_153 0 13 (dk_at dksX13_upward_1 18 rfl rfl)
theorem dX13_upward_45 : decode cX13_upward 45 = .ok (.iload_n 3, 1) := dk_29 (dk_at dksX13_upward_1 21 rfl rfl)
theorem dX13_upward_46 : decode cX13_upward 46 = .ok (.aload 5, 2) := dk_25 5 (dk_at dksX13_upward_1 22 rfl rfl)
theorem dX13_upward_48 : decode cX13_upward 48 = .ok (.iload 6, 2) := dk_21 6 (dk_at dksX13_upward_2 0 rfl rfl)
theorem dX13_upward_50 : decode cX13_upward 50 = .ok (.iaload, 1) := dk_46 (dk_at dksX13_upward_2 2 rfl rfl)
theorem dX13_upward_51 : decode cX13_upward 51 = .ok (.iadd, 1) := dk_96 (dk_at dksX13_upward_2 3 rfl rfl)
theorem dX13_upward_52 : decode cX13_upward 52 = .ok (.goto 12, 3) := dk_167 0 12 (dk_at dksX13_upward_2 4 rfl rfl)
theorem dX13_upward_55 : decode cX13_upward 55 = .ok (.iload_n 3, 1) := dk_29 (dk_at dksX13_upward_2 7 rfl rfl)
theorem dX13_upward_56 : decode cX13_upward 56 = .ok (.aload 5, 2) := dk_25 5 (dk_at dksX13_upward_2 8 rfl rfl)
theorem dX13_upward_58 : decode cX13_upward 58 = .ok (.iload 6, 2) := dk_21 6 (dk_at dksX13_upward_2 10 rfl rfl)
theorem dX13_upward_60 : decode cX13_upward 60 = .ok (.iaload, 1) := dk_46 (dk_at dksX13_upward_2 12 rfl rfl)
theorem dX13_upward_61 : decode cX13_upward 61 = .ok (.invokestatic 91, 3) := dk_184 0 91 (dk_at dksX13_upward_2 13 rfl rfl)
theorem dX13_upward_64 : decode cX13_upward 64 = .ok (.istore_n 3, 1) := dk_62 (dk_at dksX13_upward_2 16 rfl rfl)
theorem dX13_upward_65 : decode cX13_upward 65 = .ok (.iinc 6 1, 3) := dk_132 6 1 (dk_at dksX13_upward_2 17 rfl rfl)
theorem dX13_upward_68 : decode cX13_upward 68 = .ok (.goto (-39), 3) := dk_167 255 217 (dk_at dksX13_upward_2 20 rfl rfl)
theorem dX13_upward_71 : decode cX13_upward 71 = .ok (.iinc 4 1, 3) := dk_132 4 1 (dk_at dksX13_upward_3 0 rfl rfl)
theorem dX13_upward_74 : decode cX13_upward 74 = .ok (.goto (-69), 3) := dk_167 255 187 (dk_at dksX13_upward_3 3 rfl rfl)
theorem dX13_upward_77 : decode cX13_upward 77 = .ok (.iload_n 3, 1) := dk_29 (dk_at dksX13_upward_3 6 rfl rfl)
theorem dX13_upward_78 : decode cX13_upward 78 = .ok (.ireturn, 1) := dk_172 (dk_at dksX13_upward_3 7 rfl rfl)
abbrev cX13_upward_2 : ByteArray := prog_12_method_11_code
def yX13_upward_2 : MethodName := ⟨RX13, "upward", "(II)[I"⟩
def dkwX13_upward_2_12 : List UInt8 := [96, 46, 184, 0, 109, 79, 132, 7, 1, 167, 255, 177, 25, 6, 176]
abbrev dktX13_upward_2_12 : List UInt8 := dkwX13_upward_2_12 ++ []
def dkwX13_upward_2_11 : List UInt8 := [160, 0, 12, 45, 5, 21, 7, 104, 46, 167, 0, 20, 45, 5, 21, 7, 104, 46, 45, 5, 21, 7, 104, 4]
abbrev dktX13_upward_2_11 : List UInt8 := dkwX13_upward_2_11 ++ dktX13_upward_2_12
def dkwX13_upward_2_10 : List UInt8 := [160, 0, 14, 45, 5, 21, 7, 104, 4, 96, 46, 167, 0, 41, 45, 5, 21, 7, 104, 4, 96, 46, 2]
abbrev dktX13_upward_2_10 : List UInt8 := dkwX13_upward_2_10 ++ dktX13_upward_2_11
def dkwX13_upward_2_9 : List UInt8 := [21, 7, 42, 180, 0, 32, 180, 0, 47, 162, 0, 73, 25, 6, 21, 7, 45, 5, 21, 7, 104, 46, 2]
abbrev dktX13_upward_2_9 : List UInt8 := dkwX13_upward_2_9 ++ dktX13_upward_2_10
def dkwX13_upward_2_8 : List UInt8 := [167, 255, 163, 132, 6, 1, 167, 255, 111, 42, 180, 0, 32, 180, 0, 47, 188, 10, 58, 6, 3, 54, 7]
abbrev dktX13_upward_2_8 : List UInt8 := dkwX13_upward_2_8 ++ dktX13_upward_2_9
def dkwX13_upward_2_7 : List UInt8 := [46, 46, 4, 96, 79, 25, 4, 21, 5, 21, 12, 79, 132, 5, 1, 21, 9, 21, 9, 4, 100, 126, 54, 9]
abbrev dktX13_upward_2_7 : List UInt8 := dkwX13_upward_2_7 ++ dktX13_upward_2_8
def dkwX13_upward_2_6 : List UInt8 := [21, 11, 154, 0, 37, 45, 21, 12, 46, 2, 159, 0, 6, 167, 0, 26, 45, 21, 12, 45, 25, 4, 21, 6]
abbrev dktX13_upward_2_6 : List UInt8 := dkwX13_upward_2_6 ++ dktX13_upward_2_7
def dkwX13_upward_2_5 : List UInt8 := [54, 11, 5, 21, 10, 104, 21, 11, 153, 0, 7, 3, 167, 0, 4, 4, 96, 54, 12, 21, 8, 153, 0, 8]
abbrev dktX13_upward_2_5 : List UInt8 := dkwX13_upward_2_5 ++ dktX13_upward_2_6
def dkwX13_upward_2_4 : List UInt8 := [54, 9, 21, 9, 153, 0, 94, 21, 9, 184, 0, 99, 54, 10, 42, 27, 21, 10, 21, 7, 182, 0, 105]
abbrev dktX13_upward_2_4 : List UInt8 := dkwX13_upward_2_4 ++ dktX13_upward_2_5
def dkwX13_upward_2_3 : List UInt8 := [5, 112, 4, 160, 0, 7, 4, 167, 0, 4, 3, 54, 8, 42, 180, 0, 32, 180, 0, 96, 21, 7, 46]
abbrev dktX13_upward_2_3 : List UInt8 := dkwX13_upward_2_3 ++ dktX13_upward_2_4
def dkwX13_upward_2_2 : List UInt8 := [3, 54, 6, 21, 6, 21, 5, 162, 0, 144, 25, 4, 21, 6, 46, 5, 108, 54, 7, 25, 4, 21, 6, 46]
abbrev dktX13_upward_2_2 : List UInt8 := dkwX13_upward_2_2 ++ dktX13_upward_2_3
def dkwX13_upward_2_1 : List UInt8 := [2, 79, 132, 5, 1, 167, 255, 241, 4, 54, 5, 25, 4, 3, 5, 28, 104, 79, 45, 5, 28, 104, 3, 79]
abbrev dktX13_upward_2_1 : List UInt8 := dkwX13_upward_2_1 ++ dktX13_upward_2_2
def dkwX13_upward_2_0 : List UInt8 := [16, 48, 188, 10, 78, 16, 48, 188, 10, 58, 4, 3, 54, 5, 21, 5, 16, 48, 162, 0, 14, 45, 21, 5]
abbrev dktX13_upward_2_0 : List UInt8 := dkwX13_upward_2_0 ++ dktX13_upward_2_1
theorem dksX13_upward_2_0 : cX13_upward_2.data.toList.drop 0 = dktX13_upward_2_0 := by decide +kernel
theorem dksX13_upward_2_1 : cX13_upward_2.data.toList.drop 24 = dktX13_upward_2_1 := dk_seg dksX13_upward_2_0 24 rfl rfl
theorem dksX13_upward_2_2 : cX13_upward_2.data.toList.drop 48 = dktX13_upward_2_2 := dk_seg dksX13_upward_2_1 24 rfl rfl
theorem dksX13_upward_2_3 : cX13_upward_2.data.toList.drop 72 = dktX13_upward_2_3 := dk_seg dksX13_upward_2_2 24 rfl rfl
theorem dksX13_upward_2_4 : cX13_upward_2.data.toList.drop 95 = dktX13_upward_2_4 := dk_seg dksX13_upward_2_3 23 rfl rfl
theorem dksX13_upward_2_5 : cX13_upward_2.data.toList.drop 118 = dktX13_upward_2_5 := dk_seg dksX13_upward_2_4 23 rfl rfl
theorem dksX13_upward_2_6 : cX13_upward_2.data.toList.drop 142 = dktX13_upward_2_6 := dk_seg dksX13_upward_2_5 24 rfl rfl
theorem dksX13_upward_2_7 : cX13_upward_2.data.toList.drop 166 = dktX13_upward_2_7 := dk_seg dksX13_upward_2_6 24 rfl rfl
theorem dksX13_upward_2_8 : cX13_upward_2.data.toList.drop 190 = dktX13_upward_2_8 := dk_seg dksX13_upward_2_7 24 rfl rfl
theorem dksX13_upward_2_9 : cX13_upward_2.data.toList.drop 213 = dktX13_upward_2_9 := dk_seg dksX13_upward_2_8 23 rfl rfl
theorem dksX13_upward_2_10 : cX13_upward_2.data.toList.drop 236 = dktX13_upward_2_10 := dk_seg dksX13_upward_2_9 23 rfl rfl
theorem dksX13_upward_2_11 : cX13_upward_2.data.toList.drop 259 = dktX13_upward_2_11 := dk_seg dksX13_upward_2_10 23 rfl rfl
theorem dksX13_upward_2_12 : cX13_upward_2.data.toList.drop 283 = dktX13_upward_2_12 := dk_seg dksX13_upward_2_11 24 rfl rfl
theorem dX13_upward_2_0 : decode cX13_upward_2 0 = .ok (.bipush 48, 2) := dk_16 48 (dk_at dksX13_upward_2_0 0 rfl rfl)
theorem dX13_upward_2_2 : decode cX13_upward_2 2 = .ok (.newarray .int, 2) := dk_188_10 (dk_at dksX13_upward_2_0 2 rfl rfl)
theorem dX13_upward_2_4 : decode cX13_upward_2 4 = .ok (.astore_n 3, 1) := dk_78 (dk_at dksX13_upward_2_0 4 rfl rfl)
theorem dX13_upward_2_5 : decode cX13_upward_2 5 = .ok (.bipush 48, 2) := dk_16 48 (dk_at dksX13_upward_2_0 5 rfl rfl)
theorem dX13_upward_2_7 : decode cX13_upward_2 7 = .ok (.newarray .int, 2) := dk_188_10 (dk_at dksX13_upward_2_0 7 rfl rfl)
theorem dX13_upward_2_9 : decode cX13_upward_2 9 = .ok (.astore 4, 2) := dk_58 4 (dk_at dksX13_upward_2_0 9 rfl rfl)
theorem dX13_upward_2_11 : decode cX13_upward_2 11 = .ok (.iconst 0, 1) := dk_3 (dk_at dksX13_upward_2_0 11 rfl rfl)
theorem dX13_upward_2_12 : decode cX13_upward_2 12 = .ok (.istore 5, 2) := dk_54 5 (dk_at dksX13_upward_2_0 12 rfl rfl)
theorem dX13_upward_2_14 : decode cX13_upward_2 14 = .ok (.iload 5, 2) := dk_21 5 (dk_at dksX13_upward_2_0 14 rfl rfl)
theorem dX13_upward_2_16 : decode cX13_upward_2 16 = .ok (.bipush 48, 2) := dk_16 48 (dk_at dksX13_upward_2_0 16 rfl rfl)
theorem dX13_upward_2_18 : decode cX13_upward_2 18 = .ok (.if_icmp .ge 14, 3) := dk_162 0 14 (dk_at dksX13_upward_2_0 18 rfl rfl)
theorem dX13_upward_2_21 : decode cX13_upward_2 21 = .ok (.aload_n 3, 1) := dk_45 (dk_at dksX13_upward_2_0 21 rfl rfl)
theorem dX13_upward_2_22 : decode cX13_upward_2 22 = .ok (.iload 5, 2) := dk_21 5 (dk_at dksX13_upward_2_0 22 rfl rfl)
theorem dX13_upward_2_24 : decode cX13_upward_2 24 = .ok (.iconst (-1), 1) := dk_2 (dk_at dksX13_upward_2_1 0 rfl rfl)
theorem dX13_upward_2_25 : decode cX13_upward_2 25 = .ok (.iastore, 1) := dk_79 (dk_at dksX13_upward_2_1 1 rfl rfl)
theorem dX13_upward_2_26 : decode cX13_upward_2 26 = .ok (.iinc 5 1, 3) := dk_132 5 1 (dk_at dksX13_upward_2_1 2 rfl rfl)
theorem dX13_upward_2_29 : decode cX13_upward_2 29 = .ok (.goto (-15), 3) := dk_167 255 241 (dk_at dksX13_upward_2_1 5 rfl rfl)
theorem dX13_upward_2_32 : decode cX13_upward_2 32 = .ok (.iconst 1, 1) := dk_4 (dk_at dksX13_upward_2_1 8 rfl rfl)
theorem dX13_upward_2_33 : decode cX13_upward_2 33 = .ok (.istore 5, 2) := dk_54 5 (dk_at dksX13_upward_2_1 9 rfl rfl)
theorem dX13_upward_2_35 : decode cX13_upward_2 35 = .ok (.aload 4, 2) := dk_25 4 (dk_at dksX13_upward_2_1 11 rfl rfl)
theorem dX13_upward_2_37 : decode cX13_upward_2 37 = .ok (.iconst 0, 1) := dk_3 (dk_at dksX13_upward_2_1 13 rfl rfl)
theorem dX13_upward_2_38 : decode cX13_upward_2 38 = .ok (.iconst 2, 1) := dk_5 (dk_at dksX13_upward_2_1 14 rfl rfl)
theorem dX13_upward_2_39 : decode cX13_upward_2 39 = .ok (.iload_n 2, 1) := dk_28 (dk_at dksX13_upward_2_1 15 rfl rfl)
theorem dX13_upward_2_40 : decode cX13_upward_2 40 = .ok (.imul, 1) := dk_104 (dk_at dksX13_upward_2_1 16 rfl rfl)
theorem dX13_upward_2_41 : decode cX13_upward_2 41 = .ok (.iastore, 1) := dk_79 (dk_at dksX13_upward_2_1 17 rfl rfl)
theorem dX13_upward_2_42 : decode cX13_upward_2 42 = .ok (.aload_n 3, 1) := dk_45 (dk_at dksX13_upward_2_1 18 rfl rfl)
theorem dX13_upward_2_43 : decode cX13_upward_2 43 = .ok (.iconst 2, 1) := dk_5 (dk_at dksX13_upward_2_1 19 rfl rfl)
theorem dX13_upward_2_44 : decode cX13_upward_2 44 = .ok (.iload_n 2, 1) := dk_28 (dk_at dksX13_upward_2_1 20 rfl rfl)
theorem dX13_upward_2_45 : decode cX13_upward_2 45 = .ok (.imul, 1) := dk_104 (dk_at dksX13_upward_2_1 21 rfl rfl)
theorem dX13_upward_2_46 : decode cX13_upward_2 46 = .ok (.iconst 0, 1) := dk_3 (dk_at dksX13_upward_2_1 22 rfl rfl)
theorem dX13_upward_2_47 : decode cX13_upward_2 47 = .ok (.iastore, 1) := dk_79 (dk_at dksX13_upward_2_1 23 rfl rfl)
theorem dX13_upward_2_48 : decode cX13_upward_2 48 = .ok (.iconst 0, 1) := dk_3 (dk_at dksX13_upward_2_2 0 rfl rfl)
theorem dX13_upward_2_49 : decode cX13_upward_2 49 = .ok (.istore 6, 2) := dk_54 6 (dk_at dksX13_upward_2_2 1 rfl rfl)
theorem dX13_upward_2_51 : decode cX13_upward_2 51 = .ok (.iload 6, 2) := dk_21 6 (dk_at dksX13_upward_2_2 3 rfl rfl)
theorem dX13_upward_2_53 : decode cX13_upward_2 53 = .ok (.iload 5, 2) := dk_21 5 (dk_at dksX13_upward_2_2 5 rfl rfl)
theorem dX13_upward_2_55 : decode cX13_upward_2 55 = .ok (.if_icmp .ge 144, 3) := dk_162 0 144 (dk_at dksX13_upward_2_2 7 rfl rfl)
theorem dX13_upward_2_58 : decode cX13_upward_2 58 = .ok (.aload 4, 2) := dk_25 4 (dk_at dksX13_upward_2_2 10 rfl rfl)
theorem dX13_upward_2_60 : decode cX13_upward_2 60 = .ok (.iload 6, 2) := dk_21 6 (dk_at dksX13_upward_2_2 12 rfl rfl)
theorem dX13_upward_2_62 : decode cX13_upward_2 62 = .ok (.iaload, 1) := dk_46 (dk_at dksX13_upward_2_2 14 rfl rfl)
theorem dX13_upward_2_63 : decode cX13_upward_2 63 = .ok (.iconst 2, 1) := dk_5 (dk_at dksX13_upward_2_2 15 rfl rfl)
theorem dX13_upward_2_64 : decode cX13_upward_2 64 = .ok (.idiv, 1) := dk_108 (dk_at dksX13_upward_2_2 16 rfl rfl)
theorem dX13_upward_2_65 : decode cX13_upward_2 65 = .ok (.istore 7, 2) := dk_54 7 (dk_at dksX13_upward_2_2 17 rfl rfl)
theorem dX13_upward_2_67 : decode cX13_upward_2 67 = .ok (.aload 4, 2) := dk_25 4 (dk_at dksX13_upward_2_2 19 rfl rfl)
theorem dX13_upward_2_69 : decode cX13_upward_2 69 = .ok (.iload 6, 2) := dk_21 6 (dk_at dksX13_upward_2_2 21 rfl rfl)
theorem dX13_upward_2_71 : decode cX13_upward_2 71 = .ok (.iaload, 1) := dk_46 (dk_at dksX13_upward_2_2 23 rfl rfl)
theorem dX13_upward_2_72 : decode cX13_upward_2 72 = .ok (.iconst 2, 1) := dk_5 (dk_at dksX13_upward_2_3 0 rfl rfl)
theorem dX13_upward_2_73 : decode cX13_upward_2 73 = .ok (.irem, 1) := dk_112 (dk_at dksX13_upward_2_3 1 rfl rfl)
theorem dX13_upward_2_74 : decode cX13_upward_2 74 = .ok (.iconst 1, 1) := dk_4 (dk_at dksX13_upward_2_3 2 rfl rfl)
theorem dX13_upward_2_75 : decode cX13_upward_2 75 = .ok (.if_icmp .ne 7, 3) := dk_160 0 7 (dk_at dksX13_upward_2_3 3 rfl rfl)
theorem dX13_upward_2_78 : decode cX13_upward_2 78 = .ok (.iconst 1, 1) := dk_4 (dk_at dksX13_upward_2_3 6 rfl rfl)
theorem dX13_upward_2_79 : decode cX13_upward_2 79 = .ok (.goto 4, 3) := dk_167 0 4 (dk_at dksX13_upward_2_3 7 rfl rfl)
theorem dX13_upward_2_82 : decode cX13_upward_2 82 = .ok (.iconst 0, 1) := dk_3 (dk_at dksX13_upward_2_3 10 rfl rfl)
theorem dX13_upward_2_83 : decode cX13_upward_2 83 = .ok (.istore 8, 2) := dk_54 8 (dk_at dksX13_upward_2_3 11 rfl rfl)
theorem dX13_upward_2_85 : decode cX13_upward_2 85 = .ok (.aload_n 0, 1) := dk_42 (dk_at dksX13_upward_2_3 13 rfl rfl)
theorem dX13_upward_2_86 : decode cX13_upward_2 86 = .ok (.getfield 32, 3) := dk_180 0 32 (dk_at dksX13_upward_2_3 14 rfl rfl)
theorem dX13_upward_2_89 : decode cX13_upward_2 89 = .ok (.getfield 96, 3) := dk_180 0 96 (dk_at dksX13_upward_2_3 17 rfl rfl)
theorem dX13_upward_2_92 : decode cX13_upward_2 92 = .ok (.iload 7, 2) := dk_21 7 (dk_at dksX13_upward_2_3 20 rfl rfl)
theorem dX13_upward_2_94 : decode cX13_upward_2 94 = .ok (.iaload, 1) := dk_46 (dk_at dksX13_upward_2_3 22 rfl rfl)
theorem dX13_upward_2_95 : decode cX13_upward_2 95 = .ok (.istore 9, 2) := dk_54 9 (dk_at dksX13_upward_2_4 0 rfl rfl)
theorem dX13_upward_2_97 : decode cX13_upward_2 97 = .ok (.iload 9, 2) := dk_21 9 (dk_at dksX13_upward_2_4 2 rfl rfl)
theorem dX13_upward_2_99 : decode cX13_upward_2 99 = .ok (.ifCond .eq 94, 3) := dk_153 0 94 (dk_at dksX13_upward_2_4 4 rfl rfl)
theorem dX13_upward_2_102 : decode cX13_upward_2 102 = .ok (.iload 9, 2) := dk_21 9 (dk_at dksX13_upward_2_4 7 rfl rfl)
theorem dX13_upward_2_104 : decode cX13_upward_2 104 = .ok (.invokestatic 99, 3) := dk_184 0 99 (dk_at dksX13_upward_2_4 9 rfl rfl)
theorem dX13_upward_2_107 : decode cX13_upward_2 107 = .ok (.istore 10, 2) := dk_54 10 (dk_at dksX13_upward_2_4 12 rfl rfl)
theorem dX13_upward_2_109 : decode cX13_upward_2 109 = .ok (.aload_n 0, 1) := dk_42 (dk_at dksX13_upward_2_4 14 rfl rfl)
theorem dX13_upward_2_110 : decode cX13_upward_2 110 = .ok (.iload_n 1, 1) := dk_27 (dk_at dksX13_upward_2_4 15 rfl rfl)
theorem dX13_upward_2_111 : decode cX13_upward_2 111 = .ok (.iload 10, 2) := dk_21 10 (dk_at dksX13_upward_2_4 16 rfl rfl)
theorem dX13_upward_2_113 : decode cX13_upward_2 113 = .ok (.iload 7, 2) := dk_21 7 (dk_at dksX13_upward_2_4 18 rfl rfl)
theorem dX13_upward_2_115 : decode cX13_upward_2 115 = .ok (.invokevirtual 105, 3) := dk_182 0 105 (dk_at dksX13_upward_2_4 20 rfl rfl)
theorem dX13_upward_2_118 : decode cX13_upward_2 118 = .ok (.istore 11, 2) := dk_54 11 (dk_at dksX13_upward_2_5 0 rfl rfl)
theorem dX13_upward_2_120 : decode cX13_upward_2 120 = .ok (.iconst 2, 1) := dk_5 (dk_at dksX13_upward_2_5 2 rfl rfl)
theorem dX13_upward_2_121 : decode cX13_upward_2 121 = .ok (.iload 10, 2) := dk_21 10 (dk_at dksX13_upward_2_5 3 rfl rfl)
theorem dX13_upward_2_123 : decode cX13_upward_2 123 = .ok (.imul, 1) := dk_104 (dk_at dksX13_upward_2_5 5 rfl rfl)
theorem dX13_upward_2_124 : decode cX13_upward_2 124 = .ok (.iload 11, 2) := dk_21 11 (dk_at dksX13_upward_2_5 6 rfl rfl)
theorem dX13_upward_2_126 : decode cX13_upward_2 126 = .ok (.ifCond .eq 7, 3) := dk_153 0 7 (dk_at dksX13_upward_2_5 8 rfl rfl)
theorem dX13_upward_2_129 : decode cX13_upward_2 129 = .ok (.iconst 0, 1) := dk_3 (dk_at dksX13_upward_2_5 11 rfl rfl)
theorem dX13_upward_2_130 : decode cX13_upward_2 130 = .ok (.goto 4, 3) := dk_167 0 4 (dk_at dksX13_upward_2_5 12 rfl rfl)
theorem dX13_upward_2_133 : decode cX13_upward_2 133 = .ok (.iconst 1, 1) := dk_4 (dk_at dksX13_upward_2_5 15 rfl rfl)
theorem dX13_upward_2_134 : decode cX13_upward_2 134 = .ok (.iadd, 1) := dk_96 (dk_at dksX13_upward_2_5 16 rfl rfl)
theorem dX13_upward_2_135 : decode cX13_upward_2 135 = .ok (.istore 12, 2) := dk_54 12 (dk_at dksX13_upward_2_5 17 rfl rfl)
theorem dX13_upward_2_137 : decode cX13_upward_2 137 = .ok (.iload 8, 2) := dk_21 8 (dk_at dksX13_upward_2_5 19 rfl rfl)
theorem dX13_upward_2_139 : decode cX13_upward_2 139 = .ok (.ifCond .eq 8, 3) := dk_153 0 8 (dk_at dksX13_upward_2_5 21 rfl rfl)
theorem dX13_upward_2_142 : decode cX13_upward_2 142 = .ok (.iload 11, 2) := dk_21 11 (dk_at dksX13_upward_2_6 0 rfl rfl)
theorem dX13_upward_2_144 : decode cX13_upward_2 144 = .ok (.ifCond .ne 37, 3) := dk_154 0 37 (dk_at dksX13_upward_2_6 2 rfl rfl)
theorem dX13_upward_2_147 : decode cX13_upward_2 147 = .ok (.aload_n 3, 1) := dk_45 (dk_at dksX13_upward_2_6 5 rfl rfl)
theorem dX13_upward_2_148 : decode cX13_upward_2 148 = .ok (.iload 12, 2) := dk_21 12 (dk_at dksX13_upward_2_6 6 rfl rfl)
theorem dX13_upward_2_150 : decode cX13_upward_2 150 = .ok (.iaload, 1) := dk_46 (dk_at dksX13_upward_2_6 8 rfl rfl)
theorem dX13_upward_2_151 : decode cX13_upward_2 151 = .ok (.iconst (-1), 1) := dk_2 (dk_at dksX13_upward_2_6 9 rfl rfl)
theorem dX13_upward_2_152 : decode cX13_upward_2 152 = .ok (.if_icmp .eq 6, 3) := dk_159 0 6 (dk_at dksX13_upward_2_6 10 rfl rfl)
theorem dX13_upward_2_155 : decode cX13_upward_2 155 = .ok (.goto 26, 3) := dk_167 0 26 (dk_at dksX13_upward_2_6 13 rfl rfl)
theorem dX13_upward_2_158 : decode cX13_upward_2 158 = .ok (.aload_n 3, 1) := dk_45 (dk_at dksX13_upward_2_6 16 rfl rfl)
theorem dX13_upward_2_159 : decode cX13_upward_2 159 = .ok (.iload 12, 2) := dk_21 12 (dk_at dksX13_upward_2_6 17 rfl rfl)
theorem dX13_upward_2_161 : decode cX13_upward_2 161 = .ok (.aload_n 3, 1) := dk_45 (dk_at dksX13_upward_2_6 19 rfl rfl)
theorem dX13_upward_2_162 : decode cX13_upward_2 162 = .ok (.aload 4, 2) := dk_25 4 (dk_at dksX13_upward_2_6 20 rfl rfl)
theorem dX13_upward_2_164 : decode cX13_upward_2 164 = .ok (.iload 6, 2) := dk_21 6 (dk_at dksX13_upward_2_6 22 rfl rfl)
theorem dX13_upward_2_166 : decode cX13_upward_2 166 = .ok (.iaload, 1) := dk_46 (dk_at dksX13_upward_2_7 0 rfl rfl)
theorem dX13_upward_2_167 : decode cX13_upward_2 167 = .ok (.iaload, 1) := dk_46 (dk_at dksX13_upward_2_7 1 rfl rfl)
theorem dX13_upward_2_168 : decode cX13_upward_2 168 = .ok (.iconst 1, 1) := dk_4 (dk_at dksX13_upward_2_7 2 rfl rfl)
theorem dX13_upward_2_169 : decode cX13_upward_2 169 = .ok (.iadd, 1) := dk_96 (dk_at dksX13_upward_2_7 3 rfl rfl)
theorem dX13_upward_2_170 : decode cX13_upward_2 170 = .ok (.iastore, 1) := dk_79 (dk_at dksX13_upward_2_7 4 rfl rfl)
theorem dX13_upward_2_171 : decode cX13_upward_2 171 = .ok (.aload 4, 2) := dk_25 4 (dk_at dksX13_upward_2_7 5 rfl rfl)
theorem dX13_upward_2_173 : decode cX13_upward_2 173 = .ok (.iload 5, 2) := dk_21 5 (dk_at dksX13_upward_2_7 7 rfl rfl)
theorem dX13_upward_2_175 : decode cX13_upward_2 175 = .ok (.iload 12, 2) := dk_21 12 (dk_at dksX13_upward_2_7 9 rfl rfl)
theorem dX13_upward_2_177 : decode cX13_upward_2 177 = .ok (.iastore, 1) := dk_79 (dk_at dksX13_upward_2_7 11 rfl rfl)
theorem dX13_upward_2_178 : decode cX13_upward_2 178 = .ok (.iinc 5 1, 3) := dk_132 5 1 (dk_at dksX13_upward_2_7 12 rfl rfl)
theorem dX13_upward_2_181 : decode cX13_upward_2 181 = .ok (.iload 9, 2) := dk_21 9 (dk_at dksX13_upward_2_7 15 rfl rfl)
theorem dX13_upward_2_183 : decode cX13_upward_2 183 = .ok (.iload 9, 2) := dk_21 9 (dk_at dksX13_upward_2_7 17 rfl rfl)
theorem dX13_upward_2_185 : decode cX13_upward_2 185 = .ok (.iconst 1, 1) := dk_4 (dk_at dksX13_upward_2_7 19 rfl rfl)
theorem dX13_upward_2_186 : decode cX13_upward_2 186 = .ok (.isub, 1) := dk_100 (dk_at dksX13_upward_2_7 20 rfl rfl)
theorem dX13_upward_2_187 : decode cX13_upward_2 187 = .ok (.iand, 1) := dk_126 (dk_at dksX13_upward_2_7 21 rfl rfl)
theorem dX13_upward_2_188 : decode cX13_upward_2 188 = .ok (.istore 9, 2) := dk_54 9 (dk_at dksX13_upward_2_7 22 rfl rfl)
theorem dX13_upward_2_190 : decode cX13_upward_2 190 = .ok (.goto (-93), 3) := dk_167 255 163 (dk_at dksX13_upward_2_8 0 rfl rfl)
theorem dX13_upward_2_193 : decode cX13_upward_2 193 = .ok (.iinc 6 1, 3) := dk_132 6 1 (dk_at dksX13_upward_2_8 3 rfl rfl)
theorem dX13_upward_2_196 : decode cX13_upward_2 196 = .ok (.goto (-145), 3) := dk_167 255 111 (dk_at dksX13_upward_2_8 6 rfl rfl)
theorem dX13_upward_2_199 : decode cX13_upward_2 199 = .ok (.aload_n 0, 1) := dk_42 (dk_at dksX13_upward_2_8 9 rfl rfl)
theorem dX13_upward_2_200 : decode cX13_upward_2 200 = .ok (.getfield 32, 3) := dk_180 0 32 (dk_at dksX13_upward_2_8 10 rfl rfl)
theorem dX13_upward_2_203 : decode cX13_upward_2 203 = .ok (.getfield 47, 3) := dk_180 0 47 (dk_at dksX13_upward_2_8 13 rfl rfl)
theorem dX13_upward_2_206 : decode cX13_upward_2 206 = .ok (.newarray .int, 2) := dk_188_10 (dk_at dksX13_upward_2_8 16 rfl rfl)
theorem dX13_upward_2_208 : decode cX13_upward_2 208 = .ok (.astore 6, 2) := dk_58 6 (dk_at dksX13_upward_2_8 18 rfl rfl)
theorem dX13_upward_2_210 : decode cX13_upward_2 210 = .ok (.iconst 0, 1) := dk_3 (dk_at dksX13_upward_2_8 20 rfl rfl)
theorem dX13_upward_2_211 : decode cX13_upward_2 211 = .ok (.istore 7, 2) := dk_54 7 (dk_at dksX13_upward_2_8 21 rfl rfl)
theorem dX13_upward_2_213 : decode cX13_upward_2 213 = .ok (.iload 7, 2) := dk_21 7 (dk_at dksX13_upward_2_9 0 rfl rfl)
theorem dX13_upward_2_215 : decode cX13_upward_2 215 = .ok (.aload_n 0, 1) := dk_42 (dk_at dksX13_upward_2_9 2 rfl rfl)
theorem dX13_upward_2_216 : decode cX13_upward_2 216 = .ok (.getfield 32, 3) := dk_180 0 32 (dk_at dksX13_upward_2_9 3 rfl rfl)
theorem dX13_upward_2_219 : decode cX13_upward_2 219 = .ok (.getfield 47, 3) := dk_180 0 47 (dk_at dksX13_upward_2_9 6 rfl rfl)
theorem dX13_upward_2_222 : decode cX13_upward_2 222 = .ok (.if_icmp .ge 73, 3) := dk_162 0 73 (dk_at dksX13_upward_2_9 9 rfl rfl)
theorem dX13_upward_2_225 : decode cX13_upward_2 225 = .ok (.aload 6, 2) := dk_25 6 (dk_at dksX13_upward_2_9 12 rfl rfl)
theorem dX13_upward_2_227 : decode cX13_upward_2 227 = .ok (.iload 7, 2) := dk_21 7 (dk_at dksX13_upward_2_9 14 rfl rfl)
theorem dX13_upward_2_229 : decode cX13_upward_2 229 = .ok (.aload_n 3, 1) := dk_45 (dk_at dksX13_upward_2_9 16 rfl rfl)
theorem dX13_upward_2_230 : decode cX13_upward_2 230 = .ok (.iconst 2, 1) := dk_5 (dk_at dksX13_upward_2_9 17 rfl rfl)
theorem dX13_upward_2_231 : decode cX13_upward_2 231 = .ok (.iload 7, 2) := dk_21 7 (dk_at dksX13_upward_2_9 18 rfl rfl)
theorem dX13_upward_2_233 : decode cX13_upward_2 233 = .ok (.imul, 1) := dk_104 (dk_at dksX13_upward_2_9 20 rfl rfl)
theorem dX13_upward_2_234 : decode cX13_upward_2 234 = .ok (.iaload, 1) := dk_46 (dk_at dksX13_upward_2_9 21 rfl rfl)
theorem dX13_upward_2_235 : decode cX13_upward_2 235 = .ok (.iconst (-1), 1) := dk_2 (dk_at dksX13_upward_2_9 22 rfl rfl)
theorem dX13_upward_2_236 : decode cX13_upward_2 236 = .ok (.if_icmp .ne 14, 3) := dk_160 0 14 (dk_at dksX13_upward_2_10 0 rfl rfl)
theorem dX13_upward_2_239 : decode cX13_upward_2 239 = .ok (.aload_n 3, 1) := dk_45 (dk_at dksX13_upward_2_10 3 rfl rfl)
theorem dX13_upward_2_240 : decode cX13_upward_2 240 = .ok (.iconst 2, 1) := dk_5 (dk_at dksX13_upward_2_10 4 rfl rfl)
theorem dX13_upward_2_241 : decode cX13_upward_2 241 = .ok (.iload 7, 2) := dk_21 7 (dk_at dksX13_upward_2_10 5 rfl rfl)
theorem dX13_upward_2_243 : decode cX13_upward_2 243 = .ok (.imul, 1) := dk_104 (dk_at dksX13_upward_2_10 7 rfl rfl)
theorem dX13_upward_2_244 : decode cX13_upward_2 244 = .ok (.iconst 1, 1) := dk_4 (dk_at dksX13_upward_2_10 8 rfl rfl)
theorem dX13_upward_2_245 : decode cX13_upward_2 245 = .ok (.iadd, 1) := dk_96 (dk_at dksX13_upward_2_10 9 rfl rfl)
theorem dX13_upward_2_246 : decode cX13_upward_2 246 = .ok (.iaload, 1) := dk_46 (dk_at dksX13_upward_2_10 10 rfl rfl)
theorem dX13_upward_2_247 : decode cX13_upward_2 247 = .ok (.goto 41, 3) := dk_167 0 41 (dk_at dksX13_upward_2_10 11 rfl rfl)
theorem dX13_upward_2_250 : decode cX13_upward_2 250 = .ok (.aload_n 3, 1) := dk_45 (dk_at dksX13_upward_2_10 14 rfl rfl)
theorem dX13_upward_2_251 : decode cX13_upward_2 251 = .ok (.iconst 2, 1) := dk_5 (dk_at dksX13_upward_2_10 15 rfl rfl)
theorem dX13_upward_2_252 : decode cX13_upward_2 252 = .ok (.iload 7, 2) := dk_21 7 (dk_at dksX13_upward_2_10 16 rfl rfl)
theorem dX13_upward_2_254 : decode cX13_upward_2 254 = .ok (.imul, 1) := dk_104 (dk_at dksX13_upward_2_10 18 rfl rfl)
theorem dX13_upward_2_255 : decode cX13_upward_2 255 = .ok (.iconst 1, 1) := dk_4 (dk_at dksX13_upward_2_10 19 rfl rfl)
theorem dX13_upward_2_256 : decode cX13_upward_2 256 = .ok (.iadd, 1) := dk_96 (dk_at dksX13_upward_2_10 20 rfl rfl)
theorem dX13_upward_2_257 : decode cX13_upward_2 257 = .ok (.iaload, 1) := dk_46 (dk_at dksX13_upward_2_10 21 rfl rfl)
theorem dX13_upward_2_258 : decode cX13_upward_2 258 = .ok (.iconst (-1), 1) := dk_2 (dk_at dksX13_upward_2_10 22 rfl rfl)
theorem dX13_upward_2_259 : decode cX13_upward_2 259 = .ok (.if_icmp .ne 12, 3) := dk_160 0 12 (dk_at dksX13_upward_2_11 0 rfl rfl)
theorem dX13_upward_2_262 : decode cX13_upward_2 262 = .ok (.aload_n 3, 1) := dk_45 (dk_at dksX13_upward_2_11 3 rfl rfl)
theorem dX13_upward_2_263 : decode cX13_upward_2 263 = .ok (.iconst 2, 1) := dk_5 (dk_at dksX13_upward_2_11 4 rfl rfl)
theorem dX13_upward_2_264 : decode cX13_upward_2 264 = .ok (.iload 7, 2) := dk_21 7 (dk_at dksX13_upward_2_11 5 rfl rfl)
theorem dX13_upward_2_266 : decode cX13_upward_2 266 = .ok (.imul, 1) := dk_104 (dk_at dksX13_upward_2_11 7 rfl rfl)
theorem dX13_upward_2_267 : decode cX13_upward_2 267 = .ok (.iaload, 1) := dk_46 (dk_at dksX13_upward_2_11 8 rfl rfl)
theorem dX13_upward_2_268 : decode cX13_upward_2 268 = .ok (.goto 20, 3) := dk_167 0 20 (dk_at dksX13_upward_2_11 9 rfl rfl)
theorem dX13_upward_2_271 : decode cX13_upward_2 271 = .ok (.aload_n 3, 1) := dk_45 (dk_at dksX13_upward_2_11 12 rfl rfl)
theorem dX13_upward_2_272 : decode cX13_upward_2 272 = .ok (.iconst 2, 1) := dk_5 (dk_at dksX13_upward_2_11 13 rfl rfl)
theorem dX13_upward_2_273 : decode cX13_upward_2 273 = .ok (.iload 7, 2) := dk_21 7 (dk_at dksX13_upward_2_11 14 rfl rfl)
theorem dX13_upward_2_275 : decode cX13_upward_2 275 = .ok (.imul, 1) := dk_104 (dk_at dksX13_upward_2_11 16 rfl rfl)
theorem dX13_upward_2_276 : decode cX13_upward_2 276 = .ok (.iaload, 1) := dk_46 (dk_at dksX13_upward_2_11 17 rfl rfl)
theorem dX13_upward_2_277 : decode cX13_upward_2 277 = .ok (.aload_n 3, 1) := dk_45 (dk_at dksX13_upward_2_11 18 rfl rfl)
theorem dX13_upward_2_278 : decode cX13_upward_2 278 = .ok (.iconst 2, 1) := dk_5 (dk_at dksX13_upward_2_11 19 rfl rfl)
theorem dX13_upward_2_279 : decode cX13_upward_2 279 = .ok (.iload 7, 2) := dk_21 7 (dk_at dksX13_upward_2_11 20 rfl rfl)
theorem dX13_upward_2_281 : decode cX13_upward_2 281 = .ok (.imul, 1) := dk_104 (dk_at dksX13_upward_2_11 22 rfl rfl)
theorem dX13_upward_2_282 : decode cX13_upward_2 282 = .ok (.iconst 1, 1) := dk_4 (dk_at dksX13_upward_2_11 23 rfl rfl)
theorem dX13_upward_2_283 : decode cX13_upward_2 283 = .ok (.iadd, 1) := dk_96 (dk_at dksX13_upward_2_12 0 rfl rfl)
theorem dX13_upward_2_284 : decode cX13_upward_2 284 = .ok (.iaload, 1) := dk_46 (dk_at dksX13_upward_2_12 1 rfl rfl)
theorem dX13_upward_2_285 : decode cX13_upward_2 285 = .ok (.invokestatic 109, 3) := dk_184 0 109 (dk_at dksX13_upward_2_12 2 rfl rfl)
theorem dX13_upward_2_288 : decode cX13_upward_2 288 = .ok (.iastore, 1) := dk_79 (dk_at dksX13_upward_2_12 5 rfl rfl)
theorem dX13_upward_2_289 : decode cX13_upward_2 289 = .ok (.iinc 7 1, 3) := dk_132 7 1 (dk_at dksX13_upward_2_12 6 rfl rfl)
theorem dX13_upward_2_292 : decode cX13_upward_2 292 = .ok (.goto (-79), 3) := dk_167 255 177 (dk_at dksX13_upward_2_12 9 rfl rfl)
theorem dX13_upward_2_295 : decode cX13_upward_2 295 = .ok (.aload 6, 2) := dk_25 6 (dk_at dksX13_upward_2_12 12 rfl rfl)
theorem dX13_upward_2_297 : decode cX13_upward_2 297 = .ok (.areturn, 1) := dk_176 (dk_at dksX13_upward_2_12 14 rfl rfl)
abbrev cX13_isUp : ByteArray := prog_12_method_10_code
def yX13_isUp : MethodName := ⟨RX13, "isUp", "(III)Z"⟩
def dkwX13_isUp_2 : List UInt8 := [162, 0, 7, 4, 167, 0, 4, 3, 172]
abbrev dktX13_isUp_2 : List UInt8 := dkwX13_isUp_2 ++ []
def dkwX13_isUp_1 : List UInt8 := [50, 28, 46, 42, 180, 0, 11, 27, 50, 29, 46, 162, 0, 7, 4, 167, 0, 17, 3, 167, 0, 13, 28, 29]
abbrev dktX13_isUp_1 : List UInt8 := dkwX13_isUp_1 ++ dktX13_isUp_2
def dkwX13_isUp_0 : List UInt8 := [42, 180, 0, 11, 27, 50, 28, 46, 42, 180, 0, 11, 27, 50, 29, 46, 159, 0, 30, 42, 180, 0, 11, 27]
abbrev dktX13_isUp_0 : List UInt8 := dkwX13_isUp_0 ++ dktX13_isUp_1
theorem dksX13_isUp_0 : cX13_isUp.data.toList.drop 0 = dktX13_isUp_0 := by decide +kernel
theorem dksX13_isUp_1 : cX13_isUp.data.toList.drop 24 = dktX13_isUp_1 := dk_seg dksX13_isUp_0 24 rfl rfl
theorem dksX13_isUp_2 : cX13_isUp.data.toList.drop 48 = dktX13_isUp_2 := dk_seg dksX13_isUp_1 24 rfl rfl
theorem dX13_isUp_0 : decode cX13_isUp 0 = .ok (.aload_n 0, 1) := dk_42 (dk_at dksX13_isUp_0 0 rfl rfl)
theorem dX13_isUp_1 : decode cX13_isUp 1 = .ok (.getfield 11, 3) := dk_180 0 11 (dk_at dksX13_isUp_0 1 rfl rfl)
theorem dX13_isUp_4 : decode cX13_isUp 4 = .ok (.iload_n 1, 1) := dk_27 (dk_at dksX13_isUp_0 4 rfl rfl)
theorem dX13_isUp_5 : decode cX13_isUp 5 = .ok (.aaload, 1) := dk_50 (dk_at dksX13_isUp_0 5 rfl rfl)
theorem dX13_isUp_6 : decode cX13_isUp 6 = .ok (.iload_n 2, 1) := dk_28 (dk_at dksX13_isUp_0 6 rfl rfl)
theorem dX13_isUp_7 : decode cX13_isUp 7 = .ok (.iaload, 1) := dk_46 (dk_at dksX13_isUp_0 7 rfl rfl)
theorem dX13_isUp_8 : decode cX13_isUp 8 = .ok (.aload_n 0, 1) := dk_42 (dk_at dksX13_isUp_0 8 rfl rfl)
theorem dX13_isUp_9 : decode cX13_isUp 9 = .ok (.getfield 11, 3) := dk_180 0 11 (dk_at dksX13_isUp_0 9 rfl rfl)
theorem dX13_isUp_12 : decode cX13_isUp 12 = .ok (.iload_n 1, 1) := dk_27 (dk_at dksX13_isUp_0 12 rfl rfl)
theorem dX13_isUp_13 : decode cX13_isUp 13 = .ok (.aaload, 1) := dk_50 (dk_at dksX13_isUp_0 13 rfl rfl)
theorem dX13_isUp_14 : decode cX13_isUp 14 = .ok (.iload_n 3, 1) := dk_29 (dk_at dksX13_isUp_0 14 rfl rfl)
theorem dX13_isUp_15 : decode cX13_isUp 15 = .ok (.iaload, 1) := dk_46 (dk_at dksX13_isUp_0 15 rfl rfl)
theorem dX13_isUp_16 : decode cX13_isUp 16 = .ok (.if_icmp .eq 30, 3) := dk_159 0 30 (dk_at dksX13_isUp_0 16 rfl rfl)
theorem dX13_isUp_19 : decode cX13_isUp 19 = .ok (.aload_n 0, 1) := dk_42 (dk_at dksX13_isUp_0 19 rfl rfl)
theorem dX13_isUp_20 : decode cX13_isUp 20 = .ok (.getfield 11, 3) := dk_180 0 11 (dk_at dksX13_isUp_0 20 rfl rfl)
theorem dX13_isUp_23 : decode cX13_isUp 23 = .ok (.iload_n 1, 1) := dk_27 (dk_at dksX13_isUp_0 23 rfl rfl)
theorem dX13_isUp_24 : decode cX13_isUp 24 = .ok (.aaload, 1) := dk_50 (dk_at dksX13_isUp_1 0 rfl rfl)
theorem dX13_isUp_25 : decode cX13_isUp 25 = .ok (.iload_n 2, 1) := dk_28 (dk_at dksX13_isUp_1 1 rfl rfl)
theorem dX13_isUp_26 : decode cX13_isUp 26 = .ok (.iaload, 1) := dk_46 (dk_at dksX13_isUp_1 2 rfl rfl)
theorem dX13_isUp_27 : decode cX13_isUp 27 = .ok (.aload_n 0, 1) := dk_42 (dk_at dksX13_isUp_1 3 rfl rfl)
theorem dX13_isUp_28 : decode cX13_isUp 28 = .ok (.getfield 11, 3) := dk_180 0 11 (dk_at dksX13_isUp_1 4 rfl rfl)
theorem dX13_isUp_31 : decode cX13_isUp 31 = .ok (.iload_n 1, 1) := dk_27 (dk_at dksX13_isUp_1 7 rfl rfl)
theorem dX13_isUp_32 : decode cX13_isUp 32 = .ok (.aaload, 1) := dk_50 (dk_at dksX13_isUp_1 8 rfl rfl)
theorem dX13_isUp_33 : decode cX13_isUp 33 = .ok (.iload_n 3, 1) := dk_29 (dk_at dksX13_isUp_1 9 rfl rfl)
theorem dX13_isUp_34 : decode cX13_isUp 34 = .ok (.iaload, 1) := dk_46 (dk_at dksX13_isUp_1 10 rfl rfl)
theorem dX13_isUp_35 : decode cX13_isUp 35 = .ok (.if_icmp .ge 7, 3) := dk_162 0 7 (dk_at dksX13_isUp_1 11 rfl rfl)
theorem dX13_isUp_38 : decode cX13_isUp 38 = .ok (.iconst 1, 1) := dk_4 (dk_at dksX13_isUp_1 14 rfl rfl)
theorem dX13_isUp_39 : decode cX13_isUp 39 = .ok (.goto 17, 3) := dk_167 0 17 (dk_at dksX13_isUp_1 15 rfl rfl)
theorem dX13_isUp_42 : decode cX13_isUp 42 = .ok (.iconst 0, 1) := dk_3 (dk_at dksX13_isUp_1 18 rfl rfl)
theorem dX13_isUp_43 : decode cX13_isUp 43 = .ok (.goto 13, 3) := dk_167 0 13 (dk_at dksX13_isUp_1 19 rfl rfl)
theorem dX13_isUp_46 : decode cX13_isUp 46 = .ok (.iload_n 2, 1) := dk_28 (dk_at dksX13_isUp_1 22 rfl rfl)
theorem dX13_isUp_47 : decode cX13_isUp 47 = .ok (.iload_n 3, 1) := dk_29 (dk_at dksX13_isUp_1 23 rfl rfl)
theorem dX13_isUp_48 : decode cX13_isUp 48 = .ok (.if_icmp .ge 7, 3) := dk_162 0 7 (dk_at dksX13_isUp_2 0 rfl rfl)
theorem dX13_isUp_51 : decode cX13_isUp 51 = .ok (.iconst 1, 1) := dk_4 (dk_at dksX13_isUp_2 3 rfl rfl)
theorem dX13_isUp_52 : decode cX13_isUp 52 = .ok (.goto 4, 3) := dk_167 0 4 (dk_at dksX13_isUp_2 4 rfl rfl)
theorem dX13_isUp_55 : decode cX13_isUp 55 = .ok (.iconst 0, 1) := dk_3 (dk_at dksX13_isUp_2 7 rfl rfl)
theorem dX13_isUp_56 : decode cX13_isUp 56 = .ok (.ireturn, 1) := dk_172 (dk_at dksX13_isUp_2 8 rfl rfl)
theorem q141 : (Jvm.Cond.initialized "WiredNets$Ways") ∈ lw_all := lw_g (lw_at lw_m1 33 rfl) rfl
theorem q160 : (Jvm.Cond.fieldLinkNest "WiredNets$Ways" (61 : Nat) "WiredNets$Flood" "far" "[I" "WiredNets") ∈ lw_tbl := lw_at lw_m1 52 rfl
theorem q239 : (Jvm.Cond.fieldLinkNest "WiredNets$Ways" (47 : Nat) "WiredNets$Net" "n" "I" "WiredNets") ∈ lw_tbl := lw_at lw_m1 131 rfl
theorem q255 : (Jvm.Cond.fieldLinkNest "WiredNets$Ways" (96 : Nat) "WiredNets$Net" "near" "[I" "WiredNets") ∈ lw_tbl := lw_at lw_m1 147 rfl
theorem q1153 : (Jvm.Cond.selects "WiredNets$Ways" ({ cls := "java/lang/Object", name := "getClass", desc := "()Ljava/lang/Class;" } : Jvm.MethodName) ({ cls := "java/lang/Object", name := "getClass", desc := "()Ljava/lang/Class;" } : Jvm.MethodName)) ∈ lw_all := lw_g (lw_at lw_m5 85 rfl) rfl
theorem q1297 : (Jvm.Cond.instantiable "WiredNets$Ways" (9 : Nat)) ∈ lw_all := lw_g (lw_at lw_m5 229 rfl) rfl
theorem q1299 : (Jvm.Cond.instanceMethod ({ cls := "WiredNets$Ways", name := "<init>", desc := "(LWiredNets$Net;)V" } : Jvm.MethodName)) ∈ lw_all := lw_g (lw_at lw_m5 231 rfl) rfl
theorem q1300 : (Jvm.Cond.code ({ cls := "WiredNets$Ways", name := "<init>", desc := "(LWiredNets$Net;)V" } : Jvm.MethodName) prog_12_method_1_code (5 : Nat) (Option.none : Option Jvm.ClassFile.FieldType)) ∈ lw_all := lw_g (lw_at lw_m5 232 rfl) rfl
theorem q1301 : (Jvm.Cond.methodLink "WiredNets$Ways" (3 : Nat) ({ cls := "java/lang/Object", name := "<init>", desc := "()V" } : Jvm.MethodName)) ∈ lw_all := lw_g (lw_at lw_m5 233 rfl) rfl
theorem q1302 : (Jvm.Cond.classLink "WiredNets$Ways" (9 : Nat) "[[I") ∈ lw_all := lw_g (lw_at lw_m5 234 rfl) rfl
theorem q1303 : (Jvm.Cond.classLink "WiredNets$Ways" (36 : Nat) "WiredNets$Flood") ∈ lw_all := lw_g (lw_at lw_m5 235 rfl) rfl
theorem q1304 : (Jvm.Cond.methodLinkNest "WiredNets$Ways" (38 : Nat) ({ cls := "WiredNets$Flood", name := "<init>", desc := "()V" } : Jvm.MethodName) "WiredNets") ∈ lw_tbl := lw_at lw_m5 236 rfl
theorem q1305 : (Jvm.Cond.methodLink "WiredNets$Ways" (39 : Nat) ({ cls := "WiredNets$Flood", name := "isJoined", desc := "(LWiredNets$Net;)Z" } : Jvm.MethodName)) ∈ lw_all := lw_g (lw_at lw_m5 237 rfl) rfl
theorem q1306 : (Jvm.Cond.methodLink "WiredNets$Ways" (53 : Nat) ({ cls := "WiredNets$Net", name := "all", desc := "()I" } : Jvm.MethodName)) ∈ lw_all := lw_g (lw_at lw_m5 238 rfl) rfl
theorem q1307 : (Jvm.Cond.methodLink "WiredNets$Ways" (57 : Nat) ({ cls := "WiredNets$Flood", name := "run", desc := "(LWiredNets$Net;II)V" } : Jvm.MethodName)) ∈ lw_all := lw_g (lw_at lw_m5 239 rfl) rfl
theorem q1308 : (Jvm.Cond.methodLink "WiredNets$Ways" (63 : Nat) ({ cls := "WiredNets$Ways", name := "step", desc := "(II)I" } : Jvm.MethodName)) ∈ lw_all := lw_g (lw_at lw_m6 0 rfl) rfl
theorem q1309 : (Jvm.Cond.privateMethod ({ cls := "WiredNets$Ways", name := "step", desc := "(II)I" } : Jvm.MethodName)) ∈ lw_tbl := lw_at lw_m6 1 rfl
theorem q1310 : (Jvm.Cond.instanceMethod ({ cls := "WiredNets$Ways", name := "step", desc := "(II)I" } : Jvm.MethodName)) ∈ lw_all := lw_g (lw_at lw_m6 2 rfl) rfl
theorem q1311 : (Jvm.Cond.code ({ cls := "WiredNets$Ways", name := "step", desc := "(II)I" } : Jvm.MethodName) prog_12_method_2_code (4 : Nat) (Option.some Jvm.ClassFile.FieldType.int)) ∈ lw_all := lw_g (lw_at lw_m6 3 rfl) rfl
theorem q1312 : (Jvm.Cond.methodLink "WiredNets$Ways" (71 : Nat) ({ cls := "WiredNets$Net", name := "has", desc := "(II)Z" } : Jvm.MethodName)) ∈ lw_all := lw_g (lw_at lw_m6 4 rfl) rfl
theorem q1313 : (Jvm.Cond.methodLink "WiredNets$Ways" (67 : Nat) ({ cls := "WiredNets$Ways", name := "walk", desc := "(II)V" } : Jvm.MethodName)) ∈ lw_all := lw_g (lw_at lw_m6 5 rfl) rfl
theorem q1314 : (Jvm.Cond.privateMethod ({ cls := "WiredNets$Ways", name := "walk", desc := "(II)V" } : Jvm.MethodName)) ∈ lw_tbl := lw_at lw_m6 6 rfl
theorem q1315 : (Jvm.Cond.instanceMethod ({ cls := "WiredNets$Ways", name := "walk", desc := "(II)V" } : Jvm.MethodName)) ∈ lw_all := lw_g (lw_at lw_m6 7 rfl) rfl
theorem q1316 : (Jvm.Cond.code ({ cls := "WiredNets$Ways", name := "walk", desc := "(II)V" } : Jvm.MethodName) prog_12_method_3_code (5 : Nat) (Option.none : Option Jvm.ClassFile.FieldType)) ∈ lw_all := lw_g (lw_at lw_m6 8 rfl) rfl
theorem q1317 : (Jvm.Cond.fieldLink "WiredNets$Ways" (32 : Nat) "WiredNets$Ways" "x" "LWiredNets$Net;") ∈ lw_all := lw_g (lw_at lw_m6 9 rfl) rfl
theorem q1318 : (Jvm.Cond.fieldLink "WiredNets$Ways" (43 : Nat) "WiredNets$Ways" "joined" "Z") ∈ lw_all := lw_g (lw_at lw_m6 10 rfl) rfl
theorem q1320 : (Jvm.Cond.fieldLink "WiredNets$Ways" (11 : Nat) "WiredNets$Ways" "far" "[[I") ∈ lw_all := lw_g (lw_at lw_m6 12 rfl) rfl
theorem q1321 : (Jvm.Cond.fieldLink "WiredNets$Ways" (16 : Nat) "WiredNets$Ways" "hop" "[[I") ∈ lw_all := lw_g (lw_at lw_m6 13 rfl) rfl
theorem q1323 : (Jvm.Cond.fieldLink "WiredNets$Ways" (19 : Nat) "WiredNets$Ways" "load" "[[I") ∈ lw_all := lw_g (lw_at lw_m6 15 rfl) rfl
theorem q1325 : (Jvm.Cond.fieldLink "WiredNets$Ways" (22 : Nat) "WiredNets$Ways" "follow" "[[I") ∈ lw_all := lw_g (lw_at lw_m6 17 rfl) rfl
theorem q1326 : (Jvm.Cond.fieldLink "WiredNets$Ways" (25 : Nat) "WiredNets$Ways" "sends" "[I") ∈ lw_all := lw_g (lw_at lw_m6 18 rfl) rfl
theorem q1327 : (Jvm.Cond.fieldLink "WiredNets$Ways" (29 : Nat) "WiredNets$Ways" "owner" "[I") ∈ lw_all := lw_g (lw_at lw_m6 19 rfl) rfl
theorem q1328 : (Jvm.Cond.fieldLink "WiredNets$Ways" (81 : Nat) "WiredNets$Ways" "tried" "I") ∈ lw_all := lw_g (lw_at lw_m6 20 rfl) rfl
theorem q1329 : (Jvm.Cond.laysFinal "WiredNets$Ways" "WiredNets$Ways" "x" "LWiredNets$Net;") ∈ lw_all := lw_g (lw_at lw_m6 21 rfl) rfl
theorem q1330 : (Jvm.Cond.soleField "WiredNets$Ways" "x") ∈ lw_all := lw_g (lw_at lw_m6 22 rfl) rfl
theorem q1331 : (Jvm.Cond.laysFinal "WiredNets$Ways" "WiredNets$Ways" "joined" "Z") ∈ lw_all := lw_g (lw_at lw_m6 23 rfl) rfl
theorem q1332 : (Jvm.Cond.soleField "WiredNets$Ways" "joined") ∈ lw_all := lw_g (lw_at lw_m6 24 rfl) rfl
theorem q1333 : (Jvm.Cond.laysFinal "WiredNets$Ways" "WiredNets$Ways" "far" "[[I") ∈ lw_all := lw_g (lw_at lw_m6 25 rfl) rfl
theorem q1334 : (Jvm.Cond.soleField "WiredNets$Ways" "far") ∈ lw_all := lw_g (lw_at lw_m6 26 rfl) rfl
theorem q1335 : (Jvm.Cond.laysFinal "WiredNets$Ways" "WiredNets$Ways" "hop" "[[I") ∈ lw_all := lw_g (lw_at lw_m6 27 rfl) rfl
theorem q1336 : (Jvm.Cond.soleField "WiredNets$Ways" "hop") ∈ lw_all := lw_g (lw_at lw_m6 28 rfl) rfl
theorem q1337 : (Jvm.Cond.laysFinal "WiredNets$Ways" "WiredNets$Ways" "load" "[[I") ∈ lw_all := lw_g (lw_at lw_m6 29 rfl) rfl
theorem q1338 : (Jvm.Cond.soleField "WiredNets$Ways" "load") ∈ lw_all := lw_g (lw_at lw_m6 30 rfl) rfl
theorem q1339 : (Jvm.Cond.laysFinal "WiredNets$Ways" "WiredNets$Ways" "follow" "[[I") ∈ lw_all := lw_g (lw_at lw_m6 31 rfl) rfl
theorem q1340 : (Jvm.Cond.soleField "WiredNets$Ways" "follow") ∈ lw_all := lw_g (lw_at lw_m6 32 rfl) rfl
theorem q1341 : (Jvm.Cond.laysFinal "WiredNets$Ways" "WiredNets$Ways" "sends" "[I") ∈ lw_all := lw_g (lw_at lw_m6 33 rfl) rfl
theorem q1342 : (Jvm.Cond.soleField "WiredNets$Ways" "sends") ∈ lw_all := lw_g (lw_at lw_m6 34 rfl) rfl
theorem q1343 : (Jvm.Cond.laysFinal "WiredNets$Ways" "WiredNets$Ways" "owner" "[I") ∈ lw_all := lw_g (lw_at lw_m6 35 rfl) rfl
theorem q1344 : (Jvm.Cond.soleField "WiredNets$Ways" "owner") ∈ lw_all := lw_g (lw_at lw_m6 36 rfl) rfl
theorem q1345 : (Jvm.Cond.lays "WiredNets$Ways" "WiredNets$Ways" "tried" "I") ∈ lw_all := lw_g (lw_at lw_m6 37 rfl) rfl
theorem q1346 : (Jvm.Cond.soleField "WiredNets$Ways" "tried") ∈ lw_all := lw_g (lw_at lw_m6 38 rfl) rfl
theorem q1347 : (Jvm.Cond.superclass "WiredNets$Ways" "java/lang/Object") ∈ lw_all := lw_g (lw_at lw_m6 39 rfl) rfl
theorem q1356 : (Jvm.Cond.instanceMethod ({ cls := "WiredNets$Ways", name := "locks", desc := "()Z" } : Jvm.MethodName)) ∈ lw_all := lw_g (lw_at lw_m6 48 rfl) rfl
theorem q1357 : (Jvm.Cond.selects "WiredNets$Ways" ({ cls := "WiredNets$Ways", name := "locks", desc := "()Z" } : Jvm.MethodName) ({ cls := "WiredNets$Ways", name := "locks", desc := "()Z" } : Jvm.MethodName)) ∈ lw_all := lw_g (lw_at lw_m6 49 rfl) rfl
theorem q1358 : (Jvm.Cond.code ({ cls := "WiredNets$Ways", name := "locks", desc := "()Z" } : Jvm.MethodName) prog_12_method_4_code (7 : Nat) (Option.some Jvm.ClassFile.FieldType.boolean)) ∈ lw_all := lw_g (lw_at lw_m6 50 rfl) rfl
theorem q1359 : (Jvm.Cond.classLink "WiredNets$Ways" (75 : Nat) "[[Z") ∈ lw_all := lw_g (lw_at lw_m6 51 rfl) rfl
theorem q1376 : (Jvm.Cond.instanceMethod ({ cls := "WiredNets$Ways", name := "pattern", desc := "()I" } : Jvm.MethodName)) ∈ lw_all := lw_g (lw_at lw_m6 68 rfl) rfl
theorem q1377 : (Jvm.Cond.selects "WiredNets$Ways" ({ cls := "WiredNets$Ways", name := "pattern", desc := "()I" } : Jvm.MethodName) ({ cls := "WiredNets$Ways", name := "pattern", desc := "()I" } : Jvm.MethodName)) ∈ lw_all := lw_g (lw_at lw_m6 69 rfl) rfl
theorem q1378 : (Jvm.Cond.code ({ cls := "WiredNets$Ways", name := "pattern", desc := "()I" } : Jvm.MethodName) prog_12_method_9_code (4 : Nat) (Option.some Jvm.ClassFile.FieldType.int)) ∈ lw_all := lw_g (lw_at lw_m6 70 rfl) rfl
theorem q1379 : (Jvm.Cond.methodLink "WiredNets$Ways" (88 : Nat) ({ cls := "WiredNets$Ways", name := "matching", desc := "(II)I" } : Jvm.MethodName)) ∈ lw_all := lw_g (lw_at lw_m6 71 rfl) rfl
theorem q1380 : (Jvm.Cond.privateMethod ({ cls := "WiredNets$Ways", name := "matching", desc := "(II)I" } : Jvm.MethodName)) ∈ lw_tbl := lw_at lw_m6 72 rfl
theorem q1381 : (Jvm.Cond.instanceMethod ({ cls := "WiredNets$Ways", name := "matching", desc := "(II)I" } : Jvm.MethodName)) ∈ lw_all := lw_g (lw_at lw_m6 73 rfl) rfl
theorem q1382 : (Jvm.Cond.code ({ cls := "WiredNets$Ways", name := "matching", desc := "(II)I" } : Jvm.MethodName) prog_12_method_7_code (5 : Nat) (Option.some Jvm.ClassFile.FieldType.int)) ∈ lw_all := lw_g (lw_at lw_m6 74 rfl) rfl
theorem q1383 : (Jvm.Cond.methodLink "WiredNets$Ways" (77 : Nat) ({ cls := "WiredNets$Ways", name := "takes", desc := "(IIII)Z" } : Jvm.MethodName)) ∈ lw_all := lw_g (lw_at lw_m6 75 rfl) rfl
theorem q1384 : (Jvm.Cond.privateMethod ({ cls := "WiredNets$Ways", name := "takes", desc := "(IIII)Z" } : Jvm.MethodName)) ∈ lw_tbl := lw_at lw_m6 76 rfl
theorem q1385 : (Jvm.Cond.instanceMethod ({ cls := "WiredNets$Ways", name := "takes", desc := "(IIII)Z" } : Jvm.MethodName)) ∈ lw_all := lw_g (lw_at lw_m6 77 rfl) rfl
theorem q1386 : (Jvm.Cond.code ({ cls := "WiredNets$Ways", name := "takes", desc := "(IIII)Z" } : Jvm.MethodName) prog_12_method_6_code (6 : Nat) (Option.some Jvm.ClassFile.FieldType.boolean)) ∈ lw_all := lw_g (lw_at lw_m6 78 rfl) rfl
theorem q1387 : (Jvm.Cond.methodLink "WiredNets$Ways" (84 : Nat) ({ cls := "WiredNets$Ways", name := "gets", desc := "(I)Z" } : Jvm.MethodName)) ∈ lw_all := lw_g (lw_at lw_m6 79 rfl) rfl
theorem q1388 : (Jvm.Cond.privateMethod ({ cls := "WiredNets$Ways", name := "gets", desc := "(I)Z" } : Jvm.MethodName)) ∈ lw_tbl := lw_at lw_m6 80 rfl
theorem q1389 : (Jvm.Cond.instanceMethod ({ cls := "WiredNets$Ways", name := "gets", desc := "(I)Z" } : Jvm.MethodName)) ∈ lw_all := lw_g (lw_at lw_m6 81 rfl) rfl
theorem q1390 : (Jvm.Cond.code ({ cls := "WiredNets$Ways", name := "gets", desc := "(I)Z" } : Jvm.MethodName) prog_12_method_8_code (3 : Nat) (Option.some Jvm.ClassFile.FieldType.boolean)) ∈ lw_all := lw_g (lw_at lw_m6 82 rfl) rfl
theorem q1391 : (Jvm.Cond.methodLink "WiredNets$Ways" (91 : Nat) ({ cls := "java/lang/Math", name := "max", desc := "(II)I" } : Jvm.MethodName)) ∈ lw_all := lw_g (lw_at lw_m6 83 rfl) rfl
theorem q1393 : (Jvm.Cond.instanceMethod ({ cls := "WiredNets$Ways", name := "heaviest", desc := "()I" } : Jvm.MethodName)) ∈ lw_all := lw_g (lw_at lw_m6 85 rfl) rfl
theorem q1394 : (Jvm.Cond.selects "WiredNets$Ways" ({ cls := "WiredNets$Ways", name := "heaviest", desc := "()I" } : Jvm.MethodName) ({ cls := "WiredNets$Ways", name := "heaviest", desc := "()I" } : Jvm.MethodName)) ∈ lw_all := lw_g (lw_at lw_m6 86 rfl) rfl
theorem q1395 : (Jvm.Cond.code ({ cls := "WiredNets$Ways", name := "heaviest", desc := "()I" } : Jvm.MethodName) prog_12_method_5_code (4 : Nat) (Option.some Jvm.ClassFile.FieldType.int)) ∈ lw_all := lw_g (lw_at lw_m6 87 rfl) rfl
theorem q1404 : (Jvm.Cond.instanceMethod ({ cls := "WiredNets$Ways", name := "upward", desc := "(IZ)I" } : Jvm.MethodName)) ∈ lw_all := lw_g (lw_at lw_m6 96 rfl) rfl
theorem q1405 : (Jvm.Cond.selects "WiredNets$Ways" ({ cls := "WiredNets$Ways", name := "upward", desc := "(IZ)I" } : Jvm.MethodName) ({ cls := "WiredNets$Ways", name := "upward", desc := "(IZ)I" } : Jvm.MethodName)) ∈ lw_all := lw_g (lw_at lw_m6 97 rfl) rfl
theorem q1406 : (Jvm.Cond.code ({ cls := "WiredNets$Ways", name := "upward", desc := "(IZ)I" } : Jvm.MethodName) prog_12_method_12_code (7 : Nat) (Option.some Jvm.ClassFile.FieldType.int)) ∈ lw_all := lw_g (lw_at lw_m6 98 rfl) rfl
theorem q1407 : (Jvm.Cond.methodLink "WiredNets$Ways" (112 : Nat) ({ cls := "WiredNets$Ways", name := "upward", desc := "(II)[I" } : Jvm.MethodName)) ∈ lw_all := lw_g (lw_at lw_m6 99 rfl) rfl
theorem q1408 : (Jvm.Cond.privateMethod ({ cls := "WiredNets$Ways", name := "upward", desc := "(II)[I" } : Jvm.MethodName)) ∈ lw_tbl := lw_at lw_m6 100 rfl
theorem q1409 : (Jvm.Cond.instanceMethod ({ cls := "WiredNets$Ways", name := "upward", desc := "(II)[I" } : Jvm.MethodName)) ∈ lw_all := lw_g (lw_at lw_m6 101 rfl) rfl
theorem q1410 : (Jvm.Cond.code ({ cls := "WiredNets$Ways", name := "upward", desc := "(II)[I" } : Jvm.MethodName) prog_12_method_11_code (13 : Nat) (Option.some (Jvm.ClassFile.FieldType.array Jvm.ClassFile.FieldType.int))) ∈ lw_all := lw_g (lw_at lw_m6 102 rfl) rfl
theorem q1411 : (Jvm.Cond.methodLink "WiredNets$Ways" (99 : Nat) ({ cls := "java/lang/Integer", name := "numberOfTrailingZeros", desc := "(I)I" } : Jvm.MethodName)) ∈ lw_all := lw_g (lw_at lw_m6 103 rfl) rfl
theorem q1412 : (Jvm.Cond.methodLink "WiredNets$Ways" (105 : Nat) ({ cls := "WiredNets$Ways", name := "isUp", desc := "(III)Z" } : Jvm.MethodName)) ∈ lw_all := lw_g (lw_at lw_m6 104 rfl) rfl
theorem q1413 : (Jvm.Cond.privateMethod ({ cls := "WiredNets$Ways", name := "isUp", desc := "(III)Z" } : Jvm.MethodName)) ∈ lw_tbl := lw_at lw_m6 105 rfl
theorem q1414 : (Jvm.Cond.instanceMethod ({ cls := "WiredNets$Ways", name := "isUp", desc := "(III)Z" } : Jvm.MethodName)) ∈ lw_all := lw_g (lw_at lw_m6 106 rfl) rfl
theorem q1415 : (Jvm.Cond.code ({ cls := "WiredNets$Ways", name := "isUp", desc := "(III)Z" } : Jvm.MethodName) prog_12_method_10_code (4 : Nat) (Option.some Jvm.ClassFile.FieldType.boolean)) ∈ lw_all := lw_g (lw_at lw_m6 107 rfl) rfl
theorem q1416 : (Jvm.Cond.methodLink "WiredNets$Ways" (109 : Nat) ({ cls := "java/lang/Math", name := "min", desc := "(II)I" } : Jvm.MethodName)) ∈ lw_all := lw_g (lw_at lw_m6 108 rfl) rfl
theorem q2184 : (Jvm.Cond.castable "WiredNets$Ways" "java/lang/Object") ∈ lw_tbl := lw_at lw_m9 156 rfl
theorem in_X13 : ∀ w ∈ wsX130, w ∈ lw_all := lw_in wsX130 [1329, 1331, 1333, 1335, 1337, 1339, 1341, 1343, 1345] (by decide +kernel) (by decide +kernel)

/-! WiredNets$Rounds -/
set_option maxRecDepth 100000
def RX14 : String := "WiredNets$Rounds"
def TX14 : u_T := fun k => match k with
  | 0 => ("WiredNets$Rounds", "x", "LWiredNets$Net;", true)
  | 1 => ("WiredNets$Rounds", "now", "[Z", false)
  | _ => ("WiredNets$Rounds", "next", "[Z", false)
def tyX14 : Nat → FieldType := fun k => match k with
  | 0 => .object "WiredNets$Net"
  | 1 => .array .boolean
  | _ => .array .boolean
abbrev wsX140 : List Cond := u_ws RX14 TX14 3
theorem nmX14 : ∀ a, a < 3 → ∀ b, b < 3 → a ≠ b → (TX14 a).2.1 ≠ (TX14 b).2.1 := by decide +kernel
theorem tyX14_ok : ∀ k, k < 3 → parseFieldDescriptor (TX14 k).2.2.1 = some (tyX14 k) := by decide +kernel
abbrev cX14_init : ByteArray := prog_9_method_1_code
def yX14_init : MethodName := ⟨RX14, "<init>", "(LWiredNets$Net;)V"⟩
def dkwX14_init_0 : List UInt8 := [42, 183, 0, 3, 42, 17, 4, 0, 188, 4, 181, 0, 9, 42, 43, 181, 0, 15, 177]
abbrev dktX14_init_0 : List UInt8 := dkwX14_init_0 ++ []
theorem dksX14_init_0 : cX14_init.data.toList.drop 0 = dktX14_init_0 := by decide +kernel
theorem dX14_init_0 : decode cX14_init 0 = .ok (.aload_n 0, 1) := dk_42 (dk_at dksX14_init_0 0 rfl rfl)
theorem dX14_init_1 : decode cX14_init 1 = .ok (.invokespecial 3, 3) := dk_183 0 3 (dk_at dksX14_init_0 1 rfl rfl)
theorem dX14_init_4 : decode cX14_init 4 = .ok (.aload_n 0, 1) := dk_42 (dk_at dksX14_init_0 4 rfl rfl)
theorem dX14_init_5 : decode cX14_init 5 = .ok (.sipush 1024, 3) := dk_17 4 0 (dk_at dksX14_init_0 5 rfl rfl)
theorem dX14_init_8 : decode cX14_init 8 = .ok (.newarray .boolean, 2) := dk_188_4 (dk_at dksX14_init_0 8 rfl rfl)
theorem dX14_init_10 : decode cX14_init 10 = .ok (.putfield 9, 3) := dk_181 0 9 (dk_at dksX14_init_0 10 rfl rfl)
theorem dX14_init_13 : decode cX14_init 13 = .ok (.aload_n 0, 1) := dk_42 (dk_at dksX14_init_0 13 rfl rfl)
theorem dX14_init_14 : decode cX14_init 14 = .ok (.aload_n 1, 1) := dk_43 (dk_at dksX14_init_0 14 rfl rfl)
theorem dX14_init_15 : decode cX14_init 15 = .ok (.putfield 15, 3) := dk_181 0 15 (dk_at dksX14_init_0 15 rfl rfl)
theorem dX14_init_18 : decode cX14_init 18 = .ok (.return_, 1) := dk_177 (dk_at dksX14_init_0 18 rfl rfl)
abbrev cX14_run : ByteArray := prog_9_method_3_code
def yX14_run : MethodName := ⟨RX14, "run", "(I)I"⟩
def dkwX14_run_3 : List UInt8 := [167, 255, 226, 42, 42, 180, 0, 25, 181, 0, 9, 132, 2, 1, 167, 255, 186, 28, 172]
abbrev dktX14_run_3 : List UInt8 := dkwX14_run_3 ++ []
def dkwX14_run_2 : List UInt8 := [163, 0, 25, 42, 180, 0, 9, 29, 51, 153, 0, 10, 42, 29, 3, 29, 182, 0, 32, 132, 3, 1]
abbrev dktX14_run_2 : List UInt8 := dkwX14_run_2 ++ dktX14_run_3
def dkwX14_run_1 : List UInt8 := [154, 0, 61, 42, 17, 4, 0, 188, 4, 181, 0, 25, 3, 62, 29, 42, 180, 0, 15, 182, 0, 36]
abbrev dktX14_run_1 : List UInt8 := dkwX14_run_1 ++ dktX14_run_2
def dkwX14_run_0 : List UInt8 := [42, 180, 0, 9, 4, 27, 120, 4, 84, 3, 61, 42, 180, 0, 9, 42, 180, 0, 15, 182, 0, 36, 51]
abbrev dktX14_run_0 : List UInt8 := dkwX14_run_0 ++ dktX14_run_1
theorem dksX14_run_0 : cX14_run.data.toList.drop 0 = dktX14_run_0 := by decide +kernel
theorem dksX14_run_1 : cX14_run.data.toList.drop 23 = dktX14_run_1 := dk_seg dksX14_run_0 23 rfl rfl
theorem dksX14_run_2 : cX14_run.data.toList.drop 45 = dktX14_run_2 := dk_seg dksX14_run_1 22 rfl rfl
theorem dksX14_run_3 : cX14_run.data.toList.drop 67 = dktX14_run_3 := dk_seg dksX14_run_2 22 rfl rfl
theorem dX14_run_0 : decode cX14_run 0 = .ok (.aload_n 0, 1) := dk_42 (dk_at dksX14_run_0 0 rfl rfl)
theorem dX14_run_1 : decode cX14_run 1 = .ok (.getfield 9, 3) := dk_180 0 9 (dk_at dksX14_run_0 1 rfl rfl)
theorem dX14_run_4 : decode cX14_run 4 = .ok (.iconst 1, 1) := dk_4 (dk_at dksX14_run_0 4 rfl rfl)
theorem dX14_run_5 : decode cX14_run 5 = .ok (.iload_n 1, 1) := dk_27 (dk_at dksX14_run_0 5 rfl rfl)
theorem dX14_run_6 : decode cX14_run 6 = .ok (.ishl, 1) := dk_120 (dk_at dksX14_run_0 6 rfl rfl)
theorem dX14_run_7 : decode cX14_run 7 = .ok (.iconst 1, 1) := dk_4 (dk_at dksX14_run_0 7 rfl rfl)
theorem dX14_run_8 : decode cX14_run 8 = .ok (.bastore, 1) := dk_84 (dk_at dksX14_run_0 8 rfl rfl)
theorem dX14_run_9 : decode cX14_run 9 = .ok (.iconst 0, 1) := dk_3 (dk_at dksX14_run_0 9 rfl rfl)
theorem dX14_run_10 : decode cX14_run 10 = .ok (.istore_n 2, 1) := dk_61 (dk_at dksX14_run_0 10 rfl rfl)
theorem dX14_run_11 : decode cX14_run 11 = .ok (.aload_n 0, 1) := dk_42 (dk_at dksX14_run_0 11 rfl rfl)
theorem dX14_run_12 : decode cX14_run 12 = .ok (.getfield 9, 3) := dk_180 0 9 (dk_at dksX14_run_0 12 rfl rfl)
theorem dX14_run_15 : decode cX14_run 15 = .ok (.aload_n 0, 1) := dk_42 (dk_at dksX14_run_0 15 rfl rfl)
theorem dX14_run_16 : decode cX14_run 16 = .ok (.getfield 15, 3) := dk_180 0 15 (dk_at dksX14_run_0 16 rfl rfl)
theorem dX14_run_19 : decode cX14_run 19 = .ok (.invokevirtual 36, 3) := dk_182 0 36 (dk_at dksX14_run_0 19 rfl rfl)
theorem dX14_run_22 : decode cX14_run 22 = .ok (.baload, 1) := dk_51 (dk_at dksX14_run_0 22 rfl rfl)
theorem dX14_run_23 : decode cX14_run 23 = .ok (.ifCond .ne 61, 3) := dk_154 0 61 (dk_at dksX14_run_1 0 rfl rfl)
theorem dX14_run_26 : decode cX14_run 26 = .ok (.aload_n 0, 1) := dk_42 (dk_at dksX14_run_1 3 rfl rfl)
theorem dX14_run_27 : decode cX14_run 27 = .ok (.sipush 1024, 3) := dk_17 4 0 (dk_at dksX14_run_1 4 rfl rfl)
theorem dX14_run_30 : decode cX14_run 30 = .ok (.newarray .boolean, 2) := dk_188_4 (dk_at dksX14_run_1 7 rfl rfl)
theorem dX14_run_32 : decode cX14_run 32 = .ok (.putfield 25, 3) := dk_181 0 25 (dk_at dksX14_run_1 9 rfl rfl)
theorem dX14_run_35 : decode cX14_run 35 = .ok (.iconst 0, 1) := dk_3 (dk_at dksX14_run_1 12 rfl rfl)
theorem dX14_run_36 : decode cX14_run 36 = .ok (.istore_n 3, 1) := dk_62 (dk_at dksX14_run_1 13 rfl rfl)
theorem dX14_run_37 : decode cX14_run 37 = .ok (.iload_n 3, 1) := dk_29 (dk_at dksX14_run_1 14 rfl rfl)
theorem dX14_run_38 : decode cX14_run 38 = .ok (.aload_n 0, 1) := dk_42 (dk_at dksX14_run_1 15 rfl rfl)
theorem dX14_run_39 : decode cX14_run 39 = .ok (.getfield 15, 3) := dk_180 0 15 (dk_at dksX14_run_1 16 rfl rfl)
theorem dX14_run_42 : decode cX14_run 42 = .ok (.invokevirtual 36, 3) := dk_182 0 36 (dk_at dksX14_run_1 19 rfl rfl)
theorem dX14_run_45 : decode cX14_run 45 = .ok (.if_icmp .gt 25, 3) := dk_163 0 25 (dk_at dksX14_run_2 0 rfl rfl)
theorem dX14_run_48 : decode cX14_run 48 = .ok (.aload_n 0, 1) := dk_42 (dk_at dksX14_run_2 3 rfl rfl)
theorem dX14_run_49 : decode cX14_run 49 = .ok (.getfield 9, 3) := dk_180 0 9 (dk_at dksX14_run_2 4 rfl rfl)
theorem dX14_run_52 : decode cX14_run 52 = .ok (.iload_n 3, 1) := dk_29 (dk_at dksX14_run_2 7 rfl rfl)
theorem dX14_run_53 : decode cX14_run 53 = .ok (.baload, 1) := dk_51 (dk_at dksX14_run_2 8 rfl rfl)
theorem dX14_run_54 : decode cX14_run 54 = .ok (.ifCond .eq 10, 3) := dk_153 0 10 (dk_at dksX14_run_2 9 rfl rfl)
theorem dX14_run_57 : decode cX14_run 57 = .ok (.aload_n 0, 1) := dk_42 (dk_at dksX14_run_2 12 rfl rfl)
theorem dX14_run_58 : decode cX14_run 58 = .ok (.iload_n 3, 1) := dk_29 (dk_at dksX14_run_2 13 rfl rfl)
theorem dX14_run_59 : decode cX14_run 59 = .ok (.iconst 0, 1) := dk_3 (dk_at dksX14_run_2 14 rfl rfl)
theorem dX14_run_60 : decode cX14_run 60 = .ok (.iload_n 3, 1) := dk_29 (dk_at dksX14_run_2 15 rfl rfl)
theorem dX14_run_61 : decode cX14_run 61 = .ok (.invokevirtual 32, 3) := dk_182 0 32 (dk_at dksX14_run_2 16 rfl rfl)
theorem dX14_run_64 : decode cX14_run 64 = .ok (.iinc 3 1, 3) := dk_132 3 1 (dk_at dksX14_run_2 19 rfl rfl)
theorem dX14_run_67 : decode cX14_run 67 = .ok (.goto (-30), 3) := dk_167 255 226 (dk_at dksX14_run_3 0 rfl rfl)
theorem dX14_run_70 : decode cX14_run 70 = .ok (.aload_n 0, 1) := dk_42 (dk_at dksX14_run_3 3 rfl rfl)
theorem dX14_run_71 : decode cX14_run 71 = .ok (.aload_n 0, 1) := dk_42 (dk_at dksX14_run_3 4 rfl rfl)
theorem dX14_run_72 : decode cX14_run 72 = .ok (.getfield 25, 3) := dk_180 0 25 (dk_at dksX14_run_3 5 rfl rfl)
theorem dX14_run_75 : decode cX14_run 75 = .ok (.putfield 9, 3) := dk_181 0 9 (dk_at dksX14_run_3 8 rfl rfl)
theorem dX14_run_78 : decode cX14_run 78 = .ok (.iinc 2 1, 3) := dk_132 2 1 (dk_at dksX14_run_3 11 rfl rfl)
theorem dX14_run_81 : decode cX14_run 81 = .ok (.goto (-70), 3) := dk_167 255 186 (dk_at dksX14_run_3 14 rfl rfl)
theorem dX14_run_84 : decode cX14_run 84 = .ok (.iload_n 2, 1) := dk_28 (dk_at dksX14_run_3 17 rfl rfl)
theorem dX14_run_85 : decode cX14_run 85 = .ok (.ireturn, 1) := dk_172 (dk_at dksX14_run_3 18 rfl rfl)
abbrev cX14_go : ByteArray := prog_9_method_2_code
def yX14_go : MethodName := ⟨RX14, "go", "(III)V"⟩
def dkwX14_go_4 : List UInt8 := [167, 255, 226, 177]
abbrev dktX14_go_4 : List UInt8 := dkwX14_go_4 ++ []
def dkwX14_go_3 : List UInt8 := [27, 28, 4, 96, 29, 21, 5, 21, 5, 116, 126, 128, 182, 0, 32, 21, 5, 21, 5, 4, 100, 126, 54, 5]
abbrev dktX14_go_3 : List UInt8 := dkwX14_go_3 ++ dktX14_go_4
def dkwX14_go_2 : List UInt8 := [21, 4, 154, 0, 12, 42, 27, 28, 4, 96, 29, 182, 0, 32, 21, 4, 54, 5, 21, 5, 153, 0, 31, 42]
abbrev dktX14_go_2 : List UInt8 := dkwX14_go_2 ++ dktX14_go_3
def dkwX14_go_1 : List UInt8 := [4, 160, 0, 19, 42, 180, 0, 15, 180, 0, 28, 28, 46, 29, 2, 130, 126, 167, 0, 4, 3, 54, 4]
abbrev dktX14_go_1 : List UInt8 := dkwX14_go_1 ++ dktX14_go_2
def dkwX14_go_0 : List UInt8 := [28, 42, 180, 0, 15, 180, 0, 19, 160, 0, 11, 42, 180, 0, 25, 29, 4, 84, 177, 27, 28, 122, 4, 126]
abbrev dktX14_go_0 : List UInt8 := dkwX14_go_0 ++ dktX14_go_1
theorem dksX14_go_0 : cX14_go.data.toList.drop 0 = dktX14_go_0 := by decide +kernel
theorem dksX14_go_1 : cX14_go.data.toList.drop 24 = dktX14_go_1 := dk_seg dksX14_go_0 24 rfl rfl
theorem dksX14_go_2 : cX14_go.data.toList.drop 47 = dktX14_go_2 := dk_seg dksX14_go_1 23 rfl rfl
theorem dksX14_go_3 : cX14_go.data.toList.drop 71 = dktX14_go_3 := dk_seg dksX14_go_2 24 rfl rfl
theorem dksX14_go_4 : cX14_go.data.toList.drop 95 = dktX14_go_4 := dk_seg dksX14_go_3 24 rfl rfl
theorem dX14_go_0 : decode cX14_go 0 = .ok (.iload_n 2, 1) := dk_28 (dk_at dksX14_go_0 0 rfl rfl)
theorem dX14_go_1 : decode cX14_go 1 = .ok (.aload_n 0, 1) := dk_42 (dk_at dksX14_go_0 1 rfl rfl)
theorem dX14_go_2 : decode cX14_go 2 = .ok (.getfield 15, 3) := dk_180 0 15 (dk_at dksX14_go_0 2 rfl rfl)
theorem dX14_go_5 : decode cX14_go 5 = .ok (.getfield 19, 3) := dk_180 0 19 (dk_at dksX14_go_0 5 rfl rfl)
theorem dX14_go_8 : decode cX14_go 8 = .ok (.if_icmp .ne 11, 3) := dk_160 0 11 (dk_at dksX14_go_0 8 rfl rfl)
theorem dX14_go_11 : decode cX14_go 11 = .ok (.aload_n 0, 1) := dk_42 (dk_at dksX14_go_0 11 rfl rfl)
theorem dX14_go_12 : decode cX14_go 12 = .ok (.getfield 25, 3) := dk_180 0 25 (dk_at dksX14_go_0 12 rfl rfl)
theorem dX14_go_15 : decode cX14_go 15 = .ok (.iload_n 3, 1) := dk_29 (dk_at dksX14_go_0 15 rfl rfl)
theorem dX14_go_16 : decode cX14_go 16 = .ok (.iconst 1, 1) := dk_4 (dk_at dksX14_go_0 16 rfl rfl)
theorem dX14_go_17 : decode cX14_go 17 = .ok (.bastore, 1) := dk_84 (dk_at dksX14_go_0 17 rfl rfl)
theorem dX14_go_18 : decode cX14_go 18 = .ok (.return_, 1) := dk_177 (dk_at dksX14_go_0 18 rfl rfl)
theorem dX14_go_19 : decode cX14_go 19 = .ok (.iload_n 1, 1) := dk_27 (dk_at dksX14_go_0 19 rfl rfl)
theorem dX14_go_20 : decode cX14_go 20 = .ok (.iload_n 2, 1) := dk_28 (dk_at dksX14_go_0 20 rfl rfl)
theorem dX14_go_21 : decode cX14_go 21 = .ok (.ishr, 1) := dk_122 (dk_at dksX14_go_0 21 rfl rfl)
theorem dX14_go_22 : decode cX14_go 22 = .ok (.iconst 1, 1) := dk_4 (dk_at dksX14_go_0 22 rfl rfl)
theorem dX14_go_23 : decode cX14_go 23 = .ok (.iand, 1) := dk_126 (dk_at dksX14_go_0 23 rfl rfl)
theorem dX14_go_24 : decode cX14_go 24 = .ok (.iconst 1, 1) := dk_4 (dk_at dksX14_go_1 0 rfl rfl)
theorem dX14_go_25 : decode cX14_go 25 = .ok (.if_icmp .ne 19, 3) := dk_160 0 19 (dk_at dksX14_go_1 1 rfl rfl)
theorem dX14_go_28 : decode cX14_go 28 = .ok (.aload_n 0, 1) := dk_42 (dk_at dksX14_go_1 4 rfl rfl)
theorem dX14_go_29 : decode cX14_go 29 = .ok (.getfield 15, 3) := dk_180 0 15 (dk_at dksX14_go_1 5 rfl rfl)
theorem dX14_go_32 : decode cX14_go 32 = .ok (.getfield 28, 3) := dk_180 0 28 (dk_at dksX14_go_1 8 rfl rfl)
theorem dX14_go_35 : decode cX14_go 35 = .ok (.iload_n 2, 1) := dk_28 (dk_at dksX14_go_1 11 rfl rfl)
theorem dX14_go_36 : decode cX14_go 36 = .ok (.iaload, 1) := dk_46 (dk_at dksX14_go_1 12 rfl rfl)
theorem dX14_go_37 : decode cX14_go 37 = .ok (.iload_n 3, 1) := dk_29 (dk_at dksX14_go_1 13 rfl rfl)
theorem dX14_go_38 : decode cX14_go 38 = .ok (.iconst (-1), 1) := dk_2 (dk_at dksX14_go_1 14 rfl rfl)
theorem dX14_go_39 : decode cX14_go 39 = .ok (.ixor, 1) := dk_130 (dk_at dksX14_go_1 15 rfl rfl)
theorem dX14_go_40 : decode cX14_go 40 = .ok (.iand, 1) := dk_126 (dk_at dksX14_go_1 16 rfl rfl)
theorem dX14_go_41 : decode cX14_go 41 = .ok (.goto 4, 3) := dk_167 0 4 (dk_at dksX14_go_1 17 rfl rfl)
theorem dX14_go_44 : decode cX14_go 44 = .ok (.iconst 0, 1) := dk_3 (dk_at dksX14_go_1 20 rfl rfl)
theorem dX14_go_45 : decode cX14_go 45 = .ok (.istore 4, 2) := dk_54 4 (dk_at dksX14_go_1 21 rfl rfl)
theorem dX14_go_47 : decode cX14_go 47 = .ok (.iload 4, 2) := dk_21 4 (dk_at dksX14_go_2 0 rfl rfl)
theorem dX14_go_49 : decode cX14_go 49 = .ok (.ifCond .ne 12, 3) := dk_154 0 12 (dk_at dksX14_go_2 2 rfl rfl)
theorem dX14_go_52 : decode cX14_go 52 = .ok (.aload_n 0, 1) := dk_42 (dk_at dksX14_go_2 5 rfl rfl)
theorem dX14_go_53 : decode cX14_go 53 = .ok (.iload_n 1, 1) := dk_27 (dk_at dksX14_go_2 6 rfl rfl)
theorem dX14_go_54 : decode cX14_go 54 = .ok (.iload_n 2, 1) := dk_28 (dk_at dksX14_go_2 7 rfl rfl)
theorem dX14_go_55 : decode cX14_go 55 = .ok (.iconst 1, 1) := dk_4 (dk_at dksX14_go_2 8 rfl rfl)
theorem dX14_go_56 : decode cX14_go 56 = .ok (.iadd, 1) := dk_96 (dk_at dksX14_go_2 9 rfl rfl)
theorem dX14_go_57 : decode cX14_go 57 = .ok (.iload_n 3, 1) := dk_29 (dk_at dksX14_go_2 10 rfl rfl)
theorem dX14_go_58 : decode cX14_go 58 = .ok (.invokevirtual 32, 3) := dk_182 0 32 (dk_at dksX14_go_2 11 rfl rfl)
theorem dX14_go_61 : decode cX14_go 61 = .ok (.iload 4, 2) := dk_21 4 (dk_at dksX14_go_2 14 rfl rfl)
theorem dX14_go_63 : decode cX14_go 63 = .ok (.istore 5, 2) := dk_54 5 (dk_at dksX14_go_2 16 rfl rfl)
theorem dX14_go_65 : decode cX14_go 65 = .ok (.iload 5, 2) := dk_21 5 (dk_at dksX14_go_2 18 rfl rfl)
theorem dX14_go_67 : decode cX14_go 67 = .ok (.ifCond .eq 31, 3) := dk_153 0 31 (dk_at dksX14_go_2 20 rfl rfl)
theorem dX14_go_70 : decode cX14_go 70 = .ok (.aload_n 0, 1) := dk_42 (dk_at dksX14_go_2 23 rfl rfl)
theorem dX14_go_71 : decode cX14_go 71 = .ok (.iload_n 1, 1) := dk_27 (dk_at dksX14_go_3 0 rfl rfl)
theorem dX14_go_72 : decode cX14_go 72 = .ok (.iload_n 2, 1) := dk_28 (dk_at dksX14_go_3 1 rfl rfl)
theorem dX14_go_73 : decode cX14_go 73 = .ok (.iconst 1, 1) := dk_4 (dk_at dksX14_go_3 2 rfl rfl)
theorem dX14_go_74 : decode cX14_go 74 = .ok (.iadd, 1) := dk_96 (dk_at dksX14_go_3 3 rfl rfl)
theorem dX14_go_75 : decode cX14_go 75 = .ok (.iload_n 3, 1) := dk_29 (dk_at dksX14_go_3 4 rfl rfl)
theorem dX14_go_76 : decode cX14_go 76 = .ok (.iload 5, 2) := dk_21 5 (dk_at dksX14_go_3 5 rfl rfl)
theorem dX14_go_78 : decode cX14_go 78 = .ok (.iload 5, 2) := dk_21 5 (dk_at dksX14_go_3 7 rfl rfl)
theorem dX14_go_80 : decode cX14_go 80 = .ok (.ineg, 1) := dk_116 (dk_at dksX14_go_3 9 rfl rfl)
theorem dX14_go_81 : decode cX14_go 81 = .ok (.iand, 1) := dk_126 (dk_at dksX14_go_3 10 rfl rfl)
theorem dX14_go_82 : decode cX14_go 82 = .ok (.ior, 1) := dk_128 (dk_at dksX14_go_3 11 rfl rfl)
theorem dX14_go_83 : decode cX14_go 83 = .ok (.invokevirtual 32, 3) := dk_182 0 32 (dk_at dksX14_go_3 12 rfl rfl)
theorem dX14_go_86 : decode cX14_go 86 = .ok (.iload 5, 2) := dk_21 5 (dk_at dksX14_go_3 15 rfl rfl)
theorem dX14_go_88 : decode cX14_go 88 = .ok (.iload 5, 2) := dk_21 5 (dk_at dksX14_go_3 17 rfl rfl)
theorem dX14_go_90 : decode cX14_go 90 = .ok (.iconst 1, 1) := dk_4 (dk_at dksX14_go_3 19 rfl rfl)
theorem dX14_go_91 : decode cX14_go 91 = .ok (.isub, 1) := dk_100 (dk_at dksX14_go_3 20 rfl rfl)
theorem dX14_go_92 : decode cX14_go 92 = .ok (.iand, 1) := dk_126 (dk_at dksX14_go_3 21 rfl rfl)
theorem dX14_go_93 : decode cX14_go 93 = .ok (.istore 5, 2) := dk_54 5 (dk_at dksX14_go_3 22 rfl rfl)
theorem dX14_go_95 : decode cX14_go 95 = .ok (.goto (-30), 3) := dk_167 255 226 (dk_at dksX14_go_4 0 rfl rfl)
theorem dX14_go_98 : decode cX14_go 98 = .ok (.return_, 1) := dk_177 (dk_at dksX14_go_4 3 rfl rfl)
theorem q142 : (Jvm.Cond.initialized "WiredNets$Rounds") ∈ lw_all := lw_g (lw_at lw_m1 34 rfl) rfl
theorem q242 : (Jvm.Cond.fieldLinkNest "WiredNets$Rounds" (19 : Nat) "WiredNets$Net" "n" "I" "WiredNets") ∈ lw_tbl := lw_at lw_m1 134 rfl
theorem q251 : (Jvm.Cond.fieldLinkNest "WiredNets$Rounds" (28 : Nat) "WiredNets$Net" "near" "[I" "WiredNets") ∈ lw_tbl := lw_at lw_m1 143 rfl
theorem q1150 : (Jvm.Cond.selects "WiredNets$Rounds" ({ cls := "java/lang/Object", name := "getClass", desc := "()Ljava/lang/Class;" } : Jvm.MethodName) ({ cls := "java/lang/Object", name := "getClass", desc := "()Ljava/lang/Class;" } : Jvm.MethodName)) ∈ lw_all := lw_g (lw_at lw_m5 82 rfl) rfl
theorem q1425 : (Jvm.Cond.instantiable "WiredNets$Rounds" (3 : Nat)) ∈ lw_all := lw_g (lw_at lw_m6 117 rfl) rfl
theorem q1427 : (Jvm.Cond.instanceMethod ({ cls := "WiredNets$Rounds", name := "<init>", desc := "(LWiredNets$Net;)V" } : Jvm.MethodName)) ∈ lw_all := lw_g (lw_at lw_m6 119 rfl) rfl
theorem q1428 : (Jvm.Cond.code ({ cls := "WiredNets$Rounds", name := "<init>", desc := "(LWiredNets$Net;)V" } : Jvm.MethodName) prog_9_method_1_code (2 : Nat) (Option.none : Option Jvm.ClassFile.FieldType)) ∈ lw_all := lw_g (lw_at lw_m6 120 rfl) rfl
theorem q1429 : (Jvm.Cond.methodLink "WiredNets$Rounds" (3 : Nat) ({ cls := "java/lang/Object", name := "<init>", desc := "()V" } : Jvm.MethodName)) ∈ lw_all := lw_g (lw_at lw_m6 121 rfl) rfl
theorem q1430 : (Jvm.Cond.fieldLink "WiredNets$Rounds" (15 : Nat) "WiredNets$Rounds" "x" "LWiredNets$Net;") ∈ lw_all := lw_g (lw_at lw_m6 122 rfl) rfl
theorem q1431 : (Jvm.Cond.fieldLink "WiredNets$Rounds" (9 : Nat) "WiredNets$Rounds" "now" "[Z") ∈ lw_all := lw_g (lw_at lw_m6 123 rfl) rfl
theorem q1432 : (Jvm.Cond.fieldLink "WiredNets$Rounds" (25 : Nat) "WiredNets$Rounds" "next" "[Z") ∈ lw_all := lw_g (lw_at lw_m6 124 rfl) rfl
theorem q1433 : (Jvm.Cond.laysFinal "WiredNets$Rounds" "WiredNets$Rounds" "x" "LWiredNets$Net;") ∈ lw_all := lw_g (lw_at lw_m6 125 rfl) rfl
theorem q1434 : (Jvm.Cond.soleField "WiredNets$Rounds" "x") ∈ lw_all := lw_g (lw_at lw_m6 126 rfl) rfl
theorem q1435 : (Jvm.Cond.lays "WiredNets$Rounds" "WiredNets$Rounds" "now" "[Z") ∈ lw_all := lw_g (lw_at lw_m6 127 rfl) rfl
theorem q1436 : (Jvm.Cond.soleField "WiredNets$Rounds" "now") ∈ lw_all := lw_g (lw_at lw_m6 128 rfl) rfl
theorem q1437 : (Jvm.Cond.lays "WiredNets$Rounds" "WiredNets$Rounds" "next" "[Z") ∈ lw_all := lw_g (lw_at lw_m6 129 rfl) rfl
theorem q1438 : (Jvm.Cond.soleField "WiredNets$Rounds" "next") ∈ lw_all := lw_g (lw_at lw_m6 130 rfl) rfl
theorem q1439 : (Jvm.Cond.superclass "WiredNets$Rounds" "java/lang/Object") ∈ lw_all := lw_g (lw_at lw_m6 131 rfl) rfl
theorem q1441 : (Jvm.Cond.instanceMethod ({ cls := "WiredNets$Rounds", name := "run", desc := "(I)I" } : Jvm.MethodName)) ∈ lw_all := lw_g (lw_at lw_m6 133 rfl) rfl
theorem q1442 : (Jvm.Cond.selects "WiredNets$Rounds" ({ cls := "WiredNets$Rounds", name := "run", desc := "(I)I" } : Jvm.MethodName) ({ cls := "WiredNets$Rounds", name := "run", desc := "(I)I" } : Jvm.MethodName)) ∈ lw_all := lw_g (lw_at lw_m6 134 rfl) rfl
theorem q1443 : (Jvm.Cond.code ({ cls := "WiredNets$Rounds", name := "run", desc := "(I)I" } : Jvm.MethodName) prog_9_method_3_code (4 : Nat) (Option.some Jvm.ClassFile.FieldType.int)) ∈ lw_all := lw_g (lw_at lw_m6 135 rfl) rfl
theorem q1444 : (Jvm.Cond.methodLink "WiredNets$Rounds" (36 : Nat) ({ cls := "WiredNets$Net", name := "all", desc := "()I" } : Jvm.MethodName)) ∈ lw_all := lw_g (lw_at lw_m6 136 rfl) rfl
theorem q1445 : (Jvm.Cond.methodLink "WiredNets$Rounds" (32 : Nat) ({ cls := "WiredNets$Rounds", name := "go", desc := "(III)V" } : Jvm.MethodName)) ∈ lw_all := lw_g (lw_at lw_m6 137 rfl) rfl
theorem q1446 : (Jvm.Cond.privateMethod ({ cls := "WiredNets$Rounds", name := "go", desc := "(III)V" } : Jvm.MethodName)) ∈ lw_tbl := lw_at lw_m6 138 rfl
theorem q1447 : (Jvm.Cond.instanceMethod ({ cls := "WiredNets$Rounds", name := "go", desc := "(III)V" } : Jvm.MethodName)) ∈ lw_all := lw_g (lw_at lw_m6 139 rfl) rfl
theorem q1448 : (Jvm.Cond.code ({ cls := "WiredNets$Rounds", name := "go", desc := "(III)V" } : Jvm.MethodName) prog_9_method_2_code (6 : Nat) (Option.none : Option Jvm.ClassFile.FieldType)) ∈ lw_all := lw_g (lw_at lw_m6 140 rfl) rfl
theorem q2185 : (Jvm.Cond.castable "WiredNets$Rounds" "java/lang/Object") ∈ lw_tbl := lw_at lw_m9 157 rfl
theorem in_X14 : ∀ w ∈ wsX140, w ∈ lw_all := lw_in wsX140 [1433, 1435, 1437] (by decide +kernel) (by decide +kernel)
