/-! DECODE ROWS BY BYTES: one lemma an opcode; a method's code is cut into short pieces once, and a row reads its own piece alone. -/
set_option maxRecDepth 100000
/-- the code has just these bytes from pc on -/
def DkAt (code : ByteArray) (pc : Nat) (bs : List UInt8) : Prop := ∀ (j : Nat) (b : UInt8), bs[j]? = some b → code.data.toList[pc + j]? = some b
/-- the piece W has the bytes bs from its place j on -/
def dkIn (W : List UInt8) (j : Nat) (bs : List UInt8) : Bool := decide ((W.drop j).take bs.length = bs)
theorem dk_seg {l W T : List UInt8} {o o2 : Nat} (h : l.drop o = W ++ T) (n : Nat) (hn : W.length = n) (ho : o + n = o2) : l.drop o2 = T := by
  subst ho
  rw [← List.drop_drop, h, List.drop_left' hn]
theorem dk_at {code : ByteArray} {W T bs : List UInt8} {o pc : Nat} (h : code.data.toList.drop o = W ++ T) (j : Nat) (hp : o + j = pc) (hw : dkIn W j bs = true) : DkAt code pc bs := by
  subst hp
  intro i b e
  have h1 := of_decide_eq_true hw
  have h2 : i < bs.length := (List.getElem?_eq_some_iff.mp e).1
  have h3 : W[j + i]? = some b := by
    rw [← h1, List.getElem?_take, if_pos h2, List.getElem?_drop] at e
    exact e
  have h4 : j + i < W.length := (List.getElem?_eq_some_iff.mp h3).1
  have h5 : (code.data.toList.drop o)[j + i]? = some b := by
    rw [h, List.getElem?_append_left h4]
    exact h3
  rw [List.getElem?_drop, ← Nat.add_assoc] at h5
  exact h5
theorem dk_u1 {A : ByteArray} {p : Nat} {b : UInt8} (h : A.data.toList[p]? = some b) : (Reader.u1 : Reader DecodeError Nat) A p = .ok (b.toNat, p + 1) := by
  obtain ⟨h1, h2⟩ := List.getElem?_eq_some_iff.mp h
  have h3 : p < A.size := by simpa using h1
  have h4 : A[p]'h3 = b := h2
  have e : (Reader.u1 : Reader DecodeError Nat) A p = (if h : p < A.size then .ok (A[p].toNat, p + 1) else .error (HasTruncated.truncated p)) := by
    show (do if h : p < A.size then do set (p + 1); Pure.pure A[p].toNat else MonadExcept.throw (HasTruncated.truncated p) : Reader DecodeError Nat) A p = _
    by_cases hi : p < A.size
    · rw [dif_pos hi, dif_pos hi]; rfl
    · rw [dif_neg hi, dif_neg hi]; rfl
  rw [e, dif_pos h3, h4]
theorem dk_bind {α β : Type} {r : Reader DecodeError α} {f : α → Reader DecodeError β} {A : ByteArray} {p s : Nat} {a : α} (h : r A p = .ok (a, s)) : (r >>= f) A p = f a A s := by
  show (do let (a, s) ← r A p; f a A s : Except DecodeError (β × Nat)) = _
  rw [h]
  rfl
theorem dk_map {α β : Type} {r : Reader DecodeError α} {g : α → β} {A : ByteArray} {p s : Nat} {a : α} (h : r A p = .ok (a, s)) : (g <$> r) A p = .ok (g a, s) := by
  show (do let (a, s) ← r A p; .ok (g a, s) : Except DecodeError (β × Nat)) = _
  rw [h]
  rfl
theorem dk_u2 {A : ByteArray} {p : Nat} {a b : UInt8} (h : A.data.toList[p]? = some a) (h2 : A.data.toList[p + 1]? = some b) : (Reader.u2 : Reader DecodeError Nat) A p = .ok (a.toNat * 256 + b.toNat, p + 2) := by
  show (Reader.u1 >>= fun hi => Reader.u1 >>= fun lo => Pure.pure (hi * 256 + lo) : Reader DecodeError Nat) A p = _
  rw [dk_bind (dk_u1 h), dk_bind (dk_u1 h2)]
  rfl
theorem dk_of {code : ByteArray} {pc n : Nat} {i : Instr} (h : Decoder.instr pc code pc = .ok (i, pc + n)) : decode code pc = .ok (i, n) := by
  have e : decode code pc = (match Decoder.instr pc code pc with | .error x => .error x | .ok (j, s) => .ok (j, s - pc)) := by
    show (do let (j, s) ← Decoder.instr pc code pc; Pure.pure (j, s - pc) : Except DecodeError (Instr × Nat)) = _
    cases Decoder.instr pc code pc <;> rfl
  rw [e, h]
  show Except.ok (i, pc + n - pc) = _
  rw [Nat.add_sub_cancel_left]
theorem dk_1 {code : ByteArray} {pc : Nat} (h : DkAt code pc [1]) : decode code pc = .ok (.aconst_null, 1) := dk_of ((dk_bind (dk_u1 (h 0 _ rfl))).trans rfl)
theorem dk_2 {code : ByteArray} {pc : Nat} (h : DkAt code pc [2]) : decode code pc = .ok (.iconst (-1), 1) := dk_of ((dk_bind (dk_u1 (h 0 _ rfl))).trans rfl)
theorem dk_3 {code : ByteArray} {pc : Nat} (h : DkAt code pc [3]) : decode code pc = .ok (.iconst 0, 1) := dk_of ((dk_bind (dk_u1 (h 0 _ rfl))).trans rfl)
theorem dk_4 {code : ByteArray} {pc : Nat} (h : DkAt code pc [4]) : decode code pc = .ok (.iconst 1, 1) := dk_of ((dk_bind (dk_u1 (h 0 _ rfl))).trans rfl)
theorem dk_5 {code : ByteArray} {pc : Nat} (h : DkAt code pc [5]) : decode code pc = .ok (.iconst 2, 1) := dk_of ((dk_bind (dk_u1 (h 0 _ rfl))).trans rfl)
theorem dk_6 {code : ByteArray} {pc : Nat} (h : DkAt code pc [6]) : decode code pc = .ok (.iconst 3, 1) := dk_of ((dk_bind (dk_u1 (h 0 _ rfl))).trans rfl)
theorem dk_7 {code : ByteArray} {pc : Nat} (h : DkAt code pc [7]) : decode code pc = .ok (.iconst 4, 1) := dk_of ((dk_bind (dk_u1 (h 0 _ rfl))).trans rfl)
theorem dk_8 {code : ByteArray} {pc : Nat} (h : DkAt code pc [8]) : decode code pc = .ok (.iconst 5, 1) := dk_of ((dk_bind (dk_u1 (h 0 _ rfl))).trans rfl)
theorem dk_9 {code : ByteArray} {pc : Nat} (h : DkAt code pc [9]) : decode code pc = .ok (.lconst 0, 1) := dk_of ((dk_bind (dk_u1 (h 0 _ rfl))).trans rfl)
theorem dk_10 {code : ByteArray} {pc : Nat} (h : DkAt code pc [10]) : decode code pc = .ok (.lconst 1, 1) := dk_of ((dk_bind (dk_u1 (h 0 _ rfl))).trans rfl)
theorem dk_16 {code : ByteArray} {pc : Nat} (a : UInt8) (h : DkAt code pc [16, a]) : decode code pc = .ok (.bipush (Reader.signed 8 a.toNat), 2) := dk_of ((dk_bind (dk_u1 (h 0 _ rfl))).trans ((dk_bind (dk_map (dk_u1 (h 1 _ rfl)))).trans rfl))
theorem dk_17 {code : ByteArray} {pc : Nat} (a b : UInt8) (h : DkAt code pc [17, a, b]) : decode code pc = .ok (.sipush (Reader.signed 16 (a.toNat * 256 + b.toNat)), 3) := dk_of ((dk_bind (dk_u1 (h 0 _ rfl))).trans ((dk_bind (dk_map (dk_u2 (h 1 _ rfl) (h 2 _ rfl)))).trans rfl))
theorem dk_18 {code : ByteArray} {pc : Nat} (a : UInt8) (h : DkAt code pc [18, a]) : decode code pc = .ok (.ldc a.toNat, 2) := dk_of ((dk_bind (dk_u1 (h 0 _ rfl))).trans ((dk_bind (dk_u1 (h 1 _ rfl))).trans rfl))
theorem dk_19 {code : ByteArray} {pc : Nat} (a b : UInt8) (h : DkAt code pc [19, a, b]) : decode code pc = .ok (.ldc_w (a.toNat * 256 + b.toNat), 3) := dk_of ((dk_bind (dk_u1 (h 0 _ rfl))).trans ((dk_bind (dk_u2 (h 1 _ rfl) (h 2 _ rfl))).trans rfl))
theorem dk_20 {code : ByteArray} {pc : Nat} (a b : UInt8) (h : DkAt code pc [20, a, b]) : decode code pc = .ok (.ldc2_w (a.toNat * 256 + b.toNat), 3) := dk_of ((dk_bind (dk_u1 (h 0 _ rfl))).trans ((dk_bind (dk_u2 (h 1 _ rfl) (h 2 _ rfl))).trans rfl))
theorem dk_21 {code : ByteArray} {pc : Nat} (a : UInt8) (h : DkAt code pc [21, a]) : decode code pc = .ok (.iload a.toNat, 2) := dk_of ((dk_bind (dk_u1 (h 0 _ rfl))).trans ((dk_bind (dk_u1 (h 1 _ rfl))).trans rfl))
theorem dk_22 {code : ByteArray} {pc : Nat} (a : UInt8) (h : DkAt code pc [22, a]) : decode code pc = .ok (.lload a.toNat, 2) := dk_of ((dk_bind (dk_u1 (h 0 _ rfl))).trans ((dk_bind (dk_u1 (h 1 _ rfl))).trans rfl))
theorem dk_25 {code : ByteArray} {pc : Nat} (a : UInt8) (h : DkAt code pc [25, a]) : decode code pc = .ok (.aload a.toNat, 2) := dk_of ((dk_bind (dk_u1 (h 0 _ rfl))).trans ((dk_bind (dk_u1 (h 1 _ rfl))).trans rfl))
theorem dk_26 {code : ByteArray} {pc : Nat} (h : DkAt code pc [26]) : decode code pc = .ok (.iload_n 0, 1) := dk_of ((dk_bind (dk_u1 (h 0 _ rfl))).trans rfl)
theorem dk_27 {code : ByteArray} {pc : Nat} (h : DkAt code pc [27]) : decode code pc = .ok (.iload_n 1, 1) := dk_of ((dk_bind (dk_u1 (h 0 _ rfl))).trans rfl)
theorem dk_28 {code : ByteArray} {pc : Nat} (h : DkAt code pc [28]) : decode code pc = .ok (.iload_n 2, 1) := dk_of ((dk_bind (dk_u1 (h 0 _ rfl))).trans rfl)
theorem dk_29 {code : ByteArray} {pc : Nat} (h : DkAt code pc [29]) : decode code pc = .ok (.iload_n 3, 1) := dk_of ((dk_bind (dk_u1 (h 0 _ rfl))).trans rfl)
theorem dk_30 {code : ByteArray} {pc : Nat} (h : DkAt code pc [30]) : decode code pc = .ok (.lload_n 0, 1) := dk_of ((dk_bind (dk_u1 (h 0 _ rfl))).trans rfl)
theorem dk_31 {code : ByteArray} {pc : Nat} (h : DkAt code pc [31]) : decode code pc = .ok (.lload_n 1, 1) := dk_of ((dk_bind (dk_u1 (h 0 _ rfl))).trans rfl)
theorem dk_32 {code : ByteArray} {pc : Nat} (h : DkAt code pc [32]) : decode code pc = .ok (.lload_n 2, 1) := dk_of ((dk_bind (dk_u1 (h 0 _ rfl))).trans rfl)
theorem dk_33 {code : ByteArray} {pc : Nat} (h : DkAt code pc [33]) : decode code pc = .ok (.lload_n 3, 1) := dk_of ((dk_bind (dk_u1 (h 0 _ rfl))).trans rfl)
theorem dk_42 {code : ByteArray} {pc : Nat} (h : DkAt code pc [42]) : decode code pc = .ok (.aload_n 0, 1) := dk_of ((dk_bind (dk_u1 (h 0 _ rfl))).trans rfl)
theorem dk_43 {code : ByteArray} {pc : Nat} (h : DkAt code pc [43]) : decode code pc = .ok (.aload_n 1, 1) := dk_of ((dk_bind (dk_u1 (h 0 _ rfl))).trans rfl)
theorem dk_44 {code : ByteArray} {pc : Nat} (h : DkAt code pc [44]) : decode code pc = .ok (.aload_n 2, 1) := dk_of ((dk_bind (dk_u1 (h 0 _ rfl))).trans rfl)
theorem dk_45 {code : ByteArray} {pc : Nat} (h : DkAt code pc [45]) : decode code pc = .ok (.aload_n 3, 1) := dk_of ((dk_bind (dk_u1 (h 0 _ rfl))).trans rfl)
theorem dk_46 {code : ByteArray} {pc : Nat} (h : DkAt code pc [46]) : decode code pc = .ok (.iaload, 1) := dk_of ((dk_bind (dk_u1 (h 0 _ rfl))).trans rfl)
theorem dk_47 {code : ByteArray} {pc : Nat} (h : DkAt code pc [47]) : decode code pc = .ok (.laload, 1) := dk_of ((dk_bind (dk_u1 (h 0 _ rfl))).trans rfl)
theorem dk_50 {code : ByteArray} {pc : Nat} (h : DkAt code pc [50]) : decode code pc = .ok (.aaload, 1) := dk_of ((dk_bind (dk_u1 (h 0 _ rfl))).trans rfl)
theorem dk_51 {code : ByteArray} {pc : Nat} (h : DkAt code pc [51]) : decode code pc = .ok (.baload, 1) := dk_of ((dk_bind (dk_u1 (h 0 _ rfl))).trans rfl)
theorem dk_54 {code : ByteArray} {pc : Nat} (a : UInt8) (h : DkAt code pc [54, a]) : decode code pc = .ok (.istore a.toNat, 2) := dk_of ((dk_bind (dk_u1 (h 0 _ rfl))).trans ((dk_bind (dk_u1 (h 1 _ rfl))).trans rfl))
theorem dk_55 {code : ByteArray} {pc : Nat} (a : UInt8) (h : DkAt code pc [55, a]) : decode code pc = .ok (.lstore a.toNat, 2) := dk_of ((dk_bind (dk_u1 (h 0 _ rfl))).trans ((dk_bind (dk_u1 (h 1 _ rfl))).trans rfl))
theorem dk_58 {code : ByteArray} {pc : Nat} (a : UInt8) (h : DkAt code pc [58, a]) : decode code pc = .ok (.astore a.toNat, 2) := dk_of ((dk_bind (dk_u1 (h 0 _ rfl))).trans ((dk_bind (dk_u1 (h 1 _ rfl))).trans rfl))
theorem dk_59 {code : ByteArray} {pc : Nat} (h : DkAt code pc [59]) : decode code pc = .ok (.istore_n 0, 1) := dk_of ((dk_bind (dk_u1 (h 0 _ rfl))).trans rfl)
theorem dk_60 {code : ByteArray} {pc : Nat} (h : DkAt code pc [60]) : decode code pc = .ok (.istore_n 1, 1) := dk_of ((dk_bind (dk_u1 (h 0 _ rfl))).trans rfl)
theorem dk_61 {code : ByteArray} {pc : Nat} (h : DkAt code pc [61]) : decode code pc = .ok (.istore_n 2, 1) := dk_of ((dk_bind (dk_u1 (h 0 _ rfl))).trans rfl)
theorem dk_62 {code : ByteArray} {pc : Nat} (h : DkAt code pc [62]) : decode code pc = .ok (.istore_n 3, 1) := dk_of ((dk_bind (dk_u1 (h 0 _ rfl))).trans rfl)
theorem dk_65 {code : ByteArray} {pc : Nat} (h : DkAt code pc [65]) : decode code pc = .ok (.lstore_n 2, 1) := dk_of ((dk_bind (dk_u1 (h 0 _ rfl))).trans rfl)
theorem dk_66 {code : ByteArray} {pc : Nat} (h : DkAt code pc [66]) : decode code pc = .ok (.lstore_n 3, 1) := dk_of ((dk_bind (dk_u1 (h 0 _ rfl))).trans rfl)
theorem dk_76 {code : ByteArray} {pc : Nat} (h : DkAt code pc [76]) : decode code pc = .ok (.astore_n 1, 1) := dk_of ((dk_bind (dk_u1 (h 0 _ rfl))).trans rfl)
theorem dk_77 {code : ByteArray} {pc : Nat} (h : DkAt code pc [77]) : decode code pc = .ok (.astore_n 2, 1) := dk_of ((dk_bind (dk_u1 (h 0 _ rfl))).trans rfl)
theorem dk_78 {code : ByteArray} {pc : Nat} (h : DkAt code pc [78]) : decode code pc = .ok (.astore_n 3, 1) := dk_of ((dk_bind (dk_u1 (h 0 _ rfl))).trans rfl)
theorem dk_79 {code : ByteArray} {pc : Nat} (h : DkAt code pc [79]) : decode code pc = .ok (.iastore, 1) := dk_of ((dk_bind (dk_u1 (h 0 _ rfl))).trans rfl)
theorem dk_80 {code : ByteArray} {pc : Nat} (h : DkAt code pc [80]) : decode code pc = .ok (.lastore, 1) := dk_of ((dk_bind (dk_u1 (h 0 _ rfl))).trans rfl)
theorem dk_83 {code : ByteArray} {pc : Nat} (h : DkAt code pc [83]) : decode code pc = .ok (.aastore, 1) := dk_of ((dk_bind (dk_u1 (h 0 _ rfl))).trans rfl)
theorem dk_84 {code : ByteArray} {pc : Nat} (h : DkAt code pc [84]) : decode code pc = .ok (.bastore, 1) := dk_of ((dk_bind (dk_u1 (h 0 _ rfl))).trans rfl)
theorem dk_87 {code : ByteArray} {pc : Nat} (h : DkAt code pc [87]) : decode code pc = .ok (.pop, 1) := dk_of ((dk_bind (dk_u1 (h 0 _ rfl))).trans rfl)
theorem dk_89 {code : ByteArray} {pc : Nat} (h : DkAt code pc [89]) : decode code pc = .ok (.dup, 1) := dk_of ((dk_bind (dk_u1 (h 0 _ rfl))).trans rfl)
theorem dk_90 {code : ByteArray} {pc : Nat} (h : DkAt code pc [90]) : decode code pc = .ok (.dup_x1, 1) := dk_of ((dk_bind (dk_u1 (h 0 _ rfl))).trans rfl)
theorem dk_92 {code : ByteArray} {pc : Nat} (h : DkAt code pc [92]) : decode code pc = .ok (.dup2, 1) := dk_of ((dk_bind (dk_u1 (h 0 _ rfl))).trans rfl)
theorem dk_96 {code : ByteArray} {pc : Nat} (h : DkAt code pc [96]) : decode code pc = .ok (.iadd, 1) := dk_of ((dk_bind (dk_u1 (h 0 _ rfl))).trans rfl)
theorem dk_97 {code : ByteArray} {pc : Nat} (h : DkAt code pc [97]) : decode code pc = .ok (.ladd, 1) := dk_of ((dk_bind (dk_u1 (h 0 _ rfl))).trans rfl)
theorem dk_100 {code : ByteArray} {pc : Nat} (h : DkAt code pc [100]) : decode code pc = .ok (.isub, 1) := dk_of ((dk_bind (dk_u1 (h 0 _ rfl))).trans rfl)
theorem dk_101 {code : ByteArray} {pc : Nat} (h : DkAt code pc [101]) : decode code pc = .ok (.lsub, 1) := dk_of ((dk_bind (dk_u1 (h 0 _ rfl))).trans rfl)
theorem dk_104 {code : ByteArray} {pc : Nat} (h : DkAt code pc [104]) : decode code pc = .ok (.imul, 1) := dk_of ((dk_bind (dk_u1 (h 0 _ rfl))).trans rfl)
theorem dk_105 {code : ByteArray} {pc : Nat} (h : DkAt code pc [105]) : decode code pc = .ok (.lmul, 1) := dk_of ((dk_bind (dk_u1 (h 0 _ rfl))).trans rfl)
theorem dk_108 {code : ByteArray} {pc : Nat} (h : DkAt code pc [108]) : decode code pc = .ok (.idiv, 1) := dk_of ((dk_bind (dk_u1 (h 0 _ rfl))).trans rfl)
theorem dk_109 {code : ByteArray} {pc : Nat} (h : DkAt code pc [109]) : decode code pc = .ok (.ldiv, 1) := dk_of ((dk_bind (dk_u1 (h 0 _ rfl))).trans rfl)
theorem dk_112 {code : ByteArray} {pc : Nat} (h : DkAt code pc [112]) : decode code pc = .ok (.irem, 1) := dk_of ((dk_bind (dk_u1 (h 0 _ rfl))).trans rfl)
theorem dk_113 {code : ByteArray} {pc : Nat} (h : DkAt code pc [113]) : decode code pc = .ok (.lrem, 1) := dk_of ((dk_bind (dk_u1 (h 0 _ rfl))).trans rfl)
theorem dk_120 {code : ByteArray} {pc : Nat} (h : DkAt code pc [120]) : decode code pc = .ok (.ishl, 1) := dk_of ((dk_bind (dk_u1 (h 0 _ rfl))).trans rfl)
theorem dk_121 {code : ByteArray} {pc : Nat} (h : DkAt code pc [121]) : decode code pc = .ok (.lshl, 1) := dk_of ((dk_bind (dk_u1 (h 0 _ rfl))).trans rfl)
theorem dk_122 {code : ByteArray} {pc : Nat} (h : DkAt code pc [122]) : decode code pc = .ok (.ishr, 1) := dk_of ((dk_bind (dk_u1 (h 0 _ rfl))).trans rfl)
theorem dk_124 {code : ByteArray} {pc : Nat} (h : DkAt code pc [124]) : decode code pc = .ok (.iushr, 1) := dk_of ((dk_bind (dk_u1 (h 0 _ rfl))).trans rfl)
theorem dk_126 {code : ByteArray} {pc : Nat} (h : DkAt code pc [126]) : decode code pc = .ok (.iand, 1) := dk_of ((dk_bind (dk_u1 (h 0 _ rfl))).trans rfl)
theorem dk_127 {code : ByteArray} {pc : Nat} (h : DkAt code pc [127]) : decode code pc = .ok (.land, 1) := dk_of ((dk_bind (dk_u1 (h 0 _ rfl))).trans rfl)
theorem dk_128 {code : ByteArray} {pc : Nat} (h : DkAt code pc [128]) : decode code pc = .ok (.ior, 1) := dk_of ((dk_bind (dk_u1 (h 0 _ rfl))).trans rfl)
theorem dk_129 {code : ByteArray} {pc : Nat} (h : DkAt code pc [129]) : decode code pc = .ok (.lor, 1) := dk_of ((dk_bind (dk_u1 (h 0 _ rfl))).trans rfl)
theorem dk_130 {code : ByteArray} {pc : Nat} (h : DkAt code pc [130]) : decode code pc = .ok (.ixor, 1) := dk_of ((dk_bind (dk_u1 (h 0 _ rfl))).trans rfl)
theorem dk_132 {code : ByteArray} {pc : Nat} (a b : UInt8) (h : DkAt code pc [132, a, b]) : decode code pc = .ok (.iinc a.toNat (Reader.signed 8 b.toNat), 3) := dk_of ((dk_bind (dk_u1 (h 0 _ rfl))).trans ((dk_bind (dk_u1 (h 1 _ rfl))).trans ((dk_bind (dk_map (dk_u1 (h 2 _ rfl)))).trans rfl)))
theorem dk_133 {code : ByteArray} {pc : Nat} (h : DkAt code pc [133]) : decode code pc = .ok (.i2l, 1) := dk_of ((dk_bind (dk_u1 (h 0 _ rfl))).trans rfl)
theorem dk_136 {code : ByteArray} {pc : Nat} (h : DkAt code pc [136]) : decode code pc = .ok (.l2i, 1) := dk_of ((dk_bind (dk_u1 (h 0 _ rfl))).trans rfl)
theorem dk_145 {code : ByteArray} {pc : Nat} (h : DkAt code pc [145]) : decode code pc = .ok (.i2b, 1) := dk_of ((dk_bind (dk_u1 (h 0 _ rfl))).trans rfl)
theorem dk_146 {code : ByteArray} {pc : Nat} (h : DkAt code pc [146]) : decode code pc = .ok (.i2c, 1) := dk_of ((dk_bind (dk_u1 (h 0 _ rfl))).trans rfl)
theorem dk_148 {code : ByteArray} {pc : Nat} (h : DkAt code pc [148]) : decode code pc = .ok (.lcmp, 1) := dk_of ((dk_bind (dk_u1 (h 0 _ rfl))).trans rfl)
theorem dk_153 {code : ByteArray} {pc : Nat} (a b : UInt8) (h : DkAt code pc [153, a, b]) : decode code pc = .ok (.ifCond .eq (Reader.signed 16 (a.toNat * 256 + b.toNat)), 3) := dk_of ((dk_bind (dk_u1 (h 0 _ rfl))).trans ((dk_bind (dk_map (dk_u2 (h 1 _ rfl) (h 2 _ rfl)))).trans rfl))
theorem dk_154 {code : ByteArray} {pc : Nat} (a b : UInt8) (h : DkAt code pc [154, a, b]) : decode code pc = .ok (.ifCond .ne (Reader.signed 16 (a.toNat * 256 + b.toNat)), 3) := dk_of ((dk_bind (dk_u1 (h 0 _ rfl))).trans ((dk_bind (dk_map (dk_u2 (h 1 _ rfl) (h 2 _ rfl)))).trans rfl))
theorem dk_155 {code : ByteArray} {pc : Nat} (a b : UInt8) (h : DkAt code pc [155, a, b]) : decode code pc = .ok (.ifCond .lt (Reader.signed 16 (a.toNat * 256 + b.toNat)), 3) := dk_of ((dk_bind (dk_u1 (h 0 _ rfl))).trans ((dk_bind (dk_map (dk_u2 (h 1 _ rfl) (h 2 _ rfl)))).trans rfl))
theorem dk_156 {code : ByteArray} {pc : Nat} (a b : UInt8) (h : DkAt code pc [156, a, b]) : decode code pc = .ok (.ifCond .ge (Reader.signed 16 (a.toNat * 256 + b.toNat)), 3) := dk_of ((dk_bind (dk_u1 (h 0 _ rfl))).trans ((dk_bind (dk_map (dk_u2 (h 1 _ rfl) (h 2 _ rfl)))).trans rfl))
theorem dk_157 {code : ByteArray} {pc : Nat} (a b : UInt8) (h : DkAt code pc [157, a, b]) : decode code pc = .ok (.ifCond .gt (Reader.signed 16 (a.toNat * 256 + b.toNat)), 3) := dk_of ((dk_bind (dk_u1 (h 0 _ rfl))).trans ((dk_bind (dk_map (dk_u2 (h 1 _ rfl) (h 2 _ rfl)))).trans rfl))
theorem dk_158 {code : ByteArray} {pc : Nat} (a b : UInt8) (h : DkAt code pc [158, a, b]) : decode code pc = .ok (.ifCond .le (Reader.signed 16 (a.toNat * 256 + b.toNat)), 3) := dk_of ((dk_bind (dk_u1 (h 0 _ rfl))).trans ((dk_bind (dk_map (dk_u2 (h 1 _ rfl) (h 2 _ rfl)))).trans rfl))
theorem dk_159 {code : ByteArray} {pc : Nat} (a b : UInt8) (h : DkAt code pc [159, a, b]) : decode code pc = .ok (.if_icmp .eq (Reader.signed 16 (a.toNat * 256 + b.toNat)), 3) := dk_of ((dk_bind (dk_u1 (h 0 _ rfl))).trans ((dk_bind (dk_map (dk_u2 (h 1 _ rfl) (h 2 _ rfl)))).trans rfl))
theorem dk_160 {code : ByteArray} {pc : Nat} (a b : UInt8) (h : DkAt code pc [160, a, b]) : decode code pc = .ok (.if_icmp .ne (Reader.signed 16 (a.toNat * 256 + b.toNat)), 3) := dk_of ((dk_bind (dk_u1 (h 0 _ rfl))).trans ((dk_bind (dk_map (dk_u2 (h 1 _ rfl) (h 2 _ rfl)))).trans rfl))
theorem dk_161 {code : ByteArray} {pc : Nat} (a b : UInt8) (h : DkAt code pc [161, a, b]) : decode code pc = .ok (.if_icmp .lt (Reader.signed 16 (a.toNat * 256 + b.toNat)), 3) := dk_of ((dk_bind (dk_u1 (h 0 _ rfl))).trans ((dk_bind (dk_map (dk_u2 (h 1 _ rfl) (h 2 _ rfl)))).trans rfl))
theorem dk_162 {code : ByteArray} {pc : Nat} (a b : UInt8) (h : DkAt code pc [162, a, b]) : decode code pc = .ok (.if_icmp .ge (Reader.signed 16 (a.toNat * 256 + b.toNat)), 3) := dk_of ((dk_bind (dk_u1 (h 0 _ rfl))).trans ((dk_bind (dk_map (dk_u2 (h 1 _ rfl) (h 2 _ rfl)))).trans rfl))
theorem dk_163 {code : ByteArray} {pc : Nat} (a b : UInt8) (h : DkAt code pc [163, a, b]) : decode code pc = .ok (.if_icmp .gt (Reader.signed 16 (a.toNat * 256 + b.toNat)), 3) := dk_of ((dk_bind (dk_u1 (h 0 _ rfl))).trans ((dk_bind (dk_map (dk_u2 (h 1 _ rfl) (h 2 _ rfl)))).trans rfl))
theorem dk_164 {code : ByteArray} {pc : Nat} (a b : UInt8) (h : DkAt code pc [164, a, b]) : decode code pc = .ok (.if_icmp .le (Reader.signed 16 (a.toNat * 256 + b.toNat)), 3) := dk_of ((dk_bind (dk_u1 (h 0 _ rfl))).trans ((dk_bind (dk_map (dk_u2 (h 1 _ rfl) (h 2 _ rfl)))).trans rfl))
theorem dk_165 {code : ByteArray} {pc : Nat} (a b : UInt8) (h : DkAt code pc [165, a, b]) : decode code pc = .ok (.if_acmp .eq (Reader.signed 16 (a.toNat * 256 + b.toNat)), 3) := dk_of ((dk_bind (dk_u1 (h 0 _ rfl))).trans ((dk_bind (dk_map (dk_u2 (h 1 _ rfl) (h 2 _ rfl)))).trans rfl))
theorem dk_166 {code : ByteArray} {pc : Nat} (a b : UInt8) (h : DkAt code pc [166, a, b]) : decode code pc = .ok (.if_acmp .ne (Reader.signed 16 (a.toNat * 256 + b.toNat)), 3) := dk_of ((dk_bind (dk_u1 (h 0 _ rfl))).trans ((dk_bind (dk_map (dk_u2 (h 1 _ rfl) (h 2 _ rfl)))).trans rfl))
theorem dk_167 {code : ByteArray} {pc : Nat} (a b : UInt8) (h : DkAt code pc [167, a, b]) : decode code pc = .ok (.goto (Reader.signed 16 (a.toNat * 256 + b.toNat)), 3) := dk_of ((dk_bind (dk_u1 (h 0 _ rfl))).trans ((dk_bind (dk_map (dk_u2 (h 1 _ rfl) (h 2 _ rfl)))).trans rfl))
theorem dk_172 {code : ByteArray} {pc : Nat} (h : DkAt code pc [172]) : decode code pc = .ok (.ireturn, 1) := dk_of ((dk_bind (dk_u1 (h 0 _ rfl))).trans rfl)
theorem dk_173 {code : ByteArray} {pc : Nat} (h : DkAt code pc [173]) : decode code pc = .ok (.lreturn, 1) := dk_of ((dk_bind (dk_u1 (h 0 _ rfl))).trans rfl)
theorem dk_176 {code : ByteArray} {pc : Nat} (h : DkAt code pc [176]) : decode code pc = .ok (.areturn, 1) := dk_of ((dk_bind (dk_u1 (h 0 _ rfl))).trans rfl)
theorem dk_177 {code : ByteArray} {pc : Nat} (h : DkAt code pc [177]) : decode code pc = .ok (.return_, 1) := dk_of ((dk_bind (dk_u1 (h 0 _ rfl))).trans rfl)
theorem dk_178 {code : ByteArray} {pc : Nat} (a b : UInt8) (h : DkAt code pc [178, a, b]) : decode code pc = .ok (.getstatic (a.toNat * 256 + b.toNat), 3) := dk_of ((dk_bind (dk_u1 (h 0 _ rfl))).trans ((dk_bind (dk_u2 (h 1 _ rfl) (h 2 _ rfl))).trans rfl))
theorem dk_180 {code : ByteArray} {pc : Nat} (a b : UInt8) (h : DkAt code pc [180, a, b]) : decode code pc = .ok (.getfield (a.toNat * 256 + b.toNat), 3) := dk_of ((dk_bind (dk_u1 (h 0 _ rfl))).trans ((dk_bind (dk_u2 (h 1 _ rfl) (h 2 _ rfl))).trans rfl))
theorem dk_181 {code : ByteArray} {pc : Nat} (a b : UInt8) (h : DkAt code pc [181, a, b]) : decode code pc = .ok (.putfield (a.toNat * 256 + b.toNat), 3) := dk_of ((dk_bind (dk_u1 (h 0 _ rfl))).trans ((dk_bind (dk_u2 (h 1 _ rfl) (h 2 _ rfl))).trans rfl))
theorem dk_182 {code : ByteArray} {pc : Nat} (a b : UInt8) (h : DkAt code pc [182, a, b]) : decode code pc = .ok (.invokevirtual (a.toNat * 256 + b.toNat), 3) := dk_of ((dk_bind (dk_u1 (h 0 _ rfl))).trans ((dk_bind (dk_u2 (h 1 _ rfl) (h 2 _ rfl))).trans rfl))
theorem dk_183 {code : ByteArray} {pc : Nat} (a b : UInt8) (h : DkAt code pc [183, a, b]) : decode code pc = .ok (.invokespecial (a.toNat * 256 + b.toNat), 3) := dk_of ((dk_bind (dk_u1 (h 0 _ rfl))).trans ((dk_bind (dk_u2 (h 1 _ rfl) (h 2 _ rfl))).trans rfl))
theorem dk_184 {code : ByteArray} {pc : Nat} (a b : UInt8) (h : DkAt code pc [184, a, b]) : decode code pc = .ok (.invokestatic (a.toNat * 256 + b.toNat), 3) := dk_of ((dk_bind (dk_u1 (h 0 _ rfl))).trans ((dk_bind (dk_u2 (h 1 _ rfl) (h 2 _ rfl))).trans rfl))
theorem dk_187 {code : ByteArray} {pc : Nat} (a b : UInt8) (h : DkAt code pc [187, a, b]) : decode code pc = .ok (.new (a.toNat * 256 + b.toNat), 3) := dk_of ((dk_bind (dk_u1 (h 0 _ rfl))).trans ((dk_bind (dk_u2 (h 1 _ rfl) (h 2 _ rfl))).trans rfl))
theorem dk_188_4 {code : ByteArray} {pc : Nat} (h : DkAt code pc [188, 4]) : decode code pc = .ok (.newarray .boolean, 2) := dk_of ((dk_bind (dk_u1 (h 0 _ rfl))).trans ((dk_bind (dk_u1 (h 1 _ rfl))).trans rfl))
theorem dk_188_8 {code : ByteArray} {pc : Nat} (h : DkAt code pc [188, 8]) : decode code pc = .ok (.newarray .byte, 2) := dk_of ((dk_bind (dk_u1 (h 0 _ rfl))).trans ((dk_bind (dk_u1 (h 1 _ rfl))).trans rfl))
theorem dk_188_10 {code : ByteArray} {pc : Nat} (h : DkAt code pc [188, 10]) : decode code pc = .ok (.newarray .int, 2) := dk_of ((dk_bind (dk_u1 (h 0 _ rfl))).trans ((dk_bind (dk_u1 (h 1 _ rfl))).trans rfl))
theorem dk_188_11 {code : ByteArray} {pc : Nat} (h : DkAt code pc [188, 11]) : decode code pc = .ok (.newarray .long, 2) := dk_of ((dk_bind (dk_u1 (h 0 _ rfl))).trans ((dk_bind (dk_u1 (h 1 _ rfl))).trans rfl))
theorem dk_189 {code : ByteArray} {pc : Nat} (a b : UInt8) (h : DkAt code pc [189, a, b]) : decode code pc = .ok (.anewarray (a.toNat * 256 + b.toNat), 3) := dk_of ((dk_bind (dk_u1 (h 0 _ rfl))).trans ((dk_bind (dk_u2 (h 1 _ rfl) (h 2 _ rfl))).trans rfl))
theorem dk_190 {code : ByteArray} {pc : Nat} (h : DkAt code pc [190]) : decode code pc = .ok (.arraylength, 1) := dk_of ((dk_bind (dk_u1 (h 0 _ rfl))).trans rfl)
theorem dk_191 {code : ByteArray} {pc : Nat} (h : DkAt code pc [191]) : decode code pc = .ok (.athrow, 1) := dk_of ((dk_bind (dk_u1 (h 0 _ rfl))).trans rfl)
theorem dk_192 {code : ByteArray} {pc : Nat} (a b : UInt8) (h : DkAt code pc [192, a, b]) : decode code pc = .ok (.checkcast (a.toNat * 256 + b.toNat), 3) := dk_of ((dk_bind (dk_u1 (h 0 _ rfl))).trans ((dk_bind (dk_u2 (h 1 _ rfl) (h 2 _ rfl))).trans rfl))
theorem dk_198 {code : ByteArray} {pc : Nat} (a b : UInt8) (h : DkAt code pc [198, a, b]) : decode code pc = .ok (.ifnull (Reader.signed 16 (a.toNat * 256 + b.toNat)), 3) := dk_of ((dk_bind (dk_u1 (h 0 _ rfl))).trans ((dk_bind (dk_map (dk_u2 (h 1 _ rfl) (h 2 _ rfl)))).trans rfl))
theorem dk_199 {code : ByteArray} {pc : Nat} (a b : UInt8) (h : DkAt code pc [199, a, b]) : decode code pc = .ok (.ifnonnull (Reader.signed 16 (a.toNat * 256 + b.toNat)), 3) := dk_of ((dk_bind (dk_u1 (h 0 _ rfl))).trans ((dk_bind (dk_map (dk_u2 (h 1 _ rfl) (h 2 _ rfl)))).trans rfl))
/-! SweptSnow$Valley -/
set_option maxRecDepth 100000
def RX1 : String := "SweptSnow$Valley"
def TX1 : u_T := fun k => match k with
  | 0 => ("SweptSnow$Valley", "houses", "Ljava/util/ArrayList;", true)
  | 1 => ("SweptSnow$Valley", "steps", "Ljava/util/ArrayList;", true)
  | 2 => ("SweptSnow$Valley", "beside", "[I", true)
  | 3 => ("SweptSnow$Valley", "walls", "[I", true)
  | 4 => ("SweptSnow$Valley", "needed", "[I", true)
  | 5 => ("SweptSnow$Valley", "fall", "I", false)
  | _ => ("SweptSnow$Valley", "deep", "I", false)
def tyX1 : Nat → FieldType := fun k => match k with
  | 0 => .object "java/util/ArrayList"
  | 1 => .object "java/util/ArrayList"
  | 2 => .array .int
  | 3 => .array .int
  | 4 => .array .int
  | 5 => .int
  | _ => .int
abbrev wsX10 : List Cond := u_ws RX1 TX1 7
theorem nmX1 : ∀ a, a < 7 → ∀ b, b < 7 → a ≠ b → (TX1 a).2.1 ≠ (TX1 b).2.1 := by decide +kernel
theorem tyX1_ok : ∀ k, k < 7 → parseFieldDescriptor (TX1 k).2.2.1 = some (tyX1 k) := by decide +kernel
abbrev cX1_init : ByteArray := prog_15_method_1_code
def yX1_init : MethodName := ⟨RX1, "<init>", "()V"⟩
def dkwX1_init_3 : List UInt8 := [132, 1, 1, 167, 255, 240, 177]
abbrev dktX1_init_3 : List UInt8 := dkwX1_init_3 ++ []
def dkwX1_init_2 : List UInt8 := [16, 31, 188, 10, 181, 0, 30, 3, 60, 27, 16, 8, 162, 0, 16, 42, 180, 0, 27, 27, 2, 79]
abbrev dktX1_init_2 : List UInt8 := dkwX1_init_2 ++ dktX1_init_3
def dkwX1_init_1 : List UInt8 := [183, 0, 11, 181, 0, 20, 42, 16, 8, 188, 10, 181, 0, 23, 42, 16, 8, 188, 10, 181, 0, 27, 42]
abbrev dktX1_init_1 : List UInt8 := dkwX1_init_1 ++ dktX1_init_2
def dkwX1_init_0 : List UInt8 := [42, 183, 0, 3, 42, 187, 0, 9, 89, 5, 183, 0, 11, 181, 0, 14, 42, 187, 0, 9, 89, 5]
abbrev dktX1_init_0 : List UInt8 := dkwX1_init_0 ++ dktX1_init_1
theorem dksX1_init_0 : cX1_init.data.toList.drop 0 = dktX1_init_0 := by decide +kernel
theorem dksX1_init_1 : cX1_init.data.toList.drop 22 = dktX1_init_1 := dk_seg dksX1_init_0 22 rfl rfl
theorem dksX1_init_2 : cX1_init.data.toList.drop 45 = dktX1_init_2 := dk_seg dksX1_init_1 23 rfl rfl
theorem dksX1_init_3 : cX1_init.data.toList.drop 67 = dktX1_init_3 := dk_seg dksX1_init_2 22 rfl rfl
theorem dX1_init_0 : decode cX1_init 0 = .ok (.aload_n 0, 1) := dk_42 (dk_at dksX1_init_0 0 rfl rfl)
theorem dX1_init_1 : decode cX1_init 1 = .ok (.invokespecial 3, 3) := dk_183 0 3 (dk_at dksX1_init_0 1 rfl rfl)
theorem dX1_init_4 : decode cX1_init 4 = .ok (.aload_n 0, 1) := dk_42 (dk_at dksX1_init_0 4 rfl rfl)
theorem dX1_init_5 : decode cX1_init 5 = .ok (.new 9, 3) := dk_187 0 9 (dk_at dksX1_init_0 5 rfl rfl)
theorem dX1_init_8 : decode cX1_init 8 = .ok (.dup, 1) := dk_89 (dk_at dksX1_init_0 8 rfl rfl)
theorem dX1_init_9 : decode cX1_init 9 = .ok (.iconst 2, 1) := dk_5 (dk_at dksX1_init_0 9 rfl rfl)
theorem dX1_init_10 : decode cX1_init 10 = .ok (.invokespecial 11, 3) := dk_183 0 11 (dk_at dksX1_init_0 10 rfl rfl)
theorem dX1_init_13 : decode cX1_init 13 = .ok (.putfield 14, 3) := dk_181 0 14 (dk_at dksX1_init_0 13 rfl rfl)
theorem dX1_init_16 : decode cX1_init 16 = .ok (.aload_n 0, 1) := dk_42 (dk_at dksX1_init_0 16 rfl rfl)
theorem dX1_init_17 : decode cX1_init 17 = .ok (.new 9, 3) := dk_187 0 9 (dk_at dksX1_init_0 17 rfl rfl)
theorem dX1_init_20 : decode cX1_init 20 = .ok (.dup, 1) := dk_89 (dk_at dksX1_init_0 20 rfl rfl)
theorem dX1_init_21 : decode cX1_init 21 = .ok (.iconst 2, 1) := dk_5 (dk_at dksX1_init_0 21 rfl rfl)
theorem dX1_init_22 : decode cX1_init 22 = .ok (.invokespecial 11, 3) := dk_183 0 11 (dk_at dksX1_init_1 0 rfl rfl)
theorem dX1_init_25 : decode cX1_init 25 = .ok (.putfield 20, 3) := dk_181 0 20 (dk_at dksX1_init_1 3 rfl rfl)
theorem dX1_init_28 : decode cX1_init 28 = .ok (.aload_n 0, 1) := dk_42 (dk_at dksX1_init_1 6 rfl rfl)
theorem dX1_init_29 : decode cX1_init 29 = .ok (.bipush 8, 2) := dk_16 8 (dk_at dksX1_init_1 7 rfl rfl)
theorem dX1_init_31 : decode cX1_init 31 = .ok (.newarray .int, 2) := dk_188_10 (dk_at dksX1_init_1 9 rfl rfl)
theorem dX1_init_33 : decode cX1_init 33 = .ok (.putfield 23, 3) := dk_181 0 23 (dk_at dksX1_init_1 11 rfl rfl)
theorem dX1_init_36 : decode cX1_init 36 = .ok (.aload_n 0, 1) := dk_42 (dk_at dksX1_init_1 14 rfl rfl)
theorem dX1_init_37 : decode cX1_init 37 = .ok (.bipush 8, 2) := dk_16 8 (dk_at dksX1_init_1 15 rfl rfl)
theorem dX1_init_39 : decode cX1_init 39 = .ok (.newarray .int, 2) := dk_188_10 (dk_at dksX1_init_1 17 rfl rfl)
theorem dX1_init_41 : decode cX1_init 41 = .ok (.putfield 27, 3) := dk_181 0 27 (dk_at dksX1_init_1 19 rfl rfl)
theorem dX1_init_44 : decode cX1_init 44 = .ok (.aload_n 0, 1) := dk_42 (dk_at dksX1_init_1 22 rfl rfl)
theorem dX1_init_45 : decode cX1_init 45 = .ok (.bipush 31, 2) := dk_16 31 (dk_at dksX1_init_2 0 rfl rfl)
theorem dX1_init_47 : decode cX1_init 47 = .ok (.newarray .int, 2) := dk_188_10 (dk_at dksX1_init_2 2 rfl rfl)
theorem dX1_init_49 : decode cX1_init 49 = .ok (.putfield 30, 3) := dk_181 0 30 (dk_at dksX1_init_2 4 rfl rfl)
theorem dX1_init_52 : decode cX1_init 52 = .ok (.iconst 0, 1) := dk_3 (dk_at dksX1_init_2 7 rfl rfl)
theorem dX1_init_53 : decode cX1_init 53 = .ok (.istore_n 1, 1) := dk_60 (dk_at dksX1_init_2 8 rfl rfl)
theorem dX1_init_54 : decode cX1_init 54 = .ok (.iload_n 1, 1) := dk_27 (dk_at dksX1_init_2 9 rfl rfl)
theorem dX1_init_55 : decode cX1_init 55 = .ok (.bipush 8, 2) := dk_16 8 (dk_at dksX1_init_2 10 rfl rfl)
theorem dX1_init_57 : decode cX1_init 57 = .ok (.if_icmp .ge 16, 3) := dk_162 0 16 (dk_at dksX1_init_2 12 rfl rfl)
theorem dX1_init_60 : decode cX1_init 60 = .ok (.aload_n 0, 1) := dk_42 (dk_at dksX1_init_2 15 rfl rfl)
theorem dX1_init_61 : decode cX1_init 61 = .ok (.getfield 27, 3) := dk_180 0 27 (dk_at dksX1_init_2 16 rfl rfl)
theorem dX1_init_64 : decode cX1_init 64 = .ok (.iload_n 1, 1) := dk_27 (dk_at dksX1_init_2 19 rfl rfl)
theorem dX1_init_65 : decode cX1_init 65 = .ok (.iconst (-1), 1) := dk_2 (dk_at dksX1_init_2 20 rfl rfl)
theorem dX1_init_66 : decode cX1_init 66 = .ok (.iastore, 1) := dk_79 (dk_at dksX1_init_2 21 rfl rfl)
theorem dX1_init_67 : decode cX1_init 67 = .ok (.iinc 1 1, 3) := dk_132 1 1 (dk_at dksX1_init_3 0 rfl rfl)
theorem dX1_init_70 : decode cX1_init 70 = .ok (.goto (-16), 3) := dk_167 255 240 (dk_at dksX1_init_3 3 rfl rfl)
theorem dX1_init_73 : decode cX1_init 73 = .ok (.return_, 1) := dk_177 (dk_at dksX1_init_3 6 rfl rfl)
abbrev cX1_steps : ByteArray := prog_15_method_2_code
def yX1_steps : MethodName := ⟨RX1, "steps", "()I"⟩
def dkwX1_steps_0 : List UInt8 := [42, 180, 0, 20, 182, 0, 33, 172]
abbrev dktX1_steps_0 : List UInt8 := dkwX1_steps_0 ++ []
theorem dksX1_steps_0 : cX1_steps.data.toList.drop 0 = dktX1_steps_0 := by decide +kernel
theorem dX1_steps_0 : decode cX1_steps 0 = .ok (.aload_n 0, 1) := dk_42 (dk_at dksX1_steps_0 0 rfl rfl)
theorem dX1_steps_1 : decode cX1_steps 1 = .ok (.getfield 20, 3) := dk_180 0 20 (dk_at dksX1_steps_0 1 rfl rfl)
theorem dX1_steps_4 : decode cX1_steps 4 = .ok (.invokevirtual 33, 3) := dk_182 0 33 (dk_at dksX1_steps_0 4 rfl rfl)
theorem dX1_steps_7 : decode cX1_steps 7 = .ok (.ireturn, 1) := dk_172 (dk_at dksX1_steps_0 7 rfl rfl)
abbrev cX1_houses : ByteArray := prog_15_method_3_code
def yX1_houses : MethodName := ⟨RX1, "houses", "()I"⟩
def dkwX1_houses_0 : List UInt8 := [42, 180, 0, 14, 182, 0, 33, 172]
abbrev dktX1_houses_0 : List UInt8 := dkwX1_houses_0 ++ []
theorem dksX1_houses_0 : cX1_houses.data.toList.drop 0 = dktX1_houses_0 := by decide +kernel
theorem dX1_houses_0 : decode cX1_houses 0 = .ok (.aload_n 0, 1) := dk_42 (dk_at dksX1_houses_0 0 rfl rfl)
theorem dX1_houses_1 : decode cX1_houses 1 = .ok (.getfield 14, 3) := dk_180 0 14 (dk_at dksX1_houses_0 1 rfl rfl)
theorem dX1_houses_4 : decode cX1_houses 4 = .ok (.invokevirtual 33, 3) := dk_182 0 33 (dk_at dksX1_houses_0 4 rfl rfl)
theorem dX1_houses_7 : decode cX1_houses 7 = .ok (.ireturn, 1) := dk_172 (dk_at dksX1_houses_0 7 rfl rfl)
abbrev cX1_neededOn : ByteArray := prog_15_method_4_code
def yX1_neededOn : MethodName := ⟨RX1, "neededOn", "(I)I"⟩
def dkwX1_neededOn_0 : List UInt8 := [27, 16, 31, 162, 0, 12, 42, 180, 0, 30, 27, 46, 167, 0, 4, 3, 172]
abbrev dktX1_neededOn_0 : List UInt8 := dkwX1_neededOn_0 ++ []
theorem dksX1_neededOn_0 : cX1_neededOn.data.toList.drop 0 = dktX1_neededOn_0 := by decide +kernel
theorem dX1_neededOn_0 : decode cX1_neededOn 0 = .ok (.iload_n 1, 1) := dk_27 (dk_at dksX1_neededOn_0 0 rfl rfl)
theorem dX1_neededOn_1 : decode cX1_neededOn 1 = .ok (.bipush 31, 2) := dk_16 31 (dk_at dksX1_neededOn_0 1 rfl rfl)
theorem dX1_neededOn_3 : decode cX1_neededOn 3 = .ok (.if_icmp .ge 12, 3) := dk_162 0 12 (dk_at dksX1_neededOn_0 3 rfl rfl)
theorem dX1_neededOn_6 : decode cX1_neededOn 6 = .ok (.aload_n 0, 1) := dk_42 (dk_at dksX1_neededOn_0 6 rfl rfl)
theorem dX1_neededOn_7 : decode cX1_neededOn 7 = .ok (.getfield 30, 3) := dk_180 0 30 (dk_at dksX1_neededOn_0 7 rfl rfl)
theorem dX1_neededOn_10 : decode cX1_neededOn 10 = .ok (.iload_n 1, 1) := dk_27 (dk_at dksX1_neededOn_0 10 rfl rfl)
theorem dX1_neededOn_11 : decode cX1_neededOn 11 = .ok (.iaload, 1) := dk_46 (dk_at dksX1_neededOn_0 11 rfl rfl)
theorem dX1_neededOn_12 : decode cX1_neededOn 12 = .ok (.goto 4, 3) := dk_167 0 4 (dk_at dksX1_neededOn_0 12 rfl rfl)
theorem dX1_neededOn_15 : decode cX1_neededOn 15 = .ok (.iconst 0, 1) := dk_3 (dk_at dksX1_neededOn_0 15 rfl rfl)
theorem dX1_neededOn_16 : decode cX1_neededOn 16 = .ok (.ireturn, 1) := dk_172 (dk_at dksX1_neededOn_0 16 rfl rfl)
theorem q131 : (Jvm.Cond.initialized "SweptSnow$Valley") ∈ lw_all := lw_g (lw_at lw_m1 2 rfl) rfl
theorem q175 : (Jvm.Cond.instantiable "SweptSnow$Valley" (7 : Nat)) ∈ lw_all := lw_g (lw_at lw_m1 46 rfl) rfl
theorem q177 : (Jvm.Cond.instanceMethod ({ cls := "SweptSnow$Valley", name := "<init>", desc := "()V" } : Jvm.MethodName)) ∈ lw_all := lw_g (lw_at lw_m1 48 rfl) rfl
theorem q178 : (Jvm.Cond.code ({ cls := "SweptSnow$Valley", name := "<init>", desc := "()V" } : Jvm.MethodName) prog_15_method_1_code (2 : Nat) (Option.none : Option Jvm.ClassFile.FieldType)) ∈ lw_all := lw_g (lw_at lw_m1 49 rfl) rfl
theorem q179 : (Jvm.Cond.methodLink "SweptSnow$Valley" (3 : Nat) ({ cls := "java/lang/Object", name := "<init>", desc := "()V" } : Jvm.MethodName)) ∈ lw_all := lw_g (lw_at lw_m1 50 rfl) rfl
theorem q180 : (Jvm.Cond.classLink "SweptSnow$Valley" (9 : Nat) "java/util/ArrayList") ∈ lw_all := lw_g (lw_at lw_m1 51 rfl) rfl
theorem q182 : (Jvm.Cond.methodLink "SweptSnow$Valley" (11 : Nat) ({ cls := "java/util/ArrayList", name := "<init>", desc := "(I)V" } : Jvm.MethodName)) ∈ lw_all := lw_g (lw_at lw_m1 53 rfl) rfl
theorem q208 : (Jvm.Cond.fieldLink "SweptSnow$Valley" (14 : Nat) "SweptSnow$Valley" "houses" "Ljava/util/ArrayList;") ∈ lw_all := lw_g (lw_at lw_m1 79 rfl) rfl
theorem q211 : (Jvm.Cond.fieldLink "SweptSnow$Valley" (20 : Nat) "SweptSnow$Valley" "steps" "Ljava/util/ArrayList;") ∈ lw_all := lw_g (lw_at lw_m1 82 rfl) rfl
theorem q214 : (Jvm.Cond.fieldLink "SweptSnow$Valley" (23 : Nat) "SweptSnow$Valley" "beside" "[I") ∈ lw_all := lw_g (lw_at lw_m1 85 rfl) rfl
theorem q217 : (Jvm.Cond.fieldLink "SweptSnow$Valley" (27 : Nat) "SweptSnow$Valley" "walls" "[I") ∈ lw_all := lw_g (lw_at lw_m1 88 rfl) rfl
theorem q220 : (Jvm.Cond.fieldLink "SweptSnow$Valley" (30 : Nat) "SweptSnow$Valley" "needed" "[I") ∈ lw_all := lw_g (lw_at lw_m1 91 rfl) rfl
theorem q229 : (Jvm.Cond.laysFinal "SweptSnow$Valley" "SweptSnow$Valley" "houses" "Ljava/util/ArrayList;") ∈ lw_all := lw_g (lw_at lw_m1 100 rfl) rfl
theorem q230 : (Jvm.Cond.soleField "SweptSnow$Valley" "houses") ∈ lw_all := lw_g (lw_at lw_m1 101 rfl) rfl
theorem q231 : (Jvm.Cond.laysFinal "SweptSnow$Valley" "SweptSnow$Valley" "steps" "Ljava/util/ArrayList;") ∈ lw_all := lw_g (lw_at lw_m1 102 rfl) rfl
theorem q232 : (Jvm.Cond.soleField "SweptSnow$Valley" "steps") ∈ lw_all := lw_g (lw_at lw_m1 103 rfl) rfl
theorem q233 : (Jvm.Cond.laysFinal "SweptSnow$Valley" "SweptSnow$Valley" "beside" "[I") ∈ lw_all := lw_g (lw_at lw_m1 104 rfl) rfl
theorem q234 : (Jvm.Cond.soleField "SweptSnow$Valley" "beside") ∈ lw_all := lw_g (lw_at lw_m1 105 rfl) rfl
theorem q235 : (Jvm.Cond.laysFinal "SweptSnow$Valley" "SweptSnow$Valley" "walls" "[I") ∈ lw_all := lw_g (lw_at lw_m1 106 rfl) rfl
theorem q236 : (Jvm.Cond.soleField "SweptSnow$Valley" "walls") ∈ lw_all := lw_g (lw_at lw_m1 107 rfl) rfl
theorem q237 : (Jvm.Cond.laysFinal "SweptSnow$Valley" "SweptSnow$Valley" "needed" "[I") ∈ lw_all := lw_g (lw_at lw_m1 108 rfl) rfl
theorem q238 : (Jvm.Cond.soleField "SweptSnow$Valley" "needed") ∈ lw_all := lw_g (lw_at lw_m1 109 rfl) rfl
theorem q239 : (Jvm.Cond.lays "SweptSnow$Valley" "SweptSnow$Valley" "fall" "I") ∈ lw_all := lw_g (lw_at lw_m1 110 rfl) rfl
theorem q240 : (Jvm.Cond.soleField "SweptSnow$Valley" "fall") ∈ lw_all := lw_g (lw_at lw_m1 111 rfl) rfl
theorem q241 : (Jvm.Cond.lays "SweptSnow$Valley" "SweptSnow$Valley" "deep" "I") ∈ lw_all := lw_g (lw_at lw_m1 112 rfl) rfl
theorem q242 : (Jvm.Cond.soleField "SweptSnow$Valley" "deep") ∈ lw_all := lw_g (lw_at lw_m1 113 rfl) rfl
theorem q243 : (Jvm.Cond.superclass "SweptSnow$Valley" "java/lang/Object") ∈ lw_all := lw_g (lw_at lw_m1 114 rfl) rfl
theorem q581 : (Jvm.Cond.instanceMethod ({ cls := "SweptSnow$Valley", name := "steps", desc := "()I" } : Jvm.MethodName)) ∈ lw_all := lw_g (lw_at lw_m2 212 rfl) rfl
theorem q582 : (Jvm.Cond.selects "SweptSnow$Valley" ({ cls := "SweptSnow$Valley", name := "steps", desc := "()I" } : Jvm.MethodName) ({ cls := "SweptSnow$Valley", name := "steps", desc := "()I" } : Jvm.MethodName)) ∈ lw_all := lw_g (lw_at lw_m2 213 rfl) rfl
theorem q583 : (Jvm.Cond.code ({ cls := "SweptSnow$Valley", name := "steps", desc := "()I" } : Jvm.MethodName) prog_15_method_2_code (1 : Nat) (Option.some Jvm.ClassFile.FieldType.int)) ∈ lw_all := lw_g (lw_at lw_m2 214 rfl) rfl
theorem q584 : (Jvm.Cond.methodLink "SweptSnow$Valley" (33 : Nat) ({ cls := "java/util/ArrayList", name := "size", desc := "()I" } : Jvm.MethodName)) ∈ lw_all := lw_g (lw_at lw_m2 215 rfl) rfl
theorem q655 : (Jvm.Cond.selects "SweptSnow$Valley" ({ cls := "java/lang/Object", name := "getClass", desc := "()Ljava/lang/Class;" } : Jvm.MethodName) ({ cls := "java/lang/Object", name := "getClass", desc := "()Ljava/lang/Class;" } : Jvm.MethodName)) ∈ lw_all := lw_g (lw_at lw_m3 46 rfl) rfl
theorem q675 : (Jvm.Cond.instanceMethod ({ cls := "SweptSnow$Valley", name := "houses", desc := "()I" } : Jvm.MethodName)) ∈ lw_all := lw_g (lw_at lw_m3 66 rfl) rfl
theorem q676 : (Jvm.Cond.selects "SweptSnow$Valley" ({ cls := "SweptSnow$Valley", name := "houses", desc := "()I" } : Jvm.MethodName) ({ cls := "SweptSnow$Valley", name := "houses", desc := "()I" } : Jvm.MethodName)) ∈ lw_all := lw_g (lw_at lw_m3 67 rfl) rfl
theorem q677 : (Jvm.Cond.code ({ cls := "SweptSnow$Valley", name := "houses", desc := "()I" } : Jvm.MethodName) prog_15_method_3_code (1 : Nat) (Option.some Jvm.ClassFile.FieldType.int)) ∈ lw_all := lw_g (lw_at lw_m3 68 rfl) rfl
theorem q937 : (Jvm.Cond.instanceMethod ({ cls := "SweptSnow$Valley", name := "neededOn", desc := "(I)I" } : Jvm.MethodName)) ∈ lw_all := lw_g (lw_at lw_m4 88 rfl) rfl
theorem q938 : (Jvm.Cond.selects "SweptSnow$Valley" ({ cls := "SweptSnow$Valley", name := "neededOn", desc := "(I)I" } : Jvm.MethodName) ({ cls := "SweptSnow$Valley", name := "neededOn", desc := "(I)I" } : Jvm.MethodName)) ∈ lw_all := lw_g (lw_at lw_m4 89 rfl) rfl
theorem q939 : (Jvm.Cond.code ({ cls := "SweptSnow$Valley", name := "neededOn", desc := "(I)I" } : Jvm.MethodName) prog_15_method_4_code (2 : Nat) (Option.some Jvm.ClassFile.FieldType.int)) ∈ lw_all := lw_g (lw_at lw_m4 90 rfl) rfl
theorem q1889 : (Jvm.Cond.castable "SweptSnow$Valley" "java/lang/Object") ∈ lw_tbl := lw_at lw_m8 80 rfl
theorem in_X1 : ∀ w ∈ wsX10, w ∈ lw_all := lw_in wsX10 [229, 231, 233, 235, 237, 239, 241] (by decide +kernel) (by decide +kernel)

/-! SweptSnow$State -/
set_option maxRecDepth 100000
def RX2 : String := "SweptSnow$State"
def TX2 : u_T := fun k => match k with
  | 0 => ("SweptSnow$State", "snow", "[I", true)
  | 1 => ("SweptSnow$State", "wall", "[I", true)
  | 2 => ("SweptSnow$State", "day", "I", false)
  | 3 => ("SweptSnow$State", "swept", "I", false)
  | 4 => ("SweptSnow$State", "before", "I", false)
  | _ => ("SweptSnow$State", "have", "I", false)
def tyX2 : Nat → FieldType := fun k => match k with
  | 0 => .array .int
  | 1 => .array .int
  | 2 => .int
  | 3 => .int
  | 4 => .int
  | _ => .int
abbrev wsX20 : List Cond := u_ws RX2 TX2 6
theorem nmX2 : ∀ a, a < 6 → ∀ b, b < 6 → a ≠ b → (TX2 a).2.1 ≠ (TX2 b).2.1 := by decide +kernel
theorem tyX2_ok : ∀ k, k < 6 → parseFieldDescriptor (TX2 k).2.2.1 = some (tyX2 k) := by decide +kernel
abbrev cX2_init : ByteArray := prog_13_method_1_code
def yX2_init : MethodName := ⟨RX2, "<init>", "()V"⟩
def dkwX2_init_0 : List UInt8 := [42, 183, 0, 3, 42, 16, 8, 188, 10, 181, 0, 9, 42, 16, 8, 188, 10, 181, 0, 15, 177]
abbrev dktX2_init_0 : List UInt8 := dkwX2_init_0 ++ []
theorem dksX2_init_0 : cX2_init.data.toList.drop 0 = dktX2_init_0 := by decide +kernel
theorem dX2_init_0 : decode cX2_init 0 = .ok (.aload_n 0, 1) := dk_42 (dk_at dksX2_init_0 0 rfl rfl)
theorem dX2_init_1 : decode cX2_init 1 = .ok (.invokespecial 3, 3) := dk_183 0 3 (dk_at dksX2_init_0 1 rfl rfl)
theorem dX2_init_4 : decode cX2_init 4 = .ok (.aload_n 0, 1) := dk_42 (dk_at dksX2_init_0 4 rfl rfl)
theorem dX2_init_5 : decode cX2_init 5 = .ok (.bipush 8, 2) := dk_16 8 (dk_at dksX2_init_0 5 rfl rfl)
theorem dX2_init_7 : decode cX2_init 7 = .ok (.newarray .int, 2) := dk_188_10 (dk_at dksX2_init_0 7 rfl rfl)
theorem dX2_init_9 : decode cX2_init 9 = .ok (.putfield 9, 3) := dk_181 0 9 (dk_at dksX2_init_0 9 rfl rfl)
theorem dX2_init_12 : decode cX2_init 12 = .ok (.aload_n 0, 1) := dk_42 (dk_at dksX2_init_0 12 rfl rfl)
theorem dX2_init_13 : decode cX2_init 13 = .ok (.bipush 8, 2) := dk_16 8 (dk_at dksX2_init_0 13 rfl rfl)
theorem dX2_init_15 : decode cX2_init 15 = .ok (.newarray .int, 2) := dk_188_10 (dk_at dksX2_init_0 15 rfl rfl)
theorem dX2_init_17 : decode cX2_init 17 = .ok (.putfield 15, 3) := dk_181 0 15 (dk_at dksX2_init_0 17 rfl rfl)
theorem dX2_init_20 : decode cX2_init 20 = .ok (.return_, 1) := dk_177 (dk_at dksX2_init_0 20 rfl rfl)
abbrev cX2_begin : ByteArray := prog_13_method_3_code
def yX2_begin : MethodName := ⟨RX2, "begin", "(LSweptSnow$Valley;)V"⟩
def dkwX2_begin_3 : List UInt8 := [181, 0, 25, 42, 3, 181, 0, 28, 177]
abbrev dktX2_begin_3 : List UInt8 := dkwX2_begin_3 ++ []
def dkwX2_begin_2 : List UInt8 := [180, 0, 51, 28, 46, 79, 132, 2, 1, 167, 255, 203, 42, 3, 181, 0, 18, 42, 3, 181, 0, 22, 42, 3]
abbrev dktX2_begin_2 : List UInt8 := dkwX2_begin_2 ++ dktX2_begin_3
def dkwX2_begin_1 : List UInt8 := [180, 0, 37, 28, 182, 0, 40, 192, 0, 46, 182, 0, 48, 167, 0, 4, 3, 79, 42, 180, 0, 15, 28, 43]
abbrev dktX2_begin_1 : List UInt8 := dkwX2_begin_1 ++ dktX2_begin_2
def dkwX2_begin_0 : List UInt8 := [3, 61, 28, 16, 8, 162, 0, 53, 42, 180, 0, 9, 28, 28, 43, 182, 0, 31, 162, 0, 20, 43]
abbrev dktX2_begin_0 : List UInt8 := dkwX2_begin_0 ++ dktX2_begin_1
theorem dksX2_begin_0 : cX2_begin.data.toList.drop 0 = dktX2_begin_0 := by decide +kernel
theorem dksX2_begin_1 : cX2_begin.data.toList.drop 22 = dktX2_begin_1 := dk_seg dksX2_begin_0 22 rfl rfl
theorem dksX2_begin_2 : cX2_begin.data.toList.drop 46 = dktX2_begin_2 := dk_seg dksX2_begin_1 24 rfl rfl
theorem dksX2_begin_3 : cX2_begin.data.toList.drop 70 = dktX2_begin_3 := dk_seg dksX2_begin_2 24 rfl rfl
theorem dX2_begin_0 : decode cX2_begin 0 = .ok (.iconst 0, 1) := dk_3 (dk_at dksX2_begin_0 0 rfl rfl)
theorem dX2_begin_1 : decode cX2_begin 1 = .ok (.istore_n 2, 1) := dk_61 (dk_at dksX2_begin_0 1 rfl rfl)
theorem dX2_begin_2 : decode cX2_begin 2 = .ok (.iload_n 2, 1) := dk_28 (dk_at dksX2_begin_0 2 rfl rfl)
theorem dX2_begin_3 : decode cX2_begin 3 = .ok (.bipush 8, 2) := dk_16 8 (dk_at dksX2_begin_0 3 rfl rfl)
theorem dX2_begin_5 : decode cX2_begin 5 = .ok (.if_icmp .ge 53, 3) := dk_162 0 53 (dk_at dksX2_begin_0 5 rfl rfl)
theorem dX2_begin_8 : decode cX2_begin 8 = .ok (.aload_n 0, 1) := dk_42 (dk_at dksX2_begin_0 8 rfl rfl)
theorem dX2_begin_9 : decode cX2_begin 9 = .ok (.getfield 9, 3) := dk_180 0 9 (dk_at dksX2_begin_0 9 rfl rfl)
theorem dX2_begin_12 : decode cX2_begin 12 = .ok (.iload_n 2, 1) := dk_28 (dk_at dksX2_begin_0 12 rfl rfl)
theorem dX2_begin_13 : decode cX2_begin 13 = .ok (.iload_n 2, 1) := dk_28 (dk_at dksX2_begin_0 13 rfl rfl)
theorem dX2_begin_14 : decode cX2_begin 14 = .ok (.aload_n 1, 1) := dk_43 (dk_at dksX2_begin_0 14 rfl rfl)
theorem dX2_begin_15 : decode cX2_begin 15 = .ok (.invokevirtual 31, 3) := dk_182 0 31 (dk_at dksX2_begin_0 15 rfl rfl)
theorem dX2_begin_18 : decode cX2_begin 18 = .ok (.if_icmp .ge 20, 3) := dk_162 0 20 (dk_at dksX2_begin_0 18 rfl rfl)
theorem dX2_begin_21 : decode cX2_begin 21 = .ok (.aload_n 1, 1) := dk_43 (dk_at dksX2_begin_0 21 rfl rfl)
theorem dX2_begin_22 : decode cX2_begin 22 = .ok (.getfield 37, 3) := dk_180 0 37 (dk_at dksX2_begin_1 0 rfl rfl)
theorem dX2_begin_25 : decode cX2_begin 25 = .ok (.iload_n 2, 1) := dk_28 (dk_at dksX2_begin_1 3 rfl rfl)
theorem dX2_begin_26 : decode cX2_begin 26 = .ok (.invokevirtual 40, 3) := dk_182 0 40 (dk_at dksX2_begin_1 4 rfl rfl)
theorem dX2_begin_29 : decode cX2_begin 29 = .ok (.checkcast 46, 3) := dk_192 0 46 (dk_at dksX2_begin_1 7 rfl rfl)
theorem dX2_begin_32 : decode cX2_begin 32 = .ok (.invokevirtual 48, 3) := dk_182 0 48 (dk_at dksX2_begin_1 10 rfl rfl)
theorem dX2_begin_35 : decode cX2_begin 35 = .ok (.goto 4, 3) := dk_167 0 4 (dk_at dksX2_begin_1 13 rfl rfl)
theorem dX2_begin_38 : decode cX2_begin 38 = .ok (.iconst 0, 1) := dk_3 (dk_at dksX2_begin_1 16 rfl rfl)
theorem dX2_begin_39 : decode cX2_begin 39 = .ok (.iastore, 1) := dk_79 (dk_at dksX2_begin_1 17 rfl rfl)
theorem dX2_begin_40 : decode cX2_begin 40 = .ok (.aload_n 0, 1) := dk_42 (dk_at dksX2_begin_1 18 rfl rfl)
theorem dX2_begin_41 : decode cX2_begin 41 = .ok (.getfield 15, 3) := dk_180 0 15 (dk_at dksX2_begin_1 19 rfl rfl)
theorem dX2_begin_44 : decode cX2_begin 44 = .ok (.iload_n 2, 1) := dk_28 (dk_at dksX2_begin_1 22 rfl rfl)
theorem dX2_begin_45 : decode cX2_begin 45 = .ok (.aload_n 1, 1) := dk_43 (dk_at dksX2_begin_1 23 rfl rfl)
theorem dX2_begin_46 : decode cX2_begin 46 = .ok (.getfield 51, 3) := dk_180 0 51 (dk_at dksX2_begin_2 0 rfl rfl)
theorem dX2_begin_49 : decode cX2_begin 49 = .ok (.iload_n 2, 1) := dk_28 (dk_at dksX2_begin_2 3 rfl rfl)
theorem dX2_begin_50 : decode cX2_begin 50 = .ok (.iaload, 1) := dk_46 (dk_at dksX2_begin_2 4 rfl rfl)
theorem dX2_begin_51 : decode cX2_begin 51 = .ok (.iastore, 1) := dk_79 (dk_at dksX2_begin_2 5 rfl rfl)
theorem dX2_begin_52 : decode cX2_begin 52 = .ok (.iinc 2 1, 3) := dk_132 2 1 (dk_at dksX2_begin_2 6 rfl rfl)
theorem dX2_begin_55 : decode cX2_begin 55 = .ok (.goto (-53), 3) := dk_167 255 203 (dk_at dksX2_begin_2 9 rfl rfl)
theorem dX2_begin_58 : decode cX2_begin 58 = .ok (.aload_n 0, 1) := dk_42 (dk_at dksX2_begin_2 12 rfl rfl)
theorem dX2_begin_59 : decode cX2_begin 59 = .ok (.iconst 0, 1) := dk_3 (dk_at dksX2_begin_2 13 rfl rfl)
theorem dX2_begin_60 : decode cX2_begin 60 = .ok (.putfield 18, 3) := dk_181 0 18 (dk_at dksX2_begin_2 14 rfl rfl)
theorem dX2_begin_63 : decode cX2_begin 63 = .ok (.aload_n 0, 1) := dk_42 (dk_at dksX2_begin_2 17 rfl rfl)
theorem dX2_begin_64 : decode cX2_begin 64 = .ok (.iconst 0, 1) := dk_3 (dk_at dksX2_begin_2 18 rfl rfl)
theorem dX2_begin_65 : decode cX2_begin 65 = .ok (.putfield 22, 3) := dk_181 0 22 (dk_at dksX2_begin_2 19 rfl rfl)
theorem dX2_begin_68 : decode cX2_begin 68 = .ok (.aload_n 0, 1) := dk_42 (dk_at dksX2_begin_2 22 rfl rfl)
theorem dX2_begin_69 : decode cX2_begin 69 = .ok (.iconst 0, 1) := dk_3 (dk_at dksX2_begin_2 23 rfl rfl)
theorem dX2_begin_70 : decode cX2_begin 70 = .ok (.putfield 25, 3) := dk_181 0 25 (dk_at dksX2_begin_3 0 rfl rfl)
theorem dX2_begin_73 : decode cX2_begin 73 = .ok (.aload_n 0, 1) := dk_42 (dk_at dksX2_begin_3 3 rfl rfl)
theorem dX2_begin_74 : decode cX2_begin 74 = .ok (.iconst 0, 1) := dk_3 (dk_at dksX2_begin_3 4 rfl rfl)
theorem dX2_begin_75 : decode cX2_begin 75 = .ok (.putfield 28, 3) := dk_181 0 28 (dk_at dksX2_begin_3 5 rfl rfl)
theorem dX2_begin_78 : decode cX2_begin 78 = .ok (.return_, 1) := dk_177 (dk_at dksX2_begin_3 8 rfl rfl)
abbrev cX2_copyFrom : ByteArray := prog_13_method_2_code
def yX2_copyFrom : MethodName := ⟨RX2, "copyFrom", "(LSweptSnow$State;)V"⟩
def dkwX2_copyFrom_2 : List UInt8 := [180, 0, 22, 181, 0, 22, 42, 43, 180, 0, 25, 181, 0, 25, 42, 43, 180, 0, 28, 181, 0, 28, 177]
abbrev dktX2_copyFrom_2 : List UInt8 := dkwX2_copyFrom_2 ++ []
def dkwX2_copyFrom_1 : List UInt8 := [28, 43, 180, 0, 15, 28, 46, 79, 132, 2, 1, 167, 255, 223, 42, 43, 180, 0, 18, 181, 0, 18, 42, 43]
abbrev dktX2_copyFrom_1 : List UInt8 := dkwX2_copyFrom_1 ++ dktX2_copyFrom_2
def dkwX2_copyFrom_0 : List UInt8 := [3, 61, 28, 16, 8, 162, 0, 33, 42, 180, 0, 9, 28, 43, 180, 0, 9, 28, 46, 79, 42, 180, 0, 15]
abbrev dktX2_copyFrom_0 : List UInt8 := dkwX2_copyFrom_0 ++ dktX2_copyFrom_1
theorem dksX2_copyFrom_0 : cX2_copyFrom.data.toList.drop 0 = dktX2_copyFrom_0 := by decide +kernel
theorem dksX2_copyFrom_1 : cX2_copyFrom.data.toList.drop 24 = dktX2_copyFrom_1 := dk_seg dksX2_copyFrom_0 24 rfl rfl
theorem dksX2_copyFrom_2 : cX2_copyFrom.data.toList.drop 48 = dktX2_copyFrom_2 := dk_seg dksX2_copyFrom_1 24 rfl rfl
theorem dX2_copyFrom_0 : decode cX2_copyFrom 0 = .ok (.iconst 0, 1) := dk_3 (dk_at dksX2_copyFrom_0 0 rfl rfl)
theorem dX2_copyFrom_1 : decode cX2_copyFrom 1 = .ok (.istore_n 2, 1) := dk_61 (dk_at dksX2_copyFrom_0 1 rfl rfl)
theorem dX2_copyFrom_2 : decode cX2_copyFrom 2 = .ok (.iload_n 2, 1) := dk_28 (dk_at dksX2_copyFrom_0 2 rfl rfl)
theorem dX2_copyFrom_3 : decode cX2_copyFrom 3 = .ok (.bipush 8, 2) := dk_16 8 (dk_at dksX2_copyFrom_0 3 rfl rfl)
theorem dX2_copyFrom_5 : decode cX2_copyFrom 5 = .ok (.if_icmp .ge 33, 3) := dk_162 0 33 (dk_at dksX2_copyFrom_0 5 rfl rfl)
theorem dX2_copyFrom_8 : decode cX2_copyFrom 8 = .ok (.aload_n 0, 1) := dk_42 (dk_at dksX2_copyFrom_0 8 rfl rfl)
theorem dX2_copyFrom_9 : decode cX2_copyFrom 9 = .ok (.getfield 9, 3) := dk_180 0 9 (dk_at dksX2_copyFrom_0 9 rfl rfl)
theorem dX2_copyFrom_12 : decode cX2_copyFrom 12 = .ok (.iload_n 2, 1) := dk_28 (dk_at dksX2_copyFrom_0 12 rfl rfl)
theorem dX2_copyFrom_13 : decode cX2_copyFrom 13 = .ok (.aload_n 1, 1) := dk_43 (dk_at dksX2_copyFrom_0 13 rfl rfl)
theorem dX2_copyFrom_14 : decode cX2_copyFrom 14 = .ok (.getfield 9, 3) := dk_180 0 9 (dk_at dksX2_copyFrom_0 14 rfl rfl)
theorem dX2_copyFrom_17 : decode cX2_copyFrom 17 = .ok (.iload_n 2, 1) := dk_28 (dk_at dksX2_copyFrom_0 17 rfl rfl)
theorem dX2_copyFrom_18 : decode cX2_copyFrom 18 = .ok (.iaload, 1) := dk_46 (dk_at dksX2_copyFrom_0 18 rfl rfl)
theorem dX2_copyFrom_19 : decode cX2_copyFrom 19 = .ok (.iastore, 1) := dk_79 (dk_at dksX2_copyFrom_0 19 rfl rfl)
theorem dX2_copyFrom_20 : decode cX2_copyFrom 20 = .ok (.aload_n 0, 1) := dk_42 (dk_at dksX2_copyFrom_0 20 rfl rfl)
theorem dX2_copyFrom_21 : decode cX2_copyFrom 21 = .ok (.getfield 15, 3) := dk_180 0 15 (dk_at dksX2_copyFrom_0 21 rfl rfl)
theorem dX2_copyFrom_24 : decode cX2_copyFrom 24 = .ok (.iload_n 2, 1) := dk_28 (dk_at dksX2_copyFrom_1 0 rfl rfl)
theorem dX2_copyFrom_25 : decode cX2_copyFrom 25 = .ok (.aload_n 1, 1) := dk_43 (dk_at dksX2_copyFrom_1 1 rfl rfl)
theorem dX2_copyFrom_26 : decode cX2_copyFrom 26 = .ok (.getfield 15, 3) := dk_180 0 15 (dk_at dksX2_copyFrom_1 2 rfl rfl)
theorem dX2_copyFrom_29 : decode cX2_copyFrom 29 = .ok (.iload_n 2, 1) := dk_28 (dk_at dksX2_copyFrom_1 5 rfl rfl)
theorem dX2_copyFrom_30 : decode cX2_copyFrom 30 = .ok (.iaload, 1) := dk_46 (dk_at dksX2_copyFrom_1 6 rfl rfl)
theorem dX2_copyFrom_31 : decode cX2_copyFrom 31 = .ok (.iastore, 1) := dk_79 (dk_at dksX2_copyFrom_1 7 rfl rfl)
theorem dX2_copyFrom_32 : decode cX2_copyFrom 32 = .ok (.iinc 2 1, 3) := dk_132 2 1 (dk_at dksX2_copyFrom_1 8 rfl rfl)
theorem dX2_copyFrom_35 : decode cX2_copyFrom 35 = .ok (.goto (-33), 3) := dk_167 255 223 (dk_at dksX2_copyFrom_1 11 rfl rfl)
theorem dX2_copyFrom_38 : decode cX2_copyFrom 38 = .ok (.aload_n 0, 1) := dk_42 (dk_at dksX2_copyFrom_1 14 rfl rfl)
theorem dX2_copyFrom_39 : decode cX2_copyFrom 39 = .ok (.aload_n 1, 1) := dk_43 (dk_at dksX2_copyFrom_1 15 rfl rfl)
theorem dX2_copyFrom_40 : decode cX2_copyFrom 40 = .ok (.getfield 18, 3) := dk_180 0 18 (dk_at dksX2_copyFrom_1 16 rfl rfl)
theorem dX2_copyFrom_43 : decode cX2_copyFrom 43 = .ok (.putfield 18, 3) := dk_181 0 18 (dk_at dksX2_copyFrom_1 19 rfl rfl)
theorem dX2_copyFrom_46 : decode cX2_copyFrom 46 = .ok (.aload_n 0, 1) := dk_42 (dk_at dksX2_copyFrom_1 22 rfl rfl)
theorem dX2_copyFrom_47 : decode cX2_copyFrom 47 = .ok (.aload_n 1, 1) := dk_43 (dk_at dksX2_copyFrom_1 23 rfl rfl)
theorem dX2_copyFrom_48 : decode cX2_copyFrom 48 = .ok (.getfield 22, 3) := dk_180 0 22 (dk_at dksX2_copyFrom_2 0 rfl rfl)
theorem dX2_copyFrom_51 : decode cX2_copyFrom 51 = .ok (.putfield 22, 3) := dk_181 0 22 (dk_at dksX2_copyFrom_2 3 rfl rfl)
theorem dX2_copyFrom_54 : decode cX2_copyFrom 54 = .ok (.aload_n 0, 1) := dk_42 (dk_at dksX2_copyFrom_2 6 rfl rfl)
theorem dX2_copyFrom_55 : decode cX2_copyFrom 55 = .ok (.aload_n 1, 1) := dk_43 (dk_at dksX2_copyFrom_2 7 rfl rfl)
theorem dX2_copyFrom_56 : decode cX2_copyFrom 56 = .ok (.getfield 25, 3) := dk_180 0 25 (dk_at dksX2_copyFrom_2 8 rfl rfl)
theorem dX2_copyFrom_59 : decode cX2_copyFrom 59 = .ok (.putfield 25, 3) := dk_181 0 25 (dk_at dksX2_copyFrom_2 11 rfl rfl)
theorem dX2_copyFrom_62 : decode cX2_copyFrom 62 = .ok (.aload_n 0, 1) := dk_42 (dk_at dksX2_copyFrom_2 14 rfl rfl)
theorem dX2_copyFrom_63 : decode cX2_copyFrom 63 = .ok (.aload_n 1, 1) := dk_43 (dk_at dksX2_copyFrom_2 15 rfl rfl)
theorem dX2_copyFrom_64 : decode cX2_copyFrom 64 = .ok (.getfield 28, 3) := dk_180 0 28 (dk_at dksX2_copyFrom_2 16 rfl rfl)
theorem dX2_copyFrom_67 : decode cX2_copyFrom 67 = .ok (.putfield 28, 3) := dk_181 0 28 (dk_at dksX2_copyFrom_2 19 rfl rfl)
theorem dX2_copyFrom_70 : decode cX2_copyFrom 70 = .ok (.return_, 1) := dk_177 (dk_at dksX2_copyFrom_2 22 rfl rfl)
abbrev cX2_closed : ByteArray := prog_13_method_5_code
def yX2_closed : MethodName := ⟨RX2, "closed", "(LSweptSnow$Valley;)I"⟩
def dkwX2_closed_1 : List UInt8 := [161, 0, 9, 4, 29, 120, 167, 0, 4, 3, 128, 61, 132, 3, 1, 167, 255, 222, 28, 172]
abbrev dktX2_closed_1 : List UInt8 := dkwX2_closed_1 ++ []
def dkwX2_closed_0 : List UInt8 := [3, 61, 3, 62, 29, 43, 182, 0, 31, 162, 0, 32, 28, 42, 180, 0, 9, 29, 46, 43, 180, 0, 60]
abbrev dktX2_closed_0 : List UInt8 := dkwX2_closed_0 ++ dktX2_closed_1
theorem dksX2_closed_0 : cX2_closed.data.toList.drop 0 = dktX2_closed_0 := by decide +kernel
theorem dksX2_closed_1 : cX2_closed.data.toList.drop 23 = dktX2_closed_1 := dk_seg dksX2_closed_0 23 rfl rfl
theorem dX2_closed_0 : decode cX2_closed 0 = .ok (.iconst 0, 1) := dk_3 (dk_at dksX2_closed_0 0 rfl rfl)
theorem dX2_closed_1 : decode cX2_closed 1 = .ok (.istore_n 2, 1) := dk_61 (dk_at dksX2_closed_0 1 rfl rfl)
theorem dX2_closed_2 : decode cX2_closed 2 = .ok (.iconst 0, 1) := dk_3 (dk_at dksX2_closed_0 2 rfl rfl)
theorem dX2_closed_3 : decode cX2_closed 3 = .ok (.istore_n 3, 1) := dk_62 (dk_at dksX2_closed_0 3 rfl rfl)
theorem dX2_closed_4 : decode cX2_closed 4 = .ok (.iload_n 3, 1) := dk_29 (dk_at dksX2_closed_0 4 rfl rfl)
theorem dX2_closed_5 : decode cX2_closed 5 = .ok (.aload_n 1, 1) := dk_43 (dk_at dksX2_closed_0 5 rfl rfl)
theorem dX2_closed_6 : decode cX2_closed 6 = .ok (.invokevirtual 31, 3) := dk_182 0 31 (dk_at dksX2_closed_0 6 rfl rfl)
theorem dX2_closed_9 : decode cX2_closed 9 = .ok (.if_icmp .ge 32, 3) := dk_162 0 32 (dk_at dksX2_closed_0 9 rfl rfl)
theorem dX2_closed_12 : decode cX2_closed 12 = .ok (.iload_n 2, 1) := dk_28 (dk_at dksX2_closed_0 12 rfl rfl)
theorem dX2_closed_13 : decode cX2_closed 13 = .ok (.aload_n 0, 1) := dk_42 (dk_at dksX2_closed_0 13 rfl rfl)
theorem dX2_closed_14 : decode cX2_closed 14 = .ok (.getfield 9, 3) := dk_180 0 9 (dk_at dksX2_closed_0 14 rfl rfl)
theorem dX2_closed_17 : decode cX2_closed 17 = .ok (.iload_n 3, 1) := dk_29 (dk_at dksX2_closed_0 17 rfl rfl)
theorem dX2_closed_18 : decode cX2_closed 18 = .ok (.iaload, 1) := dk_46 (dk_at dksX2_closed_0 18 rfl rfl)
theorem dX2_closed_19 : decode cX2_closed 19 = .ok (.aload_n 1, 1) := dk_43 (dk_at dksX2_closed_0 19 rfl rfl)
theorem dX2_closed_20 : decode cX2_closed 20 = .ok (.getfield 60, 3) := dk_180 0 60 (dk_at dksX2_closed_0 20 rfl rfl)
theorem dX2_closed_23 : decode cX2_closed 23 = .ok (.if_icmp .lt 9, 3) := dk_161 0 9 (dk_at dksX2_closed_1 0 rfl rfl)
theorem dX2_closed_26 : decode cX2_closed 26 = .ok (.iconst 1, 1) := dk_4 (dk_at dksX2_closed_1 3 rfl rfl)
theorem dX2_closed_27 : decode cX2_closed 27 = .ok (.iload_n 3, 1) := dk_29 (dk_at dksX2_closed_1 4 rfl rfl)
theorem dX2_closed_28 : decode cX2_closed 28 = .ok (.ishl, 1) := dk_120 (dk_at dksX2_closed_1 5 rfl rfl)
theorem dX2_closed_29 : decode cX2_closed 29 = .ok (.goto 4, 3) := dk_167 0 4 (dk_at dksX2_closed_1 6 rfl rfl)
theorem dX2_closed_32 : decode cX2_closed 32 = .ok (.iconst 0, 1) := dk_3 (dk_at dksX2_closed_1 9 rfl rfl)
theorem dX2_closed_33 : decode cX2_closed 33 = .ok (.ior, 1) := dk_128 (dk_at dksX2_closed_1 10 rfl rfl)
theorem dX2_closed_34 : decode cX2_closed 34 = .ok (.istore_n 2, 1) := dk_61 (dk_at dksX2_closed_1 11 rfl rfl)
theorem dX2_closed_35 : decode cX2_closed 35 = .ok (.iinc 3 1, 3) := dk_132 3 1 (dk_at dksX2_closed_1 12 rfl rfl)
theorem dX2_closed_38 : decode cX2_closed 38 = .ok (.goto (-34), 3) := dk_167 255 222 (dk_at dksX2_closed_1 15 rfl rfl)
theorem dX2_closed_41 : decode cX2_closed 41 = .ok (.iload_n 2, 1) := dk_28 (dk_at dksX2_closed_1 18 rfl rfl)
theorem dX2_closed_42 : decode cX2_closed 42 = .ok (.ireturn, 1) := dk_172 (dk_at dksX2_closed_1 19 rfl rfl)
abbrev cX2_sweeps : ByteArray := prog_13_method_7_code
def yX2_sweeps : MethodName := ⟨RX2, "sweeps", "(II)I"⟩
def dkwX2_sweeps_2 : List UInt8 := [180, 0, 22, 29, 158, 0, 9, 4, 27, 120, 167, 0, 4, 3, 128, 181, 0, 22, 29, 172]
abbrev dktX2_sweeps_2 : List UInt8 := dkwX2_sweeps_2 ++ []
def dkwX2_sweeps_1 : List UInt8 := [180, 0, 15, 27, 46, 2, 159, 0, 14, 42, 42, 180, 0, 15, 27, 46, 29, 182, 0, 63, 42, 89]
abbrev dktX2_sweeps_1 : List UInt8 := dkwX2_sweeps_1 ++ dktX2_sweeps_2
def dkwX2_sweeps_0 : List UInt8 := [42, 180, 0, 9, 27, 46, 28, 184, 0, 54, 62, 42, 180, 0, 9, 27, 92, 46, 29, 100, 79, 42]
abbrev dktX2_sweeps_0 : List UInt8 := dkwX2_sweeps_0 ++ dktX2_sweeps_1
theorem dksX2_sweeps_0 : cX2_sweeps.data.toList.drop 0 = dktX2_sweeps_0 := by decide +kernel
theorem dksX2_sweeps_1 : cX2_sweeps.data.toList.drop 22 = dktX2_sweeps_1 := dk_seg dksX2_sweeps_0 22 rfl rfl
theorem dksX2_sweeps_2 : cX2_sweeps.data.toList.drop 44 = dktX2_sweeps_2 := dk_seg dksX2_sweeps_1 22 rfl rfl
theorem dX2_sweeps_0 : decode cX2_sweeps 0 = .ok (.aload_n 0, 1) := dk_42 (dk_at dksX2_sweeps_0 0 rfl rfl)
theorem dX2_sweeps_1 : decode cX2_sweeps 1 = .ok (.getfield 9, 3) := dk_180 0 9 (dk_at dksX2_sweeps_0 1 rfl rfl)
theorem dX2_sweeps_4 : decode cX2_sweeps 4 = .ok (.iload_n 1, 1) := dk_27 (dk_at dksX2_sweeps_0 4 rfl rfl)
theorem dX2_sweeps_5 : decode cX2_sweeps 5 = .ok (.iaload, 1) := dk_46 (dk_at dksX2_sweeps_0 5 rfl rfl)
theorem dX2_sweeps_6 : decode cX2_sweeps 6 = .ok (.iload_n 2, 1) := dk_28 (dk_at dksX2_sweeps_0 6 rfl rfl)
theorem dX2_sweeps_7 : decode cX2_sweeps 7 = .ok (.invokestatic 54, 3) := dk_184 0 54 (dk_at dksX2_sweeps_0 7 rfl rfl)
theorem dX2_sweeps_10 : decode cX2_sweeps 10 = .ok (.istore_n 3, 1) := dk_62 (dk_at dksX2_sweeps_0 10 rfl rfl)
theorem dX2_sweeps_11 : decode cX2_sweeps 11 = .ok (.aload_n 0, 1) := dk_42 (dk_at dksX2_sweeps_0 11 rfl rfl)
theorem dX2_sweeps_12 : decode cX2_sweeps 12 = .ok (.getfield 9, 3) := dk_180 0 9 (dk_at dksX2_sweeps_0 12 rfl rfl)
theorem dX2_sweeps_15 : decode cX2_sweeps 15 = .ok (.iload_n 1, 1) := dk_27 (dk_at dksX2_sweeps_0 15 rfl rfl)
theorem dX2_sweeps_16 : decode cX2_sweeps 16 = .ok (.dup2, 1) := dk_92 (dk_at dksX2_sweeps_0 16 rfl rfl)
theorem dX2_sweeps_17 : decode cX2_sweeps 17 = .ok (.iaload, 1) := dk_46 (dk_at dksX2_sweeps_0 17 rfl rfl)
theorem dX2_sweeps_18 : decode cX2_sweeps 18 = .ok (.iload_n 3, 1) := dk_29 (dk_at dksX2_sweeps_0 18 rfl rfl)
theorem dX2_sweeps_19 : decode cX2_sweeps 19 = .ok (.isub, 1) := dk_100 (dk_at dksX2_sweeps_0 19 rfl rfl)
theorem dX2_sweeps_20 : decode cX2_sweeps 20 = .ok (.iastore, 1) := dk_79 (dk_at dksX2_sweeps_0 20 rfl rfl)
theorem dX2_sweeps_21 : decode cX2_sweeps 21 = .ok (.aload_n 0, 1) := dk_42 (dk_at dksX2_sweeps_0 21 rfl rfl)
theorem dX2_sweeps_22 : decode cX2_sweeps 22 = .ok (.getfield 15, 3) := dk_180 0 15 (dk_at dksX2_sweeps_1 0 rfl rfl)
theorem dX2_sweeps_25 : decode cX2_sweeps 25 = .ok (.iload_n 1, 1) := dk_27 (dk_at dksX2_sweeps_1 3 rfl rfl)
theorem dX2_sweeps_26 : decode cX2_sweeps 26 = .ok (.iaload, 1) := dk_46 (dk_at dksX2_sweeps_1 4 rfl rfl)
theorem dX2_sweeps_27 : decode cX2_sweeps 27 = .ok (.iconst (-1), 1) := dk_2 (dk_at dksX2_sweeps_1 5 rfl rfl)
theorem dX2_sweeps_28 : decode cX2_sweeps 28 = .ok (.if_icmp .eq 14, 3) := dk_159 0 14 (dk_at dksX2_sweeps_1 6 rfl rfl)
theorem dX2_sweeps_31 : decode cX2_sweeps 31 = .ok (.aload_n 0, 1) := dk_42 (dk_at dksX2_sweeps_1 9 rfl rfl)
theorem dX2_sweeps_32 : decode cX2_sweeps 32 = .ok (.aload_n 0, 1) := dk_42 (dk_at dksX2_sweeps_1 10 rfl rfl)
theorem dX2_sweeps_33 : decode cX2_sweeps 33 = .ok (.getfield 15, 3) := dk_180 0 15 (dk_at dksX2_sweeps_1 11 rfl rfl)
theorem dX2_sweeps_36 : decode cX2_sweeps 36 = .ok (.iload_n 1, 1) := dk_27 (dk_at dksX2_sweeps_1 14 rfl rfl)
theorem dX2_sweeps_37 : decode cX2_sweeps 37 = .ok (.iaload, 1) := dk_46 (dk_at dksX2_sweeps_1 15 rfl rfl)
theorem dX2_sweeps_38 : decode cX2_sweeps 38 = .ok (.iload_n 3, 1) := dk_29 (dk_at dksX2_sweeps_1 16 rfl rfl)
theorem dX2_sweeps_39 : decode cX2_sweeps 39 = .ok (.invokevirtual 63, 3) := dk_182 0 63 (dk_at dksX2_sweeps_1 17 rfl rfl)
theorem dX2_sweeps_42 : decode cX2_sweeps 42 = .ok (.aload_n 0, 1) := dk_42 (dk_at dksX2_sweeps_1 20 rfl rfl)
theorem dX2_sweeps_43 : decode cX2_sweeps 43 = .ok (.dup, 1) := dk_89 (dk_at dksX2_sweeps_1 21 rfl rfl)
theorem dX2_sweeps_44 : decode cX2_sweeps 44 = .ok (.getfield 22, 3) := dk_180 0 22 (dk_at dksX2_sweeps_2 0 rfl rfl)
theorem dX2_sweeps_47 : decode cX2_sweeps 47 = .ok (.iload_n 3, 1) := dk_29 (dk_at dksX2_sweeps_2 3 rfl rfl)
theorem dX2_sweeps_48 : decode cX2_sweeps 48 = .ok (.ifCond .le 9, 3) := dk_158 0 9 (dk_at dksX2_sweeps_2 4 rfl rfl)
theorem dX2_sweeps_51 : decode cX2_sweeps 51 = .ok (.iconst 1, 1) := dk_4 (dk_at dksX2_sweeps_2 7 rfl rfl)
theorem dX2_sweeps_52 : decode cX2_sweeps 52 = .ok (.iload_n 1, 1) := dk_27 (dk_at dksX2_sweeps_2 8 rfl rfl)
theorem dX2_sweeps_53 : decode cX2_sweeps 53 = .ok (.ishl, 1) := dk_120 (dk_at dksX2_sweeps_2 9 rfl rfl)
theorem dX2_sweeps_54 : decode cX2_sweeps 54 = .ok (.goto 4, 3) := dk_167 0 4 (dk_at dksX2_sweeps_2 10 rfl rfl)
theorem dX2_sweeps_57 : decode cX2_sweeps 57 = .ok (.iconst 0, 1) := dk_3 (dk_at dksX2_sweeps_2 13 rfl rfl)
theorem dX2_sweeps_58 : decode cX2_sweeps 58 = .ok (.ior, 1) := dk_128 (dk_at dksX2_sweeps_2 14 rfl rfl)
theorem dX2_sweeps_59 : decode cX2_sweeps 59 = .ok (.putfield 22, 3) := dk_181 0 22 (dk_at dksX2_sweeps_2 15 rfl rfl)
theorem dX2_sweeps_62 : decode cX2_sweeps 62 = .ok (.iload_n 3, 1) := dk_29 (dk_at dksX2_sweeps_2 18 rfl rfl)
theorem dX2_sweeps_63 : decode cX2_sweeps 63 = .ok (.ireturn, 1) := dk_172 (dk_at dksX2_sweeps_2 19 rfl rfl)
abbrev cX2_comes : ByteArray := prog_13_method_4_code
def yX2_comes : MethodName := ⟨RX2, "comes", "(II)V"⟩
def dkwX2_comes_0 : List UInt8 := [42, 180, 0, 9, 27, 17, 3, 231, 42, 180, 0, 9, 27, 46, 28, 96, 184, 0, 54, 79, 177]
abbrev dktX2_comes_0 : List UInt8 := dkwX2_comes_0 ++ []
theorem dksX2_comes_0 : cX2_comes.data.toList.drop 0 = dktX2_comes_0 := by decide +kernel
theorem dX2_comes_0 : decode cX2_comes 0 = .ok (.aload_n 0, 1) := dk_42 (dk_at dksX2_comes_0 0 rfl rfl)
theorem dX2_comes_1 : decode cX2_comes 1 = .ok (.getfield 9, 3) := dk_180 0 9 (dk_at dksX2_comes_0 1 rfl rfl)
theorem dX2_comes_4 : decode cX2_comes 4 = .ok (.iload_n 1, 1) := dk_27 (dk_at dksX2_comes_0 4 rfl rfl)
theorem dX2_comes_5 : decode cX2_comes 5 = .ok (.sipush 999, 3) := dk_17 3 231 (dk_at dksX2_comes_0 5 rfl rfl)
theorem dX2_comes_8 : decode cX2_comes 8 = .ok (.aload_n 0, 1) := dk_42 (dk_at dksX2_comes_0 8 rfl rfl)
theorem dX2_comes_9 : decode cX2_comes 9 = .ok (.getfield 9, 3) := dk_180 0 9 (dk_at dksX2_comes_0 9 rfl rfl)
theorem dX2_comes_12 : decode cX2_comes 12 = .ok (.iload_n 1, 1) := dk_27 (dk_at dksX2_comes_0 12 rfl rfl)
theorem dX2_comes_13 : decode cX2_comes 13 = .ok (.iaload, 1) := dk_46 (dk_at dksX2_comes_0 13 rfl rfl)
theorem dX2_comes_14 : decode cX2_comes 14 = .ok (.iload_n 2, 1) := dk_28 (dk_at dksX2_comes_0 14 rfl rfl)
theorem dX2_comes_15 : decode cX2_comes 15 = .ok (.iadd, 1) := dk_96 (dk_at dksX2_comes_0 15 rfl rfl)
theorem dX2_comes_16 : decode cX2_comes 16 = .ok (.invokestatic 54, 3) := dk_184 0 54 (dk_at dksX2_comes_0 16 rfl rfl)
theorem dX2_comes_19 : decode cX2_comes 19 = .ok (.iastore, 1) := dk_79 (dk_at dksX2_comes_0 19 rfl rfl)
theorem dX2_comes_20 : decode cX2_comes 20 = .ok (.return_, 1) := dk_177 (dk_at dksX2_comes_0 20 rfl rfl)
abbrev cX2_night : ByteArray := prog_13_method_8_code
def yX2_night : MethodName := ⟨RX2, "night", "(LSweptSnow$Valley;)I"⟩
def dkwX2_night_2 : List UInt8 := [42, 3, 181, 0, 28, 42, 89, 180, 0, 18, 4, 96, 181, 0, 18, 28, 172]
abbrev dktX2_night_2 : List UInt8 := dkwX2_night_2 ++ []
def dkwX2_night_1 : List UInt8 := [29, 43, 180, 0, 71, 182, 0, 63, 132, 3, 1, 167, 255, 228, 42, 28, 181, 0, 25, 42, 3, 181, 0, 22]
abbrev dktX2_night_1 : List UInt8 := dkwX2_night_1 ++ dktX2_night_2
def dkwX2_night_0 : List UInt8 := [42, 180, 0, 22, 61, 3, 62, 29, 43, 182, 0, 31, 162, 0, 26, 28, 29, 184, 0, 67, 153, 0, 12, 42]
abbrev dktX2_night_0 : List UInt8 := dkwX2_night_0 ++ dktX2_night_1
theorem dksX2_night_0 : cX2_night.data.toList.drop 0 = dktX2_night_0 := by decide +kernel
theorem dksX2_night_1 : cX2_night.data.toList.drop 24 = dktX2_night_1 := dk_seg dksX2_night_0 24 rfl rfl
theorem dksX2_night_2 : cX2_night.data.toList.drop 48 = dktX2_night_2 := dk_seg dksX2_night_1 24 rfl rfl
theorem dX2_night_0 : decode cX2_night 0 = .ok (.aload_n 0, 1) := dk_42 (dk_at dksX2_night_0 0 rfl rfl)
theorem dX2_night_1 : decode cX2_night 1 = .ok (.getfield 22, 3) := dk_180 0 22 (dk_at dksX2_night_0 1 rfl rfl)
theorem dX2_night_4 : decode cX2_night 4 = .ok (.istore_n 2, 1) := dk_61 (dk_at dksX2_night_0 4 rfl rfl)
theorem dX2_night_5 : decode cX2_night 5 = .ok (.iconst 0, 1) := dk_3 (dk_at dksX2_night_0 5 rfl rfl)
theorem dX2_night_6 : decode cX2_night 6 = .ok (.istore_n 3, 1) := dk_62 (dk_at dksX2_night_0 6 rfl rfl)
theorem dX2_night_7 : decode cX2_night 7 = .ok (.iload_n 3, 1) := dk_29 (dk_at dksX2_night_0 7 rfl rfl)
theorem dX2_night_8 : decode cX2_night 8 = .ok (.aload_n 1, 1) := dk_43 (dk_at dksX2_night_0 8 rfl rfl)
theorem dX2_night_9 : decode cX2_night 9 = .ok (.invokevirtual 31, 3) := dk_182 0 31 (dk_at dksX2_night_0 9 rfl rfl)
theorem dX2_night_12 : decode cX2_night 12 = .ok (.if_icmp .ge 26, 3) := dk_162 0 26 (dk_at dksX2_night_0 12 rfl rfl)
theorem dX2_night_15 : decode cX2_night 15 = .ok (.iload_n 2, 1) := dk_28 (dk_at dksX2_night_0 15 rfl rfl)
theorem dX2_night_16 : decode cX2_night 16 = .ok (.iload_n 3, 1) := dk_29 (dk_at dksX2_night_0 16 rfl rfl)
theorem dX2_night_17 : decode cX2_night 17 = .ok (.invokestatic 67, 3) := dk_184 0 67 (dk_at dksX2_night_0 17 rfl rfl)
theorem dX2_night_20 : decode cX2_night 20 = .ok (.ifCond .eq 12, 3) := dk_153 0 12 (dk_at dksX2_night_0 20 rfl rfl)
theorem dX2_night_23 : decode cX2_night 23 = .ok (.aload_n 0, 1) := dk_42 (dk_at dksX2_night_0 23 rfl rfl)
theorem dX2_night_24 : decode cX2_night 24 = .ok (.iload_n 3, 1) := dk_29 (dk_at dksX2_night_1 0 rfl rfl)
theorem dX2_night_25 : decode cX2_night 25 = .ok (.aload_n 1, 1) := dk_43 (dk_at dksX2_night_1 1 rfl rfl)
theorem dX2_night_26 : decode cX2_night 26 = .ok (.getfield 71, 3) := dk_180 0 71 (dk_at dksX2_night_1 2 rfl rfl)
theorem dX2_night_29 : decode cX2_night 29 = .ok (.invokevirtual 63, 3) := dk_182 0 63 (dk_at dksX2_night_1 5 rfl rfl)
theorem dX2_night_32 : decode cX2_night 32 = .ok (.iinc 3 1, 3) := dk_132 3 1 (dk_at dksX2_night_1 8 rfl rfl)
theorem dX2_night_35 : decode cX2_night 35 = .ok (.goto (-28), 3) := dk_167 255 228 (dk_at dksX2_night_1 11 rfl rfl)
theorem dX2_night_38 : decode cX2_night 38 = .ok (.aload_n 0, 1) := dk_42 (dk_at dksX2_night_1 14 rfl rfl)
theorem dX2_night_39 : decode cX2_night 39 = .ok (.iload_n 2, 1) := dk_28 (dk_at dksX2_night_1 15 rfl rfl)
theorem dX2_night_40 : decode cX2_night 40 = .ok (.putfield 25, 3) := dk_181 0 25 (dk_at dksX2_night_1 16 rfl rfl)
theorem dX2_night_43 : decode cX2_night 43 = .ok (.aload_n 0, 1) := dk_42 (dk_at dksX2_night_1 19 rfl rfl)
theorem dX2_night_44 : decode cX2_night 44 = .ok (.iconst 0, 1) := dk_3 (dk_at dksX2_night_1 20 rfl rfl)
theorem dX2_night_45 : decode cX2_night 45 = .ok (.putfield 22, 3) := dk_181 0 22 (dk_at dksX2_night_1 21 rfl rfl)
theorem dX2_night_48 : decode cX2_night 48 = .ok (.aload_n 0, 1) := dk_42 (dk_at dksX2_night_2 0 rfl rfl)
theorem dX2_night_49 : decode cX2_night 49 = .ok (.iconst 0, 1) := dk_3 (dk_at dksX2_night_2 1 rfl rfl)
theorem dX2_night_50 : decode cX2_night 50 = .ok (.putfield 28, 3) := dk_181 0 28 (dk_at dksX2_night_2 2 rfl rfl)
theorem dX2_night_53 : decode cX2_night 53 = .ok (.aload_n 0, 1) := dk_42 (dk_at dksX2_night_2 5 rfl rfl)
theorem dX2_night_54 : decode cX2_night 54 = .ok (.dup, 1) := dk_89 (dk_at dksX2_night_2 6 rfl rfl)
theorem dX2_night_55 : decode cX2_night 55 = .ok (.getfield 18, 3) := dk_180 0 18 (dk_at dksX2_night_2 7 rfl rfl)
theorem dX2_night_58 : decode cX2_night 58 = .ok (.iconst 1, 1) := dk_4 (dk_at dksX2_night_2 10 rfl rfl)
theorem dX2_night_59 : decode cX2_night 59 = .ok (.iadd, 1) := dk_96 (dk_at dksX2_night_2 11 rfl rfl)
theorem dX2_night_60 : decode cX2_night 60 = .ok (.putfield 18, 3) := dk_181 0 18 (dk_at dksX2_night_2 12 rfl rfl)
theorem dX2_night_63 : decode cX2_night 63 = .ok (.iload_n 2, 1) := dk_28 (dk_at dksX2_night_2 15 rfl rfl)
theorem dX2_night_64 : decode cX2_night 64 = .ok (.ireturn, 1) := dk_172 (dk_at dksX2_night_2 16 rfl rfl)
abbrev cX2_all : ByteArray := prog_13_method_6_code
def yX2_all : MethodName := ⟨RX2, "all", "()I"⟩
def dkwX2_all_1 : List UInt8 := [167, 255, 238, 27, 172]
abbrev dktX2_all_1 : List UInt8 := dkwX2_all_1 ++ []
def dkwX2_all_0 : List UInt8 := [3, 60, 3, 61, 28, 16, 8, 162, 0, 18, 27, 42, 180, 0, 9, 28, 46, 96, 60, 132, 2, 1]
abbrev dktX2_all_0 : List UInt8 := dkwX2_all_0 ++ dktX2_all_1
theorem dksX2_all_0 : cX2_all.data.toList.drop 0 = dktX2_all_0 := by decide +kernel
theorem dksX2_all_1 : cX2_all.data.toList.drop 22 = dktX2_all_1 := dk_seg dksX2_all_0 22 rfl rfl
theorem dX2_all_0 : decode cX2_all 0 = .ok (.iconst 0, 1) := dk_3 (dk_at dksX2_all_0 0 rfl rfl)
theorem dX2_all_1 : decode cX2_all 1 = .ok (.istore_n 1, 1) := dk_60 (dk_at dksX2_all_0 1 rfl rfl)
theorem dX2_all_2 : decode cX2_all 2 = .ok (.iconst 0, 1) := dk_3 (dk_at dksX2_all_0 2 rfl rfl)
theorem dX2_all_3 : decode cX2_all 3 = .ok (.istore_n 2, 1) := dk_61 (dk_at dksX2_all_0 3 rfl rfl)
theorem dX2_all_4 : decode cX2_all 4 = .ok (.iload_n 2, 1) := dk_28 (dk_at dksX2_all_0 4 rfl rfl)
theorem dX2_all_5 : decode cX2_all 5 = .ok (.bipush 8, 2) := dk_16 8 (dk_at dksX2_all_0 5 rfl rfl)
theorem dX2_all_7 : decode cX2_all 7 = .ok (.if_icmp .ge 18, 3) := dk_162 0 18 (dk_at dksX2_all_0 7 rfl rfl)
theorem dX2_all_10 : decode cX2_all 10 = .ok (.iload_n 1, 1) := dk_27 (dk_at dksX2_all_0 10 rfl rfl)
theorem dX2_all_11 : decode cX2_all 11 = .ok (.aload_n 0, 1) := dk_42 (dk_at dksX2_all_0 11 rfl rfl)
theorem dX2_all_12 : decode cX2_all 12 = .ok (.getfield 9, 3) := dk_180 0 9 (dk_at dksX2_all_0 12 rfl rfl)
theorem dX2_all_15 : decode cX2_all 15 = .ok (.iload_n 2, 1) := dk_28 (dk_at dksX2_all_0 15 rfl rfl)
theorem dX2_all_16 : decode cX2_all 16 = .ok (.iaload, 1) := dk_46 (dk_at dksX2_all_0 16 rfl rfl)
theorem dX2_all_17 : decode cX2_all 17 = .ok (.iadd, 1) := dk_96 (dk_at dksX2_all_0 17 rfl rfl)
theorem dX2_all_18 : decode cX2_all 18 = .ok (.istore_n 1, 1) := dk_60 (dk_at dksX2_all_0 18 rfl rfl)
theorem dX2_all_19 : decode cX2_all 19 = .ok (.iinc 2 1, 3) := dk_132 2 1 (dk_at dksX2_all_0 19 rfl rfl)
theorem dX2_all_22 : decode cX2_all 22 = .ok (.goto (-18), 3) := dk_167 255 238 (dk_at dksX2_all_1 0 rfl rfl)
theorem dX2_all_25 : decode cX2_all 25 = .ok (.iload_n 1, 1) := dk_27 (dk_at dksX2_all_1 3 rfl rfl)
theorem dX2_all_26 : decode cX2_all 26 = .ok (.ireturn, 1) := dk_172 (dk_at dksX2_all_1 4 rfl rfl)
theorem q135 : (Jvm.Cond.initialized "SweptSnow$State") ∈ lw_all := lw_g (lw_at lw_m1 6 rfl) rfl
theorem q212 : (Jvm.Cond.fieldLinkNest "SweptSnow$State" (37 : Nat) "SweptSnow$Valley" "steps" "Ljava/util/ArrayList;" "SweptSnow") ∈ lw_tbl := lw_at lw_m1 83 rfl
theorem q218 : (Jvm.Cond.fieldLinkNest "SweptSnow$State" (51 : Nat) "SweptSnow$Valley" "walls" "[I" "SweptSnow") ∈ lw_tbl := lw_at lw_m1 89 rfl
theorem q224 : (Jvm.Cond.fieldLinkNest "SweptSnow$State" (71 : Nat) "SweptSnow$Valley" "fall" "I" "SweptSnow") ∈ lw_tbl := lw_at lw_m1 95 rfl
theorem q226 : (Jvm.Cond.fieldLinkNest "SweptSnow$State" (60 : Nat) "SweptSnow$Valley" "deep" "I" "SweptSnow") ∈ lw_tbl := lw_at lw_m1 97 rfl
theorem q246 : (Jvm.Cond.instantiable "SweptSnow$State" (6 : Nat)) ∈ lw_all := lw_g (lw_at lw_m1 117 rfl) rfl
theorem q248 : (Jvm.Cond.instanceMethod ({ cls := "SweptSnow$State", name := "<init>", desc := "()V" } : Jvm.MethodName)) ∈ lw_all := lw_g (lw_at lw_m1 119 rfl) rfl
theorem q249 : (Jvm.Cond.code ({ cls := "SweptSnow$State", name := "<init>", desc := "()V" } : Jvm.MethodName) prog_13_method_1_code (1 : Nat) (Option.none : Option Jvm.ClassFile.FieldType)) ∈ lw_all := lw_g (lw_at lw_m1 120 rfl) rfl
theorem q250 : (Jvm.Cond.methodLink "SweptSnow$State" (3 : Nat) ({ cls := "java/lang/Object", name := "<init>", desc := "()V" } : Jvm.MethodName)) ∈ lw_all := lw_g (lw_at lw_m1 121 rfl) rfl
theorem q251 : (Jvm.Cond.fieldLink "SweptSnow$State" (9 : Nat) "SweptSnow$State" "snow" "[I") ∈ lw_all := lw_g (lw_at lw_m1 122 rfl) rfl
theorem q253 : (Jvm.Cond.fieldLink "SweptSnow$State" (15 : Nat) "SweptSnow$State" "wall" "[I") ∈ lw_all := lw_g (lw_at lw_m1 124 rfl) rfl
theorem q255 : (Jvm.Cond.fieldLink "SweptSnow$State" (18 : Nat) "SweptSnow$State" "day" "I") ∈ lw_all := lw_g (lw_at lw_m1 126 rfl) rfl
theorem q257 : (Jvm.Cond.fieldLink "SweptSnow$State" (22 : Nat) "SweptSnow$State" "swept" "I") ∈ lw_all := lw_g (lw_at lw_m1 128 rfl) rfl
theorem q259 : (Jvm.Cond.fieldLink "SweptSnow$State" (25 : Nat) "SweptSnow$State" "before" "I") ∈ lw_all := lw_g (lw_at lw_m1 130 rfl) rfl
theorem q261 : (Jvm.Cond.fieldLink "SweptSnow$State" (28 : Nat) "SweptSnow$State" "have" "I") ∈ lw_all := lw_g (lw_at lw_m1 132 rfl) rfl
theorem q263 : (Jvm.Cond.laysFinal "SweptSnow$State" "SweptSnow$State" "snow" "[I") ∈ lw_all := lw_g (lw_at lw_m1 134 rfl) rfl
theorem q264 : (Jvm.Cond.soleField "SweptSnow$State" "snow") ∈ lw_all := lw_g (lw_at lw_m1 135 rfl) rfl
theorem q265 : (Jvm.Cond.laysFinal "SweptSnow$State" "SweptSnow$State" "wall" "[I") ∈ lw_all := lw_g (lw_at lw_m1 136 rfl) rfl
theorem q266 : (Jvm.Cond.soleField "SweptSnow$State" "wall") ∈ lw_all := lw_g (lw_at lw_m1 137 rfl) rfl
theorem q267 : (Jvm.Cond.lays "SweptSnow$State" "SweptSnow$State" "day" "I") ∈ lw_all := lw_g (lw_at lw_m1 138 rfl) rfl
theorem q268 : (Jvm.Cond.soleField "SweptSnow$State" "day") ∈ lw_all := lw_g (lw_at lw_m1 139 rfl) rfl
theorem q269 : (Jvm.Cond.lays "SweptSnow$State" "SweptSnow$State" "swept" "I") ∈ lw_all := lw_g (lw_at lw_m1 140 rfl) rfl
theorem q270 : (Jvm.Cond.soleField "SweptSnow$State" "swept") ∈ lw_all := lw_g (lw_at lw_m1 141 rfl) rfl
theorem q271 : (Jvm.Cond.lays "SweptSnow$State" "SweptSnow$State" "before" "I") ∈ lw_all := lw_g (lw_at lw_m1 142 rfl) rfl
theorem q272 : (Jvm.Cond.soleField "SweptSnow$State" "before") ∈ lw_all := lw_g (lw_at lw_m1 143 rfl) rfl
theorem q273 : (Jvm.Cond.lays "SweptSnow$State" "SweptSnow$State" "have" "I") ∈ lw_all := lw_g (lw_at lw_m1 144 rfl) rfl
theorem q274 : (Jvm.Cond.soleField "SweptSnow$State" "have") ∈ lw_all := lw_g (lw_at lw_m1 145 rfl) rfl
theorem q275 : (Jvm.Cond.superclass "SweptSnow$State" "java/lang/Object") ∈ lw_all := lw_g (lw_at lw_m1 146 rfl) rfl
theorem q653 : (Jvm.Cond.selects "SweptSnow$State" ({ cls := "java/lang/Object", name := "getClass", desc := "()Ljava/lang/Class;" } : Jvm.MethodName) ({ cls := "java/lang/Object", name := "getClass", desc := "()Ljava/lang/Class;" } : Jvm.MethodName)) ∈ lw_all := lw_g (lw_at lw_m3 44 rfl) rfl
theorem q724 : (Jvm.Cond.instanceMethod ({ cls := "SweptSnow$State", name := "begin", desc := "(LSweptSnow$Valley;)V" } : Jvm.MethodName)) ∈ lw_all := lw_g (lw_at lw_m3 115 rfl) rfl
theorem q725 : (Jvm.Cond.selects "SweptSnow$State" ({ cls := "SweptSnow$State", name := "begin", desc := "(LSweptSnow$Valley;)V" } : Jvm.MethodName) ({ cls := "SweptSnow$State", name := "begin", desc := "(LSweptSnow$Valley;)V" } : Jvm.MethodName)) ∈ lw_all := lw_g (lw_at lw_m3 116 rfl) rfl
theorem q726 : (Jvm.Cond.code ({ cls := "SweptSnow$State", name := "begin", desc := "(LSweptSnow$Valley;)V" } : Jvm.MethodName) prog_13_method_3_code (3 : Nat) (Option.none : Option Jvm.ClassFile.FieldType)) ∈ lw_all := lw_g (lw_at lw_m3 117 rfl) rfl
theorem q727 : (Jvm.Cond.methodLink "SweptSnow$State" (31 : Nat) ({ cls := "SweptSnow$Valley", name := "steps", desc := "()I" } : Jvm.MethodName)) ∈ lw_all := lw_g (lw_at lw_m3 118 rfl) rfl
theorem q728 : (Jvm.Cond.methodLink "SweptSnow$State" (40 : Nat) ({ cls := "java/util/ArrayList", name := "get", desc := "(I)Ljava/lang/Object;" } : Jvm.MethodName)) ∈ lw_all := lw_g (lw_at lw_m3 119 rfl) rfl
theorem q740 : (Jvm.Cond.classLink "SweptSnow$State" (46 : Nat) "java/lang/Integer") ∈ lw_all := lw_g (lw_at lw_m3 131 rfl) rfl
theorem q741 : (Jvm.Cond.methodLink "SweptSnow$State" (48 : Nat) ({ cls := "java/lang/Integer", name := "intValue", desc := "()I" } : Jvm.MethodName)) ∈ lw_all := lw_g (lw_at lw_m3 132 rfl) rfl
theorem q956 : (Jvm.Cond.instanceMethod ({ cls := "SweptSnow$State", name := "copyFrom", desc := "(LSweptSnow$State;)V" } : Jvm.MethodName)) ∈ lw_all := lw_g (lw_at lw_m4 107 rfl) rfl
theorem q957 : (Jvm.Cond.selects "SweptSnow$State" ({ cls := "SweptSnow$State", name := "copyFrom", desc := "(LSweptSnow$State;)V" } : Jvm.MethodName) ({ cls := "SweptSnow$State", name := "copyFrom", desc := "(LSweptSnow$State;)V" } : Jvm.MethodName)) ∈ lw_all := lw_g (lw_at lw_m4 108 rfl) rfl
theorem q958 : (Jvm.Cond.code ({ cls := "SweptSnow$State", name := "copyFrom", desc := "(LSweptSnow$State;)V" } : Jvm.MethodName) prog_13_method_2_code (3 : Nat) (Option.none : Option Jvm.ClassFile.FieldType)) ∈ lw_all := lw_g (lw_at lw_m4 109 rfl) rfl
theorem q989 : (Jvm.Cond.instanceMethod ({ cls := "SweptSnow$State", name := "closed", desc := "(LSweptSnow$Valley;)I" } : Jvm.MethodName)) ∈ lw_all := lw_g (lw_at lw_m4 140 rfl) rfl
theorem q990 : (Jvm.Cond.selects "SweptSnow$State" ({ cls := "SweptSnow$State", name := "closed", desc := "(LSweptSnow$Valley;)I" } : Jvm.MethodName) ({ cls := "SweptSnow$State", name := "closed", desc := "(LSweptSnow$Valley;)I" } : Jvm.MethodName)) ∈ lw_all := lw_g (lw_at lw_m4 141 rfl) rfl
theorem q991 : (Jvm.Cond.code ({ cls := "SweptSnow$State", name := "closed", desc := "(LSweptSnow$Valley;)I" } : Jvm.MethodName) prog_13_method_5_code (4 : Nat) (Option.some Jvm.ClassFile.FieldType.int)) ∈ lw_all := lw_g (lw_at lw_m4 142 rfl) rfl
theorem q1047 : (Jvm.Cond.instanceMethod ({ cls := "SweptSnow$State", name := "sweeps", desc := "(II)I" } : Jvm.MethodName)) ∈ lw_all := lw_g (lw_at lw_m4 198 rfl) rfl
theorem q1048 : (Jvm.Cond.selects "SweptSnow$State" ({ cls := "SweptSnow$State", name := "sweeps", desc := "(II)I" } : Jvm.MethodName) ({ cls := "SweptSnow$State", name := "sweeps", desc := "(II)I" } : Jvm.MethodName)) ∈ lw_all := lw_g (lw_at lw_m4 199 rfl) rfl
theorem q1049 : (Jvm.Cond.code ({ cls := "SweptSnow$State", name := "sweeps", desc := "(II)I" } : Jvm.MethodName) prog_13_method_7_code (4 : Nat) (Option.some Jvm.ClassFile.FieldType.int)) ∈ lw_all := lw_g (lw_at lw_m4 200 rfl) rfl
theorem q1050 : (Jvm.Cond.methodLink "SweptSnow$State" (54 : Nat) ({ cls := "java/lang/Math", name := "min", desc := "(II)I" } : Jvm.MethodName)) ∈ lw_all := lw_g (lw_at lw_m4 201 rfl) rfl
theorem q1051 : (Jvm.Cond.methodLink "SweptSnow$State" (63 : Nat) ({ cls := "SweptSnow$State", name := "comes", desc := "(II)V" } : Jvm.MethodName)) ∈ lw_all := lw_g (lw_at lw_m4 202 rfl) rfl
theorem q1052 : (Jvm.Cond.instanceMethod ({ cls := "SweptSnow$State", name := "comes", desc := "(II)V" } : Jvm.MethodName)) ∈ lw_all := lw_g (lw_at lw_m4 203 rfl) rfl
theorem q1053 : (Jvm.Cond.selects "SweptSnow$State" ({ cls := "SweptSnow$State", name := "comes", desc := "(II)V" } : Jvm.MethodName) ({ cls := "SweptSnow$State", name := "comes", desc := "(II)V" } : Jvm.MethodName)) ∈ lw_all := lw_g (lw_at lw_m4 204 rfl) rfl
theorem q1054 : (Jvm.Cond.code ({ cls := "SweptSnow$State", name := "comes", desc := "(II)V" } : Jvm.MethodName) prog_13_method_4_code (3 : Nat) (Option.none : Option Jvm.ClassFile.FieldType)) ∈ lw_all := lw_g (lw_at lw_m4 205 rfl) rfl
theorem q1056 : (Jvm.Cond.instanceMethod ({ cls := "SweptSnow$State", name := "night", desc := "(LSweptSnow$Valley;)I" } : Jvm.MethodName)) ∈ lw_all := lw_g (lw_at lw_m4 207 rfl) rfl
theorem q1057 : (Jvm.Cond.selects "SweptSnow$State" ({ cls := "SweptSnow$State", name := "night", desc := "(LSweptSnow$Valley;)I" } : Jvm.MethodName) ({ cls := "SweptSnow$State", name := "night", desc := "(LSweptSnow$Valley;)I" } : Jvm.MethodName)) ∈ lw_all := lw_g (lw_at lw_m4 208 rfl) rfl
theorem q1058 : (Jvm.Cond.code ({ cls := "SweptSnow$State", name := "night", desc := "(LSweptSnow$Valley;)I" } : Jvm.MethodName) prog_13_method_8_code (4 : Nat) (Option.some Jvm.ClassFile.FieldType.int)) ∈ lw_all := lw_g (lw_at lw_m4 209 rfl) rfl
theorem q1059 : (Jvm.Cond.methodLinkNest "SweptSnow$State" (67 : Nat) ({ cls := "SweptSnow", name := "has", desc := "(II)Z" } : Jvm.MethodName) "SweptSnow") ∈ lw_tbl := lw_at lw_m4 210 rfl
theorem q1079 : (Jvm.Cond.instanceMethod ({ cls := "SweptSnow$State", name := "all", desc := "()I" } : Jvm.MethodName)) ∈ lw_all := lw_g (lw_at lw_m4 230 rfl) rfl
theorem q1080 : (Jvm.Cond.selects "SweptSnow$State" ({ cls := "SweptSnow$State", name := "all", desc := "()I" } : Jvm.MethodName) ({ cls := "SweptSnow$State", name := "all", desc := "()I" } : Jvm.MethodName)) ∈ lw_all := lw_g (lw_at lw_m4 231 rfl) rfl
theorem q1081 : (Jvm.Cond.code ({ cls := "SweptSnow$State", name := "all", desc := "()I" } : Jvm.MethodName) prog_13_method_6_code (3 : Nat) (Option.some Jvm.ClassFile.FieldType.int)) ∈ lw_all := lw_g (lw_at lw_m4 232 rfl) rfl
theorem q1885 : (Jvm.Cond.castable "SweptSnow$State" "java/lang/Object") ∈ lw_tbl := lw_at lw_m8 76 rfl
theorem in_X2 : ∀ w ∈ wsX20, w ∈ lw_all := lw_in wsX20 [263, 265, 267, 269, 271, 273] (by decide +kernel) (by decide +kernel)

/-! SweptSnow$Wrong -/
set_option maxRecDepth 100000
def RX3 : String := "SweptSnow$Wrong"
def TX3 : u_T := fun k => match k with
  | 0 => ("java/lang/Throwable", "cause", "Ljava/lang/Throwable;", false)
  | 1 => ("java/lang/Throwable", "stackTrace", "[Ljava/lang/StackTraceElement;", false)
  | 2 => ("java/lang/Throwable", "suppressedExceptions", "Ljava/util/List;", false)
  | 3 => ("java/lang/Throwable", "detailMessage", "Ljava/lang/String;", false)
  | 4 => ("java/lang/Throwable", "backtrace", "Ljava/lang/Object;", false)
  | 5 => ("java/lang/Throwable", "depth", "I", false)
  | _ => ("SweptSnow$Wrong", "number", "I", false)
def tyX3 : Nat → FieldType := fun k => match k with
  | 0 => .object "java/lang/Throwable"
  | 1 => .array (.object "java/lang/StackTraceElement")
  | 2 => .object "java/util/List"
  | 3 => .object "java/lang/String"
  | 4 => .object "java/lang/Object"
  | 5 => .int
  | _ => .int
abbrev wsX30 : List Cond := u_ws RX3 TX3 7
theorem nmX3 : ∀ a, a < 7 → ∀ b, b < 7 → a ≠ b → (TX3 a).2.1 ≠ (TX3 b).2.1 := by decide +kernel
theorem tyX3_ok : ∀ k, k < 7 → parseFieldDescriptor (TX3 k).2.2.1 = some (tyX3 k) := by decide +kernel
abbrev cX3_init : ByteArray := prog_17_method_1_code
def yX3_init : MethodName := ⟨RX3, "<init>", "()V"⟩
theorem dX3_init_0 : decode cX3_init 0 = .ok (.aload_n 0, 1) := by decide +kernel
theorem dX3_init_1 : decode cX3_init 1 = .ok (.invokespecial 1, 3) := by decide +kernel
theorem dX3_init_4 : decode cX3_init 4 = .ok (.return_, 1) := by decide +kernel
theorem q138 : (Jvm.Cond.initialized "SweptSnow$Wrong") ∈ lw_all := lw_g (lw_at lw_m1 9 rfl) rfl
theorem q279 : (Jvm.Cond.instantiable "SweptSnow$Wrong" (7 : Nat)) ∈ lw_all := lw_g (lw_at lw_m1 150 rfl) rfl
theorem q280 : (Jvm.Cond.castable "SweptSnow$Wrong" "SweptSnow$Wrong") ∈ lw_tbl := lw_at lw_m1 151 rfl
theorem q285 : (Jvm.Cond.selects "SweptSnow$Wrong" ({ cls := "java/lang/Throwable", name := "fillInStackTrace", desc := "(I)Ljava/lang/Throwable;" } : Jvm.MethodName) ({ cls := "java/lang/Throwable", name := "fillInStackTrace", desc := "(I)Ljava/lang/Throwable;" } : Jvm.MethodName)) ∈ lw_all := lw_g (lw_at lw_m1 156 rfl) rfl
theorem q286 : (Jvm.Cond.selects "SweptSnow$Wrong" ({ cls := "java/lang/Throwable", name := "fillInStackTrace", desc := "()Ljava/lang/Throwable;" } : Jvm.MethodName) ({ cls := "java/lang/Throwable", name := "fillInStackTrace", desc := "()Ljava/lang/Throwable;" } : Jvm.MethodName)) ∈ lw_all := lw_g (lw_at lw_m1 157 rfl) rfl
theorem q287 : (Jvm.Cond.lays "SweptSnow$Wrong" "java/lang/Throwable" "cause" "Ljava/lang/Throwable;") ∈ lw_all := lw_g (lw_at lw_m1 158 rfl) rfl
theorem q289 : (Jvm.Cond.lays "SweptSnow$Wrong" "java/lang/Throwable" "stackTrace" "[Ljava/lang/StackTraceElement;") ∈ lw_all := lw_g (lw_at lw_m1 160 rfl) rfl
theorem q291 : (Jvm.Cond.lays "SweptSnow$Wrong" "java/lang/Throwable" "suppressedExceptions" "Ljava/util/List;") ∈ lw_all := lw_g (lw_at lw_m1 162 rfl) rfl
theorem q293 : (Jvm.Cond.lays "SweptSnow$Wrong" "java/lang/Throwable" "detailMessage" "Ljava/lang/String;") ∈ lw_all := lw_g (lw_at lw_m1 164 rfl) rfl
theorem q295 : (Jvm.Cond.lays "SweptSnow$Wrong" "java/lang/Throwable" "backtrace" "Ljava/lang/Object;") ∈ lw_all := lw_g (lw_at lw_m1 166 rfl) rfl
theorem q316 : (Jvm.Cond.instanceMethod ({ cls := "SweptSnow$Wrong", name := "<init>", desc := "()V" } : Jvm.MethodName)) ∈ lw_all := lw_g (lw_at lw_m1 187 rfl) rfl
theorem q317 : (Jvm.Cond.code ({ cls := "SweptSnow$Wrong", name := "<init>", desc := "()V" } : Jvm.MethodName) prog_17_method_1_code (1 : Nat) (Option.none : Option Jvm.ClassFile.FieldType)) ∈ lw_all := lw_g (lw_at lw_m1 188 rfl) rfl
theorem q318 : (Jvm.Cond.methodLink "SweptSnow$Wrong" (1 : Nat) ({ cls := "java/lang/Exception", name := "<init>", desc := "()V" } : Jvm.MethodName)) ∈ lw_all := lw_g (lw_at lw_m1 189 rfl) rfl
theorem q327 : (Jvm.Cond.lays "SweptSnow$Wrong" "SweptSnow$Wrong" "number" "I") ∈ lw_all := lw_g (lw_at lw_m1 198 rfl) rfl
theorem q328 : (Jvm.Cond.soleField "SweptSnow$Wrong" "number") ∈ lw_all := lw_g (lw_at lw_m1 199 rfl) rfl
theorem q333 : (Jvm.Cond.lays "SweptSnow$Wrong" "java/lang/Throwable" "depth" "I") ∈ lw_all := lw_g (lw_at lw_m1 204 rfl) rfl
theorem q336 : (Jvm.Cond.superclass "SweptSnow$Wrong" "java/lang/Exception") ∈ lw_all := lw_g (lw_at lw_m1 207 rfl) rfl
theorem q656 : (Jvm.Cond.selects "SweptSnow$Wrong" ({ cls := "java/lang/Object", name := "getClass", desc := "()Ljava/lang/Class;" } : Jvm.MethodName) ({ cls := "java/lang/Object", name := "getClass", desc := "()Ljava/lang/Class;" } : Jvm.MethodName)) ∈ lw_all := lw_g (lw_at lw_m3 47 rfl) rfl
theorem q1891 : (Jvm.Cond.castable "SweptSnow$Wrong" "java/lang/Object") ∈ lw_tbl := lw_at lw_m8 82 rfl
theorem in_X3 : ∀ w ∈ wsX30, w ∈ lw_all := lw_in wsX30 [287, 289, 291, 293, 295, 333, 327] (by decide +kernel) (by decide +kernel)

/-! SweptSnow$House -/
set_option maxRecDepth 100000
def RX6 : String := "SweptSnow$House"
def TX6 : u_T := fun k => match k with
  | 0 => ("SweptSnow$House", "step", "I", true)
  | _ => ("SweptSnow$House", "strength", "I", true)
def tyX6 : Nat → FieldType := fun k => match k with
  | 0 => .int
  | _ => .int
abbrev wsX60 : List Cond := u_ws RX6 TX6 2
theorem nmX6 : ∀ a, a < 2 → ∀ b, b < 2 → a ≠ b → (TX6 a).2.1 ≠ (TX6 b).2.1 := by decide +kernel
theorem tyX6_ok : ∀ k, k < 2 → parseFieldDescriptor (TX6 k).2.2.1 = some (tyX6 k) := by decide +kernel
abbrev cX6_init : ByteArray := prog_6_method_1_code
def yX6_init : MethodName := ⟨RX6, "<init>", "(II)V"⟩
def dkwX6_init_0 : List UInt8 := [42, 183, 0, 1, 42, 27, 181, 0, 7, 42, 28, 181, 0, 13, 177]
abbrev dktX6_init_0 : List UInt8 := dkwX6_init_0 ++ []
theorem dksX6_init_0 : cX6_init.data.toList.drop 0 = dktX6_init_0 := by decide +kernel
theorem dX6_init_0 : decode cX6_init 0 = .ok (.aload_n 0, 1) := dk_42 (dk_at dksX6_init_0 0 rfl rfl)
theorem dX6_init_1 : decode cX6_init 1 = .ok (.invokespecial 1, 3) := dk_183 0 1 (dk_at dksX6_init_0 1 rfl rfl)
theorem dX6_init_4 : decode cX6_init 4 = .ok (.aload_n 0, 1) := dk_42 (dk_at dksX6_init_0 4 rfl rfl)
theorem dX6_init_5 : decode cX6_init 5 = .ok (.iload_n 1, 1) := dk_27 (dk_at dksX6_init_0 5 rfl rfl)
theorem dX6_init_6 : decode cX6_init 6 = .ok (.putfield 7, 3) := dk_181 0 7 (dk_at dksX6_init_0 6 rfl rfl)
theorem dX6_init_9 : decode cX6_init 9 = .ok (.aload_n 0, 1) := dk_42 (dk_at dksX6_init_0 9 rfl rfl)
theorem dX6_init_10 : decode cX6_init 10 = .ok (.iload_n 2, 1) := dk_28 (dk_at dksX6_init_0 10 rfl rfl)
theorem dX6_init_11 : decode cX6_init 11 = .ok (.putfield 13, 3) := dk_181 0 13 (dk_at dksX6_init_0 11 rfl rfl)
theorem dX6_init_14 : decode cX6_init 14 = .ok (.return_, 1) := dk_177 (dk_at dksX6_init_0 14 rfl rfl)
theorem q153 : (Jvm.Cond.initialized "SweptSnow$House") ∈ lw_all := lw_g (lw_at lw_m1 24 rfl) rfl
theorem q646 : (Jvm.Cond.selects "SweptSnow$House" ({ cls := "java/lang/Object", name := "getClass", desc := "()Ljava/lang/Class;" } : Jvm.MethodName) ({ cls := "java/lang/Object", name := "getClass", desc := "()Ljava/lang/Class;" } : Jvm.MethodName)) ∈ lw_all := lw_g (lw_at lw_m3 37 rfl) rfl
theorem q683 : (Jvm.Cond.instantiable "SweptSnow$House" (2 : Nat)) ∈ lw_all := lw_g (lw_at lw_m3 74 rfl) rfl
theorem q685 : (Jvm.Cond.instanceMethod ({ cls := "SweptSnow$House", name := "<init>", desc := "(II)V" } : Jvm.MethodName)) ∈ lw_all := lw_g (lw_at lw_m3 76 rfl) rfl
theorem q686 : (Jvm.Cond.code ({ cls := "SweptSnow$House", name := "<init>", desc := "(II)V" } : Jvm.MethodName) prog_6_method_1_code (3 : Nat) (Option.none : Option Jvm.ClassFile.FieldType)) ∈ lw_all := lw_g (lw_at lw_m3 77 rfl) rfl
theorem q687 : (Jvm.Cond.methodLink "SweptSnow$House" (1 : Nat) ({ cls := "java/lang/Record", name := "<init>", desc := "()V" } : Jvm.MethodName)) ∈ lw_all := lw_g (lw_at lw_m3 78 rfl) rfl
theorem q691 : (Jvm.Cond.fieldLink "SweptSnow$House" (7 : Nat) "SweptSnow$House" "step" "I") ∈ lw_all := lw_g (lw_at lw_m3 82 rfl) rfl
theorem q693 : (Jvm.Cond.fieldLink "SweptSnow$House" (13 : Nat) "SweptSnow$House" "strength" "I") ∈ lw_all := lw_g (lw_at lw_m3 84 rfl) rfl
theorem q695 : (Jvm.Cond.laysFinal "SweptSnow$House" "SweptSnow$House" "step" "I") ∈ lw_all := lw_g (lw_at lw_m3 86 rfl) rfl
theorem q696 : (Jvm.Cond.soleField "SweptSnow$House" "step") ∈ lw_all := lw_g (lw_at lw_m3 87 rfl) rfl
theorem q697 : (Jvm.Cond.laysFinal "SweptSnow$House" "SweptSnow$House" "strength" "I") ∈ lw_all := lw_g (lw_at lw_m3 88 rfl) rfl
theorem q698 : (Jvm.Cond.soleField "SweptSnow$House" "strength") ∈ lw_all := lw_g (lw_at lw_m3 89 rfl) rfl
theorem q699 : (Jvm.Cond.superclass "SweptSnow$House" "java/lang/Record") ∈ lw_all := lw_g (lw_at lw_m3 90 rfl) rfl
theorem q1895 : (Jvm.Cond.castable "SweptSnow$House" "java/lang/Object") ∈ lw_tbl := lw_at lw_m8 86 rfl
theorem in_X6 : ∀ w ∈ wsX60, w ∈ lw_all := lw_in wsX60 [695, 697] (by decide +kernel) (by decide +kernel)

/-! SweptSnow$Rule -/
set_option maxRecDepth 100000
def RX7 : String := "SweptSnow$Rule"
def TX7 : u_T := fun k => match k with
  | _ => ("SweptSnow$Rule", "all", "Ljava/util/ArrayList;", true)
def tyX7 : Nat → FieldType := fun k => match k with
  | _ => .object "java/util/ArrayList"
abbrev wsX70 : List Cond := u_ws RX7 TX7 1
theorem nmX7 : ∀ a, a < 1 → ∀ b, b < 1 → a ≠ b → (TX7 a).2.1 ≠ (TX7 b).2.1 := by decide +kernel
theorem tyX7_ok : ∀ k, k < 1 → parseFieldDescriptor (TX7 k).2.2.1 = some (tyX7 k) := by decide +kernel
abbrev cX7_init : ByteArray := prog_12_method_1_code
def yX7_init : MethodName := ⟨RX7, "<init>", "()V"⟩
def dkwX7_init_0 : List UInt8 := [42, 183, 0, 1, 42, 187, 0, 7, 89, 5, 183, 0, 9, 181, 0, 12, 177]
abbrev dktX7_init_0 : List UInt8 := dkwX7_init_0 ++ []
theorem dksX7_init_0 : cX7_init.data.toList.drop 0 = dktX7_init_0 := by decide +kernel
theorem dX7_init_0 : decode cX7_init 0 = .ok (.aload_n 0, 1) := dk_42 (dk_at dksX7_init_0 0 rfl rfl)
theorem dX7_init_1 : decode cX7_init 1 = .ok (.invokespecial 1, 3) := dk_183 0 1 (dk_at dksX7_init_0 1 rfl rfl)
theorem dX7_init_4 : decode cX7_init 4 = .ok (.aload_n 0, 1) := dk_42 (dk_at dksX7_init_0 4 rfl rfl)
theorem dX7_init_5 : decode cX7_init 5 = .ok (.new 7, 3) := dk_187 0 7 (dk_at dksX7_init_0 5 rfl rfl)
theorem dX7_init_8 : decode cX7_init 8 = .ok (.dup, 1) := dk_89 (dk_at dksX7_init_0 8 rfl rfl)
theorem dX7_init_9 : decode cX7_init 9 = .ok (.iconst 2, 1) := dk_5 (dk_at dksX7_init_0 9 rfl rfl)
theorem dX7_init_10 : decode cX7_init 10 = .ok (.invokespecial 9, 3) := dk_183 0 9 (dk_at dksX7_init_0 10 rfl rfl)
theorem dX7_init_13 : decode cX7_init 13 = .ok (.putfield 12, 3) := dk_181 0 12 (dk_at dksX7_init_0 13 rfl rfl)
theorem dX7_init_16 : decode cX7_init 16 = .ok (.return_, 1) := dk_177 (dk_at dksX7_init_0 16 rfl rfl)
abbrev cX7_wants : ByteArray := prog_12_method_2_code
def yX7_wants : MethodName := ⟨RX7, "wants", "([J)J"⟩
def dkwX7_wants_2 : List UInt8 := [182, 0, 36, 173, 132, 2, 1, 167, 255, 205, 9, 173]
abbrev dktX7_wants_2 : List UInt8 := dkwX7_wants_2 ++ []
def dkwX7_wants_1 : List UInt8 := [43, 182, 0, 28, 153, 0, 22, 42, 180, 0, 12, 28, 182, 0, 22, 192, 0, 26, 180, 0, 32, 43]
abbrev dktX7_wants_1 : List UInt8 := dkwX7_wants_1 ++ dktX7_wants_2
def dkwX7_wants_0 : List UInt8 := [3, 61, 28, 42, 180, 0, 12, 182, 0, 18, 162, 0, 46, 42, 180, 0, 12, 28, 182, 0, 22, 192, 0, 26]
abbrev dktX7_wants_0 : List UInt8 := dkwX7_wants_0 ++ dktX7_wants_1
theorem dksX7_wants_0 : cX7_wants.data.toList.drop 0 = dktX7_wants_0 := by decide +kernel
theorem dksX7_wants_1 : cX7_wants.data.toList.drop 24 = dktX7_wants_1 := dk_seg dksX7_wants_0 24 rfl rfl
theorem dksX7_wants_2 : cX7_wants.data.toList.drop 46 = dktX7_wants_2 := dk_seg dksX7_wants_1 22 rfl rfl
theorem dX7_wants_0 : decode cX7_wants 0 = .ok (.iconst 0, 1) := dk_3 (dk_at dksX7_wants_0 0 rfl rfl)
theorem dX7_wants_1 : decode cX7_wants 1 = .ok (.istore_n 2, 1) := dk_61 (dk_at dksX7_wants_0 1 rfl rfl)
theorem dX7_wants_2 : decode cX7_wants 2 = .ok (.iload_n 2, 1) := dk_28 (dk_at dksX7_wants_0 2 rfl rfl)
theorem dX7_wants_3 : decode cX7_wants 3 = .ok (.aload_n 0, 1) := dk_42 (dk_at dksX7_wants_0 3 rfl rfl)
theorem dX7_wants_4 : decode cX7_wants 4 = .ok (.getfield 12, 3) := dk_180 0 12 (dk_at dksX7_wants_0 4 rfl rfl)
theorem dX7_wants_7 : decode cX7_wants 7 = .ok (.invokevirtual 18, 3) := dk_182 0 18 (dk_at dksX7_wants_0 7 rfl rfl)
theorem dX7_wants_10 : decode cX7_wants 10 = .ok (.if_icmp .ge 46, 3) := dk_162 0 46 (dk_at dksX7_wants_0 10 rfl rfl)
theorem dX7_wants_13 : decode cX7_wants 13 = .ok (.aload_n 0, 1) := dk_42 (dk_at dksX7_wants_0 13 rfl rfl)
theorem dX7_wants_14 : decode cX7_wants 14 = .ok (.getfield 12, 3) := dk_180 0 12 (dk_at dksX7_wants_0 14 rfl rfl)
theorem dX7_wants_17 : decode cX7_wants 17 = .ok (.iload_n 2, 1) := dk_28 (dk_at dksX7_wants_0 17 rfl rfl)
theorem dX7_wants_18 : decode cX7_wants 18 = .ok (.invokevirtual 22, 3) := dk_182 0 22 (dk_at dksX7_wants_0 18 rfl rfl)
theorem dX7_wants_21 : decode cX7_wants 21 = .ok (.checkcast 26, 3) := dk_192 0 26 (dk_at dksX7_wants_0 21 rfl rfl)
theorem dX7_wants_24 : decode cX7_wants 24 = .ok (.aload_n 1, 1) := dk_43 (dk_at dksX7_wants_1 0 rfl rfl)
theorem dX7_wants_25 : decode cX7_wants 25 = .ok (.invokevirtual 28, 3) := dk_182 0 28 (dk_at dksX7_wants_1 1 rfl rfl)
theorem dX7_wants_28 : decode cX7_wants 28 = .ok (.ifCond .eq 22, 3) := dk_153 0 22 (dk_at dksX7_wants_1 4 rfl rfl)
theorem dX7_wants_31 : decode cX7_wants 31 = .ok (.aload_n 0, 1) := dk_42 (dk_at dksX7_wants_1 7 rfl rfl)
theorem dX7_wants_32 : decode cX7_wants 32 = .ok (.getfield 12, 3) := dk_180 0 12 (dk_at dksX7_wants_1 8 rfl rfl)
theorem dX7_wants_35 : decode cX7_wants 35 = .ok (.iload_n 2, 1) := dk_28 (dk_at dksX7_wants_1 11 rfl rfl)
theorem dX7_wants_36 : decode cX7_wants 36 = .ok (.invokevirtual 22, 3) := dk_182 0 22 (dk_at dksX7_wants_1 12 rfl rfl)
theorem dX7_wants_39 : decode cX7_wants 39 = .ok (.checkcast 26, 3) := dk_192 0 26 (dk_at dksX7_wants_1 15 rfl rfl)
theorem dX7_wants_42 : decode cX7_wants 42 = .ok (.getfield 32, 3) := dk_180 0 32 (dk_at dksX7_wants_1 18 rfl rfl)
theorem dX7_wants_45 : decode cX7_wants 45 = .ok (.aload_n 1, 1) := dk_43 (dk_at dksX7_wants_1 21 rfl rfl)
theorem dX7_wants_46 : decode cX7_wants 46 = .ok (.invokevirtual 36, 3) := dk_182 0 36 (dk_at dksX7_wants_2 0 rfl rfl)
theorem dX7_wants_49 : decode cX7_wants 49 = .ok (.lreturn, 1) := dk_173 (dk_at dksX7_wants_2 3 rfl rfl)
theorem dX7_wants_50 : decode cX7_wants 50 = .ok (.iinc 2 1, 3) := dk_132 2 1 (dk_at dksX7_wants_2 4 rfl rfl)
theorem dX7_wants_53 : decode cX7_wants 53 = .ok (.goto (-51), 3) := dk_167 255 205 (dk_at dksX7_wants_2 7 rfl rfl)
theorem dX7_wants_56 : decode cX7_wants 56 = .ok (.lconst 0, 1) := dk_9 (dk_at dksX7_wants_2 10 rfl rfl)
theorem dX7_wants_57 : decode cX7_wants 57 = .ok (.lreturn, 1) := dk_173 (dk_at dksX7_wants_2 11 rfl rfl)
theorem q155 : (Jvm.Cond.initialized "SweptSnow$Rule") ∈ lw_all := lw_g (lw_at lw_m1 26 rfl) rfl
theorem q652 : (Jvm.Cond.selects "SweptSnow$Rule" ({ cls := "java/lang/Object", name := "getClass", desc := "()Ljava/lang/Class;" } : Jvm.MethodName) ({ cls := "java/lang/Object", name := "getClass", desc := "()Ljava/lang/Class;" } : Jvm.MethodName)) ∈ lw_all := lw_g (lw_at lw_m3 43 rfl) rfl
theorem q756 : (Jvm.Cond.instantiable "SweptSnow$Rule" (1 : Nat)) ∈ lw_all := lw_g (lw_at lw_m3 147 rfl) rfl
theorem q758 : (Jvm.Cond.instanceMethod ({ cls := "SweptSnow$Rule", name := "<init>", desc := "()V" } : Jvm.MethodName)) ∈ lw_all := lw_g (lw_at lw_m3 149 rfl) rfl
theorem q759 : (Jvm.Cond.code ({ cls := "SweptSnow$Rule", name := "<init>", desc := "()V" } : Jvm.MethodName) prog_12_method_1_code (1 : Nat) (Option.none : Option Jvm.ClassFile.FieldType)) ∈ lw_all := lw_g (lw_at lw_m3 150 rfl) rfl
theorem q760 : (Jvm.Cond.methodLink "SweptSnow$Rule" (1 : Nat) ({ cls := "java/lang/Object", name := "<init>", desc := "()V" } : Jvm.MethodName)) ∈ lw_all := lw_g (lw_at lw_m3 151 rfl) rfl
theorem q761 : (Jvm.Cond.classLink "SweptSnow$Rule" (7 : Nat) "java/util/ArrayList") ∈ lw_all := lw_g (lw_at lw_m3 152 rfl) rfl
theorem q762 : (Jvm.Cond.methodLink "SweptSnow$Rule" (9 : Nat) ({ cls := "java/util/ArrayList", name := "<init>", desc := "(I)V" } : Jvm.MethodName)) ∈ lw_all := lw_g (lw_at lw_m3 153 rfl) rfl
theorem q763 : (Jvm.Cond.fieldLink "SweptSnow$Rule" (12 : Nat) "SweptSnow$Rule" "all" "Ljava/util/ArrayList;") ∈ lw_all := lw_g (lw_at lw_m3 154 rfl) rfl
theorem q765 : (Jvm.Cond.laysFinal "SweptSnow$Rule" "SweptSnow$Rule" "all" "Ljava/util/ArrayList;") ∈ lw_all := lw_g (lw_at lw_m3 156 rfl) rfl
theorem q766 : (Jvm.Cond.soleField "SweptSnow$Rule" "all") ∈ lw_all := lw_g (lw_at lw_m3 157 rfl) rfl
theorem q767 : (Jvm.Cond.superclass "SweptSnow$Rule" "java/lang/Object") ∈ lw_all := lw_g (lw_at lw_m3 158 rfl) rfl
theorem q908 : (Jvm.Cond.fieldLinkNest "SweptSnow$Rule" (32 : Nat) "SweptSnow$Told" "sum" "LSweptSnow$Value;" "SweptSnow") ∈ lw_tbl := lw_at lw_m4 59 rfl
theorem q1004 : (Jvm.Cond.instanceMethod ({ cls := "SweptSnow$Rule", name := "wants", desc := "([J)J" } : Jvm.MethodName)) ∈ lw_all := lw_g (lw_at lw_m4 155 rfl) rfl
theorem q1005 : (Jvm.Cond.selects "SweptSnow$Rule" ({ cls := "SweptSnow$Rule", name := "wants", desc := "([J)J" } : Jvm.MethodName) ({ cls := "SweptSnow$Rule", name := "wants", desc := "([J)J" } : Jvm.MethodName)) ∈ lw_all := lw_g (lw_at lw_m4 156 rfl) rfl
theorem q1006 : (Jvm.Cond.code ({ cls := "SweptSnow$Rule", name := "wants", desc := "([J)J" } : Jvm.MethodName) prog_12_method_2_code (3 : Nat) (Option.some Jvm.ClassFile.FieldType.long)) ∈ lw_all := lw_g (lw_at lw_m4 157 rfl) rfl
theorem q1007 : (Jvm.Cond.methodLink "SweptSnow$Rule" (18 : Nat) ({ cls := "java/util/ArrayList", name := "size", desc := "()I" } : Jvm.MethodName)) ∈ lw_all := lw_g (lw_at lw_m4 158 rfl) rfl
theorem q1008 : (Jvm.Cond.methodLink "SweptSnow$Rule" (22 : Nat) ({ cls := "java/util/ArrayList", name := "get", desc := "(I)Ljava/lang/Object;" } : Jvm.MethodName)) ∈ lw_all := lw_g (lw_at lw_m4 159 rfl) rfl
theorem q1009 : (Jvm.Cond.classLink "SweptSnow$Rule" (26 : Nat) "SweptSnow$Told") ∈ lw_all := lw_g (lw_at lw_m4 160 rfl) rfl
theorem q1010 : (Jvm.Cond.methodLink "SweptSnow$Rule" (28 : Nat) ({ cls := "SweptSnow$Told", name := "holds", desc := "([J)Z" } : Jvm.MethodName)) ∈ lw_all := lw_g (lw_at lw_m4 161 rfl) rfl
theorem q1041 : (Jvm.Cond.methodLink "SweptSnow$Rule" (36 : Nat) ({ cls := "SweptSnow$Value", name := "of", desc := "([J)J" } : Jvm.MethodName)) ∈ lw_all := lw_g (lw_at lw_m4 192 rfl) rfl
theorem q1896 : (Jvm.Cond.castable "SweptSnow$Rule" "java/lang/Object") ∈ lw_tbl := lw_at lw_m8 87 rfl
theorem in_X7 : ∀ w ∈ wsX70, w ∈ lw_all := lw_in wsX70 [765] (by decide +kernel) (by decide +kernel)

/-! SweptSnow$Value -/
set_option maxRecDepth 100000
def RX8 : String := "SweptSnow$Value"
abbrev cX8_init : ByteArray := prog_16_method_1_code
def yX8_init : MethodName := ⟨RX8, "<init>", "()V"⟩
theorem dX8_init_0 : decode cX8_init 0 = .ok (.aload_n 0, 1) := by decide +kernel
theorem dX8_init_1 : decode cX8_init 1 = .ok (.invokespecial 1, 3) := by decide +kernel
theorem dX8_init_4 : decode cX8_init 4 = .ok (.return_, 1) := by decide +kernel
theorem q156 : (Jvm.Cond.initialized "SweptSnow$Value") ∈ lw_all := lw_g (lw_at lw_m1 27 rfl) rfl
theorem q792 : (Jvm.Cond.instanceMethod ({ cls := "SweptSnow$Value", name := "<init>", desc := "()V" } : Jvm.MethodName)) ∈ lw_all := lw_g (lw_at lw_m3 183 rfl) rfl
theorem q793 : (Jvm.Cond.code ({ cls := "SweptSnow$Value", name := "<init>", desc := "()V" } : Jvm.MethodName) prog_16_method_1_code (1 : Nat) (Option.none : Option Jvm.ClassFile.FieldType)) ∈ lw_all := lw_g (lw_at lw_m3 184 rfl) rfl
theorem q794 : (Jvm.Cond.methodLink "SweptSnow$Value" (1 : Nat) ({ cls := "java/lang/Object", name := "<init>", desc := "()V" } : Jvm.MethodName)) ∈ lw_all := lw_g (lw_at lw_m3 185 rfl) rfl
theorem q1024 : (Jvm.Cond.declares ({ cls := "SweptSnow$Value", name := "of", desc := "([J)J" } : Jvm.MethodName)) ∈ lw_tbl := lw_at lw_m4 175 rfl
theorem q1025 : (Jvm.Cond.sameMethod "SweptSnow$Value" "SweptSnow$Value" "of" "([J)J") ∈ lw_all := lw_g (lw_at lw_m4 176 rfl) rfl

/-! SweptSnow$Plain -/
set_option maxRecDepth 100000
def RX9 : String := "SweptSnow$Plain"
def TX9 : u_T := fun k => match k with
  | _ => ("SweptSnow$Plain", "number", "I", true)
def tyX9 : Nat → FieldType := fun k => match k with
  | _ => .int
abbrev wsX90 : List Cond := u_ws RX9 TX9 1
theorem nmX9 : ∀ a, a < 1 → ∀ b, b < 1 → a ≠ b → (TX9 a).2.1 ≠ (TX9 b).2.1 := by decide +kernel
theorem tyX9_ok : ∀ k, k < 1 → parseFieldDescriptor (TX9 k).2.2.1 = some (tyX9 k) := by decide +kernel
abbrev cX9_init : ByteArray := prog_11_method_1_code
def yX9_init : MethodName := ⟨RX9, "<init>", "(I)V"⟩
def dkwX9_init_0 : List UInt8 := [42, 183, 0, 1, 42, 27, 181, 0, 7, 177]
abbrev dktX9_init_0 : List UInt8 := dkwX9_init_0 ++ []
theorem dksX9_init_0 : cX9_init.data.toList.drop 0 = dktX9_init_0 := by decide +kernel
theorem dX9_init_0 : decode cX9_init 0 = .ok (.aload_n 0, 1) := dk_42 (dk_at dksX9_init_0 0 rfl rfl)
theorem dX9_init_1 : decode cX9_init 1 = .ok (.invokespecial 1, 3) := dk_183 0 1 (dk_at dksX9_init_0 1 rfl rfl)
theorem dX9_init_4 : decode cX9_init 4 = .ok (.aload_n 0, 1) := dk_42 (dk_at dksX9_init_0 4 rfl rfl)
theorem dX9_init_5 : decode cX9_init 5 = .ok (.iload_n 1, 1) := dk_27 (dk_at dksX9_init_0 5 rfl rfl)
theorem dX9_init_6 : decode cX9_init 6 = .ok (.putfield 7, 3) := dk_181 0 7 (dk_at dksX9_init_0 6 rfl rfl)
theorem dX9_init_9 : decode cX9_init 9 = .ok (.return_, 1) := dk_177 (dk_at dksX9_init_0 9 rfl rfl)
abbrev cX9_of : ByteArray := prog_11_method_2_code
def yX9_of : MethodName := ⟨RX9, "of", "([J)J"⟩
def dkwX9_of_0 : List UInt8 := [42, 180, 0, 7, 133, 173]
abbrev dktX9_of_0 : List UInt8 := dkwX9_of_0 ++ []
theorem dksX9_of_0 : cX9_of.data.toList.drop 0 = dktX9_of_0 := by decide +kernel
theorem dX9_of_0 : decode cX9_of 0 = .ok (.aload_n 0, 1) := dk_42 (dk_at dksX9_of_0 0 rfl rfl)
theorem dX9_of_1 : decode cX9_of 1 = .ok (.getfield 7, 3) := dk_180 0 7 (dk_at dksX9_of_0 1 rfl rfl)
theorem dX9_of_4 : decode cX9_of 4 = .ok (.i2l, 1) := dk_133 (dk_at dksX9_of_0 4 rfl rfl)
theorem dX9_of_5 : decode cX9_of 5 = .ok (.lreturn, 1) := dk_173 (dk_at dksX9_of_0 5 rfl rfl)
theorem q157 : (Jvm.Cond.initialized "SweptSnow$Plain") ∈ lw_all := lw_g (lw_at lw_m1 28 rfl) rfl
theorem q651 : (Jvm.Cond.selects "SweptSnow$Plain" ({ cls := "java/lang/Object", name := "getClass", desc := "()Ljava/lang/Class;" } : Jvm.MethodName) ({ cls := "java/lang/Object", name := "getClass", desc := "()Ljava/lang/Class;" } : Jvm.MethodName)) ∈ lw_all := lw_g (lw_at lw_m3 42 rfl) rfl
theorem q786 : (Jvm.Cond.instantiable "SweptSnow$Plain" (1 : Nat)) ∈ lw_all := lw_g (lw_at lw_m3 177 rfl) rfl
theorem q789 : (Jvm.Cond.instanceMethod ({ cls := "SweptSnow$Plain", name := "<init>", desc := "(I)V" } : Jvm.MethodName)) ∈ lw_all := lw_g (lw_at lw_m3 180 rfl) rfl
theorem q790 : (Jvm.Cond.code ({ cls := "SweptSnow$Plain", name := "<init>", desc := "(I)V" } : Jvm.MethodName) prog_11_method_1_code (2 : Nat) (Option.none : Option Jvm.ClassFile.FieldType)) ∈ lw_all := lw_g (lw_at lw_m3 181 rfl) rfl
theorem q791 : (Jvm.Cond.methodLinkNest "SweptSnow$Plain" (1 : Nat) ({ cls := "SweptSnow$Value", name := "<init>", desc := "()V" } : Jvm.MethodName) "SweptSnow") ∈ lw_tbl := lw_at lw_m3 182 rfl
theorem q795 : (Jvm.Cond.fieldLink "SweptSnow$Plain" (7 : Nat) "SweptSnow$Plain" "number" "I") ∈ lw_all := lw_g (lw_at lw_m3 186 rfl) rfl
theorem q796 : (Jvm.Cond.laysFinal "SweptSnow$Plain" "SweptSnow$Plain" "number" "I") ∈ lw_all := lw_g (lw_at lw_m3 187 rfl) rfl
theorem q797 : (Jvm.Cond.soleField "SweptSnow$Plain" "number") ∈ lw_all := lw_g (lw_at lw_m3 188 rfl) rfl
theorem q798 : (Jvm.Cond.superclass "SweptSnow$Plain" "SweptSnow$Value") ∈ lw_all := lw_g (lw_at lw_m3 189 rfl) rfl
theorem q1033 : (Jvm.Cond.instanceMethod ({ cls := "SweptSnow$Plain", name := "of", desc := "([J)J" } : Jvm.MethodName)) ∈ lw_all := lw_g (lw_at lw_m4 184 rfl) rfl
theorem q1034 : (Jvm.Cond.code ({ cls := "SweptSnow$Plain", name := "of", desc := "([J)J" } : Jvm.MethodName) prog_11_method_2_code (2 : Nat) (Option.some Jvm.ClassFile.FieldType.long)) ∈ lw_all := lw_g (lw_at lw_m4 185 rfl) rfl
theorem q1035 : (Jvm.Cond.selects "SweptSnow$Plain" ({ cls := "SweptSnow$Value", name := "of", desc := "([J)J" } : Jvm.MethodName) ({ cls := "SweptSnow$Plain", name := "of", desc := "([J)J" } : Jvm.MethodName)) ∈ lw_all := lw_g (lw_at lw_m4 186 rfl) rfl
theorem q1897 : (Jvm.Cond.castable "SweptSnow$Plain" "java/lang/Object") ∈ lw_tbl := lw_at lw_m8 88 rfl
theorem in_X9 : ∀ w ∈ wsX90, w ∈ lw_all := lw_in wsX90 [796] (by decide +kernel) (by decide +kernel)

/-! SweptSnow$Asked -/
set_option maxRecDepth 100000
def RX10 : String := "SweptSnow$Asked"
def TX10 : u_T := fun k => match k with
  | _ => ("SweptSnow$Asked", "word", "I", true)
def tyX10 : Nat → FieldType := fun k => match k with
  | _ => .int
abbrev wsX100 : List Cond := u_ws RX10 TX10 1
theorem nmX10 : ∀ a, a < 1 → ∀ b, b < 1 → a ≠ b → (TX10 a).2.1 ≠ (TX10 b).2.1 := by decide +kernel
theorem tyX10_ok : ∀ k, k < 1 → parseFieldDescriptor (TX10 k).2.2.1 = some (tyX10 k) := by decide +kernel
abbrev cX10_init : ByteArray := prog_2_method_1_code
def yX10_init : MethodName := ⟨RX10, "<init>", "(I)V"⟩
def dkwX10_init_0 : List UInt8 := [42, 183, 0, 1, 42, 27, 181, 0, 7, 177]
abbrev dktX10_init_0 : List UInt8 := dkwX10_init_0 ++ []
theorem dksX10_init_0 : cX10_init.data.toList.drop 0 = dktX10_init_0 := by decide +kernel
theorem dX10_init_0 : decode cX10_init 0 = .ok (.aload_n 0, 1) := dk_42 (dk_at dksX10_init_0 0 rfl rfl)
theorem dX10_init_1 : decode cX10_init 1 = .ok (.invokespecial 1, 3) := dk_183 0 1 (dk_at dksX10_init_0 1 rfl rfl)
theorem dX10_init_4 : decode cX10_init 4 = .ok (.aload_n 0, 1) := dk_42 (dk_at dksX10_init_0 4 rfl rfl)
theorem dX10_init_5 : decode cX10_init 5 = .ok (.iload_n 1, 1) := dk_27 (dk_at dksX10_init_0 5 rfl rfl)
theorem dX10_init_6 : decode cX10_init 6 = .ok (.putfield 7, 3) := dk_181 0 7 (dk_at dksX10_init_0 6 rfl rfl)
theorem dX10_init_9 : decode cX10_init 9 = .ok (.return_, 1) := dk_177 (dk_at dksX10_init_0 9 rfl rfl)
abbrev cX10_of : ByteArray := prog_2_method_2_code
def yX10_of : MethodName := ⟨RX10, "of", "([J)J"⟩
def dkwX10_of_0 : List UInt8 := [43, 42, 180, 0, 7, 47, 173]
abbrev dktX10_of_0 : List UInt8 := dkwX10_of_0 ++ []
theorem dksX10_of_0 : cX10_of.data.toList.drop 0 = dktX10_of_0 := by decide +kernel
theorem dX10_of_0 : decode cX10_of 0 = .ok (.aload_n 1, 1) := dk_43 (dk_at dksX10_of_0 0 rfl rfl)
theorem dX10_of_1 : decode cX10_of 1 = .ok (.aload_n 0, 1) := dk_42 (dk_at dksX10_of_0 1 rfl rfl)
theorem dX10_of_2 : decode cX10_of 2 = .ok (.getfield 7, 3) := dk_180 0 7 (dk_at dksX10_of_0 2 rfl rfl)
theorem dX10_of_5 : decode cX10_of 5 = .ok (.laload, 1) := dk_47 (dk_at dksX10_of_0 5 rfl rfl)
theorem dX10_of_6 : decode cX10_of 6 = .ok (.lreturn, 1) := dk_173 (dk_at dksX10_of_0 6 rfl rfl)
theorem q158 : (Jvm.Cond.initialized "SweptSnow$Asked") ∈ lw_all := lw_g (lw_at lw_m1 29 rfl) rfl
theorem q643 : (Jvm.Cond.selects "SweptSnow$Asked" ({ cls := "java/lang/Object", name := "getClass", desc := "()Ljava/lang/Class;" } : Jvm.MethodName) ({ cls := "java/lang/Object", name := "getClass", desc := "()Ljava/lang/Class;" } : Jvm.MethodName)) ∈ lw_all := lw_g (lw_at lw_m3 34 rfl) rfl
theorem q804 : (Jvm.Cond.instantiable "SweptSnow$Asked" (1 : Nat)) ∈ lw_all := lw_g (lw_at lw_m3 195 rfl) rfl
theorem q806 : (Jvm.Cond.instanceMethod ({ cls := "SweptSnow$Asked", name := "<init>", desc := "(I)V" } : Jvm.MethodName)) ∈ lw_all := lw_g (lw_at lw_m3 197 rfl) rfl
theorem q807 : (Jvm.Cond.code ({ cls := "SweptSnow$Asked", name := "<init>", desc := "(I)V" } : Jvm.MethodName) prog_2_method_1_code (2 : Nat) (Option.none : Option Jvm.ClassFile.FieldType)) ∈ lw_all := lw_g (lw_at lw_m3 198 rfl) rfl
theorem q808 : (Jvm.Cond.methodLinkNest "SweptSnow$Asked" (1 : Nat) ({ cls := "SweptSnow$Value", name := "<init>", desc := "()V" } : Jvm.MethodName) "SweptSnow") ∈ lw_tbl := lw_at lw_m3 199 rfl
theorem q809 : (Jvm.Cond.fieldLink "SweptSnow$Asked" (7 : Nat) "SweptSnow$Asked" "word" "I") ∈ lw_all := lw_g (lw_at lw_m3 200 rfl) rfl
theorem q810 : (Jvm.Cond.laysFinal "SweptSnow$Asked" "SweptSnow$Asked" "word" "I") ∈ lw_all := lw_g (lw_at lw_m3 201 rfl) rfl
theorem q811 : (Jvm.Cond.soleField "SweptSnow$Asked" "word") ∈ lw_all := lw_g (lw_at lw_m3 202 rfl) rfl
theorem q812 : (Jvm.Cond.superclass "SweptSnow$Asked" "SweptSnow$Value") ∈ lw_all := lw_g (lw_at lw_m3 203 rfl) rfl
theorem q1026 : (Jvm.Cond.selects "SweptSnow$Asked" ({ cls := "SweptSnow$Value", name := "of", desc := "([J)J" } : Jvm.MethodName) ({ cls := "SweptSnow$Asked", name := "of", desc := "([J)J" } : Jvm.MethodName)) ∈ lw_all := lw_g (lw_at lw_m4 177 rfl) rfl
theorem q1027 : (Jvm.Cond.instanceMethod ({ cls := "SweptSnow$Asked", name := "of", desc := "([J)J" } : Jvm.MethodName)) ∈ lw_all := lw_g (lw_at lw_m4 178 rfl) rfl
theorem q1028 : (Jvm.Cond.code ({ cls := "SweptSnow$Asked", name := "of", desc := "([J)J" } : Jvm.MethodName) prog_2_method_2_code (2 : Nat) (Option.some Jvm.ClassFile.FieldType.long)) ∈ lw_all := lw_g (lw_at lw_m4 179 rfl) rfl
theorem q1898 : (Jvm.Cond.castable "SweptSnow$Asked" "java/lang/Object") ∈ lw_tbl := lw_at lw_m8 89 rfl
theorem in_X10 : ∀ w ∈ wsX100, w ∈ lw_all := lw_in wsX100 [810] (by decide +kernel) (by decide +kernel)

/-! SweptSnow$Joined -/
set_option maxRecDepth 100000
def RX11 : String := "SweptSnow$Joined"
def TX11 : u_T := fun k => match k with
  | 0 => ("SweptSnow$Joined", "a", "LSweptSnow$Value;", true)
  | 1 => ("SweptSnow$Joined", "b", "LSweptSnow$Value;", true)
  | _ => ("SweptSnow$Joined", "sign", "I", true)
def tyX11 : Nat → FieldType := fun k => match k with
  | 0 => .object "SweptSnow$Value"
  | 1 => .object "SweptSnow$Value"
  | _ => .int
abbrev wsX110 : List Cond := u_ws RX11 TX11 3
theorem nmX11 : ∀ a, a < 3 → ∀ b, b < 3 → a ≠ b → (TX11 a).2.1 ≠ (TX11 b).2.1 := by decide +kernel
theorem tyX11_ok : ∀ k, k < 3 → parseFieldDescriptor (TX11 k).2.2.1 = some (tyX11 k) := by decide +kernel
abbrev cX11_init : ByteArray := prog_8_method_1_code
def yX11_init : MethodName := ⟨RX11, "<init>", "(LSweptSnow$Value;LSweptSnow$Value;I)V"⟩
def dkwX11_init_0 : List UInt8 := [42, 183, 0, 1, 42, 43, 181, 0, 7, 42, 44, 181, 0, 13, 42, 29, 181, 0, 16, 177]
abbrev dktX11_init_0 : List UInt8 := dkwX11_init_0 ++ []
theorem dksX11_init_0 : cX11_init.data.toList.drop 0 = dktX11_init_0 := by decide +kernel
theorem dX11_init_0 : decode cX11_init 0 = .ok (.aload_n 0, 1) := dk_42 (dk_at dksX11_init_0 0 rfl rfl)
theorem dX11_init_1 : decode cX11_init 1 = .ok (.invokespecial 1, 3) := dk_183 0 1 (dk_at dksX11_init_0 1 rfl rfl)
theorem dX11_init_4 : decode cX11_init 4 = .ok (.aload_n 0, 1) := dk_42 (dk_at dksX11_init_0 4 rfl rfl)
theorem dX11_init_5 : decode cX11_init 5 = .ok (.aload_n 1, 1) := dk_43 (dk_at dksX11_init_0 5 rfl rfl)
theorem dX11_init_6 : decode cX11_init 6 = .ok (.putfield 7, 3) := dk_181 0 7 (dk_at dksX11_init_0 6 rfl rfl)
theorem dX11_init_9 : decode cX11_init 9 = .ok (.aload_n 0, 1) := dk_42 (dk_at dksX11_init_0 9 rfl rfl)
theorem dX11_init_10 : decode cX11_init 10 = .ok (.aload_n 2, 1) := dk_44 (dk_at dksX11_init_0 10 rfl rfl)
theorem dX11_init_11 : decode cX11_init 11 = .ok (.putfield 13, 3) := dk_181 0 13 (dk_at dksX11_init_0 11 rfl rfl)
theorem dX11_init_14 : decode cX11_init 14 = .ok (.aload_n 0, 1) := dk_42 (dk_at dksX11_init_0 14 rfl rfl)
theorem dX11_init_15 : decode cX11_init 15 = .ok (.iload_n 3, 1) := dk_29 (dk_at dksX11_init_0 15 rfl rfl)
theorem dX11_init_16 : decode cX11_init 16 = .ok (.putfield 16, 3) := dk_181 0 16 (dk_at dksX11_init_0 16 rfl rfl)
theorem dX11_init_19 : decode cX11_init 19 = .ok (.return_, 1) := dk_177 (dk_at dksX11_init_0 19 rfl rfl)
abbrev cX11_of : ByteArray := prog_8_method_2_code
def yX11_of : MethodName := ⟨RX11, "of", "([J)J"⟩
def dkwX11_of_4 : List UInt8 := [22, 4, 113, 173]
abbrev dktX11_of_4 : List UInt8 := dkwX11_of_4 ++ []
def dkwX11_of_3 : List UInt8 := [154, 0, 7, 9, 167, 0, 23, 42, 180, 0, 16, 16, 47, 160, 0, 10, 32, 22, 4, 109, 167, 0, 7, 32]
abbrev dktX11_of_3 : List UInt8 := dkwX11_of_3 ++ dktX11_of_4
def dkwX11_of_2 : List UInt8 := [101, 167, 0, 50, 42, 180, 0, 16, 16, 42, 160, 0, 10, 32, 22, 4, 105, 167, 0, 34, 22, 4, 9, 148]
abbrev dktX11_of_2 : List UInt8 := dkwX11_of_2 ++ dktX11_of_3
def dkwX11_of_1 : List UInt8 := [16, 43, 160, 0, 10, 32, 22, 4, 97, 167, 0, 66, 42, 180, 0, 16, 16, 45, 160, 0, 10, 32, 22, 4]
abbrev dktX11_of_1 : List UInt8 := dkwX11_of_1 ++ dktX11_of_2
def dkwX11_of_0 : List UInt8 := [42, 180, 0, 7, 43, 182, 0, 20, 65, 42, 180, 0, 13, 43, 182, 0, 20, 55, 4, 42, 180, 0, 16]
abbrev dktX11_of_0 : List UInt8 := dkwX11_of_0 ++ dktX11_of_1
theorem dksX11_of_0 : cX11_of.data.toList.drop 0 = dktX11_of_0 := by decide +kernel
theorem dksX11_of_1 : cX11_of.data.toList.drop 23 = dktX11_of_1 := dk_seg dksX11_of_0 23 rfl rfl
theorem dksX11_of_2 : cX11_of.data.toList.drop 47 = dktX11_of_2 := dk_seg dksX11_of_1 24 rfl rfl
theorem dksX11_of_3 : cX11_of.data.toList.drop 71 = dktX11_of_3 := dk_seg dksX11_of_2 24 rfl rfl
theorem dksX11_of_4 : cX11_of.data.toList.drop 95 = dktX11_of_4 := dk_seg dksX11_of_3 24 rfl rfl
theorem dX11_of_0 : decode cX11_of 0 = .ok (.aload_n 0, 1) := dk_42 (dk_at dksX11_of_0 0 rfl rfl)
theorem dX11_of_1 : decode cX11_of 1 = .ok (.getfield 7, 3) := dk_180 0 7 (dk_at dksX11_of_0 1 rfl rfl)
theorem dX11_of_4 : decode cX11_of 4 = .ok (.aload_n 1, 1) := dk_43 (dk_at dksX11_of_0 4 rfl rfl)
theorem dX11_of_5 : decode cX11_of 5 = .ok (.invokevirtual 20, 3) := dk_182 0 20 (dk_at dksX11_of_0 5 rfl rfl)
theorem dX11_of_8 : decode cX11_of 8 = .ok (.lstore_n 2, 1) := dk_65 (dk_at dksX11_of_0 8 rfl rfl)
theorem dX11_of_9 : decode cX11_of 9 = .ok (.aload_n 0, 1) := dk_42 (dk_at dksX11_of_0 9 rfl rfl)
theorem dX11_of_10 : decode cX11_of 10 = .ok (.getfield 13, 3) := dk_180 0 13 (dk_at dksX11_of_0 10 rfl rfl)
theorem dX11_of_13 : decode cX11_of 13 = .ok (.aload_n 1, 1) := dk_43 (dk_at dksX11_of_0 13 rfl rfl)
theorem dX11_of_14 : decode cX11_of 14 = .ok (.invokevirtual 20, 3) := dk_182 0 20 (dk_at dksX11_of_0 14 rfl rfl)
theorem dX11_of_17 : decode cX11_of 17 = .ok (.lstore 4, 2) := dk_55 4 (dk_at dksX11_of_0 17 rfl rfl)
theorem dX11_of_19 : decode cX11_of 19 = .ok (.aload_n 0, 1) := dk_42 (dk_at dksX11_of_0 19 rfl rfl)
theorem dX11_of_20 : decode cX11_of 20 = .ok (.getfield 16, 3) := dk_180 0 16 (dk_at dksX11_of_0 20 rfl rfl)
theorem dX11_of_23 : decode cX11_of 23 = .ok (.bipush 43, 2) := dk_16 43 (dk_at dksX11_of_1 0 rfl rfl)
theorem dX11_of_25 : decode cX11_of 25 = .ok (.if_icmp .ne 10, 3) := dk_160 0 10 (dk_at dksX11_of_1 2 rfl rfl)
theorem dX11_of_28 : decode cX11_of 28 = .ok (.lload_n 2, 1) := dk_32 (dk_at dksX11_of_1 5 rfl rfl)
theorem dX11_of_29 : decode cX11_of 29 = .ok (.lload 4, 2) := dk_22 4 (dk_at dksX11_of_1 6 rfl rfl)
theorem dX11_of_31 : decode cX11_of 31 = .ok (.ladd, 1) := dk_97 (dk_at dksX11_of_1 8 rfl rfl)
theorem dX11_of_32 : decode cX11_of 32 = .ok (.goto 66, 3) := dk_167 0 66 (dk_at dksX11_of_1 9 rfl rfl)
theorem dX11_of_35 : decode cX11_of 35 = .ok (.aload_n 0, 1) := dk_42 (dk_at dksX11_of_1 12 rfl rfl)
theorem dX11_of_36 : decode cX11_of 36 = .ok (.getfield 16, 3) := dk_180 0 16 (dk_at dksX11_of_1 13 rfl rfl)
theorem dX11_of_39 : decode cX11_of 39 = .ok (.bipush 45, 2) := dk_16 45 (dk_at dksX11_of_1 16 rfl rfl)
theorem dX11_of_41 : decode cX11_of 41 = .ok (.if_icmp .ne 10, 3) := dk_160 0 10 (dk_at dksX11_of_1 18 rfl rfl)
theorem dX11_of_44 : decode cX11_of 44 = .ok (.lload_n 2, 1) := dk_32 (dk_at dksX11_of_1 21 rfl rfl)
theorem dX11_of_45 : decode cX11_of 45 = .ok (.lload 4, 2) := dk_22 4 (dk_at dksX11_of_1 22 rfl rfl)
theorem dX11_of_47 : decode cX11_of 47 = .ok (.lsub, 1) := dk_101 (dk_at dksX11_of_2 0 rfl rfl)
theorem dX11_of_48 : decode cX11_of 48 = .ok (.goto 50, 3) := dk_167 0 50 (dk_at dksX11_of_2 1 rfl rfl)
theorem dX11_of_51 : decode cX11_of 51 = .ok (.aload_n 0, 1) := dk_42 (dk_at dksX11_of_2 4 rfl rfl)
theorem dX11_of_52 : decode cX11_of 52 = .ok (.getfield 16, 3) := dk_180 0 16 (dk_at dksX11_of_2 5 rfl rfl)
theorem dX11_of_55 : decode cX11_of 55 = .ok (.bipush 42, 2) := dk_16 42 (dk_at dksX11_of_2 8 rfl rfl)
theorem dX11_of_57 : decode cX11_of 57 = .ok (.if_icmp .ne 10, 3) := dk_160 0 10 (dk_at dksX11_of_2 10 rfl rfl)
theorem dX11_of_60 : decode cX11_of 60 = .ok (.lload_n 2, 1) := dk_32 (dk_at dksX11_of_2 13 rfl rfl)
theorem dX11_of_61 : decode cX11_of 61 = .ok (.lload 4, 2) := dk_22 4 (dk_at dksX11_of_2 14 rfl rfl)
theorem dX11_of_63 : decode cX11_of 63 = .ok (.lmul, 1) := dk_105 (dk_at dksX11_of_2 16 rfl rfl)
theorem dX11_of_64 : decode cX11_of 64 = .ok (.goto 34, 3) := dk_167 0 34 (dk_at dksX11_of_2 17 rfl rfl)
theorem dX11_of_67 : decode cX11_of 67 = .ok (.lload 4, 2) := dk_22 4 (dk_at dksX11_of_2 20 rfl rfl)
theorem dX11_of_69 : decode cX11_of 69 = .ok (.lconst 0, 1) := dk_9 (dk_at dksX11_of_2 22 rfl rfl)
theorem dX11_of_70 : decode cX11_of 70 = .ok (.lcmp, 1) := dk_148 (dk_at dksX11_of_2 23 rfl rfl)
theorem dX11_of_71 : decode cX11_of 71 = .ok (.ifCond .ne 7, 3) := dk_154 0 7 (dk_at dksX11_of_3 0 rfl rfl)
theorem dX11_of_74 : decode cX11_of 74 = .ok (.lconst 0, 1) := dk_9 (dk_at dksX11_of_3 3 rfl rfl)
theorem dX11_of_75 : decode cX11_of 75 = .ok (.goto 23, 3) := dk_167 0 23 (dk_at dksX11_of_3 4 rfl rfl)
theorem dX11_of_78 : decode cX11_of 78 = .ok (.aload_n 0, 1) := dk_42 (dk_at dksX11_of_3 7 rfl rfl)
theorem dX11_of_79 : decode cX11_of 79 = .ok (.getfield 16, 3) := dk_180 0 16 (dk_at dksX11_of_3 8 rfl rfl)
theorem dX11_of_82 : decode cX11_of 82 = .ok (.bipush 47, 2) := dk_16 47 (dk_at dksX11_of_3 11 rfl rfl)
theorem dX11_of_84 : decode cX11_of 84 = .ok (.if_icmp .ne 10, 3) := dk_160 0 10 (dk_at dksX11_of_3 13 rfl rfl)
theorem dX11_of_87 : decode cX11_of 87 = .ok (.lload_n 2, 1) := dk_32 (dk_at dksX11_of_3 16 rfl rfl)
theorem dX11_of_88 : decode cX11_of 88 = .ok (.lload 4, 2) := dk_22 4 (dk_at dksX11_of_3 17 rfl rfl)
theorem dX11_of_90 : decode cX11_of 90 = .ok (.ldiv, 1) := dk_109 (dk_at dksX11_of_3 19 rfl rfl)
theorem dX11_of_91 : decode cX11_of 91 = .ok (.goto 7, 3) := dk_167 0 7 (dk_at dksX11_of_3 20 rfl rfl)
theorem dX11_of_94 : decode cX11_of 94 = .ok (.lload_n 2, 1) := dk_32 (dk_at dksX11_of_3 23 rfl rfl)
theorem dX11_of_95 : decode cX11_of 95 = .ok (.lload 4, 2) := dk_22 4 (dk_at dksX11_of_4 0 rfl rfl)
theorem dX11_of_97 : decode cX11_of 97 = .ok (.lrem, 1) := dk_113 (dk_at dksX11_of_4 2 rfl rfl)
theorem dX11_of_98 : decode cX11_of 98 = .ok (.lreturn, 1) := dk_173 (dk_at dksX11_of_4 3 rfl rfl)
theorem q159 : (Jvm.Cond.initialized "SweptSnow$Joined") ∈ lw_all := lw_g (lw_at lw_m1 30 rfl) rfl
theorem q648 : (Jvm.Cond.selects "SweptSnow$Joined" ({ cls := "java/lang/Object", name := "getClass", desc := "()Ljava/lang/Class;" } : Jvm.MethodName) ({ cls := "java/lang/Object", name := "getClass", desc := "()Ljava/lang/Class;" } : Jvm.MethodName)) ∈ lw_all := lw_g (lw_at lw_m3 39 rfl) rfl
theorem q814 : (Jvm.Cond.instantiable "SweptSnow$Joined" (3 : Nat)) ∈ lw_all := lw_g (lw_at lw_m3 205 rfl) rfl
theorem q816 : (Jvm.Cond.instanceMethod ({ cls := "SweptSnow$Joined", name := "<init>", desc := "(LSweptSnow$Value;LSweptSnow$Value;I)V" } : Jvm.MethodName)) ∈ lw_all := lw_g (lw_at lw_m3 207 rfl) rfl
theorem q817 : (Jvm.Cond.code ({ cls := "SweptSnow$Joined", name := "<init>", desc := "(LSweptSnow$Value;LSweptSnow$Value;I)V" } : Jvm.MethodName) prog_8_method_1_code (4 : Nat) (Option.none : Option Jvm.ClassFile.FieldType)) ∈ lw_all := lw_g (lw_at lw_m3 208 rfl) rfl
theorem q818 : (Jvm.Cond.methodLinkNest "SweptSnow$Joined" (1 : Nat) ({ cls := "SweptSnow$Value", name := "<init>", desc := "()V" } : Jvm.MethodName) "SweptSnow") ∈ lw_tbl := lw_at lw_m3 209 rfl
theorem q819 : (Jvm.Cond.fieldLink "SweptSnow$Joined" (7 : Nat) "SweptSnow$Joined" "a" "LSweptSnow$Value;") ∈ lw_all := lw_g (lw_at lw_m3 210 rfl) rfl
theorem q820 : (Jvm.Cond.fieldLink "SweptSnow$Joined" (13 : Nat) "SweptSnow$Joined" "b" "LSweptSnow$Value;") ∈ lw_all := lw_g (lw_at lw_m3 211 rfl) rfl
theorem q821 : (Jvm.Cond.fieldLink "SweptSnow$Joined" (16 : Nat) "SweptSnow$Joined" "sign" "I") ∈ lw_all := lw_g (lw_at lw_m3 212 rfl) rfl
theorem q822 : (Jvm.Cond.laysFinal "SweptSnow$Joined" "SweptSnow$Joined" "a" "LSweptSnow$Value;") ∈ lw_all := lw_g (lw_at lw_m3 213 rfl) rfl
theorem q823 : (Jvm.Cond.soleField "SweptSnow$Joined" "a") ∈ lw_all := lw_g (lw_at lw_m3 214 rfl) rfl
theorem q824 : (Jvm.Cond.laysFinal "SweptSnow$Joined" "SweptSnow$Joined" "b" "LSweptSnow$Value;") ∈ lw_all := lw_g (lw_at lw_m3 215 rfl) rfl
theorem q825 : (Jvm.Cond.soleField "SweptSnow$Joined" "b") ∈ lw_all := lw_g (lw_at lw_m3 216 rfl) rfl
theorem q826 : (Jvm.Cond.laysFinal "SweptSnow$Joined" "SweptSnow$Joined" "sign" "I") ∈ lw_all := lw_g (lw_at lw_m3 217 rfl) rfl
theorem q827 : (Jvm.Cond.soleField "SweptSnow$Joined" "sign") ∈ lw_all := lw_g (lw_at lw_m3 218 rfl) rfl
theorem q828 : (Jvm.Cond.superclass "SweptSnow$Joined" "SweptSnow$Value") ∈ lw_all := lw_g (lw_at lw_m3 219 rfl) rfl
theorem q1029 : (Jvm.Cond.selects "SweptSnow$Joined" ({ cls := "SweptSnow$Value", name := "of", desc := "([J)J" } : Jvm.MethodName) ({ cls := "SweptSnow$Joined", name := "of", desc := "([J)J" } : Jvm.MethodName)) ∈ lw_all := lw_g (lw_at lw_m4 180 rfl) rfl
theorem q1030 : (Jvm.Cond.instanceMethod ({ cls := "SweptSnow$Joined", name := "of", desc := "([J)J" } : Jvm.MethodName)) ∈ lw_all := lw_g (lw_at lw_m4 181 rfl) rfl
theorem q1031 : (Jvm.Cond.code ({ cls := "SweptSnow$Joined", name := "of", desc := "([J)J" } : Jvm.MethodName) prog_8_method_2_code (6 : Nat) (Option.some Jvm.ClassFile.FieldType.long)) ∈ lw_all := lw_g (lw_at lw_m4 182 rfl) rfl
theorem q1032 : (Jvm.Cond.methodLink "SweptSnow$Joined" (20 : Nat) ({ cls := "SweptSnow$Value", name := "of", desc := "([J)J" } : Jvm.MethodName)) ∈ lw_all := lw_g (lw_at lw_m4 183 rfl) rfl
theorem q1899 : (Jvm.Cond.castable "SweptSnow$Joined" "java/lang/Object") ∈ lw_tbl := lw_at lw_m8 90 rfl
theorem in_X11 : ∀ w ∈ wsX110, w ∈ lw_all := lw_in wsX110 [822, 824, 826] (by decide +kernel) (by decide +kernel)

/-! SweptSnow$Told -/
set_option maxRecDepth 100000
def RX12 : String := "SweptSnow$Told"
def TX12 : u_T := fun k => match k with
  | 0 => ("SweptSnow$Told", "sum", "LSweptSnow$Value;", true)
  | _ => ("SweptSnow$Told", "when", "LSweptSnow$Condition;", true)
def tyX12 : Nat → FieldType := fun k => match k with
  | 0 => .object "SweptSnow$Value"
  | _ => .object "SweptSnow$Condition"
abbrev wsX120 : List Cond := u_ws RX12 TX12 2
theorem nmX12 : ∀ a, a < 2 → ∀ b, b < 2 → a ≠ b → (TX12 a).2.1 ≠ (TX12 b).2.1 := by decide +kernel
theorem tyX12_ok : ∀ k, k < 2 → parseFieldDescriptor (TX12 k).2.2.1 = some (tyX12 k) := by decide +kernel
abbrev cX12_init : ByteArray := prog_14_method_1_code
def yX12_init : MethodName := ⟨RX12, "<init>", "(LSweptSnow$Value;LSweptSnow$Condition;)V"⟩
def dkwX12_init_0 : List UInt8 := [42, 183, 0, 1, 42, 43, 181, 0, 7, 42, 44, 181, 0, 13, 177]
abbrev dktX12_init_0 : List UInt8 := dkwX12_init_0 ++ []
theorem dksX12_init_0 : cX12_init.data.toList.drop 0 = dktX12_init_0 := by decide +kernel
theorem dX12_init_0 : decode cX12_init 0 = .ok (.aload_n 0, 1) := dk_42 (dk_at dksX12_init_0 0 rfl rfl)
theorem dX12_init_1 : decode cX12_init 1 = .ok (.invokespecial 1, 3) := dk_183 0 1 (dk_at dksX12_init_0 1 rfl rfl)
theorem dX12_init_4 : decode cX12_init 4 = .ok (.aload_n 0, 1) := dk_42 (dk_at dksX12_init_0 4 rfl rfl)
theorem dX12_init_5 : decode cX12_init 5 = .ok (.aload_n 1, 1) := dk_43 (dk_at dksX12_init_0 5 rfl rfl)
theorem dX12_init_6 : decode cX12_init 6 = .ok (.putfield 7, 3) := dk_181 0 7 (dk_at dksX12_init_0 6 rfl rfl)
theorem dX12_init_9 : decode cX12_init 9 = .ok (.aload_n 0, 1) := dk_42 (dk_at dksX12_init_0 9 rfl rfl)
theorem dX12_init_10 : decode cX12_init 10 = .ok (.aload_n 2, 1) := dk_44 (dk_at dksX12_init_0 10 rfl rfl)
theorem dX12_init_11 : decode cX12_init 11 = .ok (.putfield 13, 3) := dk_181 0 13 (dk_at dksX12_init_0 11 rfl rfl)
theorem dX12_init_14 : decode cX12_init 14 = .ok (.return_, 1) := dk_177 (dk_at dksX12_init_0 14 rfl rfl)
abbrev cX12_holds : ByteArray := prog_14_method_2_code
def yX12_holds : MethodName := ⟨RX12, "holds", "([J)Z"⟩
def dkwX12_holds_0 : List UInt8 := [42, 180, 0, 13, 198, 0, 14, 42, 180, 0, 13, 43, 182, 0, 17, 153, 0, 7, 4, 167, 0, 4, 3, 172]
abbrev dktX12_holds_0 : List UInt8 := dkwX12_holds_0 ++ []
theorem dksX12_holds_0 : cX12_holds.data.toList.drop 0 = dktX12_holds_0 := by decide +kernel
theorem dX12_holds_0 : decode cX12_holds 0 = .ok (.aload_n 0, 1) := dk_42 (dk_at dksX12_holds_0 0 rfl rfl)
theorem dX12_holds_1 : decode cX12_holds 1 = .ok (.getfield 13, 3) := dk_180 0 13 (dk_at dksX12_holds_0 1 rfl rfl)
theorem dX12_holds_4 : decode cX12_holds 4 = .ok (.ifnull 14, 3) := dk_198 0 14 (dk_at dksX12_holds_0 4 rfl rfl)
theorem dX12_holds_7 : decode cX12_holds 7 = .ok (.aload_n 0, 1) := dk_42 (dk_at dksX12_holds_0 7 rfl rfl)
theorem dX12_holds_8 : decode cX12_holds 8 = .ok (.getfield 13, 3) := dk_180 0 13 (dk_at dksX12_holds_0 8 rfl rfl)
theorem dX12_holds_11 : decode cX12_holds 11 = .ok (.aload_n 1, 1) := dk_43 (dk_at dksX12_holds_0 11 rfl rfl)
theorem dX12_holds_12 : decode cX12_holds 12 = .ok (.invokevirtual 17, 3) := dk_182 0 17 (dk_at dksX12_holds_0 12 rfl rfl)
theorem dX12_holds_15 : decode cX12_holds 15 = .ok (.ifCond .eq 7, 3) := dk_153 0 7 (dk_at dksX12_holds_0 15 rfl rfl)
theorem dX12_holds_18 : decode cX12_holds 18 = .ok (.iconst 1, 1) := dk_4 (dk_at dksX12_holds_0 18 rfl rfl)
theorem dX12_holds_19 : decode cX12_holds 19 = .ok (.goto 4, 3) := dk_167 0 4 (dk_at dksX12_holds_0 19 rfl rfl)
theorem dX12_holds_22 : decode cX12_holds 22 = .ok (.iconst 0, 1) := dk_3 (dk_at dksX12_holds_0 22 rfl rfl)
theorem dX12_holds_23 : decode cX12_holds 23 = .ok (.ireturn, 1) := dk_172 (dk_at dksX12_holds_0 23 rfl rfl)
theorem q160 : (Jvm.Cond.initialized "SweptSnow$Told") ∈ lw_all := lw_g (lw_at lw_m1 31 rfl) rfl
theorem q654 : (Jvm.Cond.selects "SweptSnow$Told" ({ cls := "java/lang/Object", name := "getClass", desc := "()Ljava/lang/Class;" } : Jvm.MethodName) ({ cls := "java/lang/Object", name := "getClass", desc := "()Ljava/lang/Class;" } : Jvm.MethodName)) ∈ lw_all := lw_g (lw_at lw_m3 45 rfl) rfl
theorem q830 : (Jvm.Cond.instantiable "SweptSnow$Told" (2 : Nat)) ∈ lw_all := lw_g (lw_at lw_m3 221 rfl) rfl
theorem q904 : (Jvm.Cond.instanceMethod ({ cls := "SweptSnow$Told", name := "<init>", desc := "(LSweptSnow$Value;LSweptSnow$Condition;)V" } : Jvm.MethodName)) ∈ lw_all := lw_g (lw_at lw_m4 55 rfl) rfl
theorem q905 : (Jvm.Cond.code ({ cls := "SweptSnow$Told", name := "<init>", desc := "(LSweptSnow$Value;LSweptSnow$Condition;)V" } : Jvm.MethodName) prog_14_method_1_code (3 : Nat) (Option.none : Option Jvm.ClassFile.FieldType)) ∈ lw_all := lw_g (lw_at lw_m4 56 rfl) rfl
theorem q906 : (Jvm.Cond.methodLink "SweptSnow$Told" (1 : Nat) ({ cls := "java/lang/Record", name := "<init>", desc := "()V" } : Jvm.MethodName)) ∈ lw_all := lw_g (lw_at lw_m4 57 rfl) rfl
theorem q907 : (Jvm.Cond.fieldLink "SweptSnow$Told" (7 : Nat) "SweptSnow$Told" "sum" "LSweptSnow$Value;") ∈ lw_all := lw_g (lw_at lw_m4 58 rfl) rfl
theorem q909 : (Jvm.Cond.fieldLink "SweptSnow$Told" (13 : Nat) "SweptSnow$Told" "when" "LSweptSnow$Condition;") ∈ lw_all := lw_g (lw_at lw_m4 60 rfl) rfl
theorem q910 : (Jvm.Cond.laysFinal "SweptSnow$Told" "SweptSnow$Told" "sum" "LSweptSnow$Value;") ∈ lw_all := lw_g (lw_at lw_m4 61 rfl) rfl
theorem q911 : (Jvm.Cond.soleField "SweptSnow$Told" "sum") ∈ lw_all := lw_g (lw_at lw_m4 62 rfl) rfl
theorem q912 : (Jvm.Cond.laysFinal "SweptSnow$Told" "SweptSnow$Told" "when" "LSweptSnow$Condition;") ∈ lw_all := lw_g (lw_at lw_m4 63 rfl) rfl
theorem q913 : (Jvm.Cond.soleField "SweptSnow$Told" "when") ∈ lw_all := lw_g (lw_at lw_m4 64 rfl) rfl
theorem q914 : (Jvm.Cond.superclass "SweptSnow$Told" "java/lang/Record") ∈ lw_all := lw_g (lw_at lw_m4 65 rfl) rfl
theorem q1011 : (Jvm.Cond.instanceMethod ({ cls := "SweptSnow$Told", name := "holds", desc := "([J)Z" } : Jvm.MethodName)) ∈ lw_all := lw_g (lw_at lw_m4 162 rfl) rfl
theorem q1012 : (Jvm.Cond.selects "SweptSnow$Told" ({ cls := "SweptSnow$Told", name := "holds", desc := "([J)Z" } : Jvm.MethodName) ({ cls := "SweptSnow$Told", name := "holds", desc := "([J)Z" } : Jvm.MethodName)) ∈ lw_all := lw_g (lw_at lw_m4 163 rfl) rfl
theorem q1013 : (Jvm.Cond.code ({ cls := "SweptSnow$Told", name := "holds", desc := "([J)Z" } : Jvm.MethodName) prog_14_method_2_code (2 : Nat) (Option.some Jvm.ClassFile.FieldType.boolean)) ∈ lw_all := lw_g (lw_at lw_m4 164 rfl) rfl
theorem q1014 : (Jvm.Cond.methodLink "SweptSnow$Told" (17 : Nat) ({ cls := "SweptSnow$Condition", name := "is", desc := "([J)Z" } : Jvm.MethodName)) ∈ lw_all := lw_g (lw_at lw_m4 165 rfl) rfl
theorem q1900 : (Jvm.Cond.castable "SweptSnow$Told" "java/lang/Object") ∈ lw_tbl := lw_at lw_m8 91 rfl
theorem in_X12 : ∀ w ∈ wsX120, w ∈ lw_all := lw_in wsX120 [910, 912] (by decide +kernel) (by decide +kernel)

/-! SweptSnow$Condition -/
set_option maxRecDepth 100000
def RX13 : String := "SweptSnow$Condition"
abbrev cX13_init : ByteArray := prog_5_method_1_code
def yX13_init : MethodName := ⟨RX13, "<init>", "()V"⟩
theorem dX13_init_0 : decode cX13_init 0 = .ok (.aload_n 0, 1) := by decide +kernel
theorem dX13_init_1 : decode cX13_init 1 = .ok (.invokespecial 1, 3) := by decide +kernel
theorem dX13_init_4 : decode cX13_init 4 = .ok (.return_, 1) := by decide +kernel
theorem q161 : (Jvm.Cond.initialized "SweptSnow$Condition") ∈ lw_all := lw_g (lw_at lw_m1 32 rfl) rfl
theorem q859 : (Jvm.Cond.instanceMethod ({ cls := "SweptSnow$Condition", name := "<init>", desc := "()V" } : Jvm.MethodName)) ∈ lw_all := lw_g (lw_at lw_m4 10 rfl) rfl
theorem q860 : (Jvm.Cond.code ({ cls := "SweptSnow$Condition", name := "<init>", desc := "()V" } : Jvm.MethodName) prog_5_method_1_code (1 : Nat) (Option.none : Option Jvm.ClassFile.FieldType)) ∈ lw_all := lw_g (lw_at lw_m4 11 rfl) rfl
theorem q861 : (Jvm.Cond.methodLink "SweptSnow$Condition" (1 : Nat) ({ cls := "java/lang/Object", name := "<init>", desc := "()V" } : Jvm.MethodName)) ∈ lw_all := lw_g (lw_at lw_m4 12 rfl) rfl
theorem q1015 : (Jvm.Cond.declares ({ cls := "SweptSnow$Condition", name := "is", desc := "([J)Z" } : Jvm.MethodName)) ∈ lw_tbl := lw_at lw_m4 166 rfl
theorem q1016 : (Jvm.Cond.sameMethod "SweptSnow$Condition" "SweptSnow$Condition" "is" "([J)Z") ∈ lw_all := lw_g (lw_at lw_m4 167 rfl) rfl

/-! SweptSnow$Not -/
set_option maxRecDepth 100000
def RX14 : String := "SweptSnow$Not"
def TX14 : u_T := fun k => match k with
  | _ => ("SweptSnow$Not", "of", "LSweptSnow$Condition;", true)
def tyX14 : Nat → FieldType := fun k => match k with
  | _ => .object "SweptSnow$Condition"
abbrev wsX140 : List Cond := u_ws RX14 TX14 1
theorem nmX14 : ∀ a, a < 1 → ∀ b, b < 1 → a ≠ b → (TX14 a).2.1 ≠ (TX14 b).2.1 := by decide +kernel
theorem tyX14_ok : ∀ k, k < 1 → parseFieldDescriptor (TX14 k).2.2.1 = some (tyX14 k) := by decide +kernel
abbrev cX14_init : ByteArray := prog_9_method_1_code
def yX14_init : MethodName := ⟨RX14, "<init>", "(LSweptSnow$Condition;)V"⟩
def dkwX14_init_0 : List UInt8 := [42, 183, 0, 1, 42, 43, 181, 0, 7, 177]
abbrev dktX14_init_0 : List UInt8 := dkwX14_init_0 ++ []
theorem dksX14_init_0 : cX14_init.data.toList.drop 0 = dktX14_init_0 := by decide +kernel
theorem dX14_init_0 : decode cX14_init 0 = .ok (.aload_n 0, 1) := dk_42 (dk_at dksX14_init_0 0 rfl rfl)
theorem dX14_init_1 : decode cX14_init 1 = .ok (.invokespecial 1, 3) := dk_183 0 1 (dk_at dksX14_init_0 1 rfl rfl)
theorem dX14_init_4 : decode cX14_init 4 = .ok (.aload_n 0, 1) := dk_42 (dk_at dksX14_init_0 4 rfl rfl)
theorem dX14_init_5 : decode cX14_init 5 = .ok (.aload_n 1, 1) := dk_43 (dk_at dksX14_init_0 5 rfl rfl)
theorem dX14_init_6 : decode cX14_init 6 = .ok (.putfield 7, 3) := dk_181 0 7 (dk_at dksX14_init_0 6 rfl rfl)
theorem dX14_init_9 : decode cX14_init 9 = .ok (.return_, 1) := dk_177 (dk_at dksX14_init_0 9 rfl rfl)
abbrev cX14_is : ByteArray := prog_9_method_2_code
def yX14_is : MethodName := ⟨RX14, "is", "([J)Z"⟩
def dkwX14_is_0 : List UInt8 := [42, 180, 0, 7, 43, 182, 0, 13, 154, 0, 7, 4, 167, 0, 4, 3, 172]
abbrev dktX14_is_0 : List UInt8 := dkwX14_is_0 ++ []
theorem dksX14_is_0 : cX14_is.data.toList.drop 0 = dktX14_is_0 := by decide +kernel
theorem dX14_is_0 : decode cX14_is 0 = .ok (.aload_n 0, 1) := dk_42 (dk_at dksX14_is_0 0 rfl rfl)
theorem dX14_is_1 : decode cX14_is 1 = .ok (.getfield 7, 3) := dk_180 0 7 (dk_at dksX14_is_0 1 rfl rfl)
theorem dX14_is_4 : decode cX14_is 4 = .ok (.aload_n 1, 1) := dk_43 (dk_at dksX14_is_0 4 rfl rfl)
theorem dX14_is_5 : decode cX14_is 5 = .ok (.invokevirtual 13, 3) := dk_182 0 13 (dk_at dksX14_is_0 5 rfl rfl)
theorem dX14_is_8 : decode cX14_is 8 = .ok (.ifCond .ne 7, 3) := dk_154 0 7 (dk_at dksX14_is_0 8 rfl rfl)
theorem dX14_is_11 : decode cX14_is 11 = .ok (.iconst 1, 1) := dk_4 (dk_at dksX14_is_0 11 rfl rfl)
theorem dX14_is_12 : decode cX14_is 12 = .ok (.goto 4, 3) := dk_167 0 4 (dk_at dksX14_is_0 12 rfl rfl)
theorem dX14_is_15 : decode cX14_is 15 = .ok (.iconst 0, 1) := dk_3 (dk_at dksX14_is_0 15 rfl rfl)
theorem dX14_is_16 : decode cX14_is 16 = .ok (.ireturn, 1) := dk_172 (dk_at dksX14_is_0 16 rfl rfl)
theorem q162 : (Jvm.Cond.initialized "SweptSnow$Not") ∈ lw_all := lw_g (lw_at lw_m1 33 rfl) rfl
theorem q649 : (Jvm.Cond.selects "SweptSnow$Not" ({ cls := "java/lang/Object", name := "getClass", desc := "()Ljava/lang/Class;" } : Jvm.MethodName) ({ cls := "java/lang/Object", name := "getClass", desc := "()Ljava/lang/Class;" } : Jvm.MethodName)) ∈ lw_all := lw_g (lw_at lw_m3 40 rfl) rfl
theorem q854 : (Jvm.Cond.instantiable "SweptSnow$Not" (1 : Nat)) ∈ lw_all := lw_g (lw_at lw_m4 5 rfl) rfl
theorem q856 : (Jvm.Cond.instanceMethod ({ cls := "SweptSnow$Not", name := "<init>", desc := "(LSweptSnow$Condition;)V" } : Jvm.MethodName)) ∈ lw_all := lw_g (lw_at lw_m4 7 rfl) rfl
theorem q857 : (Jvm.Cond.code ({ cls := "SweptSnow$Not", name := "<init>", desc := "(LSweptSnow$Condition;)V" } : Jvm.MethodName) prog_9_method_1_code (2 : Nat) (Option.none : Option Jvm.ClassFile.FieldType)) ∈ lw_all := lw_g (lw_at lw_m4 8 rfl) rfl
theorem q858 : (Jvm.Cond.methodLinkNest "SweptSnow$Not" (1 : Nat) ({ cls := "SweptSnow$Condition", name := "<init>", desc := "()V" } : Jvm.MethodName) "SweptSnow") ∈ lw_tbl := lw_at lw_m4 9 rfl
theorem q862 : (Jvm.Cond.fieldLink "SweptSnow$Not" (7 : Nat) "SweptSnow$Not" "of" "LSweptSnow$Condition;") ∈ lw_all := lw_g (lw_at lw_m4 13 rfl) rfl
theorem q863 : (Jvm.Cond.laysFinal "SweptSnow$Not" "SweptSnow$Not" "of" "LSweptSnow$Condition;") ∈ lw_all := lw_g (lw_at lw_m4 14 rfl) rfl
theorem q864 : (Jvm.Cond.soleField "SweptSnow$Not" "of") ∈ lw_all := lw_g (lw_at lw_m4 15 rfl) rfl
theorem q865 : (Jvm.Cond.superclass "SweptSnow$Not" "SweptSnow$Condition") ∈ lw_all := lw_g (lw_at lw_m4 16 rfl) rfl
theorem q1036 : (Jvm.Cond.instanceMethod ({ cls := "SweptSnow$Not", name := "is", desc := "([J)Z" } : Jvm.MethodName)) ∈ lw_all := lw_g (lw_at lw_m4 187 rfl) rfl
theorem q1037 : (Jvm.Cond.code ({ cls := "SweptSnow$Not", name := "is", desc := "([J)Z" } : Jvm.MethodName) prog_9_method_2_code (2 : Nat) (Option.some Jvm.ClassFile.FieldType.boolean)) ∈ lw_all := lw_g (lw_at lw_m4 188 rfl) rfl
theorem q1038 : (Jvm.Cond.methodLink "SweptSnow$Not" (13 : Nat) ({ cls := "SweptSnow$Condition", name := "is", desc := "([J)Z" } : Jvm.MethodName)) ∈ lw_all := lw_g (lw_at lw_m4 189 rfl) rfl
theorem q1040 : (Jvm.Cond.selects "SweptSnow$Not" ({ cls := "SweptSnow$Condition", name := "is", desc := "([J)Z" } : Jvm.MethodName) ({ cls := "SweptSnow$Not", name := "is", desc := "([J)Z" } : Jvm.MethodName)) ∈ lw_all := lw_g (lw_at lw_m4 191 rfl) rfl
theorem q1901 : (Jvm.Cond.castable "SweptSnow$Not" "java/lang/Object") ∈ lw_tbl := lw_at lw_m8 92 rfl
theorem in_X14 : ∀ w ∈ wsX140, w ∈ lw_all := lw_in wsX140 [863] (by decide +kernel) (by decide +kernel)

/-! SweptSnow$Compared -/
set_option maxRecDepth 100000
def RX15 : String := "SweptSnow$Compared"
def TX15 : u_T := fun k => match k with
  | 0 => ("SweptSnow$Compared", "a", "LSweptSnow$Value;", true)
  | 1 => ("SweptSnow$Compared", "b", "LSweptSnow$Value;", true)
  | 2 => ("SweptSnow$Compared", "sign", "I", true)
  | _ => ("SweptSnow$Compared", "same", "Z", true)
def tyX15 : Nat → FieldType := fun k => match k with
  | 0 => .object "SweptSnow$Value"
  | 1 => .object "SweptSnow$Value"
  | 2 => .int
  | _ => .boolean
abbrev wsX150 : List Cond := u_ws RX15 TX15 4
theorem nmX15 : ∀ a, a < 4 → ∀ b, b < 4 → a ≠ b → (TX15 a).2.1 ≠ (TX15 b).2.1 := by decide +kernel
theorem tyX15_ok : ∀ k, k < 4 → parseFieldDescriptor (TX15 k).2.2.1 = some (tyX15 k) := by decide +kernel
abbrev cX15_init : ByteArray := prog_4_method_1_code
def yX15_init : MethodName := ⟨RX15, "<init>", "(LSweptSnow$Value;LSweptSnow$Value;IZ)V"⟩
def dkwX15_init_1 : List UInt8 := [181, 0, 20, 177]
abbrev dktX15_init_1 : List UInt8 := dkwX15_init_1 ++ []
def dkwX15_init_0 : List UInt8 := [42, 183, 0, 1, 42, 43, 181, 0, 7, 42, 44, 181, 0, 13, 42, 29, 181, 0, 16, 42, 21, 4]
abbrev dktX15_init_0 : List UInt8 := dkwX15_init_0 ++ dktX15_init_1
theorem dksX15_init_0 : cX15_init.data.toList.drop 0 = dktX15_init_0 := by decide +kernel
theorem dksX15_init_1 : cX15_init.data.toList.drop 22 = dktX15_init_1 := dk_seg dksX15_init_0 22 rfl rfl
theorem dX15_init_0 : decode cX15_init 0 = .ok (.aload_n 0, 1) := dk_42 (dk_at dksX15_init_0 0 rfl rfl)
theorem dX15_init_1 : decode cX15_init 1 = .ok (.invokespecial 1, 3) := dk_183 0 1 (dk_at dksX15_init_0 1 rfl rfl)
theorem dX15_init_4 : decode cX15_init 4 = .ok (.aload_n 0, 1) := dk_42 (dk_at dksX15_init_0 4 rfl rfl)
theorem dX15_init_5 : decode cX15_init 5 = .ok (.aload_n 1, 1) := dk_43 (dk_at dksX15_init_0 5 rfl rfl)
theorem dX15_init_6 : decode cX15_init 6 = .ok (.putfield 7, 3) := dk_181 0 7 (dk_at dksX15_init_0 6 rfl rfl)
theorem dX15_init_9 : decode cX15_init 9 = .ok (.aload_n 0, 1) := dk_42 (dk_at dksX15_init_0 9 rfl rfl)
theorem dX15_init_10 : decode cX15_init 10 = .ok (.aload_n 2, 1) := dk_44 (dk_at dksX15_init_0 10 rfl rfl)
theorem dX15_init_11 : decode cX15_init 11 = .ok (.putfield 13, 3) := dk_181 0 13 (dk_at dksX15_init_0 11 rfl rfl)
theorem dX15_init_14 : decode cX15_init 14 = .ok (.aload_n 0, 1) := dk_42 (dk_at dksX15_init_0 14 rfl rfl)
theorem dX15_init_15 : decode cX15_init 15 = .ok (.iload_n 3, 1) := dk_29 (dk_at dksX15_init_0 15 rfl rfl)
theorem dX15_init_16 : decode cX15_init 16 = .ok (.putfield 16, 3) := dk_181 0 16 (dk_at dksX15_init_0 16 rfl rfl)
theorem dX15_init_19 : decode cX15_init 19 = .ok (.aload_n 0, 1) := dk_42 (dk_at dksX15_init_0 19 rfl rfl)
theorem dX15_init_20 : decode cX15_init 20 = .ok (.iload 4, 2) := dk_21 4 (dk_at dksX15_init_0 20 rfl rfl)
theorem dX15_init_22 : decode cX15_init 22 = .ok (.putfield 20, 3) := dk_181 0 20 (dk_at dksX15_init_1 0 rfl rfl)
theorem dX15_init_25 : decode cX15_init 25 = .ok (.return_, 1) := dk_177 (dk_at dksX15_init_1 3 rfl rfl)
abbrev cX15_is : ByteArray := prog_4_method_2_code
def yX15_is : MethodName := ⟨RX15, "is", "([J)Z"⟩
def dkwX15_is_3 : List UInt8 := [16, 62, 160, 0, 14, 32, 22, 4, 148, 158, 0, 7, 4, 167, 0, 4, 3, 172]
abbrev dktX15_is_3 : List UInt8 := dkwX15_is_3 ++ []
def dkwX15_is_2 : List UInt8 := [167, 0, 40, 42, 180, 0, 16, 16, 60, 160, 0, 10, 32, 22, 4, 148, 155, 0, 19, 42, 180, 0, 16]
abbrev dktX15_is_2 : List UInt8 := dkwX15_is_2 ++ dktX15_is_3
def dkwX15_is_1 : List UInt8 := [154, 0, 27, 42, 180, 0, 16, 16, 61, 159, 0, 10, 42, 180, 0, 20, 153, 0, 7, 4, 167, 0, 44, 3]
abbrev dktX15_is_1 : List UInt8 := dkwX15_is_1 ++ dktX15_is_2
def dkwX15_is_0 : List UInt8 := [42, 180, 0, 7, 43, 182, 0, 24, 65, 42, 180, 0, 13, 43, 182, 0, 24, 55, 4, 32, 22, 4, 148]
abbrev dktX15_is_0 : List UInt8 := dkwX15_is_0 ++ dktX15_is_1
theorem dksX15_is_0 : cX15_is.data.toList.drop 0 = dktX15_is_0 := by decide +kernel
theorem dksX15_is_1 : cX15_is.data.toList.drop 23 = dktX15_is_1 := dk_seg dksX15_is_0 23 rfl rfl
theorem dksX15_is_2 : cX15_is.data.toList.drop 47 = dktX15_is_2 := dk_seg dksX15_is_1 24 rfl rfl
theorem dksX15_is_3 : cX15_is.data.toList.drop 70 = dktX15_is_3 := dk_seg dksX15_is_2 23 rfl rfl
theorem dX15_is_0 : decode cX15_is 0 = .ok (.aload_n 0, 1) := dk_42 (dk_at dksX15_is_0 0 rfl rfl)
theorem dX15_is_1 : decode cX15_is 1 = .ok (.getfield 7, 3) := dk_180 0 7 (dk_at dksX15_is_0 1 rfl rfl)
theorem dX15_is_4 : decode cX15_is 4 = .ok (.aload_n 1, 1) := dk_43 (dk_at dksX15_is_0 4 rfl rfl)
theorem dX15_is_5 : decode cX15_is 5 = .ok (.invokevirtual 24, 3) := dk_182 0 24 (dk_at dksX15_is_0 5 rfl rfl)
theorem dX15_is_8 : decode cX15_is 8 = .ok (.lstore_n 2, 1) := dk_65 (dk_at dksX15_is_0 8 rfl rfl)
theorem dX15_is_9 : decode cX15_is 9 = .ok (.aload_n 0, 1) := dk_42 (dk_at dksX15_is_0 9 rfl rfl)
theorem dX15_is_10 : decode cX15_is 10 = .ok (.getfield 13, 3) := dk_180 0 13 (dk_at dksX15_is_0 10 rfl rfl)
theorem dX15_is_13 : decode cX15_is 13 = .ok (.aload_n 1, 1) := dk_43 (dk_at dksX15_is_0 13 rfl rfl)
theorem dX15_is_14 : decode cX15_is 14 = .ok (.invokevirtual 24, 3) := dk_182 0 24 (dk_at dksX15_is_0 14 rfl rfl)
theorem dX15_is_17 : decode cX15_is 17 = .ok (.lstore 4, 2) := dk_55 4 (dk_at dksX15_is_0 17 rfl rfl)
theorem dX15_is_19 : decode cX15_is 19 = .ok (.lload_n 2, 1) := dk_32 (dk_at dksX15_is_0 19 rfl rfl)
theorem dX15_is_20 : decode cX15_is 20 = .ok (.lload 4, 2) := dk_22 4 (dk_at dksX15_is_0 20 rfl rfl)
theorem dX15_is_22 : decode cX15_is 22 = .ok (.lcmp, 1) := dk_148 (dk_at dksX15_is_0 22 rfl rfl)
theorem dX15_is_23 : decode cX15_is 23 = .ok (.ifCond .ne 27, 3) := dk_154 0 27 (dk_at dksX15_is_1 0 rfl rfl)
theorem dX15_is_26 : decode cX15_is 26 = .ok (.aload_n 0, 1) := dk_42 (dk_at dksX15_is_1 3 rfl rfl)
theorem dX15_is_27 : decode cX15_is 27 = .ok (.getfield 16, 3) := dk_180 0 16 (dk_at dksX15_is_1 4 rfl rfl)
theorem dX15_is_30 : decode cX15_is 30 = .ok (.bipush 61, 2) := dk_16 61 (dk_at dksX15_is_1 7 rfl rfl)
theorem dX15_is_32 : decode cX15_is 32 = .ok (.if_icmp .eq 10, 3) := dk_159 0 10 (dk_at dksX15_is_1 9 rfl rfl)
theorem dX15_is_35 : decode cX15_is 35 = .ok (.aload_n 0, 1) := dk_42 (dk_at dksX15_is_1 12 rfl rfl)
theorem dX15_is_36 : decode cX15_is 36 = .ok (.getfield 20, 3) := dk_180 0 20 (dk_at dksX15_is_1 13 rfl rfl)
theorem dX15_is_39 : decode cX15_is 39 = .ok (.ifCond .eq 7, 3) := dk_153 0 7 (dk_at dksX15_is_1 16 rfl rfl)
theorem dX15_is_42 : decode cX15_is 42 = .ok (.iconst 1, 1) := dk_4 (dk_at dksX15_is_1 19 rfl rfl)
theorem dX15_is_43 : decode cX15_is 43 = .ok (.goto 44, 3) := dk_167 0 44 (dk_at dksX15_is_1 20 rfl rfl)
theorem dX15_is_46 : decode cX15_is 46 = .ok (.iconst 0, 1) := dk_3 (dk_at dksX15_is_1 23 rfl rfl)
theorem dX15_is_47 : decode cX15_is 47 = .ok (.goto 40, 3) := dk_167 0 40 (dk_at dksX15_is_2 0 rfl rfl)
theorem dX15_is_50 : decode cX15_is 50 = .ok (.aload_n 0, 1) := dk_42 (dk_at dksX15_is_2 3 rfl rfl)
theorem dX15_is_51 : decode cX15_is 51 = .ok (.getfield 16, 3) := dk_180 0 16 (dk_at dksX15_is_2 4 rfl rfl)
theorem dX15_is_54 : decode cX15_is 54 = .ok (.bipush 60, 2) := dk_16 60 (dk_at dksX15_is_2 7 rfl rfl)
theorem dX15_is_56 : decode cX15_is 56 = .ok (.if_icmp .ne 10, 3) := dk_160 0 10 (dk_at dksX15_is_2 9 rfl rfl)
theorem dX15_is_59 : decode cX15_is 59 = .ok (.lload_n 2, 1) := dk_32 (dk_at dksX15_is_2 12 rfl rfl)
theorem dX15_is_60 : decode cX15_is 60 = .ok (.lload 4, 2) := dk_22 4 (dk_at dksX15_is_2 13 rfl rfl)
theorem dX15_is_62 : decode cX15_is 62 = .ok (.lcmp, 1) := dk_148 (dk_at dksX15_is_2 15 rfl rfl)
theorem dX15_is_63 : decode cX15_is 63 = .ok (.ifCond .lt 19, 3) := dk_155 0 19 (dk_at dksX15_is_2 16 rfl rfl)
theorem dX15_is_66 : decode cX15_is 66 = .ok (.aload_n 0, 1) := dk_42 (dk_at dksX15_is_2 19 rfl rfl)
theorem dX15_is_67 : decode cX15_is 67 = .ok (.getfield 16, 3) := dk_180 0 16 (dk_at dksX15_is_2 20 rfl rfl)
theorem dX15_is_70 : decode cX15_is 70 = .ok (.bipush 62, 2) := dk_16 62 (dk_at dksX15_is_3 0 rfl rfl)
theorem dX15_is_72 : decode cX15_is 72 = .ok (.if_icmp .ne 14, 3) := dk_160 0 14 (dk_at dksX15_is_3 2 rfl rfl)
theorem dX15_is_75 : decode cX15_is 75 = .ok (.lload_n 2, 1) := dk_32 (dk_at dksX15_is_3 5 rfl rfl)
theorem dX15_is_76 : decode cX15_is 76 = .ok (.lload 4, 2) := dk_22 4 (dk_at dksX15_is_3 6 rfl rfl)
theorem dX15_is_78 : decode cX15_is 78 = .ok (.lcmp, 1) := dk_148 (dk_at dksX15_is_3 8 rfl rfl)
theorem dX15_is_79 : decode cX15_is 79 = .ok (.ifCond .le 7, 3) := dk_158 0 7 (dk_at dksX15_is_3 9 rfl rfl)
theorem dX15_is_82 : decode cX15_is 82 = .ok (.iconst 1, 1) := dk_4 (dk_at dksX15_is_3 12 rfl rfl)
theorem dX15_is_83 : decode cX15_is 83 = .ok (.goto 4, 3) := dk_167 0 4 (dk_at dksX15_is_3 13 rfl rfl)
theorem dX15_is_86 : decode cX15_is 86 = .ok (.iconst 0, 1) := dk_3 (dk_at dksX15_is_3 16 rfl rfl)
theorem dX15_is_87 : decode cX15_is 87 = .ok (.ireturn, 1) := dk_172 (dk_at dksX15_is_3 17 rfl rfl)
theorem q163 : (Jvm.Cond.initialized "SweptSnow$Compared") ∈ lw_all := lw_g (lw_at lw_m1 34 rfl) rfl
theorem q645 : (Jvm.Cond.selects "SweptSnow$Compared" ({ cls := "java/lang/Object", name := "getClass", desc := "()Ljava/lang/Class;" } : Jvm.MethodName) ({ cls := "java/lang/Object", name := "getClass", desc := "()Ljava/lang/Class;" } : Jvm.MethodName)) ∈ lw_all := lw_g (lw_at lw_m3 36 rfl) rfl
theorem q867 : (Jvm.Cond.instantiable "SweptSnow$Compared" (4 : Nat)) ∈ lw_all := lw_g (lw_at lw_m4 18 rfl) rfl
theorem q869 : (Jvm.Cond.instanceMethod ({ cls := "SweptSnow$Compared", name := "<init>", desc := "(LSweptSnow$Value;LSweptSnow$Value;IZ)V" } : Jvm.MethodName)) ∈ lw_all := lw_g (lw_at lw_m4 20 rfl) rfl
theorem q870 : (Jvm.Cond.code ({ cls := "SweptSnow$Compared", name := "<init>", desc := "(LSweptSnow$Value;LSweptSnow$Value;IZ)V" } : Jvm.MethodName) prog_4_method_1_code (5 : Nat) (Option.none : Option Jvm.ClassFile.FieldType)) ∈ lw_all := lw_g (lw_at lw_m4 21 rfl) rfl
theorem q871 : (Jvm.Cond.methodLinkNest "SweptSnow$Compared" (1 : Nat) ({ cls := "SweptSnow$Condition", name := "<init>", desc := "()V" } : Jvm.MethodName) "SweptSnow") ∈ lw_tbl := lw_at lw_m4 22 rfl
theorem q872 : (Jvm.Cond.fieldLink "SweptSnow$Compared" (7 : Nat) "SweptSnow$Compared" "a" "LSweptSnow$Value;") ∈ lw_all := lw_g (lw_at lw_m4 23 rfl) rfl
theorem q873 : (Jvm.Cond.fieldLink "SweptSnow$Compared" (13 : Nat) "SweptSnow$Compared" "b" "LSweptSnow$Value;") ∈ lw_all := lw_g (lw_at lw_m4 24 rfl) rfl
theorem q874 : (Jvm.Cond.fieldLink "SweptSnow$Compared" (16 : Nat) "SweptSnow$Compared" "sign" "I") ∈ lw_all := lw_g (lw_at lw_m4 25 rfl) rfl
theorem q875 : (Jvm.Cond.fieldLink "SweptSnow$Compared" (20 : Nat) "SweptSnow$Compared" "same" "Z") ∈ lw_all := lw_g (lw_at lw_m4 26 rfl) rfl
theorem q876 : (Jvm.Cond.laysFinal "SweptSnow$Compared" "SweptSnow$Compared" "a" "LSweptSnow$Value;") ∈ lw_all := lw_g (lw_at lw_m4 27 rfl) rfl
theorem q877 : (Jvm.Cond.soleField "SweptSnow$Compared" "a") ∈ lw_all := lw_g (lw_at lw_m4 28 rfl) rfl
theorem q878 : (Jvm.Cond.laysFinal "SweptSnow$Compared" "SweptSnow$Compared" "b" "LSweptSnow$Value;") ∈ lw_all := lw_g (lw_at lw_m4 29 rfl) rfl
theorem q879 : (Jvm.Cond.soleField "SweptSnow$Compared" "b") ∈ lw_all := lw_g (lw_at lw_m4 30 rfl) rfl
theorem q880 : (Jvm.Cond.laysFinal "SweptSnow$Compared" "SweptSnow$Compared" "sign" "I") ∈ lw_all := lw_g (lw_at lw_m4 31 rfl) rfl
theorem q881 : (Jvm.Cond.soleField "SweptSnow$Compared" "sign") ∈ lw_all := lw_g (lw_at lw_m4 32 rfl) rfl
theorem q882 : (Jvm.Cond.laysFinal "SweptSnow$Compared" "SweptSnow$Compared" "same" "Z") ∈ lw_all := lw_g (lw_at lw_m4 33 rfl) rfl
theorem q883 : (Jvm.Cond.soleField "SweptSnow$Compared" "same") ∈ lw_all := lw_g (lw_at lw_m4 34 rfl) rfl
theorem q884 : (Jvm.Cond.superclass "SweptSnow$Compared" "SweptSnow$Condition") ∈ lw_all := lw_g (lw_at lw_m4 35 rfl) rfl
theorem q1021 : (Jvm.Cond.instanceMethod ({ cls := "SweptSnow$Compared", name := "is", desc := "([J)Z" } : Jvm.MethodName)) ∈ lw_all := lw_g (lw_at lw_m4 172 rfl) rfl
theorem q1022 : (Jvm.Cond.code ({ cls := "SweptSnow$Compared", name := "is", desc := "([J)Z" } : Jvm.MethodName) prog_4_method_2_code (6 : Nat) (Option.some Jvm.ClassFile.FieldType.boolean)) ∈ lw_all := lw_g (lw_at lw_m4 173 rfl) rfl
theorem q1023 : (Jvm.Cond.methodLink "SweptSnow$Compared" (24 : Nat) ({ cls := "SweptSnow$Value", name := "of", desc := "([J)J" } : Jvm.MethodName)) ∈ lw_all := lw_g (lw_at lw_m4 174 rfl) rfl
theorem q1039 : (Jvm.Cond.selects "SweptSnow$Compared" ({ cls := "SweptSnow$Condition", name := "is", desc := "([J)Z" } : Jvm.MethodName) ({ cls := "SweptSnow$Compared", name := "is", desc := "([J)Z" } : Jvm.MethodName)) ∈ lw_all := lw_g (lw_at lw_m4 190 rfl) rfl
theorem q1902 : (Jvm.Cond.castable "SweptSnow$Compared" "java/lang/Object") ∈ lw_tbl := lw_at lw_m8 93 rfl
theorem in_X15 : ∀ w ∈ wsX150, w ∈ lw_all := lw_in wsX150 [876, 878, 880, 882] (by decide +kernel) (by decide +kernel)

/-! SweptSnow$Both -/
set_option maxRecDepth 100000
def RX16 : String := "SweptSnow$Both"
def TX16 : u_T := fun k => match k with
  | 0 => ("SweptSnow$Both", "a", "LSweptSnow$Condition;", true)
  | 1 => ("SweptSnow$Both", "b", "LSweptSnow$Condition;", true)
  | _ => ("SweptSnow$Both", "or", "Z", true)
def tyX16 : Nat → FieldType := fun k => match k with
  | 0 => .object "SweptSnow$Condition"
  | 1 => .object "SweptSnow$Condition"
  | _ => .boolean
abbrev wsX160 : List Cond := u_ws RX16 TX16 3
theorem nmX16 : ∀ a, a < 3 → ∀ b, b < 3 → a ≠ b → (TX16 a).2.1 ≠ (TX16 b).2.1 := by decide +kernel
theorem tyX16_ok : ∀ k, k < 3 → parseFieldDescriptor (TX16 k).2.2.1 = some (tyX16 k) := by decide +kernel
abbrev cX16_init : ByteArray := prog_3_method_1_code
def yX16_init : MethodName := ⟨RX16, "<init>", "(LSweptSnow$Condition;LSweptSnow$Condition;Z)V"⟩
def dkwX16_init_0 : List UInt8 := [42, 183, 0, 1, 42, 43, 181, 0, 7, 42, 44, 181, 0, 13, 42, 29, 181, 0, 16, 177]
abbrev dktX16_init_0 : List UInt8 := dkwX16_init_0 ++ []
theorem dksX16_init_0 : cX16_init.data.toList.drop 0 = dktX16_init_0 := by decide +kernel
theorem dX16_init_0 : decode cX16_init 0 = .ok (.aload_n 0, 1) := dk_42 (dk_at dksX16_init_0 0 rfl rfl)
theorem dX16_init_1 : decode cX16_init 1 = .ok (.invokespecial 1, 3) := dk_183 0 1 (dk_at dksX16_init_0 1 rfl rfl)
theorem dX16_init_4 : decode cX16_init 4 = .ok (.aload_n 0, 1) := dk_42 (dk_at dksX16_init_0 4 rfl rfl)
theorem dX16_init_5 : decode cX16_init 5 = .ok (.aload_n 1, 1) := dk_43 (dk_at dksX16_init_0 5 rfl rfl)
theorem dX16_init_6 : decode cX16_init 6 = .ok (.putfield 7, 3) := dk_181 0 7 (dk_at dksX16_init_0 6 rfl rfl)
theorem dX16_init_9 : decode cX16_init 9 = .ok (.aload_n 0, 1) := dk_42 (dk_at dksX16_init_0 9 rfl rfl)
theorem dX16_init_10 : decode cX16_init 10 = .ok (.aload_n 2, 1) := dk_44 (dk_at dksX16_init_0 10 rfl rfl)
theorem dX16_init_11 : decode cX16_init 11 = .ok (.putfield 13, 3) := dk_181 0 13 (dk_at dksX16_init_0 11 rfl rfl)
theorem dX16_init_14 : decode cX16_init 14 = .ok (.aload_n 0, 1) := dk_42 (dk_at dksX16_init_0 14 rfl rfl)
theorem dX16_init_15 : decode cX16_init 15 = .ok (.iload_n 3, 1) := dk_29 (dk_at dksX16_init_0 15 rfl rfl)
theorem dX16_init_16 : decode cX16_init 16 = .ok (.putfield 16, 3) := dk_181 0 16 (dk_at dksX16_init_0 16 rfl rfl)
theorem dX16_init_19 : decode cX16_init 19 = .ok (.return_, 1) := dk_177 (dk_at dksX16_init_0 19 rfl rfl)
abbrev cX16_is : ByteArray := prog_3_method_2_code
def yX16_is : MethodName := ⟨RX16, "is", "([J)Z"⟩
def dkwX16_is_2 : List UInt8 := [153, 0, 18, 42, 180, 0, 13, 43, 182, 0, 20, 153, 0, 7, 4, 167, 0, 4, 3, 172]
abbrev dktX16_is_2 : List UInt8 := dkwX16_is_2 ++ []
def dkwX16_is_1 : List UInt8 := [182, 0, 20, 153, 0, 7, 4, 167, 0, 34, 3, 167, 0, 30, 42, 180, 0, 7, 43, 182, 0, 20]
abbrev dktX16_is_1 : List UInt8 := dkwX16_is_1 ++ dktX16_is_2
def dkwX16_is_0 : List UInt8 := [42, 180, 0, 16, 153, 0, 33, 42, 180, 0, 7, 43, 182, 0, 20, 154, 0, 14, 42, 180, 0, 13, 43]
abbrev dktX16_is_0 : List UInt8 := dkwX16_is_0 ++ dktX16_is_1
theorem dksX16_is_0 : cX16_is.data.toList.drop 0 = dktX16_is_0 := by decide +kernel
theorem dksX16_is_1 : cX16_is.data.toList.drop 23 = dktX16_is_1 := dk_seg dksX16_is_0 23 rfl rfl
theorem dksX16_is_2 : cX16_is.data.toList.drop 45 = dktX16_is_2 := dk_seg dksX16_is_1 22 rfl rfl
theorem dX16_is_0 : decode cX16_is 0 = .ok (.aload_n 0, 1) := dk_42 (dk_at dksX16_is_0 0 rfl rfl)
theorem dX16_is_1 : decode cX16_is 1 = .ok (.getfield 16, 3) := dk_180 0 16 (dk_at dksX16_is_0 1 rfl rfl)
theorem dX16_is_4 : decode cX16_is 4 = .ok (.ifCond .eq 33, 3) := dk_153 0 33 (dk_at dksX16_is_0 4 rfl rfl)
theorem dX16_is_7 : decode cX16_is 7 = .ok (.aload_n 0, 1) := dk_42 (dk_at dksX16_is_0 7 rfl rfl)
theorem dX16_is_8 : decode cX16_is 8 = .ok (.getfield 7, 3) := dk_180 0 7 (dk_at dksX16_is_0 8 rfl rfl)
theorem dX16_is_11 : decode cX16_is 11 = .ok (.aload_n 1, 1) := dk_43 (dk_at dksX16_is_0 11 rfl rfl)
theorem dX16_is_12 : decode cX16_is 12 = .ok (.invokevirtual 20, 3) := dk_182 0 20 (dk_at dksX16_is_0 12 rfl rfl)
theorem dX16_is_15 : decode cX16_is 15 = .ok (.ifCond .ne 14, 3) := dk_154 0 14 (dk_at dksX16_is_0 15 rfl rfl)
theorem dX16_is_18 : decode cX16_is 18 = .ok (.aload_n 0, 1) := dk_42 (dk_at dksX16_is_0 18 rfl rfl)
theorem dX16_is_19 : decode cX16_is 19 = .ok (.getfield 13, 3) := dk_180 0 13 (dk_at dksX16_is_0 19 rfl rfl)
theorem dX16_is_22 : decode cX16_is 22 = .ok (.aload_n 1, 1) := dk_43 (dk_at dksX16_is_0 22 rfl rfl)
theorem dX16_is_23 : decode cX16_is 23 = .ok (.invokevirtual 20, 3) := dk_182 0 20 (dk_at dksX16_is_1 0 rfl rfl)
theorem dX16_is_26 : decode cX16_is 26 = .ok (.ifCond .eq 7, 3) := dk_153 0 7 (dk_at dksX16_is_1 3 rfl rfl)
theorem dX16_is_29 : decode cX16_is 29 = .ok (.iconst 1, 1) := dk_4 (dk_at dksX16_is_1 6 rfl rfl)
theorem dX16_is_30 : decode cX16_is 30 = .ok (.goto 34, 3) := dk_167 0 34 (dk_at dksX16_is_1 7 rfl rfl)
theorem dX16_is_33 : decode cX16_is 33 = .ok (.iconst 0, 1) := dk_3 (dk_at dksX16_is_1 10 rfl rfl)
theorem dX16_is_34 : decode cX16_is 34 = .ok (.goto 30, 3) := dk_167 0 30 (dk_at dksX16_is_1 11 rfl rfl)
theorem dX16_is_37 : decode cX16_is 37 = .ok (.aload_n 0, 1) := dk_42 (dk_at dksX16_is_1 14 rfl rfl)
theorem dX16_is_38 : decode cX16_is 38 = .ok (.getfield 7, 3) := dk_180 0 7 (dk_at dksX16_is_1 15 rfl rfl)
theorem dX16_is_41 : decode cX16_is 41 = .ok (.aload_n 1, 1) := dk_43 (dk_at dksX16_is_1 18 rfl rfl)
theorem dX16_is_42 : decode cX16_is 42 = .ok (.invokevirtual 20, 3) := dk_182 0 20 (dk_at dksX16_is_1 19 rfl rfl)
theorem dX16_is_45 : decode cX16_is 45 = .ok (.ifCond .eq 18, 3) := dk_153 0 18 (dk_at dksX16_is_2 0 rfl rfl)
theorem dX16_is_48 : decode cX16_is 48 = .ok (.aload_n 0, 1) := dk_42 (dk_at dksX16_is_2 3 rfl rfl)
theorem dX16_is_49 : decode cX16_is 49 = .ok (.getfield 13, 3) := dk_180 0 13 (dk_at dksX16_is_2 4 rfl rfl)
theorem dX16_is_52 : decode cX16_is 52 = .ok (.aload_n 1, 1) := dk_43 (dk_at dksX16_is_2 7 rfl rfl)
theorem dX16_is_53 : decode cX16_is 53 = .ok (.invokevirtual 20, 3) := dk_182 0 20 (dk_at dksX16_is_2 8 rfl rfl)
theorem dX16_is_56 : decode cX16_is 56 = .ok (.ifCond .eq 7, 3) := dk_153 0 7 (dk_at dksX16_is_2 11 rfl rfl)
theorem dX16_is_59 : decode cX16_is 59 = .ok (.iconst 1, 1) := dk_4 (dk_at dksX16_is_2 14 rfl rfl)
theorem dX16_is_60 : decode cX16_is 60 = .ok (.goto 4, 3) := dk_167 0 4 (dk_at dksX16_is_2 15 rfl rfl)
theorem dX16_is_63 : decode cX16_is 63 = .ok (.iconst 0, 1) := dk_3 (dk_at dksX16_is_2 18 rfl rfl)
theorem dX16_is_64 : decode cX16_is 64 = .ok (.ireturn, 1) := dk_172 (dk_at dksX16_is_2 19 rfl rfl)
theorem q164 : (Jvm.Cond.initialized "SweptSnow$Both") ∈ lw_all := lw_g (lw_at lw_m1 35 rfl) rfl
theorem q644 : (Jvm.Cond.selects "SweptSnow$Both" ({ cls := "java/lang/Object", name := "getClass", desc := "()Ljava/lang/Class;" } : Jvm.MethodName) ({ cls := "java/lang/Object", name := "getClass", desc := "()Ljava/lang/Class;" } : Jvm.MethodName)) ∈ lw_all := lw_g (lw_at lw_m3 35 rfl) rfl
theorem q887 : (Jvm.Cond.instantiable "SweptSnow$Both" (3 : Nat)) ∈ lw_all := lw_g (lw_at lw_m4 38 rfl) rfl
theorem q889 : (Jvm.Cond.instanceMethod ({ cls := "SweptSnow$Both", name := "<init>", desc := "(LSweptSnow$Condition;LSweptSnow$Condition;Z)V" } : Jvm.MethodName)) ∈ lw_all := lw_g (lw_at lw_m4 40 rfl) rfl
theorem q890 : (Jvm.Cond.code ({ cls := "SweptSnow$Both", name := "<init>", desc := "(LSweptSnow$Condition;LSweptSnow$Condition;Z)V" } : Jvm.MethodName) prog_3_method_1_code (4 : Nat) (Option.none : Option Jvm.ClassFile.FieldType)) ∈ lw_all := lw_g (lw_at lw_m4 41 rfl) rfl
theorem q891 : (Jvm.Cond.methodLinkNest "SweptSnow$Both" (1 : Nat) ({ cls := "SweptSnow$Condition", name := "<init>", desc := "()V" } : Jvm.MethodName) "SweptSnow") ∈ lw_tbl := lw_at lw_m4 42 rfl
theorem q892 : (Jvm.Cond.fieldLink "SweptSnow$Both" (7 : Nat) "SweptSnow$Both" "a" "LSweptSnow$Condition;") ∈ lw_all := lw_g (lw_at lw_m4 43 rfl) rfl
theorem q893 : (Jvm.Cond.fieldLink "SweptSnow$Both" (13 : Nat) "SweptSnow$Both" "b" "LSweptSnow$Condition;") ∈ lw_all := lw_g (lw_at lw_m4 44 rfl) rfl
theorem q894 : (Jvm.Cond.fieldLink "SweptSnow$Both" (16 : Nat) "SweptSnow$Both" "or" "Z") ∈ lw_all := lw_g (lw_at lw_m4 45 rfl) rfl
theorem q895 : (Jvm.Cond.laysFinal "SweptSnow$Both" "SweptSnow$Both" "a" "LSweptSnow$Condition;") ∈ lw_all := lw_g (lw_at lw_m4 46 rfl) rfl
theorem q896 : (Jvm.Cond.soleField "SweptSnow$Both" "a") ∈ lw_all := lw_g (lw_at lw_m4 47 rfl) rfl
theorem q897 : (Jvm.Cond.laysFinal "SweptSnow$Both" "SweptSnow$Both" "b" "LSweptSnow$Condition;") ∈ lw_all := lw_g (lw_at lw_m4 48 rfl) rfl
theorem q898 : (Jvm.Cond.soleField "SweptSnow$Both" "b") ∈ lw_all := lw_g (lw_at lw_m4 49 rfl) rfl
theorem q899 : (Jvm.Cond.laysFinal "SweptSnow$Both" "SweptSnow$Both" "or" "Z") ∈ lw_all := lw_g (lw_at lw_m4 50 rfl) rfl
theorem q900 : (Jvm.Cond.soleField "SweptSnow$Both" "or") ∈ lw_all := lw_g (lw_at lw_m4 51 rfl) rfl
theorem q901 : (Jvm.Cond.superclass "SweptSnow$Both" "SweptSnow$Condition") ∈ lw_all := lw_g (lw_at lw_m4 52 rfl) rfl
theorem q1017 : (Jvm.Cond.selects "SweptSnow$Both" ({ cls := "SweptSnow$Condition", name := "is", desc := "([J)Z" } : Jvm.MethodName) ({ cls := "SweptSnow$Both", name := "is", desc := "([J)Z" } : Jvm.MethodName)) ∈ lw_all := lw_g (lw_at lw_m4 168 rfl) rfl
theorem q1018 : (Jvm.Cond.instanceMethod ({ cls := "SweptSnow$Both", name := "is", desc := "([J)Z" } : Jvm.MethodName)) ∈ lw_all := lw_g (lw_at lw_m4 169 rfl) rfl
theorem q1019 : (Jvm.Cond.code ({ cls := "SweptSnow$Both", name := "is", desc := "([J)Z" } : Jvm.MethodName) prog_3_method_2_code (2 : Nat) (Option.some Jvm.ClassFile.FieldType.boolean)) ∈ lw_all := lw_g (lw_at lw_m4 170 rfl) rfl
theorem q1020 : (Jvm.Cond.methodLink "SweptSnow$Both" (20 : Nat) ({ cls := "SweptSnow$Condition", name := "is", desc := "([J)Z" } : Jvm.MethodName)) ∈ lw_all := lw_g (lw_at lw_m4 171 rfl) rfl
theorem q1903 : (Jvm.Cond.castable "SweptSnow$Both" "java/lang/Object") ∈ lw_tbl := lw_at lw_m8 94 rfl
theorem in_X16 : ∀ w ∈ wsX160, w ∈ lw_all := lw_in wsX160 [895, 897, 899] (by decide +kernel) (by decide +kernel)

/-! SweptSnow$Image -/
set_option maxRecDepth 100000
def RX17 : String := "SweptSnow$Image"
def TX17 : u_T := fun k => match k with
  | 0 => ("SweptSnow$Image", "its", "LSweptSnow$Valley;", false)
  | 1 => ("SweptSnow$Image", "stood", "LSweptSnow$State;", true)
  | 2 => ("SweptSnow$Image", "when", "[I", true)
  | 3 => ("SweptSnow$Image", "step", "[I", true)
  | 4 => ("SweptSnow$Image", "snow", "[I", true)
  | 5 => ("SweptSnow$Image", "many", "I", false)
  | 6 => ("SweptSnow$Image", "force", "I", false)
  | 7 => ("SweptSnow$Image", "x", "I", false)
  | _ => ("SweptSnow$Image", "this$0", "LSweptSnow;", true)
def tyX17 : Nat → FieldType := fun k => match k with
  | 0 => .object "SweptSnow$Valley"
  | 1 => .object "SweptSnow$State"
  | 2 => .array .int
  | 3 => .array .int
  | 4 => .array .int
  | 5 => .int
  | 6 => .int
  | 7 => .int
  | _ => .object "SweptSnow"
abbrev wsX170 : List Cond := u_ws RX17 TX17 9
theorem nmX17 : ∀ a, a < 9 → ∀ b, b < 9 → a ≠ b → (TX17 a).2.1 ≠ (TX17 b).2.1 := by decide +kernel
theorem tyX17_ok : ∀ k, k < 9 → parseFieldDescriptor (TX17 k).2.2.1 = some (tyX17 k) := by decide +kernel
abbrev cX17_init : ByteArray := prog_7_method_1_code
def yX17_init : MethodName := ⟨RX17, "<init>", "(LSweptSnow;)V"⟩
def dkwX17_init_1 : List UInt8 := [188, 10, 181, 0, 22, 42, 16, 10, 188, 10, 181, 0, 26, 42, 16, 10, 188, 10, 181, 0, 29, 177]
abbrev dktX17_init_1 : List UInt8 := dkwX17_init_1 ++ []
def dkwX17_init_0 : List UInt8 := [42, 43, 181, 0, 3, 42, 183, 0, 9, 42, 187, 0, 15, 89, 183, 0, 17, 181, 0, 18, 42, 16, 10]
abbrev dktX17_init_0 : List UInt8 := dkwX17_init_0 ++ dktX17_init_1
theorem dksX17_init_0 : cX17_init.data.toList.drop 0 = dktX17_init_0 := by decide +kernel
theorem dksX17_init_1 : cX17_init.data.toList.drop 23 = dktX17_init_1 := dk_seg dksX17_init_0 23 rfl rfl
theorem dX17_init_0 : decode cX17_init 0 = .ok (.aload_n 0, 1) := dk_42 (dk_at dksX17_init_0 0 rfl rfl)
theorem dX17_init_1 : decode cX17_init 1 = .ok (.aload_n 1, 1) := dk_43 (dk_at dksX17_init_0 1 rfl rfl)
theorem dX17_init_2 : decode cX17_init 2 = .ok (.putfield 3, 3) := dk_181 0 3 (dk_at dksX17_init_0 2 rfl rfl)
theorem dX17_init_5 : decode cX17_init 5 = .ok (.aload_n 0, 1) := dk_42 (dk_at dksX17_init_0 5 rfl rfl)
theorem dX17_init_6 : decode cX17_init 6 = .ok (.invokespecial 9, 3) := dk_183 0 9 (dk_at dksX17_init_0 6 rfl rfl)
theorem dX17_init_9 : decode cX17_init 9 = .ok (.aload_n 0, 1) := dk_42 (dk_at dksX17_init_0 9 rfl rfl)
theorem dX17_init_10 : decode cX17_init 10 = .ok (.new 15, 3) := dk_187 0 15 (dk_at dksX17_init_0 10 rfl rfl)
theorem dX17_init_13 : decode cX17_init 13 = .ok (.dup, 1) := dk_89 (dk_at dksX17_init_0 13 rfl rfl)
theorem dX17_init_14 : decode cX17_init 14 = .ok (.invokespecial 17, 3) := dk_183 0 17 (dk_at dksX17_init_0 14 rfl rfl)
theorem dX17_init_17 : decode cX17_init 17 = .ok (.putfield 18, 3) := dk_181 0 18 (dk_at dksX17_init_0 17 rfl rfl)
theorem dX17_init_20 : decode cX17_init 20 = .ok (.aload_n 0, 1) := dk_42 (dk_at dksX17_init_0 20 rfl rfl)
theorem dX17_init_21 : decode cX17_init 21 = .ok (.bipush 10, 2) := dk_16 10 (dk_at dksX17_init_0 21 rfl rfl)
theorem dX17_init_23 : decode cX17_init 23 = .ok (.newarray .int, 2) := dk_188_10 (dk_at dksX17_init_1 0 rfl rfl)
theorem dX17_init_25 : decode cX17_init 25 = .ok (.putfield 22, 3) := dk_181 0 22 (dk_at dksX17_init_1 2 rfl rfl)
theorem dX17_init_28 : decode cX17_init 28 = .ok (.aload_n 0, 1) := dk_42 (dk_at dksX17_init_1 5 rfl rfl)
theorem dX17_init_29 : decode cX17_init 29 = .ok (.bipush 10, 2) := dk_16 10 (dk_at dksX17_init_1 6 rfl rfl)
theorem dX17_init_31 : decode cX17_init 31 = .ok (.newarray .int, 2) := dk_188_10 (dk_at dksX17_init_1 8 rfl rfl)
theorem dX17_init_33 : decode cX17_init 33 = .ok (.putfield 26, 3) := dk_181 0 26 (dk_at dksX17_init_1 10 rfl rfl)
theorem dX17_init_36 : decode cX17_init 36 = .ok (.aload_n 0, 1) := dk_42 (dk_at dksX17_init_1 13 rfl rfl)
theorem dX17_init_37 : decode cX17_init 37 = .ok (.bipush 10, 2) := dk_16 10 (dk_at dksX17_init_1 14 rfl rfl)
theorem dX17_init_39 : decode cX17_init 39 = .ok (.newarray .int, 2) := dk_188_10 (dk_at dksX17_init_1 16 rfl rfl)
theorem dX17_init_41 : decode cX17_init 41 = .ok (.putfield 29, 3) := dk_181 0 29 (dk_at dksX17_init_1 18 rfl rfl)
theorem dX17_init_44 : decode cX17_init 44 = .ok (.return_, 1) := dk_177 (dk_at dksX17_init_1 21 rfl rfl)
abbrev cX17_keep : ByteArray := prog_7_method_2_code
def yX17_keep : MethodName := ⟨RX17, "keep", "()V"⟩
def dkwX17_keep_5 : List UInt8 := [181, 0, 71, 177]
abbrev dktX17_keep_5 : List UInt8 := dkwX17_keep_5 ++ []
def dkwX17_keep_4 : List UInt8 := [181, 0, 59, 42, 42, 180, 0, 3, 180, 0, 62, 181, 0, 65, 42, 42, 180, 0, 3, 180, 0, 68]
abbrev dktX17_keep_4 : List UInt8 := dkwX17_keep_4 ++ dktX17_keep_5
def dkwX17_keep_3 : List UInt8 := [180, 0, 3, 180, 0, 52, 27, 46, 79, 132, 1, 1, 167, 255, 202, 42, 42, 180, 0, 3, 180, 0, 55]
abbrev dktX17_keep_3 : List UInt8 := dkwX17_keep_3 ++ dktX17_keep_4
def dkwX17_keep_2 : List UInt8 := [46, 79, 42, 180, 0, 26, 27, 42, 180, 0, 3, 180, 0, 49, 27, 46, 79, 42, 180, 0, 29, 27, 42]
abbrev dktX17_keep_2 : List UInt8 := dkwX17_keep_2 ++ dktX17_keep_3
def dkwX17_keep_1 : List UInt8 := [182, 0, 42, 3, 60, 27, 16, 10, 162, 0, 54, 42, 180, 0, 22, 27, 42, 180, 0, 3, 180, 0, 46, 27]
abbrev dktX17_keep_1 : List UInt8 := dkwX17_keep_1 ++ dktX17_keep_2
def dkwX17_keep_0 : List UInt8 := [42, 42, 180, 0, 3, 180, 0, 32, 181, 0, 36, 42, 180, 0, 18, 42, 180, 0, 3, 180, 0, 39]
abbrev dktX17_keep_0 : List UInt8 := dkwX17_keep_0 ++ dktX17_keep_1
theorem dksX17_keep_0 : cX17_keep.data.toList.drop 0 = dktX17_keep_0 := by decide +kernel
theorem dksX17_keep_1 : cX17_keep.data.toList.drop 22 = dktX17_keep_1 := dk_seg dksX17_keep_0 22 rfl rfl
theorem dksX17_keep_2 : cX17_keep.data.toList.drop 46 = dktX17_keep_2 := dk_seg dksX17_keep_1 24 rfl rfl
theorem dksX17_keep_3 : cX17_keep.data.toList.drop 69 = dktX17_keep_3 := dk_seg dksX17_keep_2 23 rfl rfl
theorem dksX17_keep_4 : cX17_keep.data.toList.drop 92 = dktX17_keep_4 := dk_seg dksX17_keep_3 23 rfl rfl
theorem dksX17_keep_5 : cX17_keep.data.toList.drop 114 = dktX17_keep_5 := dk_seg dksX17_keep_4 22 rfl rfl
theorem dX17_keep_0 : decode cX17_keep 0 = .ok (.aload_n 0, 1) := dk_42 (dk_at dksX17_keep_0 0 rfl rfl)
theorem dX17_keep_1 : decode cX17_keep 1 = .ok (.aload_n 0, 1) := dk_42 (dk_at dksX17_keep_0 1 rfl rfl)
theorem dX17_keep_2 : decode cX17_keep 2 = .ok (.getfield 3, 3) := dk_180 0 3 (dk_at dksX17_keep_0 2 rfl rfl)
theorem dX17_keep_5 : decode cX17_keep 5 = .ok (.getfield 32, 3) := dk_180 0 32 (dk_at dksX17_keep_0 5 rfl rfl)
theorem dX17_keep_8 : decode cX17_keep 8 = .ok (.putfield 36, 3) := dk_181 0 36 (dk_at dksX17_keep_0 8 rfl rfl)
theorem dX17_keep_11 : decode cX17_keep 11 = .ok (.aload_n 0, 1) := dk_42 (dk_at dksX17_keep_0 11 rfl rfl)
theorem dX17_keep_12 : decode cX17_keep 12 = .ok (.getfield 18, 3) := dk_180 0 18 (dk_at dksX17_keep_0 12 rfl rfl)
theorem dX17_keep_15 : decode cX17_keep 15 = .ok (.aload_n 0, 1) := dk_42 (dk_at dksX17_keep_0 15 rfl rfl)
theorem dX17_keep_16 : decode cX17_keep 16 = .ok (.getfield 3, 3) := dk_180 0 3 (dk_at dksX17_keep_0 16 rfl rfl)
theorem dX17_keep_19 : decode cX17_keep 19 = .ok (.getfield 39, 3) := dk_180 0 39 (dk_at dksX17_keep_0 19 rfl rfl)
theorem dX17_keep_22 : decode cX17_keep 22 = .ok (.invokevirtual 42, 3) := dk_182 0 42 (dk_at dksX17_keep_1 0 rfl rfl)
theorem dX17_keep_25 : decode cX17_keep 25 = .ok (.iconst 0, 1) := dk_3 (dk_at dksX17_keep_1 3 rfl rfl)
theorem dX17_keep_26 : decode cX17_keep 26 = .ok (.istore_n 1, 1) := dk_60 (dk_at dksX17_keep_1 4 rfl rfl)
theorem dX17_keep_27 : decode cX17_keep 27 = .ok (.iload_n 1, 1) := dk_27 (dk_at dksX17_keep_1 5 rfl rfl)
theorem dX17_keep_28 : decode cX17_keep 28 = .ok (.bipush 10, 2) := dk_16 10 (dk_at dksX17_keep_1 6 rfl rfl)
theorem dX17_keep_30 : decode cX17_keep 30 = .ok (.if_icmp .ge 54, 3) := dk_162 0 54 (dk_at dksX17_keep_1 8 rfl rfl)
theorem dX17_keep_33 : decode cX17_keep 33 = .ok (.aload_n 0, 1) := dk_42 (dk_at dksX17_keep_1 11 rfl rfl)
theorem dX17_keep_34 : decode cX17_keep 34 = .ok (.getfield 22, 3) := dk_180 0 22 (dk_at dksX17_keep_1 12 rfl rfl)
theorem dX17_keep_37 : decode cX17_keep 37 = .ok (.iload_n 1, 1) := dk_27 (dk_at dksX17_keep_1 15 rfl rfl)
theorem dX17_keep_38 : decode cX17_keep 38 = .ok (.aload_n 0, 1) := dk_42 (dk_at dksX17_keep_1 16 rfl rfl)
theorem dX17_keep_39 : decode cX17_keep 39 = .ok (.getfield 3, 3) := dk_180 0 3 (dk_at dksX17_keep_1 17 rfl rfl)
theorem dX17_keep_42 : decode cX17_keep 42 = .ok (.getfield 46, 3) := dk_180 0 46 (dk_at dksX17_keep_1 20 rfl rfl)
theorem dX17_keep_45 : decode cX17_keep 45 = .ok (.iload_n 1, 1) := dk_27 (dk_at dksX17_keep_1 23 rfl rfl)
theorem dX17_keep_46 : decode cX17_keep 46 = .ok (.iaload, 1) := dk_46 (dk_at dksX17_keep_2 0 rfl rfl)
theorem dX17_keep_47 : decode cX17_keep 47 = .ok (.iastore, 1) := dk_79 (dk_at dksX17_keep_2 1 rfl rfl)
theorem dX17_keep_48 : decode cX17_keep 48 = .ok (.aload_n 0, 1) := dk_42 (dk_at dksX17_keep_2 2 rfl rfl)
theorem dX17_keep_49 : decode cX17_keep 49 = .ok (.getfield 26, 3) := dk_180 0 26 (dk_at dksX17_keep_2 3 rfl rfl)
theorem dX17_keep_52 : decode cX17_keep 52 = .ok (.iload_n 1, 1) := dk_27 (dk_at dksX17_keep_2 6 rfl rfl)
theorem dX17_keep_53 : decode cX17_keep 53 = .ok (.aload_n 0, 1) := dk_42 (dk_at dksX17_keep_2 7 rfl rfl)
theorem dX17_keep_54 : decode cX17_keep 54 = .ok (.getfield 3, 3) := dk_180 0 3 (dk_at dksX17_keep_2 8 rfl rfl)
theorem dX17_keep_57 : decode cX17_keep 57 = .ok (.getfield 49, 3) := dk_180 0 49 (dk_at dksX17_keep_2 11 rfl rfl)
theorem dX17_keep_60 : decode cX17_keep 60 = .ok (.iload_n 1, 1) := dk_27 (dk_at dksX17_keep_2 14 rfl rfl)
theorem dX17_keep_61 : decode cX17_keep 61 = .ok (.iaload, 1) := dk_46 (dk_at dksX17_keep_2 15 rfl rfl)
theorem dX17_keep_62 : decode cX17_keep 62 = .ok (.iastore, 1) := dk_79 (dk_at dksX17_keep_2 16 rfl rfl)
theorem dX17_keep_63 : decode cX17_keep 63 = .ok (.aload_n 0, 1) := dk_42 (dk_at dksX17_keep_2 17 rfl rfl)
theorem dX17_keep_64 : decode cX17_keep 64 = .ok (.getfield 29, 3) := dk_180 0 29 (dk_at dksX17_keep_2 18 rfl rfl)
theorem dX17_keep_67 : decode cX17_keep 67 = .ok (.iload_n 1, 1) := dk_27 (dk_at dksX17_keep_2 21 rfl rfl)
theorem dX17_keep_68 : decode cX17_keep 68 = .ok (.aload_n 0, 1) := dk_42 (dk_at dksX17_keep_2 22 rfl rfl)
theorem dX17_keep_69 : decode cX17_keep 69 = .ok (.getfield 3, 3) := dk_180 0 3 (dk_at dksX17_keep_3 0 rfl rfl)
theorem dX17_keep_72 : decode cX17_keep 72 = .ok (.getfield 52, 3) := dk_180 0 52 (dk_at dksX17_keep_3 3 rfl rfl)
theorem dX17_keep_75 : decode cX17_keep 75 = .ok (.iload_n 1, 1) := dk_27 (dk_at dksX17_keep_3 6 rfl rfl)
theorem dX17_keep_76 : decode cX17_keep 76 = .ok (.iaload, 1) := dk_46 (dk_at dksX17_keep_3 7 rfl rfl)
theorem dX17_keep_77 : decode cX17_keep 77 = .ok (.iastore, 1) := dk_79 (dk_at dksX17_keep_3 8 rfl rfl)
theorem dX17_keep_78 : decode cX17_keep 78 = .ok (.iinc 1 1, 3) := dk_132 1 1 (dk_at dksX17_keep_3 9 rfl rfl)
theorem dX17_keep_81 : decode cX17_keep 81 = .ok (.goto (-54), 3) := dk_167 255 202 (dk_at dksX17_keep_3 12 rfl rfl)
theorem dX17_keep_84 : decode cX17_keep 84 = .ok (.aload_n 0, 1) := dk_42 (dk_at dksX17_keep_3 15 rfl rfl)
theorem dX17_keep_85 : decode cX17_keep 85 = .ok (.aload_n 0, 1) := dk_42 (dk_at dksX17_keep_3 16 rfl rfl)
theorem dX17_keep_86 : decode cX17_keep 86 = .ok (.getfield 3, 3) := dk_180 0 3 (dk_at dksX17_keep_3 17 rfl rfl)
theorem dX17_keep_89 : decode cX17_keep 89 = .ok (.getfield 55, 3) := dk_180 0 55 (dk_at dksX17_keep_3 20 rfl rfl)
theorem dX17_keep_92 : decode cX17_keep 92 = .ok (.putfield 59, 3) := dk_181 0 59 (dk_at dksX17_keep_4 0 rfl rfl)
theorem dX17_keep_95 : decode cX17_keep 95 = .ok (.aload_n 0, 1) := dk_42 (dk_at dksX17_keep_4 3 rfl rfl)
theorem dX17_keep_96 : decode cX17_keep 96 = .ok (.aload_n 0, 1) := dk_42 (dk_at dksX17_keep_4 4 rfl rfl)
theorem dX17_keep_97 : decode cX17_keep 97 = .ok (.getfield 3, 3) := dk_180 0 3 (dk_at dksX17_keep_4 5 rfl rfl)
theorem dX17_keep_100 : decode cX17_keep 100 = .ok (.getfield 62, 3) := dk_180 0 62 (dk_at dksX17_keep_4 8 rfl rfl)
theorem dX17_keep_103 : decode cX17_keep 103 = .ok (.putfield 65, 3) := dk_181 0 65 (dk_at dksX17_keep_4 11 rfl rfl)
theorem dX17_keep_106 : decode cX17_keep 106 = .ok (.aload_n 0, 1) := dk_42 (dk_at dksX17_keep_4 14 rfl rfl)
theorem dX17_keep_107 : decode cX17_keep 107 = .ok (.aload_n 0, 1) := dk_42 (dk_at dksX17_keep_4 15 rfl rfl)
theorem dX17_keep_108 : decode cX17_keep 108 = .ok (.getfield 3, 3) := dk_180 0 3 (dk_at dksX17_keep_4 16 rfl rfl)
theorem dX17_keep_111 : decode cX17_keep 111 = .ok (.getfield 68, 3) := dk_180 0 68 (dk_at dksX17_keep_4 19 rfl rfl)
theorem dX17_keep_114 : decode cX17_keep 114 = .ok (.putfield 71, 3) := dk_181 0 71 (dk_at dksX17_keep_5 0 rfl rfl)
theorem dX17_keep_117 : decode cX17_keep 117 = .ok (.return_, 1) := dk_177 (dk_at dksX17_keep_5 3 rfl rfl)
abbrev cX17_back : ByteArray := prog_7_method_3_code
def yX17_back : MethodName := ⟨RX17, "back", "()V"⟩
def dkwX17_back_5 : List UInt8 := [181, 0, 68, 42, 180, 0, 3, 3, 181, 0, 74, 177]
abbrev dktX17_back_5 : List UInt8 := dkwX17_back_5 ++ []
def dkwX17_back_4 : List UInt8 := [181, 0, 55, 42, 180, 0, 3, 42, 180, 0, 65, 181, 0, 62, 42, 180, 0, 3, 42, 180, 0, 71]
abbrev dktX17_back_4 : List UInt8 := dkwX17_back_4 ++ dktX17_back_5
def dkwX17_back_3 : List UInt8 := [27, 42, 180, 0, 29, 27, 46, 79, 132, 1, 1, 167, 255, 202, 42, 180, 0, 3, 42, 180, 0, 59]
abbrev dktX17_back_3 : List UInt8 := dkwX17_back_3 ++ dktX17_back_4
def dkwX17_back_2 : List UInt8 := [46, 79, 42, 180, 0, 3, 180, 0, 49, 27, 42, 180, 0, 26, 27, 46, 79, 42, 180, 0, 3, 180, 0, 52]
abbrev dktX17_back_2 : List UInt8 := dkwX17_back_2 ++ dktX17_back_3
def dkwX17_back_1 : List UInt8 := [182, 0, 42, 3, 60, 27, 16, 10, 162, 0, 54, 42, 180, 0, 3, 180, 0, 46, 27, 42, 180, 0, 22, 27]
abbrev dktX17_back_1 : List UInt8 := dkwX17_back_1 ++ dktX17_back_2
def dkwX17_back_0 : List UInt8 := [42, 180, 0, 3, 42, 180, 0, 36, 181, 0, 32, 42, 180, 0, 3, 180, 0, 39, 42, 180, 0, 18]
abbrev dktX17_back_0 : List UInt8 := dkwX17_back_0 ++ dktX17_back_1
theorem dksX17_back_0 : cX17_back.data.toList.drop 0 = dktX17_back_0 := by decide +kernel
theorem dksX17_back_1 : cX17_back.data.toList.drop 22 = dktX17_back_1 := dk_seg dksX17_back_0 22 rfl rfl
theorem dksX17_back_2 : cX17_back.data.toList.drop 46 = dktX17_back_2 := dk_seg dksX17_back_1 24 rfl rfl
theorem dksX17_back_3 : cX17_back.data.toList.drop 70 = dktX17_back_3 := dk_seg dksX17_back_2 24 rfl rfl
theorem dksX17_back_4 : cX17_back.data.toList.drop 92 = dktX17_back_4 := dk_seg dksX17_back_3 22 rfl rfl
theorem dksX17_back_5 : cX17_back.data.toList.drop 114 = dktX17_back_5 := dk_seg dksX17_back_4 22 rfl rfl
theorem dX17_back_0 : decode cX17_back 0 = .ok (.aload_n 0, 1) := dk_42 (dk_at dksX17_back_0 0 rfl rfl)
theorem dX17_back_1 : decode cX17_back 1 = .ok (.getfield 3, 3) := dk_180 0 3 (dk_at dksX17_back_0 1 rfl rfl)
theorem dX17_back_4 : decode cX17_back 4 = .ok (.aload_n 0, 1) := dk_42 (dk_at dksX17_back_0 4 rfl rfl)
theorem dX17_back_5 : decode cX17_back 5 = .ok (.getfield 36, 3) := dk_180 0 36 (dk_at dksX17_back_0 5 rfl rfl)
theorem dX17_back_8 : decode cX17_back 8 = .ok (.putfield 32, 3) := dk_181 0 32 (dk_at dksX17_back_0 8 rfl rfl)
theorem dX17_back_11 : decode cX17_back 11 = .ok (.aload_n 0, 1) := dk_42 (dk_at dksX17_back_0 11 rfl rfl)
theorem dX17_back_12 : decode cX17_back 12 = .ok (.getfield 3, 3) := dk_180 0 3 (dk_at dksX17_back_0 12 rfl rfl)
theorem dX17_back_15 : decode cX17_back 15 = .ok (.getfield 39, 3) := dk_180 0 39 (dk_at dksX17_back_0 15 rfl rfl)
theorem dX17_back_18 : decode cX17_back 18 = .ok (.aload_n 0, 1) := dk_42 (dk_at dksX17_back_0 18 rfl rfl)
theorem dX17_back_19 : decode cX17_back 19 = .ok (.getfield 18, 3) := dk_180 0 18 (dk_at dksX17_back_0 19 rfl rfl)
theorem dX17_back_22 : decode cX17_back 22 = .ok (.invokevirtual 42, 3) := dk_182 0 42 (dk_at dksX17_back_1 0 rfl rfl)
theorem dX17_back_25 : decode cX17_back 25 = .ok (.iconst 0, 1) := dk_3 (dk_at dksX17_back_1 3 rfl rfl)
theorem dX17_back_26 : decode cX17_back 26 = .ok (.istore_n 1, 1) := dk_60 (dk_at dksX17_back_1 4 rfl rfl)
theorem dX17_back_27 : decode cX17_back 27 = .ok (.iload_n 1, 1) := dk_27 (dk_at dksX17_back_1 5 rfl rfl)
theorem dX17_back_28 : decode cX17_back 28 = .ok (.bipush 10, 2) := dk_16 10 (dk_at dksX17_back_1 6 rfl rfl)
theorem dX17_back_30 : decode cX17_back 30 = .ok (.if_icmp .ge 54, 3) := dk_162 0 54 (dk_at dksX17_back_1 8 rfl rfl)
theorem dX17_back_33 : decode cX17_back 33 = .ok (.aload_n 0, 1) := dk_42 (dk_at dksX17_back_1 11 rfl rfl)
theorem dX17_back_34 : decode cX17_back 34 = .ok (.getfield 3, 3) := dk_180 0 3 (dk_at dksX17_back_1 12 rfl rfl)
theorem dX17_back_37 : decode cX17_back 37 = .ok (.getfield 46, 3) := dk_180 0 46 (dk_at dksX17_back_1 15 rfl rfl)
theorem dX17_back_40 : decode cX17_back 40 = .ok (.iload_n 1, 1) := dk_27 (dk_at dksX17_back_1 18 rfl rfl)
theorem dX17_back_41 : decode cX17_back 41 = .ok (.aload_n 0, 1) := dk_42 (dk_at dksX17_back_1 19 rfl rfl)
theorem dX17_back_42 : decode cX17_back 42 = .ok (.getfield 22, 3) := dk_180 0 22 (dk_at dksX17_back_1 20 rfl rfl)
theorem dX17_back_45 : decode cX17_back 45 = .ok (.iload_n 1, 1) := dk_27 (dk_at dksX17_back_1 23 rfl rfl)
theorem dX17_back_46 : decode cX17_back 46 = .ok (.iaload, 1) := dk_46 (dk_at dksX17_back_2 0 rfl rfl)
theorem dX17_back_47 : decode cX17_back 47 = .ok (.iastore, 1) := dk_79 (dk_at dksX17_back_2 1 rfl rfl)
theorem dX17_back_48 : decode cX17_back 48 = .ok (.aload_n 0, 1) := dk_42 (dk_at dksX17_back_2 2 rfl rfl)
theorem dX17_back_49 : decode cX17_back 49 = .ok (.getfield 3, 3) := dk_180 0 3 (dk_at dksX17_back_2 3 rfl rfl)
theorem dX17_back_52 : decode cX17_back 52 = .ok (.getfield 49, 3) := dk_180 0 49 (dk_at dksX17_back_2 6 rfl rfl)
theorem dX17_back_55 : decode cX17_back 55 = .ok (.iload_n 1, 1) := dk_27 (dk_at dksX17_back_2 9 rfl rfl)
theorem dX17_back_56 : decode cX17_back 56 = .ok (.aload_n 0, 1) := dk_42 (dk_at dksX17_back_2 10 rfl rfl)
theorem dX17_back_57 : decode cX17_back 57 = .ok (.getfield 26, 3) := dk_180 0 26 (dk_at dksX17_back_2 11 rfl rfl)
theorem dX17_back_60 : decode cX17_back 60 = .ok (.iload_n 1, 1) := dk_27 (dk_at dksX17_back_2 14 rfl rfl)
theorem dX17_back_61 : decode cX17_back 61 = .ok (.iaload, 1) := dk_46 (dk_at dksX17_back_2 15 rfl rfl)
theorem dX17_back_62 : decode cX17_back 62 = .ok (.iastore, 1) := dk_79 (dk_at dksX17_back_2 16 rfl rfl)
theorem dX17_back_63 : decode cX17_back 63 = .ok (.aload_n 0, 1) := dk_42 (dk_at dksX17_back_2 17 rfl rfl)
theorem dX17_back_64 : decode cX17_back 64 = .ok (.getfield 3, 3) := dk_180 0 3 (dk_at dksX17_back_2 18 rfl rfl)
theorem dX17_back_67 : decode cX17_back 67 = .ok (.getfield 52, 3) := dk_180 0 52 (dk_at dksX17_back_2 21 rfl rfl)
theorem dX17_back_70 : decode cX17_back 70 = .ok (.iload_n 1, 1) := dk_27 (dk_at dksX17_back_3 0 rfl rfl)
theorem dX17_back_71 : decode cX17_back 71 = .ok (.aload_n 0, 1) := dk_42 (dk_at dksX17_back_3 1 rfl rfl)
theorem dX17_back_72 : decode cX17_back 72 = .ok (.getfield 29, 3) := dk_180 0 29 (dk_at dksX17_back_3 2 rfl rfl)
theorem dX17_back_75 : decode cX17_back 75 = .ok (.iload_n 1, 1) := dk_27 (dk_at dksX17_back_3 5 rfl rfl)
theorem dX17_back_76 : decode cX17_back 76 = .ok (.iaload, 1) := dk_46 (dk_at dksX17_back_3 6 rfl rfl)
theorem dX17_back_77 : decode cX17_back 77 = .ok (.iastore, 1) := dk_79 (dk_at dksX17_back_3 7 rfl rfl)
theorem dX17_back_78 : decode cX17_back 78 = .ok (.iinc 1 1, 3) := dk_132 1 1 (dk_at dksX17_back_3 8 rfl rfl)
theorem dX17_back_81 : decode cX17_back 81 = .ok (.goto (-54), 3) := dk_167 255 202 (dk_at dksX17_back_3 11 rfl rfl)
theorem dX17_back_84 : decode cX17_back 84 = .ok (.aload_n 0, 1) := dk_42 (dk_at dksX17_back_3 14 rfl rfl)
theorem dX17_back_85 : decode cX17_back 85 = .ok (.getfield 3, 3) := dk_180 0 3 (dk_at dksX17_back_3 15 rfl rfl)
theorem dX17_back_88 : decode cX17_back 88 = .ok (.aload_n 0, 1) := dk_42 (dk_at dksX17_back_3 18 rfl rfl)
theorem dX17_back_89 : decode cX17_back 89 = .ok (.getfield 59, 3) := dk_180 0 59 (dk_at dksX17_back_3 19 rfl rfl)
theorem dX17_back_92 : decode cX17_back 92 = .ok (.putfield 55, 3) := dk_181 0 55 (dk_at dksX17_back_4 0 rfl rfl)
theorem dX17_back_95 : decode cX17_back 95 = .ok (.aload_n 0, 1) := dk_42 (dk_at dksX17_back_4 3 rfl rfl)
theorem dX17_back_96 : decode cX17_back 96 = .ok (.getfield 3, 3) := dk_180 0 3 (dk_at dksX17_back_4 4 rfl rfl)
theorem dX17_back_99 : decode cX17_back 99 = .ok (.aload_n 0, 1) := dk_42 (dk_at dksX17_back_4 7 rfl rfl)
theorem dX17_back_100 : decode cX17_back 100 = .ok (.getfield 65, 3) := dk_180 0 65 (dk_at dksX17_back_4 8 rfl rfl)
theorem dX17_back_103 : decode cX17_back 103 = .ok (.putfield 62, 3) := dk_181 0 62 (dk_at dksX17_back_4 11 rfl rfl)
theorem dX17_back_106 : decode cX17_back 106 = .ok (.aload_n 0, 1) := dk_42 (dk_at dksX17_back_4 14 rfl rfl)
theorem dX17_back_107 : decode cX17_back 107 = .ok (.getfield 3, 3) := dk_180 0 3 (dk_at dksX17_back_4 15 rfl rfl)
theorem dX17_back_110 : decode cX17_back 110 = .ok (.aload_n 0, 1) := dk_42 (dk_at dksX17_back_4 18 rfl rfl)
theorem dX17_back_111 : decode cX17_back 111 = .ok (.getfield 71, 3) := dk_180 0 71 (dk_at dksX17_back_4 19 rfl rfl)
theorem dX17_back_114 : decode cX17_back 114 = .ok (.putfield 68, 3) := dk_181 0 68 (dk_at dksX17_back_5 0 rfl rfl)
theorem dX17_back_117 : decode cX17_back 117 = .ok (.aload_n 0, 1) := dk_42 (dk_at dksX17_back_5 3 rfl rfl)
theorem dX17_back_118 : decode cX17_back 118 = .ok (.getfield 3, 3) := dk_180 0 3 (dk_at dksX17_back_5 4 rfl rfl)
theorem dX17_back_121 : decode cX17_back 121 = .ok (.iconst 0, 1) := dk_3 (dk_at dksX17_back_5 7 rfl rfl)
theorem dX17_back_122 : decode cX17_back 122 = .ok (.putfield 74, 3) := dk_181 0 74 (dk_at dksX17_back_5 8 rfl rfl)
theorem dX17_back_125 : decode cX17_back 125 = .ok (.return_, 1) := dk_177 (dk_at dksX17_back_5 11 rfl rfl)
theorem q165 : (Jvm.Cond.initialized "SweptSnow$Image") ∈ lw_all := lw_g (lw_at lw_m1 36 rfl) rfl
theorem q345 : (Jvm.Cond.fieldLinkNest "SweptSnow$Image" (32 : Nat) "SweptSnow" "valley" "LSweptSnow$Valley;" "SweptSnow") ∈ lw_tbl := lw_at lw_m1 216 rfl
theorem q347 : (Jvm.Cond.fieldLinkNest "SweptSnow$Image" (39 : Nat) "SweptSnow" "state" "LSweptSnow$State;" "SweptSnow") ∈ lw_tbl := lw_at lw_m1 218 rfl
theorem q352 : (Jvm.Cond.fieldLinkNest "SweptSnow$Image" (62 : Nat) "SweptSnow" "inForce" "I" "SweptSnow") ∈ lw_tbl := lw_at lw_m1 223 rfl
theorem q359 : (Jvm.Cond.fieldLinkNest "SweptSnow$Image" (46 : Nat) "SweptSnow" "noteWhen" "[I" "SweptSnow") ∈ lw_tbl := lw_at lw_m1 230 rfl
theorem q361 : (Jvm.Cond.fieldLinkNest "SweptSnow$Image" (49 : Nat) "SweptSnow" "noteStep" "[I" "SweptSnow") ∈ lw_tbl := lw_at lw_m1 232 rfl
theorem q363 : (Jvm.Cond.fieldLinkNest "SweptSnow$Image" (52 : Nat) "SweptSnow" "noteSnow" "[I" "SweptSnow") ∈ lw_tbl := lw_at lw_m1 234 rfl
theorem q365 : (Jvm.Cond.fieldLinkNest "SweptSnow$Image" (55 : Nat) "SweptSnow" "notes" "I" "SweptSnow") ∈ lw_tbl := lw_at lw_m1 236 rfl
theorem q367 : (Jvm.Cond.fieldLinkNest "SweptSnow$Image" (68 : Nat) "SweptSnow" "draw" "I" "SweptSnow") ∈ lw_tbl := lw_at lw_m1 238 rfl
theorem q374 : (Jvm.Cond.fieldLinkNest "SweptSnow$Image" (74 : Nat) "SweptSnow" "pastMany" "I" "SweptSnow") ∈ lw_tbl := lw_at lw_m2 5 rfl
theorem q647 : (Jvm.Cond.selects "SweptSnow$Image" ({ cls := "java/lang/Object", name := "getClass", desc := "()Ljava/lang/Class;" } : Jvm.MethodName) ({ cls := "java/lang/Object", name := "getClass", desc := "()Ljava/lang/Class;" } : Jvm.MethodName)) ∈ lw_all := lw_g (lw_at lw_m3 38 rfl) rfl
theorem q1227 : (Jvm.Cond.instantiable "SweptSnow$Image" (9 : Nat)) ∈ lw_all := lw_g (lw_at lw_m5 138 rfl) rfl
theorem q1229 : (Jvm.Cond.instanceMethod ({ cls := "SweptSnow$Image", name := "<init>", desc := "(LSweptSnow;)V" } : Jvm.MethodName)) ∈ lw_all := lw_g (lw_at lw_m5 140 rfl) rfl
theorem q1230 : (Jvm.Cond.code ({ cls := "SweptSnow$Image", name := "<init>", desc := "(LSweptSnow;)V" } : Jvm.MethodName) prog_7_method_1_code (2 : Nat) (Option.none : Option Jvm.ClassFile.FieldType)) ∈ lw_all := lw_g (lw_at lw_m5 141 rfl) rfl
theorem q1231 : (Jvm.Cond.methodLink "SweptSnow$Image" (9 : Nat) ({ cls := "java/lang/Object", name := "<init>", desc := "()V" } : Jvm.MethodName)) ∈ lw_all := lw_g (lw_at lw_m5 142 rfl) rfl
theorem q1232 : (Jvm.Cond.classLink "SweptSnow$Image" (15 : Nat) "SweptSnow$State") ∈ lw_all := lw_g (lw_at lw_m5 143 rfl) rfl
theorem q1233 : (Jvm.Cond.methodLinkNest "SweptSnow$Image" (17 : Nat) ({ cls := "SweptSnow$State", name := "<init>", desc := "()V" } : Jvm.MethodName) "SweptSnow") ∈ lw_tbl := lw_at lw_m5 144 rfl
theorem q1234 : (Jvm.Cond.fieldLink "SweptSnow$Image" (36 : Nat) "SweptSnow$Image" "its" "LSweptSnow$Valley;") ∈ lw_all := lw_g (lw_at lw_m5 145 rfl) rfl
theorem q1235 : (Jvm.Cond.fieldLink "SweptSnow$Image" (18 : Nat) "SweptSnow$Image" "stood" "LSweptSnow$State;") ∈ lw_all := lw_g (lw_at lw_m5 146 rfl) rfl
theorem q1236 : (Jvm.Cond.fieldLink "SweptSnow$Image" (22 : Nat) "SweptSnow$Image" "when" "[I") ∈ lw_all := lw_g (lw_at lw_m5 147 rfl) rfl
theorem q1237 : (Jvm.Cond.fieldLink "SweptSnow$Image" (26 : Nat) "SweptSnow$Image" "step" "[I") ∈ lw_all := lw_g (lw_at lw_m5 148 rfl) rfl
theorem q1238 : (Jvm.Cond.fieldLink "SweptSnow$Image" (29 : Nat) "SweptSnow$Image" "snow" "[I") ∈ lw_all := lw_g (lw_at lw_m5 149 rfl) rfl
theorem q1239 : (Jvm.Cond.fieldLink "SweptSnow$Image" (59 : Nat) "SweptSnow$Image" "many" "I") ∈ lw_all := lw_g (lw_at lw_m5 150 rfl) rfl
theorem q1240 : (Jvm.Cond.fieldLink "SweptSnow$Image" (65 : Nat) "SweptSnow$Image" "force" "I") ∈ lw_all := lw_g (lw_at lw_m5 151 rfl) rfl
theorem q1241 : (Jvm.Cond.fieldLink "SweptSnow$Image" (71 : Nat) "SweptSnow$Image" "x" "I") ∈ lw_all := lw_g (lw_at lw_m5 152 rfl) rfl
theorem q1242 : (Jvm.Cond.fieldLink "SweptSnow$Image" (3 : Nat) "SweptSnow$Image" "this$0" "LSweptSnow;") ∈ lw_all := lw_g (lw_at lw_m5 153 rfl) rfl
theorem q1243 : (Jvm.Cond.lays "SweptSnow$Image" "SweptSnow$Image" "its" "LSweptSnow$Valley;") ∈ lw_all := lw_g (lw_at lw_m5 154 rfl) rfl
theorem q1244 : (Jvm.Cond.soleField "SweptSnow$Image" "its") ∈ lw_all := lw_g (lw_at lw_m5 155 rfl) rfl
theorem q1245 : (Jvm.Cond.laysFinal "SweptSnow$Image" "SweptSnow$Image" "stood" "LSweptSnow$State;") ∈ lw_all := lw_g (lw_at lw_m5 156 rfl) rfl
theorem q1246 : (Jvm.Cond.soleField "SweptSnow$Image" "stood") ∈ lw_all := lw_g (lw_at lw_m5 157 rfl) rfl
theorem q1247 : (Jvm.Cond.laysFinal "SweptSnow$Image" "SweptSnow$Image" "when" "[I") ∈ lw_all := lw_g (lw_at lw_m5 158 rfl) rfl
theorem q1248 : (Jvm.Cond.soleField "SweptSnow$Image" "when") ∈ lw_all := lw_g (lw_at lw_m5 159 rfl) rfl
theorem q1249 : (Jvm.Cond.laysFinal "SweptSnow$Image" "SweptSnow$Image" "step" "[I") ∈ lw_all := lw_g (lw_at lw_m5 160 rfl) rfl
theorem q1250 : (Jvm.Cond.soleField "SweptSnow$Image" "step") ∈ lw_all := lw_g (lw_at lw_m5 161 rfl) rfl
theorem q1251 : (Jvm.Cond.laysFinal "SweptSnow$Image" "SweptSnow$Image" "snow" "[I") ∈ lw_all := lw_g (lw_at lw_m5 162 rfl) rfl
theorem q1252 : (Jvm.Cond.soleField "SweptSnow$Image" "snow") ∈ lw_all := lw_g (lw_at lw_m5 163 rfl) rfl
theorem q1253 : (Jvm.Cond.lays "SweptSnow$Image" "SweptSnow$Image" "many" "I") ∈ lw_all := lw_g (lw_at lw_m5 164 rfl) rfl
theorem q1254 : (Jvm.Cond.soleField "SweptSnow$Image" "many") ∈ lw_all := lw_g (lw_at lw_m5 165 rfl) rfl
theorem q1255 : (Jvm.Cond.lays "SweptSnow$Image" "SweptSnow$Image" "force" "I") ∈ lw_all := lw_g (lw_at lw_m5 166 rfl) rfl
theorem q1256 : (Jvm.Cond.soleField "SweptSnow$Image" "force") ∈ lw_all := lw_g (lw_at lw_m5 167 rfl) rfl
theorem q1257 : (Jvm.Cond.lays "SweptSnow$Image" "SweptSnow$Image" "x" "I") ∈ lw_all := lw_g (lw_at lw_m5 168 rfl) rfl
theorem q1258 : (Jvm.Cond.soleField "SweptSnow$Image" "x") ∈ lw_all := lw_g (lw_at lw_m5 169 rfl) rfl
theorem q1259 : (Jvm.Cond.laysFinal "SweptSnow$Image" "SweptSnow$Image" "this$0" "LSweptSnow;") ∈ lw_all := lw_g (lw_at lw_m5 170 rfl) rfl
theorem q1260 : (Jvm.Cond.soleField "SweptSnow$Image" "this$0") ∈ lw_all := lw_g (lw_at lw_m5 171 rfl) rfl
theorem q1261 : (Jvm.Cond.superclass "SweptSnow$Image" "java/lang/Object") ∈ lw_all := lw_g (lw_at lw_m5 172 rfl) rfl
theorem q1263 : (Jvm.Cond.instanceMethod ({ cls := "SweptSnow$Image", name := "keep", desc := "()V" } : Jvm.MethodName)) ∈ lw_all := lw_g (lw_at lw_m5 174 rfl) rfl
theorem q1264 : (Jvm.Cond.selects "SweptSnow$Image" ({ cls := "SweptSnow$Image", name := "keep", desc := "()V" } : Jvm.MethodName) ({ cls := "SweptSnow$Image", name := "keep", desc := "()V" } : Jvm.MethodName)) ∈ lw_all := lw_g (lw_at lw_m5 175 rfl) rfl
theorem q1265 : (Jvm.Cond.code ({ cls := "SweptSnow$Image", name := "keep", desc := "()V" } : Jvm.MethodName) prog_7_method_2_code (2 : Nat) (Option.none : Option Jvm.ClassFile.FieldType)) ∈ lw_all := lw_g (lw_at lw_m5 176 rfl) rfl
theorem q1266 : (Jvm.Cond.methodLink "SweptSnow$Image" (42 : Nat) ({ cls := "SweptSnow$State", name := "copyFrom", desc := "(LSweptSnow$State;)V" } : Jvm.MethodName)) ∈ lw_all := lw_g (lw_at lw_m5 177 rfl) rfl
theorem q1272 : (Jvm.Cond.instanceMethod ({ cls := "SweptSnow$Image", name := "back", desc := "()V" } : Jvm.MethodName)) ∈ lw_all := lw_g (lw_at lw_m5 183 rfl) rfl
theorem q1273 : (Jvm.Cond.selects "SweptSnow$Image" ({ cls := "SweptSnow$Image", name := "back", desc := "()V" } : Jvm.MethodName) ({ cls := "SweptSnow$Image", name := "back", desc := "()V" } : Jvm.MethodName)) ∈ lw_all := lw_g (lw_at lw_m5 184 rfl) rfl
theorem q1274 : (Jvm.Cond.code ({ cls := "SweptSnow$Image", name := "back", desc := "()V" } : Jvm.MethodName) prog_7_method_3_code (2 : Nat) (Option.none : Option Jvm.ClassFile.FieldType)) ∈ lw_all := lw_g (lw_at lw_m5 185 rfl) rfl
theorem q1886 : (Jvm.Cond.castable "SweptSnow$Image" "java/lang/Object") ∈ lw_tbl := lw_at lw_m8 77 rfl
theorem in_X17 : ∀ w ∈ wsX170, w ∈ lw_all := lw_in wsX170 [1243, 1245, 1247, 1249, 1251, 1253, 1255, 1257, 1259] (by decide +kernel) (by decide +kernel)

/-! java/util/AbstractCollection -/
set_option maxRecDepth 100000
def RJ0 : String := "java/util/AbstractCollection"
abbrev cJ0_init : ByteArray := prog_38_method_1_code
def yJ0_init : MethodName := ⟨RJ0, "<init>", "()V"⟩
theorem dJ0_init_0 : decode cJ0_init 0 = .ok (.aload_n 0, 1) := by decide +kernel
theorem dJ0_init_1 : decode cJ0_init 1 = .ok (.invokespecial 1, 3) := by decide +kernel
theorem dJ0_init_4 : decode cJ0_init 4 = .ok (.return_, 1) := by decide +kernel
theorem q132 : (Jvm.Cond.initialized "java/util/AbstractCollection") ∈ lw_all := lw_g (lw_at lw_m1 3 rfl) rfl
theorem q189 : (Jvm.Cond.instanceMethod ({ cls := "java/util/AbstractCollection", name := "<init>", desc := "()V" } : Jvm.MethodName)) ∈ lw_all := lw_g (lw_at lw_m1 60 rfl) rfl
theorem q190 : (Jvm.Cond.code ({ cls := "java/util/AbstractCollection", name := "<init>", desc := "()V" } : Jvm.MethodName) prog_38_method_1_code (1 : Nat) (Option.none : Option Jvm.ClassFile.FieldType)) ∈ lw_all := lw_g (lw_at lw_m1 61 rfl) rfl
theorem q191 : (Jvm.Cond.methodLink "java/util/AbstractCollection" (1 : Nat) ({ cls := "java/lang/Object", name := "<init>", desc := "()V" } : Jvm.MethodName)) ∈ lw_all := lw_g (lw_at lw_m1 62 rfl) rfl

/-! java/util/AbstractList -/
set_option maxRecDepth 100000
def RJ1 : String := "java/util/AbstractList"
abbrev cJ1_init : ByteArray := prog_39_method_1_code
def yJ1_init : MethodName := ⟨RJ1, "<init>", "()V"⟩
def dkwJ1_init_0 : List UInt8 := [42, 183, 0, 1, 42, 3, 181, 0, 7, 177]
abbrev dktJ1_init_0 : List UInt8 := dkwJ1_init_0 ++ []
theorem dksJ1_init_0 : cJ1_init.data.toList.drop 0 = dktJ1_init_0 := by decide +kernel
theorem dJ1_init_0 : decode cJ1_init 0 = .ok (.aload_n 0, 1) := dk_42 (dk_at dksJ1_init_0 0 rfl rfl)
theorem dJ1_init_1 : decode cJ1_init 1 = .ok (.invokespecial 1, 3) := dk_183 0 1 (dk_at dksJ1_init_0 1 rfl rfl)
theorem dJ1_init_4 : decode cJ1_init 4 = .ok (.aload_n 0, 1) := dk_42 (dk_at dksJ1_init_0 4 rfl rfl)
theorem dJ1_init_5 : decode cJ1_init 5 = .ok (.iconst 0, 1) := dk_3 (dk_at dksJ1_init_0 5 rfl rfl)
theorem dJ1_init_6 : decode cJ1_init 6 = .ok (.putfield 7, 3) := dk_181 0 7 (dk_at dksJ1_init_0 6 rfl rfl)
theorem dJ1_init_9 : decode cJ1_init 9 = .ok (.return_, 1) := dk_177 (dk_at dksJ1_init_0 9 rfl rfl)
theorem q133 : (Jvm.Cond.initialized "java/util/AbstractList") ∈ lw_all := lw_g (lw_at lw_m1 4 rfl) rfl
theorem q186 : (Jvm.Cond.instanceMethod ({ cls := "java/util/AbstractList", name := "<init>", desc := "()V" } : Jvm.MethodName)) ∈ lw_all := lw_g (lw_at lw_m1 57 rfl) rfl
theorem q187 : (Jvm.Cond.code ({ cls := "java/util/AbstractList", name := "<init>", desc := "()V" } : Jvm.MethodName) prog_39_method_1_code (1 : Nat) (Option.none : Option Jvm.ClassFile.FieldType)) ∈ lw_all := lw_g (lw_at lw_m1 58 rfl) rfl
theorem q188 : (Jvm.Cond.methodLink "java/util/AbstractList" (1 : Nat) ({ cls := "java/util/AbstractCollection", name := "<init>", desc := "()V" } : Jvm.MethodName)) ∈ lw_all := lw_g (lw_at lw_m1 59 rfl) rfl
theorem q198 : (Jvm.Cond.fieldLink "java/util/AbstractList" (7 : Nat) "java/util/AbstractList" "modCount" "I") ∈ lw_all := lw_g (lw_at lw_m1 69 rfl) rfl
theorem q206 : (Jvm.Cond.soleField "java/util/AbstractList" "modCount") ∈ lw_all := lw_g (lw_at lw_m1 77 rfl) rfl

/-! java/util/ArrayList -/
set_option maxRecDepth 100000
def RJ2 : String := "java/util/ArrayList"
def TJ2 : u_T := fun k => match k with
  | 0 => ("java/util/AbstractList", "modCount", "I", false)
  | 1 => ("java/util/ArrayList", "elementData", "[Ljava/lang/Object;", false)
  | _ => ("java/util/ArrayList", "size", "I", false)
def tyJ2 : Nat → FieldType := fun k => match k with
  | 0 => .int
  | 1 => .array (.object "java/lang/Object")
  | _ => .int
abbrev wsJ20 : List Cond := u_ws RJ2 TJ2 3
theorem nmJ2 : ∀ a, a < 3 → ∀ b, b < 3 → a ≠ b → (TJ2 a).2.1 ≠ (TJ2 b).2.1 := by decide +kernel
theorem tyJ2_ok : ∀ k, k < 3 → parseFieldDescriptor (TJ2 k).2.2.1 = some (tyJ2 k) := by decide +kernel
abbrev cJ2_init : ByteArray := prog_40_method_1_code
def yJ2_init : MethodName := ⟨RJ2, "<init>", "(I)V"⟩
def dkwJ2_init_2 : List UInt8 := [182, 0, 25, 27, 182, 0, 29, 182, 0, 32, 183, 0, 36, 191, 177]
abbrev dktJ2_init_2 : List UInt8 := dkwJ2_init_2 ++ []
def dkwJ2_init_1 : List UInt8 := [178, 0, 15, 181, 0, 9, 167, 0, 30, 187, 0, 18, 89, 187, 0, 20, 89, 183, 0, 22, 18, 23]
abbrev dktJ2_init_1 : List UInt8 := dkwJ2_init_1 ++ dktJ2_init_2
def dkwJ2_init_0 : List UInt8 := [42, 183, 0, 1, 27, 158, 0, 14, 42, 27, 189, 0, 7, 181, 0, 9, 167, 0, 44, 27, 154, 0, 13, 42]
abbrev dktJ2_init_0 : List UInt8 := dkwJ2_init_0 ++ dktJ2_init_1
theorem dksJ2_init_0 : cJ2_init.data.toList.drop 0 = dktJ2_init_0 := by decide +kernel
theorem dksJ2_init_1 : cJ2_init.data.toList.drop 24 = dktJ2_init_1 := dk_seg dksJ2_init_0 24 rfl rfl
theorem dksJ2_init_2 : cJ2_init.data.toList.drop 46 = dktJ2_init_2 := dk_seg dksJ2_init_1 22 rfl rfl
theorem dJ2_init_0 : decode cJ2_init 0 = .ok (.aload_n 0, 1) := dk_42 (dk_at dksJ2_init_0 0 rfl rfl)
theorem dJ2_init_1 : decode cJ2_init 1 = .ok (.invokespecial 1, 3) := dk_183 0 1 (dk_at dksJ2_init_0 1 rfl rfl)
theorem dJ2_init_4 : decode cJ2_init 4 = .ok (.iload_n 1, 1) := dk_27 (dk_at dksJ2_init_0 4 rfl rfl)
theorem dJ2_init_5 : decode cJ2_init 5 = .ok (.ifCond .le 14, 3) := dk_158 0 14 (dk_at dksJ2_init_0 5 rfl rfl)
theorem dJ2_init_8 : decode cJ2_init 8 = .ok (.aload_n 0, 1) := dk_42 (dk_at dksJ2_init_0 8 rfl rfl)
theorem dJ2_init_9 : decode cJ2_init 9 = .ok (.iload_n 1, 1) := dk_27 (dk_at dksJ2_init_0 9 rfl rfl)
theorem dJ2_init_10 : decode cJ2_init 10 = .ok (.anewarray 7, 3) := dk_189 0 7 (dk_at dksJ2_init_0 10 rfl rfl)
theorem dJ2_init_13 : decode cJ2_init 13 = .ok (.putfield 9, 3) := dk_181 0 9 (dk_at dksJ2_init_0 13 rfl rfl)
theorem dJ2_init_16 : decode cJ2_init 16 = .ok (.goto 44, 3) := dk_167 0 44 (dk_at dksJ2_init_0 16 rfl rfl)
theorem dJ2_init_19 : decode cJ2_init 19 = .ok (.iload_n 1, 1) := dk_27 (dk_at dksJ2_init_0 19 rfl rfl)
theorem dJ2_init_20 : decode cJ2_init 20 = .ok (.ifCond .ne 13, 3) := dk_154 0 13 (dk_at dksJ2_init_0 20 rfl rfl)
theorem dJ2_init_23 : decode cJ2_init 23 = .ok (.aload_n 0, 1) := dk_42 (dk_at dksJ2_init_0 23 rfl rfl)
theorem dJ2_init_24 : decode cJ2_init 24 = .ok (.getstatic 15, 3) := dk_178 0 15 (dk_at dksJ2_init_1 0 rfl rfl)
theorem dJ2_init_27 : decode cJ2_init 27 = .ok (.putfield 9, 3) := dk_181 0 9 (dk_at dksJ2_init_1 3 rfl rfl)
theorem dJ2_init_30 : decode cJ2_init 30 = .ok (.goto 30, 3) := dk_167 0 30 (dk_at dksJ2_init_1 6 rfl rfl)
theorem dJ2_init_33 : decode cJ2_init 33 = .ok (.new 18, 3) := dk_187 0 18 (dk_at dksJ2_init_1 9 rfl rfl)
theorem dJ2_init_36 : decode cJ2_init 36 = .ok (.dup, 1) := dk_89 (dk_at dksJ2_init_1 12 rfl rfl)
theorem dJ2_init_37 : decode cJ2_init 37 = .ok (.new 20, 3) := dk_187 0 20 (dk_at dksJ2_init_1 13 rfl rfl)
theorem dJ2_init_40 : decode cJ2_init 40 = .ok (.dup, 1) := dk_89 (dk_at dksJ2_init_1 16 rfl rfl)
theorem dJ2_init_41 : decode cJ2_init 41 = .ok (.invokespecial 22, 3) := dk_183 0 22 (dk_at dksJ2_init_1 17 rfl rfl)
theorem dJ2_init_44 : decode cJ2_init 44 = .ok (.ldc 23, 2) := dk_18 23 (dk_at dksJ2_init_1 20 rfl rfl)
theorem dJ2_init_46 : decode cJ2_init 46 = .ok (.invokevirtual 25, 3) := dk_182 0 25 (dk_at dksJ2_init_2 0 rfl rfl)
theorem dJ2_init_49 : decode cJ2_init 49 = .ok (.iload_n 1, 1) := dk_27 (dk_at dksJ2_init_2 3 rfl rfl)
theorem dJ2_init_50 : decode cJ2_init 50 = .ok (.invokevirtual 29, 3) := dk_182 0 29 (dk_at dksJ2_init_2 4 rfl rfl)
theorem dJ2_init_53 : decode cJ2_init 53 = .ok (.invokevirtual 32, 3) := dk_182 0 32 (dk_at dksJ2_init_2 7 rfl rfl)
theorem dJ2_init_56 : decode cJ2_init 56 = .ok (.invokespecial 36, 3) := dk_183 0 36 (dk_at dksJ2_init_2 10 rfl rfl)
theorem dJ2_init_59 : decode cJ2_init 59 = .ok (.athrow, 1) := dk_191 (dk_at dksJ2_init_2 13 rfl rfl)
theorem dJ2_init_60 : decode cJ2_init 60 = .ok (.return_, 1) := dk_177 (dk_at dksJ2_init_2 14 rfl rfl)
abbrev cJ2_size : ByteArray := prog_40_method_8_code
def yJ2_size : MethodName := ⟨RJ2, "size", "()I"⟩
theorem dJ2_size_0 : decode cJ2_size 0 = .ok (.aload_n 0, 1) := by decide +kernel
theorem dJ2_size_1 : decode cJ2_size 1 = .ok (.getfield 48, 3) := by decide +kernel
theorem dJ2_size_4 : decode cJ2_size 4 = .ok (.ireturn, 1) := by decide +kernel
abbrev cJ2_add : ByteArray := prog_40_method_25_code
def yJ2_add : MethodName := ⟨RJ2, "add", "(Ljava/lang/Object;)Z"⟩
def dkwJ2_add_1 : List UInt8 := [172]
abbrev dktJ2_add_1 : List UInt8 := dkwJ2_add_1 ++ []
def dkwJ2_add_0 : List UInt8 := [42, 89, 180, 0, 63, 4, 96, 181, 0, 63, 42, 43, 42, 180, 0, 9, 42, 180, 0, 48, 182, 0, 131, 4]
abbrev dktJ2_add_0 : List UInt8 := dkwJ2_add_0 ++ dktJ2_add_1
theorem dksJ2_add_0 : cJ2_add.data.toList.drop 0 = dktJ2_add_0 := by decide +kernel
theorem dksJ2_add_1 : cJ2_add.data.toList.drop 24 = dktJ2_add_1 := dk_seg dksJ2_add_0 24 rfl rfl
theorem dJ2_add_0 : decode cJ2_add 0 = .ok (.aload_n 0, 1) := dk_42 (dk_at dksJ2_add_0 0 rfl rfl)
theorem dJ2_add_1 : decode cJ2_add 1 = .ok (.dup, 1) := dk_89 (dk_at dksJ2_add_0 1 rfl rfl)
theorem dJ2_add_2 : decode cJ2_add 2 = .ok (.getfield 63, 3) := dk_180 0 63 (dk_at dksJ2_add_0 2 rfl rfl)
theorem dJ2_add_5 : decode cJ2_add 5 = .ok (.iconst 1, 1) := dk_4 (dk_at dksJ2_add_0 5 rfl rfl)
theorem dJ2_add_6 : decode cJ2_add 6 = .ok (.iadd, 1) := dk_96 (dk_at dksJ2_add_0 6 rfl rfl)
theorem dJ2_add_7 : decode cJ2_add 7 = .ok (.putfield 63, 3) := dk_181 0 63 (dk_at dksJ2_add_0 7 rfl rfl)
theorem dJ2_add_10 : decode cJ2_add 10 = .ok (.aload_n 0, 1) := dk_42 (dk_at dksJ2_add_0 10 rfl rfl)
theorem dJ2_add_11 : decode cJ2_add 11 = .ok (.aload_n 1, 1) := dk_43 (dk_at dksJ2_add_0 11 rfl rfl)
theorem dJ2_add_12 : decode cJ2_add 12 = .ok (.aload_n 0, 1) := dk_42 (dk_at dksJ2_add_0 12 rfl rfl)
theorem dJ2_add_13 : decode cJ2_add 13 = .ok (.getfield 9, 3) := dk_180 0 9 (dk_at dksJ2_add_0 13 rfl rfl)
theorem dJ2_add_16 : decode cJ2_add 16 = .ok (.aload_n 0, 1) := dk_42 (dk_at dksJ2_add_0 16 rfl rfl)
theorem dJ2_add_17 : decode cJ2_add 17 = .ok (.getfield 48, 3) := dk_180 0 48 (dk_at dksJ2_add_0 17 rfl rfl)
theorem dJ2_add_20 : decode cJ2_add 20 = .ok (.invokevirtual 131, 3) := dk_182 0 131 (dk_at dksJ2_add_0 20 rfl rfl)
theorem dJ2_add_23 : decode cJ2_add 23 = .ok (.iconst 1, 1) := dk_4 (dk_at dksJ2_add_0 23 rfl rfl)
theorem dJ2_add_24 : decode cJ2_add 24 = .ok (.ireturn, 1) := dk_172 (dk_at dksJ2_add_1 0 rfl rfl)
abbrev cJ2_add_2 : ByteArray := prog_40_method_24_code
def yJ2_add_2 : MethodName := ⟨RJ2, "add", "(Ljava/lang/Object;[Ljava/lang/Object;I)V"⟩
def dkwJ2_add_2_0 : List UInt8 := [29, 44, 190, 160, 0, 8, 42, 182, 0, 129, 77, 44, 29, 43, 83, 42, 29, 4, 96, 181, 0, 48, 177]
abbrev dktJ2_add_2_0 : List UInt8 := dkwJ2_add_2_0 ++ []
theorem dksJ2_add_2_0 : cJ2_add_2.data.toList.drop 0 = dktJ2_add_2_0 := by decide +kernel
theorem dJ2_add_2_0 : decode cJ2_add_2 0 = .ok (.iload_n 3, 1) := dk_29 (dk_at dksJ2_add_2_0 0 rfl rfl)
theorem dJ2_add_2_1 : decode cJ2_add_2 1 = .ok (.aload_n 2, 1) := dk_44 (dk_at dksJ2_add_2_0 1 rfl rfl)
theorem dJ2_add_2_2 : decode cJ2_add_2 2 = .ok (.arraylength, 1) := dk_190 (dk_at dksJ2_add_2_0 2 rfl rfl)
theorem dJ2_add_2_3 : decode cJ2_add_2 3 = .ok (.if_icmp .ne 8, 3) := dk_160 0 8 (dk_at dksJ2_add_2_0 3 rfl rfl)
theorem dJ2_add_2_6 : decode cJ2_add_2 6 = .ok (.aload_n 0, 1) := dk_42 (dk_at dksJ2_add_2_0 6 rfl rfl)
theorem dJ2_add_2_7 : decode cJ2_add_2 7 = .ok (.invokevirtual 129, 3) := dk_182 0 129 (dk_at dksJ2_add_2_0 7 rfl rfl)
theorem dJ2_add_2_10 : decode cJ2_add_2 10 = .ok (.astore_n 2, 1) := dk_77 (dk_at dksJ2_add_2_0 10 rfl rfl)
theorem dJ2_add_2_11 : decode cJ2_add_2 11 = .ok (.aload_n 2, 1) := dk_44 (dk_at dksJ2_add_2_0 11 rfl rfl)
theorem dJ2_add_2_12 : decode cJ2_add_2 12 = .ok (.iload_n 3, 1) := dk_29 (dk_at dksJ2_add_2_0 12 rfl rfl)
theorem dJ2_add_2_13 : decode cJ2_add_2 13 = .ok (.aload_n 1, 1) := dk_43 (dk_at dksJ2_add_2_0 13 rfl rfl)
theorem dJ2_add_2_14 : decode cJ2_add_2 14 = .ok (.aastore, 1) := dk_83 (dk_at dksJ2_add_2_0 14 rfl rfl)
theorem dJ2_add_2_15 : decode cJ2_add_2 15 = .ok (.aload_n 0, 1) := dk_42 (dk_at dksJ2_add_2_0 15 rfl rfl)
theorem dJ2_add_2_16 : decode cJ2_add_2 16 = .ok (.iload_n 3, 1) := dk_29 (dk_at dksJ2_add_2_0 16 rfl rfl)
theorem dJ2_add_2_17 : decode cJ2_add_2 17 = .ok (.iconst 1, 1) := dk_4 (dk_at dksJ2_add_2_0 17 rfl rfl)
theorem dJ2_add_2_18 : decode cJ2_add_2 18 = .ok (.iadd, 1) := dk_96 (dk_at dksJ2_add_2_0 18 rfl rfl)
theorem dJ2_add_2_19 : decode cJ2_add_2 19 = .ok (.putfield 48, 3) := dk_181 0 48 (dk_at dksJ2_add_2_0 19 rfl rfl)
theorem dJ2_add_2_22 : decode cJ2_add_2 22 = .ok (.return_, 1) := dk_177 (dk_at dksJ2_add_2_0 22 rfl rfl)
abbrev cJ2_grow : ByteArray := prog_40_method_7_code
def yJ2_grow : MethodName := ⟨RJ2, "grow", "()[Ljava/lang/Object;"⟩
def dkwJ2_grow_0 : List UInt8 := [42, 42, 180, 0, 48, 4, 96, 182, 0, 69, 176]
abbrev dktJ2_grow_0 : List UInt8 := dkwJ2_grow_0 ++ []
theorem dksJ2_grow_0 : cJ2_grow.data.toList.drop 0 = dktJ2_grow_0 := by decide +kernel
theorem dJ2_grow_0 : decode cJ2_grow 0 = .ok (.aload_n 0, 1) := dk_42 (dk_at dksJ2_grow_0 0 rfl rfl)
theorem dJ2_grow_1 : decode cJ2_grow 1 = .ok (.aload_n 0, 1) := dk_42 (dk_at dksJ2_grow_0 1 rfl rfl)
theorem dJ2_grow_2 : decode cJ2_grow 2 = .ok (.getfield 48, 3) := dk_180 0 48 (dk_at dksJ2_grow_0 2 rfl rfl)
theorem dJ2_grow_5 : decode cJ2_grow 5 = .ok (.iconst 1, 1) := dk_4 (dk_at dksJ2_grow_0 5 rfl rfl)
theorem dJ2_grow_6 : decode cJ2_grow 6 = .ok (.iadd, 1) := dk_96 (dk_at dksJ2_grow_0 6 rfl rfl)
theorem dJ2_grow_7 : decode cJ2_grow 7 = .ok (.invokevirtual 69, 3) := dk_182 0 69 (dk_at dksJ2_grow_0 7 rfl rfl)
theorem dJ2_grow_10 : decode cJ2_grow 10 = .ok (.areturn, 1) := dk_176 (dk_at dksJ2_grow_0 10 rfl rfl)
abbrev cJ2_grow_2 : ByteArray := prog_40_method_6_code
def yJ2_grow_2 : MethodName := ⟨RJ2, "grow", "(I)[Ljava/lang/Object;"⟩
def dkwJ2_grow_2_2 : List UInt8 := [27, 184, 0, 79, 189, 0, 7, 90, 181, 0, 9, 176]
abbrev dktJ2_grow_2_2 : List UInt8 := dkwJ2_grow_2_2 ++ []
def dkwJ2_grow_2_1 : List UInt8 := [28, 4, 122, 184, 0, 73, 62, 42, 42, 180, 0, 9, 29, 184, 0, 66, 90, 181, 0, 9, 176, 42, 16, 10]
abbrev dktJ2_grow_2_1 : List UInt8 := dkwJ2_grow_2_1 ++ dktJ2_grow_2_2
def dkwJ2_grow_2_0 : List UInt8 := [42, 180, 0, 9, 190, 61, 28, 157, 0, 13, 42, 180, 0, 9, 178, 0, 39, 165, 0, 28, 28, 27, 28, 100]
abbrev dktJ2_grow_2_0 : List UInt8 := dkwJ2_grow_2_0 ++ dktJ2_grow_2_1
theorem dksJ2_grow_2_0 : cJ2_grow_2.data.toList.drop 0 = dktJ2_grow_2_0 := by decide +kernel
theorem dksJ2_grow_2_1 : cJ2_grow_2.data.toList.drop 24 = dktJ2_grow_2_1 := dk_seg dksJ2_grow_2_0 24 rfl rfl
theorem dksJ2_grow_2_2 : cJ2_grow_2.data.toList.drop 48 = dktJ2_grow_2_2 := dk_seg dksJ2_grow_2_1 24 rfl rfl
theorem dJ2_grow_2_0 : decode cJ2_grow_2 0 = .ok (.aload_n 0, 1) := dk_42 (dk_at dksJ2_grow_2_0 0 rfl rfl)
theorem dJ2_grow_2_1 : decode cJ2_grow_2 1 = .ok (.getfield 9, 3) := dk_180 0 9 (dk_at dksJ2_grow_2_0 1 rfl rfl)
theorem dJ2_grow_2_4 : decode cJ2_grow_2 4 = .ok (.arraylength, 1) := dk_190 (dk_at dksJ2_grow_2_0 4 rfl rfl)
theorem dJ2_grow_2_5 : decode cJ2_grow_2 5 = .ok (.istore_n 2, 1) := dk_61 (dk_at dksJ2_grow_2_0 5 rfl rfl)
theorem dJ2_grow_2_6 : decode cJ2_grow_2 6 = .ok (.iload_n 2, 1) := dk_28 (dk_at dksJ2_grow_2_0 6 rfl rfl)
theorem dJ2_grow_2_7 : decode cJ2_grow_2 7 = .ok (.ifCond .gt 13, 3) := dk_157 0 13 (dk_at dksJ2_grow_2_0 7 rfl rfl)
theorem dJ2_grow_2_10 : decode cJ2_grow_2 10 = .ok (.aload_n 0, 1) := dk_42 (dk_at dksJ2_grow_2_0 10 rfl rfl)
theorem dJ2_grow_2_11 : decode cJ2_grow_2 11 = .ok (.getfield 9, 3) := dk_180 0 9 (dk_at dksJ2_grow_2_0 11 rfl rfl)
theorem dJ2_grow_2_14 : decode cJ2_grow_2 14 = .ok (.getstatic 39, 3) := dk_178 0 39 (dk_at dksJ2_grow_2_0 14 rfl rfl)
theorem dJ2_grow_2_17 : decode cJ2_grow_2 17 = .ok (.if_acmp .eq 28, 3) := dk_165 0 28 (dk_at dksJ2_grow_2_0 17 rfl rfl)
theorem dJ2_grow_2_20 : decode cJ2_grow_2 20 = .ok (.iload_n 2, 1) := dk_28 (dk_at dksJ2_grow_2_0 20 rfl rfl)
theorem dJ2_grow_2_21 : decode cJ2_grow_2 21 = .ok (.iload_n 1, 1) := dk_27 (dk_at dksJ2_grow_2_0 21 rfl rfl)
theorem dJ2_grow_2_22 : decode cJ2_grow_2 22 = .ok (.iload_n 2, 1) := dk_28 (dk_at dksJ2_grow_2_0 22 rfl rfl)
theorem dJ2_grow_2_23 : decode cJ2_grow_2 23 = .ok (.isub, 1) := dk_100 (dk_at dksJ2_grow_2_0 23 rfl rfl)
theorem dJ2_grow_2_24 : decode cJ2_grow_2 24 = .ok (.iload_n 2, 1) := dk_28 (dk_at dksJ2_grow_2_1 0 rfl rfl)
theorem dJ2_grow_2_25 : decode cJ2_grow_2 25 = .ok (.iconst 1, 1) := dk_4 (dk_at dksJ2_grow_2_1 1 rfl rfl)
theorem dJ2_grow_2_26 : decode cJ2_grow_2 26 = .ok (.ishr, 1) := dk_122 (dk_at dksJ2_grow_2_1 2 rfl rfl)
theorem dJ2_grow_2_27 : decode cJ2_grow_2 27 = .ok (.invokestatic 73, 3) := dk_184 0 73 (dk_at dksJ2_grow_2_1 3 rfl rfl)
theorem dJ2_grow_2_30 : decode cJ2_grow_2 30 = .ok (.istore_n 3, 1) := dk_62 (dk_at dksJ2_grow_2_1 6 rfl rfl)
theorem dJ2_grow_2_31 : decode cJ2_grow_2 31 = .ok (.aload_n 0, 1) := dk_42 (dk_at dksJ2_grow_2_1 7 rfl rfl)
theorem dJ2_grow_2_32 : decode cJ2_grow_2 32 = .ok (.aload_n 0, 1) := dk_42 (dk_at dksJ2_grow_2_1 8 rfl rfl)
theorem dJ2_grow_2_33 : decode cJ2_grow_2 33 = .ok (.getfield 9, 3) := dk_180 0 9 (dk_at dksJ2_grow_2_1 9 rfl rfl)
theorem dJ2_grow_2_36 : decode cJ2_grow_2 36 = .ok (.iload_n 3, 1) := dk_29 (dk_at dksJ2_grow_2_1 12 rfl rfl)
theorem dJ2_grow_2_37 : decode cJ2_grow_2 37 = .ok (.invokestatic 66, 3) := dk_184 0 66 (dk_at dksJ2_grow_2_1 13 rfl rfl)
theorem dJ2_grow_2_40 : decode cJ2_grow_2 40 = .ok (.dup_x1, 1) := dk_90 (dk_at dksJ2_grow_2_1 16 rfl rfl)
theorem dJ2_grow_2_41 : decode cJ2_grow_2 41 = .ok (.putfield 9, 3) := dk_181 0 9 (dk_at dksJ2_grow_2_1 17 rfl rfl)
theorem dJ2_grow_2_44 : decode cJ2_grow_2 44 = .ok (.areturn, 1) := dk_176 (dk_at dksJ2_grow_2_1 20 rfl rfl)
theorem dJ2_grow_2_45 : decode cJ2_grow_2 45 = .ok (.aload_n 0, 1) := dk_42 (dk_at dksJ2_grow_2_1 21 rfl rfl)
theorem dJ2_grow_2_46 : decode cJ2_grow_2 46 = .ok (.bipush 10, 2) := dk_16 10 (dk_at dksJ2_grow_2_1 22 rfl rfl)
theorem dJ2_grow_2_48 : decode cJ2_grow_2 48 = .ok (.iload_n 1, 1) := dk_27 (dk_at dksJ2_grow_2_2 0 rfl rfl)
theorem dJ2_grow_2_49 : decode cJ2_grow_2 49 = .ok (.invokestatic 79, 3) := dk_184 0 79 (dk_at dksJ2_grow_2_2 1 rfl rfl)
theorem dJ2_grow_2_52 : decode cJ2_grow_2 52 = .ok (.anewarray 7, 3) := dk_189 0 7 (dk_at dksJ2_grow_2_2 4 rfl rfl)
theorem dJ2_grow_2_55 : decode cJ2_grow_2 55 = .ok (.dup_x1, 1) := dk_90 (dk_at dksJ2_grow_2_2 7 rfl rfl)
theorem dJ2_grow_2_56 : decode cJ2_grow_2 56 = .ok (.putfield 9, 3) := dk_181 0 9 (dk_at dksJ2_grow_2_2 8 rfl rfl)
theorem dJ2_grow_2_59 : decode cJ2_grow_2 59 = .ok (.areturn, 1) := dk_176 (dk_at dksJ2_grow_2_2 11 rfl rfl)
abbrev cJ2_get : ByteArray := prog_40_method_20_code
def yJ2_get : MethodName := ⟨RJ2, "get", "(I)Ljava/lang/Object;"⟩
def dkwJ2_get_0 : List UInt8 := [27, 42, 180, 0, 48, 184, 0, 118, 87, 42, 27, 182, 0, 123, 176]
abbrev dktJ2_get_0 : List UInt8 := dkwJ2_get_0 ++ []
theorem dksJ2_get_0 : cJ2_get.data.toList.drop 0 = dktJ2_get_0 := by decide +kernel
theorem dJ2_get_0 : decode cJ2_get 0 = .ok (.iload_n 1, 1) := dk_27 (dk_at dksJ2_get_0 0 rfl rfl)
theorem dJ2_get_1 : decode cJ2_get 1 = .ok (.aload_n 0, 1) := dk_42 (dk_at dksJ2_get_0 1 rfl rfl)
theorem dJ2_get_2 : decode cJ2_get 2 = .ok (.getfield 48, 3) := dk_180 0 48 (dk_at dksJ2_get_0 2 rfl rfl)
theorem dJ2_get_5 : decode cJ2_get 5 = .ok (.invokestatic 118, 3) := dk_184 0 118 (dk_at dksJ2_get_0 5 rfl rfl)
theorem dJ2_get_8 : decode cJ2_get 8 = .ok (.pop, 1) := dk_87 (dk_at dksJ2_get_0 8 rfl rfl)
theorem dJ2_get_9 : decode cJ2_get 9 = .ok (.aload_n 0, 1) := dk_42 (dk_at dksJ2_get_0 9 rfl rfl)
theorem dJ2_get_10 : decode cJ2_get 10 = .ok (.iload_n 1, 1) := dk_27 (dk_at dksJ2_get_0 10 rfl rfl)
theorem dJ2_get_11 : decode cJ2_get 11 = .ok (.invokevirtual 123, 3) := dk_182 0 123 (dk_at dksJ2_get_0 11 rfl rfl)
theorem dJ2_get_14 : decode cJ2_get 14 = .ok (.areturn, 1) := dk_176 (dk_at dksJ2_get_0 14 rfl rfl)
abbrev cJ2_elementData : ByteArray := prog_40_method_18_code
def yJ2_elementData : MethodName := ⟨RJ2, "elementData", "(I)Ljava/lang/Object;"⟩
def dkwJ2_elementData_0 : List UInt8 := [42, 180, 0, 9, 27, 50, 176]
abbrev dktJ2_elementData_0 : List UInt8 := dkwJ2_elementData_0 ++ []
theorem dksJ2_elementData_0 : cJ2_elementData.data.toList.drop 0 = dktJ2_elementData_0 := by decide +kernel
theorem dJ2_elementData_0 : decode cJ2_elementData 0 = .ok (.aload_n 0, 1) := dk_42 (dk_at dksJ2_elementData_0 0 rfl rfl)
theorem dJ2_elementData_1 : decode cJ2_elementData 1 = .ok (.getfield 9, 3) := dk_180 0 9 (dk_at dksJ2_elementData_0 1 rfl rfl)
theorem dJ2_elementData_4 : decode cJ2_elementData 4 = .ok (.iload_n 1, 1) := dk_27 (dk_at dksJ2_elementData_0 4 rfl rfl)
theorem dJ2_elementData_5 : decode cJ2_elementData 5 = .ok (.aaload, 1) := dk_50 (dk_at dksJ2_elementData_0 5 rfl rfl)
theorem dJ2_elementData_6 : decode cJ2_elementData 6 = .ok (.areturn, 1) := dk_176 (dk_at dksJ2_elementData_0 6 rfl rfl)
theorem q134 : (Jvm.Cond.initialized "java/util/ArrayList") ∈ lw_all := lw_g (lw_at lw_m1 5 rfl) rfl
theorem q181 : (Jvm.Cond.instantiable "java/util/ArrayList" (3 : Nat)) ∈ lw_all := lw_g (lw_at lw_m1 52 rfl) rfl
theorem q183 : (Jvm.Cond.instanceMethod ({ cls := "java/util/ArrayList", name := "<init>", desc := "(I)V" } : Jvm.MethodName)) ∈ lw_all := lw_g (lw_at lw_m1 54 rfl) rfl
theorem q184 : (Jvm.Cond.code ({ cls := "java/util/ArrayList", name := "<init>", desc := "(I)V" } : Jvm.MethodName) prog_40_method_1_code (2 : Nat) (Option.none : Option Jvm.ClassFile.FieldType)) ∈ lw_all := lw_g (lw_at lw_m1 55 rfl) rfl
theorem q185 : (Jvm.Cond.methodLink "java/util/ArrayList" (1 : Nat) ({ cls := "java/util/AbstractList", name := "<init>", desc := "()V" } : Jvm.MethodName)) ∈ lw_all := lw_g (lw_at lw_m1 56 rfl) rfl
theorem q192 : (Jvm.Cond.classLink "java/util/ArrayList" (7 : Nat) "java/lang/Object") ∈ lw_all := lw_g (lw_at lw_m1 63 rfl) rfl
theorem q194 : (Jvm.Cond.fieldLink "java/util/ArrayList" (15 : Nat) "java/util/ArrayList" "EMPTY_ELEMENTDATA" "[Ljava/lang/Object;") ∈ lw_all := lw_g (lw_at lw_m1 65 rfl) rfl
theorem q195 : (Jvm.Cond.laysStatic "java/util/ArrayList" "EMPTY_ELEMENTDATA" "[Ljava/lang/Object;") ∈ lw_tbl := lw_at lw_m1 66 rfl
theorem q196 : (Jvm.Cond.fieldLink "java/util/ArrayList" (9 : Nat) "java/util/ArrayList" "elementData" "[Ljava/lang/Object;") ∈ lw_all := lw_g (lw_at lw_m1 67 rfl) rfl
theorem q197 : (Jvm.Cond.fieldLink "java/util/ArrayList" (48 : Nat) "java/util/ArrayList" "size" "I") ∈ lw_all := lw_g (lw_at lw_m1 68 rfl) rfl
theorem q199 : (Jvm.Cond.fieldLink "java/util/ArrayList" (63 : Nat) "java/util/ArrayList" "modCount" "I") ∈ lw_all := lw_g (lw_at lw_m1 70 rfl) rfl
theorem q200 : (Jvm.Cond.sameField "java/util/ArrayList" "java/util/AbstractList" "modCount" "I") ∈ lw_all := lw_g (lw_at lw_m1 71 rfl) rfl
theorem q201 : (Jvm.Cond.lays "java/util/ArrayList" "java/util/ArrayList" "elementData" "[Ljava/lang/Object;") ∈ lw_all := lw_g (lw_at lw_m1 72 rfl) rfl
theorem q202 : (Jvm.Cond.soleField "java/util/ArrayList" "elementData") ∈ lw_all := lw_g (lw_at lw_m1 73 rfl) rfl
theorem q203 : (Jvm.Cond.lays "java/util/ArrayList" "java/util/ArrayList" "size" "I") ∈ lw_all := lw_g (lw_at lw_m1 74 rfl) rfl
theorem q204 : (Jvm.Cond.soleField "java/util/ArrayList" "size") ∈ lw_all := lw_g (lw_at lw_m1 75 rfl) rfl
theorem q205 : (Jvm.Cond.lays "java/util/ArrayList" "java/util/AbstractList" "modCount" "I") ∈ lw_all := lw_g (lw_at lw_m1 76 rfl) rfl
theorem q207 : (Jvm.Cond.superclass "java/util/ArrayList" "java/util/AbstractList") ∈ lw_all := lw_g (lw_at lw_m1 78 rfl) rfl
theorem q585 : (Jvm.Cond.instanceMethod ({ cls := "java/util/ArrayList", name := "size", desc := "()I" } : Jvm.MethodName)) ∈ lw_all := lw_g (lw_at lw_m2 216 rfl) rfl
theorem q586 : (Jvm.Cond.selects "java/util/ArrayList" ({ cls := "java/util/ArrayList", name := "size", desc := "()I" } : Jvm.MethodName) ({ cls := "java/util/ArrayList", name := "size", desc := "()I" } : Jvm.MethodName)) ∈ lw_all := lw_g (lw_at lw_m2 217 rfl) rfl
theorem q587 : (Jvm.Cond.code ({ cls := "java/util/ArrayList", name := "size", desc := "()I" } : Jvm.MethodName) prog_40_method_8_code (1 : Nat) (Option.some Jvm.ClassFile.FieldType.int)) ∈ lw_all := lw_g (lw_at lw_m2 218 rfl) rfl
theorem q609 : (Jvm.Cond.instanceMethod ({ cls := "java/util/ArrayList", name := "add", desc := "(Ljava/lang/Object;)Z" } : Jvm.MethodName)) ∈ lw_all := lw_g (lw_at lw_m3 0 rfl) rfl
theorem q610 : (Jvm.Cond.selects "java/util/ArrayList" ({ cls := "java/util/ArrayList", name := "add", desc := "(Ljava/lang/Object;)Z" } : Jvm.MethodName) ({ cls := "java/util/ArrayList", name := "add", desc := "(Ljava/lang/Object;)Z" } : Jvm.MethodName)) ∈ lw_all := lw_g (lw_at lw_m3 1 rfl) rfl
theorem q611 : (Jvm.Cond.code ({ cls := "java/util/ArrayList", name := "add", desc := "(Ljava/lang/Object;)Z" } : Jvm.MethodName) prog_40_method_25_code (2 : Nat) (Option.some Jvm.ClassFile.FieldType.boolean)) ∈ lw_all := lw_g (lw_at lw_m3 2 rfl) rfl
theorem q612 : (Jvm.Cond.methodLink "java/util/ArrayList" (131 : Nat) ({ cls := "java/util/ArrayList", name := "add", desc := "(Ljava/lang/Object;[Ljava/lang/Object;I)V" } : Jvm.MethodName)) ∈ lw_all := lw_g (lw_at lw_m3 3 rfl) rfl
theorem q613 : (Jvm.Cond.privateMethod ({ cls := "java/util/ArrayList", name := "add", desc := "(Ljava/lang/Object;[Ljava/lang/Object;I)V" } : Jvm.MethodName)) ∈ lw_tbl := lw_at lw_m3 4 rfl
theorem q614 : (Jvm.Cond.instanceMethod ({ cls := "java/util/ArrayList", name := "add", desc := "(Ljava/lang/Object;[Ljava/lang/Object;I)V" } : Jvm.MethodName)) ∈ lw_all := lw_g (lw_at lw_m3 5 rfl) rfl
theorem q615 : (Jvm.Cond.code ({ cls := "java/util/ArrayList", name := "add", desc := "(Ljava/lang/Object;[Ljava/lang/Object;I)V" } : Jvm.MethodName) prog_40_method_24_code (4 : Nat) (Option.none : Option Jvm.ClassFile.FieldType)) ∈ lw_all := lw_g (lw_at lw_m3 6 rfl) rfl
theorem q616 : (Jvm.Cond.methodLink "java/util/ArrayList" (129 : Nat) ({ cls := "java/util/ArrayList", name := "grow", desc := "()[Ljava/lang/Object;" } : Jvm.MethodName)) ∈ lw_all := lw_g (lw_at lw_m3 7 rfl) rfl
theorem q617 : (Jvm.Cond.privateMethod ({ cls := "java/util/ArrayList", name := "grow", desc := "()[Ljava/lang/Object;" } : Jvm.MethodName)) ∈ lw_tbl := lw_at lw_m3 8 rfl
theorem q618 : (Jvm.Cond.instanceMethod ({ cls := "java/util/ArrayList", name := "grow", desc := "()[Ljava/lang/Object;" } : Jvm.MethodName)) ∈ lw_all := lw_g (lw_at lw_m3 9 rfl) rfl
theorem q619 : (Jvm.Cond.code ({ cls := "java/util/ArrayList", name := "grow", desc := "()[Ljava/lang/Object;" } : Jvm.MethodName) prog_40_method_7_code (1 : Nat) (Option.some (Jvm.ClassFile.FieldType.array (Jvm.ClassFile.FieldType.object "java/lang/Object")))) ∈ lw_all := lw_g (lw_at lw_m3 10 rfl) rfl
theorem q620 : (Jvm.Cond.methodLink "java/util/ArrayList" (69 : Nat) ({ cls := "java/util/ArrayList", name := "grow", desc := "(I)[Ljava/lang/Object;" } : Jvm.MethodName)) ∈ lw_all := lw_g (lw_at lw_m3 11 rfl) rfl
theorem q621 : (Jvm.Cond.privateMethod ({ cls := "java/util/ArrayList", name := "grow", desc := "(I)[Ljava/lang/Object;" } : Jvm.MethodName)) ∈ lw_tbl := lw_at lw_m3 12 rfl
theorem q622 : (Jvm.Cond.instanceMethod ({ cls := "java/util/ArrayList", name := "grow", desc := "(I)[Ljava/lang/Object;" } : Jvm.MethodName)) ∈ lw_all := lw_g (lw_at lw_m3 13 rfl) rfl
theorem q623 : (Jvm.Cond.code ({ cls := "java/util/ArrayList", name := "grow", desc := "(I)[Ljava/lang/Object;" } : Jvm.MethodName) prog_40_method_6_code (4 : Nat) (Option.some (Jvm.ClassFile.FieldType.array (Jvm.ClassFile.FieldType.object "java/lang/Object")))) ∈ lw_all := lw_g (lw_at lw_m3 14 rfl) rfl
theorem q624 : (Jvm.Cond.fieldLink "java/util/ArrayList" (39 : Nat) "java/util/ArrayList" "DEFAULTCAPACITY_EMPTY_ELEMENTDATA" "[Ljava/lang/Object;") ∈ lw_all := lw_g (lw_at lw_m3 15 rfl) rfl
theorem q625 : (Jvm.Cond.laysStatic "java/util/ArrayList" "DEFAULTCAPACITY_EMPTY_ELEMENTDATA" "[Ljava/lang/Object;") ∈ lw_tbl := lw_at lw_m3 16 rfl
theorem q626 : (Jvm.Cond.methodLink "java/util/ArrayList" (73 : Nat) ({ cls := "jdk/internal/util/ArraysSupport", name := "newLength", desc := "(III)I" } : Jvm.MethodName)) ∈ lw_all := lw_g (lw_at lw_m3 17 rfl) rfl
theorem q636 : (Jvm.Cond.methodLink "java/util/ArrayList" (66 : Nat) ({ cls := "java/util/Arrays", name := "copyOf", desc := "([Ljava/lang/Object;I)[Ljava/lang/Object;" } : Jvm.MethodName)) ∈ lw_all := lw_g (lw_at lw_m3 27 rfl) rfl
theorem q659 : (Jvm.Cond.selects "java/util/ArrayList" ({ cls := "java/lang/Object", name := "getClass", desc := "()Ljava/lang/Class;" } : Jvm.MethodName) ({ cls := "java/lang/Object", name := "getClass", desc := "()Ljava/lang/Class;" } : Jvm.MethodName)) ∈ lw_all := lw_g (lw_at lw_m3 50 rfl) rfl
theorem q672 : (Jvm.Cond.methodLink "java/util/ArrayList" (79 : Nat) ({ cls := "java/lang/Math", name := "max", desc := "(II)I" } : Jvm.MethodName)) ∈ lw_all := lw_g (lw_at lw_m3 63 rfl) rfl
theorem q729 : (Jvm.Cond.instanceMethod ({ cls := "java/util/ArrayList", name := "get", desc := "(I)Ljava/lang/Object;" } : Jvm.MethodName)) ∈ lw_all := lw_g (lw_at lw_m3 120 rfl) rfl
theorem q730 : (Jvm.Cond.selects "java/util/ArrayList" ({ cls := "java/util/ArrayList", name := "get", desc := "(I)Ljava/lang/Object;" } : Jvm.MethodName) ({ cls := "java/util/ArrayList", name := "get", desc := "(I)Ljava/lang/Object;" } : Jvm.MethodName)) ∈ lw_all := lw_g (lw_at lw_m3 121 rfl) rfl
theorem q731 : (Jvm.Cond.code ({ cls := "java/util/ArrayList", name := "get", desc := "(I)Ljava/lang/Object;" } : Jvm.MethodName) prog_40_method_20_code (2 : Nat) (Option.some (Jvm.ClassFile.FieldType.object "java/lang/Object"))) ∈ lw_all := lw_g (lw_at lw_m3 122 rfl) rfl
theorem q732 : (Jvm.Cond.methodLink "java/util/ArrayList" (118 : Nat) ({ cls := "java/util/Objects", name := "checkIndex", desc := "(II)I" } : Jvm.MethodName)) ∈ lw_all := lw_g (lw_at lw_m3 123 rfl) rfl
theorem q736 : (Jvm.Cond.methodLink "java/util/ArrayList" (123 : Nat) ({ cls := "java/util/ArrayList", name := "elementData", desc := "(I)Ljava/lang/Object;" } : Jvm.MethodName)) ∈ lw_all := lw_g (lw_at lw_m3 127 rfl) rfl
theorem q737 : (Jvm.Cond.instanceMethod ({ cls := "java/util/ArrayList", name := "elementData", desc := "(I)Ljava/lang/Object;" } : Jvm.MethodName)) ∈ lw_all := lw_g (lw_at lw_m3 128 rfl) rfl
theorem q738 : (Jvm.Cond.selects "java/util/ArrayList" ({ cls := "java/util/ArrayList", name := "elementData", desc := "(I)Ljava/lang/Object;" } : Jvm.MethodName) ({ cls := "java/util/ArrayList", name := "elementData", desc := "(I)Ljava/lang/Object;" } : Jvm.MethodName)) ∈ lw_all := lw_g (lw_at lw_m3 129 rfl) rfl
theorem q739 : (Jvm.Cond.code ({ cls := "java/util/ArrayList", name := "elementData", desc := "(I)Ljava/lang/Object;" } : Jvm.MethodName) prog_40_method_18_code (2 : Nat) (Option.some (Jvm.ClassFile.FieldType.object "java/lang/Object"))) ∈ lw_all := lw_g (lw_at lw_m3 130 rfl) rfl
theorem q1890 : (Jvm.Cond.castable "java/util/ArrayList" "java/lang/Object") ∈ lw_tbl := lw_at lw_m8 81 rfl
theorem in_J2 : ∀ w ∈ wsJ20, w ∈ lw_all := lw_in wsJ20 [205, 201, 203] (by decide +kernel) (by decide +kernel)

/-! java/lang/Throwable -/
set_option maxRecDepth 100000
def RJ3 : String := "java/lang/Throwable"
def TJ3 : u_T := fun k => match k with
  | 0 => ("java/lang/Throwable", "cause", "Ljava/lang/Throwable;", false)
  | 1 => ("java/lang/Throwable", "stackTrace", "[Ljava/lang/StackTraceElement;", false)
  | 2 => ("java/lang/Throwable", "suppressedExceptions", "Ljava/util/List;", false)
  | 3 => ("java/lang/Throwable", "detailMessage", "Ljava/lang/String;", false)
  | _ => ("java/lang/Throwable", "backtrace", "Ljava/lang/Object;", false)
def tyJ3 : Nat → FieldType := fun k => match k with
  | 0 => .object "java/lang/Throwable"
  | 1 => .array (.object "java/lang/StackTraceElement")
  | 2 => .object "java/util/List"
  | 3 => .object "java/lang/String"
  | _ => .object "java/lang/Object"
abbrev wsJ30 : List Cond := u_ws RJ3 TJ3 5
theorem nmJ3 : ∀ a, a < 5 → ∀ b, b < 5 → a ≠ b → (TJ3 a).2.1 ≠ (TJ3 b).2.1 := by decide +kernel
theorem tyJ3_ok : ∀ k, k < 5 → parseFieldDescriptor (TJ3 k).2.2.1 = some (tyJ3 k) := by decide +kernel
abbrev cJ3_init : ByteArray := prog_35_method_1_code
def yJ3_init : MethodName := ⟨RJ3, "<init>", "()V"⟩
def dkwJ3_init_1 : List UInt8 := [182, 0, 27, 87, 177]
abbrev dktJ3_init_1 : List UInt8 := dkwJ3_init_1 ++ []
def dkwJ3_init_0 : List UInt8 := [42, 183, 0, 1, 42, 42, 181, 0, 7, 42, 178, 0, 13, 181, 0, 17, 42, 178, 0, 20, 181, 0, 24, 42]
abbrev dktJ3_init_0 : List UInt8 := dkwJ3_init_0 ++ dktJ3_init_1
theorem dksJ3_init_0 : cJ3_init.data.toList.drop 0 = dktJ3_init_0 := by decide +kernel
theorem dksJ3_init_1 : cJ3_init.data.toList.drop 24 = dktJ3_init_1 := dk_seg dksJ3_init_0 24 rfl rfl
theorem dJ3_init_0 : decode cJ3_init 0 = .ok (.aload_n 0, 1) := dk_42 (dk_at dksJ3_init_0 0 rfl rfl)
theorem dJ3_init_1 : decode cJ3_init 1 = .ok (.invokespecial 1, 3) := dk_183 0 1 (dk_at dksJ3_init_0 1 rfl rfl)
theorem dJ3_init_4 : decode cJ3_init 4 = .ok (.aload_n 0, 1) := dk_42 (dk_at dksJ3_init_0 4 rfl rfl)
theorem dJ3_init_5 : decode cJ3_init 5 = .ok (.aload_n 0, 1) := dk_42 (dk_at dksJ3_init_0 5 rfl rfl)
theorem dJ3_init_6 : decode cJ3_init 6 = .ok (.putfield 7, 3) := dk_181 0 7 (dk_at dksJ3_init_0 6 rfl rfl)
theorem dJ3_init_9 : decode cJ3_init 9 = .ok (.aload_n 0, 1) := dk_42 (dk_at dksJ3_init_0 9 rfl rfl)
theorem dJ3_init_10 : decode cJ3_init 10 = .ok (.getstatic 13, 3) := dk_178 0 13 (dk_at dksJ3_init_0 10 rfl rfl)
theorem dJ3_init_13 : decode cJ3_init 13 = .ok (.putfield 17, 3) := dk_181 0 17 (dk_at dksJ3_init_0 13 rfl rfl)
theorem dJ3_init_16 : decode cJ3_init 16 = .ok (.aload_n 0, 1) := dk_42 (dk_at dksJ3_init_0 16 rfl rfl)
theorem dJ3_init_17 : decode cJ3_init 17 = .ok (.getstatic 20, 3) := dk_178 0 20 (dk_at dksJ3_init_0 17 rfl rfl)
theorem dJ3_init_20 : decode cJ3_init 20 = .ok (.putfield 24, 3) := dk_181 0 24 (dk_at dksJ3_init_0 20 rfl rfl)
theorem dJ3_init_23 : decode cJ3_init 23 = .ok (.aload_n 0, 1) := dk_42 (dk_at dksJ3_init_0 23 rfl rfl)
theorem dJ3_init_24 : decode cJ3_init 24 = .ok (.invokevirtual 27, 3) := dk_182 0 27 (dk_at dksJ3_init_1 0 rfl rfl)
theorem dJ3_init_27 : decode cJ3_init 27 = .ok (.pop, 1) := dk_87 (dk_at dksJ3_init_1 3 rfl rfl)
theorem dJ3_init_28 : decode cJ3_init 28 = .ok (.return_, 1) := dk_177 (dk_at dksJ3_init_1 4 rfl rfl)
theorem q136 : (Jvm.Cond.initialized "java/lang/Throwable") ∈ lw_all := lw_g (lw_at lw_m1 7 rfl) rfl
theorem q283 : (Jvm.Cond.declares ({ cls := "java/lang/Throwable", name := "<init>", desc := "()V" } : Jvm.MethodName)) ∈ lw_tbl := lw_at lw_m1 154 rfl
theorem q284 : (Jvm.Cond.declares ({ cls := "java/lang/Throwable", name := "<init>", desc := "(Ljava/lang/String;)V" } : Jvm.MethodName)) ∈ lw_tbl := lw_at lw_m1 155 rfl
theorem q288 : (Jvm.Cond.lays "java/lang/Throwable" "java/lang/Throwable" "cause" "Ljava/lang/Throwable;") ∈ lw_all := lw_g (lw_at lw_m1 159 rfl) rfl
theorem q290 : (Jvm.Cond.lays "java/lang/Throwable" "java/lang/Throwable" "stackTrace" "[Ljava/lang/StackTraceElement;") ∈ lw_all := lw_g (lw_at lw_m1 161 rfl) rfl
theorem q292 : (Jvm.Cond.lays "java/lang/Throwable" "java/lang/Throwable" "suppressedExceptions" "Ljava/util/List;") ∈ lw_all := lw_g (lw_at lw_m1 163 rfl) rfl
theorem q294 : (Jvm.Cond.lays "java/lang/Throwable" "java/lang/Throwable" "detailMessage" "Ljava/lang/String;") ∈ lw_all := lw_g (lw_at lw_m1 165 rfl) rfl
theorem q296 : (Jvm.Cond.lays "java/lang/Throwable" "java/lang/Throwable" "backtrace" "Ljava/lang/Object;") ∈ lw_all := lw_g (lw_at lw_m1 167 rfl) rfl
theorem q297 : (Jvm.Cond.fieldLink "java/lang/Throwable" (198 : Nat) "java/lang/Throwable" "backtrace" "Ljava/lang/Object;") ∈ lw_all := lw_g (lw_at lw_m1 168 rfl) rfl
theorem q298 : (Jvm.Cond.superclass "java/lang/Throwable" "java/lang/Object") ∈ lw_all := lw_g (lw_at lw_m1 169 rfl) rfl
theorem q299 : (Jvm.Cond.instanceMethod ({ cls := "java/lang/Throwable", name := "<init>", desc := "()V" } : Jvm.MethodName)) ∈ lw_all := lw_g (lw_at lw_m1 170 rfl) rfl
theorem q300 : (Jvm.Cond.code ({ cls := "java/lang/Throwable", name := "<init>", desc := "()V" } : Jvm.MethodName) prog_35_method_1_code (1 : Nat) (Option.none : Option Jvm.ClassFile.FieldType)) ∈ lw_all := lw_g (lw_at lw_m1 171 rfl) rfl
theorem q301 : (Jvm.Cond.methodLink "java/lang/Throwable" (1 : Nat) ({ cls := "java/lang/Object", name := "<init>", desc := "()V" } : Jvm.MethodName)) ∈ lw_all := lw_g (lw_at lw_m1 172 rfl) rfl
theorem q302 : (Jvm.Cond.fieldLink "java/lang/Throwable" (13 : Nat) "java/lang/Throwable" "UNASSIGNED_STACK" "[Ljava/lang/StackTraceElement;") ∈ lw_all := lw_g (lw_at lw_m1 173 rfl) rfl
theorem q303 : (Jvm.Cond.laysStatic "java/lang/Throwable" "UNASSIGNED_STACK" "[Ljava/lang/StackTraceElement;") ∈ lw_tbl := lw_at lw_m1 174 rfl
theorem q304 : (Jvm.Cond.fieldLink "java/lang/Throwable" (20 : Nat) "java/lang/Throwable" "SUPPRESSED_SENTINEL" "Ljava/util/List;") ∈ lw_all := lw_g (lw_at lw_m1 175 rfl) rfl
theorem q305 : (Jvm.Cond.laysStatic "java/lang/Throwable" "SUPPRESSED_SENTINEL" "Ljava/util/List;") ∈ lw_tbl := lw_at lw_m1 176 rfl
theorem q306 : (Jvm.Cond.methodLink "java/lang/Throwable" (27 : Nat) ({ cls := "java/lang/Throwable", name := "fillInStackTrace", desc := "()Ljava/lang/Throwable;" } : Jvm.MethodName)) ∈ lw_all := lw_g (lw_at lw_m1 177 rfl) rfl
theorem q307 : (Jvm.Cond.instanceMethod ({ cls := "java/lang/Throwable", name := "fillInStackTrace", desc := "()Ljava/lang/Throwable;" } : Jvm.MethodName)) ∈ lw_all := lw_g (lw_at lw_m1 178 rfl) rfl
theorem q308 : (Jvm.Cond.sameMethod "java/lang/Throwable" "java/lang/Throwable" "fillInStackTrace" "()Ljava/lang/Throwable;") ∈ lw_all := lw_g (lw_at lw_m1 179 rfl) rfl
theorem q309 : (Jvm.Cond.codeSync ({ cls := "java/lang/Throwable", name := "fillInStackTrace", desc := "()Ljava/lang/Throwable;" } : Jvm.MethodName) prog_35_method_18_code (1 : Nat) (Option.some (Jvm.ClassFile.FieldType.object "java/lang/Throwable"))) ∈ lw_all := lw_g (lw_at lw_m1 180 rfl) rfl
theorem q310 : (Jvm.Cond.methodLink "java/lang/Throwable" (202 : Nat) ({ cls := "java/lang/Throwable", name := "fillInStackTrace", desc := "(I)Ljava/lang/Throwable;" } : Jvm.MethodName)) ∈ lw_all := lw_g (lw_at lw_m1 181 rfl) rfl
theorem q311 : (Jvm.Cond.privateMethod ({ cls := "java/lang/Throwable", name := "fillInStackTrace", desc := "(I)Ljava/lang/Throwable;" } : Jvm.MethodName)) ∈ lw_tbl := lw_at lw_m1 182 rfl
theorem q312 : (Jvm.Cond.instanceMethod ({ cls := "java/lang/Throwable", name := "fillInStackTrace", desc := "(I)Ljava/lang/Throwable;" } : Jvm.MethodName)) ∈ lw_all := lw_g (lw_at lw_m1 183 rfl) rfl
theorem q313 : (Jvm.Cond.instantiable "java/lang/Throwable" (6 : Nat)) ∈ lw_all := lw_g (lw_at lw_m1 184 rfl) rfl
theorem q314 : (Jvm.Cond.native ({ cls := "java/lang/Throwable", name := "fillInStackTrace", desc := "(I)Ljava/lang/Throwable;" } : Jvm.MethodName)) ∈ lw_all := lw_g (lw_at lw_m1 185 rfl) rfl
theorem q323 : (Jvm.Cond.fieldLink "java/lang/Throwable" (198 : Nat) "java/lang/Throwable" "backtrace" "Ljava/lang/Object;") ∈ lw_all := lw_g (lw_at lw_m1 194 rfl) rfl
theorem q324 : (Jvm.Cond.fieldLink "java/lang/Throwable" (7 : Nat) "java/lang/Throwable" "cause" "Ljava/lang/Throwable;") ∈ lw_all := lw_g (lw_at lw_m1 195 rfl) rfl
theorem q325 : (Jvm.Cond.fieldLink "java/lang/Throwable" (17 : Nat) "java/lang/Throwable" "stackTrace" "[Ljava/lang/StackTraceElement;") ∈ lw_all := lw_g (lw_at lw_m1 196 rfl) rfl
theorem q326 : (Jvm.Cond.fieldLink "java/lang/Throwable" (24 : Nat) "java/lang/Throwable" "suppressedExceptions" "Ljava/util/List;") ∈ lw_all := lw_g (lw_at lw_m1 197 rfl) rfl
theorem q329 : (Jvm.Cond.soleField "java/lang/Throwable" "backtrace") ∈ lw_all := lw_g (lw_at lw_m1 200 rfl) rfl
theorem q330 : (Jvm.Cond.soleField "java/lang/Throwable" "detailMessage") ∈ lw_all := lw_g (lw_at lw_m1 201 rfl) rfl
theorem q331 : (Jvm.Cond.soleField "java/lang/Throwable" "cause") ∈ lw_all := lw_g (lw_at lw_m1 202 rfl) rfl
theorem q332 : (Jvm.Cond.soleField "java/lang/Throwable" "stackTrace") ∈ lw_all := lw_g (lw_at lw_m1 203 rfl) rfl
theorem q334 : (Jvm.Cond.soleField "java/lang/Throwable" "depth") ∈ lw_all := lw_g (lw_at lw_m1 205 rfl) rfl
theorem q335 : (Jvm.Cond.soleField "java/lang/Throwable" "suppressedExceptions") ∈ lw_all := lw_g (lw_at lw_m1 206 rfl) rfl
theorem q1883 : (Jvm.Cond.sameMethod "java/lang/Throwable" "java/lang/Throwable" "fillInStackTrace" "(I)Ljava/lang/Throwable;") ∈ lw_all := lw_g (lw_at lw_m8 74 rfl) rfl
theorem q1904 : (Jvm.Cond.castable "java/lang/Throwable" "java/lang/Object") ∈ lw_tbl := lw_at lw_m8 95 rfl
theorem in_J3 : ∀ w ∈ wsJ30, w ∈ lw_all := lw_in wsJ30 [288, 290, 292, 294, 296] (by decide +kernel) (by decide +kernel)

/-! java/lang/Exception -/
set_option maxRecDepth 100000
def RJ4 : String := "java/lang/Exception"
abbrev cJ4_init : ByteArray := prog_24_method_1_code
def yJ4_init : MethodName := ⟨RJ4, "<init>", "()V"⟩
theorem dJ4_init_0 : decode cJ4_init 0 = .ok (.aload_n 0, 1) := by decide +kernel
theorem dJ4_init_1 : decode cJ4_init 1 = .ok (.invokespecial 1, 3) := by decide +kernel
theorem dJ4_init_4 : decode cJ4_init 4 = .ok (.return_, 1) := by decide +kernel
theorem q137 : (Jvm.Cond.initialized "java/lang/Exception") ∈ lw_all := lw_g (lw_at lw_m1 8 rfl) rfl
theorem q281 : (Jvm.Cond.declares ({ cls := "java/lang/Exception", name := "<init>", desc := "()V" } : Jvm.MethodName)) ∈ lw_tbl := lw_at lw_m1 152 rfl
theorem q282 : (Jvm.Cond.declares ({ cls := "java/lang/Exception", name := "<init>", desc := "(Ljava/lang/String;)V" } : Jvm.MethodName)) ∈ lw_tbl := lw_at lw_m1 153 rfl
theorem q319 : (Jvm.Cond.instanceMethod ({ cls := "java/lang/Exception", name := "<init>", desc := "()V" } : Jvm.MethodName)) ∈ lw_all := lw_g (lw_at lw_m1 190 rfl) rfl
theorem q320 : (Jvm.Cond.code ({ cls := "java/lang/Exception", name := "<init>", desc := "()V" } : Jvm.MethodName) prog_24_method_1_code (1 : Nat) (Option.none : Option Jvm.ClassFile.FieldType)) ∈ lw_all := lw_g (lw_at lw_m1 191 rfl) rfl
theorem q321 : (Jvm.Cond.methodLink "java/lang/Exception" (1 : Nat) ({ cls := "java/lang/Throwable", name := "<init>", desc := "()V" } : Jvm.MethodName)) ∈ lw_all := lw_g (lw_at lw_m1 192 rfl) rfl

/-! java/lang/String -/
set_option maxRecDepth 100000
def RJ5 : String := "java/lang/String"
abbrev cJ5_length : ByteArray := prog_31_method_54_code
def yJ5_length : MethodName := ⟨RJ5, "length", "()I"⟩
def dkwJ5_length_0 : List UInt8 := [42, 180, 0, 9, 190, 42, 182, 1, 79, 122, 172]
abbrev dktJ5_length_0 : List UInt8 := dkwJ5_length_0 ++ []
theorem dksJ5_length_0 : cJ5_length.data.toList.drop 0 = dktJ5_length_0 := by decide +kernel
theorem dJ5_length_0 : decode cJ5_length 0 = .ok (.aload_n 0, 1) := dk_42 (dk_at dksJ5_length_0 0 rfl rfl)
theorem dJ5_length_1 : decode cJ5_length 1 = .ok (.getfield 9, 3) := dk_180 0 9 (dk_at dksJ5_length_0 1 rfl rfl)
theorem dJ5_length_4 : decode cJ5_length 4 = .ok (.arraylength, 1) := dk_190 (dk_at dksJ5_length_0 4 rfl rfl)
theorem dJ5_length_5 : decode cJ5_length 5 = .ok (.aload_n 0, 1) := dk_42 (dk_at dksJ5_length_0 5 rfl rfl)
theorem dJ5_length_6 : decode cJ5_length 6 = .ok (.invokevirtual 335, 3) := dk_182 1 79 (dk_at dksJ5_length_0 6 rfl rfl)
theorem dJ5_length_9 : decode cJ5_length 9 = .ok (.ishr, 1) := dk_122 (dk_at dksJ5_length_0 9 rfl rfl)
theorem dJ5_length_10 : decode cJ5_length 10 = .ok (.ireturn, 1) := dk_172 (dk_at dksJ5_length_0 10 rfl rfl)
abbrev cJ5_coder : ByteArray := prog_31_method_152_code
def yJ5_coder : MethodName := ⟨RJ5, "coder", "()B"⟩
def dkwJ5_coder_0 : List UInt8 := [178, 0, 38, 153, 0, 10, 42, 180, 0, 15, 167, 0, 4, 4, 172]
abbrev dktJ5_coder_0 : List UInt8 := dkwJ5_coder_0 ++ []
theorem dksJ5_coder_0 : cJ5_coder.data.toList.drop 0 = dktJ5_coder_0 := by decide +kernel
theorem dJ5_coder_0 : decode cJ5_coder 0 = .ok (.getstatic 38, 3) := dk_178 0 38 (dk_at dksJ5_coder_0 0 rfl rfl)
theorem dJ5_coder_3 : decode cJ5_coder 3 = .ok (.ifCond .eq 10, 3) := dk_153 0 10 (dk_at dksJ5_coder_0 3 rfl rfl)
theorem dJ5_coder_6 : decode cJ5_coder 6 = .ok (.aload_n 0, 1) := dk_42 (dk_at dksJ5_coder_0 6 rfl rfl)
theorem dJ5_coder_7 : decode cJ5_coder 7 = .ok (.getfield 15, 3) := dk_180 0 15 (dk_at dksJ5_coder_0 7 rfl rfl)
theorem dJ5_coder_10 : decode cJ5_coder 10 = .ok (.goto 4, 3) := dk_167 0 4 (dk_at dksJ5_coder_0 10 rfl rfl)
theorem dJ5_coder_13 : decode cJ5_coder 13 = .ok (.iconst 1, 1) := dk_4 (dk_at dksJ5_coder_0 13 rfl rfl)
theorem dJ5_coder_14 : decode cJ5_coder 14 = .ok (.ireturn, 1) := dk_172 (dk_at dksJ5_coder_0 14 rfl rfl)
abbrev cJ5_charAt : ByteArray := prog_31_method_56_code
def yJ5_charAt : MethodName := ⟨RJ5, "charAt", "(I)C"⟩
def dkwJ5_charAt_1 : List UInt8 := [172]
abbrev dktJ5_charAt_1 : List UInt8 := dkwJ5_charAt_1 ++ []
def dkwJ5_charAt_0 : List UInt8 := [42, 182, 1, 236, 153, 0, 12, 42, 180, 0, 9, 27, 184, 1, 239, 172, 42, 180, 0, 9, 27, 184, 1, 242]
abbrev dktJ5_charAt_0 : List UInt8 := dkwJ5_charAt_0 ++ dktJ5_charAt_1
theorem dksJ5_charAt_0 : cJ5_charAt.data.toList.drop 0 = dktJ5_charAt_0 := by decide +kernel
theorem dksJ5_charAt_1 : cJ5_charAt.data.toList.drop 24 = dktJ5_charAt_1 := dk_seg dksJ5_charAt_0 24 rfl rfl
theorem dJ5_charAt_0 : decode cJ5_charAt 0 = .ok (.aload_n 0, 1) := dk_42 (dk_at dksJ5_charAt_0 0 rfl rfl)
theorem dJ5_charAt_1 : decode cJ5_charAt 1 = .ok (.invokevirtual 492, 3) := dk_182 1 236 (dk_at dksJ5_charAt_0 1 rfl rfl)
theorem dJ5_charAt_4 : decode cJ5_charAt 4 = .ok (.ifCond .eq 12, 3) := dk_153 0 12 (dk_at dksJ5_charAt_0 4 rfl rfl)
theorem dJ5_charAt_7 : decode cJ5_charAt 7 = .ok (.aload_n 0, 1) := dk_42 (dk_at dksJ5_charAt_0 7 rfl rfl)
theorem dJ5_charAt_8 : decode cJ5_charAt 8 = .ok (.getfield 9, 3) := dk_180 0 9 (dk_at dksJ5_charAt_0 8 rfl rfl)
theorem dJ5_charAt_11 : decode cJ5_charAt 11 = .ok (.iload_n 1, 1) := dk_27 (dk_at dksJ5_charAt_0 11 rfl rfl)
theorem dJ5_charAt_12 : decode cJ5_charAt 12 = .ok (.invokestatic 495, 3) := dk_184 1 239 (dk_at dksJ5_charAt_0 12 rfl rfl)
theorem dJ5_charAt_15 : decode cJ5_charAt 15 = .ok (.ireturn, 1) := dk_172 (dk_at dksJ5_charAt_0 15 rfl rfl)
theorem dJ5_charAt_16 : decode cJ5_charAt 16 = .ok (.aload_n 0, 1) := dk_42 (dk_at dksJ5_charAt_0 16 rfl rfl)
theorem dJ5_charAt_17 : decode cJ5_charAt 17 = .ok (.getfield 9, 3) := dk_180 0 9 (dk_at dksJ5_charAt_0 17 rfl rfl)
theorem dJ5_charAt_20 : decode cJ5_charAt 20 = .ok (.iload_n 1, 1) := dk_27 (dk_at dksJ5_charAt_0 20 rfl rfl)
theorem dJ5_charAt_21 : decode cJ5_charAt 21 = .ok (.invokestatic 498, 3) := dk_184 1 242 (dk_at dksJ5_charAt_0 21 rfl rfl)
theorem dJ5_charAt_24 : decode cJ5_charAt 24 = .ok (.ireturn, 1) := dk_172 (dk_at dksJ5_charAt_1 0 rfl rfl)
abbrev cJ5_isLatin1 : ByteArray := prog_31_method_154_code
def yJ5_isLatin1 : MethodName := ⟨RJ5, "isLatin1", "()Z"⟩
def dkwJ5_isLatin1_0 : List UInt8 := [178, 0, 38, 153, 0, 14, 42, 180, 0, 15, 154, 0, 7, 4, 167, 0, 4, 3, 172]
abbrev dktJ5_isLatin1_0 : List UInt8 := dkwJ5_isLatin1_0 ++ []
theorem dksJ5_isLatin1_0 : cJ5_isLatin1.data.toList.drop 0 = dktJ5_isLatin1_0 := by decide +kernel
theorem dJ5_isLatin1_0 : decode cJ5_isLatin1 0 = .ok (.getstatic 38, 3) := dk_178 0 38 (dk_at dksJ5_isLatin1_0 0 rfl rfl)
theorem dJ5_isLatin1_3 : decode cJ5_isLatin1 3 = .ok (.ifCond .eq 14, 3) := dk_153 0 14 (dk_at dksJ5_isLatin1_0 3 rfl rfl)
theorem dJ5_isLatin1_6 : decode cJ5_isLatin1 6 = .ok (.aload_n 0, 1) := dk_42 (dk_at dksJ5_isLatin1_0 6 rfl rfl)
theorem dJ5_isLatin1_7 : decode cJ5_isLatin1 7 = .ok (.getfield 15, 3) := dk_180 0 15 (dk_at dksJ5_isLatin1_0 7 rfl rfl)
theorem dJ5_isLatin1_10 : decode cJ5_isLatin1 10 = .ok (.ifCond .ne 7, 3) := dk_154 0 7 (dk_at dksJ5_isLatin1_0 10 rfl rfl)
theorem dJ5_isLatin1_13 : decode cJ5_isLatin1 13 = .ok (.iconst 1, 1) := dk_4 (dk_at dksJ5_isLatin1_0 13 rfl rfl)
theorem dJ5_isLatin1_14 : decode cJ5_isLatin1 14 = .ok (.goto 4, 3) := dk_167 0 4 (dk_at dksJ5_isLatin1_0 14 rfl rfl)
theorem dJ5_isLatin1_17 : decode cJ5_isLatin1 17 = .ok (.iconst 0, 1) := dk_3 (dk_at dksJ5_isLatin1_0 17 rfl rfl)
theorem dJ5_isLatin1_18 : decode cJ5_isLatin1 18 = .ok (.ireturn, 1) := dk_172 (dk_at dksJ5_isLatin1_0 18 rfl rfl)
abbrev cJ5_checkIndex : ByteArray := prog_31_method_155_code
def yJ5_checkIndex : MethodName := ⟨RJ5, "checkIndex", "(II)V"⟩
def dkwJ5_checkIndex_0 : List UInt8 := [26, 27, 178, 4, 29, 184, 4, 35, 87, 177]
abbrev dktJ5_checkIndex_0 : List UInt8 := dkwJ5_checkIndex_0 ++ []
theorem dksJ5_checkIndex_0 : cJ5_checkIndex.data.toList.drop 0 = dktJ5_checkIndex_0 := by decide +kernel
theorem dJ5_checkIndex_0 : decode cJ5_checkIndex 0 = .ok (.iload_n 0, 1) := dk_26 (dk_at dksJ5_checkIndex_0 0 rfl rfl)
theorem dJ5_checkIndex_1 : decode cJ5_checkIndex 1 = .ok (.iload_n 1, 1) := dk_27 (dk_at dksJ5_checkIndex_0 1 rfl rfl)
theorem dJ5_checkIndex_2 : decode cJ5_checkIndex 2 = .ok (.getstatic 1053, 3) := dk_178 4 29 (dk_at dksJ5_checkIndex_0 2 rfl rfl)
theorem dJ5_checkIndex_5 : decode cJ5_checkIndex 5 = .ok (.invokestatic 1059, 3) := dk_184 4 35 (dk_at dksJ5_checkIndex_0 5 rfl rfl)
theorem dJ5_checkIndex_8 : decode cJ5_checkIndex 8 = .ok (.pop, 1) := dk_87 (dk_at dksJ5_checkIndex_0 8 rfl rfl)
theorem dJ5_checkIndex_9 : decode cJ5_checkIndex 9 = .ok (.return_, 1) := dk_177 (dk_at dksJ5_checkIndex_0 9 rfl rfl)
theorem q141 : (Jvm.Cond.initialized "java/lang/String") ∈ lw_all := lw_g (lw_at lw_m1 12 rfl) rfl
theorem q518 : (Jvm.Cond.instanceMethod ({ cls := "java/lang/String", name := "length", desc := "()I" } : Jvm.MethodName)) ∈ lw_all := lw_g (lw_at lw_m2 149 rfl) rfl
theorem q519 : (Jvm.Cond.selects "java/lang/String" ({ cls := "java/lang/String", name := "length", desc := "()I" } : Jvm.MethodName) ({ cls := "java/lang/String", name := "length", desc := "()I" } : Jvm.MethodName)) ∈ lw_all := lw_g (lw_at lw_m2 150 rfl) rfl
theorem q520 : (Jvm.Cond.code ({ cls := "java/lang/String", name := "length", desc := "()I" } : Jvm.MethodName) prog_31_method_54_code (1 : Nat) (Option.some Jvm.ClassFile.FieldType.int)) ∈ lw_all := lw_g (lw_at lw_m2 151 rfl) rfl
theorem q521 : (Jvm.Cond.methodLink "java/lang/String" (335 : Nat) ({ cls := "java/lang/String", name := "coder", desc := "()B" } : Jvm.MethodName)) ∈ lw_all := lw_g (lw_at lw_m2 152 rfl) rfl
theorem q522 : (Jvm.Cond.instanceMethod ({ cls := "java/lang/String", name := "coder", desc := "()B" } : Jvm.MethodName)) ∈ lw_all := lw_g (lw_at lw_m2 153 rfl) rfl
theorem q523 : (Jvm.Cond.selects "java/lang/String" ({ cls := "java/lang/String", name := "coder", desc := "()B" } : Jvm.MethodName) ({ cls := "java/lang/String", name := "coder", desc := "()B" } : Jvm.MethodName)) ∈ lw_all := lw_g (lw_at lw_m2 154 rfl) rfl
theorem q524 : (Jvm.Cond.code ({ cls := "java/lang/String", name := "coder", desc := "()B" } : Jvm.MethodName) prog_31_method_152_code (1 : Nat) (Option.some Jvm.ClassFile.FieldType.byte)) ∈ lw_all := lw_g (lw_at lw_m2 155 rfl) rfl
theorem q525 : (Jvm.Cond.fieldLink "java/lang/String" (38 : Nat) "java/lang/String" "COMPACT_STRINGS" "Z") ∈ lw_all := lw_g (lw_at lw_m2 156 rfl) rfl
theorem q526 : (Jvm.Cond.laysStatic "java/lang/String" "COMPACT_STRINGS" "Z") ∈ lw_tbl := lw_at lw_m2 157 rfl
theorem q528 : (Jvm.Cond.instanceMethod ({ cls := "java/lang/String", name := "charAt", desc := "(I)C" } : Jvm.MethodName)) ∈ lw_all := lw_g (lw_at lw_m2 159 rfl) rfl
theorem q529 : (Jvm.Cond.selects "java/lang/String" ({ cls := "java/lang/String", name := "charAt", desc := "(I)C" } : Jvm.MethodName) ({ cls := "java/lang/String", name := "charAt", desc := "(I)C" } : Jvm.MethodName)) ∈ lw_all := lw_g (lw_at lw_m2 160 rfl) rfl
theorem q530 : (Jvm.Cond.code ({ cls := "java/lang/String", name := "charAt", desc := "(I)C" } : Jvm.MethodName) prog_31_method_56_code (2 : Nat) (Option.some Jvm.ClassFile.FieldType.char)) ∈ lw_all := lw_g (lw_at lw_m2 161 rfl) rfl
theorem q531 : (Jvm.Cond.methodLink "java/lang/String" (492 : Nat) ({ cls := "java/lang/String", name := "isLatin1", desc := "()Z" } : Jvm.MethodName)) ∈ lw_all := lw_g (lw_at lw_m2 162 rfl) rfl
theorem q532 : (Jvm.Cond.instanceMethod ({ cls := "java/lang/String", name := "isLatin1", desc := "()Z" } : Jvm.MethodName)) ∈ lw_all := lw_g (lw_at lw_m2 163 rfl) rfl
theorem q533 : (Jvm.Cond.selects "java/lang/String" ({ cls := "java/lang/String", name := "isLatin1", desc := "()Z" } : Jvm.MethodName) ({ cls := "java/lang/String", name := "isLatin1", desc := "()Z" } : Jvm.MethodName)) ∈ lw_all := lw_g (lw_at lw_m2 164 rfl) rfl
theorem q534 : (Jvm.Cond.code ({ cls := "java/lang/String", name := "isLatin1", desc := "()Z" } : Jvm.MethodName) prog_31_method_154_code (1 : Nat) (Option.some Jvm.ClassFile.FieldType.boolean)) ∈ lw_all := lw_g (lw_at lw_m2 165 rfl) rfl
theorem q535 : (Jvm.Cond.methodLink "java/lang/String" (495 : Nat) ({ cls := "java/lang/StringLatin1", name := "charAt", desc := "([BI)C" } : Jvm.MethodName)) ∈ lw_all := lw_g (lw_at lw_m2 166 rfl) rfl
theorem q539 : (Jvm.Cond.static ({ cls := "java/lang/String", name := "checkIndex", desc := "(II)V" } : Jvm.MethodName)) ∈ lw_all := lw_g (lw_at lw_m2 170 rfl) rfl
theorem q540 : (Jvm.Cond.code ({ cls := "java/lang/String", name := "checkIndex", desc := "(II)V" } : Jvm.MethodName) prog_31_method_155_code (2 : Nat) (Option.none : Option Jvm.ClassFile.FieldType)) ∈ lw_all := lw_g (lw_at lw_m2 171 rfl) rfl
theorem q541 : (Jvm.Cond.fieldLink "java/lang/String" (1053 : Nat) "jdk/internal/util/Preconditions" "SIOOBE_FORMATTER" "Ljava/util/function/BiFunction;") ∈ lw_all := lw_g (lw_at lw_m2 172 rfl) rfl
theorem q543 : (Jvm.Cond.methodLink "java/lang/String" (1059 : Nat) ({ cls := "jdk/internal/util/Preconditions", name := "checkIndex", desc := "(IILjava/util/function/BiFunction;)I" } : Jvm.MethodName)) ∈ lw_all := lw_g (lw_at lw_m2 174 rfl) rfl
theorem q546 : (Jvm.Cond.methodLink "java/lang/String" (498 : Nat) ({ cls := "java/lang/StringUTF16", name := "charAt", desc := "([BI)C" } : Jvm.MethodName)) ∈ lw_all := lw_g (lw_at lw_m2 177 rfl) rfl
theorem q1887 : (Jvm.Cond.castable "java/lang/String" "java/lang/Object") ∈ lw_tbl := lw_at lw_m8 78 rfl
theorem q1916 : (Jvm.Cond.fieldLink "java/lang/String" (9 : Nat) "java/lang/String" "value" "[B") ∈ lw_all := lw_g (lw_at lw_m8 107 rfl) rfl
theorem q1917 : (Jvm.Cond.fieldLink "java/lang/String" (15 : Nat) "java/lang/String" "coder" "B") ∈ lw_all := lw_g (lw_at lw_m8 108 rfl) rfl

/-! java/lang/StringLatin1 -/
set_option maxRecDepth 100000
def RJ6 : String := "java/lang/StringLatin1"
abbrev cJ6_charAt : ByteArray := prog_32_method_2_code
def yJ6_charAt : MethodName := ⟨RJ6, "charAt", "([BI)C"⟩
def dkwJ6_charAt_0 : List UInt8 := [27, 42, 190, 184, 0, 9, 42, 27, 51, 17, 0, 255, 126, 146, 172]
abbrev dktJ6_charAt_0 : List UInt8 := dkwJ6_charAt_0 ++ []
theorem dksJ6_charAt_0 : cJ6_charAt.data.toList.drop 0 = dktJ6_charAt_0 := by decide +kernel
theorem dJ6_charAt_0 : decode cJ6_charAt 0 = .ok (.iload_n 1, 1) := dk_27 (dk_at dksJ6_charAt_0 0 rfl rfl)
theorem dJ6_charAt_1 : decode cJ6_charAt 1 = .ok (.aload_n 0, 1) := dk_42 (dk_at dksJ6_charAt_0 1 rfl rfl)
theorem dJ6_charAt_2 : decode cJ6_charAt 2 = .ok (.arraylength, 1) := dk_190 (dk_at dksJ6_charAt_0 2 rfl rfl)
theorem dJ6_charAt_3 : decode cJ6_charAt 3 = .ok (.invokestatic 9, 3) := dk_184 0 9 (dk_at dksJ6_charAt_0 3 rfl rfl)
theorem dJ6_charAt_6 : decode cJ6_charAt 6 = .ok (.aload_n 0, 1) := dk_42 (dk_at dksJ6_charAt_0 6 rfl rfl)
theorem dJ6_charAt_7 : decode cJ6_charAt 7 = .ok (.iload_n 1, 1) := dk_27 (dk_at dksJ6_charAt_0 7 rfl rfl)
theorem dJ6_charAt_8 : decode cJ6_charAt 8 = .ok (.baload, 1) := dk_51 (dk_at dksJ6_charAt_0 8 rfl rfl)
theorem dJ6_charAt_9 : decode cJ6_charAt 9 = .ok (.sipush 255, 3) := dk_17 0 255 (dk_at dksJ6_charAt_0 9 rfl rfl)
theorem dJ6_charAt_12 : decode cJ6_charAt 12 = .ok (.iand, 1) := dk_126 (dk_at dksJ6_charAt_0 12 rfl rfl)
theorem dJ6_charAt_13 : decode cJ6_charAt 13 = .ok (.i2c, 1) := dk_146 (dk_at dksJ6_charAt_0 13 rfl rfl)
theorem dJ6_charAt_14 : decode cJ6_charAt 14 = .ok (.ireturn, 1) := dk_172 (dk_at dksJ6_charAt_0 14 rfl rfl)
theorem q142 : (Jvm.Cond.initialized "java/lang/StringLatin1") ∈ lw_all := lw_g (lw_at lw_m1 13 rfl) rfl
theorem q536 : (Jvm.Cond.static ({ cls := "java/lang/StringLatin1", name := "charAt", desc := "([BI)C" } : Jvm.MethodName)) ∈ lw_all := lw_g (lw_at lw_m2 167 rfl) rfl
theorem q537 : (Jvm.Cond.code ({ cls := "java/lang/StringLatin1", name := "charAt", desc := "([BI)C" } : Jvm.MethodName) prog_32_method_2_code (2 : Nat) (Option.some Jvm.ClassFile.FieldType.char)) ∈ lw_all := lw_g (lw_at lw_m2 168 rfl) rfl
theorem q538 : (Jvm.Cond.methodLink "java/lang/StringLatin1" (9 : Nat) ({ cls := "java/lang/String", name := "checkIndex", desc := "(II)V" } : Jvm.MethodName)) ∈ lw_all := lw_g (lw_at lw_m2 169 rfl) rfl

/-! jdk/internal/util/Preconditions -/
set_option maxRecDepth 100000
def RJ7 : String := "jdk/internal/util/Preconditions"
abbrev cJ7_checkIndex : ByteArray := prog_48_method_11_code
def yJ7_checkIndex : MethodName := ⟨RJ7, "checkIndex", "(IILjava/util/function/BiFunction;)I"⟩
def dkwJ7_checkIndex_0 : List UInt8 := [26, 155, 0, 8, 26, 27, 161, 0, 10, 44, 26, 27, 184, 0, 95, 191, 26, 172]
abbrev dktJ7_checkIndex_0 : List UInt8 := dkwJ7_checkIndex_0 ++ []
theorem dksJ7_checkIndex_0 : cJ7_checkIndex.data.toList.drop 0 = dktJ7_checkIndex_0 := by decide +kernel
theorem dJ7_checkIndex_0 : decode cJ7_checkIndex 0 = .ok (.iload_n 0, 1) := dk_26 (dk_at dksJ7_checkIndex_0 0 rfl rfl)
theorem dJ7_checkIndex_1 : decode cJ7_checkIndex 1 = .ok (.ifCond .lt 8, 3) := dk_155 0 8 (dk_at dksJ7_checkIndex_0 1 rfl rfl)
theorem dJ7_checkIndex_4 : decode cJ7_checkIndex 4 = .ok (.iload_n 0, 1) := dk_26 (dk_at dksJ7_checkIndex_0 4 rfl rfl)
theorem dJ7_checkIndex_5 : decode cJ7_checkIndex 5 = .ok (.iload_n 1, 1) := dk_27 (dk_at dksJ7_checkIndex_0 5 rfl rfl)
theorem dJ7_checkIndex_6 : decode cJ7_checkIndex 6 = .ok (.if_icmp .lt 10, 3) := dk_161 0 10 (dk_at dksJ7_checkIndex_0 6 rfl rfl)
theorem dJ7_checkIndex_9 : decode cJ7_checkIndex 9 = .ok (.aload_n 2, 1) := dk_44 (dk_at dksJ7_checkIndex_0 9 rfl rfl)
theorem dJ7_checkIndex_10 : decode cJ7_checkIndex 10 = .ok (.iload_n 0, 1) := dk_26 (dk_at dksJ7_checkIndex_0 10 rfl rfl)
theorem dJ7_checkIndex_11 : decode cJ7_checkIndex 11 = .ok (.iload_n 1, 1) := dk_27 (dk_at dksJ7_checkIndex_0 11 rfl rfl)
theorem dJ7_checkIndex_12 : decode cJ7_checkIndex 12 = .ok (.invokestatic 95, 3) := dk_184 0 95 (dk_at dksJ7_checkIndex_0 12 rfl rfl)
theorem dJ7_checkIndex_15 : decode cJ7_checkIndex 15 = .ok (.athrow, 1) := dk_191 (dk_at dksJ7_checkIndex_0 15 rfl rfl)
theorem dJ7_checkIndex_16 : decode cJ7_checkIndex 16 = .ok (.iload_n 0, 1) := dk_26 (dk_at dksJ7_checkIndex_0 16 rfl rfl)
theorem dJ7_checkIndex_17 : decode cJ7_checkIndex 17 = .ok (.ireturn, 1) := dk_172 (dk_at dksJ7_checkIndex_0 17 rfl rfl)
theorem q143 : (Jvm.Cond.initialized "jdk/internal/util/Preconditions") ∈ lw_all := lw_g (lw_at lw_m1 14 rfl) rfl
theorem q542 : (Jvm.Cond.laysStatic "jdk/internal/util/Preconditions" "SIOOBE_FORMATTER" "Ljava/util/function/BiFunction;") ∈ lw_tbl := lw_at lw_m2 173 rfl
theorem q544 : (Jvm.Cond.static ({ cls := "jdk/internal/util/Preconditions", name := "checkIndex", desc := "(IILjava/util/function/BiFunction;)I" } : Jvm.MethodName)) ∈ lw_all := lw_g (lw_at lw_m2 175 rfl) rfl
theorem q545 : (Jvm.Cond.code ({ cls := "jdk/internal/util/Preconditions", name := "checkIndex", desc := "(IILjava/util/function/BiFunction;)I" } : Jvm.MethodName) prog_48_method_11_code (3 : Nat) (Option.some Jvm.ClassFile.FieldType.int)) ∈ lw_all := lw_g (lw_at lw_m2 176 rfl) rfl

/-! java/lang/StringUTF16 -/
set_option maxRecDepth 100000
def RJ8 : String := "java/lang/StringUTF16"
abbrev cJ8_charAt : ByteArray := prog_33_method_83_code
def yJ8_charAt : MethodName := ⟨RJ8, "charAt", "([BI)C"⟩
def dkwJ8_charAt_0 : List UInt8 := [27, 42, 184, 0, 67, 42, 27, 184, 0, 71, 172]
abbrev dktJ8_charAt_0 : List UInt8 := dkwJ8_charAt_0 ++ []
theorem dksJ8_charAt_0 : cJ8_charAt.data.toList.drop 0 = dktJ8_charAt_0 := by decide +kernel
theorem dJ8_charAt_0 : decode cJ8_charAt 0 = .ok (.iload_n 1, 1) := dk_27 (dk_at dksJ8_charAt_0 0 rfl rfl)
theorem dJ8_charAt_1 : decode cJ8_charAt 1 = .ok (.aload_n 0, 1) := dk_42 (dk_at dksJ8_charAt_0 1 rfl rfl)
theorem dJ8_charAt_2 : decode cJ8_charAt 2 = .ok (.invokestatic 67, 3) := dk_184 0 67 (dk_at dksJ8_charAt_0 2 rfl rfl)
theorem dJ8_charAt_5 : decode cJ8_charAt 5 = .ok (.aload_n 0, 1) := dk_42 (dk_at dksJ8_charAt_0 5 rfl rfl)
theorem dJ8_charAt_6 : decode cJ8_charAt 6 = .ok (.iload_n 1, 1) := dk_27 (dk_at dksJ8_charAt_0 6 rfl rfl)
theorem dJ8_charAt_7 : decode cJ8_charAt 7 = .ok (.invokestatic 71, 3) := dk_184 0 71 (dk_at dksJ8_charAt_0 7 rfl rfl)
theorem dJ8_charAt_10 : decode cJ8_charAt 10 = .ok (.ireturn, 1) := dk_172 (dk_at dksJ8_charAt_0 10 rfl rfl)
abbrev cJ8_checkIndex : ByteArray := prog_33_method_91_code
def yJ8_checkIndex : MethodName := ⟨RJ8, "checkIndex", "(I[B)V"⟩
def dkwJ8_checkIndex_0 : List UInt8 := [26, 43, 184, 0, 48, 184, 1, 158, 177]
abbrev dktJ8_checkIndex_0 : List UInt8 := dkwJ8_checkIndex_0 ++ []
theorem dksJ8_checkIndex_0 : cJ8_checkIndex.data.toList.drop 0 = dktJ8_checkIndex_0 := by decide +kernel
theorem dJ8_checkIndex_0 : decode cJ8_checkIndex 0 = .ok (.iload_n 0, 1) := dk_26 (dk_at dksJ8_checkIndex_0 0 rfl rfl)
theorem dJ8_checkIndex_1 : decode cJ8_checkIndex 1 = .ok (.aload_n 1, 1) := dk_43 (dk_at dksJ8_checkIndex_0 1 rfl rfl)
theorem dJ8_checkIndex_2 : decode cJ8_checkIndex 2 = .ok (.invokestatic 48, 3) := dk_184 0 48 (dk_at dksJ8_checkIndex_0 2 rfl rfl)
theorem dJ8_checkIndex_5 : decode cJ8_checkIndex 5 = .ok (.invokestatic 414, 3) := dk_184 1 158 (dk_at dksJ8_checkIndex_0 5 rfl rfl)
theorem dJ8_checkIndex_8 : decode cJ8_checkIndex 8 = .ok (.return_, 1) := dk_177 (dk_at dksJ8_checkIndex_0 8 rfl rfl)
abbrev cJ8_length : ByteArray := prog_33_method_6_code
def yJ8_length : MethodName := ⟨RJ8, "length", "([B)I"⟩
def dkwJ8_length_0 : List UInt8 := [42, 190, 4, 122, 172]
abbrev dktJ8_length_0 : List UInt8 := dkwJ8_length_0 ++ []
theorem dksJ8_length_0 : cJ8_length.data.toList.drop 0 = dktJ8_length_0 := by decide +kernel
theorem dJ8_length_0 : decode cJ8_length 0 = .ok (.aload_n 0, 1) := dk_42 (dk_at dksJ8_length_0 0 rfl rfl)
theorem dJ8_length_1 : decode cJ8_length 1 = .ok (.arraylength, 1) := dk_190 (dk_at dksJ8_length_0 1 rfl rfl)
theorem dJ8_length_2 : decode cJ8_length 2 = .ok (.iconst 1, 1) := dk_4 (dk_at dksJ8_length_0 2 rfl rfl)
theorem dJ8_length_3 : decode cJ8_length 3 = .ok (.ishr, 1) := dk_122 (dk_at dksJ8_length_0 3 rfl rfl)
theorem dJ8_length_4 : decode cJ8_length 4 = .ok (.ireturn, 1) := dk_172 (dk_at dksJ8_length_0 4 rfl rfl)
abbrev cJ8_getChar : ByteArray := prog_33_method_5_code
def yJ8_getChar : MethodName := ⟨RJ8, "getChar", "([BI)C"⟩
def dkwJ8_getChar_2 : List UInt8 := [51, 17, 0, 255, 126, 178, 0, 63, 120, 128, 146, 172]
abbrev dktJ8_getChar_2 : List UInt8 := dkwJ8_getChar_2 ++ []
def dkwJ8_getChar_1 : List UInt8 := [183, 0, 56, 191, 27, 4, 120, 60, 42, 27, 132, 1, 1, 51, 17, 0, 255, 126, 178, 0, 59, 120, 42, 27]
abbrev dktJ8_getChar_1 : List UInt8 := dkwJ8_getChar_1 ++ dktJ8_getChar_2
def dkwJ8_getChar_0 : List UInt8 := [178, 0, 44, 154, 0, 25, 27, 155, 0, 11, 27, 42, 184, 0, 48, 161, 0, 13, 187, 0, 52, 89, 18, 54]
abbrev dktJ8_getChar_0 : List UInt8 := dkwJ8_getChar_0 ++ dktJ8_getChar_1
theorem dksJ8_getChar_0 : cJ8_getChar.data.toList.drop 0 = dktJ8_getChar_0 := by decide +kernel
theorem dksJ8_getChar_1 : cJ8_getChar.data.toList.drop 24 = dktJ8_getChar_1 := dk_seg dksJ8_getChar_0 24 rfl rfl
theorem dksJ8_getChar_2 : cJ8_getChar.data.toList.drop 48 = dktJ8_getChar_2 := dk_seg dksJ8_getChar_1 24 rfl rfl
theorem dJ8_getChar_0 : decode cJ8_getChar 0 = .ok (.getstatic 44, 3) := dk_178 0 44 (dk_at dksJ8_getChar_0 0 rfl rfl)
theorem dJ8_getChar_3 : decode cJ8_getChar 3 = .ok (.ifCond .ne 25, 3) := dk_154 0 25 (dk_at dksJ8_getChar_0 3 rfl rfl)
theorem dJ8_getChar_6 : decode cJ8_getChar 6 = .ok (.iload_n 1, 1) := dk_27 (dk_at dksJ8_getChar_0 6 rfl rfl)
theorem dJ8_getChar_7 : decode cJ8_getChar 7 = .ok (.ifCond .lt 11, 3) := dk_155 0 11 (dk_at dksJ8_getChar_0 7 rfl rfl)
theorem dJ8_getChar_10 : decode cJ8_getChar 10 = .ok (.iload_n 1, 1) := dk_27 (dk_at dksJ8_getChar_0 10 rfl rfl)
theorem dJ8_getChar_11 : decode cJ8_getChar 11 = .ok (.aload_n 0, 1) := dk_42 (dk_at dksJ8_getChar_0 11 rfl rfl)
theorem dJ8_getChar_12 : decode cJ8_getChar 12 = .ok (.invokestatic 48, 3) := dk_184 0 48 (dk_at dksJ8_getChar_0 12 rfl rfl)
theorem dJ8_getChar_15 : decode cJ8_getChar 15 = .ok (.if_icmp .lt 13, 3) := dk_161 0 13 (dk_at dksJ8_getChar_0 15 rfl rfl)
theorem dJ8_getChar_18 : decode cJ8_getChar 18 = .ok (.new 52, 3) := dk_187 0 52 (dk_at dksJ8_getChar_0 18 rfl rfl)
theorem dJ8_getChar_21 : decode cJ8_getChar 21 = .ok (.dup, 1) := dk_89 (dk_at dksJ8_getChar_0 21 rfl rfl)
theorem dJ8_getChar_22 : decode cJ8_getChar 22 = .ok (.ldc 54, 2) := dk_18 54 (dk_at dksJ8_getChar_0 22 rfl rfl)
theorem dJ8_getChar_24 : decode cJ8_getChar 24 = .ok (.invokespecial 56, 3) := dk_183 0 56 (dk_at dksJ8_getChar_1 0 rfl rfl)
theorem dJ8_getChar_27 : decode cJ8_getChar 27 = .ok (.athrow, 1) := dk_191 (dk_at dksJ8_getChar_1 3 rfl rfl)
theorem dJ8_getChar_28 : decode cJ8_getChar 28 = .ok (.iload_n 1, 1) := dk_27 (dk_at dksJ8_getChar_1 4 rfl rfl)
theorem dJ8_getChar_29 : decode cJ8_getChar 29 = .ok (.iconst 1, 1) := dk_4 (dk_at dksJ8_getChar_1 5 rfl rfl)
theorem dJ8_getChar_30 : decode cJ8_getChar 30 = .ok (.ishl, 1) := dk_120 (dk_at dksJ8_getChar_1 6 rfl rfl)
theorem dJ8_getChar_31 : decode cJ8_getChar 31 = .ok (.istore_n 1, 1) := dk_60 (dk_at dksJ8_getChar_1 7 rfl rfl)
theorem dJ8_getChar_32 : decode cJ8_getChar 32 = .ok (.aload_n 0, 1) := dk_42 (dk_at dksJ8_getChar_1 8 rfl rfl)
theorem dJ8_getChar_33 : decode cJ8_getChar 33 = .ok (.iload_n 1, 1) := dk_27 (dk_at dksJ8_getChar_1 9 rfl rfl)
theorem dJ8_getChar_34 : decode cJ8_getChar 34 = .ok (.iinc 1 1, 3) := dk_132 1 1 (dk_at dksJ8_getChar_1 10 rfl rfl)
theorem dJ8_getChar_37 : decode cJ8_getChar 37 = .ok (.baload, 1) := dk_51 (dk_at dksJ8_getChar_1 13 rfl rfl)
theorem dJ8_getChar_38 : decode cJ8_getChar 38 = .ok (.sipush 255, 3) := dk_17 0 255 (dk_at dksJ8_getChar_1 14 rfl rfl)
theorem dJ8_getChar_41 : decode cJ8_getChar 41 = .ok (.iand, 1) := dk_126 (dk_at dksJ8_getChar_1 17 rfl rfl)
theorem dJ8_getChar_42 : decode cJ8_getChar 42 = .ok (.getstatic 59, 3) := dk_178 0 59 (dk_at dksJ8_getChar_1 18 rfl rfl)
theorem dJ8_getChar_45 : decode cJ8_getChar 45 = .ok (.ishl, 1) := dk_120 (dk_at dksJ8_getChar_1 21 rfl rfl)
theorem dJ8_getChar_46 : decode cJ8_getChar 46 = .ok (.aload_n 0, 1) := dk_42 (dk_at dksJ8_getChar_1 22 rfl rfl)
theorem dJ8_getChar_47 : decode cJ8_getChar 47 = .ok (.iload_n 1, 1) := dk_27 (dk_at dksJ8_getChar_1 23 rfl rfl)
theorem dJ8_getChar_48 : decode cJ8_getChar 48 = .ok (.baload, 1) := dk_51 (dk_at dksJ8_getChar_2 0 rfl rfl)
theorem dJ8_getChar_49 : decode cJ8_getChar 49 = .ok (.sipush 255, 3) := dk_17 0 255 (dk_at dksJ8_getChar_2 1 rfl rfl)
theorem dJ8_getChar_52 : decode cJ8_getChar 52 = .ok (.iand, 1) := dk_126 (dk_at dksJ8_getChar_2 4 rfl rfl)
theorem dJ8_getChar_53 : decode cJ8_getChar 53 = .ok (.getstatic 63, 3) := dk_178 0 63 (dk_at dksJ8_getChar_2 5 rfl rfl)
theorem dJ8_getChar_56 : decode cJ8_getChar 56 = .ok (.ishl, 1) := dk_120 (dk_at dksJ8_getChar_2 8 rfl rfl)
theorem dJ8_getChar_57 : decode cJ8_getChar 57 = .ok (.ior, 1) := dk_128 (dk_at dksJ8_getChar_2 9 rfl rfl)
theorem dJ8_getChar_58 : decode cJ8_getChar 58 = .ok (.i2c, 1) := dk_146 (dk_at dksJ8_getChar_2 10 rfl rfl)
theorem dJ8_getChar_59 : decode cJ8_getChar 59 = .ok (.ireturn, 1) := dk_172 (dk_at dksJ8_getChar_2 11 rfl rfl)
theorem q144 : (Jvm.Cond.initialized "java/lang/StringUTF16") ∈ lw_all := lw_g (lw_at lw_m1 15 rfl) rfl
theorem q547 : (Jvm.Cond.static ({ cls := "java/lang/StringUTF16", name := "charAt", desc := "([BI)C" } : Jvm.MethodName)) ∈ lw_all := lw_g (lw_at lw_m2 178 rfl) rfl
theorem q548 : (Jvm.Cond.code ({ cls := "java/lang/StringUTF16", name := "charAt", desc := "([BI)C" } : Jvm.MethodName) prog_33_method_83_code (2 : Nat) (Option.some Jvm.ClassFile.FieldType.char)) ∈ lw_all := lw_g (lw_at lw_m2 179 rfl) rfl
theorem q549 : (Jvm.Cond.methodLink "java/lang/StringUTF16" (67 : Nat) ({ cls := "java/lang/StringUTF16", name := "checkIndex", desc := "(I[B)V" } : Jvm.MethodName)) ∈ lw_all := lw_g (lw_at lw_m2 180 rfl) rfl
theorem q550 : (Jvm.Cond.static ({ cls := "java/lang/StringUTF16", name := "checkIndex", desc := "(I[B)V" } : Jvm.MethodName)) ∈ lw_all := lw_g (lw_at lw_m2 181 rfl) rfl
theorem q551 : (Jvm.Cond.code ({ cls := "java/lang/StringUTF16", name := "checkIndex", desc := "(I[B)V" } : Jvm.MethodName) prog_33_method_91_code (2 : Nat) (Option.none : Option Jvm.ClassFile.FieldType)) ∈ lw_all := lw_g (lw_at lw_m2 182 rfl) rfl
theorem q552 : (Jvm.Cond.methodLink "java/lang/StringUTF16" (48 : Nat) ({ cls := "java/lang/StringUTF16", name := "length", desc := "([B)I" } : Jvm.MethodName)) ∈ lw_all := lw_g (lw_at lw_m2 183 rfl) rfl
theorem q553 : (Jvm.Cond.static ({ cls := "java/lang/StringUTF16", name := "length", desc := "([B)I" } : Jvm.MethodName)) ∈ lw_all := lw_g (lw_at lw_m2 184 rfl) rfl
theorem q554 : (Jvm.Cond.code ({ cls := "java/lang/StringUTF16", name := "length", desc := "([B)I" } : Jvm.MethodName) prog_33_method_6_code (1 : Nat) (Option.some Jvm.ClassFile.FieldType.int)) ∈ lw_all := lw_g (lw_at lw_m2 185 rfl) rfl
theorem q555 : (Jvm.Cond.methodLink "java/lang/StringUTF16" (414 : Nat) ({ cls := "java/lang/String", name := "checkIndex", desc := "(II)V" } : Jvm.MethodName)) ∈ lw_all := lw_g (lw_at lw_m2 186 rfl) rfl
theorem q556 : (Jvm.Cond.methodLink "java/lang/StringUTF16" (71 : Nat) ({ cls := "java/lang/StringUTF16", name := "getChar", desc := "([BI)C" } : Jvm.MethodName)) ∈ lw_all := lw_g (lw_at lw_m2 187 rfl) rfl
theorem q557 : (Jvm.Cond.static ({ cls := "java/lang/StringUTF16", name := "getChar", desc := "([BI)C" } : Jvm.MethodName)) ∈ lw_all := lw_g (lw_at lw_m2 188 rfl) rfl
theorem q558 : (Jvm.Cond.code ({ cls := "java/lang/StringUTF16", name := "getChar", desc := "([BI)C" } : Jvm.MethodName) prog_33_method_5_code (2 : Nat) (Option.some Jvm.ClassFile.FieldType.char)) ∈ lw_all := lw_g (lw_at lw_m2 189 rfl) rfl
theorem q559 : (Jvm.Cond.fieldLink "java/lang/StringUTF16" (44 : Nat) "java/lang/StringUTF16" "$assertionsDisabled" "Z") ∈ lw_all := lw_g (lw_at lw_m2 190 rfl) rfl
theorem q560 : (Jvm.Cond.laysStatic "java/lang/StringUTF16" "$assertionsDisabled" "Z") ∈ lw_tbl := lw_at lw_m2 191 rfl
theorem q561 : (Jvm.Cond.fieldLink "java/lang/StringUTF16" (59 : Nat) "java/lang/StringUTF16" "HI_BYTE_SHIFT" "I") ∈ lw_all := lw_g (lw_at lw_m2 192 rfl) rfl
theorem q562 : (Jvm.Cond.laysStatic "java/lang/StringUTF16" "HI_BYTE_SHIFT" "I") ∈ lw_tbl := lw_at lw_m2 193 rfl
theorem q563 : (Jvm.Cond.fieldLink "java/lang/StringUTF16" (63 : Nat) "java/lang/StringUTF16" "LO_BYTE_SHIFT" "I") ∈ lw_all := lw_g (lw_at lw_m2 194 rfl) rfl
theorem q564 : (Jvm.Cond.laysStatic "java/lang/StringUTF16" "LO_BYTE_SHIFT" "I") ∈ lw_tbl := lw_at lw_m2 195 rfl

/-! java/lang/Number -/
set_option maxRecDepth 100000
def RJ9 : String := "java/lang/Number"
abbrev cJ9_init : ByteArray := prog_29_method_1_code
def yJ9_init : MethodName := ⟨RJ9, "<init>", "()V"⟩
theorem dJ9_init_0 : decode cJ9_init 0 = .ok (.aload_n 0, 1) := by decide +kernel
theorem dJ9_init_1 : decode cJ9_init 1 = .ok (.invokespecial 1, 3) := by decide +kernel
theorem dJ9_init_4 : decode cJ9_init 4 = .ok (.return_, 1) := by decide +kernel
theorem q145 : (Jvm.Cond.initialized "java/lang/Number") ∈ lw_all := lw_g (lw_at lw_m1 16 rfl) rfl
theorem q601 : (Jvm.Cond.instanceMethod ({ cls := "java/lang/Number", name := "<init>", desc := "()V" } : Jvm.MethodName)) ∈ lw_all := lw_g (lw_at lw_m2 232 rfl) rfl
theorem q602 : (Jvm.Cond.code ({ cls := "java/lang/Number", name := "<init>", desc := "()V" } : Jvm.MethodName) prog_29_method_1_code (1 : Nat) (Option.none : Option Jvm.ClassFile.FieldType)) ∈ lw_all := lw_g (lw_at lw_m2 233 rfl) rfl
theorem q603 : (Jvm.Cond.methodLink "java/lang/Number" (1 : Nat) ({ cls := "java/lang/Object", name := "<init>", desc := "()V" } : Jvm.MethodName)) ∈ lw_all := lw_g (lw_at lw_m2 234 rfl) rfl

/-! java/lang/Integer -/
set_option maxRecDepth 100000
def RJ10 : String := "java/lang/Integer"
def TJ10 : u_T := fun k => match k with
  | _ => ("java/lang/Integer", "value", "I", true)
def tyJ10 : Nat → FieldType := fun k => match k with
  | _ => .int
abbrev wsJ100 : List Cond := u_ws RJ10 TJ10 1
theorem nmJ10 : ∀ a, a < 1 → ∀ b, b < 1 → a ≠ b → (TJ10 a).2.1 ≠ (TJ10 b).2.1 := by decide +kernel
theorem tyJ10_ok : ∀ k, k < 1 → parseFieldDescriptor (TJ10 k).2.2.1 = some (tyJ10 k) := by decide +kernel
abbrev cJ10_valueOf : ByteArray := prog_25_method_22_code
def yJ10_valueOf : MethodName := ⟨RJ10, "valueOf", "(I)Ljava/lang/Integer;"⟩
def dkwJ10_valueOf_1 : List UInt8 := [187, 0, 1, 89, 26, 183, 0, 199, 176]
abbrev dktJ10_valueOf_1 : List UInt8 := dkwJ10_valueOf_1 ++ []
def dkwJ10_valueOf_0 : List UInt8 := [26, 16, 128, 161, 0, 20, 26, 178, 0, 191, 163, 0, 13, 178, 0, 195, 26, 17, 0, 128, 96, 50, 176]
abbrev dktJ10_valueOf_0 : List UInt8 := dkwJ10_valueOf_0 ++ dktJ10_valueOf_1
theorem dksJ10_valueOf_0 : cJ10_valueOf.data.toList.drop 0 = dktJ10_valueOf_0 := by decide +kernel
theorem dksJ10_valueOf_1 : cJ10_valueOf.data.toList.drop 23 = dktJ10_valueOf_1 := dk_seg dksJ10_valueOf_0 23 rfl rfl
theorem dJ10_valueOf_0 : decode cJ10_valueOf 0 = .ok (.iload_n 0, 1) := dk_26 (dk_at dksJ10_valueOf_0 0 rfl rfl)
theorem dJ10_valueOf_1 : decode cJ10_valueOf 1 = .ok (.bipush (-128), 2) := dk_16 128 (dk_at dksJ10_valueOf_0 1 rfl rfl)
theorem dJ10_valueOf_3 : decode cJ10_valueOf 3 = .ok (.if_icmp .lt 20, 3) := dk_161 0 20 (dk_at dksJ10_valueOf_0 3 rfl rfl)
theorem dJ10_valueOf_6 : decode cJ10_valueOf 6 = .ok (.iload_n 0, 1) := dk_26 (dk_at dksJ10_valueOf_0 6 rfl rfl)
theorem dJ10_valueOf_7 : decode cJ10_valueOf 7 = .ok (.getstatic 191, 3) := dk_178 0 191 (dk_at dksJ10_valueOf_0 7 rfl rfl)
theorem dJ10_valueOf_10 : decode cJ10_valueOf 10 = .ok (.if_icmp .gt 13, 3) := dk_163 0 13 (dk_at dksJ10_valueOf_0 10 rfl rfl)
theorem dJ10_valueOf_13 : decode cJ10_valueOf 13 = .ok (.getstatic 195, 3) := dk_178 0 195 (dk_at dksJ10_valueOf_0 13 rfl rfl)
theorem dJ10_valueOf_16 : decode cJ10_valueOf 16 = .ok (.iload_n 0, 1) := dk_26 (dk_at dksJ10_valueOf_0 16 rfl rfl)
theorem dJ10_valueOf_17 : decode cJ10_valueOf 17 = .ok (.sipush 128, 3) := dk_17 0 128 (dk_at dksJ10_valueOf_0 17 rfl rfl)
theorem dJ10_valueOf_20 : decode cJ10_valueOf 20 = .ok (.iadd, 1) := dk_96 (dk_at dksJ10_valueOf_0 20 rfl rfl)
theorem dJ10_valueOf_21 : decode cJ10_valueOf 21 = .ok (.aaload, 1) := dk_50 (dk_at dksJ10_valueOf_0 21 rfl rfl)
theorem dJ10_valueOf_22 : decode cJ10_valueOf 22 = .ok (.areturn, 1) := dk_176 (dk_at dksJ10_valueOf_0 22 rfl rfl)
theorem dJ10_valueOf_23 : decode cJ10_valueOf 23 = .ok (.new 1, 3) := dk_187 0 1 (dk_at dksJ10_valueOf_1 0 rfl rfl)
theorem dJ10_valueOf_26 : decode cJ10_valueOf 26 = .ok (.dup, 1) := dk_89 (dk_at dksJ10_valueOf_1 3 rfl rfl)
theorem dJ10_valueOf_27 : decode cJ10_valueOf 27 = .ok (.iload_n 0, 1) := dk_26 (dk_at dksJ10_valueOf_1 4 rfl rfl)
theorem dJ10_valueOf_28 : decode cJ10_valueOf 28 = .ok (.invokespecial 199, 3) := dk_183 0 199 (dk_at dksJ10_valueOf_1 5 rfl rfl)
theorem dJ10_valueOf_31 : decode cJ10_valueOf 31 = .ok (.areturn, 1) := dk_176 (dk_at dksJ10_valueOf_1 8 rfl rfl)
abbrev cJ10_init : ByteArray := prog_25_method_23_code
def yJ10_init : MethodName := ⟨RJ10, "<init>", "(I)V"⟩
def dkwJ10_init_0 : List UInt8 := [42, 183, 0, 202, 42, 27, 181, 0, 205, 177]
abbrev dktJ10_init_0 : List UInt8 := dkwJ10_init_0 ++ []
theorem dksJ10_init_0 : cJ10_init.data.toList.drop 0 = dktJ10_init_0 := by decide +kernel
theorem dJ10_init_0 : decode cJ10_init 0 = .ok (.aload_n 0, 1) := dk_42 (dk_at dksJ10_init_0 0 rfl rfl)
theorem dJ10_init_1 : decode cJ10_init 1 = .ok (.invokespecial 202, 3) := dk_183 0 202 (dk_at dksJ10_init_0 1 rfl rfl)
theorem dJ10_init_4 : decode cJ10_init 4 = .ok (.aload_n 0, 1) := dk_42 (dk_at dksJ10_init_0 4 rfl rfl)
theorem dJ10_init_5 : decode cJ10_init 5 = .ok (.iload_n 1, 1) := dk_27 (dk_at dksJ10_init_0 5 rfl rfl)
theorem dJ10_init_6 : decode cJ10_init 6 = .ok (.putfield 205, 3) := dk_181 0 205 (dk_at dksJ10_init_0 6 rfl rfl)
theorem dJ10_init_9 : decode cJ10_init 9 = .ok (.return_, 1) := dk_177 (dk_at dksJ10_init_0 9 rfl rfl)
abbrev cJ10_intValue : ByteArray := prog_25_method_27_code
def yJ10_intValue : MethodName := ⟨RJ10, "intValue", "()I"⟩
theorem dJ10_intValue_0 : decode cJ10_intValue 0 = .ok (.aload_n 0, 1) := by decide +kernel
theorem dJ10_intValue_1 : decode cJ10_intValue 1 = .ok (.getfield 205, 3) := by decide +kernel
theorem dJ10_intValue_4 : decode cJ10_intValue 4 = .ok (.ireturn, 1) := by decide +kernel
abbrev cJ10_bitCount : ByteArray := prog_25_method_49_code
def yJ10_bitCount : MethodName := ⟨RJ10, "bitCount", "(I)I"⟩
def dkwJ10_bitCount_2 : List UInt8 := [26, 16, 63, 126, 172]
abbrev dktJ10_bitCount_2 : List UInt8 := dkwJ10_bitCount_2 ++ []
def dkwJ10_bitCount_1 : List UInt8 := [26, 26, 7, 124, 96, 19, 1, 11, 126, 59, 26, 26, 16, 8, 124, 96, 59, 26, 26, 16, 16, 124, 96, 59]
abbrev dktJ10_bitCount_1 : List UInt8 := dkwJ10_bitCount_1 ++ dktJ10_bitCount_2
def dkwJ10_bitCount_0 : List UInt8 := [26, 26, 4, 124, 19, 1, 9, 126, 100, 59, 26, 19, 1, 10, 126, 26, 5, 124, 19, 1, 10, 126, 96, 59]
abbrev dktJ10_bitCount_0 : List UInt8 := dkwJ10_bitCount_0 ++ dktJ10_bitCount_1
theorem dksJ10_bitCount_0 : cJ10_bitCount.data.toList.drop 0 = dktJ10_bitCount_0 := by decide +kernel
theorem dksJ10_bitCount_1 : cJ10_bitCount.data.toList.drop 24 = dktJ10_bitCount_1 := dk_seg dksJ10_bitCount_0 24 rfl rfl
theorem dksJ10_bitCount_2 : cJ10_bitCount.data.toList.drop 48 = dktJ10_bitCount_2 := dk_seg dksJ10_bitCount_1 24 rfl rfl
theorem dJ10_bitCount_0 : decode cJ10_bitCount 0 = .ok (.iload_n 0, 1) := dk_26 (dk_at dksJ10_bitCount_0 0 rfl rfl)
theorem dJ10_bitCount_1 : decode cJ10_bitCount 1 = .ok (.iload_n 0, 1) := dk_26 (dk_at dksJ10_bitCount_0 1 rfl rfl)
theorem dJ10_bitCount_2 : decode cJ10_bitCount 2 = .ok (.iconst 1, 1) := dk_4 (dk_at dksJ10_bitCount_0 2 rfl rfl)
theorem dJ10_bitCount_3 : decode cJ10_bitCount 3 = .ok (.iushr, 1) := dk_124 (dk_at dksJ10_bitCount_0 3 rfl rfl)
theorem dJ10_bitCount_4 : decode cJ10_bitCount 4 = .ok (.ldc_w 265, 3) := dk_19 1 9 (dk_at dksJ10_bitCount_0 4 rfl rfl)
theorem dJ10_bitCount_7 : decode cJ10_bitCount 7 = .ok (.iand, 1) := dk_126 (dk_at dksJ10_bitCount_0 7 rfl rfl)
theorem dJ10_bitCount_8 : decode cJ10_bitCount 8 = .ok (.isub, 1) := dk_100 (dk_at dksJ10_bitCount_0 8 rfl rfl)
theorem dJ10_bitCount_9 : decode cJ10_bitCount 9 = .ok (.istore_n 0, 1) := dk_59 (dk_at dksJ10_bitCount_0 9 rfl rfl)
theorem dJ10_bitCount_10 : decode cJ10_bitCount 10 = .ok (.iload_n 0, 1) := dk_26 (dk_at dksJ10_bitCount_0 10 rfl rfl)
theorem dJ10_bitCount_11 : decode cJ10_bitCount 11 = .ok (.ldc_w 266, 3) := dk_19 1 10 (dk_at dksJ10_bitCount_0 11 rfl rfl)
theorem dJ10_bitCount_14 : decode cJ10_bitCount 14 = .ok (.iand, 1) := dk_126 (dk_at dksJ10_bitCount_0 14 rfl rfl)
theorem dJ10_bitCount_15 : decode cJ10_bitCount 15 = .ok (.iload_n 0, 1) := dk_26 (dk_at dksJ10_bitCount_0 15 rfl rfl)
theorem dJ10_bitCount_16 : decode cJ10_bitCount 16 = .ok (.iconst 2, 1) := dk_5 (dk_at dksJ10_bitCount_0 16 rfl rfl)
theorem dJ10_bitCount_17 : decode cJ10_bitCount 17 = .ok (.iushr, 1) := dk_124 (dk_at dksJ10_bitCount_0 17 rfl rfl)
theorem dJ10_bitCount_18 : decode cJ10_bitCount 18 = .ok (.ldc_w 266, 3) := dk_19 1 10 (dk_at dksJ10_bitCount_0 18 rfl rfl)
theorem dJ10_bitCount_21 : decode cJ10_bitCount 21 = .ok (.iand, 1) := dk_126 (dk_at dksJ10_bitCount_0 21 rfl rfl)
theorem dJ10_bitCount_22 : decode cJ10_bitCount 22 = .ok (.iadd, 1) := dk_96 (dk_at dksJ10_bitCount_0 22 rfl rfl)
theorem dJ10_bitCount_23 : decode cJ10_bitCount 23 = .ok (.istore_n 0, 1) := dk_59 (dk_at dksJ10_bitCount_0 23 rfl rfl)
theorem dJ10_bitCount_24 : decode cJ10_bitCount 24 = .ok (.iload_n 0, 1) := dk_26 (dk_at dksJ10_bitCount_1 0 rfl rfl)
theorem dJ10_bitCount_25 : decode cJ10_bitCount 25 = .ok (.iload_n 0, 1) := dk_26 (dk_at dksJ10_bitCount_1 1 rfl rfl)
theorem dJ10_bitCount_26 : decode cJ10_bitCount 26 = .ok (.iconst 4, 1) := dk_7 (dk_at dksJ10_bitCount_1 2 rfl rfl)
theorem dJ10_bitCount_27 : decode cJ10_bitCount 27 = .ok (.iushr, 1) := dk_124 (dk_at dksJ10_bitCount_1 3 rfl rfl)
theorem dJ10_bitCount_28 : decode cJ10_bitCount 28 = .ok (.iadd, 1) := dk_96 (dk_at dksJ10_bitCount_1 4 rfl rfl)
theorem dJ10_bitCount_29 : decode cJ10_bitCount 29 = .ok (.ldc_w 267, 3) := dk_19 1 11 (dk_at dksJ10_bitCount_1 5 rfl rfl)
theorem dJ10_bitCount_32 : decode cJ10_bitCount 32 = .ok (.iand, 1) := dk_126 (dk_at dksJ10_bitCount_1 8 rfl rfl)
theorem dJ10_bitCount_33 : decode cJ10_bitCount 33 = .ok (.istore_n 0, 1) := dk_59 (dk_at dksJ10_bitCount_1 9 rfl rfl)
theorem dJ10_bitCount_34 : decode cJ10_bitCount 34 = .ok (.iload_n 0, 1) := dk_26 (dk_at dksJ10_bitCount_1 10 rfl rfl)
theorem dJ10_bitCount_35 : decode cJ10_bitCount 35 = .ok (.iload_n 0, 1) := dk_26 (dk_at dksJ10_bitCount_1 11 rfl rfl)
theorem dJ10_bitCount_36 : decode cJ10_bitCount 36 = .ok (.bipush 8, 2) := dk_16 8 (dk_at dksJ10_bitCount_1 12 rfl rfl)
theorem dJ10_bitCount_38 : decode cJ10_bitCount 38 = .ok (.iushr, 1) := dk_124 (dk_at dksJ10_bitCount_1 14 rfl rfl)
theorem dJ10_bitCount_39 : decode cJ10_bitCount 39 = .ok (.iadd, 1) := dk_96 (dk_at dksJ10_bitCount_1 15 rfl rfl)
theorem dJ10_bitCount_40 : decode cJ10_bitCount 40 = .ok (.istore_n 0, 1) := dk_59 (dk_at dksJ10_bitCount_1 16 rfl rfl)
theorem dJ10_bitCount_41 : decode cJ10_bitCount 41 = .ok (.iload_n 0, 1) := dk_26 (dk_at dksJ10_bitCount_1 17 rfl rfl)
theorem dJ10_bitCount_42 : decode cJ10_bitCount 42 = .ok (.iload_n 0, 1) := dk_26 (dk_at dksJ10_bitCount_1 18 rfl rfl)
theorem dJ10_bitCount_43 : decode cJ10_bitCount 43 = .ok (.bipush 16, 2) := dk_16 16 (dk_at dksJ10_bitCount_1 19 rfl rfl)
theorem dJ10_bitCount_45 : decode cJ10_bitCount 45 = .ok (.iushr, 1) := dk_124 (dk_at dksJ10_bitCount_1 21 rfl rfl)
theorem dJ10_bitCount_46 : decode cJ10_bitCount 46 = .ok (.iadd, 1) := dk_96 (dk_at dksJ10_bitCount_1 22 rfl rfl)
theorem dJ10_bitCount_47 : decode cJ10_bitCount 47 = .ok (.istore_n 0, 1) := dk_59 (dk_at dksJ10_bitCount_1 23 rfl rfl)
theorem dJ10_bitCount_48 : decode cJ10_bitCount 48 = .ok (.iload_n 0, 1) := dk_26 (dk_at dksJ10_bitCount_2 0 rfl rfl)
theorem dJ10_bitCount_49 : decode cJ10_bitCount 49 = .ok (.bipush 63, 2) := dk_16 63 (dk_at dksJ10_bitCount_2 1 rfl rfl)
theorem dJ10_bitCount_51 : decode cJ10_bitCount 51 = .ok (.iand, 1) := dk_126 (dk_at dksJ10_bitCount_2 3 rfl rfl)
theorem dJ10_bitCount_52 : decode cJ10_bitCount 52 = .ok (.ireturn, 1) := dk_172 (dk_at dksJ10_bitCount_2 4 rfl rfl)
theorem q146 : (Jvm.Cond.initialized "java/lang/Integer") ∈ lw_all := lw_g (lw_at lw_m1 17 rfl) rfl
theorem q589 : (Jvm.Cond.static ({ cls := "java/lang/Integer", name := "valueOf", desc := "(I)Ljava/lang/Integer;" } : Jvm.MethodName)) ∈ lw_all := lw_g (lw_at lw_m2 220 rfl) rfl
theorem q590 : (Jvm.Cond.code ({ cls := "java/lang/Integer", name := "valueOf", desc := "(I)Ljava/lang/Integer;" } : Jvm.MethodName) prog_25_method_22_code (1 : Nat) (Option.some (Jvm.ClassFile.FieldType.object "java/lang/Integer"))) ∈ lw_all := lw_g (lw_at lw_m2 221 rfl) rfl
theorem q591 : (Jvm.Cond.fieldLink "java/lang/Integer" (191 : Nat) "java/lang/Integer$IntegerCache" "high" "I") ∈ lw_all := lw_g (lw_at lw_m2 222 rfl) rfl
theorem q593 : (Jvm.Cond.fieldLink "java/lang/Integer" (195 : Nat) "java/lang/Integer$IntegerCache" "cache" "[Ljava/lang/Integer;") ∈ lw_all := lw_g (lw_at lw_m2 224 rfl) rfl
theorem q595 : (Jvm.Cond.classLink "java/lang/Integer" (1 : Nat) "java/lang/Integer") ∈ lw_all := lw_g (lw_at lw_m2 226 rfl) rfl
theorem q596 : (Jvm.Cond.instantiable "java/lang/Integer" (1 : Nat)) ∈ lw_all := lw_g (lw_at lw_m2 227 rfl) rfl
theorem q597 : (Jvm.Cond.methodLink "java/lang/Integer" (199 : Nat) ({ cls := "java/lang/Integer", name := "<init>", desc := "(I)V" } : Jvm.MethodName)) ∈ lw_all := lw_g (lw_at lw_m2 228 rfl) rfl
theorem q598 : (Jvm.Cond.instanceMethod ({ cls := "java/lang/Integer", name := "<init>", desc := "(I)V" } : Jvm.MethodName)) ∈ lw_all := lw_g (lw_at lw_m2 229 rfl) rfl
theorem q599 : (Jvm.Cond.code ({ cls := "java/lang/Integer", name := "<init>", desc := "(I)V" } : Jvm.MethodName) prog_25_method_23_code (2 : Nat) (Option.none : Option Jvm.ClassFile.FieldType)) ∈ lw_all := lw_g (lw_at lw_m2 230 rfl) rfl
theorem q600 : (Jvm.Cond.methodLink "java/lang/Integer" (202 : Nat) ({ cls := "java/lang/Number", name := "<init>", desc := "()V" } : Jvm.MethodName)) ∈ lw_all := lw_g (lw_at lw_m2 231 rfl) rfl
theorem q604 : (Jvm.Cond.fieldLink "java/lang/Integer" (205 : Nat) "java/lang/Integer" "value" "I") ∈ lw_all := lw_g (lw_at lw_m2 235 rfl) rfl
theorem q605 : (Jvm.Cond.laysFinal "java/lang/Integer" "java/lang/Integer" "value" "I") ∈ lw_all := lw_g (lw_at lw_m2 236 rfl) rfl
theorem q606 : (Jvm.Cond.soleField "java/lang/Integer" "value") ∈ lw_all := lw_g (lw_at lw_m2 237 rfl) rfl
theorem q607 : (Jvm.Cond.superclass "java/lang/Integer" "java/lang/Number") ∈ lw_all := lw_g (lw_at lw_m2 238 rfl) rfl
theorem q658 : (Jvm.Cond.selects "java/lang/Integer" ({ cls := "java/lang/Object", name := "getClass", desc := "()Ljava/lang/Class;" } : Jvm.MethodName) ({ cls := "java/lang/Object", name := "getClass", desc := "()Ljava/lang/Class;" } : Jvm.MethodName)) ∈ lw_all := lw_g (lw_at lw_m3 49 rfl) rfl
theorem q742 : (Jvm.Cond.instanceMethod ({ cls := "java/lang/Integer", name := "intValue", desc := "()I" } : Jvm.MethodName)) ∈ lw_all := lw_g (lw_at lw_m3 133 rfl) rfl
theorem q743 : (Jvm.Cond.selects "java/lang/Integer" ({ cls := "java/lang/Integer", name := "intValue", desc := "()I" } : Jvm.MethodName) ({ cls := "java/lang/Integer", name := "intValue", desc := "()I" } : Jvm.MethodName)) ∈ lw_all := lw_g (lw_at lw_m3 134 rfl) rfl
theorem q744 : (Jvm.Cond.code ({ cls := "java/lang/Integer", name := "intValue", desc := "()I" } : Jvm.MethodName) prog_25_method_27_code (1 : Nat) (Option.some Jvm.ClassFile.FieldType.int)) ∈ lw_all := lw_g (lw_at lw_m3 135 rfl) rfl
theorem q993 : (Jvm.Cond.static ({ cls := "java/lang/Integer", name := "bitCount", desc := "(I)I" } : Jvm.MethodName)) ∈ lw_all := lw_g (lw_at lw_m4 144 rfl) rfl
theorem q994 : (Jvm.Cond.code ({ cls := "java/lang/Integer", name := "bitCount", desc := "(I)I" } : Jvm.MethodName) prog_25_method_49_code (1 : Nat) (Option.some Jvm.ClassFile.FieldType.int)) ∈ lw_all := lw_g (lw_at lw_m4 145 rfl) rfl
theorem q995 : (Jvm.Cond.constant "java/lang/Integer" (265 : Nat) (1431655765 : Int32)) ∈ lw_all := lw_g (lw_at lw_m4 146 rfl) rfl
theorem q996 : (Jvm.Cond.constant "java/lang/Integer" (266 : Nat) (858993459 : Int32)) ∈ lw_all := lw_g (lw_at lw_m4 147 rfl) rfl
theorem q997 : (Jvm.Cond.constant "java/lang/Integer" (267 : Nat) (252645135 : Int32)) ∈ lw_all := lw_g (lw_at lw_m4 148 rfl) rfl
theorem q1894 : (Jvm.Cond.castable "java/lang/Integer" "java/lang/Object") ∈ lw_tbl := lw_at lw_m8 85 rfl
theorem in_J10 : ∀ w ∈ wsJ100, w ∈ lw_all := lw_in wsJ100 [605] (by decide +kernel) (by decide +kernel)

/-! jdk/internal/util/ArraysSupport -/
set_option maxRecDepth 100000
def RJ11 : String := "jdk/internal/util/ArraysSupport"
abbrev cJ11_newLength : ByteArray := prog_47_method_27_code
def yJ11_newLength : MethodName := ⟨RJ11, "newLength", "(III)I"⟩
def dkwJ11_newLength_1 : List UInt8 := [184, 0, 201, 172]
abbrev dktJ11_newLength_1 : List UInt8 := dkwJ11_newLength_1 ++ []
def dkwJ11_newLength_0 : List UInt8 := [26, 27, 28, 184, 0, 194, 96, 62, 3, 29, 162, 0, 11, 29, 18, 200, 163, 0, 5, 29, 172, 26, 27]
abbrev dktJ11_newLength_0 : List UInt8 := dkwJ11_newLength_0 ++ dktJ11_newLength_1
theorem dksJ11_newLength_0 : cJ11_newLength.data.toList.drop 0 = dktJ11_newLength_0 := by decide +kernel
theorem dksJ11_newLength_1 : cJ11_newLength.data.toList.drop 23 = dktJ11_newLength_1 := dk_seg dksJ11_newLength_0 23 rfl rfl
theorem dJ11_newLength_0 : decode cJ11_newLength 0 = .ok (.iload_n 0, 1) := dk_26 (dk_at dksJ11_newLength_0 0 rfl rfl)
theorem dJ11_newLength_1 : decode cJ11_newLength 1 = .ok (.iload_n 1, 1) := dk_27 (dk_at dksJ11_newLength_0 1 rfl rfl)
theorem dJ11_newLength_2 : decode cJ11_newLength 2 = .ok (.iload_n 2, 1) := dk_28 (dk_at dksJ11_newLength_0 2 rfl rfl)
theorem dJ11_newLength_3 : decode cJ11_newLength 3 = .ok (.invokestatic 194, 3) := dk_184 0 194 (dk_at dksJ11_newLength_0 3 rfl rfl)
theorem dJ11_newLength_6 : decode cJ11_newLength 6 = .ok (.iadd, 1) := dk_96 (dk_at dksJ11_newLength_0 6 rfl rfl)
theorem dJ11_newLength_7 : decode cJ11_newLength 7 = .ok (.istore_n 3, 1) := dk_62 (dk_at dksJ11_newLength_0 7 rfl rfl)
theorem dJ11_newLength_8 : decode cJ11_newLength 8 = .ok (.iconst 0, 1) := dk_3 (dk_at dksJ11_newLength_0 8 rfl rfl)
theorem dJ11_newLength_9 : decode cJ11_newLength 9 = .ok (.iload_n 3, 1) := dk_29 (dk_at dksJ11_newLength_0 9 rfl rfl)
theorem dJ11_newLength_10 : decode cJ11_newLength 10 = .ok (.if_icmp .ge 11, 3) := dk_162 0 11 (dk_at dksJ11_newLength_0 10 rfl rfl)
theorem dJ11_newLength_13 : decode cJ11_newLength 13 = .ok (.iload_n 3, 1) := dk_29 (dk_at dksJ11_newLength_0 13 rfl rfl)
theorem dJ11_newLength_14 : decode cJ11_newLength 14 = .ok (.ldc 200, 2) := dk_18 200 (dk_at dksJ11_newLength_0 14 rfl rfl)
theorem dJ11_newLength_16 : decode cJ11_newLength 16 = .ok (.if_icmp .gt 5, 3) := dk_163 0 5 (dk_at dksJ11_newLength_0 16 rfl rfl)
theorem dJ11_newLength_19 : decode cJ11_newLength 19 = .ok (.iload_n 3, 1) := dk_29 (dk_at dksJ11_newLength_0 19 rfl rfl)
theorem dJ11_newLength_20 : decode cJ11_newLength 20 = .ok (.ireturn, 1) := dk_172 (dk_at dksJ11_newLength_0 20 rfl rfl)
theorem dJ11_newLength_21 : decode cJ11_newLength 21 = .ok (.iload_n 0, 1) := dk_26 (dk_at dksJ11_newLength_0 21 rfl rfl)
theorem dJ11_newLength_22 : decode cJ11_newLength 22 = .ok (.iload_n 1, 1) := dk_27 (dk_at dksJ11_newLength_0 22 rfl rfl)
theorem dJ11_newLength_23 : decode cJ11_newLength 23 = .ok (.invokestatic 201, 3) := dk_184 0 201 (dk_at dksJ11_newLength_1 0 rfl rfl)
theorem dJ11_newLength_26 : decode cJ11_newLength 26 = .ok (.ireturn, 1) := dk_172 (dk_at dksJ11_newLength_1 3 rfl rfl)
abbrev cJ11_hugeLength : ByteArray := prog_47_method_28_code
def yJ11_hugeLength : MethodName := ⟨RJ11, "hugeLength", "(II)I"⟩
def dkwJ11_hugeLength_2 : List UInt8 := [191, 28, 18, 200, 163, 0, 6, 18, 200, 172, 28, 172]
abbrev dktJ11_hugeLength_2 : List UInt8 := dkwJ11_hugeLength_2 ++ []
def dkwJ11_hugeLength_1 : List UInt8 := [26, 182, 0, 98, 18, 208, 182, 0, 94, 27, 182, 0, 98, 18, 210, 182, 0, 94, 182, 0, 101, 183, 0, 212]
abbrev dktJ11_hugeLength_1 : List UInt8 := dkwJ11_hugeLength_1 ++ dktJ11_hugeLength_2
def dkwJ11_hugeLength_0 : List UInt8 := [26, 27, 96, 61, 28, 156, 0, 44, 187, 0, 204, 89, 187, 0, 89, 89, 183, 0, 91, 18, 206, 182, 0, 94]
abbrev dktJ11_hugeLength_0 : List UInt8 := dkwJ11_hugeLength_0 ++ dktJ11_hugeLength_1
theorem dksJ11_hugeLength_0 : cJ11_hugeLength.data.toList.drop 0 = dktJ11_hugeLength_0 := by decide +kernel
theorem dksJ11_hugeLength_1 : cJ11_hugeLength.data.toList.drop 24 = dktJ11_hugeLength_1 := dk_seg dksJ11_hugeLength_0 24 rfl rfl
theorem dksJ11_hugeLength_2 : cJ11_hugeLength.data.toList.drop 48 = dktJ11_hugeLength_2 := dk_seg dksJ11_hugeLength_1 24 rfl rfl
theorem dJ11_hugeLength_0 : decode cJ11_hugeLength 0 = .ok (.iload_n 0, 1) := dk_26 (dk_at dksJ11_hugeLength_0 0 rfl rfl)
theorem dJ11_hugeLength_1 : decode cJ11_hugeLength 1 = .ok (.iload_n 1, 1) := dk_27 (dk_at dksJ11_hugeLength_0 1 rfl rfl)
theorem dJ11_hugeLength_2 : decode cJ11_hugeLength 2 = .ok (.iadd, 1) := dk_96 (dk_at dksJ11_hugeLength_0 2 rfl rfl)
theorem dJ11_hugeLength_3 : decode cJ11_hugeLength 3 = .ok (.istore_n 2, 1) := dk_61 (dk_at dksJ11_hugeLength_0 3 rfl rfl)
theorem dJ11_hugeLength_4 : decode cJ11_hugeLength 4 = .ok (.iload_n 2, 1) := dk_28 (dk_at dksJ11_hugeLength_0 4 rfl rfl)
theorem dJ11_hugeLength_5 : decode cJ11_hugeLength 5 = .ok (.ifCond .ge 44, 3) := dk_156 0 44 (dk_at dksJ11_hugeLength_0 5 rfl rfl)
theorem dJ11_hugeLength_8 : decode cJ11_hugeLength 8 = .ok (.new 204, 3) := dk_187 0 204 (dk_at dksJ11_hugeLength_0 8 rfl rfl)
theorem dJ11_hugeLength_11 : decode cJ11_hugeLength 11 = .ok (.dup, 1) := dk_89 (dk_at dksJ11_hugeLength_0 11 rfl rfl)
theorem dJ11_hugeLength_12 : decode cJ11_hugeLength 12 = .ok (.new 89, 3) := dk_187 0 89 (dk_at dksJ11_hugeLength_0 12 rfl rfl)
theorem dJ11_hugeLength_15 : decode cJ11_hugeLength 15 = .ok (.dup, 1) := dk_89 (dk_at dksJ11_hugeLength_0 15 rfl rfl)
theorem dJ11_hugeLength_16 : decode cJ11_hugeLength 16 = .ok (.invokespecial 91, 3) := dk_183 0 91 (dk_at dksJ11_hugeLength_0 16 rfl rfl)
theorem dJ11_hugeLength_19 : decode cJ11_hugeLength 19 = .ok (.ldc 206, 2) := dk_18 206 (dk_at dksJ11_hugeLength_0 19 rfl rfl)
theorem dJ11_hugeLength_21 : decode cJ11_hugeLength 21 = .ok (.invokevirtual 94, 3) := dk_182 0 94 (dk_at dksJ11_hugeLength_0 21 rfl rfl)
theorem dJ11_hugeLength_24 : decode cJ11_hugeLength 24 = .ok (.iload_n 0, 1) := dk_26 (dk_at dksJ11_hugeLength_1 0 rfl rfl)
theorem dJ11_hugeLength_25 : decode cJ11_hugeLength 25 = .ok (.invokevirtual 98, 3) := dk_182 0 98 (dk_at dksJ11_hugeLength_1 1 rfl rfl)
theorem dJ11_hugeLength_28 : decode cJ11_hugeLength 28 = .ok (.ldc 208, 2) := dk_18 208 (dk_at dksJ11_hugeLength_1 4 rfl rfl)
theorem dJ11_hugeLength_30 : decode cJ11_hugeLength 30 = .ok (.invokevirtual 94, 3) := dk_182 0 94 (dk_at dksJ11_hugeLength_1 6 rfl rfl)
theorem dJ11_hugeLength_33 : decode cJ11_hugeLength 33 = .ok (.iload_n 1, 1) := dk_27 (dk_at dksJ11_hugeLength_1 9 rfl rfl)
theorem dJ11_hugeLength_34 : decode cJ11_hugeLength 34 = .ok (.invokevirtual 98, 3) := dk_182 0 98 (dk_at dksJ11_hugeLength_1 10 rfl rfl)
theorem dJ11_hugeLength_37 : decode cJ11_hugeLength 37 = .ok (.ldc 210, 2) := dk_18 210 (dk_at dksJ11_hugeLength_1 13 rfl rfl)
theorem dJ11_hugeLength_39 : decode cJ11_hugeLength 39 = .ok (.invokevirtual 94, 3) := dk_182 0 94 (dk_at dksJ11_hugeLength_1 15 rfl rfl)
theorem dJ11_hugeLength_42 : decode cJ11_hugeLength 42 = .ok (.invokevirtual 101, 3) := dk_182 0 101 (dk_at dksJ11_hugeLength_1 18 rfl rfl)
theorem dJ11_hugeLength_45 : decode cJ11_hugeLength 45 = .ok (.invokespecial 212, 3) := dk_183 0 212 (dk_at dksJ11_hugeLength_1 21 rfl rfl)
theorem dJ11_hugeLength_48 : decode cJ11_hugeLength 48 = .ok (.athrow, 1) := dk_191 (dk_at dksJ11_hugeLength_2 0 rfl rfl)
theorem dJ11_hugeLength_49 : decode cJ11_hugeLength 49 = .ok (.iload_n 2, 1) := dk_28 (dk_at dksJ11_hugeLength_2 1 rfl rfl)
theorem dJ11_hugeLength_50 : decode cJ11_hugeLength 50 = .ok (.ldc 200, 2) := dk_18 200 (dk_at dksJ11_hugeLength_2 2 rfl rfl)
theorem dJ11_hugeLength_52 : decode cJ11_hugeLength 52 = .ok (.if_icmp .gt 6, 3) := dk_163 0 6 (dk_at dksJ11_hugeLength_2 4 rfl rfl)
theorem dJ11_hugeLength_55 : decode cJ11_hugeLength 55 = .ok (.ldc 200, 2) := dk_18 200 (dk_at dksJ11_hugeLength_2 7 rfl rfl)
theorem dJ11_hugeLength_57 : decode cJ11_hugeLength 57 = .ok (.ireturn, 1) := dk_172 (dk_at dksJ11_hugeLength_2 9 rfl rfl)
theorem dJ11_hugeLength_58 : decode cJ11_hugeLength 58 = .ok (.iload_n 2, 1) := dk_28 (dk_at dksJ11_hugeLength_2 10 rfl rfl)
theorem dJ11_hugeLength_59 : decode cJ11_hugeLength 59 = .ok (.ireturn, 1) := dk_172 (dk_at dksJ11_hugeLength_2 11 rfl rfl)
theorem q148 : (Jvm.Cond.initialized "jdk/internal/util/ArraysSupport") ∈ lw_all := lw_g (lw_at lw_m1 19 rfl) rfl
theorem q627 : (Jvm.Cond.static ({ cls := "jdk/internal/util/ArraysSupport", name := "newLength", desc := "(III)I" } : Jvm.MethodName)) ∈ lw_all := lw_g (lw_at lw_m3 18 rfl) rfl
theorem q628 : (Jvm.Cond.code ({ cls := "jdk/internal/util/ArraysSupport", name := "newLength", desc := "(III)I" } : Jvm.MethodName) prog_47_method_27_code (4 : Nat) (Option.some Jvm.ClassFile.FieldType.int)) ∈ lw_all := lw_g (lw_at lw_m3 19 rfl) rfl
theorem q629 : (Jvm.Cond.methodLink "jdk/internal/util/ArraysSupport" (194 : Nat) ({ cls := "java/lang/Math", name := "max", desc := "(II)I" } : Jvm.MethodName)) ∈ lw_all := lw_g (lw_at lw_m3 20 rfl) rfl
theorem q632 : (Jvm.Cond.constant "jdk/internal/util/ArraysSupport" (200 : Nat) (2147483639 : Int32)) ∈ lw_all := lw_g (lw_at lw_m3 23 rfl) rfl
theorem q633 : (Jvm.Cond.methodLink "jdk/internal/util/ArraysSupport" (201 : Nat) ({ cls := "jdk/internal/util/ArraysSupport", name := "hugeLength", desc := "(II)I" } : Jvm.MethodName)) ∈ lw_all := lw_g (lw_at lw_m3 24 rfl) rfl
theorem q634 : (Jvm.Cond.static ({ cls := "jdk/internal/util/ArraysSupport", name := "hugeLength", desc := "(II)I" } : Jvm.MethodName)) ∈ lw_all := lw_g (lw_at lw_m3 25 rfl) rfl
theorem q635 : (Jvm.Cond.code ({ cls := "jdk/internal/util/ArraysSupport", name := "hugeLength", desc := "(II)I" } : Jvm.MethodName) prog_47_method_28_code (3 : Nat) (Option.some Jvm.ClassFile.FieldType.int)) ∈ lw_all := lw_g (lw_at lw_m3 26 rfl) rfl

/-! java/lang/Math -/
set_option maxRecDepth 100000
def RJ12 : String := "java/lang/Math"
abbrev cJ12_max : ByteArray := prog_28_method_65_code
def yJ12_max : MethodName := ⟨RJ12, "max", "(II)I"⟩
def dkwJ12_max_0 : List UInt8 := [26, 27, 161, 0, 7, 26, 167, 0, 4, 27, 172]
abbrev dktJ12_max_0 : List UInt8 := dkwJ12_max_0 ++ []
theorem dksJ12_max_0 : cJ12_max.data.toList.drop 0 = dktJ12_max_0 := by decide +kernel
theorem dJ12_max_0 : decode cJ12_max 0 = .ok (.iload_n 0, 1) := dk_26 (dk_at dksJ12_max_0 0 rfl rfl)
theorem dJ12_max_1 : decode cJ12_max 1 = .ok (.iload_n 1, 1) := dk_27 (dk_at dksJ12_max_0 1 rfl rfl)
theorem dJ12_max_2 : decode cJ12_max 2 = .ok (.if_icmp .lt 7, 3) := dk_161 0 7 (dk_at dksJ12_max_0 2 rfl rfl)
theorem dJ12_max_5 : decode cJ12_max 5 = .ok (.iload_n 0, 1) := dk_26 (dk_at dksJ12_max_0 5 rfl rfl)
theorem dJ12_max_6 : decode cJ12_max 6 = .ok (.goto 4, 3) := dk_167 0 4 (dk_at dksJ12_max_0 6 rfl rfl)
theorem dJ12_max_9 : decode cJ12_max 9 = .ok (.iload_n 1, 1) := dk_27 (dk_at dksJ12_max_0 9 rfl rfl)
theorem dJ12_max_10 : decode cJ12_max 10 = .ok (.ireturn, 1) := dk_172 (dk_at dksJ12_max_0 10 rfl rfl)
abbrev cJ12_min : ByteArray := prog_28_method_69_code
def yJ12_min : MethodName := ⟨RJ12, "min", "(II)I"⟩
def dkwJ12_min_0 : List UInt8 := [26, 27, 163, 0, 7, 26, 167, 0, 4, 27, 172]
abbrev dktJ12_min_0 : List UInt8 := dkwJ12_min_0 ++ []
theorem dksJ12_min_0 : cJ12_min.data.toList.drop 0 = dktJ12_min_0 := by decide +kernel
theorem dJ12_min_0 : decode cJ12_min 0 = .ok (.iload_n 0, 1) := dk_26 (dk_at dksJ12_min_0 0 rfl rfl)
theorem dJ12_min_1 : decode cJ12_min 1 = .ok (.iload_n 1, 1) := dk_27 (dk_at dksJ12_min_0 1 rfl rfl)
theorem dJ12_min_2 : decode cJ12_min 2 = .ok (.if_icmp .gt 7, 3) := dk_163 0 7 (dk_at dksJ12_min_0 2 rfl rfl)
theorem dJ12_min_5 : decode cJ12_min 5 = .ok (.iload_n 0, 1) := dk_26 (dk_at dksJ12_min_0 5 rfl rfl)
theorem dJ12_min_6 : decode cJ12_min 6 = .ok (.goto 4, 3) := dk_167 0 4 (dk_at dksJ12_min_0 6 rfl rfl)
theorem dJ12_min_9 : decode cJ12_min 9 = .ok (.iload_n 1, 1) := dk_27 (dk_at dksJ12_min_0 9 rfl rfl)
theorem dJ12_min_10 : decode cJ12_min 10 = .ok (.ireturn, 1) := dk_172 (dk_at dksJ12_min_0 10 rfl rfl)
theorem q149 : (Jvm.Cond.initialized "java/lang/Math") ∈ lw_all := lw_g (lw_at lw_m1 20 rfl) rfl
theorem q630 : (Jvm.Cond.static ({ cls := "java/lang/Math", name := "max", desc := "(II)I" } : Jvm.MethodName)) ∈ lw_all := lw_g (lw_at lw_m3 21 rfl) rfl
theorem q631 : (Jvm.Cond.code ({ cls := "java/lang/Math", name := "max", desc := "(II)I" } : Jvm.MethodName) prog_28_method_65_code (2 : Nat) (Option.some Jvm.ClassFile.FieldType.int)) ∈ lw_all := lw_g (lw_at lw_m3 22 rfl) rfl
theorem q667 : (Jvm.Cond.static ({ cls := "java/lang/Math", name := "min", desc := "(II)I" } : Jvm.MethodName)) ∈ lw_all := lw_g (lw_at lw_m3 58 rfl) rfl
theorem q668 : (Jvm.Cond.code ({ cls := "java/lang/Math", name := "min", desc := "(II)I" } : Jvm.MethodName) prog_28_method_69_code (2 : Nat) (Option.some Jvm.ClassFile.FieldType.int)) ∈ lw_all := lw_g (lw_at lw_m3 59 rfl) rfl

/-! java/util/Arrays -/
set_option maxRecDepth 100000
def RJ13 : String := "java/util/Arrays"
abbrev cJ13_copyOf : ByteArray := prog_41_method_119_code
def yJ13_copyOf : MethodName := ⟨RJ13, "copyOf", "([Ljava/lang/Object;I)[Ljava/lang/Object;"⟩
def dkwJ13_copyOf_0 : List UInt8 := [42, 27, 42, 182, 0, 86, 184, 1, 44, 176]
abbrev dktJ13_copyOf_0 : List UInt8 := dkwJ13_copyOf_0 ++ []
theorem dksJ13_copyOf_0 : cJ13_copyOf.data.toList.drop 0 = dktJ13_copyOf_0 := by decide +kernel
theorem dJ13_copyOf_0 : decode cJ13_copyOf 0 = .ok (.aload_n 0, 1) := dk_42 (dk_at dksJ13_copyOf_0 0 rfl rfl)
theorem dJ13_copyOf_1 : decode cJ13_copyOf 1 = .ok (.iload_n 1, 1) := dk_27 (dk_at dksJ13_copyOf_0 1 rfl rfl)
theorem dJ13_copyOf_2 : decode cJ13_copyOf 2 = .ok (.aload_n 0, 1) := dk_42 (dk_at dksJ13_copyOf_0 2 rfl rfl)
theorem dJ13_copyOf_3 : decode cJ13_copyOf 3 = .ok (.invokevirtual 86, 3) := dk_182 0 86 (dk_at dksJ13_copyOf_0 3 rfl rfl)
theorem dJ13_copyOf_6 : decode cJ13_copyOf 6 = .ok (.invokestatic 300, 3) := dk_184 1 44 (dk_at dksJ13_copyOf_0 6 rfl rfl)
theorem dJ13_copyOf_9 : decode cJ13_copyOf 9 = .ok (.areturn, 1) := dk_176 (dk_at dksJ13_copyOf_0 9 rfl rfl)
abbrev cJ13_copyOf_2 : ByteArray := prog_41_method_120_code
def yJ13_copyOf_2 : MethodName := ⟨RJ13, "copyOf", "([Ljava/lang/Object;ILjava/lang/Class;)[Ljava/lang/Object;"⟩
def dkwJ13_copyOf_2_1 : List UInt8 := [78, 42, 3, 45, 3, 42, 190, 27, 184, 1, 48, 184, 0, 150, 45, 176]
abbrev dktJ13_copyOf_2_1 : List UInt8 := dkwJ13_copyOf_2_1 ++ []
def dkwJ13_copyOf_2_0 : List UInt8 := [44, 18, 110, 166, 0, 10, 27, 189, 0, 2, 167, 0, 14, 44, 182, 0, 90, 27, 184, 0, 95, 192, 0, 110]
abbrev dktJ13_copyOf_2_0 : List UInt8 := dkwJ13_copyOf_2_0 ++ dktJ13_copyOf_2_1
theorem dksJ13_copyOf_2_0 : cJ13_copyOf_2.data.toList.drop 0 = dktJ13_copyOf_2_0 := by decide +kernel
theorem dksJ13_copyOf_2_1 : cJ13_copyOf_2.data.toList.drop 24 = dktJ13_copyOf_2_1 := dk_seg dksJ13_copyOf_2_0 24 rfl rfl
theorem dJ13_copyOf_2_0 : decode cJ13_copyOf_2 0 = .ok (.aload_n 2, 1) := dk_44 (dk_at dksJ13_copyOf_2_0 0 rfl rfl)
theorem dJ13_copyOf_2_1 : decode cJ13_copyOf_2 1 = .ok (.ldc 110, 2) := dk_18 110 (dk_at dksJ13_copyOf_2_0 1 rfl rfl)
theorem dJ13_copyOf_2_3 : decode cJ13_copyOf_2 3 = .ok (.if_acmp .ne 10, 3) := dk_166 0 10 (dk_at dksJ13_copyOf_2_0 3 rfl rfl)
theorem dJ13_copyOf_2_6 : decode cJ13_copyOf_2 6 = .ok (.iload_n 1, 1) := dk_27 (dk_at dksJ13_copyOf_2_0 6 rfl rfl)
theorem dJ13_copyOf_2_7 : decode cJ13_copyOf_2 7 = .ok (.anewarray 2, 3) := dk_189 0 2 (dk_at dksJ13_copyOf_2_0 7 rfl rfl)
theorem dJ13_copyOf_2_10 : decode cJ13_copyOf_2 10 = .ok (.goto 14, 3) := dk_167 0 14 (dk_at dksJ13_copyOf_2_0 10 rfl rfl)
theorem dJ13_copyOf_2_13 : decode cJ13_copyOf_2 13 = .ok (.aload_n 2, 1) := dk_44 (dk_at dksJ13_copyOf_2_0 13 rfl rfl)
theorem dJ13_copyOf_2_14 : decode cJ13_copyOf_2 14 = .ok (.invokevirtual 90, 3) := dk_182 0 90 (dk_at dksJ13_copyOf_2_0 14 rfl rfl)
theorem dJ13_copyOf_2_17 : decode cJ13_copyOf_2 17 = .ok (.iload_n 1, 1) := dk_27 (dk_at dksJ13_copyOf_2_0 17 rfl rfl)
theorem dJ13_copyOf_2_18 : decode cJ13_copyOf_2 18 = .ok (.invokestatic 95, 3) := dk_184 0 95 (dk_at dksJ13_copyOf_2_0 18 rfl rfl)
theorem dJ13_copyOf_2_21 : decode cJ13_copyOf_2 21 = .ok (.checkcast 110, 3) := dk_192 0 110 (dk_at dksJ13_copyOf_2_0 21 rfl rfl)
theorem dJ13_copyOf_2_24 : decode cJ13_copyOf_2 24 = .ok (.astore_n 3, 1) := dk_78 (dk_at dksJ13_copyOf_2_1 0 rfl rfl)
theorem dJ13_copyOf_2_25 : decode cJ13_copyOf_2 25 = .ok (.aload_n 0, 1) := dk_42 (dk_at dksJ13_copyOf_2_1 1 rfl rfl)
theorem dJ13_copyOf_2_26 : decode cJ13_copyOf_2 26 = .ok (.iconst 0, 1) := dk_3 (dk_at dksJ13_copyOf_2_1 2 rfl rfl)
theorem dJ13_copyOf_2_27 : decode cJ13_copyOf_2 27 = .ok (.aload_n 3, 1) := dk_45 (dk_at dksJ13_copyOf_2_1 3 rfl rfl)
theorem dJ13_copyOf_2_28 : decode cJ13_copyOf_2 28 = .ok (.iconst 0, 1) := dk_3 (dk_at dksJ13_copyOf_2_1 4 rfl rfl)
theorem dJ13_copyOf_2_29 : decode cJ13_copyOf_2 29 = .ok (.aload_n 0, 1) := dk_42 (dk_at dksJ13_copyOf_2_1 5 rfl rfl)
theorem dJ13_copyOf_2_30 : decode cJ13_copyOf_2 30 = .ok (.arraylength, 1) := dk_190 (dk_at dksJ13_copyOf_2_1 6 rfl rfl)
theorem dJ13_copyOf_2_31 : decode cJ13_copyOf_2 31 = .ok (.iload_n 1, 1) := dk_27 (dk_at dksJ13_copyOf_2_1 7 rfl rfl)
theorem dJ13_copyOf_2_32 : decode cJ13_copyOf_2 32 = .ok (.invokestatic 304, 3) := dk_184 1 48 (dk_at dksJ13_copyOf_2_1 8 rfl rfl)
theorem dJ13_copyOf_2_35 : decode cJ13_copyOf_2 35 = .ok (.invokestatic 150, 3) := dk_184 0 150 (dk_at dksJ13_copyOf_2_1 11 rfl rfl)
theorem dJ13_copyOf_2_38 : decode cJ13_copyOf_2 38 = .ok (.aload_n 3, 1) := dk_45 (dk_at dksJ13_copyOf_2_1 14 rfl rfl)
theorem dJ13_copyOf_2_39 : decode cJ13_copyOf_2 39 = .ok (.areturn, 1) := dk_176 (dk_at dksJ13_copyOf_2_1 15 rfl rfl)
theorem q150 : (Jvm.Cond.initialized "java/util/Arrays") ∈ lw_all := lw_g (lw_at lw_m1 21 rfl) rfl
theorem q637 : (Jvm.Cond.static ({ cls := "java/util/Arrays", name := "copyOf", desc := "([Ljava/lang/Object;I)[Ljava/lang/Object;" } : Jvm.MethodName)) ∈ lw_all := lw_g (lw_at lw_m3 28 rfl) rfl
theorem q638 : (Jvm.Cond.code ({ cls := "java/util/Arrays", name := "copyOf", desc := "([Ljava/lang/Object;I)[Ljava/lang/Object;" } : Jvm.MethodName) prog_41_method_119_code (2 : Nat) (Option.some (Jvm.ClassFile.FieldType.array (Jvm.ClassFile.FieldType.object "java/lang/Object")))) ∈ lw_all := lw_g (lw_at lw_m3 29 rfl) rfl
theorem q639 : (Jvm.Cond.methodLink "java/util/Arrays" (86 : Nat) ({ cls := "java/lang/Object", name := "getClass", desc := "()Ljava/lang/Class;" } : Jvm.MethodName)) ∈ lw_all := lw_g (lw_at lw_m3 30 rfl) rfl
theorem q661 : (Jvm.Cond.methodLink "java/util/Arrays" (300 : Nat) ({ cls := "java/util/Arrays", name := "copyOf", desc := "([Ljava/lang/Object;ILjava/lang/Class;)[Ljava/lang/Object;" } : Jvm.MethodName)) ∈ lw_all := lw_g (lw_at lw_m3 52 rfl) rfl
theorem q662 : (Jvm.Cond.static ({ cls := "java/util/Arrays", name := "copyOf", desc := "([Ljava/lang/Object;ILjava/lang/Class;)[Ljava/lang/Object;" } : Jvm.MethodName)) ∈ lw_all := lw_g (lw_at lw_m3 53 rfl) rfl
theorem q663 : (Jvm.Cond.code ({ cls := "java/util/Arrays", name := "copyOf", desc := "([Ljava/lang/Object;ILjava/lang/Class;)[Ljava/lang/Object;" } : Jvm.MethodName) prog_41_method_120_code (4 : Nat) (Option.some (Jvm.ClassFile.FieldType.array (Jvm.ClassFile.FieldType.object "java/lang/Object")))) ∈ lw_all := lw_g (lw_at lw_m3 54 rfl) rfl
theorem q664 : (Jvm.Cond.classLink "java/util/Arrays" (110 : Nat) "[Ljava/lang/Object;") ∈ lw_all := lw_g (lw_at lw_m3 55 rfl) rfl
theorem q665 : (Jvm.Cond.classLink "java/util/Arrays" (2 : Nat) "java/lang/Object") ∈ lw_all := lw_g (lw_at lw_m3 56 rfl) rfl
theorem q666 : (Jvm.Cond.methodLink "java/util/Arrays" (304 : Nat) ({ cls := "java/lang/Math", name := "min", desc := "(II)I" } : Jvm.MethodName)) ∈ lw_all := lw_g (lw_at lw_m3 57 rfl) rfl
theorem q669 : (Jvm.Cond.methodLink "java/util/Arrays" (150 : Nat) ({ cls := "java/lang/System", name := "arraycopy", desc := "(Ljava/lang/Object;ILjava/lang/Object;II)V" } : Jvm.MethodName)) ∈ lw_all := lw_g (lw_at lw_m3 60 rfl) rfl

/-! java/lang/Record -/
set_option maxRecDepth 100000
def RJ14 : String := "java/lang/Record"
abbrev cJ14_init : ByteArray := prog_30_method_1_code
def yJ14_init : MethodName := ⟨RJ14, "<init>", "()V"⟩
theorem dJ14_init_0 : decode cJ14_init 0 = .ok (.aload_n 0, 1) := by decide +kernel
theorem dJ14_init_1 : decode cJ14_init 1 = .ok (.invokespecial 1, 3) := by decide +kernel
theorem dJ14_init_4 : decode cJ14_init 4 = .ok (.return_, 1) := by decide +kernel
theorem q152 : (Jvm.Cond.initialized "java/lang/Record") ∈ lw_all := lw_g (lw_at lw_m1 23 rfl) rfl
theorem q688 : (Jvm.Cond.instanceMethod ({ cls := "java/lang/Record", name := "<init>", desc := "()V" } : Jvm.MethodName)) ∈ lw_all := lw_g (lw_at lw_m3 79 rfl) rfl
theorem q689 : (Jvm.Cond.code ({ cls := "java/lang/Record", name := "<init>", desc := "()V" } : Jvm.MethodName) prog_30_method_1_code (1 : Nat) (Option.none : Option Jvm.ClassFile.FieldType)) ∈ lw_all := lw_g (lw_at lw_m3 80 rfl) rfl
theorem q690 : (Jvm.Cond.methodLink "java/lang/Record" (1 : Nat) ({ cls := "java/lang/Object", name := "<init>", desc := "()V" } : Jvm.MethodName)) ∈ lw_all := lw_g (lw_at lw_m3 81 rfl) rfl

/-! java/util/Objects -/
set_option maxRecDepth 100000
def RJ15 : String := "java/util/Objects"
abbrev cJ15_checkIndex : ByteArray := prog_44_method_17_code
def yJ15_checkIndex : MethodName := ⟨RJ15, "checkIndex", "(II)I"⟩
def dkwJ15_checkIndex_0 : List UInt8 := [26, 27, 1, 184, 0, 105, 172]
abbrev dktJ15_checkIndex_0 : List UInt8 := dkwJ15_checkIndex_0 ++ []
theorem dksJ15_checkIndex_0 : cJ15_checkIndex.data.toList.drop 0 = dktJ15_checkIndex_0 := by decide +kernel
theorem dJ15_checkIndex_0 : decode cJ15_checkIndex 0 = .ok (.iload_n 0, 1) := dk_26 (dk_at dksJ15_checkIndex_0 0 rfl rfl)
theorem dJ15_checkIndex_1 : decode cJ15_checkIndex 1 = .ok (.iload_n 1, 1) := dk_27 (dk_at dksJ15_checkIndex_0 1 rfl rfl)
theorem dJ15_checkIndex_2 : decode cJ15_checkIndex 2 = .ok (.aconst_null, 1) := dk_1 (dk_at dksJ15_checkIndex_0 2 rfl rfl)
theorem dJ15_checkIndex_3 : decode cJ15_checkIndex 3 = .ok (.invokestatic 105, 3) := dk_184 0 105 (dk_at dksJ15_checkIndex_0 3 rfl rfl)
theorem dJ15_checkIndex_6 : decode cJ15_checkIndex 6 = .ok (.ireturn, 1) := dk_172 (dk_at dksJ15_checkIndex_0 6 rfl rfl)
theorem q154 : (Jvm.Cond.initialized "java/util/Objects") ∈ lw_all := lw_g (lw_at lw_m1 25 rfl) rfl
theorem q733 : (Jvm.Cond.static ({ cls := "java/util/Objects", name := "checkIndex", desc := "(II)I" } : Jvm.MethodName)) ∈ lw_all := lw_g (lw_at lw_m3 124 rfl) rfl
theorem q734 : (Jvm.Cond.code ({ cls := "java/util/Objects", name := "checkIndex", desc := "(II)I" } : Jvm.MethodName) prog_44_method_17_code (2 : Nat) (Option.some Jvm.ClassFile.FieldType.int)) ∈ lw_all := lw_g (lw_at lw_m3 125 rfl) rfl
theorem q735 : (Jvm.Cond.methodLink "java/util/Objects" (105 : Nat) ({ cls := "jdk/internal/util/Preconditions", name := "checkIndex", desc := "(IILjava/util/function/BiFunction;)I" } : Jvm.MethodName)) ∈ lw_all := lw_g (lw_at lw_m3 126 rfl) rfl

/-! java/lang/Object -/
set_option maxRecDepth 100000
def RJ16 : String := "java/lang/Object"
abbrev cJ16_init : ByteArray := object_method_1_code
def yJ16_init : MethodName := ⟨RJ16, "<init>", "()V"⟩
theorem dJ16_init_0 : decode cJ16_init 0 = .ok (.return_, 1) := by decide +kernel
theorem q172 : (Jvm.Cond.instanceMethod ({ cls := "java/lang/Object", name := "<init>", desc := "()V" } : Jvm.MethodName)) ∈ lw_all := lw_g (lw_at lw_m1 43 rfl) rfl
theorem q173 : (Jvm.Cond.code ({ cls := "java/lang/Object", name := "<init>", desc := "()V" } : Jvm.MethodName) object_method_1_code (1 : Nat) (Option.none : Option Jvm.ClassFile.FieldType)) ∈ lw_all := lw_g (lw_at lw_m1 44 rfl) rfl
theorem q640 : (Jvm.Cond.instanceMethod ({ cls := "java/lang/Object", name := "getClass", desc := "()Ljava/lang/Class;" } : Jvm.MethodName)) ∈ lw_all := lw_g (lw_at lw_m3 31 rfl) rfl
theorem q641 : (Jvm.Cond.sameMethod "java/lang/Object" "java/lang/Object" "getClass" "()Ljava/lang/Class;") ∈ lw_all := lw_g (lw_at lw_m3 32 rfl) rfl
theorem q660 : (Jvm.Cond.native ({ cls := "java/lang/Object", name := "getClass", desc := "()Ljava/lang/Class;" } : Jvm.MethodName)) ∈ lw_all := lw_g (lw_at lw_m3 51 rfl) rfl
theorem q1884 : (Jvm.Cond.initialized "java/lang/Object") ∈ lw_all := lw_g (lw_at lw_m8 75 rfl) rfl
theorem q1907 : (Jvm.Cond.declares ({ cls := "java/lang/Object", name := "getClass", desc := "()Ljava/lang/Class;" } : Jvm.MethodName)) ∈ lw_tbl := lw_at lw_m8 98 rfl

