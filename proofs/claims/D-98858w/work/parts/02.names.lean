/-! DECODE ROWS BY BYTES: one lemma an opcode; a method's code is cut into short pieces once, and a row reads its own piece alone. -/
set_option maxRecDepth 100000
/-- the code has just these bytes from pc on -/
def DkAt (code : ByteArray) (pc : Nat) (bs : List UInt8) : Prop := ∀ (j : Nat) (b : UInt8), bs[j]? = some b → code.data.toList[pc + j]? = some b
/-- the piece W has the bytes bs from its place j on -/
def dkIn (W : List UInt8) (j : Nat) (bs : List UInt8) : Bool := decide ((W.drop j).take bs.length = bs)
theorem dk_seg {l W T : List UInt8} {o o2 : Nat} (h : l.drop o = W ++ T) (n : Nat) (hn : W.length = n) (ho : o + n = o2) : l.drop o2 = T := by
  subst ho
  rw [← List.drop_drop, h, List.drop_left' hn]
theorem dk_at {code : ByteArray} {W T bs : List UInt8} {o pc : Nat} (h : code.data.toList.drop o = W ++ T) (j : Nat) (hp : o + j = pc) (hw : dkIn W j bs = true) : DkAt code pc bs := by
  subst hp
  intro i b e
  have h1 := of_decide_eq_true hw
  have h2 : i < bs.length := (List.getElem?_eq_some_iff.mp e).1
  have h3 : W[j + i]? = some b := by
    rw [← h1, List.getElem?_take, if_pos h2, List.getElem?_drop] at e
    exact e
  have h4 : j + i < W.length := (List.getElem?_eq_some_iff.mp h3).1
  have h5 : (code.data.toList.drop o)[j + i]? = some b := by
    rw [h, List.getElem?_append_left h4]
    exact h3
  rw [List.getElem?_drop, ← Nat.add_assoc] at h5
  exact h5
theorem dk_u1 {A : ByteArray} {p : Nat} {b : UInt8} (h : A.data.toList[p]? = some b) : (Reader.u1 : Reader DecodeError Nat) A p = .ok (b.toNat, p + 1) := by
  obtain ⟨h1, h2⟩ := List.getElem?_eq_some_iff.mp h
  have h3 : p < A.size := by simpa using h1
  have h4 : A[p]'h3 = b := h2
  have e : (Reader.u1 : Reader DecodeError Nat) A p = (if h : p < A.size then .ok (A[p].toNat, p + 1) else .error (HasTruncated.truncated p)) := by
    show (do if h : p < A.size then do set (p + 1); Pure.pure A[p].toNat else MonadExcept.throw (HasTruncated.truncated p) : Reader DecodeError Nat) A p = _
    by_cases hi : p < A.size
    · rw [dif_pos hi, dif_pos hi]; rfl
    · rw [dif_neg hi, dif_neg hi]; rfl
  rw [e, dif_pos h3, h4]
theorem dk_bind {α β : Type} {r : Reader DecodeError α} {f : α → Reader DecodeError β} {A : ByteArray} {p s : Nat} {a : α} (h : r A p = .ok (a, s)) : (r >>= f) A p = f a A s := by
  show (do let (a, s) ← r A p; f a A s : Except DecodeError (β × Nat)) = _
  rw [h]
  rfl
theorem dk_map {α β : Type} {r : Reader DecodeError α} {g : α → β} {A : ByteArray} {p s : Nat} {a : α} (h : r A p = .ok (a, s)) : (g <$> r) A p = .ok (g a, s) := by
  show (do let (a, s) ← r A p; .ok (g a, s) : Except DecodeError (β × Nat)) = _
  rw [h]
  rfl
theorem dk_u2 {A : ByteArray} {p : Nat} {a b : UInt8} (h : A.data.toList[p]? = some a) (h2 : A.data.toList[p + 1]? = some b) : (Reader.u2 : Reader DecodeError Nat) A p = .ok (a.toNat * 256 + b.toNat, p + 2) := by
  show (Reader.u1 >>= fun hi => Reader.u1 >>= fun lo => Pure.pure (hi * 256 + lo) : Reader DecodeError Nat) A p = _
  rw [dk_bind (dk_u1 h), dk_bind (dk_u1 h2)]
  rfl
theorem dk_of {code : ByteArray} {pc n : Nat} {i : Instr} (h : Decoder.instr pc code pc = .ok (i, pc + n)) : decode code pc = .ok (i, n) := by
  have e : decode code pc = (match Decoder.instr pc code pc with | .error x => .error x | .ok (j, s) => .ok (j, s - pc)) := by
    show (do let (j, s) ← Decoder.instr pc code pc; Pure.pure (j, s - pc) : Except DecodeError (Instr × Nat)) = _
    cases Decoder.instr pc code pc <;> rfl
  rw [e, h]
  show Except.ok (i, pc + n - pc) = _
  rw [Nat.add_sub_cancel_left]
theorem dk_1 {code : ByteArray} {pc : Nat} (h : DkAt code pc [1]) : decode code pc = .ok (.aconst_null, 1) := dk_of ((dk_bind (dk_u1 (h 0 _ rfl))).trans rfl)
theorem dk_2 {code : ByteArray} {pc : Nat} (h : DkAt code pc [2]) : decode code pc = .ok (.iconst (-1), 1) := dk_of ((dk_bind (dk_u1 (h 0 _ rfl))).trans rfl)
theorem dk_3 {code : ByteArray} {pc : Nat} (h : DkAt code pc [3]) : decode code pc = .ok (.iconst 0, 1) := dk_of ((dk_bind (dk_u1 (h 0 _ rfl))).trans rfl)
theorem dk_4 {code : ByteArray} {pc : Nat} (h : DkAt code pc [4]) : decode code pc = .ok (.iconst 1, 1) := dk_of ((dk_bind (dk_u1 (h 0 _ rfl))).trans rfl)
theorem dk_5 {code : ByteArray} {pc : Nat} (h : DkAt code pc [5]) : decode code pc = .ok (.iconst 2, 1) := dk_of ((dk_bind (dk_u1 (h 0 _ rfl))).trans rfl)
theorem dk_6 {code : ByteArray} {pc : Nat} (h : DkAt code pc [6]) : decode code pc = .ok (.iconst 3, 1) := dk_of ((dk_bind (dk_u1 (h 0 _ rfl))).trans rfl)
theorem dk_7 {code : ByteArray} {pc : Nat} (h : DkAt code pc [7]) : decode code pc = .ok (.iconst 4, 1) := dk_of ((dk_bind (dk_u1 (h 0 _ rfl))).trans rfl)
theorem dk_8 {code : ByteArray} {pc : Nat} (h : DkAt code pc [8]) : decode code pc = .ok (.iconst 5, 1) := dk_of ((dk_bind (dk_u1 (h 0 _ rfl))).trans rfl)
theorem dk_9 {code : ByteArray} {pc : Nat} (h : DkAt code pc [9]) : decode code pc = .ok (.lconst 0, 1) := dk_of ((dk_bind (dk_u1 (h 0 _ rfl))).trans rfl)
theorem dk_10 {code : ByteArray} {pc : Nat} (h : DkAt code pc [10]) : decode code pc = .ok (.lconst 1, 1) := dk_of ((dk_bind (dk_u1 (h 0 _ rfl))).trans rfl)
theorem dk_16 {code : ByteArray} {pc : Nat} (a : UInt8) (h : DkAt code pc [16, a]) : decode code pc = .ok (.bipush (Reader.signed 8 a.toNat), 2) := dk_of ((dk_bind (dk_u1 (h 0 _ rfl))).trans ((dk_bind (dk_map (dk_u1 (h 1 _ rfl)))).trans rfl))
theorem dk_17 {code : ByteArray} {pc : Nat} (a b : UInt8) (h : DkAt code pc [17, a, b]) : decode code pc = .ok (.sipush (Reader.signed 16 (a.toNat * 256 + b.toNat)), 3) := dk_of ((dk_bind (dk_u1 (h 0 _ rfl))).trans ((dk_bind (dk_map (dk_u2 (h 1 _ rfl) (h 2 _ rfl)))).trans rfl))
theorem dk_18 {code : ByteArray} {pc : Nat} (a : UInt8) (h : DkAt code pc [18, a]) : decode code pc = .ok (.ldc a.toNat, 2) := dk_of ((dk_bind (dk_u1 (h 0 _ rfl))).trans ((dk_bind (dk_u1 (h 1 _ rfl))).trans rfl))
theorem dk_19 {code : ByteArray} {pc : Nat} (a b : UInt8) (h : DkAt code pc [19, a, b]) : decode code pc = .ok (.ldc_w (a.toNat * 256 + b.toNat), 3) := dk_of ((dk_bind (dk_u1 (h 0 _ rfl))).trans ((dk_bind (dk_u2 (h 1 _ rfl) (h 2 _ rfl))).trans rfl))
theorem dk_20 {code : ByteArray} {pc : Nat} (a b : UInt8) (h : DkAt code pc [20, a, b]) : decode code pc = .ok (.ldc2_w (a.toNat * 256 + b.toNat), 3) := dk_of ((dk_bind (dk_u1 (h 0 _ rfl))).trans ((dk_bind (dk_u2 (h 1 _ rfl) (h 2 _ rfl))).trans rfl))
theorem dk_21 {code : ByteArray} {pc : Nat} (a : UInt8) (h : DkAt code pc [21, a]) : decode code pc = .ok (.iload a.toNat, 2) := dk_of ((dk_bind (dk_u1 (h 0 _ rfl))).trans ((dk_bind (dk_u1 (h 1 _ rfl))).trans rfl))
theorem dk_22 {code : ByteArray} {pc : Nat} (a : UInt8) (h : DkAt code pc [22, a]) : decode code pc = .ok (.lload a.toNat, 2) := dk_of ((dk_bind (dk_u1 (h 0 _ rfl))).trans ((dk_bind (dk_u1 (h 1 _ rfl))).trans rfl))
theorem dk_25 {code : ByteArray} {pc : Nat} (a : UInt8) (h : DkAt code pc [25, a]) : decode code pc = .ok (.aload a.toNat, 2) := dk_of ((dk_bind (dk_u1 (h 0 _ rfl))).trans ((dk_bind (dk_u1 (h 1 _ rfl))).trans rfl))
theorem dk_26 {code : ByteArray} {pc : Nat} (h : DkAt code pc [26]) : decode code pc = .ok (.iload_n 0, 1) := dk_of ((dk_bind (dk_u1 (h 0 _ rfl))).trans rfl)
theorem dk_27 {code : ByteArray} {pc : Nat} (h : DkAt code pc [27]) : decode code pc = .ok (.iload_n 1, 1) := dk_of ((dk_bind (dk_u1 (h 0 _ rfl))).trans rfl)
theorem dk_28 {code : ByteArray} {pc : Nat} (h : DkAt code pc [28]) : decode code pc = .ok (.iload_n 2, 1) := dk_of ((dk_bind (dk_u1 (h 0 _ rfl))).trans rfl)
theorem dk_29 {code : ByteArray} {pc : Nat} (h : DkAt code pc [29]) : decode code pc = .ok (.iload_n 3, 1) := dk_of ((dk_bind (dk_u1 (h 0 _ rfl))).trans rfl)
theorem dk_30 {code : ByteArray} {pc : Nat} (h : DkAt code pc [30]) : decode code pc = .ok (.lload_n 0, 1) := dk_of ((dk_bind (dk_u1 (h 0 _ rfl))).trans rfl)
theorem dk_31 {code : ByteArray} {pc : Nat} (h : DkAt code pc [31]) : decode code pc = .ok (.lload_n 1, 1) := dk_of ((dk_bind (dk_u1 (h 0 _ rfl))).trans rfl)
theorem dk_32 {code : ByteArray} {pc : Nat} (h : DkAt code pc [32]) : decode code pc = .ok (.lload_n 2, 1) := dk_of ((dk_bind (dk_u1 (h 0 _ rfl))).trans rfl)
theorem dk_33 {code : ByteArray} {pc : Nat} (h : DkAt code pc [33]) : decode code pc = .ok (.lload_n 3, 1) := dk_of ((dk_bind (dk_u1 (h 0 _ rfl))).trans rfl)
theorem dk_42 {code : ByteArray} {pc : Nat} (h : DkAt code pc [42]) : decode code pc = .ok (.aload_n 0, 1) := dk_of ((dk_bind (dk_u1 (h 0 _ rfl))).trans rfl)
theorem dk_43 {code : ByteArray} {pc : Nat} (h : DkAt code pc [43]) : decode code pc = .ok (.aload_n 1, 1) := dk_of ((dk_bind (dk_u1 (h 0 _ rfl))).trans rfl)
theorem dk_44 {code : ByteArray} {pc : Nat} (h : DkAt code pc [44]) : decode code pc = .ok (.aload_n 2, 1) := dk_of ((dk_bind (dk_u1 (h 0 _ rfl))).trans rfl)
theorem dk_45 {code : ByteArray} {pc : Nat} (h : DkAt code pc [45]) : decode code pc = .ok (.aload_n 3, 1) := dk_of ((dk_bind (dk_u1 (h 0 _ rfl))).trans rfl)
theorem dk_46 {code : ByteArray} {pc : Nat} (h : DkAt code pc [46]) : decode code pc = .ok (.iaload, 1) := dk_of ((dk_bind (dk_u1 (h 0 _ rfl))).trans rfl)
theorem dk_47 {code : ByteArray} {pc : Nat} (h : DkAt code pc [47]) : decode code pc = .ok (.laload, 1) := dk_of ((dk_bind (dk_u1 (h 0 _ rfl))).trans rfl)
theorem dk_50 {code : ByteArray} {pc : Nat} (h : DkAt code pc [50]) : decode code pc = .ok (.aaload, 1) := dk_of ((dk_bind (dk_u1 (h 0 _ rfl))).trans rfl)
theorem dk_51 {code : ByteArray} {pc : Nat} (h : DkAt code pc [51]) : decode code pc = .ok (.baload, 1) := dk_of ((dk_bind (dk_u1 (h 0 _ rfl))).trans rfl)
theorem dk_54 {code : ByteArray} {pc : Nat} (a : UInt8) (h : DkAt code pc [54, a]) : decode code pc = .ok (.istore a.toNat, 2) := dk_of ((dk_bind (dk_u1 (h 0 _ rfl))).trans ((dk_bind (dk_u1 (h 1 _ rfl))).trans rfl))
theorem dk_55 {code : ByteArray} {pc : Nat} (a : UInt8) (h : DkAt code pc [55, a]) : decode code pc = .ok (.lstore a.toNat, 2) := dk_of ((dk_bind (dk_u1 (h 0 _ rfl))).trans ((dk_bind (dk_u1 (h 1 _ rfl))).trans rfl))
theorem dk_58 {code : ByteArray} {pc : Nat} (a : UInt8) (h : DkAt code pc [58, a]) : decode code pc = .ok (.astore a.toNat, 2) := dk_of ((dk_bind (dk_u1 (h 0 _ rfl))).trans ((dk_bind (dk_u1 (h 1 _ rfl))).trans rfl))
theorem dk_59 {code : ByteArray} {pc : Nat} (h : DkAt code pc [59]) : decode code pc = .ok (.istore_n 0, 1) := dk_of ((dk_bind (dk_u1 (h 0 _ rfl))).trans rfl)
theorem dk_60 {code : ByteArray} {pc : Nat} (h : DkAt code pc [60]) : decode code pc = .ok (.istore_n 1, 1) := dk_of ((dk_bind (dk_u1 (h 0 _ rfl))).trans rfl)
theorem dk_61 {code : ByteArray} {pc : Nat} (h : DkAt code pc [61]) : decode code pc = .ok (.istore_n 2, 1) := dk_of ((dk_bind (dk_u1 (h 0 _ rfl))).trans rfl)
theorem dk_62 {code : ByteArray} {pc : Nat} (h : DkAt code pc [62]) : decode code pc = .ok (.istore_n 3, 1) := dk_of ((dk_bind (dk_u1 (h 0 _ rfl))).trans rfl)
theorem dk_65 {code : ByteArray} {pc : Nat} (h : DkAt code pc [65]) : decode code pc = .ok (.lstore_n 2, 1) := dk_of ((dk_bind (dk_u1 (h 0 _ rfl))).trans rfl)
theorem dk_66 {code : ByteArray} {pc : Nat} (h : DkAt code pc [66]) : decode code pc = .ok (.lstore_n 3, 1) := dk_of ((dk_bind (dk_u1 (h 0 _ rfl))).trans rfl)
theorem dk_76 {code : ByteArray} {pc : Nat} (h : DkAt code pc [76]) : decode code pc = .ok (.astore_n 1, 1) := dk_of ((dk_bind (dk_u1 (h 0 _ rfl))).trans rfl)
theorem dk_77 {code : ByteArray} {pc : Nat} (h : DkAt code pc [77]) : decode code pc = .ok (.astore_n 2, 1) := dk_of ((dk_bind (dk_u1 (h 0 _ rfl))).trans rfl)
theorem dk_78 {code : ByteArray} {pc : Nat} (h : DkAt code pc [78]) : decode code pc = .ok (.astore_n 3, 1) := dk_of ((dk_bind (dk_u1 (h 0 _ rfl))).trans rfl)
theorem dk_79 {code : ByteArray} {pc : Nat} (h : DkAt code pc [79]) : decode code pc = .ok (.iastore, 1) := dk_of ((dk_bind (dk_u1 (h 0 _ rfl))).trans rfl)
theorem dk_80 {code : ByteArray} {pc : Nat} (h : DkAt code pc [80]) : decode code pc = .ok (.lastore, 1) := dk_of ((dk_bind (dk_u1 (h 0 _ rfl))).trans rfl)
theorem dk_83 {code : ByteArray} {pc : Nat} (h : DkAt code pc [83]) : decode code pc = .ok (.aastore, 1) := dk_of ((dk_bind (dk_u1 (h 0 _ rfl))).trans rfl)
theorem dk_84 {code : ByteArray} {pc : Nat} (h : DkAt code pc [84]) : decode code pc = .ok (.bastore, 1) := dk_of ((dk_bind (dk_u1 (h 0 _ rfl))).trans rfl)
theorem dk_87 {code : ByteArray} {pc : Nat} (h : DkAt code pc [87]) : decode code pc = .ok (.pop, 1) := dk_of ((dk_bind (dk_u1 (h 0 _ rfl))).trans rfl)
theorem dk_89 {code : ByteArray} {pc : Nat} (h : DkAt code pc [89]) : decode code pc = .ok (.dup, 1) := dk_of ((dk_bind (dk_u1 (h 0 _ rfl))).trans rfl)
theorem dk_90 {code : ByteArray} {pc : Nat} (h : DkAt code pc [90]) : decode code pc = .ok (.dup_x1, 1) := dk_of ((dk_bind (dk_u1 (h 0 _ rfl))).trans rfl)
theorem dk_92 {code : ByteArray} {pc : Nat} (h : DkAt code pc [92]) : decode code pc = .ok (.dup2, 1) := dk_of ((dk_bind (dk_u1 (h 0 _ rfl))).trans rfl)
theorem dk_96 {code : ByteArray} {pc : Nat} (h : DkAt code pc [96]) : decode code pc = .ok (.iadd, 1) := dk_of ((dk_bind (dk_u1 (h 0 _ rfl))).trans rfl)
theorem dk_97 {code : ByteArray} {pc : Nat} (h : DkAt code pc [97]) : decode code pc = .ok (.ladd, 1) := dk_of ((dk_bind (dk_u1 (h 0 _ rfl))).trans rfl)
theorem dk_100 {code : ByteArray} {pc : Nat} (h : DkAt code pc [100]) : decode code pc = .ok (.isub, 1) := dk_of ((dk_bind (dk_u1 (h 0 _ rfl))).trans rfl)
theorem dk_101 {code : ByteArray} {pc : Nat} (h : DkAt code pc [101]) : decode code pc = .ok (.lsub, 1) := dk_of ((dk_bind (dk_u1 (h 0 _ rfl))).trans rfl)
theorem dk_104 {code : ByteArray} {pc : Nat} (h : DkAt code pc [104]) : decode code pc = .ok (.imul, 1) := dk_of ((dk_bind (dk_u1 (h 0 _ rfl))).trans rfl)
theorem dk_105 {code : ByteArray} {pc : Nat} (h : DkAt code pc [105]) : decode code pc = .ok (.lmul, 1) := dk_of ((dk_bind (dk_u1 (h 0 _ rfl))).trans rfl)
theorem dk_108 {code : ByteArray} {pc : Nat} (h : DkAt code pc [108]) : decode code pc = .ok (.idiv, 1) := dk_of ((dk_bind (dk_u1 (h 0 _ rfl))).trans rfl)
theorem dk_109 {code : ByteArray} {pc : Nat} (h : DkAt code pc [109]) : decode code pc = .ok (.ldiv, 1) := dk_of ((dk_bind (dk_u1 (h 0 _ rfl))).trans rfl)
theorem dk_112 {code : ByteArray} {pc : Nat} (h : DkAt code pc [112]) : decode code pc = .ok (.irem, 1) := dk_of ((dk_bind (dk_u1 (h 0 _ rfl))).trans rfl)
theorem dk_113 {code : ByteArray} {pc : Nat} (h : DkAt code pc [113]) : decode code pc = .ok (.lrem, 1) := dk_of ((dk_bind (dk_u1 (h 0 _ rfl))).trans rfl)
theorem dk_116 {code : ByteArray} {pc : Nat} (h : DkAt code pc [116]) : decode code pc = .ok (.ineg, 1) := dk_of ((dk_bind (dk_u1 (h 0 _ rfl))).trans rfl)
theorem dk_120 {code : ByteArray} {pc : Nat} (h : DkAt code pc [120]) : decode code pc = .ok (.ishl, 1) := dk_of ((dk_bind (dk_u1 (h 0 _ rfl))).trans rfl)
theorem dk_122 {code : ByteArray} {pc : Nat} (h : DkAt code pc [122]) : decode code pc = .ok (.ishr, 1) := dk_of ((dk_bind (dk_u1 (h 0 _ rfl))).trans rfl)
theorem dk_124 {code : ByteArray} {pc : Nat} (h : DkAt code pc [124]) : decode code pc = .ok (.iushr, 1) := dk_of ((dk_bind (dk_u1 (h 0 _ rfl))).trans rfl)
theorem dk_126 {code : ByteArray} {pc : Nat} (h : DkAt code pc [126]) : decode code pc = .ok (.iand, 1) := dk_of ((dk_bind (dk_u1 (h 0 _ rfl))).trans rfl)
theorem dk_128 {code : ByteArray} {pc : Nat} (h : DkAt code pc [128]) : decode code pc = .ok (.ior, 1) := dk_of ((dk_bind (dk_u1 (h 0 _ rfl))).trans rfl)
theorem dk_130 {code : ByteArray} {pc : Nat} (h : DkAt code pc [130]) : decode code pc = .ok (.ixor, 1) := dk_of ((dk_bind (dk_u1 (h 0 _ rfl))).trans rfl)
theorem dk_132 {code : ByteArray} {pc : Nat} (a b : UInt8) (h : DkAt code pc [132, a, b]) : decode code pc = .ok (.iinc a.toNat (Reader.signed 8 b.toNat), 3) := dk_of ((dk_bind (dk_u1 (h 0 _ rfl))).trans ((dk_bind (dk_u1 (h 1 _ rfl))).trans ((dk_bind (dk_map (dk_u1 (h 2 _ rfl)))).trans rfl)))
theorem dk_133 {code : ByteArray} {pc : Nat} (h : DkAt code pc [133]) : decode code pc = .ok (.i2l, 1) := dk_of ((dk_bind (dk_u1 (h 0 _ rfl))).trans rfl)
theorem dk_136 {code : ByteArray} {pc : Nat} (h : DkAt code pc [136]) : decode code pc = .ok (.l2i, 1) := dk_of ((dk_bind (dk_u1 (h 0 _ rfl))).trans rfl)
theorem dk_145 {code : ByteArray} {pc : Nat} (h : DkAt code pc [145]) : decode code pc = .ok (.i2b, 1) := dk_of ((dk_bind (dk_u1 (h 0 _ rfl))).trans rfl)
theorem dk_146 {code : ByteArray} {pc : Nat} (h : DkAt code pc [146]) : decode code pc = .ok (.i2c, 1) := dk_of ((dk_bind (dk_u1 (h 0 _ rfl))).trans rfl)
theorem dk_148 {code : ByteArray} {pc : Nat} (h : DkAt code pc [148]) : decode code pc = .ok (.lcmp, 1) := dk_of ((dk_bind (dk_u1 (h 0 _ rfl))).trans rfl)
theorem dk_153 {code : ByteArray} {pc : Nat} (a b : UInt8) (h : DkAt code pc [153, a, b]) : decode code pc = .ok (.ifCond .eq (Reader.signed 16 (a.toNat * 256 + b.toNat)), 3) := dk_of ((dk_bind (dk_u1 (h 0 _ rfl))).trans ((dk_bind (dk_map (dk_u2 (h 1 _ rfl) (h 2 _ rfl)))).trans rfl))
theorem dk_154 {code : ByteArray} {pc : Nat} (a b : UInt8) (h : DkAt code pc [154, a, b]) : decode code pc = .ok (.ifCond .ne (Reader.signed 16 (a.toNat * 256 + b.toNat)), 3) := dk_of ((dk_bind (dk_u1 (h 0 _ rfl))).trans ((dk_bind (dk_map (dk_u2 (h 1 _ rfl) (h 2 _ rfl)))).trans rfl))
theorem dk_155 {code : ByteArray} {pc : Nat} (a b : UInt8) (h : DkAt code pc [155, a, b]) : decode code pc = .ok (.ifCond .lt (Reader.signed 16 (a.toNat * 256 + b.toNat)), 3) := dk_of ((dk_bind (dk_u1 (h 0 _ rfl))).trans ((dk_bind (dk_map (dk_u2 (h 1 _ rfl) (h 2 _ rfl)))).trans rfl))
theorem dk_156 {code : ByteArray} {pc : Nat} (a b : UInt8) (h : DkAt code pc [156, a, b]) : decode code pc = .ok (.ifCond .ge (Reader.signed 16 (a.toNat * 256 + b.toNat)), 3) := dk_of ((dk_bind (dk_u1 (h 0 _ rfl))).trans ((dk_bind (dk_map (dk_u2 (h 1 _ rfl) (h 2 _ rfl)))).trans rfl))
theorem dk_157 {code : ByteArray} {pc : Nat} (a b : UInt8) (h : DkAt code pc [157, a, b]) : decode code pc = .ok (.ifCond .gt (Reader.signed 16 (a.toNat * 256 + b.toNat)), 3) := dk_of ((dk_bind (dk_u1 (h 0 _ rfl))).trans ((dk_bind (dk_map (dk_u2 (h 1 _ rfl) (h 2 _ rfl)))).trans rfl))
theorem dk_158 {code : ByteArray} {pc : Nat} (a b : UInt8) (h : DkAt code pc [158, a, b]) : decode code pc = .ok (.ifCond .le (Reader.signed 16 (a.toNat * 256 + b.toNat)), 3) := dk_of ((dk_bind (dk_u1 (h 0 _ rfl))).trans ((dk_bind (dk_map (dk_u2 (h 1 _ rfl) (h 2 _ rfl)))).trans rfl))
theorem dk_159 {code : ByteArray} {pc : Nat} (a b : UInt8) (h : DkAt code pc [159, a, b]) : decode code pc = .ok (.if_icmp .eq (Reader.signed 16 (a.toNat * 256 + b.toNat)), 3) := dk_of ((dk_bind (dk_u1 (h 0 _ rfl))).trans ((dk_bind (dk_map (dk_u2 (h 1 _ rfl) (h 2 _ rfl)))).trans rfl))
theorem dk_160 {code : ByteArray} {pc : Nat} (a b : UInt8) (h : DkAt code pc [160, a, b]) : decode code pc = .ok (.if_icmp .ne (Reader.signed 16 (a.toNat * 256 + b.toNat)), 3) := dk_of ((dk_bind (dk_u1 (h 0 _ rfl))).trans ((dk_bind (dk_map (dk_u2 (h 1 _ rfl) (h 2 _ rfl)))).trans rfl))
theorem dk_161 {code : ByteArray} {pc : Nat} (a b : UInt8) (h : DkAt code pc [161, a, b]) : decode code pc = .ok (.if_icmp .lt (Reader.signed 16 (a.toNat * 256 + b.toNat)), 3) := dk_of ((dk_bind (dk_u1 (h 0 _ rfl))).trans ((dk_bind (dk_map (dk_u2 (h 1 _ rfl) (h 2 _ rfl)))).trans rfl))
theorem dk_162 {code : ByteArray} {pc : Nat} (a b : UInt8) (h : DkAt code pc [162, a, b]) : decode code pc = .ok (.if_icmp .ge (Reader.signed 16 (a.toNat * 256 + b.toNat)), 3) := dk_of ((dk_bind (dk_u1 (h 0 _ rfl))).trans ((dk_bind (dk_map (dk_u2 (h 1 _ rfl) (h 2 _ rfl)))).trans rfl))
theorem dk_163 {code : ByteArray} {pc : Nat} (a b : UInt8) (h : DkAt code pc [163, a, b]) : decode code pc = .ok (.if_icmp .gt (Reader.signed 16 (a.toNat * 256 + b.toNat)), 3) := dk_of ((dk_bind (dk_u1 (h 0 _ rfl))).trans ((dk_bind (dk_map (dk_u2 (h 1 _ rfl) (h 2 _ rfl)))).trans rfl))
theorem dk_164 {code : ByteArray} {pc : Nat} (a b : UInt8) (h : DkAt code pc [164, a, b]) : decode code pc = .ok (.if_icmp .le (Reader.signed 16 (a.toNat * 256 + b.toNat)), 3) := dk_of ((dk_bind (dk_u1 (h 0 _ rfl))).trans ((dk_bind (dk_map (dk_u2 (h 1 _ rfl) (h 2 _ rfl)))).trans rfl))
theorem dk_165 {code : ByteArray} {pc : Nat} (a b : UInt8) (h : DkAt code pc [165, a, b]) : decode code pc = .ok (.if_acmp .eq (Reader.signed 16 (a.toNat * 256 + b.toNat)), 3) := dk_of ((dk_bind (dk_u1 (h 0 _ rfl))).trans ((dk_bind (dk_map (dk_u2 (h 1 _ rfl) (h 2 _ rfl)))).trans rfl))
theorem dk_166 {code : ByteArray} {pc : Nat} (a b : UInt8) (h : DkAt code pc [166, a, b]) : decode code pc = .ok (.if_acmp .ne (Reader.signed 16 (a.toNat * 256 + b.toNat)), 3) := dk_of ((dk_bind (dk_u1 (h 0 _ rfl))).trans ((dk_bind (dk_map (dk_u2 (h 1 _ rfl) (h 2 _ rfl)))).trans rfl))
theorem dk_167 {code : ByteArray} {pc : Nat} (a b : UInt8) (h : DkAt code pc [167, a, b]) : decode code pc = .ok (.goto (Reader.signed 16 (a.toNat * 256 + b.toNat)), 3) := dk_of ((dk_bind (dk_u1 (h 0 _ rfl))).trans ((dk_bind (dk_map (dk_u2 (h 1 _ rfl) (h 2 _ rfl)))).trans rfl))
theorem dk_172 {code : ByteArray} {pc : Nat} (h : DkAt code pc [172]) : decode code pc = .ok (.ireturn, 1) := dk_of ((dk_bind (dk_u1 (h 0 _ rfl))).trans rfl)
theorem dk_173 {code : ByteArray} {pc : Nat} (h : DkAt code pc [173]) : decode code pc = .ok (.lreturn, 1) := dk_of ((dk_bind (dk_u1 (h 0 _ rfl))).trans rfl)
theorem dk_176 {code : ByteArray} {pc : Nat} (h : DkAt code pc [176]) : decode code pc = .ok (.areturn, 1) := dk_of ((dk_bind (dk_u1 (h 0 _ rfl))).trans rfl)
theorem dk_177 {code : ByteArray} {pc : Nat} (h : DkAt code pc [177]) : decode code pc = .ok (.return_, 1) := dk_of ((dk_bind (dk_u1 (h 0 _ rfl))).trans rfl)
theorem dk_178 {code : ByteArray} {pc : Nat} (a b : UInt8) (h : DkAt code pc [178, a, b]) : decode code pc = .ok (.getstatic (a.toNat * 256 + b.toNat), 3) := dk_of ((dk_bind (dk_u1 (h 0 _ rfl))).trans ((dk_bind (dk_u2 (h 1 _ rfl) (h 2 _ rfl))).trans rfl))
theorem dk_180 {code : ByteArray} {pc : Nat} (a b : UInt8) (h : DkAt code pc [180, a, b]) : decode code pc = .ok (.getfield (a.toNat * 256 + b.toNat), 3) := dk_of ((dk_bind (dk_u1 (h 0 _ rfl))).trans ((dk_bind (dk_u2 (h 1 _ rfl) (h 2 _ rfl))).trans rfl))
theorem dk_181 {code : ByteArray} {pc : Nat} (a b : UInt8) (h : DkAt code pc [181, a, b]) : decode code pc = .ok (.putfield (a.toNat * 256 + b.toNat), 3) := dk_of ((dk_bind (dk_u1 (h 0 _ rfl))).trans ((dk_bind (dk_u2 (h 1 _ rfl) (h 2 _ rfl))).trans rfl))
theorem dk_182 {code : ByteArray} {pc : Nat} (a b : UInt8) (h : DkAt code pc [182, a, b]) : decode code pc = .ok (.invokevirtual (a.toNat * 256 + b.toNat), 3) := dk_of ((dk_bind (dk_u1 (h 0 _ rfl))).trans ((dk_bind (dk_u2 (h 1 _ rfl) (h 2 _ rfl))).trans rfl))
theorem dk_183 {code : ByteArray} {pc : Nat} (a b : UInt8) (h : DkAt code pc [183, a, b]) : decode code pc = .ok (.invokespecial (a.toNat * 256 + b.toNat), 3) := dk_of ((dk_bind (dk_u1 (h 0 _ rfl))).trans ((dk_bind (dk_u2 (h 1 _ rfl) (h 2 _ rfl))).trans rfl))
theorem dk_184 {code : ByteArray} {pc : Nat} (a b : UInt8) (h : DkAt code pc [184, a, b]) : decode code pc = .ok (.invokestatic (a.toNat * 256 + b.toNat), 3) := dk_of ((dk_bind (dk_u1 (h 0 _ rfl))).trans ((dk_bind (dk_u2 (h 1 _ rfl) (h 2 _ rfl))).trans rfl))
theorem dk_187 {code : ByteArray} {pc : Nat} (a b : UInt8) (h : DkAt code pc [187, a, b]) : decode code pc = .ok (.new (a.toNat * 256 + b.toNat), 3) := dk_of ((dk_bind (dk_u1 (h 0 _ rfl))).trans ((dk_bind (dk_u2 (h 1 _ rfl) (h 2 _ rfl))).trans rfl))
theorem dk_188_4 {code : ByteArray} {pc : Nat} (h : DkAt code pc [188, 4]) : decode code pc = .ok (.newarray .boolean, 2) := dk_of ((dk_bind (dk_u1 (h 0 _ rfl))).trans ((dk_bind (dk_u1 (h 1 _ rfl))).trans rfl))
theorem dk_188_8 {code : ByteArray} {pc : Nat} (h : DkAt code pc [188, 8]) : decode code pc = .ok (.newarray .byte, 2) := dk_of ((dk_bind (dk_u1 (h 0 _ rfl))).trans ((dk_bind (dk_u1 (h 1 _ rfl))).trans rfl))
theorem dk_188_10 {code : ByteArray} {pc : Nat} (h : DkAt code pc [188, 10]) : decode code pc = .ok (.newarray .int, 2) := dk_of ((dk_bind (dk_u1 (h 0 _ rfl))).trans ((dk_bind (dk_u1 (h 1 _ rfl))).trans rfl))
theorem dk_188_11 {code : ByteArray} {pc : Nat} (h : DkAt code pc [188, 11]) : decode code pc = .ok (.newarray .long, 2) := dk_of ((dk_bind (dk_u1 (h 0 _ rfl))).trans ((dk_bind (dk_u1 (h 1 _ rfl))).trans rfl))
theorem dk_189 {code : ByteArray} {pc : Nat} (a b : UInt8) (h : DkAt code pc [189, a, b]) : decode code pc = .ok (.anewarray (a.toNat * 256 + b.toNat), 3) := dk_of ((dk_bind (dk_u1 (h 0 _ rfl))).trans ((dk_bind (dk_u2 (h 1 _ rfl) (h 2 _ rfl))).trans rfl))
theorem dk_190 {code : ByteArray} {pc : Nat} (h : DkAt code pc [190]) : decode code pc = .ok (.arraylength, 1) := dk_of ((dk_bind (dk_u1 (h 0 _ rfl))).trans rfl)
theorem dk_191 {code : ByteArray} {pc : Nat} (h : DkAt code pc [191]) : decode code pc = .ok (.athrow, 1) := dk_of ((dk_bind (dk_u1 (h 0 _ rfl))).trans rfl)
theorem dk_192 {code : ByteArray} {pc : Nat} (a b : UInt8) (h : DkAt code pc [192, a, b]) : decode code pc = .ok (.checkcast (a.toNat * 256 + b.toNat), 3) := dk_of ((dk_bind (dk_u1 (h 0 _ rfl))).trans ((dk_bind (dk_u2 (h 1 _ rfl) (h 2 _ rfl))).trans rfl))
theorem dk_198 {code : ByteArray} {pc : Nat} (a b : UInt8) (h : DkAt code pc [198, a, b]) : decode code pc = .ok (.ifnull (Reader.signed 16 (a.toNat * 256 + b.toNat)), 3) := dk_of ((dk_bind (dk_u1 (h 0 _ rfl))).trans ((dk_bind (dk_map (dk_u2 (h 1 _ rfl) (h 2 _ rfl)))).trans rfl))
theorem dk_199 {code : ByteArray} {pc : Nat} (a b : UInt8) (h : DkAt code pc [199, a, b]) : decode code pc = .ok (.ifnonnull (Reader.signed 16 (a.toNat * 256 + b.toNat)), 3) := dk_of ((dk_bind (dk_u1 (h 0 _ rfl))).trans ((dk_bind (dk_map (dk_u2 (h 1 _ rfl) (h 2 _ rfl)))).trans rfl))
/-! java/util/AbstractCollection -/
set_option maxRecDepth 100000
def RJ0 : String := "java/util/AbstractCollection"
abbrev cJ0_init : ByteArray := prog_38_method_1_code
def yJ0_init : MethodName := ⟨RJ0, "<init>", "()V"⟩
theorem dJ0_init_0 : decode cJ0_init 0 = .ok (.aload_n 0, 1) := by decide +kernel
theorem dJ0_init_1 : decode cJ0_init 1 = .ok (.invokespecial 1, 3) := by decide +kernel
theorem dJ0_init_4 : decode cJ0_init 4 = .ok (.return_, 1) := by decide +kernel
theorem q114 : (Jvm.Cond.initialized "java/util/AbstractCollection") ∈ lw_all := lw_g (lw_at lw_m1 4 rfl) rfl
theorem q195 : (Jvm.Cond.instanceMethod ({ cls := "java/util/AbstractCollection", name := "<init>", desc := "()V" } : Jvm.MethodName)) ∈ lw_all := lw_g (lw_at lw_m1 85 rfl) rfl
theorem q196 : (Jvm.Cond.code ({ cls := "java/util/AbstractCollection", name := "<init>", desc := "()V" } : Jvm.MethodName) prog_38_method_1_code (1 : Nat) (Option.none : Option Jvm.ClassFile.FieldType)) ∈ lw_all := lw_g (lw_at lw_m1 86 rfl) rfl
theorem q197 : (Jvm.Cond.methodLink "java/util/AbstractCollection" (1 : Nat) ({ cls := "java/lang/Object", name := "<init>", desc := "()V" } : Jvm.MethodName)) ∈ lw_all := lw_g (lw_at lw_m1 87 rfl) rfl
/-! java/util/AbstractList -/
set_option maxRecDepth 100000
def RJ1 : String := "java/util/AbstractList"
abbrev cJ1_init : ByteArray := prog_39_method_1_code
def yJ1_init : MethodName := ⟨RJ1, "<init>", "()V"⟩
def dkwJ1_init_0 : List UInt8 := [42, 183, 0, 1, 42, 3, 181, 0, 7, 177]
abbrev dktJ1_init_0 : List UInt8 := dkwJ1_init_0 ++ []
theorem dksJ1_init_0 : cJ1_init.data.toList.drop 0 = dktJ1_init_0 := by decide +kernel
theorem dJ1_init_0 : decode cJ1_init 0 = .ok (.aload_n 0, 1) := dk_42 (dk_at dksJ1_init_0 0 rfl rfl)
theorem dJ1_init_1 : decode cJ1_init 1 = .ok (.invokespecial 1, 3) := dk_183 0 1 (dk_at dksJ1_init_0 1 rfl rfl)
theorem dJ1_init_4 : decode cJ1_init 4 = .ok (.aload_n 0, 1) := dk_42 (dk_at dksJ1_init_0 4 rfl rfl)
theorem dJ1_init_5 : decode cJ1_init 5 = .ok (.iconst 0, 1) := dk_3 (dk_at dksJ1_init_0 5 rfl rfl)
theorem dJ1_init_6 : decode cJ1_init 6 = .ok (.putfield 7, 3) := dk_181 0 7 (dk_at dksJ1_init_0 6 rfl rfl)
theorem dJ1_init_9 : decode cJ1_init 9 = .ok (.return_, 1) := dk_177 (dk_at dksJ1_init_0 9 rfl rfl)
theorem q115 : (Jvm.Cond.initialized "java/util/AbstractList") ∈ lw_all := lw_g (lw_at lw_m1 5 rfl) rfl
theorem q192 : (Jvm.Cond.instanceMethod ({ cls := "java/util/AbstractList", name := "<init>", desc := "()V" } : Jvm.MethodName)) ∈ lw_all := lw_g (lw_at lw_m1 82 rfl) rfl
theorem q193 : (Jvm.Cond.code ({ cls := "java/util/AbstractList", name := "<init>", desc := "()V" } : Jvm.MethodName) prog_39_method_1_code (1 : Nat) (Option.none : Option Jvm.ClassFile.FieldType)) ∈ lw_all := lw_g (lw_at lw_m1 83 rfl) rfl
theorem q194 : (Jvm.Cond.methodLink "java/util/AbstractList" (1 : Nat) ({ cls := "java/util/AbstractCollection", name := "<init>", desc := "()V" } : Jvm.MethodName)) ∈ lw_all := lw_g (lw_at lw_m1 84 rfl) rfl
theorem q204 : (Jvm.Cond.fieldLink "java/util/AbstractList" (7 : Nat) "java/util/AbstractList" "modCount" "I") ∈ lw_all := lw_g (lw_at lw_m1 94 rfl) rfl
theorem q212 : (Jvm.Cond.soleField "java/util/AbstractList" "modCount") ∈ lw_all := lw_g (lw_at lw_m1 102 rfl) rfl
/-! java/lang/StringUTF16 -/
set_option maxRecDepth 100000
def RJ10 : String := "java/lang/StringUTF16"
abbrev cJ10_charAt : ByteArray := prog_33_method_83_code
def yJ10_charAt : MethodName := ⟨RJ10, "charAt", "([BI)C"⟩
def dkwJ10_charAt_0 : List UInt8 := [27, 42, 184, 0, 67, 42, 27, 184, 0, 71, 172]
abbrev dktJ10_charAt_0 : List UInt8 := dkwJ10_charAt_0 ++ []
theorem dksJ10_charAt_0 : cJ10_charAt.data.toList.drop 0 = dktJ10_charAt_0 := by decide +kernel
theorem dJ10_charAt_0 : decode cJ10_charAt 0 = .ok (.iload_n 1, 1) := dk_27 (dk_at dksJ10_charAt_0 0 rfl rfl)
theorem dJ10_charAt_1 : decode cJ10_charAt 1 = .ok (.aload_n 0, 1) := dk_42 (dk_at dksJ10_charAt_0 1 rfl rfl)
theorem dJ10_charAt_2 : decode cJ10_charAt 2 = .ok (.invokestatic 67, 3) := dk_184 0 67 (dk_at dksJ10_charAt_0 2 rfl rfl)
theorem dJ10_charAt_5 : decode cJ10_charAt 5 = .ok (.aload_n 0, 1) := dk_42 (dk_at dksJ10_charAt_0 5 rfl rfl)
theorem dJ10_charAt_6 : decode cJ10_charAt 6 = .ok (.iload_n 1, 1) := dk_27 (dk_at dksJ10_charAt_0 6 rfl rfl)
theorem dJ10_charAt_7 : decode cJ10_charAt 7 = .ok (.invokestatic 71, 3) := dk_184 0 71 (dk_at dksJ10_charAt_0 7 rfl rfl)
theorem dJ10_charAt_10 : decode cJ10_charAt 10 = .ok (.ireturn, 1) := dk_172 (dk_at dksJ10_charAt_0 10 rfl rfl)
abbrev cJ10_checkIndex : ByteArray := prog_33_method_91_code
def yJ10_checkIndex : MethodName := ⟨RJ10, "checkIndex", "(I[B)V"⟩
def dkwJ10_checkIndex_0 : List UInt8 := [26, 43, 184, 0, 48, 184, 1, 158, 177]
abbrev dktJ10_checkIndex_0 : List UInt8 := dkwJ10_checkIndex_0 ++ []
theorem dksJ10_checkIndex_0 : cJ10_checkIndex.data.toList.drop 0 = dktJ10_checkIndex_0 := by decide +kernel
theorem dJ10_checkIndex_0 : decode cJ10_checkIndex 0 = .ok (.iload_n 0, 1) := dk_26 (dk_at dksJ10_checkIndex_0 0 rfl rfl)
theorem dJ10_checkIndex_1 : decode cJ10_checkIndex 1 = .ok (.aload_n 1, 1) := dk_43 (dk_at dksJ10_checkIndex_0 1 rfl rfl)
theorem dJ10_checkIndex_2 : decode cJ10_checkIndex 2 = .ok (.invokestatic 48, 3) := dk_184 0 48 (dk_at dksJ10_checkIndex_0 2 rfl rfl)
theorem dJ10_checkIndex_5 : decode cJ10_checkIndex 5 = .ok (.invokestatic 414, 3) := dk_184 1 158 (dk_at dksJ10_checkIndex_0 5 rfl rfl)
theorem dJ10_checkIndex_8 : decode cJ10_checkIndex 8 = .ok (.return_, 1) := dk_177 (dk_at dksJ10_checkIndex_0 8 rfl rfl)
abbrev cJ10_length : ByteArray := prog_33_method_6_code
def yJ10_length : MethodName := ⟨RJ10, "length", "([B)I"⟩
def dkwJ10_length_0 : List UInt8 := [42, 190, 4, 122, 172]
abbrev dktJ10_length_0 : List UInt8 := dkwJ10_length_0 ++ []
theorem dksJ10_length_0 : cJ10_length.data.toList.drop 0 = dktJ10_length_0 := by decide +kernel
theorem dJ10_length_0 : decode cJ10_length 0 = .ok (.aload_n 0, 1) := dk_42 (dk_at dksJ10_length_0 0 rfl rfl)
theorem dJ10_length_1 : decode cJ10_length 1 = .ok (.arraylength, 1) := dk_190 (dk_at dksJ10_length_0 1 rfl rfl)
theorem dJ10_length_2 : decode cJ10_length 2 = .ok (.iconst 1, 1) := dk_4 (dk_at dksJ10_length_0 2 rfl rfl)
theorem dJ10_length_3 : decode cJ10_length 3 = .ok (.ishr, 1) := dk_122 (dk_at dksJ10_length_0 3 rfl rfl)
theorem dJ10_length_4 : decode cJ10_length 4 = .ok (.ireturn, 1) := dk_172 (dk_at dksJ10_length_0 4 rfl rfl)
abbrev cJ10_getChar : ByteArray := prog_33_method_5_code
def yJ10_getChar : MethodName := ⟨RJ10, "getChar", "([BI)C"⟩
def dkwJ10_getChar_2 : List UInt8 := [51, 17, 0, 255, 126, 178, 0, 63, 120, 128, 146, 172]
abbrev dktJ10_getChar_2 : List UInt8 := dkwJ10_getChar_2 ++ []
def dkwJ10_getChar_1 : List UInt8 := [183, 0, 56, 191, 27, 4, 120, 60, 42, 27, 132, 1, 1, 51, 17, 0, 255, 126, 178, 0, 59, 120, 42, 27]
abbrev dktJ10_getChar_1 : List UInt8 := dkwJ10_getChar_1 ++ dktJ10_getChar_2
def dkwJ10_getChar_0 : List UInt8 := [178, 0, 44, 154, 0, 25, 27, 155, 0, 11, 27, 42, 184, 0, 48, 161, 0, 13, 187, 0, 52, 89, 18, 54]
abbrev dktJ10_getChar_0 : List UInt8 := dkwJ10_getChar_0 ++ dktJ10_getChar_1
theorem dksJ10_getChar_0 : cJ10_getChar.data.toList.drop 0 = dktJ10_getChar_0 := by decide +kernel
theorem dksJ10_getChar_1 : cJ10_getChar.data.toList.drop 24 = dktJ10_getChar_1 := dk_seg dksJ10_getChar_0 24 rfl rfl
theorem dksJ10_getChar_2 : cJ10_getChar.data.toList.drop 48 = dktJ10_getChar_2 := dk_seg dksJ10_getChar_1 24 rfl rfl
theorem dJ10_getChar_0 : decode cJ10_getChar 0 = .ok (.getstatic 44, 3) := dk_178 0 44 (dk_at dksJ10_getChar_0 0 rfl rfl)
theorem dJ10_getChar_3 : decode cJ10_getChar 3 = .ok (.ifCond .ne 25, 3) := dk_154 0 25 (dk_at dksJ10_getChar_0 3 rfl rfl)
theorem dJ10_getChar_6 : decode cJ10_getChar 6 = .ok (.iload_n 1, 1) := dk_27 (dk_at dksJ10_getChar_0 6 rfl rfl)
theorem dJ10_getChar_7 : decode cJ10_getChar 7 = .ok (.ifCond .lt 11, 3) := dk_155 0 11 (dk_at dksJ10_getChar_0 7 rfl rfl)
theorem dJ10_getChar_10 : decode cJ10_getChar 10 = .ok (.iload_n 1, 1) := dk_27 (dk_at dksJ10_getChar_0 10 rfl rfl)
theorem dJ10_getChar_11 : decode cJ10_getChar 11 = .ok (.aload_n 0, 1) := dk_42 (dk_at dksJ10_getChar_0 11 rfl rfl)
theorem dJ10_getChar_12 : decode cJ10_getChar 12 = .ok (.invokestatic 48, 3) := dk_184 0 48 (dk_at dksJ10_getChar_0 12 rfl rfl)
theorem dJ10_getChar_15 : decode cJ10_getChar 15 = .ok (.if_icmp .lt 13, 3) := dk_161 0 13 (dk_at dksJ10_getChar_0 15 rfl rfl)
theorem dJ10_getChar_18 : decode cJ10_getChar 18 = .ok (.new 52, 3) := dk_187 0 52 (dk_at dksJ10_getChar_0 18 rfl rfl)
theorem dJ10_getChar_21 : decode cJ10_getChar 21 = .ok (.dup, 1) := dk_89 (dk_at dksJ10_getChar_0 21 rfl rfl)
theorem dJ10_getChar_22 : decode cJ10_getChar 22 = .ok (.ldc 54, 2) := dk_18 54 (dk_at dksJ10_getChar_0 22 rfl rfl)
theorem dJ10_getChar_24 : decode cJ10_getChar 24 = .ok (.invokespecial 56, 3) := dk_183 0 56 (dk_at dksJ10_getChar_1 0 rfl rfl)
theorem dJ10_getChar_27 : decode cJ10_getChar 27 = .ok (.athrow, 1) := dk_191 (dk_at dksJ10_getChar_1 3 rfl rfl)
theorem dJ10_getChar_28 : decode cJ10_getChar 28 = .ok (.iload_n 1, 1) := dk_27 (dk_at dksJ10_getChar_1 4 rfl rfl)
theorem dJ10_getChar_29 : decode cJ10_getChar 29 = .ok (.iconst 1, 1) := dk_4 (dk_at dksJ10_getChar_1 5 rfl rfl)
theorem dJ10_getChar_30 : decode cJ10_getChar 30 = .ok (.ishl, 1) := dk_120 (dk_at dksJ10_getChar_1 6 rfl rfl)
theorem dJ10_getChar_31 : decode cJ10_getChar 31 = .ok (.istore_n 1, 1) := dk_60 (dk_at dksJ10_getChar_1 7 rfl rfl)
theorem dJ10_getChar_32 : decode cJ10_getChar 32 = .ok (.aload_n 0, 1) := dk_42 (dk_at dksJ10_getChar_1 8 rfl rfl)
theorem dJ10_getChar_33 : decode cJ10_getChar 33 = .ok (.iload_n 1, 1) := dk_27 (dk_at dksJ10_getChar_1 9 rfl rfl)
theorem dJ10_getChar_34 : decode cJ10_getChar 34 = .ok (.iinc 1 1, 3) := dk_132 1 1 (dk_at dksJ10_getChar_1 10 rfl rfl)
theorem dJ10_getChar_37 : decode cJ10_getChar 37 = .ok (.baload, 1) := dk_51 (dk_at dksJ10_getChar_1 13 rfl rfl)
theorem dJ10_getChar_38 : decode cJ10_getChar 38 = .ok (.sipush 255, 3) := dk_17 0 255 (dk_at dksJ10_getChar_1 14 rfl rfl)
theorem dJ10_getChar_41 : decode cJ10_getChar 41 = .ok (.iand, 1) := dk_126 (dk_at dksJ10_getChar_1 17 rfl rfl)
theorem dJ10_getChar_42 : decode cJ10_getChar 42 = .ok (.getstatic 59, 3) := dk_178 0 59 (dk_at dksJ10_getChar_1 18 rfl rfl)
theorem dJ10_getChar_45 : decode cJ10_getChar 45 = .ok (.ishl, 1) := dk_120 (dk_at dksJ10_getChar_1 21 rfl rfl)
theorem dJ10_getChar_46 : decode cJ10_getChar 46 = .ok (.aload_n 0, 1) := dk_42 (dk_at dksJ10_getChar_1 22 rfl rfl)
theorem dJ10_getChar_47 : decode cJ10_getChar 47 = .ok (.iload_n 1, 1) := dk_27 (dk_at dksJ10_getChar_1 23 rfl rfl)
theorem dJ10_getChar_48 : decode cJ10_getChar 48 = .ok (.baload, 1) := dk_51 (dk_at dksJ10_getChar_2 0 rfl rfl)
theorem dJ10_getChar_49 : decode cJ10_getChar 49 = .ok (.sipush 255, 3) := dk_17 0 255 (dk_at dksJ10_getChar_2 1 rfl rfl)
theorem dJ10_getChar_52 : decode cJ10_getChar 52 = .ok (.iand, 1) := dk_126 (dk_at dksJ10_getChar_2 4 rfl rfl)
theorem dJ10_getChar_53 : decode cJ10_getChar 53 = .ok (.getstatic 63, 3) := dk_178 0 63 (dk_at dksJ10_getChar_2 5 rfl rfl)
theorem dJ10_getChar_56 : decode cJ10_getChar 56 = .ok (.ishl, 1) := dk_120 (dk_at dksJ10_getChar_2 8 rfl rfl)
theorem dJ10_getChar_57 : decode cJ10_getChar 57 = .ok (.ior, 1) := dk_128 (dk_at dksJ10_getChar_2 9 rfl rfl)
theorem dJ10_getChar_58 : decode cJ10_getChar 58 = .ok (.i2c, 1) := dk_146 (dk_at dksJ10_getChar_2 10 rfl rfl)
theorem dJ10_getChar_59 : decode cJ10_getChar 59 = .ok (.ireturn, 1) := dk_172 (dk_at dksJ10_getChar_2 11 rfl rfl)
theorem q129 : (Jvm.Cond.initialized "java/lang/StringUTF16") ∈ lw_all := lw_g (lw_at lw_m1 19 rfl) rfl
theorem q815 : (Jvm.Cond.static ({ cls := "java/lang/StringUTF16", name := "charAt", desc := "([BI)C" } : Jvm.MethodName)) ∈ lw_all := lw_g (lw_at lw_m3 225 rfl) rfl
theorem q816 : (Jvm.Cond.code ({ cls := "java/lang/StringUTF16", name := "charAt", desc := "([BI)C" } : Jvm.MethodName) prog_33_method_83_code (2 : Nat) (Option.some Jvm.ClassFile.FieldType.char)) ∈ lw_all := lw_g (lw_at lw_m3 226 rfl) rfl
theorem q817 : (Jvm.Cond.methodLink "java/lang/StringUTF16" (67 : Nat) ({ cls := "java/lang/StringUTF16", name := "checkIndex", desc := "(I[B)V" } : Jvm.MethodName)) ∈ lw_all := lw_g (lw_at lw_m3 227 rfl) rfl
theorem q818 : (Jvm.Cond.static ({ cls := "java/lang/StringUTF16", name := "checkIndex", desc := "(I[B)V" } : Jvm.MethodName)) ∈ lw_all := lw_g (lw_at lw_m3 228 rfl) rfl
theorem q819 : (Jvm.Cond.code ({ cls := "java/lang/StringUTF16", name := "checkIndex", desc := "(I[B)V" } : Jvm.MethodName) prog_33_method_91_code (2 : Nat) (Option.none : Option Jvm.ClassFile.FieldType)) ∈ lw_all := lw_g (lw_at lw_m3 229 rfl) rfl
theorem q820 : (Jvm.Cond.methodLink "java/lang/StringUTF16" (48 : Nat) ({ cls := "java/lang/StringUTF16", name := "length", desc := "([B)I" } : Jvm.MethodName)) ∈ lw_all := lw_g (lw_at lw_m3 230 rfl) rfl
theorem q821 : (Jvm.Cond.static ({ cls := "java/lang/StringUTF16", name := "length", desc := "([B)I" } : Jvm.MethodName)) ∈ lw_all := lw_g (lw_at lw_m3 231 rfl) rfl
theorem q822 : (Jvm.Cond.code ({ cls := "java/lang/StringUTF16", name := "length", desc := "([B)I" } : Jvm.MethodName) prog_33_method_6_code (1 : Nat) (Option.some Jvm.ClassFile.FieldType.int)) ∈ lw_all := lw_g (lw_at lw_m3 232 rfl) rfl
theorem q823 : (Jvm.Cond.methodLink "java/lang/StringUTF16" (414 : Nat) ({ cls := "java/lang/String", name := "checkIndex", desc := "(II)V" } : Jvm.MethodName)) ∈ lw_all := lw_g (lw_at lw_m3 233 rfl) rfl
theorem q824 : (Jvm.Cond.methodLink "java/lang/StringUTF16" (71 : Nat) ({ cls := "java/lang/StringUTF16", name := "getChar", desc := "([BI)C" } : Jvm.MethodName)) ∈ lw_all := lw_g (lw_at lw_m3 234 rfl) rfl
theorem q825 : (Jvm.Cond.static ({ cls := "java/lang/StringUTF16", name := "getChar", desc := "([BI)C" } : Jvm.MethodName)) ∈ lw_all := lw_g (lw_at lw_m3 235 rfl) rfl
theorem q826 : (Jvm.Cond.code ({ cls := "java/lang/StringUTF16", name := "getChar", desc := "([BI)C" } : Jvm.MethodName) prog_33_method_5_code (2 : Nat) (Option.some Jvm.ClassFile.FieldType.char)) ∈ lw_all := lw_g (lw_at lw_m3 236 rfl) rfl
theorem q827 : (Jvm.Cond.fieldLink "java/lang/StringUTF16" (44 : Nat) "java/lang/StringUTF16" "$assertionsDisabled" "Z") ∈ lw_all := lw_g (lw_at lw_m3 237 rfl) rfl
theorem q828 : (Jvm.Cond.laysStatic "java/lang/StringUTF16" "$assertionsDisabled" "Z") ∈ lw_tbl := lw_at lw_m3 238 rfl
theorem q829 : (Jvm.Cond.fieldLink "java/lang/StringUTF16" (59 : Nat) "java/lang/StringUTF16" "HI_BYTE_SHIFT" "I") ∈ lw_all := lw_g (lw_at lw_m3 239 rfl) rfl
theorem q830 : (Jvm.Cond.laysStatic "java/lang/StringUTF16" "HI_BYTE_SHIFT" "I") ∈ lw_tbl := lw_at lw_m4 0 rfl
theorem q831 : (Jvm.Cond.fieldLink "java/lang/StringUTF16" (63 : Nat) "java/lang/StringUTF16" "LO_BYTE_SHIFT" "I") ∈ lw_all := lw_g (lw_at lw_m4 1 rfl) rfl
theorem q832 : (Jvm.Cond.laysStatic "java/lang/StringUTF16" "LO_BYTE_SHIFT" "I") ∈ lw_tbl := lw_at lw_m4 2 rfl
/-! jdk/internal/util/ArraysSupport -/
set_option maxRecDepth 100000
def RJ11 : String := "jdk/internal/util/ArraysSupport"
abbrev cJ11_newLength : ByteArray := prog_47_method_27_code
def yJ11_newLength : MethodName := ⟨RJ11, "newLength", "(III)I"⟩
def dkwJ11_newLength_1 : List UInt8 := [184, 0, 201, 172]
abbrev dktJ11_newLength_1 : List UInt8 := dkwJ11_newLength_1 ++ []
def dkwJ11_newLength_0 : List UInt8 := [26, 27, 28, 184, 0, 194, 96, 62, 3, 29, 162, 0, 11, 29, 18, 200, 163, 0, 5, 29, 172, 26, 27]
abbrev dktJ11_newLength_0 : List UInt8 := dkwJ11_newLength_0 ++ dktJ11_newLength_1
theorem dksJ11_newLength_0 : cJ11_newLength.data.toList.drop 0 = dktJ11_newLength_0 := by decide +kernel
theorem dksJ11_newLength_1 : cJ11_newLength.data.toList.drop 23 = dktJ11_newLength_1 := dk_seg dksJ11_newLength_0 23 rfl rfl
theorem dJ11_newLength_0 : decode cJ11_newLength 0 = .ok (.iload_n 0, 1) := dk_26 (dk_at dksJ11_newLength_0 0 rfl rfl)
theorem dJ11_newLength_1 : decode cJ11_newLength 1 = .ok (.iload_n 1, 1) := dk_27 (dk_at dksJ11_newLength_0 1 rfl rfl)
theorem dJ11_newLength_2 : decode cJ11_newLength 2 = .ok (.iload_n 2, 1) := dk_28 (dk_at dksJ11_newLength_0 2 rfl rfl)
theorem dJ11_newLength_3 : decode cJ11_newLength 3 = .ok (.invokestatic 194, 3) := dk_184 0 194 (dk_at dksJ11_newLength_0 3 rfl rfl)
theorem dJ11_newLength_6 : decode cJ11_newLength 6 = .ok (.iadd, 1) := dk_96 (dk_at dksJ11_newLength_0 6 rfl rfl)
theorem dJ11_newLength_7 : decode cJ11_newLength 7 = .ok (.istore_n 3, 1) := dk_62 (dk_at dksJ11_newLength_0 7 rfl rfl)
theorem dJ11_newLength_8 : decode cJ11_newLength 8 = .ok (.iconst 0, 1) := dk_3 (dk_at dksJ11_newLength_0 8 rfl rfl)
theorem dJ11_newLength_9 : decode cJ11_newLength 9 = .ok (.iload_n 3, 1) := dk_29 (dk_at dksJ11_newLength_0 9 rfl rfl)
theorem dJ11_newLength_10 : decode cJ11_newLength 10 = .ok (.if_icmp .ge 11, 3) := dk_162 0 11 (dk_at dksJ11_newLength_0 10 rfl rfl)
theorem dJ11_newLength_13 : decode cJ11_newLength 13 = .ok (.iload_n 3, 1) := dk_29 (dk_at dksJ11_newLength_0 13 rfl rfl)
theorem dJ11_newLength_14 : decode cJ11_newLength 14 = .ok (.ldc 200, 2) := dk_18 200 (dk_at dksJ11_newLength_0 14 rfl rfl)
theorem dJ11_newLength_16 : decode cJ11_newLength 16 = .ok (.if_icmp .gt 5, 3) := dk_163 0 5 (dk_at dksJ11_newLength_0 16 rfl rfl)
theorem dJ11_newLength_19 : decode cJ11_newLength 19 = .ok (.iload_n 3, 1) := dk_29 (dk_at dksJ11_newLength_0 19 rfl rfl)
theorem dJ11_newLength_20 : decode cJ11_newLength 20 = .ok (.ireturn, 1) := dk_172 (dk_at dksJ11_newLength_0 20 rfl rfl)
theorem dJ11_newLength_21 : decode cJ11_newLength 21 = .ok (.iload_n 0, 1) := dk_26 (dk_at dksJ11_newLength_0 21 rfl rfl)
theorem dJ11_newLength_22 : decode cJ11_newLength 22 = .ok (.iload_n 1, 1) := dk_27 (dk_at dksJ11_newLength_0 22 rfl rfl)
theorem dJ11_newLength_23 : decode cJ11_newLength 23 = .ok (.invokestatic 201, 3) := dk_184 0 201 (dk_at dksJ11_newLength_1 0 rfl rfl)
theorem dJ11_newLength_26 : decode cJ11_newLength 26 = .ok (.ireturn, 1) := dk_172 (dk_at dksJ11_newLength_1 3 rfl rfl)
abbrev cJ11_hugeLength : ByteArray := prog_47_method_28_code
def yJ11_hugeLength : MethodName := ⟨RJ11, "hugeLength", "(II)I"⟩
def dkwJ11_hugeLength_2 : List UInt8 := [191, 28, 18, 200, 163, 0, 6, 18, 200, 172, 28, 172]
abbrev dktJ11_hugeLength_2 : List UInt8 := dkwJ11_hugeLength_2 ++ []
def dkwJ11_hugeLength_1 : List UInt8 := [26, 182, 0, 98, 18, 208, 182, 0, 94, 27, 182, 0, 98, 18, 210, 182, 0, 94, 182, 0, 101, 183, 0, 212]
abbrev dktJ11_hugeLength_1 : List UInt8 := dkwJ11_hugeLength_1 ++ dktJ11_hugeLength_2
def dkwJ11_hugeLength_0 : List UInt8 := [26, 27, 96, 61, 28, 156, 0, 44, 187, 0, 204, 89, 187, 0, 89, 89, 183, 0, 91, 18, 206, 182, 0, 94]
abbrev dktJ11_hugeLength_0 : List UInt8 := dkwJ11_hugeLength_0 ++ dktJ11_hugeLength_1
theorem dksJ11_hugeLength_0 : cJ11_hugeLength.data.toList.drop 0 = dktJ11_hugeLength_0 := by decide +kernel
theorem dksJ11_hugeLength_1 : cJ11_hugeLength.data.toList.drop 24 = dktJ11_hugeLength_1 := dk_seg dksJ11_hugeLength_0 24 rfl rfl
theorem dksJ11_hugeLength_2 : cJ11_hugeLength.data.toList.drop 48 = dktJ11_hugeLength_2 := dk_seg dksJ11_hugeLength_1 24 rfl rfl
theorem dJ11_hugeLength_0 : decode cJ11_hugeLength 0 = .ok (.iload_n 0, 1) := dk_26 (dk_at dksJ11_hugeLength_0 0 rfl rfl)
theorem dJ11_hugeLength_1 : decode cJ11_hugeLength 1 = .ok (.iload_n 1, 1) := dk_27 (dk_at dksJ11_hugeLength_0 1 rfl rfl)
theorem dJ11_hugeLength_2 : decode cJ11_hugeLength 2 = .ok (.iadd, 1) := dk_96 (dk_at dksJ11_hugeLength_0 2 rfl rfl)
theorem dJ11_hugeLength_3 : decode cJ11_hugeLength 3 = .ok (.istore_n 2, 1) := dk_61 (dk_at dksJ11_hugeLength_0 3 rfl rfl)
theorem dJ11_hugeLength_4 : decode cJ11_hugeLength 4 = .ok (.iload_n 2, 1) := dk_28 (dk_at dksJ11_hugeLength_0 4 rfl rfl)
theorem dJ11_hugeLength_5 : decode cJ11_hugeLength 5 = .ok (.ifCond .ge 44, 3) := dk_156 0 44 (dk_at dksJ11_hugeLength_0 5 rfl rfl)
theorem dJ11_hugeLength_8 : decode cJ11_hugeLength 8 = .ok (.new 204, 3) := dk_187 0 204 (dk_at dksJ11_hugeLength_0 8 rfl rfl)
theorem dJ11_hugeLength_11 : decode cJ11_hugeLength 11 = .ok (.dup, 1) := dk_89 (dk_at dksJ11_hugeLength_0 11 rfl rfl)
theorem dJ11_hugeLength_12 : decode cJ11_hugeLength 12 = .ok (.new 89, 3) := dk_187 0 89 (dk_at dksJ11_hugeLength_0 12 rfl rfl)
theorem dJ11_hugeLength_15 : decode cJ11_hugeLength 15 = .ok (.dup, 1) := dk_89 (dk_at dksJ11_hugeLength_0 15 rfl rfl)
theorem dJ11_hugeLength_16 : decode cJ11_hugeLength 16 = .ok (.invokespecial 91, 3) := dk_183 0 91 (dk_at dksJ11_hugeLength_0 16 rfl rfl)
theorem dJ11_hugeLength_19 : decode cJ11_hugeLength 19 = .ok (.ldc 206, 2) := dk_18 206 (dk_at dksJ11_hugeLength_0 19 rfl rfl)
theorem dJ11_hugeLength_21 : decode cJ11_hugeLength 21 = .ok (.invokevirtual 94, 3) := dk_182 0 94 (dk_at dksJ11_hugeLength_0 21 rfl rfl)
theorem dJ11_hugeLength_24 : decode cJ11_hugeLength 24 = .ok (.iload_n 0, 1) := dk_26 (dk_at dksJ11_hugeLength_1 0 rfl rfl)
theorem dJ11_hugeLength_25 : decode cJ11_hugeLength 25 = .ok (.invokevirtual 98, 3) := dk_182 0 98 (dk_at dksJ11_hugeLength_1 1 rfl rfl)
theorem dJ11_hugeLength_28 : decode cJ11_hugeLength 28 = .ok (.ldc 208, 2) := dk_18 208 (dk_at dksJ11_hugeLength_1 4 rfl rfl)
theorem dJ11_hugeLength_30 : decode cJ11_hugeLength 30 = .ok (.invokevirtual 94, 3) := dk_182 0 94 (dk_at dksJ11_hugeLength_1 6 rfl rfl)
theorem dJ11_hugeLength_33 : decode cJ11_hugeLength 33 = .ok (.iload_n 1, 1) := dk_27 (dk_at dksJ11_hugeLength_1 9 rfl rfl)
theorem dJ11_hugeLength_34 : decode cJ11_hugeLength 34 = .ok (.invokevirtual 98, 3) := dk_182 0 98 (dk_at dksJ11_hugeLength_1 10 rfl rfl)
theorem dJ11_hugeLength_37 : decode cJ11_hugeLength 37 = .ok (.ldc 210, 2) := dk_18 210 (dk_at dksJ11_hugeLength_1 13 rfl rfl)
theorem dJ11_hugeLength_39 : decode cJ11_hugeLength 39 = .ok (.invokevirtual 94, 3) := dk_182 0 94 (dk_at dksJ11_hugeLength_1 15 rfl rfl)
theorem dJ11_hugeLength_42 : decode cJ11_hugeLength 42 = .ok (.invokevirtual 101, 3) := dk_182 0 101 (dk_at dksJ11_hugeLength_1 18 rfl rfl)
theorem dJ11_hugeLength_45 : decode cJ11_hugeLength 45 = .ok (.invokespecial 212, 3) := dk_183 0 212 (dk_at dksJ11_hugeLength_1 21 rfl rfl)
theorem dJ11_hugeLength_48 : decode cJ11_hugeLength 48 = .ok (.athrow, 1) := dk_191 (dk_at dksJ11_hugeLength_2 0 rfl rfl)
theorem dJ11_hugeLength_49 : decode cJ11_hugeLength 49 = .ok (.iload_n 2, 1) := dk_28 (dk_at dksJ11_hugeLength_2 1 rfl rfl)
theorem dJ11_hugeLength_50 : decode cJ11_hugeLength 50 = .ok (.ldc 200, 2) := dk_18 200 (dk_at dksJ11_hugeLength_2 2 rfl rfl)
theorem dJ11_hugeLength_52 : decode cJ11_hugeLength 52 = .ok (.if_icmp .gt 6, 3) := dk_163 0 6 (dk_at dksJ11_hugeLength_2 4 rfl rfl)
theorem dJ11_hugeLength_55 : decode cJ11_hugeLength 55 = .ok (.ldc 200, 2) := dk_18 200 (dk_at dksJ11_hugeLength_2 7 rfl rfl)
theorem dJ11_hugeLength_57 : decode cJ11_hugeLength 57 = .ok (.ireturn, 1) := dk_172 (dk_at dksJ11_hugeLength_2 9 rfl rfl)
theorem dJ11_hugeLength_58 : decode cJ11_hugeLength 58 = .ok (.iload_n 2, 1) := dk_28 (dk_at dksJ11_hugeLength_2 10 rfl rfl)
theorem dJ11_hugeLength_59 : decode cJ11_hugeLength 59 = .ok (.ireturn, 1) := dk_172 (dk_at dksJ11_hugeLength_2 11 rfl rfl)
theorem q140 : (Jvm.Cond.initialized "jdk/internal/util/ArraysSupport") ∈ lw_all := lw_g (lw_at lw_m1 30 rfl) rfl
theorem q519 : (Jvm.Cond.static ({ cls := "jdk/internal/util/ArraysSupport", name := "newLength", desc := "(III)I" } : Jvm.MethodName)) ∈ lw_all := lw_g (lw_at lw_m2 169 rfl) rfl
theorem q520 : (Jvm.Cond.code ({ cls := "jdk/internal/util/ArraysSupport", name := "newLength", desc := "(III)I" } : Jvm.MethodName) prog_47_method_27_code (4 : Nat) (Option.some Jvm.ClassFile.FieldType.int)) ∈ lw_all := lw_g (lw_at lw_m2 170 rfl) rfl
theorem q521 : (Jvm.Cond.methodLink "jdk/internal/util/ArraysSupport" (194 : Nat) ({ cls := "java/lang/Math", name := "max", desc := "(II)I" } : Jvm.MethodName)) ∈ lw_all := lw_g (lw_at lw_m2 171 rfl) rfl
theorem q524 : (Jvm.Cond.constant "jdk/internal/util/ArraysSupport" (200 : Nat) (2147483639 : Int32)) ∈ lw_all := lw_g (lw_at lw_m2 174 rfl) rfl
theorem q525 : (Jvm.Cond.methodLink "jdk/internal/util/ArraysSupport" (201 : Nat) ({ cls := "jdk/internal/util/ArraysSupport", name := "hugeLength", desc := "(II)I" } : Jvm.MethodName)) ∈ lw_all := lw_g (lw_at lw_m2 175 rfl) rfl
theorem q526 : (Jvm.Cond.static ({ cls := "jdk/internal/util/ArraysSupport", name := "hugeLength", desc := "(II)I" } : Jvm.MethodName)) ∈ lw_all := lw_g (lw_at lw_m2 176 rfl) rfl
theorem q527 : (Jvm.Cond.code ({ cls := "jdk/internal/util/ArraysSupport", name := "hugeLength", desc := "(II)I" } : Jvm.MethodName) prog_47_method_28_code (3 : Nat) (Option.some Jvm.ClassFile.FieldType.int)) ∈ lw_all := lw_g (lw_at lw_m2 177 rfl) rfl
/-! java/util/Arrays -/
set_option maxRecDepth 100000
def RJ12 : String := "java/util/Arrays"
abbrev cJ12_copyOf : ByteArray := prog_41_method_119_code
def yJ12_copyOf : MethodName := ⟨RJ12, "copyOf", "([Ljava/lang/Object;I)[Ljava/lang/Object;"⟩
def dkwJ12_copyOf_0 : List UInt8 := [42, 27, 42, 182, 0, 86, 184, 1, 44, 176]
abbrev dktJ12_copyOf_0 : List UInt8 := dkwJ12_copyOf_0 ++ []
theorem dksJ12_copyOf_0 : cJ12_copyOf.data.toList.drop 0 = dktJ12_copyOf_0 := by decide +kernel
theorem dJ12_copyOf_0 : decode cJ12_copyOf 0 = .ok (.aload_n 0, 1) := dk_42 (dk_at dksJ12_copyOf_0 0 rfl rfl)
theorem dJ12_copyOf_1 : decode cJ12_copyOf 1 = .ok (.iload_n 1, 1) := dk_27 (dk_at dksJ12_copyOf_0 1 rfl rfl)
theorem dJ12_copyOf_2 : decode cJ12_copyOf 2 = .ok (.aload_n 0, 1) := dk_42 (dk_at dksJ12_copyOf_0 2 rfl rfl)
theorem dJ12_copyOf_3 : decode cJ12_copyOf 3 = .ok (.invokevirtual 86, 3) := dk_182 0 86 (dk_at dksJ12_copyOf_0 3 rfl rfl)
theorem dJ12_copyOf_6 : decode cJ12_copyOf 6 = .ok (.invokestatic 300, 3) := dk_184 1 44 (dk_at dksJ12_copyOf_0 6 rfl rfl)
theorem dJ12_copyOf_9 : decode cJ12_copyOf 9 = .ok (.areturn, 1) := dk_176 (dk_at dksJ12_copyOf_0 9 rfl rfl)
abbrev cJ12_copyOf_2 : ByteArray := prog_41_method_120_code
def yJ12_copyOf_2 : MethodName := ⟨RJ12, "copyOf", "([Ljava/lang/Object;ILjava/lang/Class;)[Ljava/lang/Object;"⟩
def dkwJ12_copyOf_2_1 : List UInt8 := [78, 42, 3, 45, 3, 42, 190, 27, 184, 1, 48, 184, 0, 150, 45, 176]
abbrev dktJ12_copyOf_2_1 : List UInt8 := dkwJ12_copyOf_2_1 ++ []
def dkwJ12_copyOf_2_0 : List UInt8 := [44, 18, 110, 166, 0, 10, 27, 189, 0, 2, 167, 0, 14, 44, 182, 0, 90, 27, 184, 0, 95, 192, 0, 110]
abbrev dktJ12_copyOf_2_0 : List UInt8 := dkwJ12_copyOf_2_0 ++ dktJ12_copyOf_2_1
theorem dksJ12_copyOf_2_0 : cJ12_copyOf_2.data.toList.drop 0 = dktJ12_copyOf_2_0 := by decide +kernel
theorem dksJ12_copyOf_2_1 : cJ12_copyOf_2.data.toList.drop 24 = dktJ12_copyOf_2_1 := dk_seg dksJ12_copyOf_2_0 24 rfl rfl
theorem dJ12_copyOf_2_0 : decode cJ12_copyOf_2 0 = .ok (.aload_n 2, 1) := dk_44 (dk_at dksJ12_copyOf_2_0 0 rfl rfl)
theorem dJ12_copyOf_2_1 : decode cJ12_copyOf_2 1 = .ok (.ldc 110, 2) := dk_18 110 (dk_at dksJ12_copyOf_2_0 1 rfl rfl)
theorem dJ12_copyOf_2_3 : decode cJ12_copyOf_2 3 = .ok (.if_acmp .ne 10, 3) := dk_166 0 10 (dk_at dksJ12_copyOf_2_0 3 rfl rfl)
theorem dJ12_copyOf_2_6 : decode cJ12_copyOf_2 6 = .ok (.iload_n 1, 1) := dk_27 (dk_at dksJ12_copyOf_2_0 6 rfl rfl)
theorem dJ12_copyOf_2_7 : decode cJ12_copyOf_2 7 = .ok (.anewarray 2, 3) := dk_189 0 2 (dk_at dksJ12_copyOf_2_0 7 rfl rfl)
theorem dJ12_copyOf_2_10 : decode cJ12_copyOf_2 10 = .ok (.goto 14, 3) := dk_167 0 14 (dk_at dksJ12_copyOf_2_0 10 rfl rfl)
theorem dJ12_copyOf_2_13 : decode cJ12_copyOf_2 13 = .ok (.aload_n 2, 1) := dk_44 (dk_at dksJ12_copyOf_2_0 13 rfl rfl)
theorem dJ12_copyOf_2_14 : decode cJ12_copyOf_2 14 = .ok (.invokevirtual 90, 3) := dk_182 0 90 (dk_at dksJ12_copyOf_2_0 14 rfl rfl)
theorem dJ12_copyOf_2_17 : decode cJ12_copyOf_2 17 = .ok (.iload_n 1, 1) := dk_27 (dk_at dksJ12_copyOf_2_0 17 rfl rfl)
theorem dJ12_copyOf_2_18 : decode cJ12_copyOf_2 18 = .ok (.invokestatic 95, 3) := dk_184 0 95 (dk_at dksJ12_copyOf_2_0 18 rfl rfl)
theorem dJ12_copyOf_2_21 : decode cJ12_copyOf_2 21 = .ok (.checkcast 110, 3) := dk_192 0 110 (dk_at dksJ12_copyOf_2_0 21 rfl rfl)
theorem dJ12_copyOf_2_24 : decode cJ12_copyOf_2 24 = .ok (.astore_n 3, 1) := dk_78 (dk_at dksJ12_copyOf_2_1 0 rfl rfl)
theorem dJ12_copyOf_2_25 : decode cJ12_copyOf_2 25 = .ok (.aload_n 0, 1) := dk_42 (dk_at dksJ12_copyOf_2_1 1 rfl rfl)
theorem dJ12_copyOf_2_26 : decode cJ12_copyOf_2 26 = .ok (.iconst 0, 1) := dk_3 (dk_at dksJ12_copyOf_2_1 2 rfl rfl)
theorem dJ12_copyOf_2_27 : decode cJ12_copyOf_2 27 = .ok (.aload_n 3, 1) := dk_45 (dk_at dksJ12_copyOf_2_1 3 rfl rfl)
theorem dJ12_copyOf_2_28 : decode cJ12_copyOf_2 28 = .ok (.iconst 0, 1) := dk_3 (dk_at dksJ12_copyOf_2_1 4 rfl rfl)
theorem dJ12_copyOf_2_29 : decode cJ12_copyOf_2 29 = .ok (.aload_n 0, 1) := dk_42 (dk_at dksJ12_copyOf_2_1 5 rfl rfl)
theorem dJ12_copyOf_2_30 : decode cJ12_copyOf_2 30 = .ok (.arraylength, 1) := dk_190 (dk_at dksJ12_copyOf_2_1 6 rfl rfl)
theorem dJ12_copyOf_2_31 : decode cJ12_copyOf_2 31 = .ok (.iload_n 1, 1) := dk_27 (dk_at dksJ12_copyOf_2_1 7 rfl rfl)
theorem dJ12_copyOf_2_32 : decode cJ12_copyOf_2 32 = .ok (.invokestatic 304, 3) := dk_184 1 48 (dk_at dksJ12_copyOf_2_1 8 rfl rfl)
theorem dJ12_copyOf_2_35 : decode cJ12_copyOf_2 35 = .ok (.invokestatic 150, 3) := dk_184 0 150 (dk_at dksJ12_copyOf_2_1 11 rfl rfl)
theorem dJ12_copyOf_2_38 : decode cJ12_copyOf_2 38 = .ok (.aload_n 3, 1) := dk_45 (dk_at dksJ12_copyOf_2_1 14 rfl rfl)
theorem dJ12_copyOf_2_39 : decode cJ12_copyOf_2 39 = .ok (.areturn, 1) := dk_176 (dk_at dksJ12_copyOf_2_1 15 rfl rfl)
theorem q141 : (Jvm.Cond.initialized "java/util/Arrays") ∈ lw_all := lw_g (lw_at lw_m1 31 rfl) rfl
theorem q478 : (Jvm.Cond.static ({ cls := "java/util/Arrays", name := "copyOf", desc := "([Ljava/lang/Object;I)[Ljava/lang/Object;" } : Jvm.MethodName)) ∈ lw_all := lw_g (lw_at lw_m2 128 rfl) rfl
theorem q479 : (Jvm.Cond.code ({ cls := "java/util/Arrays", name := "copyOf", desc := "([Ljava/lang/Object;I)[Ljava/lang/Object;" } : Jvm.MethodName) prog_41_method_119_code (2 : Nat) (Option.some (Jvm.ClassFile.FieldType.array (Jvm.ClassFile.FieldType.object "java/lang/Object")))) ∈ lw_all := lw_g (lw_at lw_m2 129 rfl) rfl
theorem q480 : (Jvm.Cond.methodLink "java/util/Arrays" (86 : Nat) ({ cls := "java/lang/Object", name := "getClass", desc := "()Ljava/lang/Class;" } : Jvm.MethodName)) ∈ lw_all := lw_g (lw_at lw_m2 130 rfl) rfl
theorem q503 : (Jvm.Cond.methodLink "java/util/Arrays" (300 : Nat) ({ cls := "java/util/Arrays", name := "copyOf", desc := "([Ljava/lang/Object;ILjava/lang/Class;)[Ljava/lang/Object;" } : Jvm.MethodName)) ∈ lw_all := lw_g (lw_at lw_m2 153 rfl) rfl
theorem q504 : (Jvm.Cond.static ({ cls := "java/util/Arrays", name := "copyOf", desc := "([Ljava/lang/Object;ILjava/lang/Class;)[Ljava/lang/Object;" } : Jvm.MethodName)) ∈ lw_all := lw_g (lw_at lw_m2 154 rfl) rfl
theorem q505 : (Jvm.Cond.code ({ cls := "java/util/Arrays", name := "copyOf", desc := "([Ljava/lang/Object;ILjava/lang/Class;)[Ljava/lang/Object;" } : Jvm.MethodName) prog_41_method_120_code (4 : Nat) (Option.some (Jvm.ClassFile.FieldType.array (Jvm.ClassFile.FieldType.object "java/lang/Object")))) ∈ lw_all := lw_g (lw_at lw_m2 155 rfl) rfl
theorem q506 : (Jvm.Cond.classLink "java/util/Arrays" (110 : Nat) "[Ljava/lang/Object;") ∈ lw_all := lw_g (lw_at lw_m2 156 rfl) rfl
theorem q507 : (Jvm.Cond.classLink "java/util/Arrays" (2 : Nat) "java/lang/Object") ∈ lw_all := lw_g (lw_at lw_m2 157 rfl) rfl
theorem q508 : (Jvm.Cond.methodLink "java/util/Arrays" (304 : Nat) ({ cls := "java/lang/Math", name := "min", desc := "(II)I" } : Jvm.MethodName)) ∈ lw_all := lw_g (lw_at lw_m2 158 rfl) rfl
theorem q511 : (Jvm.Cond.methodLink "java/util/Arrays" (150 : Nat) ({ cls := "java/lang/System", name := "arraycopy", desc := "(Ljava/lang/Object;ILjava/lang/Object;II)V" } : Jvm.MethodName)) ∈ lw_all := lw_g (lw_at lw_m2 161 rfl) rfl
/-! java/lang/Integer -/
set_option maxRecDepth 100000
def RJ13 : String := "java/lang/Integer"
abbrev cJ13_bitCount : ByteArray := prog_28_method_49_code
def yJ13_bitCount : MethodName := ⟨RJ13, "bitCount", "(I)I"⟩
def dkwJ13_bitCount_2 : List UInt8 := [26, 16, 63, 126, 172]
abbrev dktJ13_bitCount_2 : List UInt8 := dkwJ13_bitCount_2 ++ []
def dkwJ13_bitCount_1 : List UInt8 := [26, 26, 7, 124, 96, 19, 1, 11, 126, 59, 26, 26, 16, 8, 124, 96, 59, 26, 26, 16, 16, 124, 96, 59]
abbrev dktJ13_bitCount_1 : List UInt8 := dkwJ13_bitCount_1 ++ dktJ13_bitCount_2
def dkwJ13_bitCount_0 : List UInt8 := [26, 26, 4, 124, 19, 1, 9, 126, 100, 59, 26, 19, 1, 10, 126, 26, 5, 124, 19, 1, 10, 126, 96, 59]
abbrev dktJ13_bitCount_0 : List UInt8 := dkwJ13_bitCount_0 ++ dktJ13_bitCount_1
theorem dksJ13_bitCount_0 : cJ13_bitCount.data.toList.drop 0 = dktJ13_bitCount_0 := by decide +kernel
theorem dksJ13_bitCount_1 : cJ13_bitCount.data.toList.drop 24 = dktJ13_bitCount_1 := dk_seg dksJ13_bitCount_0 24 rfl rfl
theorem dksJ13_bitCount_2 : cJ13_bitCount.data.toList.drop 48 = dktJ13_bitCount_2 := dk_seg dksJ13_bitCount_1 24 rfl rfl
theorem dJ13_bitCount_0 : decode cJ13_bitCount 0 = .ok (.iload_n 0, 1) := dk_26 (dk_at dksJ13_bitCount_0 0 rfl rfl)
theorem dJ13_bitCount_1 : decode cJ13_bitCount 1 = .ok (.iload_n 0, 1) := dk_26 (dk_at dksJ13_bitCount_0 1 rfl rfl)
theorem dJ13_bitCount_2 : decode cJ13_bitCount 2 = .ok (.iconst 1, 1) := dk_4 (dk_at dksJ13_bitCount_0 2 rfl rfl)
theorem dJ13_bitCount_3 : decode cJ13_bitCount 3 = .ok (.iushr, 1) := dk_124 (dk_at dksJ13_bitCount_0 3 rfl rfl)
theorem dJ13_bitCount_4 : decode cJ13_bitCount 4 = .ok (.ldc_w 265, 3) := dk_19 1 9 (dk_at dksJ13_bitCount_0 4 rfl rfl)
theorem dJ13_bitCount_7 : decode cJ13_bitCount 7 = .ok (.iand, 1) := dk_126 (dk_at dksJ13_bitCount_0 7 rfl rfl)
theorem dJ13_bitCount_8 : decode cJ13_bitCount 8 = .ok (.isub, 1) := dk_100 (dk_at dksJ13_bitCount_0 8 rfl rfl)
theorem dJ13_bitCount_9 : decode cJ13_bitCount 9 = .ok (.istore_n 0, 1) := dk_59 (dk_at dksJ13_bitCount_0 9 rfl rfl)
theorem dJ13_bitCount_10 : decode cJ13_bitCount 10 = .ok (.iload_n 0, 1) := dk_26 (dk_at dksJ13_bitCount_0 10 rfl rfl)
theorem dJ13_bitCount_11 : decode cJ13_bitCount 11 = .ok (.ldc_w 266, 3) := dk_19 1 10 (dk_at dksJ13_bitCount_0 11 rfl rfl)
theorem dJ13_bitCount_14 : decode cJ13_bitCount 14 = .ok (.iand, 1) := dk_126 (dk_at dksJ13_bitCount_0 14 rfl rfl)
theorem dJ13_bitCount_15 : decode cJ13_bitCount 15 = .ok (.iload_n 0, 1) := dk_26 (dk_at dksJ13_bitCount_0 15 rfl rfl)
theorem dJ13_bitCount_16 : decode cJ13_bitCount 16 = .ok (.iconst 2, 1) := dk_5 (dk_at dksJ13_bitCount_0 16 rfl rfl)
theorem dJ13_bitCount_17 : decode cJ13_bitCount 17 = .ok (.iushr, 1) := dk_124 (dk_at dksJ13_bitCount_0 17 rfl rfl)
theorem dJ13_bitCount_18 : decode cJ13_bitCount 18 = .ok (.ldc_w 266, 3) := dk_19 1 10 (dk_at dksJ13_bitCount_0 18 rfl rfl)
theorem dJ13_bitCount_21 : decode cJ13_bitCount 21 = .ok (.iand, 1) := dk_126 (dk_at dksJ13_bitCount_0 21 rfl rfl)
theorem dJ13_bitCount_22 : decode cJ13_bitCount 22 = .ok (.iadd, 1) := dk_96 (dk_at dksJ13_bitCount_0 22 rfl rfl)
theorem dJ13_bitCount_23 : decode cJ13_bitCount 23 = .ok (.istore_n 0, 1) := dk_59 (dk_at dksJ13_bitCount_0 23 rfl rfl)
theorem dJ13_bitCount_24 : decode cJ13_bitCount 24 = .ok (.iload_n 0, 1) := dk_26 (dk_at dksJ13_bitCount_1 0 rfl rfl)
theorem dJ13_bitCount_25 : decode cJ13_bitCount 25 = .ok (.iload_n 0, 1) := dk_26 (dk_at dksJ13_bitCount_1 1 rfl rfl)
theorem dJ13_bitCount_26 : decode cJ13_bitCount 26 = .ok (.iconst 4, 1) := dk_7 (dk_at dksJ13_bitCount_1 2 rfl rfl)
theorem dJ13_bitCount_27 : decode cJ13_bitCount 27 = .ok (.iushr, 1) := dk_124 (dk_at dksJ13_bitCount_1 3 rfl rfl)
theorem dJ13_bitCount_28 : decode cJ13_bitCount 28 = .ok (.iadd, 1) := dk_96 (dk_at dksJ13_bitCount_1 4 rfl rfl)
theorem dJ13_bitCount_29 : decode cJ13_bitCount 29 = .ok (.ldc_w 267, 3) := dk_19 1 11 (dk_at dksJ13_bitCount_1 5 rfl rfl)
theorem dJ13_bitCount_32 : decode cJ13_bitCount 32 = .ok (.iand, 1) := dk_126 (dk_at dksJ13_bitCount_1 8 rfl rfl)
theorem dJ13_bitCount_33 : decode cJ13_bitCount 33 = .ok (.istore_n 0, 1) := dk_59 (dk_at dksJ13_bitCount_1 9 rfl rfl)
theorem dJ13_bitCount_34 : decode cJ13_bitCount 34 = .ok (.iload_n 0, 1) := dk_26 (dk_at dksJ13_bitCount_1 10 rfl rfl)
theorem dJ13_bitCount_35 : decode cJ13_bitCount 35 = .ok (.iload_n 0, 1) := dk_26 (dk_at dksJ13_bitCount_1 11 rfl rfl)
theorem dJ13_bitCount_36 : decode cJ13_bitCount 36 = .ok (.bipush 8, 2) := dk_16 8 (dk_at dksJ13_bitCount_1 12 rfl rfl)
theorem dJ13_bitCount_38 : decode cJ13_bitCount 38 = .ok (.iushr, 1) := dk_124 (dk_at dksJ13_bitCount_1 14 rfl rfl)
theorem dJ13_bitCount_39 : decode cJ13_bitCount 39 = .ok (.iadd, 1) := dk_96 (dk_at dksJ13_bitCount_1 15 rfl rfl)
theorem dJ13_bitCount_40 : decode cJ13_bitCount 40 = .ok (.istore_n 0, 1) := dk_59 (dk_at dksJ13_bitCount_1 16 rfl rfl)
theorem dJ13_bitCount_41 : decode cJ13_bitCount 41 = .ok (.iload_n 0, 1) := dk_26 (dk_at dksJ13_bitCount_1 17 rfl rfl)
theorem dJ13_bitCount_42 : decode cJ13_bitCount 42 = .ok (.iload_n 0, 1) := dk_26 (dk_at dksJ13_bitCount_1 18 rfl rfl)
theorem dJ13_bitCount_43 : decode cJ13_bitCount 43 = .ok (.bipush 16, 2) := dk_16 16 (dk_at dksJ13_bitCount_1 19 rfl rfl)
theorem dJ13_bitCount_45 : decode cJ13_bitCount 45 = .ok (.iushr, 1) := dk_124 (dk_at dksJ13_bitCount_1 21 rfl rfl)
theorem dJ13_bitCount_46 : decode cJ13_bitCount 46 = .ok (.iadd, 1) := dk_96 (dk_at dksJ13_bitCount_1 22 rfl rfl)
theorem dJ13_bitCount_47 : decode cJ13_bitCount 47 = .ok (.istore_n 0, 1) := dk_59 (dk_at dksJ13_bitCount_1 23 rfl rfl)
theorem dJ13_bitCount_48 : decode cJ13_bitCount 48 = .ok (.iload_n 0, 1) := dk_26 (dk_at dksJ13_bitCount_2 0 rfl rfl)
theorem dJ13_bitCount_49 : decode cJ13_bitCount 49 = .ok (.bipush 63, 2) := dk_16 63 (dk_at dksJ13_bitCount_2 1 rfl rfl)
theorem dJ13_bitCount_51 : decode cJ13_bitCount 51 = .ok (.iand, 1) := dk_126 (dk_at dksJ13_bitCount_2 3 rfl rfl)
theorem dJ13_bitCount_52 : decode cJ13_bitCount 52 = .ok (.ireturn, 1) := dk_172 (dk_at dksJ13_bitCount_2 4 rfl rfl)
theorem q146 : (Jvm.Cond.initialized "java/lang/Integer") ∈ lw_all := lw_g (lw_at lw_m1 36 rfl) rfl
theorem q1332 : (Jvm.Cond.static ({ cls := "java/lang/Integer", name := "bitCount", desc := "(I)I" } : Jvm.MethodName)) ∈ lw_all := lw_g (lw_at lw_m6 22 rfl) rfl
theorem q1333 : (Jvm.Cond.code ({ cls := "java/lang/Integer", name := "bitCount", desc := "(I)I" } : Jvm.MethodName) prog_28_method_49_code (1 : Nat) (Option.some Jvm.ClassFile.FieldType.int)) ∈ lw_all := lw_g (lw_at lw_m6 23 rfl) rfl
theorem q1334 : (Jvm.Cond.constant "java/lang/Integer" (265 : Nat) (1431655765 : Int32)) ∈ lw_all := lw_g (lw_at lw_m6 24 rfl) rfl
theorem q1335 : (Jvm.Cond.constant "java/lang/Integer" (266 : Nat) (858993459 : Int32)) ∈ lw_all := lw_g (lw_at lw_m6 25 rfl) rfl
theorem q1336 : (Jvm.Cond.constant "java/lang/Integer" (267 : Nat) (252645135 : Int32)) ∈ lw_all := lw_g (lw_at lw_m6 26 rfl) rfl
/-! java/lang/Object -/
set_option maxRecDepth 100000
def RJ14 : String := "java/lang/Object"
abbrev cJ14_init : ByteArray := object_method_1_code
def yJ14_init : MethodName := ⟨RJ14, "<init>", "()V"⟩
theorem dJ14_init_0 : decode cJ14_init 0 = .ok (.return_, 1) := by decide +kernel
theorem q153 : (Jvm.Cond.instanceMethod ({ cls := "java/lang/Object", name := "<init>", desc := "()V" } : Jvm.MethodName)) ∈ lw_all := lw_g (lw_at lw_m1 43 rfl) rfl
theorem q154 : (Jvm.Cond.code ({ cls := "java/lang/Object", name := "<init>", desc := "()V" } : Jvm.MethodName) object_method_1_code (1 : Nat) (Option.none : Option Jvm.ClassFile.FieldType)) ∈ lw_all := lw_g (lw_at lw_m1 44 rfl) rfl
theorem q481 : (Jvm.Cond.instanceMethod ({ cls := "java/lang/Object", name := "getClass", desc := "()Ljava/lang/Class;" } : Jvm.MethodName)) ∈ lw_all := lw_g (lw_at lw_m2 131 rfl) rfl
theorem q482 : (Jvm.Cond.sameMethod "java/lang/Object" "java/lang/Object" "getClass" "()Ljava/lang/Class;") ∈ lw_all := lw_g (lw_at lw_m2 132 rfl) rfl
theorem q502 : (Jvm.Cond.native ({ cls := "java/lang/Object", name := "getClass", desc := "()Ljava/lang/Class;" } : Jvm.MethodName)) ∈ lw_all := lw_g (lw_at lw_m2 152 rfl) rfl
theorem q2237 : (Jvm.Cond.initialized "java/lang/Object") ∈ lw_all := lw_g (lw_at lw_m9 207 rfl) rfl
theorem q2264 : (Jvm.Cond.declares ({ cls := "java/lang/Object", name := "getClass", desc := "()Ljava/lang/Class;" } : Jvm.MethodName)) ∈ lw_tbl := lw_at lw_m9 234 rfl
/-! java/util/ArrayList -/
set_option maxRecDepth 100000
def RJ2 : String := "java/util/ArrayList"
def TJ2 : u_T := fun k => match k with
  | 0 => ("java/util/AbstractList", "modCount", "I", false)
  | 1 => ("java/util/ArrayList", "elementData", "[Ljava/lang/Object;", false)
  | _ => ("java/util/ArrayList", "size", "I", false)
def tyJ2 : Nat → FieldType := fun k => match k with
  | 0 => .int
  | 1 => .array (.object "java/lang/Object")
  | _ => .int
abbrev wsJ20 : List Cond := u_ws RJ2 TJ2 3
theorem nmJ2 : ∀ a, a < 3 → ∀ b, b < 3 → a ≠ b → (TJ2 a).2.1 ≠ (TJ2 b).2.1 := by decide +kernel
theorem tyJ2_ok : ∀ k, k < 3 → parseFieldDescriptor (TJ2 k).2.2.1 = some (tyJ2 k) := by decide +kernel
abbrev cJ2_init : ByteArray := prog_40_method_1_code
def yJ2_init : MethodName := ⟨RJ2, "<init>", "(I)V"⟩
def dkwJ2_init_2 : List UInt8 := [182, 0, 25, 27, 182, 0, 29, 182, 0, 32, 183, 0, 36, 191, 177]
abbrev dktJ2_init_2 : List UInt8 := dkwJ2_init_2 ++ []
def dkwJ2_init_1 : List UInt8 := [178, 0, 15, 181, 0, 9, 167, 0, 30, 187, 0, 18, 89, 187, 0, 20, 89, 183, 0, 22, 18, 23]
abbrev dktJ2_init_1 : List UInt8 := dkwJ2_init_1 ++ dktJ2_init_2
def dkwJ2_init_0 : List UInt8 := [42, 183, 0, 1, 27, 158, 0, 14, 42, 27, 189, 0, 7, 181, 0, 9, 167, 0, 44, 27, 154, 0, 13, 42]
abbrev dktJ2_init_0 : List UInt8 := dkwJ2_init_0 ++ dktJ2_init_1
theorem dksJ2_init_0 : cJ2_init.data.toList.drop 0 = dktJ2_init_0 := by decide +kernel
theorem dksJ2_init_1 : cJ2_init.data.toList.drop 24 = dktJ2_init_1 := dk_seg dksJ2_init_0 24 rfl rfl
theorem dksJ2_init_2 : cJ2_init.data.toList.drop 46 = dktJ2_init_2 := dk_seg dksJ2_init_1 22 rfl rfl
theorem dJ2_init_0 : decode cJ2_init 0 = .ok (.aload_n 0, 1) := dk_42 (dk_at dksJ2_init_0 0 rfl rfl)
theorem dJ2_init_1 : decode cJ2_init 1 = .ok (.invokespecial 1, 3) := dk_183 0 1 (dk_at dksJ2_init_0 1 rfl rfl)
theorem dJ2_init_4 : decode cJ2_init 4 = .ok (.iload_n 1, 1) := dk_27 (dk_at dksJ2_init_0 4 rfl rfl)
theorem dJ2_init_5 : decode cJ2_init 5 = .ok (.ifCond .le 14, 3) := dk_158 0 14 (dk_at dksJ2_init_0 5 rfl rfl)
theorem dJ2_init_8 : decode cJ2_init 8 = .ok (.aload_n 0, 1) := dk_42 (dk_at dksJ2_init_0 8 rfl rfl)
theorem dJ2_init_9 : decode cJ2_init 9 = .ok (.iload_n 1, 1) := dk_27 (dk_at dksJ2_init_0 9 rfl rfl)
theorem dJ2_init_10 : decode cJ2_init 10 = .ok (.anewarray 7, 3) := dk_189 0 7 (dk_at dksJ2_init_0 10 rfl rfl)
theorem dJ2_init_13 : decode cJ2_init 13 = .ok (.putfield 9, 3) := dk_181 0 9 (dk_at dksJ2_init_0 13 rfl rfl)
theorem dJ2_init_16 : decode cJ2_init 16 = .ok (.goto 44, 3) := dk_167 0 44 (dk_at dksJ2_init_0 16 rfl rfl)
theorem dJ2_init_19 : decode cJ2_init 19 = .ok (.iload_n 1, 1) := dk_27 (dk_at dksJ2_init_0 19 rfl rfl)
theorem dJ2_init_20 : decode cJ2_init 20 = .ok (.ifCond .ne 13, 3) := dk_154 0 13 (dk_at dksJ2_init_0 20 rfl rfl)
theorem dJ2_init_23 : decode cJ2_init 23 = .ok (.aload_n 0, 1) := dk_42 (dk_at dksJ2_init_0 23 rfl rfl)
theorem dJ2_init_24 : decode cJ2_init 24 = .ok (.getstatic 15, 3) := dk_178 0 15 (dk_at dksJ2_init_1 0 rfl rfl)
theorem dJ2_init_27 : decode cJ2_init 27 = .ok (.putfield 9, 3) := dk_181 0 9 (dk_at dksJ2_init_1 3 rfl rfl)
theorem dJ2_init_30 : decode cJ2_init 30 = .ok (.goto 30, 3) := dk_167 0 30 (dk_at dksJ2_init_1 6 rfl rfl)
theorem dJ2_init_33 : decode cJ2_init 33 = .ok (.new 18, 3) := dk_187 0 18 (dk_at dksJ2_init_1 9 rfl rfl)
theorem dJ2_init_36 : decode cJ2_init 36 = .ok (.dup, 1) := dk_89 (dk_at dksJ2_init_1 12 rfl rfl)
theorem dJ2_init_37 : decode cJ2_init 37 = .ok (.new 20, 3) := dk_187 0 20 (dk_at dksJ2_init_1 13 rfl rfl)
theorem dJ2_init_40 : decode cJ2_init 40 = .ok (.dup, 1) := dk_89 (dk_at dksJ2_init_1 16 rfl rfl)
theorem dJ2_init_41 : decode cJ2_init 41 = .ok (.invokespecial 22, 3) := dk_183 0 22 (dk_at dksJ2_init_1 17 rfl rfl)
theorem dJ2_init_44 : decode cJ2_init 44 = .ok (.ldc 23, 2) := dk_18 23 (dk_at dksJ2_init_1 20 rfl rfl)
theorem dJ2_init_46 : decode cJ2_init 46 = .ok (.invokevirtual 25, 3) := dk_182 0 25 (dk_at dksJ2_init_2 0 rfl rfl)
theorem dJ2_init_49 : decode cJ2_init 49 = .ok (.iload_n 1, 1) := dk_27 (dk_at dksJ2_init_2 3 rfl rfl)
theorem dJ2_init_50 : decode cJ2_init 50 = .ok (.invokevirtual 29, 3) := dk_182 0 29 (dk_at dksJ2_init_2 4 rfl rfl)
theorem dJ2_init_53 : decode cJ2_init 53 = .ok (.invokevirtual 32, 3) := dk_182 0 32 (dk_at dksJ2_init_2 7 rfl rfl)
theorem dJ2_init_56 : decode cJ2_init 56 = .ok (.invokespecial 36, 3) := dk_183 0 36 (dk_at dksJ2_init_2 10 rfl rfl)
theorem dJ2_init_59 : decode cJ2_init 59 = .ok (.athrow, 1) := dk_191 (dk_at dksJ2_init_2 13 rfl rfl)
theorem dJ2_init_60 : decode cJ2_init 60 = .ok (.return_, 1) := dk_177 (dk_at dksJ2_init_2 14 rfl rfl)
abbrev cJ2_clear : ByteArray := prog_40_method_40_code
def yJ2_clear : MethodName := ⟨RJ2, "clear", "()V"⟩
def dkwJ2_clear_1 : List UInt8 := [181, 0, 48, 62, 29, 28, 162, 0, 13, 43, 29, 1, 83, 132, 3, 1, 167, 255, 244, 177]
abbrev dktJ2_clear_1 : List UInt8 := dkwJ2_clear_1 ++ []
def dkwJ2_clear_0 : List UInt8 := [42, 89, 180, 0, 63, 4, 96, 181, 0, 63, 42, 180, 0, 9, 76, 42, 180, 0, 48, 61, 42, 3, 90]
abbrev dktJ2_clear_0 : List UInt8 := dkwJ2_clear_0 ++ dktJ2_clear_1
theorem dksJ2_clear_0 : cJ2_clear.data.toList.drop 0 = dktJ2_clear_0 := by decide +kernel
theorem dksJ2_clear_1 : cJ2_clear.data.toList.drop 23 = dktJ2_clear_1 := dk_seg dksJ2_clear_0 23 rfl rfl
theorem dJ2_clear_0 : decode cJ2_clear 0 = .ok (.aload_n 0, 1) := dk_42 (dk_at dksJ2_clear_0 0 rfl rfl)
theorem dJ2_clear_1 : decode cJ2_clear 1 = .ok (.dup, 1) := dk_89 (dk_at dksJ2_clear_0 1 rfl rfl)
theorem dJ2_clear_2 : decode cJ2_clear 2 = .ok (.getfield 63, 3) := dk_180 0 63 (dk_at dksJ2_clear_0 2 rfl rfl)
theorem dJ2_clear_5 : decode cJ2_clear 5 = .ok (.iconst 1, 1) := dk_4 (dk_at dksJ2_clear_0 5 rfl rfl)
theorem dJ2_clear_6 : decode cJ2_clear 6 = .ok (.iadd, 1) := dk_96 (dk_at dksJ2_clear_0 6 rfl rfl)
theorem dJ2_clear_7 : decode cJ2_clear 7 = .ok (.putfield 63, 3) := dk_181 0 63 (dk_at dksJ2_clear_0 7 rfl rfl)
theorem dJ2_clear_10 : decode cJ2_clear 10 = .ok (.aload_n 0, 1) := dk_42 (dk_at dksJ2_clear_0 10 rfl rfl)
theorem dJ2_clear_11 : decode cJ2_clear 11 = .ok (.getfield 9, 3) := dk_180 0 9 (dk_at dksJ2_clear_0 11 rfl rfl)
theorem dJ2_clear_14 : decode cJ2_clear 14 = .ok (.astore_n 1, 1) := dk_76 (dk_at dksJ2_clear_0 14 rfl rfl)
theorem dJ2_clear_15 : decode cJ2_clear 15 = .ok (.aload_n 0, 1) := dk_42 (dk_at dksJ2_clear_0 15 rfl rfl)
theorem dJ2_clear_16 : decode cJ2_clear 16 = .ok (.getfield 48, 3) := dk_180 0 48 (dk_at dksJ2_clear_0 16 rfl rfl)
theorem dJ2_clear_19 : decode cJ2_clear 19 = .ok (.istore_n 2, 1) := dk_61 (dk_at dksJ2_clear_0 19 rfl rfl)
theorem dJ2_clear_20 : decode cJ2_clear 20 = .ok (.aload_n 0, 1) := dk_42 (dk_at dksJ2_clear_0 20 rfl rfl)
theorem dJ2_clear_21 : decode cJ2_clear 21 = .ok (.iconst 0, 1) := dk_3 (dk_at dksJ2_clear_0 21 rfl rfl)
theorem dJ2_clear_22 : decode cJ2_clear 22 = .ok (.dup_x1, 1) := dk_90 (dk_at dksJ2_clear_0 22 rfl rfl)
theorem dJ2_clear_23 : decode cJ2_clear 23 = .ok (.putfield 48, 3) := dk_181 0 48 (dk_at dksJ2_clear_1 0 rfl rfl)
theorem dJ2_clear_26 : decode cJ2_clear 26 = .ok (.istore_n 3, 1) := dk_62 (dk_at dksJ2_clear_1 3 rfl rfl)
theorem dJ2_clear_27 : decode cJ2_clear 27 = .ok (.iload_n 3, 1) := dk_29 (dk_at dksJ2_clear_1 4 rfl rfl)
theorem dJ2_clear_28 : decode cJ2_clear 28 = .ok (.iload_n 2, 1) := dk_28 (dk_at dksJ2_clear_1 5 rfl rfl)
theorem dJ2_clear_29 : decode cJ2_clear 29 = .ok (.if_icmp .ge 13, 3) := dk_162 0 13 (dk_at dksJ2_clear_1 6 rfl rfl)
theorem dJ2_clear_32 : decode cJ2_clear 32 = .ok (.aload_n 1, 1) := dk_43 (dk_at dksJ2_clear_1 9 rfl rfl)
theorem dJ2_clear_33 : decode cJ2_clear 33 = .ok (.iload_n 3, 1) := dk_29 (dk_at dksJ2_clear_1 10 rfl rfl)
theorem dJ2_clear_34 : decode cJ2_clear 34 = .ok (.aconst_null, 1) := dk_1 (dk_at dksJ2_clear_1 11 rfl rfl)
theorem dJ2_clear_35 : decode cJ2_clear 35 = .ok (.aastore, 1) := dk_83 (dk_at dksJ2_clear_1 12 rfl rfl)
theorem dJ2_clear_36 : decode cJ2_clear 36 = .ok (.iinc 3 1, 3) := dk_132 3 1 (dk_at dksJ2_clear_1 13 rfl rfl)
theorem dJ2_clear_39 : decode cJ2_clear 39 = .ok (.goto (-12), 3) := dk_167 255 244 (dk_at dksJ2_clear_1 16 rfl rfl)
theorem dJ2_clear_42 : decode cJ2_clear 42 = .ok (.return_, 1) := dk_177 (dk_at dksJ2_clear_1 19 rfl rfl)
abbrev cJ2_addAll : ByteArray := prog_40_method_41_code
def yJ2_addAll : MethodName := ⟨RJ2, "addAll", "(Ljava/util/Collection;)Z"⟩
def dkwJ2_addAll_3 : List UInt8 := [181, 0, 48, 4, 172]
abbrev dktJ2_addAll_3 : List UInt8 := dkwJ2_addAll_3 ++ []
def dkwJ2_addAll_2 : List UInt8 := [21, 5, 29, 96, 182, 0, 69, 58, 4, 44, 3, 25, 4, 21, 5, 29, 184, 0, 112, 42, 21, 5, 29, 96]
abbrev dktJ2_addAll_2 : List UInt8 := dkwJ2_addAll_2 ++ dktJ2_addAll_3
def dkwJ2_addAll_1 : List UInt8 := [3, 172, 29, 42, 180, 0, 9, 89, 58, 4, 190, 42, 180, 0, 48, 89, 54, 5, 100, 164, 0, 13, 42]
abbrev dktJ2_addAll_1 : List UInt8 := dkwJ2_addAll_1 ++ dktJ2_addAll_2
def dkwJ2_addAll_0 : List UInt8 := [43, 185, 0, 42, 1, 0, 77, 42, 89, 180, 0, 63, 4, 96, 181, 0, 63, 44, 190, 62, 29, 154, 0, 5]
abbrev dktJ2_addAll_0 : List UInt8 := dkwJ2_addAll_0 ++ dktJ2_addAll_1
theorem dksJ2_addAll_0 : cJ2_addAll.data.toList.drop 0 = dktJ2_addAll_0 := by decide +kernel
theorem dksJ2_addAll_1 : cJ2_addAll.data.toList.drop 24 = dktJ2_addAll_1 := dk_seg dksJ2_addAll_0 24 rfl rfl
theorem dksJ2_addAll_2 : cJ2_addAll.data.toList.drop 47 = dktJ2_addAll_2 := dk_seg dksJ2_addAll_1 23 rfl rfl
theorem dksJ2_addAll_3 : cJ2_addAll.data.toList.drop 71 = dktJ2_addAll_3 := dk_seg dksJ2_addAll_2 24 rfl rfl
theorem dJ2_addAll_0 : decode cJ2_addAll 0 = .ok (.aload_n 1, 1) := dk_43 (dk_at dksJ2_addAll_0 0 rfl rfl)
theorem dJ2_addAll_1 : decode cJ2_addAll 1 = .ok (.invokeinterface 42 1, 5) := by decide +kernel
theorem dJ2_addAll_6 : decode cJ2_addAll 6 = .ok (.astore_n 2, 1) := dk_77 (dk_at dksJ2_addAll_0 6 rfl rfl)
theorem dJ2_addAll_7 : decode cJ2_addAll 7 = .ok (.aload_n 0, 1) := dk_42 (dk_at dksJ2_addAll_0 7 rfl rfl)
theorem dJ2_addAll_8 : decode cJ2_addAll 8 = .ok (.dup, 1) := dk_89 (dk_at dksJ2_addAll_0 8 rfl rfl)
theorem dJ2_addAll_9 : decode cJ2_addAll 9 = .ok (.getfield 63, 3) := dk_180 0 63 (dk_at dksJ2_addAll_0 9 rfl rfl)
theorem dJ2_addAll_12 : decode cJ2_addAll 12 = .ok (.iconst 1, 1) := dk_4 (dk_at dksJ2_addAll_0 12 rfl rfl)
theorem dJ2_addAll_13 : decode cJ2_addAll 13 = .ok (.iadd, 1) := dk_96 (dk_at dksJ2_addAll_0 13 rfl rfl)
theorem dJ2_addAll_14 : decode cJ2_addAll 14 = .ok (.putfield 63, 3) := dk_181 0 63 (dk_at dksJ2_addAll_0 14 rfl rfl)
theorem dJ2_addAll_17 : decode cJ2_addAll 17 = .ok (.aload_n 2, 1) := dk_44 (dk_at dksJ2_addAll_0 17 rfl rfl)
theorem dJ2_addAll_18 : decode cJ2_addAll 18 = .ok (.arraylength, 1) := dk_190 (dk_at dksJ2_addAll_0 18 rfl rfl)
theorem dJ2_addAll_19 : decode cJ2_addAll 19 = .ok (.istore_n 3, 1) := dk_62 (dk_at dksJ2_addAll_0 19 rfl rfl)
theorem dJ2_addAll_20 : decode cJ2_addAll 20 = .ok (.iload_n 3, 1) := dk_29 (dk_at dksJ2_addAll_0 20 rfl rfl)
theorem dJ2_addAll_21 : decode cJ2_addAll 21 = .ok (.ifCond .ne 5, 3) := dk_154 0 5 (dk_at dksJ2_addAll_0 21 rfl rfl)
theorem dJ2_addAll_24 : decode cJ2_addAll 24 = .ok (.iconst 0, 1) := dk_3 (dk_at dksJ2_addAll_1 0 rfl rfl)
theorem dJ2_addAll_25 : decode cJ2_addAll 25 = .ok (.ireturn, 1) := dk_172 (dk_at dksJ2_addAll_1 1 rfl rfl)
theorem dJ2_addAll_26 : decode cJ2_addAll 26 = .ok (.iload_n 3, 1) := dk_29 (dk_at dksJ2_addAll_1 2 rfl rfl)
theorem dJ2_addAll_27 : decode cJ2_addAll 27 = .ok (.aload_n 0, 1) := dk_42 (dk_at dksJ2_addAll_1 3 rfl rfl)
theorem dJ2_addAll_28 : decode cJ2_addAll 28 = .ok (.getfield 9, 3) := dk_180 0 9 (dk_at dksJ2_addAll_1 4 rfl rfl)
theorem dJ2_addAll_31 : decode cJ2_addAll 31 = .ok (.dup, 1) := dk_89 (dk_at dksJ2_addAll_1 7 rfl rfl)
theorem dJ2_addAll_32 : decode cJ2_addAll 32 = .ok (.astore 4, 2) := dk_58 4 (dk_at dksJ2_addAll_1 8 rfl rfl)
theorem dJ2_addAll_34 : decode cJ2_addAll 34 = .ok (.arraylength, 1) := dk_190 (dk_at dksJ2_addAll_1 10 rfl rfl)
theorem dJ2_addAll_35 : decode cJ2_addAll 35 = .ok (.aload_n 0, 1) := dk_42 (dk_at dksJ2_addAll_1 11 rfl rfl)
theorem dJ2_addAll_36 : decode cJ2_addAll 36 = .ok (.getfield 48, 3) := dk_180 0 48 (dk_at dksJ2_addAll_1 12 rfl rfl)
theorem dJ2_addAll_39 : decode cJ2_addAll 39 = .ok (.dup, 1) := dk_89 (dk_at dksJ2_addAll_1 15 rfl rfl)
theorem dJ2_addAll_40 : decode cJ2_addAll 40 = .ok (.istore 5, 2) := dk_54 5 (dk_at dksJ2_addAll_1 16 rfl rfl)
theorem dJ2_addAll_42 : decode cJ2_addAll 42 = .ok (.isub, 1) := dk_100 (dk_at dksJ2_addAll_1 18 rfl rfl)
theorem dJ2_addAll_43 : decode cJ2_addAll 43 = .ok (.if_icmp .le 13, 3) := dk_164 0 13 (dk_at dksJ2_addAll_1 19 rfl rfl)
theorem dJ2_addAll_46 : decode cJ2_addAll 46 = .ok (.aload_n 0, 1) := dk_42 (dk_at dksJ2_addAll_1 22 rfl rfl)
theorem dJ2_addAll_47 : decode cJ2_addAll 47 = .ok (.iload 5, 2) := dk_21 5 (dk_at dksJ2_addAll_2 0 rfl rfl)
theorem dJ2_addAll_49 : decode cJ2_addAll 49 = .ok (.iload_n 3, 1) := dk_29 (dk_at dksJ2_addAll_2 2 rfl rfl)
theorem dJ2_addAll_50 : decode cJ2_addAll 50 = .ok (.iadd, 1) := dk_96 (dk_at dksJ2_addAll_2 3 rfl rfl)
theorem dJ2_addAll_51 : decode cJ2_addAll 51 = .ok (.invokevirtual 69, 3) := dk_182 0 69 (dk_at dksJ2_addAll_2 4 rfl rfl)
theorem dJ2_addAll_54 : decode cJ2_addAll 54 = .ok (.astore 4, 2) := dk_58 4 (dk_at dksJ2_addAll_2 7 rfl rfl)
theorem dJ2_addAll_56 : decode cJ2_addAll 56 = .ok (.aload_n 2, 1) := dk_44 (dk_at dksJ2_addAll_2 9 rfl rfl)
theorem dJ2_addAll_57 : decode cJ2_addAll 57 = .ok (.iconst 0, 1) := dk_3 (dk_at dksJ2_addAll_2 10 rfl rfl)
theorem dJ2_addAll_58 : decode cJ2_addAll 58 = .ok (.aload 4, 2) := dk_25 4 (dk_at dksJ2_addAll_2 11 rfl rfl)
theorem dJ2_addAll_60 : decode cJ2_addAll 60 = .ok (.iload 5, 2) := dk_21 5 (dk_at dksJ2_addAll_2 13 rfl rfl)
theorem dJ2_addAll_62 : decode cJ2_addAll 62 = .ok (.iload_n 3, 1) := dk_29 (dk_at dksJ2_addAll_2 15 rfl rfl)
theorem dJ2_addAll_63 : decode cJ2_addAll 63 = .ok (.invokestatic 112, 3) := dk_184 0 112 (dk_at dksJ2_addAll_2 16 rfl rfl)
theorem dJ2_addAll_66 : decode cJ2_addAll 66 = .ok (.aload_n 0, 1) := dk_42 (dk_at dksJ2_addAll_2 19 rfl rfl)
theorem dJ2_addAll_67 : decode cJ2_addAll 67 = .ok (.iload 5, 2) := dk_21 5 (dk_at dksJ2_addAll_2 20 rfl rfl)
theorem dJ2_addAll_69 : decode cJ2_addAll 69 = .ok (.iload_n 3, 1) := dk_29 (dk_at dksJ2_addAll_2 22 rfl rfl)
theorem dJ2_addAll_70 : decode cJ2_addAll 70 = .ok (.iadd, 1) := dk_96 (dk_at dksJ2_addAll_2 23 rfl rfl)
theorem dJ2_addAll_71 : decode cJ2_addAll 71 = .ok (.putfield 48, 3) := dk_181 0 48 (dk_at dksJ2_addAll_3 0 rfl rfl)
theorem dJ2_addAll_74 : decode cJ2_addAll 74 = .ok (.iconst 1, 1) := dk_4 (dk_at dksJ2_addAll_3 3 rfl rfl)
theorem dJ2_addAll_75 : decode cJ2_addAll 75 = .ok (.ireturn, 1) := dk_172 (dk_at dksJ2_addAll_3 4 rfl rfl)
abbrev cJ2_toArray : ByteArray := prog_40_method_16_code
def yJ2_toArray : MethodName := ⟨RJ2, "toArray", "()[Ljava/lang/Object;"⟩
def dkwJ2_toArray_0 : List UInt8 := [42, 180, 0, 9, 42, 180, 0, 48, 184, 0, 66, 176]
abbrev dktJ2_toArray_0 : List UInt8 := dkwJ2_toArray_0 ++ []
theorem dksJ2_toArray_0 : cJ2_toArray.data.toList.drop 0 = dktJ2_toArray_0 := by decide +kernel
theorem dJ2_toArray_0 : decode cJ2_toArray 0 = .ok (.aload_n 0, 1) := dk_42 (dk_at dksJ2_toArray_0 0 rfl rfl)
theorem dJ2_toArray_1 : decode cJ2_toArray 1 = .ok (.getfield 9, 3) := dk_180 0 9 (dk_at dksJ2_toArray_0 1 rfl rfl)
theorem dJ2_toArray_4 : decode cJ2_toArray 4 = .ok (.aload_n 0, 1) := dk_42 (dk_at dksJ2_toArray_0 4 rfl rfl)
theorem dJ2_toArray_5 : decode cJ2_toArray 5 = .ok (.getfield 48, 3) := dk_180 0 48 (dk_at dksJ2_toArray_0 5 rfl rfl)
theorem dJ2_toArray_8 : decode cJ2_toArray 8 = .ok (.invokestatic 66, 3) := dk_184 0 66 (dk_at dksJ2_toArray_0 8 rfl rfl)
theorem dJ2_toArray_11 : decode cJ2_toArray 11 = .ok (.areturn, 1) := dk_176 (dk_at dksJ2_toArray_0 11 rfl rfl)
abbrev cJ2_grow : ByteArray := prog_40_method_6_code
def yJ2_grow : MethodName := ⟨RJ2, "grow", "(I)[Ljava/lang/Object;"⟩
def dkwJ2_grow_2 : List UInt8 := [27, 184, 0, 79, 189, 0, 7, 90, 181, 0, 9, 176]
abbrev dktJ2_grow_2 : List UInt8 := dkwJ2_grow_2 ++ []
def dkwJ2_grow_1 : List UInt8 := [28, 4, 122, 184, 0, 73, 62, 42, 42, 180, 0, 9, 29, 184, 0, 66, 90, 181, 0, 9, 176, 42, 16, 10]
abbrev dktJ2_grow_1 : List UInt8 := dkwJ2_grow_1 ++ dktJ2_grow_2
def dkwJ2_grow_0 : List UInt8 := [42, 180, 0, 9, 190, 61, 28, 157, 0, 13, 42, 180, 0, 9, 178, 0, 39, 165, 0, 28, 28, 27, 28, 100]
abbrev dktJ2_grow_0 : List UInt8 := dkwJ2_grow_0 ++ dktJ2_grow_1
theorem dksJ2_grow_0 : cJ2_grow.data.toList.drop 0 = dktJ2_grow_0 := by decide +kernel
theorem dksJ2_grow_1 : cJ2_grow.data.toList.drop 24 = dktJ2_grow_1 := dk_seg dksJ2_grow_0 24 rfl rfl
theorem dksJ2_grow_2 : cJ2_grow.data.toList.drop 48 = dktJ2_grow_2 := dk_seg dksJ2_grow_1 24 rfl rfl
theorem dJ2_grow_0 : decode cJ2_grow 0 = .ok (.aload_n 0, 1) := dk_42 (dk_at dksJ2_grow_0 0 rfl rfl)
theorem dJ2_grow_1 : decode cJ2_grow 1 = .ok (.getfield 9, 3) := dk_180 0 9 (dk_at dksJ2_grow_0 1 rfl rfl)
theorem dJ2_grow_4 : decode cJ2_grow 4 = .ok (.arraylength, 1) := dk_190 (dk_at dksJ2_grow_0 4 rfl rfl)
theorem dJ2_grow_5 : decode cJ2_grow 5 = .ok (.istore_n 2, 1) := dk_61 (dk_at dksJ2_grow_0 5 rfl rfl)
theorem dJ2_grow_6 : decode cJ2_grow 6 = .ok (.iload_n 2, 1) := dk_28 (dk_at dksJ2_grow_0 6 rfl rfl)
theorem dJ2_grow_7 : decode cJ2_grow 7 = .ok (.ifCond .gt 13, 3) := dk_157 0 13 (dk_at dksJ2_grow_0 7 rfl rfl)
theorem dJ2_grow_10 : decode cJ2_grow 10 = .ok (.aload_n 0, 1) := dk_42 (dk_at dksJ2_grow_0 10 rfl rfl)
theorem dJ2_grow_11 : decode cJ2_grow 11 = .ok (.getfield 9, 3) := dk_180 0 9 (dk_at dksJ2_grow_0 11 rfl rfl)
theorem dJ2_grow_14 : decode cJ2_grow 14 = .ok (.getstatic 39, 3) := dk_178 0 39 (dk_at dksJ2_grow_0 14 rfl rfl)
theorem dJ2_grow_17 : decode cJ2_grow 17 = .ok (.if_acmp .eq 28, 3) := dk_165 0 28 (dk_at dksJ2_grow_0 17 rfl rfl)
theorem dJ2_grow_20 : decode cJ2_grow 20 = .ok (.iload_n 2, 1) := dk_28 (dk_at dksJ2_grow_0 20 rfl rfl)
theorem dJ2_grow_21 : decode cJ2_grow 21 = .ok (.iload_n 1, 1) := dk_27 (dk_at dksJ2_grow_0 21 rfl rfl)
theorem dJ2_grow_22 : decode cJ2_grow 22 = .ok (.iload_n 2, 1) := dk_28 (dk_at dksJ2_grow_0 22 rfl rfl)
theorem dJ2_grow_23 : decode cJ2_grow 23 = .ok (.isub, 1) := dk_100 (dk_at dksJ2_grow_0 23 rfl rfl)
theorem dJ2_grow_24 : decode cJ2_grow 24 = .ok (.iload_n 2, 1) := dk_28 (dk_at dksJ2_grow_1 0 rfl rfl)
theorem dJ2_grow_25 : decode cJ2_grow 25 = .ok (.iconst 1, 1) := dk_4 (dk_at dksJ2_grow_1 1 rfl rfl)
theorem dJ2_grow_26 : decode cJ2_grow 26 = .ok (.ishr, 1) := dk_122 (dk_at dksJ2_grow_1 2 rfl rfl)
theorem dJ2_grow_27 : decode cJ2_grow 27 = .ok (.invokestatic 73, 3) := dk_184 0 73 (dk_at dksJ2_grow_1 3 rfl rfl)
theorem dJ2_grow_30 : decode cJ2_grow 30 = .ok (.istore_n 3, 1) := dk_62 (dk_at dksJ2_grow_1 6 rfl rfl)
theorem dJ2_grow_31 : decode cJ2_grow 31 = .ok (.aload_n 0, 1) := dk_42 (dk_at dksJ2_grow_1 7 rfl rfl)
theorem dJ2_grow_32 : decode cJ2_grow 32 = .ok (.aload_n 0, 1) := dk_42 (dk_at dksJ2_grow_1 8 rfl rfl)
theorem dJ2_grow_33 : decode cJ2_grow 33 = .ok (.getfield 9, 3) := dk_180 0 9 (dk_at dksJ2_grow_1 9 rfl rfl)
theorem dJ2_grow_36 : decode cJ2_grow 36 = .ok (.iload_n 3, 1) := dk_29 (dk_at dksJ2_grow_1 12 rfl rfl)
theorem dJ2_grow_37 : decode cJ2_grow 37 = .ok (.invokestatic 66, 3) := dk_184 0 66 (dk_at dksJ2_grow_1 13 rfl rfl)
theorem dJ2_grow_40 : decode cJ2_grow 40 = .ok (.dup_x1, 1) := dk_90 (dk_at dksJ2_grow_1 16 rfl rfl)
theorem dJ2_grow_41 : decode cJ2_grow 41 = .ok (.putfield 9, 3) := dk_181 0 9 (dk_at dksJ2_grow_1 17 rfl rfl)
theorem dJ2_grow_44 : decode cJ2_grow 44 = .ok (.areturn, 1) := dk_176 (dk_at dksJ2_grow_1 20 rfl rfl)
theorem dJ2_grow_45 : decode cJ2_grow 45 = .ok (.aload_n 0, 1) := dk_42 (dk_at dksJ2_grow_1 21 rfl rfl)
theorem dJ2_grow_46 : decode cJ2_grow 46 = .ok (.bipush 10, 2) := dk_16 10 (dk_at dksJ2_grow_1 22 rfl rfl)
theorem dJ2_grow_48 : decode cJ2_grow 48 = .ok (.iload_n 1, 1) := dk_27 (dk_at dksJ2_grow_2 0 rfl rfl)
theorem dJ2_grow_49 : decode cJ2_grow 49 = .ok (.invokestatic 79, 3) := dk_184 0 79 (dk_at dksJ2_grow_2 1 rfl rfl)
theorem dJ2_grow_52 : decode cJ2_grow 52 = .ok (.anewarray 7, 3) := dk_189 0 7 (dk_at dksJ2_grow_2 4 rfl rfl)
theorem dJ2_grow_55 : decode cJ2_grow 55 = .ok (.dup_x1, 1) := dk_90 (dk_at dksJ2_grow_2 7 rfl rfl)
theorem dJ2_grow_56 : decode cJ2_grow 56 = .ok (.putfield 9, 3) := dk_181 0 9 (dk_at dksJ2_grow_2 8 rfl rfl)
theorem dJ2_grow_59 : decode cJ2_grow 59 = .ok (.areturn, 1) := dk_176 (dk_at dksJ2_grow_2 11 rfl rfl)
abbrev cJ2_get : ByteArray := prog_40_method_20_code
def yJ2_get : MethodName := ⟨RJ2, "get", "(I)Ljava/lang/Object;"⟩
def dkwJ2_get_0 : List UInt8 := [27, 42, 180, 0, 48, 184, 0, 118, 87, 42, 27, 182, 0, 123, 176]
abbrev dktJ2_get_0 : List UInt8 := dkwJ2_get_0 ++ []
theorem dksJ2_get_0 : cJ2_get.data.toList.drop 0 = dktJ2_get_0 := by decide +kernel
theorem dJ2_get_0 : decode cJ2_get 0 = .ok (.iload_n 1, 1) := dk_27 (dk_at dksJ2_get_0 0 rfl rfl)
theorem dJ2_get_1 : decode cJ2_get 1 = .ok (.aload_n 0, 1) := dk_42 (dk_at dksJ2_get_0 1 rfl rfl)
theorem dJ2_get_2 : decode cJ2_get 2 = .ok (.getfield 48, 3) := dk_180 0 48 (dk_at dksJ2_get_0 2 rfl rfl)
theorem dJ2_get_5 : decode cJ2_get 5 = .ok (.invokestatic 118, 3) := dk_184 0 118 (dk_at dksJ2_get_0 5 rfl rfl)
theorem dJ2_get_8 : decode cJ2_get 8 = .ok (.pop, 1) := dk_87 (dk_at dksJ2_get_0 8 rfl rfl)
theorem dJ2_get_9 : decode cJ2_get 9 = .ok (.aload_n 0, 1) := dk_42 (dk_at dksJ2_get_0 9 rfl rfl)
theorem dJ2_get_10 : decode cJ2_get 10 = .ok (.iload_n 1, 1) := dk_27 (dk_at dksJ2_get_0 10 rfl rfl)
theorem dJ2_get_11 : decode cJ2_get 11 = .ok (.invokevirtual 123, 3) := dk_182 0 123 (dk_at dksJ2_get_0 11 rfl rfl)
theorem dJ2_get_14 : decode cJ2_get 14 = .ok (.areturn, 1) := dk_176 (dk_at dksJ2_get_0 14 rfl rfl)
abbrev cJ2_elementData : ByteArray := prog_40_method_18_code
def yJ2_elementData : MethodName := ⟨RJ2, "elementData", "(I)Ljava/lang/Object;"⟩
def dkwJ2_elementData_0 : List UInt8 := [42, 180, 0, 9, 27, 50, 176]
abbrev dktJ2_elementData_0 : List UInt8 := dkwJ2_elementData_0 ++ []
theorem dksJ2_elementData_0 : cJ2_elementData.data.toList.drop 0 = dktJ2_elementData_0 := by decide +kernel
theorem dJ2_elementData_0 : decode cJ2_elementData 0 = .ok (.aload_n 0, 1) := dk_42 (dk_at dksJ2_elementData_0 0 rfl rfl)
theorem dJ2_elementData_1 : decode cJ2_elementData 1 = .ok (.getfield 9, 3) := dk_180 0 9 (dk_at dksJ2_elementData_0 1 rfl rfl)
theorem dJ2_elementData_4 : decode cJ2_elementData 4 = .ok (.iload_n 1, 1) := dk_27 (dk_at dksJ2_elementData_0 4 rfl rfl)
theorem dJ2_elementData_5 : decode cJ2_elementData 5 = .ok (.aaload, 1) := dk_50 (dk_at dksJ2_elementData_0 5 rfl rfl)
theorem dJ2_elementData_6 : decode cJ2_elementData 6 = .ok (.areturn, 1) := dk_176 (dk_at dksJ2_elementData_0 6 rfl rfl)
abbrev cJ2_size : ByteArray := prog_40_method_8_code
def yJ2_size : MethodName := ⟨RJ2, "size", "()I"⟩
theorem dJ2_size_0 : decode cJ2_size 0 = .ok (.aload_n 0, 1) := by decide +kernel
theorem dJ2_size_1 : decode cJ2_size 1 = .ok (.getfield 48, 3) := by decide +kernel
theorem dJ2_size_4 : decode cJ2_size 4 = .ok (.ireturn, 1) := by decide +kernel
abbrev cJ2_add : ByteArray := prog_40_method_25_code
def yJ2_add : MethodName := ⟨RJ2, "add", "(Ljava/lang/Object;)Z"⟩
def dkwJ2_add_1 : List UInt8 := [172]
abbrev dktJ2_add_1 : List UInt8 := dkwJ2_add_1 ++ []
def dkwJ2_add_0 : List UInt8 := [42, 89, 180, 0, 63, 4, 96, 181, 0, 63, 42, 43, 42, 180, 0, 9, 42, 180, 0, 48, 182, 0, 131, 4]
abbrev dktJ2_add_0 : List UInt8 := dkwJ2_add_0 ++ dktJ2_add_1
theorem dksJ2_add_0 : cJ2_add.data.toList.drop 0 = dktJ2_add_0 := by decide +kernel
theorem dksJ2_add_1 : cJ2_add.data.toList.drop 24 = dktJ2_add_1 := dk_seg dksJ2_add_0 24 rfl rfl
theorem dJ2_add_0 : decode cJ2_add 0 = .ok (.aload_n 0, 1) := dk_42 (dk_at dksJ2_add_0 0 rfl rfl)
theorem dJ2_add_1 : decode cJ2_add 1 = .ok (.dup, 1) := dk_89 (dk_at dksJ2_add_0 1 rfl rfl)
theorem dJ2_add_2 : decode cJ2_add 2 = .ok (.getfield 63, 3) := dk_180 0 63 (dk_at dksJ2_add_0 2 rfl rfl)
theorem dJ2_add_5 : decode cJ2_add 5 = .ok (.iconst 1, 1) := dk_4 (dk_at dksJ2_add_0 5 rfl rfl)
theorem dJ2_add_6 : decode cJ2_add 6 = .ok (.iadd, 1) := dk_96 (dk_at dksJ2_add_0 6 rfl rfl)
theorem dJ2_add_7 : decode cJ2_add 7 = .ok (.putfield 63, 3) := dk_181 0 63 (dk_at dksJ2_add_0 7 rfl rfl)
theorem dJ2_add_10 : decode cJ2_add 10 = .ok (.aload_n 0, 1) := dk_42 (dk_at dksJ2_add_0 10 rfl rfl)
theorem dJ2_add_11 : decode cJ2_add 11 = .ok (.aload_n 1, 1) := dk_43 (dk_at dksJ2_add_0 11 rfl rfl)
theorem dJ2_add_12 : decode cJ2_add 12 = .ok (.aload_n 0, 1) := dk_42 (dk_at dksJ2_add_0 12 rfl rfl)
theorem dJ2_add_13 : decode cJ2_add 13 = .ok (.getfield 9, 3) := dk_180 0 9 (dk_at dksJ2_add_0 13 rfl rfl)
theorem dJ2_add_16 : decode cJ2_add 16 = .ok (.aload_n 0, 1) := dk_42 (dk_at dksJ2_add_0 16 rfl rfl)
theorem dJ2_add_17 : decode cJ2_add 17 = .ok (.getfield 48, 3) := dk_180 0 48 (dk_at dksJ2_add_0 17 rfl rfl)
theorem dJ2_add_20 : decode cJ2_add 20 = .ok (.invokevirtual 131, 3) := dk_182 0 131 (dk_at dksJ2_add_0 20 rfl rfl)
theorem dJ2_add_23 : decode cJ2_add 23 = .ok (.iconst 1, 1) := dk_4 (dk_at dksJ2_add_0 23 rfl rfl)
theorem dJ2_add_24 : decode cJ2_add 24 = .ok (.ireturn, 1) := dk_172 (dk_at dksJ2_add_1 0 rfl rfl)
abbrev cJ2_add_2 : ByteArray := prog_40_method_24_code
def yJ2_add_2 : MethodName := ⟨RJ2, "add", "(Ljava/lang/Object;[Ljava/lang/Object;I)V"⟩
def dkwJ2_add_2_0 : List UInt8 := [29, 44, 190, 160, 0, 8, 42, 182, 0, 129, 77, 44, 29, 43, 83, 42, 29, 4, 96, 181, 0, 48, 177]
abbrev dktJ2_add_2_0 : List UInt8 := dkwJ2_add_2_0 ++ []
theorem dksJ2_add_2_0 : cJ2_add_2.data.toList.drop 0 = dktJ2_add_2_0 := by decide +kernel
theorem dJ2_add_2_0 : decode cJ2_add_2 0 = .ok (.iload_n 3, 1) := dk_29 (dk_at dksJ2_add_2_0 0 rfl rfl)
theorem dJ2_add_2_1 : decode cJ2_add_2 1 = .ok (.aload_n 2, 1) := dk_44 (dk_at dksJ2_add_2_0 1 rfl rfl)
theorem dJ2_add_2_2 : decode cJ2_add_2 2 = .ok (.arraylength, 1) := dk_190 (dk_at dksJ2_add_2_0 2 rfl rfl)
theorem dJ2_add_2_3 : decode cJ2_add_2 3 = .ok (.if_icmp .ne 8, 3) := dk_160 0 8 (dk_at dksJ2_add_2_0 3 rfl rfl)
theorem dJ2_add_2_6 : decode cJ2_add_2 6 = .ok (.aload_n 0, 1) := dk_42 (dk_at dksJ2_add_2_0 6 rfl rfl)
theorem dJ2_add_2_7 : decode cJ2_add_2 7 = .ok (.invokevirtual 129, 3) := dk_182 0 129 (dk_at dksJ2_add_2_0 7 rfl rfl)
theorem dJ2_add_2_10 : decode cJ2_add_2 10 = .ok (.astore_n 2, 1) := dk_77 (dk_at dksJ2_add_2_0 10 rfl rfl)
theorem dJ2_add_2_11 : decode cJ2_add_2 11 = .ok (.aload_n 2, 1) := dk_44 (dk_at dksJ2_add_2_0 11 rfl rfl)
theorem dJ2_add_2_12 : decode cJ2_add_2 12 = .ok (.iload_n 3, 1) := dk_29 (dk_at dksJ2_add_2_0 12 rfl rfl)
theorem dJ2_add_2_13 : decode cJ2_add_2 13 = .ok (.aload_n 1, 1) := dk_43 (dk_at dksJ2_add_2_0 13 rfl rfl)
theorem dJ2_add_2_14 : decode cJ2_add_2 14 = .ok (.aastore, 1) := dk_83 (dk_at dksJ2_add_2_0 14 rfl rfl)
theorem dJ2_add_2_15 : decode cJ2_add_2 15 = .ok (.aload_n 0, 1) := dk_42 (dk_at dksJ2_add_2_0 15 rfl rfl)
theorem dJ2_add_2_16 : decode cJ2_add_2 16 = .ok (.iload_n 3, 1) := dk_29 (dk_at dksJ2_add_2_0 16 rfl rfl)
theorem dJ2_add_2_17 : decode cJ2_add_2 17 = .ok (.iconst 1, 1) := dk_4 (dk_at dksJ2_add_2_0 17 rfl rfl)
theorem dJ2_add_2_18 : decode cJ2_add_2 18 = .ok (.iadd, 1) := dk_96 (dk_at dksJ2_add_2_0 18 rfl rfl)
theorem dJ2_add_2_19 : decode cJ2_add_2 19 = .ok (.putfield 48, 3) := dk_181 0 48 (dk_at dksJ2_add_2_0 19 rfl rfl)
theorem dJ2_add_2_22 : decode cJ2_add_2 22 = .ok (.return_, 1) := dk_177 (dk_at dksJ2_add_2_0 22 rfl rfl)
abbrev cJ2_grow_2 : ByteArray := prog_40_method_7_code
def yJ2_grow_2 : MethodName := ⟨RJ2, "grow", "()[Ljava/lang/Object;"⟩
def dkwJ2_grow_2_0 : List UInt8 := [42, 42, 180, 0, 48, 4, 96, 182, 0, 69, 176]
abbrev dktJ2_grow_2_0 : List UInt8 := dkwJ2_grow_2_0 ++ []
theorem dksJ2_grow_2_0 : cJ2_grow_2.data.toList.drop 0 = dktJ2_grow_2_0 := by decide +kernel
theorem dJ2_grow_2_0 : decode cJ2_grow_2 0 = .ok (.aload_n 0, 1) := dk_42 (dk_at dksJ2_grow_2_0 0 rfl rfl)
theorem dJ2_grow_2_1 : decode cJ2_grow_2 1 = .ok (.aload_n 0, 1) := dk_42 (dk_at dksJ2_grow_2_0 1 rfl rfl)
theorem dJ2_grow_2_2 : decode cJ2_grow_2 2 = .ok (.getfield 48, 3) := dk_180 0 48 (dk_at dksJ2_grow_2_0 2 rfl rfl)
theorem dJ2_grow_2_5 : decode cJ2_grow_2 5 = .ok (.iconst 1, 1) := dk_4 (dk_at dksJ2_grow_2_0 5 rfl rfl)
theorem dJ2_grow_2_6 : decode cJ2_grow_2 6 = .ok (.iadd, 1) := dk_96 (dk_at dksJ2_grow_2_0 6 rfl rfl)
theorem dJ2_grow_2_7 : decode cJ2_grow_2 7 = .ok (.invokevirtual 69, 3) := dk_182 0 69 (dk_at dksJ2_grow_2_0 7 rfl rfl)
theorem dJ2_grow_2_10 : decode cJ2_grow_2 10 = .ok (.areturn, 1) := dk_176 (dk_at dksJ2_grow_2_0 10 rfl rfl)
theorem q116 : (Jvm.Cond.initialized "java/util/ArrayList") ∈ lw_all := lw_g (lw_at lw_m1 6 rfl) rfl
theorem q187 : (Jvm.Cond.instantiable "java/util/ArrayList" (3 : Nat)) ∈ lw_all := lw_g (lw_at lw_m1 77 rfl) rfl
theorem q189 : (Jvm.Cond.instanceMethod ({ cls := "java/util/ArrayList", name := "<init>", desc := "(I)V" } : Jvm.MethodName)) ∈ lw_all := lw_g (lw_at lw_m1 79 rfl) rfl
theorem q190 : (Jvm.Cond.code ({ cls := "java/util/ArrayList", name := "<init>", desc := "(I)V" } : Jvm.MethodName) prog_40_method_1_code (2 : Nat) (Option.none : Option Jvm.ClassFile.FieldType)) ∈ lw_all := lw_g (lw_at lw_m1 80 rfl) rfl
theorem q191 : (Jvm.Cond.methodLink "java/util/ArrayList" (1 : Nat) ({ cls := "java/util/AbstractList", name := "<init>", desc := "()V" } : Jvm.MethodName)) ∈ lw_all := lw_g (lw_at lw_m1 81 rfl) rfl
theorem q198 : (Jvm.Cond.classLink "java/util/ArrayList" (7 : Nat) "java/lang/Object") ∈ lw_all := lw_g (lw_at lw_m1 88 rfl) rfl
theorem q200 : (Jvm.Cond.fieldLink "java/util/ArrayList" (15 : Nat) "java/util/ArrayList" "EMPTY_ELEMENTDATA" "[Ljava/lang/Object;") ∈ lw_all := lw_g (lw_at lw_m1 90 rfl) rfl
theorem q201 : (Jvm.Cond.laysStatic "java/util/ArrayList" "EMPTY_ELEMENTDATA" "[Ljava/lang/Object;") ∈ lw_tbl := lw_at lw_m1 91 rfl
theorem q202 : (Jvm.Cond.fieldLink "java/util/ArrayList" (9 : Nat) "java/util/ArrayList" "elementData" "[Ljava/lang/Object;") ∈ lw_all := lw_g (lw_at lw_m1 92 rfl) rfl
theorem q203 : (Jvm.Cond.fieldLink "java/util/ArrayList" (48 : Nat) "java/util/ArrayList" "size" "I") ∈ lw_all := lw_g (lw_at lw_m1 93 rfl) rfl
theorem q205 : (Jvm.Cond.fieldLink "java/util/ArrayList" (63 : Nat) "java/util/ArrayList" "modCount" "I") ∈ lw_all := lw_g (lw_at lw_m1 95 rfl) rfl
theorem q206 : (Jvm.Cond.sameField "java/util/ArrayList" "java/util/AbstractList" "modCount" "I") ∈ lw_all := lw_g (lw_at lw_m1 96 rfl) rfl
theorem q207 : (Jvm.Cond.lays "java/util/ArrayList" "java/util/ArrayList" "elementData" "[Ljava/lang/Object;") ∈ lw_all := lw_g (lw_at lw_m1 97 rfl) rfl
theorem q208 : (Jvm.Cond.soleField "java/util/ArrayList" "elementData") ∈ lw_all := lw_g (lw_at lw_m1 98 rfl) rfl
theorem q209 : (Jvm.Cond.lays "java/util/ArrayList" "java/util/ArrayList" "size" "I") ∈ lw_all := lw_g (lw_at lw_m1 99 rfl) rfl
theorem q210 : (Jvm.Cond.soleField "java/util/ArrayList" "size") ∈ lw_all := lw_g (lw_at lw_m1 100 rfl) rfl
theorem q211 : (Jvm.Cond.lays "java/util/ArrayList" "java/util/AbstractList" "modCount" "I") ∈ lw_all := lw_g (lw_at lw_m1 101 rfl) rfl
theorem q213 : (Jvm.Cond.superclass "java/util/ArrayList" "java/util/AbstractList") ∈ lw_all := lw_g (lw_at lw_m1 103 rfl) rfl
theorem q460 : (Jvm.Cond.instanceMethod ({ cls := "java/util/ArrayList", name := "clear", desc := "()V" } : Jvm.MethodName)) ∈ lw_all := lw_g (lw_at lw_m2 110 rfl) rfl
theorem q461 : (Jvm.Cond.selects "java/util/ArrayList" ({ cls := "java/util/ArrayList", name := "clear", desc := "()V" } : Jvm.MethodName) ({ cls := "java/util/ArrayList", name := "clear", desc := "()V" } : Jvm.MethodName)) ∈ lw_all := lw_g (lw_at lw_m2 111 rfl) rfl
theorem q462 : (Jvm.Cond.code ({ cls := "java/util/ArrayList", name := "clear", desc := "()V" } : Jvm.MethodName) prog_40_method_40_code (4 : Nat) (Option.none : Option Jvm.ClassFile.FieldType)) ∈ lw_all := lw_g (lw_at lw_m2 112 rfl) rfl
theorem q464 : (Jvm.Cond.instanceMethod ({ cls := "java/util/ArrayList", name := "addAll", desc := "(Ljava/util/Collection;)Z" } : Jvm.MethodName)) ∈ lw_all := lw_g (lw_at lw_m2 114 rfl) rfl
theorem q465 : (Jvm.Cond.selects "java/util/ArrayList" ({ cls := "java/util/ArrayList", name := "addAll", desc := "(Ljava/util/Collection;)Z" } : Jvm.MethodName) ({ cls := "java/util/ArrayList", name := "addAll", desc := "(Ljava/util/Collection;)Z" } : Jvm.MethodName)) ∈ lw_all := lw_g (lw_at lw_m2 115 rfl) rfl
theorem q466 : (Jvm.Cond.code ({ cls := "java/util/ArrayList", name := "addAll", desc := "(Ljava/util/Collection;)Z" } : Jvm.MethodName) prog_40_method_41_code (6 : Nat) (Option.some Jvm.ClassFile.FieldType.boolean)) ∈ lw_all := lw_g (lw_at lw_m2 116 rfl) rfl
theorem q467 : (Jvm.Cond.interfaceEntry "java/util/ArrayList" (42 : Nat)) ∈ lw_tbl := lw_at lw_m2 117 rfl
theorem q468 : (Jvm.Cond.methodLink "java/util/ArrayList" (42 : Nat) ({ cls := "java/util/Collection", name := "toArray", desc := "()[Ljava/lang/Object;" } : Jvm.MethodName)) ∈ lw_all := lw_g (lw_at lw_m2 118 rfl) rfl
theorem q471 : (Jvm.Cond.castable "java/util/ArrayList" "java/util/Collection") ∈ lw_tbl := lw_at lw_m2 121 rfl
theorem q472 : (Jvm.Cond.selects "java/util/ArrayList" ({ cls := "java/util/Collection", name := "toArray", desc := "()[Ljava/lang/Object;" } : Jvm.MethodName) ({ cls := "java/util/ArrayList", name := "toArray", desc := "()[Ljava/lang/Object;" } : Jvm.MethodName)) ∈ lw_all := lw_g (lw_at lw_m2 122 rfl) rfl
theorem q473 : (Jvm.Cond.unhidden "java/util/ArrayList" "toArray" "()[Ljava/lang/Object;") ∈ lw_tbl := lw_at lw_m2 123 rfl
theorem q474 : (Jvm.Cond.instanceMethod ({ cls := "java/util/ArrayList", name := "toArray", desc := "()[Ljava/lang/Object;" } : Jvm.MethodName)) ∈ lw_all := lw_g (lw_at lw_m2 124 rfl) rfl
theorem q475 : (Jvm.Cond.publicMethod ({ cls := "java/util/ArrayList", name := "toArray", desc := "()[Ljava/lang/Object;" } : Jvm.MethodName)) ∈ lw_tbl := lw_at lw_m2 125 rfl
theorem q476 : (Jvm.Cond.code ({ cls := "java/util/ArrayList", name := "toArray", desc := "()[Ljava/lang/Object;" } : Jvm.MethodName) prog_40_method_16_code (1 : Nat) (Option.some (Jvm.ClassFile.FieldType.array (Jvm.ClassFile.FieldType.object "java/lang/Object")))) ∈ lw_all := lw_g (lw_at lw_m2 126 rfl) rfl
theorem q477 : (Jvm.Cond.methodLink "java/util/ArrayList" (66 : Nat) ({ cls := "java/util/Arrays", name := "copyOf", desc := "([Ljava/lang/Object;I)[Ljava/lang/Object;" } : Jvm.MethodName)) ∈ lw_all := lw_g (lw_at lw_m2 127 rfl) rfl
theorem q501 : (Jvm.Cond.selects "java/util/ArrayList" ({ cls := "java/lang/Object", name := "getClass", desc := "()Ljava/lang/Class;" } : Jvm.MethodName) ({ cls := "java/lang/Object", name := "getClass", desc := "()Ljava/lang/Class;" } : Jvm.MethodName)) ∈ lw_all := lw_g (lw_at lw_m2 151 rfl) rfl
theorem q512 : (Jvm.Cond.methodLink "java/util/ArrayList" (69 : Nat) ({ cls := "java/util/ArrayList", name := "grow", desc := "(I)[Ljava/lang/Object;" } : Jvm.MethodName)) ∈ lw_all := lw_g (lw_at lw_m2 162 rfl) rfl
theorem q513 : (Jvm.Cond.privateMethod ({ cls := "java/util/ArrayList", name := "grow", desc := "(I)[Ljava/lang/Object;" } : Jvm.MethodName)) ∈ lw_tbl := lw_at lw_m2 163 rfl
theorem q514 : (Jvm.Cond.instanceMethod ({ cls := "java/util/ArrayList", name := "grow", desc := "(I)[Ljava/lang/Object;" } : Jvm.MethodName)) ∈ lw_all := lw_g (lw_at lw_m2 164 rfl) rfl
theorem q515 : (Jvm.Cond.code ({ cls := "java/util/ArrayList", name := "grow", desc := "(I)[Ljava/lang/Object;" } : Jvm.MethodName) prog_40_method_6_code (4 : Nat) (Option.some (Jvm.ClassFile.FieldType.array (Jvm.ClassFile.FieldType.object "java/lang/Object")))) ∈ lw_all := lw_g (lw_at lw_m2 165 rfl) rfl
theorem q516 : (Jvm.Cond.fieldLink "java/util/ArrayList" (39 : Nat) "java/util/ArrayList" "DEFAULTCAPACITY_EMPTY_ELEMENTDATA" "[Ljava/lang/Object;") ∈ lw_all := lw_g (lw_at lw_m2 166 rfl) rfl
theorem q517 : (Jvm.Cond.laysStatic "java/util/ArrayList" "DEFAULTCAPACITY_EMPTY_ELEMENTDATA" "[Ljava/lang/Object;") ∈ lw_tbl := lw_at lw_m2 167 rfl
theorem q518 : (Jvm.Cond.methodLink "java/util/ArrayList" (73 : Nat) ({ cls := "jdk/internal/util/ArraysSupport", name := "newLength", desc := "(III)I" } : Jvm.MethodName)) ∈ lw_all := lw_g (lw_at lw_m2 168 rfl) rfl
theorem q528 : (Jvm.Cond.methodLink "java/util/ArrayList" (79 : Nat) ({ cls := "java/lang/Math", name := "max", desc := "(II)I" } : Jvm.MethodName)) ∈ lw_all := lw_g (lw_at lw_m2 178 rfl) rfl
theorem q529 : (Jvm.Cond.methodLink "java/util/ArrayList" (112 : Nat) ({ cls := "java/lang/System", name := "arraycopy", desc := "(Ljava/lang/Object;ILjava/lang/Object;II)V" } : Jvm.MethodName)) ∈ lw_all := lw_g (lw_at lw_m2 179 rfl) rfl
theorem q587 : (Jvm.Cond.instanceMethod ({ cls := "java/util/ArrayList", name := "get", desc := "(I)Ljava/lang/Object;" } : Jvm.MethodName)) ∈ lw_all := lw_g (lw_at lw_m2 237 rfl) rfl
theorem q588 : (Jvm.Cond.selects "java/util/ArrayList" ({ cls := "java/util/ArrayList", name := "get", desc := "(I)Ljava/lang/Object;" } : Jvm.MethodName) ({ cls := "java/util/ArrayList", name := "get", desc := "(I)Ljava/lang/Object;" } : Jvm.MethodName)) ∈ lw_all := lw_g (lw_at lw_m2 238 rfl) rfl
theorem q589 : (Jvm.Cond.code ({ cls := "java/util/ArrayList", name := "get", desc := "(I)Ljava/lang/Object;" } : Jvm.MethodName) prog_40_method_20_code (2 : Nat) (Option.some (Jvm.ClassFile.FieldType.object "java/lang/Object"))) ∈ lw_all := lw_g (lw_at lw_m2 239 rfl) rfl
theorem q590 : (Jvm.Cond.methodLink "java/util/ArrayList" (118 : Nat) ({ cls := "java/util/Objects", name := "checkIndex", desc := "(II)I" } : Jvm.MethodName)) ∈ lw_all := lw_g (lw_at lw_m3 0 rfl) rfl
theorem q596 : (Jvm.Cond.methodLink "java/util/ArrayList" (123 : Nat) ({ cls := "java/util/ArrayList", name := "elementData", desc := "(I)Ljava/lang/Object;" } : Jvm.MethodName)) ∈ lw_all := lw_g (lw_at lw_m3 6 rfl) rfl
theorem q597 : (Jvm.Cond.instanceMethod ({ cls := "java/util/ArrayList", name := "elementData", desc := "(I)Ljava/lang/Object;" } : Jvm.MethodName)) ∈ lw_all := lw_g (lw_at lw_m3 7 rfl) rfl
theorem q598 : (Jvm.Cond.selects "java/util/ArrayList" ({ cls := "java/util/ArrayList", name := "elementData", desc := "(I)Ljava/lang/Object;" } : Jvm.MethodName) ({ cls := "java/util/ArrayList", name := "elementData", desc := "(I)Ljava/lang/Object;" } : Jvm.MethodName)) ∈ lw_all := lw_g (lw_at lw_m3 8 rfl) rfl
theorem q599 : (Jvm.Cond.code ({ cls := "java/util/ArrayList", name := "elementData", desc := "(I)Ljava/lang/Object;" } : Jvm.MethodName) prog_40_method_18_code (2 : Nat) (Option.some (Jvm.ClassFile.FieldType.object "java/lang/Object"))) ∈ lw_all := lw_g (lw_at lw_m3 9 rfl) rfl
theorem q607 : (Jvm.Cond.instanceMethod ({ cls := "java/util/ArrayList", name := "size", desc := "()I" } : Jvm.MethodName)) ∈ lw_all := lw_g (lw_at lw_m3 17 rfl) rfl
theorem q608 : (Jvm.Cond.selects "java/util/ArrayList" ({ cls := "java/util/ArrayList", name := "size", desc := "()I" } : Jvm.MethodName) ({ cls := "java/util/ArrayList", name := "size", desc := "()I" } : Jvm.MethodName)) ∈ lw_all := lw_g (lw_at lw_m3 18 rfl) rfl
theorem q609 : (Jvm.Cond.code ({ cls := "java/util/ArrayList", name := "size", desc := "()I" } : Jvm.MethodName) prog_40_method_8_code (1 : Nat) (Option.some Jvm.ClassFile.FieldType.int)) ∈ lw_all := lw_g (lw_at lw_m3 19 rfl) rfl
theorem q1104 : (Jvm.Cond.instanceMethod ({ cls := "java/util/ArrayList", name := "add", desc := "(Ljava/lang/Object;)Z" } : Jvm.MethodName)) ∈ lw_all := lw_g (lw_at lw_m5 34 rfl) rfl
theorem q1105 : (Jvm.Cond.selects "java/util/ArrayList" ({ cls := "java/util/ArrayList", name := "add", desc := "(Ljava/lang/Object;)Z" } : Jvm.MethodName) ({ cls := "java/util/ArrayList", name := "add", desc := "(Ljava/lang/Object;)Z" } : Jvm.MethodName)) ∈ lw_all := lw_g (lw_at lw_m5 35 rfl) rfl
theorem q1106 : (Jvm.Cond.code ({ cls := "java/util/ArrayList", name := "add", desc := "(Ljava/lang/Object;)Z" } : Jvm.MethodName) prog_40_method_25_code (2 : Nat) (Option.some Jvm.ClassFile.FieldType.boolean)) ∈ lw_all := lw_g (lw_at lw_m5 36 rfl) rfl
theorem q1107 : (Jvm.Cond.methodLink "java/util/ArrayList" (131 : Nat) ({ cls := "java/util/ArrayList", name := "add", desc := "(Ljava/lang/Object;[Ljava/lang/Object;I)V" } : Jvm.MethodName)) ∈ lw_all := lw_g (lw_at lw_m5 37 rfl) rfl
theorem q1108 : (Jvm.Cond.privateMethod ({ cls := "java/util/ArrayList", name := "add", desc := "(Ljava/lang/Object;[Ljava/lang/Object;I)V" } : Jvm.MethodName)) ∈ lw_tbl := lw_at lw_m5 38 rfl
theorem q1109 : (Jvm.Cond.instanceMethod ({ cls := "java/util/ArrayList", name := "add", desc := "(Ljava/lang/Object;[Ljava/lang/Object;I)V" } : Jvm.MethodName)) ∈ lw_all := lw_g (lw_at lw_m5 39 rfl) rfl
theorem q1110 : (Jvm.Cond.code ({ cls := "java/util/ArrayList", name := "add", desc := "(Ljava/lang/Object;[Ljava/lang/Object;I)V" } : Jvm.MethodName) prog_40_method_24_code (4 : Nat) (Option.none : Option Jvm.ClassFile.FieldType)) ∈ lw_all := lw_g (lw_at lw_m5 40 rfl) rfl
theorem q1111 : (Jvm.Cond.methodLink "java/util/ArrayList" (129 : Nat) ({ cls := "java/util/ArrayList", name := "grow", desc := "()[Ljava/lang/Object;" } : Jvm.MethodName)) ∈ lw_all := lw_g (lw_at lw_m5 41 rfl) rfl
theorem q1112 : (Jvm.Cond.privateMethod ({ cls := "java/util/ArrayList", name := "grow", desc := "()[Ljava/lang/Object;" } : Jvm.MethodName)) ∈ lw_tbl := lw_at lw_m5 42 rfl
theorem q1113 : (Jvm.Cond.instanceMethod ({ cls := "java/util/ArrayList", name := "grow", desc := "()[Ljava/lang/Object;" } : Jvm.MethodName)) ∈ lw_all := lw_g (lw_at lw_m5 43 rfl) rfl
theorem q1114 : (Jvm.Cond.code ({ cls := "java/util/ArrayList", name := "grow", desc := "()[Ljava/lang/Object;" } : Jvm.MethodName) prog_40_method_7_code (1 : Nat) (Option.some (Jvm.ClassFile.FieldType.array (Jvm.ClassFile.FieldType.object "java/lang/Object")))) ∈ lw_all := lw_g (lw_at lw_m5 44 rfl) rfl
theorem q2244 : (Jvm.Cond.castable "java/util/ArrayList" "java/lang/Object") ∈ lw_tbl := lw_at lw_m9 214 rfl
theorem in_J2 : ∀ w ∈ wsJ20, w ∈ lw_all := lw_in wsJ20 [211, 207, 209] (by decide +kernel) (by decide +kernel)
/-! java/lang/Throwable -/
set_option maxRecDepth 100000
def RJ3 : String := "java/lang/Throwable"
def TJ3 : u_T := fun k => match k with
  | 0 => ("java/lang/Throwable", "cause", "Ljava/lang/Throwable;", false)
  | 1 => ("java/lang/Throwable", "stackTrace", "[Ljava/lang/StackTraceElement;", false)
  | 2 => ("java/lang/Throwable", "suppressedExceptions", "Ljava/util/List;", false)
  | 3 => ("java/lang/Throwable", "detailMessage", "Ljava/lang/String;", false)
  | _ => ("java/lang/Throwable", "backtrace", "Ljava/lang/Object;", false)
def tyJ3 : Nat → FieldType := fun k => match k with
  | 0 => .object "java/lang/Throwable"
  | 1 => .array (.object "java/lang/StackTraceElement")
  | 2 => .object "java/util/List"
  | 3 => .object "java/lang/String"
  | _ => .object "java/lang/Object"
abbrev wsJ30 : List Cond := u_ws RJ3 TJ3 5
theorem nmJ3 : ∀ a, a < 5 → ∀ b, b < 5 → a ≠ b → (TJ3 a).2.1 ≠ (TJ3 b).2.1 := by decide +kernel
theorem tyJ3_ok : ∀ k, k < 5 → parseFieldDescriptor (TJ3 k).2.2.1 = some (tyJ3 k) := by decide +kernel
abbrev cJ3_init : ByteArray := prog_35_method_1_code
def yJ3_init : MethodName := ⟨RJ3, "<init>", "()V"⟩
def dkwJ3_init_1 : List UInt8 := [182, 0, 27, 87, 177]
abbrev dktJ3_init_1 : List UInt8 := dkwJ3_init_1 ++ []
def dkwJ3_init_0 : List UInt8 := [42, 183, 0, 1, 42, 42, 181, 0, 7, 42, 178, 0, 13, 181, 0, 17, 42, 178, 0, 20, 181, 0, 24, 42]
abbrev dktJ3_init_0 : List UInt8 := dkwJ3_init_0 ++ dktJ3_init_1
theorem dksJ3_init_0 : cJ3_init.data.toList.drop 0 = dktJ3_init_0 := by decide +kernel
theorem dksJ3_init_1 : cJ3_init.data.toList.drop 24 = dktJ3_init_1 := dk_seg dksJ3_init_0 24 rfl rfl
theorem dJ3_init_0 : decode cJ3_init 0 = .ok (.aload_n 0, 1) := dk_42 (dk_at dksJ3_init_0 0 rfl rfl)
theorem dJ3_init_1 : decode cJ3_init 1 = .ok (.invokespecial 1, 3) := dk_183 0 1 (dk_at dksJ3_init_0 1 rfl rfl)
theorem dJ3_init_4 : decode cJ3_init 4 = .ok (.aload_n 0, 1) := dk_42 (dk_at dksJ3_init_0 4 rfl rfl)
theorem dJ3_init_5 : decode cJ3_init 5 = .ok (.aload_n 0, 1) := dk_42 (dk_at dksJ3_init_0 5 rfl rfl)
theorem dJ3_init_6 : decode cJ3_init 6 = .ok (.putfield 7, 3) := dk_181 0 7 (dk_at dksJ3_init_0 6 rfl rfl)
theorem dJ3_init_9 : decode cJ3_init 9 = .ok (.aload_n 0, 1) := dk_42 (dk_at dksJ3_init_0 9 rfl rfl)
theorem dJ3_init_10 : decode cJ3_init 10 = .ok (.getstatic 13, 3) := dk_178 0 13 (dk_at dksJ3_init_0 10 rfl rfl)
theorem dJ3_init_13 : decode cJ3_init 13 = .ok (.putfield 17, 3) := dk_181 0 17 (dk_at dksJ3_init_0 13 rfl rfl)
theorem dJ3_init_16 : decode cJ3_init 16 = .ok (.aload_n 0, 1) := dk_42 (dk_at dksJ3_init_0 16 rfl rfl)
theorem dJ3_init_17 : decode cJ3_init 17 = .ok (.getstatic 20, 3) := dk_178 0 20 (dk_at dksJ3_init_0 17 rfl rfl)
theorem dJ3_init_20 : decode cJ3_init 20 = .ok (.putfield 24, 3) := dk_181 0 24 (dk_at dksJ3_init_0 20 rfl rfl)
theorem dJ3_init_23 : decode cJ3_init 23 = .ok (.aload_n 0, 1) := dk_42 (dk_at dksJ3_init_0 23 rfl rfl)
theorem dJ3_init_24 : decode cJ3_init 24 = .ok (.invokevirtual 27, 3) := dk_182 0 27 (dk_at dksJ3_init_1 0 rfl rfl)
theorem dJ3_init_27 : decode cJ3_init 27 = .ok (.pop, 1) := dk_87 (dk_at dksJ3_init_1 3 rfl rfl)
theorem dJ3_init_28 : decode cJ3_init 28 = .ok (.return_, 1) := dk_177 (dk_at dksJ3_init_1 4 rfl rfl)
abbrev cJ3_init_2 : ByteArray := prog_35_method_5_code
def yJ3_init_2 : MethodName := ⟨RJ3, "<init>", "(Ljava/lang/String;Ljava/lang/Throwable;ZZ)V"⟩
def dkwJ3_init_2_2 : List UInt8 := [44, 181, 0, 7, 29, 154, 0, 8, 42, 1, 181, 0, 24, 177]
abbrev dktJ3_init_2_2 : List UInt8 := dkwJ3_init_2_2 ++ []
def dkwJ3_init_2_1 : List UInt8 := [21, 4, 153, 0, 11, 42, 182, 0, 27, 87, 167, 0, 8, 42, 1, 181, 0, 17, 42, 43, 181, 0, 31, 42]
abbrev dktJ3_init_2_1 : List UInt8 := dkwJ3_init_2_1 ++ dktJ3_init_2_2
def dkwJ3_init_2_0 : List UInt8 := [42, 183, 0, 1, 42, 42, 181, 0, 7, 42, 178, 0, 13, 181, 0, 17, 42, 178, 0, 20, 181, 0, 24]
abbrev dktJ3_init_2_0 : List UInt8 := dkwJ3_init_2_0 ++ dktJ3_init_2_1
theorem dksJ3_init_2_0 : cJ3_init_2.data.toList.drop 0 = dktJ3_init_2_0 := by decide +kernel
theorem dksJ3_init_2_1 : cJ3_init_2.data.toList.drop 23 = dktJ3_init_2_1 := dk_seg dksJ3_init_2_0 23 rfl rfl
theorem dksJ3_init_2_2 : cJ3_init_2.data.toList.drop 47 = dktJ3_init_2_2 := dk_seg dksJ3_init_2_1 24 rfl rfl
theorem dJ3_init_2_0 : decode cJ3_init_2 0 = .ok (.aload_n 0, 1) := dk_42 (dk_at dksJ3_init_2_0 0 rfl rfl)
theorem dJ3_init_2_1 : decode cJ3_init_2 1 = .ok (.invokespecial 1, 3) := dk_183 0 1 (dk_at dksJ3_init_2_0 1 rfl rfl)
theorem dJ3_init_2_4 : decode cJ3_init_2 4 = .ok (.aload_n 0, 1) := dk_42 (dk_at dksJ3_init_2_0 4 rfl rfl)
theorem dJ3_init_2_5 : decode cJ3_init_2 5 = .ok (.aload_n 0, 1) := dk_42 (dk_at dksJ3_init_2_0 5 rfl rfl)
theorem dJ3_init_2_6 : decode cJ3_init_2 6 = .ok (.putfield 7, 3) := dk_181 0 7 (dk_at dksJ3_init_2_0 6 rfl rfl)
theorem dJ3_init_2_9 : decode cJ3_init_2 9 = .ok (.aload_n 0, 1) := dk_42 (dk_at dksJ3_init_2_0 9 rfl rfl)
theorem dJ3_init_2_10 : decode cJ3_init_2 10 = .ok (.getstatic 13, 3) := dk_178 0 13 (dk_at dksJ3_init_2_0 10 rfl rfl)
theorem dJ3_init_2_13 : decode cJ3_init_2 13 = .ok (.putfield 17, 3) := dk_181 0 17 (dk_at dksJ3_init_2_0 13 rfl rfl)
theorem dJ3_init_2_16 : decode cJ3_init_2 16 = .ok (.aload_n 0, 1) := dk_42 (dk_at dksJ3_init_2_0 16 rfl rfl)
theorem dJ3_init_2_17 : decode cJ3_init_2 17 = .ok (.getstatic 20, 3) := dk_178 0 20 (dk_at dksJ3_init_2_0 17 rfl rfl)
theorem dJ3_init_2_20 : decode cJ3_init_2 20 = .ok (.putfield 24, 3) := dk_181 0 24 (dk_at dksJ3_init_2_0 20 rfl rfl)
theorem dJ3_init_2_23 : decode cJ3_init_2 23 = .ok (.iload 4, 2) := dk_21 4 (dk_at dksJ3_init_2_1 0 rfl rfl)
theorem dJ3_init_2_25 : decode cJ3_init_2 25 = .ok (.ifCond .eq 11, 3) := dk_153 0 11 (dk_at dksJ3_init_2_1 2 rfl rfl)
theorem dJ3_init_2_28 : decode cJ3_init_2 28 = .ok (.aload_n 0, 1) := dk_42 (dk_at dksJ3_init_2_1 5 rfl rfl)
theorem dJ3_init_2_29 : decode cJ3_init_2 29 = .ok (.invokevirtual 27, 3) := dk_182 0 27 (dk_at dksJ3_init_2_1 6 rfl rfl)
theorem dJ3_init_2_32 : decode cJ3_init_2 32 = .ok (.pop, 1) := dk_87 (dk_at dksJ3_init_2_1 9 rfl rfl)
theorem dJ3_init_2_33 : decode cJ3_init_2 33 = .ok (.goto 8, 3) := dk_167 0 8 (dk_at dksJ3_init_2_1 10 rfl rfl)
theorem dJ3_init_2_36 : decode cJ3_init_2 36 = .ok (.aload_n 0, 1) := dk_42 (dk_at dksJ3_init_2_1 13 rfl rfl)
theorem dJ3_init_2_37 : decode cJ3_init_2 37 = .ok (.aconst_null, 1) := dk_1 (dk_at dksJ3_init_2_1 14 rfl rfl)
theorem dJ3_init_2_38 : decode cJ3_init_2 38 = .ok (.putfield 17, 3) := dk_181 0 17 (dk_at dksJ3_init_2_1 15 rfl rfl)
theorem dJ3_init_2_41 : decode cJ3_init_2 41 = .ok (.aload_n 0, 1) := dk_42 (dk_at dksJ3_init_2_1 18 rfl rfl)
theorem dJ3_init_2_42 : decode cJ3_init_2 42 = .ok (.aload_n 1, 1) := dk_43 (dk_at dksJ3_init_2_1 19 rfl rfl)
theorem dJ3_init_2_43 : decode cJ3_init_2 43 = .ok (.putfield 31, 3) := dk_181 0 31 (dk_at dksJ3_init_2_1 20 rfl rfl)
theorem dJ3_init_2_46 : decode cJ3_init_2 46 = .ok (.aload_n 0, 1) := dk_42 (dk_at dksJ3_init_2_1 23 rfl rfl)
theorem dJ3_init_2_47 : decode cJ3_init_2 47 = .ok (.aload_n 2, 1) := dk_44 (dk_at dksJ3_init_2_2 0 rfl rfl)
theorem dJ3_init_2_48 : decode cJ3_init_2 48 = .ok (.putfield 7, 3) := dk_181 0 7 (dk_at dksJ3_init_2_2 1 rfl rfl)
theorem dJ3_init_2_51 : decode cJ3_init_2 51 = .ok (.iload_n 3, 1) := dk_29 (dk_at dksJ3_init_2_2 4 rfl rfl)
theorem dJ3_init_2_52 : decode cJ3_init_2 52 = .ok (.ifCond .ne 8, 3) := dk_154 0 8 (dk_at dksJ3_init_2_2 5 rfl rfl)
theorem dJ3_init_2_55 : decode cJ3_init_2 55 = .ok (.aload_n 0, 1) := dk_42 (dk_at dksJ3_init_2_2 8 rfl rfl)
theorem dJ3_init_2_56 : decode cJ3_init_2 56 = .ok (.aconst_null, 1) := dk_1 (dk_at dksJ3_init_2_2 9 rfl rfl)
theorem dJ3_init_2_57 : decode cJ3_init_2 57 = .ok (.putfield 24, 3) := dk_181 0 24 (dk_at dksJ3_init_2_2 10 rfl rfl)
theorem dJ3_init_2_60 : decode cJ3_init_2 60 = .ok (.return_, 1) := dk_177 (dk_at dksJ3_init_2_2 13 rfl rfl)
theorem q118 : (Jvm.Cond.initialized "java/lang/Throwable") ∈ lw_all := lw_g (lw_at lw_m1 8 rfl) rfl
theorem q278 : (Jvm.Cond.declares ({ cls := "java/lang/Throwable", name := "<init>", desc := "()V" } : Jvm.MethodName)) ∈ lw_tbl := lw_at lw_m1 168 rfl
theorem q279 : (Jvm.Cond.declares ({ cls := "java/lang/Throwable", name := "<init>", desc := "(Ljava/lang/String;)V" } : Jvm.MethodName)) ∈ lw_tbl := lw_at lw_m1 169 rfl
theorem q283 : (Jvm.Cond.lays "java/lang/Throwable" "java/lang/Throwable" "cause" "Ljava/lang/Throwable;") ∈ lw_all := lw_g (lw_at lw_m1 173 rfl) rfl
theorem q285 : (Jvm.Cond.lays "java/lang/Throwable" "java/lang/Throwable" "stackTrace" "[Ljava/lang/StackTraceElement;") ∈ lw_all := lw_g (lw_at lw_m1 175 rfl) rfl
theorem q287 : (Jvm.Cond.lays "java/lang/Throwable" "java/lang/Throwable" "suppressedExceptions" "Ljava/util/List;") ∈ lw_all := lw_g (lw_at lw_m1 177 rfl) rfl
theorem q289 : (Jvm.Cond.lays "java/lang/Throwable" "java/lang/Throwable" "detailMessage" "Ljava/lang/String;") ∈ lw_all := lw_g (lw_at lw_m1 179 rfl) rfl
theorem q291 : (Jvm.Cond.lays "java/lang/Throwable" "java/lang/Throwable" "backtrace" "Ljava/lang/Object;") ∈ lw_all := lw_g (lw_at lw_m1 181 rfl) rfl
theorem q292 : (Jvm.Cond.fieldLink "java/lang/Throwable" (198 : Nat) "java/lang/Throwable" "backtrace" "Ljava/lang/Object;") ∈ lw_all := lw_g (lw_at lw_m1 182 rfl) rfl
theorem q293 : (Jvm.Cond.superclass "java/lang/Throwable" "java/lang/Object") ∈ lw_all := lw_g (lw_at lw_m1 183 rfl) rfl
theorem q294 : (Jvm.Cond.instanceMethod ({ cls := "java/lang/Throwable", name := "<init>", desc := "()V" } : Jvm.MethodName)) ∈ lw_all := lw_g (lw_at lw_m1 184 rfl) rfl
theorem q295 : (Jvm.Cond.code ({ cls := "java/lang/Throwable", name := "<init>", desc := "()V" } : Jvm.MethodName) prog_35_method_1_code (1 : Nat) (Option.none : Option Jvm.ClassFile.FieldType)) ∈ lw_all := lw_g (lw_at lw_m1 185 rfl) rfl
theorem q296 : (Jvm.Cond.methodLink "java/lang/Throwable" (1 : Nat) ({ cls := "java/lang/Object", name := "<init>", desc := "()V" } : Jvm.MethodName)) ∈ lw_all := lw_g (lw_at lw_m1 186 rfl) rfl
theorem q297 : (Jvm.Cond.fieldLink "java/lang/Throwable" (13 : Nat) "java/lang/Throwable" "UNASSIGNED_STACK" "[Ljava/lang/StackTraceElement;") ∈ lw_all := lw_g (lw_at lw_m1 187 rfl) rfl
theorem q298 : (Jvm.Cond.laysStatic "java/lang/Throwable" "UNASSIGNED_STACK" "[Ljava/lang/StackTraceElement;") ∈ lw_tbl := lw_at lw_m1 188 rfl
theorem q299 : (Jvm.Cond.fieldLink "java/lang/Throwable" (20 : Nat) "java/lang/Throwable" "SUPPRESSED_SENTINEL" "Ljava/util/List;") ∈ lw_all := lw_g (lw_at lw_m1 189 rfl) rfl
theorem q300 : (Jvm.Cond.laysStatic "java/lang/Throwable" "SUPPRESSED_SENTINEL" "Ljava/util/List;") ∈ lw_tbl := lw_at lw_m1 190 rfl
theorem q301 : (Jvm.Cond.methodLink "java/lang/Throwable" (27 : Nat) ({ cls := "java/lang/Throwable", name := "fillInStackTrace", desc := "()Ljava/lang/Throwable;" } : Jvm.MethodName)) ∈ lw_all := lw_g (lw_at lw_m1 191 rfl) rfl
theorem q302 : (Jvm.Cond.instanceMethod ({ cls := "java/lang/Throwable", name := "fillInStackTrace", desc := "()Ljava/lang/Throwable;" } : Jvm.MethodName)) ∈ lw_all := lw_g (lw_at lw_m1 192 rfl) rfl
theorem q303 : (Jvm.Cond.sameMethod "java/lang/Throwable" "java/lang/Throwable" "fillInStackTrace" "()Ljava/lang/Throwable;") ∈ lw_all := lw_g (lw_at lw_m1 193 rfl) rfl
theorem q305 : (Jvm.Cond.codeSync ({ cls := "java/lang/Throwable", name := "fillInStackTrace", desc := "()Ljava/lang/Throwable;" } : Jvm.MethodName) prog_35_method_18_code (1 : Nat) (Option.some (Jvm.ClassFile.FieldType.object "java/lang/Throwable"))) ∈ lw_all := lw_g (lw_at lw_m1 195 rfl) rfl
theorem q306 : (Jvm.Cond.methodLink "java/lang/Throwable" (202 : Nat) ({ cls := "java/lang/Throwable", name := "fillInStackTrace", desc := "(I)Ljava/lang/Throwable;" } : Jvm.MethodName)) ∈ lw_all := lw_g (lw_at lw_m1 196 rfl) rfl
theorem q307 : (Jvm.Cond.privateMethod ({ cls := "java/lang/Throwable", name := "fillInStackTrace", desc := "(I)Ljava/lang/Throwable;" } : Jvm.MethodName)) ∈ lw_tbl := lw_at lw_m1 197 rfl
theorem q308 : (Jvm.Cond.instanceMethod ({ cls := "java/lang/Throwable", name := "fillInStackTrace", desc := "(I)Ljava/lang/Throwable;" } : Jvm.MethodName)) ∈ lw_all := lw_g (lw_at lw_m1 198 rfl) rfl
theorem q309 : (Jvm.Cond.instantiable "java/lang/Throwable" (6 : Nat)) ∈ lw_all := lw_g (lw_at lw_m1 199 rfl) rfl
theorem q310 : (Jvm.Cond.native ({ cls := "java/lang/Throwable", name := "fillInStackTrace", desc := "(I)Ljava/lang/Throwable;" } : Jvm.MethodName)) ∈ lw_all := lw_g (lw_at lw_m1 200 rfl) rfl
theorem q318 : (Jvm.Cond.instanceMethod ({ cls := "java/lang/Throwable", name := "<init>", desc := "(Ljava/lang/String;Ljava/lang/Throwable;ZZ)V" } : Jvm.MethodName)) ∈ lw_all := lw_g (lw_at lw_m1 208 rfl) rfl
theorem q319 : (Jvm.Cond.code ({ cls := "java/lang/Throwable", name := "<init>", desc := "(Ljava/lang/String;Ljava/lang/Throwable;ZZ)V" } : Jvm.MethodName) prog_35_method_5_code (5 : Nat) (Option.none : Option Jvm.ClassFile.FieldType)) ∈ lw_all := lw_g (lw_at lw_m1 209 rfl) rfl
theorem q320 : (Jvm.Cond.fieldLink "java/lang/Throwable" (198 : Nat) "java/lang/Throwable" "backtrace" "Ljava/lang/Object;") ∈ lw_all := lw_g (lw_at lw_m1 210 rfl) rfl
theorem q321 : (Jvm.Cond.fieldLink "java/lang/Throwable" (31 : Nat) "java/lang/Throwable" "detailMessage" "Ljava/lang/String;") ∈ lw_all := lw_g (lw_at lw_m1 211 rfl) rfl
theorem q322 : (Jvm.Cond.fieldLink "java/lang/Throwable" (7 : Nat) "java/lang/Throwable" "cause" "Ljava/lang/Throwable;") ∈ lw_all := lw_g (lw_at lw_m1 212 rfl) rfl
theorem q323 : (Jvm.Cond.fieldLink "java/lang/Throwable" (17 : Nat) "java/lang/Throwable" "stackTrace" "[Ljava/lang/StackTraceElement;") ∈ lw_all := lw_g (lw_at lw_m1 213 rfl) rfl
theorem q324 : (Jvm.Cond.fieldLink "java/lang/Throwable" (24 : Nat) "java/lang/Throwable" "suppressedExceptions" "Ljava/util/List;") ∈ lw_all := lw_g (lw_at lw_m1 214 rfl) rfl
theorem q325 : (Jvm.Cond.soleField "java/lang/Throwable" "backtrace") ∈ lw_all := lw_g (lw_at lw_m1 215 rfl) rfl
theorem q326 : (Jvm.Cond.soleField "java/lang/Throwable" "detailMessage") ∈ lw_all := lw_g (lw_at lw_m1 216 rfl) rfl
theorem q327 : (Jvm.Cond.soleField "java/lang/Throwable" "cause") ∈ lw_all := lw_g (lw_at lw_m1 217 rfl) rfl
theorem q328 : (Jvm.Cond.soleField "java/lang/Throwable" "stackTrace") ∈ lw_all := lw_g (lw_at lw_m1 218 rfl) rfl
theorem q330 : (Jvm.Cond.soleField "java/lang/Throwable" "depth") ∈ lw_all := lw_g (lw_at lw_m1 220 rfl) rfl
theorem q331 : (Jvm.Cond.soleField "java/lang/Throwable" "suppressedExceptions") ∈ lw_all := lw_g (lw_at lw_m1 221 rfl) rfl
theorem q2227 : (Jvm.Cond.sameMethod "java/lang/Throwable" "java/lang/Throwable" "fillInStackTrace" "(I)Ljava/lang/Throwable;") ∈ lw_all := lw_g (lw_at lw_m9 197 rfl) rfl
theorem q2260 : (Jvm.Cond.castable "java/lang/Throwable" "java/lang/Object") ∈ lw_tbl := lw_at lw_m9 230 rfl
theorem in_J3 : ∀ w ∈ wsJ30, w ∈ lw_all := lw_in wsJ30 [283, 285, 287, 289, 291] (by decide +kernel) (by decide +kernel)
/-! java/lang/Exception -/
set_option maxRecDepth 100000
def RJ4 : String := "java/lang/Exception"
abbrev cJ4_init : ByteArray := prog_27_method_5_code
def yJ4_init : MethodName := ⟨RJ4, "<init>", "(Ljava/lang/String;Ljava/lang/Throwable;ZZ)V"⟩
def dkwJ4_init_0 : List UInt8 := [42, 43, 44, 29, 21, 4, 183, 0, 16, 177]
abbrev dktJ4_init_0 : List UInt8 := dkwJ4_init_0 ++ []
theorem dksJ4_init_0 : cJ4_init.data.toList.drop 0 = dktJ4_init_0 := by decide +kernel
theorem dJ4_init_0 : decode cJ4_init 0 = .ok (.aload_n 0, 1) := dk_42 (dk_at dksJ4_init_0 0 rfl rfl)
theorem dJ4_init_1 : decode cJ4_init 1 = .ok (.aload_n 1, 1) := dk_43 (dk_at dksJ4_init_0 1 rfl rfl)
theorem dJ4_init_2 : decode cJ4_init 2 = .ok (.aload_n 2, 1) := dk_44 (dk_at dksJ4_init_0 2 rfl rfl)
theorem dJ4_init_3 : decode cJ4_init 3 = .ok (.iload_n 3, 1) := dk_29 (dk_at dksJ4_init_0 3 rfl rfl)
theorem dJ4_init_4 : decode cJ4_init 4 = .ok (.iload 4, 2) := dk_21 4 (dk_at dksJ4_init_0 4 rfl rfl)
theorem dJ4_init_6 : decode cJ4_init 6 = .ok (.invokespecial 16, 3) := dk_183 0 16 (dk_at dksJ4_init_0 6 rfl rfl)
theorem dJ4_init_9 : decode cJ4_init 9 = .ok (.return_, 1) := dk_177 (dk_at dksJ4_init_0 9 rfl rfl)
theorem q119 : (Jvm.Cond.initialized "java/lang/Exception") ∈ lw_all := lw_g (lw_at lw_m1 9 rfl) rfl
theorem q276 : (Jvm.Cond.declares ({ cls := "java/lang/Exception", name := "<init>", desc := "()V" } : Jvm.MethodName)) ∈ lw_tbl := lw_at lw_m1 166 rfl
theorem q277 : (Jvm.Cond.declares ({ cls := "java/lang/Exception", name := "<init>", desc := "(Ljava/lang/String;)V" } : Jvm.MethodName)) ∈ lw_tbl := lw_at lw_m1 167 rfl
theorem q315 : (Jvm.Cond.instanceMethod ({ cls := "java/lang/Exception", name := "<init>", desc := "(Ljava/lang/String;Ljava/lang/Throwable;ZZ)V" } : Jvm.MethodName)) ∈ lw_all := lw_g (lw_at lw_m1 205 rfl) rfl
theorem q316 : (Jvm.Cond.code ({ cls := "java/lang/Exception", name := "<init>", desc := "(Ljava/lang/String;Ljava/lang/Throwable;ZZ)V" } : Jvm.MethodName) prog_27_method_5_code (5 : Nat) (Option.none : Option Jvm.ClassFile.FieldType)) ∈ lw_all := lw_g (lw_at lw_m1 206 rfl) rfl
theorem q317 : (Jvm.Cond.methodLink "java/lang/Exception" (16 : Nat) ({ cls := "java/lang/Throwable", name := "<init>", desc := "(Ljava/lang/String;Ljava/lang/Throwable;ZZ)V" } : Jvm.MethodName)) ∈ lw_all := lw_g (lw_at lw_m1 207 rfl) rfl
/-! java/util/Objects -/
set_option maxRecDepth 100000
def RJ5 : String := "java/util/Objects"
abbrev cJ5_checkIndex : ByteArray := prog_44_method_17_code
def yJ5_checkIndex : MethodName := ⟨RJ5, "checkIndex", "(II)I"⟩
def dkwJ5_checkIndex_0 : List UInt8 := [26, 27, 1, 184, 0, 105, 172]
abbrev dktJ5_checkIndex_0 : List UInt8 := dkwJ5_checkIndex_0 ++ []
theorem dksJ5_checkIndex_0 : cJ5_checkIndex.data.toList.drop 0 = dktJ5_checkIndex_0 := by decide +kernel
theorem dJ5_checkIndex_0 : decode cJ5_checkIndex 0 = .ok (.iload_n 0, 1) := dk_26 (dk_at dksJ5_checkIndex_0 0 rfl rfl)
theorem dJ5_checkIndex_1 : decode cJ5_checkIndex 1 = .ok (.iload_n 1, 1) := dk_27 (dk_at dksJ5_checkIndex_0 1 rfl rfl)
theorem dJ5_checkIndex_2 : decode cJ5_checkIndex 2 = .ok (.aconst_null, 1) := dk_1 (dk_at dksJ5_checkIndex_0 2 rfl rfl)
theorem dJ5_checkIndex_3 : decode cJ5_checkIndex 3 = .ok (.invokestatic 105, 3) := dk_184 0 105 (dk_at dksJ5_checkIndex_0 3 rfl rfl)
theorem dJ5_checkIndex_6 : decode cJ5_checkIndex 6 = .ok (.ireturn, 1) := dk_172 (dk_at dksJ5_checkIndex_0 6 rfl rfl)
theorem q122 : (Jvm.Cond.initialized "java/util/Objects") ∈ lw_all := lw_g (lw_at lw_m1 12 rfl) rfl
theorem q591 : (Jvm.Cond.static ({ cls := "java/util/Objects", name := "checkIndex", desc := "(II)I" } : Jvm.MethodName)) ∈ lw_all := lw_g (lw_at lw_m3 1 rfl) rfl
theorem q592 : (Jvm.Cond.code ({ cls := "java/util/Objects", name := "checkIndex", desc := "(II)I" } : Jvm.MethodName) prog_44_method_17_code (2 : Nat) (Option.some Jvm.ClassFile.FieldType.int)) ∈ lw_all := lw_g (lw_at lw_m3 2 rfl) rfl
theorem q593 : (Jvm.Cond.methodLink "java/util/Objects" (105 : Nat) ({ cls := "jdk/internal/util/Preconditions", name := "checkIndex", desc := "(IILjava/util/function/BiFunction;)I" } : Jvm.MethodName)) ∈ lw_all := lw_g (lw_at lw_m3 3 rfl) rfl
/-! jdk/internal/util/Preconditions -/
set_option maxRecDepth 100000
def RJ6 : String := "jdk/internal/util/Preconditions"
abbrev cJ6_checkIndex : ByteArray := prog_48_method_11_code
def yJ6_checkIndex : MethodName := ⟨RJ6, "checkIndex", "(IILjava/util/function/BiFunction;)I"⟩
def dkwJ6_checkIndex_0 : List UInt8 := [26, 155, 0, 8, 26, 27, 161, 0, 10, 44, 26, 27, 184, 0, 95, 191, 26, 172]
abbrev dktJ6_checkIndex_0 : List UInt8 := dkwJ6_checkIndex_0 ++ []
theorem dksJ6_checkIndex_0 : cJ6_checkIndex.data.toList.drop 0 = dktJ6_checkIndex_0 := by decide +kernel
theorem dJ6_checkIndex_0 : decode cJ6_checkIndex 0 = .ok (.iload_n 0, 1) := dk_26 (dk_at dksJ6_checkIndex_0 0 rfl rfl)
theorem dJ6_checkIndex_1 : decode cJ6_checkIndex 1 = .ok (.ifCond .lt 8, 3) := dk_155 0 8 (dk_at dksJ6_checkIndex_0 1 rfl rfl)
theorem dJ6_checkIndex_4 : decode cJ6_checkIndex 4 = .ok (.iload_n 0, 1) := dk_26 (dk_at dksJ6_checkIndex_0 4 rfl rfl)
theorem dJ6_checkIndex_5 : decode cJ6_checkIndex 5 = .ok (.iload_n 1, 1) := dk_27 (dk_at dksJ6_checkIndex_0 5 rfl rfl)
theorem dJ6_checkIndex_6 : decode cJ6_checkIndex 6 = .ok (.if_icmp .lt 10, 3) := dk_161 0 10 (dk_at dksJ6_checkIndex_0 6 rfl rfl)
theorem dJ6_checkIndex_9 : decode cJ6_checkIndex 9 = .ok (.aload_n 2, 1) := dk_44 (dk_at dksJ6_checkIndex_0 9 rfl rfl)
theorem dJ6_checkIndex_10 : decode cJ6_checkIndex 10 = .ok (.iload_n 0, 1) := dk_26 (dk_at dksJ6_checkIndex_0 10 rfl rfl)
theorem dJ6_checkIndex_11 : decode cJ6_checkIndex 11 = .ok (.iload_n 1, 1) := dk_27 (dk_at dksJ6_checkIndex_0 11 rfl rfl)
theorem dJ6_checkIndex_12 : decode cJ6_checkIndex 12 = .ok (.invokestatic 95, 3) := dk_184 0 95 (dk_at dksJ6_checkIndex_0 12 rfl rfl)
theorem dJ6_checkIndex_15 : decode cJ6_checkIndex 15 = .ok (.athrow, 1) := dk_191 (dk_at dksJ6_checkIndex_0 15 rfl rfl)
theorem dJ6_checkIndex_16 : decode cJ6_checkIndex 16 = .ok (.iload_n 0, 1) := dk_26 (dk_at dksJ6_checkIndex_0 16 rfl rfl)
theorem dJ6_checkIndex_17 : decode cJ6_checkIndex 17 = .ok (.ireturn, 1) := dk_172 (dk_at dksJ6_checkIndex_0 17 rfl rfl)
theorem q123 : (Jvm.Cond.initialized "jdk/internal/util/Preconditions") ∈ lw_all := lw_g (lw_at lw_m1 13 rfl) rfl
theorem q594 : (Jvm.Cond.static ({ cls := "jdk/internal/util/Preconditions", name := "checkIndex", desc := "(IILjava/util/function/BiFunction;)I" } : Jvm.MethodName)) ∈ lw_all := lw_g (lw_at lw_m3 4 rfl) rfl
theorem q595 : (Jvm.Cond.code ({ cls := "jdk/internal/util/Preconditions", name := "checkIndex", desc := "(IILjava/util/function/BiFunction;)I" } : Jvm.MethodName) prog_48_method_11_code (3 : Nat) (Option.some Jvm.ClassFile.FieldType.int)) ∈ lw_all := lw_g (lw_at lw_m3 5 rfl) rfl
theorem q812 : (Jvm.Cond.laysStatic "jdk/internal/util/Preconditions" "SIOOBE_FORMATTER" "Ljava/util/function/BiFunction;") ∈ lw_tbl := lw_at lw_m3 222 rfl
/-! java/lang/Math -/
set_option maxRecDepth 100000
def RJ7 : String := "java/lang/Math"
abbrev cJ7_min : ByteArray := prog_30_method_69_code
def yJ7_min : MethodName := ⟨RJ7, "min", "(II)I"⟩
def dkwJ7_min_0 : List UInt8 := [26, 27, 163, 0, 7, 26, 167, 0, 4, 27, 172]
abbrev dktJ7_min_0 : List UInt8 := dkwJ7_min_0 ++ []
theorem dksJ7_min_0 : cJ7_min.data.toList.drop 0 = dktJ7_min_0 := by decide +kernel
theorem dJ7_min_0 : decode cJ7_min 0 = .ok (.iload_n 0, 1) := dk_26 (dk_at dksJ7_min_0 0 rfl rfl)
theorem dJ7_min_1 : decode cJ7_min 1 = .ok (.iload_n 1, 1) := dk_27 (dk_at dksJ7_min_0 1 rfl rfl)
theorem dJ7_min_2 : decode cJ7_min 2 = .ok (.if_icmp .gt 7, 3) := dk_163 0 7 (dk_at dksJ7_min_0 2 rfl rfl)
theorem dJ7_min_5 : decode cJ7_min 5 = .ok (.iload_n 0, 1) := dk_26 (dk_at dksJ7_min_0 5 rfl rfl)
theorem dJ7_min_6 : decode cJ7_min 6 = .ok (.goto 4, 3) := dk_167 0 4 (dk_at dksJ7_min_0 6 rfl rfl)
theorem dJ7_min_9 : decode cJ7_min 9 = .ok (.iload_n 1, 1) := dk_27 (dk_at dksJ7_min_0 9 rfl rfl)
theorem dJ7_min_10 : decode cJ7_min 10 = .ok (.ireturn, 1) := dk_172 (dk_at dksJ7_min_0 10 rfl rfl)
abbrev cJ7_max : ByteArray := prog_30_method_65_code
def yJ7_max : MethodName := ⟨RJ7, "max", "(II)I"⟩
def dkwJ7_max_0 : List UInt8 := [26, 27, 161, 0, 7, 26, 167, 0, 4, 27, 172]
abbrev dktJ7_max_0 : List UInt8 := dkwJ7_max_0 ++ []
theorem dksJ7_max_0 : cJ7_max.data.toList.drop 0 = dktJ7_max_0 := by decide +kernel
theorem dJ7_max_0 : decode cJ7_max 0 = .ok (.iload_n 0, 1) := dk_26 (dk_at dksJ7_max_0 0 rfl rfl)
theorem dJ7_max_1 : decode cJ7_max 1 = .ok (.iload_n 1, 1) := dk_27 (dk_at dksJ7_max_0 1 rfl rfl)
theorem dJ7_max_2 : decode cJ7_max 2 = .ok (.if_icmp .lt 7, 3) := dk_161 0 7 (dk_at dksJ7_max_0 2 rfl rfl)
theorem dJ7_max_5 : decode cJ7_max 5 = .ok (.iload_n 0, 1) := dk_26 (dk_at dksJ7_max_0 5 rfl rfl)
theorem dJ7_max_6 : decode cJ7_max 6 = .ok (.goto 4, 3) := dk_167 0 4 (dk_at dksJ7_max_0 6 rfl rfl)
theorem dJ7_max_9 : decode cJ7_max 9 = .ok (.iload_n 1, 1) := dk_27 (dk_at dksJ7_max_0 9 rfl rfl)
theorem dJ7_max_10 : decode cJ7_max 10 = .ok (.ireturn, 1) := dk_172 (dk_at dksJ7_max_0 10 rfl rfl)
abbrev cJ7_min_2 : ByteArray := prog_30_method_70_code
def yJ7_min_2 : MethodName := ⟨RJ7, "min", "(JJ)J"⟩
def dkwJ7_min_2_0 : List UInt8 := [30, 32, 148, 157, 0, 7, 30, 167, 0, 4, 32, 173]
abbrev dktJ7_min_2_0 : List UInt8 := dkwJ7_min_2_0 ++ []
theorem dksJ7_min_2_0 : cJ7_min_2.data.toList.drop 0 = dktJ7_min_2_0 := by decide +kernel
theorem dJ7_min_2_0 : decode cJ7_min_2 0 = .ok (.lload_n 0, 1) := dk_30 (dk_at dksJ7_min_2_0 0 rfl rfl)
theorem dJ7_min_2_1 : decode cJ7_min_2 1 = .ok (.lload_n 2, 1) := dk_32 (dk_at dksJ7_min_2_0 1 rfl rfl)
theorem dJ7_min_2_2 : decode cJ7_min_2 2 = .ok (.lcmp, 1) := dk_148 (dk_at dksJ7_min_2_0 2 rfl rfl)
theorem dJ7_min_2_3 : decode cJ7_min_2 3 = .ok (.ifCond .gt 7, 3) := dk_157 0 7 (dk_at dksJ7_min_2_0 3 rfl rfl)
theorem dJ7_min_2_6 : decode cJ7_min_2 6 = .ok (.lload_n 0, 1) := dk_30 (dk_at dksJ7_min_2_0 6 rfl rfl)
theorem dJ7_min_2_7 : decode cJ7_min_2 7 = .ok (.goto 4, 3) := dk_167 0 4 (dk_at dksJ7_min_2_0 7 rfl rfl)
theorem dJ7_min_2_10 : decode cJ7_min_2 10 = .ok (.lload_n 2, 1) := dk_32 (dk_at dksJ7_min_2_0 10 rfl rfl)
theorem dJ7_min_2_11 : decode cJ7_min_2 11 = .ok (.lreturn, 1) := dk_173 (dk_at dksJ7_min_2_0 11 rfl rfl)
abbrev cJ7_max_2 : ByteArray := prog_30_method_66_code
def yJ7_max_2 : MethodName := ⟨RJ7, "max", "(JJ)J"⟩
def dkwJ7_max_2_0 : List UInt8 := [30, 32, 148, 155, 0, 7, 30, 167, 0, 4, 32, 173]
abbrev dktJ7_max_2_0 : List UInt8 := dkwJ7_max_2_0 ++ []
theorem dksJ7_max_2_0 : cJ7_max_2.data.toList.drop 0 = dktJ7_max_2_0 := by decide +kernel
theorem dJ7_max_2_0 : decode cJ7_max_2 0 = .ok (.lload_n 0, 1) := dk_30 (dk_at dksJ7_max_2_0 0 rfl rfl)
theorem dJ7_max_2_1 : decode cJ7_max_2 1 = .ok (.lload_n 2, 1) := dk_32 (dk_at dksJ7_max_2_0 1 rfl rfl)
theorem dJ7_max_2_2 : decode cJ7_max_2 2 = .ok (.lcmp, 1) := dk_148 (dk_at dksJ7_max_2_0 2 rfl rfl)
theorem dJ7_max_2_3 : decode cJ7_max_2 3 = .ok (.ifCond .lt 7, 3) := dk_155 0 7 (dk_at dksJ7_max_2_0 3 rfl rfl)
theorem dJ7_max_2_6 : decode cJ7_max_2 6 = .ok (.lload_n 0, 1) := dk_30 (dk_at dksJ7_max_2_0 6 rfl rfl)
theorem dJ7_max_2_7 : decode cJ7_max_2 7 = .ok (.goto 4, 3) := dk_167 0 4 (dk_at dksJ7_max_2_0 7 rfl rfl)
theorem dJ7_max_2_10 : decode cJ7_max_2 10 = .ok (.lload_n 2, 1) := dk_32 (dk_at dksJ7_max_2_0 10 rfl rfl)
theorem dJ7_max_2_11 : decode cJ7_max_2 11 = .ok (.lreturn, 1) := dk_173 (dk_at dksJ7_max_2_0 11 rfl rfl)
theorem q124 : (Jvm.Cond.initialized "java/lang/Math") ∈ lw_all := lw_g (lw_at lw_m1 14 rfl) rfl
theorem q509 : (Jvm.Cond.static ({ cls := "java/lang/Math", name := "min", desc := "(II)I" } : Jvm.MethodName)) ∈ lw_all := lw_g (lw_at lw_m2 159 rfl) rfl
theorem q510 : (Jvm.Cond.code ({ cls := "java/lang/Math", name := "min", desc := "(II)I" } : Jvm.MethodName) prog_30_method_69_code (2 : Nat) (Option.some Jvm.ClassFile.FieldType.int)) ∈ lw_all := lw_g (lw_at lw_m2 160 rfl) rfl
theorem q522 : (Jvm.Cond.static ({ cls := "java/lang/Math", name := "max", desc := "(II)I" } : Jvm.MethodName)) ∈ lw_all := lw_g (lw_at lw_m2 172 rfl) rfl
theorem q523 : (Jvm.Cond.code ({ cls := "java/lang/Math", name := "max", desc := "(II)I" } : Jvm.MethodName) prog_30_method_65_code (2 : Nat) (Option.some Jvm.ClassFile.FieldType.int)) ∈ lw_all := lw_g (lw_at lw_m2 173 rfl) rfl
theorem q662 : (Jvm.Cond.static ({ cls := "java/lang/Math", name := "min", desc := "(JJ)J" } : Jvm.MethodName)) ∈ lw_all := lw_g (lw_at lw_m3 72 rfl) rfl
theorem q663 : (Jvm.Cond.code ({ cls := "java/lang/Math", name := "min", desc := "(JJ)J" } : Jvm.MethodName) prog_30_method_70_code (4 : Nat) (Option.some Jvm.ClassFile.FieldType.long)) ∈ lw_all := lw_g (lw_at lw_m3 73 rfl) rfl
theorem q665 : (Jvm.Cond.static ({ cls := "java/lang/Math", name := "max", desc := "(JJ)J" } : Jvm.MethodName)) ∈ lw_all := lw_g (lw_at lw_m3 75 rfl) rfl
theorem q666 : (Jvm.Cond.code ({ cls := "java/lang/Math", name := "max", desc := "(JJ)J" } : Jvm.MethodName) prog_30_method_66_code (4 : Nat) (Option.some Jvm.ClassFile.FieldType.long)) ∈ lw_all := lw_g (lw_at lw_m3 76 rfl) rfl
/-! java/lang/String -/
set_option maxRecDepth 100000
def RJ8 : String := "java/lang/String"
abbrev cJ8_length : ByteArray := prog_31_method_54_code
def yJ8_length : MethodName := ⟨RJ8, "length", "()I"⟩
def dkwJ8_length_0 : List UInt8 := [42, 180, 0, 9, 190, 42, 182, 1, 79, 122, 172]
abbrev dktJ8_length_0 : List UInt8 := dkwJ8_length_0 ++ []
theorem dksJ8_length_0 : cJ8_length.data.toList.drop 0 = dktJ8_length_0 := by decide +kernel
theorem dJ8_length_0 : decode cJ8_length 0 = .ok (.aload_n 0, 1) := dk_42 (dk_at dksJ8_length_0 0 rfl rfl)
theorem dJ8_length_1 : decode cJ8_length 1 = .ok (.getfield 9, 3) := dk_180 0 9 (dk_at dksJ8_length_0 1 rfl rfl)
theorem dJ8_length_4 : decode cJ8_length 4 = .ok (.arraylength, 1) := dk_190 (dk_at dksJ8_length_0 4 rfl rfl)
theorem dJ8_length_5 : decode cJ8_length 5 = .ok (.aload_n 0, 1) := dk_42 (dk_at dksJ8_length_0 5 rfl rfl)
theorem dJ8_length_6 : decode cJ8_length 6 = .ok (.invokevirtual 335, 3) := dk_182 1 79 (dk_at dksJ8_length_0 6 rfl rfl)
theorem dJ8_length_9 : decode cJ8_length 9 = .ok (.ishr, 1) := dk_122 (dk_at dksJ8_length_0 9 rfl rfl)
theorem dJ8_length_10 : decode cJ8_length 10 = .ok (.ireturn, 1) := dk_172 (dk_at dksJ8_length_0 10 rfl rfl)
abbrev cJ8_coder : ByteArray := prog_31_method_152_code
def yJ8_coder : MethodName := ⟨RJ8, "coder", "()B"⟩
def dkwJ8_coder_0 : List UInt8 := [178, 0, 38, 153, 0, 10, 42, 180, 0, 15, 167, 0, 4, 4, 172]
abbrev dktJ8_coder_0 : List UInt8 := dkwJ8_coder_0 ++ []
theorem dksJ8_coder_0 : cJ8_coder.data.toList.drop 0 = dktJ8_coder_0 := by decide +kernel
theorem dJ8_coder_0 : decode cJ8_coder 0 = .ok (.getstatic 38, 3) := dk_178 0 38 (dk_at dksJ8_coder_0 0 rfl rfl)
theorem dJ8_coder_3 : decode cJ8_coder 3 = .ok (.ifCond .eq 10, 3) := dk_153 0 10 (dk_at dksJ8_coder_0 3 rfl rfl)
theorem dJ8_coder_6 : decode cJ8_coder 6 = .ok (.aload_n 0, 1) := dk_42 (dk_at dksJ8_coder_0 6 rfl rfl)
theorem dJ8_coder_7 : decode cJ8_coder 7 = .ok (.getfield 15, 3) := dk_180 0 15 (dk_at dksJ8_coder_0 7 rfl rfl)
theorem dJ8_coder_10 : decode cJ8_coder 10 = .ok (.goto 4, 3) := dk_167 0 4 (dk_at dksJ8_coder_0 10 rfl rfl)
theorem dJ8_coder_13 : decode cJ8_coder 13 = .ok (.iconst 1, 1) := dk_4 (dk_at dksJ8_coder_0 13 rfl rfl)
theorem dJ8_coder_14 : decode cJ8_coder 14 = .ok (.ireturn, 1) := dk_172 (dk_at dksJ8_coder_0 14 rfl rfl)
abbrev cJ8_charAt : ByteArray := prog_31_method_56_code
def yJ8_charAt : MethodName := ⟨RJ8, "charAt", "(I)C"⟩
def dkwJ8_charAt_1 : List UInt8 := [172]
abbrev dktJ8_charAt_1 : List UInt8 := dkwJ8_charAt_1 ++ []
def dkwJ8_charAt_0 : List UInt8 := [42, 182, 1, 236, 153, 0, 12, 42, 180, 0, 9, 27, 184, 1, 239, 172, 42, 180, 0, 9, 27, 184, 1, 242]
abbrev dktJ8_charAt_0 : List UInt8 := dkwJ8_charAt_0 ++ dktJ8_charAt_1
theorem dksJ8_charAt_0 : cJ8_charAt.data.toList.drop 0 = dktJ8_charAt_0 := by decide +kernel
theorem dksJ8_charAt_1 : cJ8_charAt.data.toList.drop 24 = dktJ8_charAt_1 := dk_seg dksJ8_charAt_0 24 rfl rfl
theorem dJ8_charAt_0 : decode cJ8_charAt 0 = .ok (.aload_n 0, 1) := dk_42 (dk_at dksJ8_charAt_0 0 rfl rfl)
theorem dJ8_charAt_1 : decode cJ8_charAt 1 = .ok (.invokevirtual 492, 3) := dk_182 1 236 (dk_at dksJ8_charAt_0 1 rfl rfl)
theorem dJ8_charAt_4 : decode cJ8_charAt 4 = .ok (.ifCond .eq 12, 3) := dk_153 0 12 (dk_at dksJ8_charAt_0 4 rfl rfl)
theorem dJ8_charAt_7 : decode cJ8_charAt 7 = .ok (.aload_n 0, 1) := dk_42 (dk_at dksJ8_charAt_0 7 rfl rfl)
theorem dJ8_charAt_8 : decode cJ8_charAt 8 = .ok (.getfield 9, 3) := dk_180 0 9 (dk_at dksJ8_charAt_0 8 rfl rfl)
theorem dJ8_charAt_11 : decode cJ8_charAt 11 = .ok (.iload_n 1, 1) := dk_27 (dk_at dksJ8_charAt_0 11 rfl rfl)
theorem dJ8_charAt_12 : decode cJ8_charAt 12 = .ok (.invokestatic 495, 3) := dk_184 1 239 (dk_at dksJ8_charAt_0 12 rfl rfl)
theorem dJ8_charAt_15 : decode cJ8_charAt 15 = .ok (.ireturn, 1) := dk_172 (dk_at dksJ8_charAt_0 15 rfl rfl)
theorem dJ8_charAt_16 : decode cJ8_charAt 16 = .ok (.aload_n 0, 1) := dk_42 (dk_at dksJ8_charAt_0 16 rfl rfl)
theorem dJ8_charAt_17 : decode cJ8_charAt 17 = .ok (.getfield 9, 3) := dk_180 0 9 (dk_at dksJ8_charAt_0 17 rfl rfl)
theorem dJ8_charAt_20 : decode cJ8_charAt 20 = .ok (.iload_n 1, 1) := dk_27 (dk_at dksJ8_charAt_0 20 rfl rfl)
theorem dJ8_charAt_21 : decode cJ8_charAt 21 = .ok (.invokestatic 498, 3) := dk_184 1 242 (dk_at dksJ8_charAt_0 21 rfl rfl)
theorem dJ8_charAt_24 : decode cJ8_charAt 24 = .ok (.ireturn, 1) := dk_172 (dk_at dksJ8_charAt_1 0 rfl rfl)
abbrev cJ8_isLatin1 : ByteArray := prog_31_method_154_code
def yJ8_isLatin1 : MethodName := ⟨RJ8, "isLatin1", "()Z"⟩
def dkwJ8_isLatin1_0 : List UInt8 := [178, 0, 38, 153, 0, 14, 42, 180, 0, 15, 154, 0, 7, 4, 167, 0, 4, 3, 172]
abbrev dktJ8_isLatin1_0 : List UInt8 := dkwJ8_isLatin1_0 ++ []
theorem dksJ8_isLatin1_0 : cJ8_isLatin1.data.toList.drop 0 = dktJ8_isLatin1_0 := by decide +kernel
theorem dJ8_isLatin1_0 : decode cJ8_isLatin1 0 = .ok (.getstatic 38, 3) := dk_178 0 38 (dk_at dksJ8_isLatin1_0 0 rfl rfl)
theorem dJ8_isLatin1_3 : decode cJ8_isLatin1 3 = .ok (.ifCond .eq 14, 3) := dk_153 0 14 (dk_at dksJ8_isLatin1_0 3 rfl rfl)
theorem dJ8_isLatin1_6 : decode cJ8_isLatin1 6 = .ok (.aload_n 0, 1) := dk_42 (dk_at dksJ8_isLatin1_0 6 rfl rfl)
theorem dJ8_isLatin1_7 : decode cJ8_isLatin1 7 = .ok (.getfield 15, 3) := dk_180 0 15 (dk_at dksJ8_isLatin1_0 7 rfl rfl)
theorem dJ8_isLatin1_10 : decode cJ8_isLatin1 10 = .ok (.ifCond .ne 7, 3) := dk_154 0 7 (dk_at dksJ8_isLatin1_0 10 rfl rfl)
theorem dJ8_isLatin1_13 : decode cJ8_isLatin1 13 = .ok (.iconst 1, 1) := dk_4 (dk_at dksJ8_isLatin1_0 13 rfl rfl)
theorem dJ8_isLatin1_14 : decode cJ8_isLatin1 14 = .ok (.goto 4, 3) := dk_167 0 4 (dk_at dksJ8_isLatin1_0 14 rfl rfl)
theorem dJ8_isLatin1_17 : decode cJ8_isLatin1 17 = .ok (.iconst 0, 1) := dk_3 (dk_at dksJ8_isLatin1_0 17 rfl rfl)
theorem dJ8_isLatin1_18 : decode cJ8_isLatin1 18 = .ok (.ireturn, 1) := dk_172 (dk_at dksJ8_isLatin1_0 18 rfl rfl)
abbrev cJ8_checkIndex : ByteArray := prog_31_method_155_code
def yJ8_checkIndex : MethodName := ⟨RJ8, "checkIndex", "(II)V"⟩
def dkwJ8_checkIndex_0 : List UInt8 := [26, 27, 178, 4, 29, 184, 4, 35, 87, 177]
abbrev dktJ8_checkIndex_0 : List UInt8 := dkwJ8_checkIndex_0 ++ []
theorem dksJ8_checkIndex_0 : cJ8_checkIndex.data.toList.drop 0 = dktJ8_checkIndex_0 := by decide +kernel
theorem dJ8_checkIndex_0 : decode cJ8_checkIndex 0 = .ok (.iload_n 0, 1) := dk_26 (dk_at dksJ8_checkIndex_0 0 rfl rfl)
theorem dJ8_checkIndex_1 : decode cJ8_checkIndex 1 = .ok (.iload_n 1, 1) := dk_27 (dk_at dksJ8_checkIndex_0 1 rfl rfl)
theorem dJ8_checkIndex_2 : decode cJ8_checkIndex 2 = .ok (.getstatic 1053, 3) := dk_178 4 29 (dk_at dksJ8_checkIndex_0 2 rfl rfl)
theorem dJ8_checkIndex_5 : decode cJ8_checkIndex 5 = .ok (.invokestatic 1059, 3) := dk_184 4 35 (dk_at dksJ8_checkIndex_0 5 rfl rfl)
theorem dJ8_checkIndex_8 : decode cJ8_checkIndex 8 = .ok (.pop, 1) := dk_87 (dk_at dksJ8_checkIndex_0 8 rfl rfl)
theorem dJ8_checkIndex_9 : decode cJ8_checkIndex 9 = .ok (.return_, 1) := dk_177 (dk_at dksJ8_checkIndex_0 9 rfl rfl)
theorem q127 : (Jvm.Cond.initialized "java/lang/String") ∈ lw_all := lw_g (lw_at lw_m1 17 rfl) rfl
theorem q788 : (Jvm.Cond.instanceMethod ({ cls := "java/lang/String", name := "length", desc := "()I" } : Jvm.MethodName)) ∈ lw_all := lw_g (lw_at lw_m3 198 rfl) rfl
theorem q789 : (Jvm.Cond.selects "java/lang/String" ({ cls := "java/lang/String", name := "length", desc := "()I" } : Jvm.MethodName) ({ cls := "java/lang/String", name := "length", desc := "()I" } : Jvm.MethodName)) ∈ lw_all := lw_g (lw_at lw_m3 199 rfl) rfl
theorem q790 : (Jvm.Cond.code ({ cls := "java/lang/String", name := "length", desc := "()I" } : Jvm.MethodName) prog_31_method_54_code (1 : Nat) (Option.some Jvm.ClassFile.FieldType.int)) ∈ lw_all := lw_g (lw_at lw_m3 200 rfl) rfl
theorem q791 : (Jvm.Cond.methodLink "java/lang/String" (335 : Nat) ({ cls := "java/lang/String", name := "coder", desc := "()B" } : Jvm.MethodName)) ∈ lw_all := lw_g (lw_at lw_m3 201 rfl) rfl
theorem q792 : (Jvm.Cond.instanceMethod ({ cls := "java/lang/String", name := "coder", desc := "()B" } : Jvm.MethodName)) ∈ lw_all := lw_g (lw_at lw_m3 202 rfl) rfl
theorem q793 : (Jvm.Cond.selects "java/lang/String" ({ cls := "java/lang/String", name := "coder", desc := "()B" } : Jvm.MethodName) ({ cls := "java/lang/String", name := "coder", desc := "()B" } : Jvm.MethodName)) ∈ lw_all := lw_g (lw_at lw_m3 203 rfl) rfl
theorem q794 : (Jvm.Cond.code ({ cls := "java/lang/String", name := "coder", desc := "()B" } : Jvm.MethodName) prog_31_method_152_code (1 : Nat) (Option.some Jvm.ClassFile.FieldType.byte)) ∈ lw_all := lw_g (lw_at lw_m3 204 rfl) rfl
theorem q795 : (Jvm.Cond.fieldLink "java/lang/String" (38 : Nat) "java/lang/String" "COMPACT_STRINGS" "Z") ∈ lw_all := lw_g (lw_at lw_m3 205 rfl) rfl
theorem q796 : (Jvm.Cond.laysStatic "java/lang/String" "COMPACT_STRINGS" "Z") ∈ lw_tbl := lw_at lw_m3 206 rfl
theorem q798 : (Jvm.Cond.instanceMethod ({ cls := "java/lang/String", name := "charAt", desc := "(I)C" } : Jvm.MethodName)) ∈ lw_all := lw_g (lw_at lw_m3 208 rfl) rfl
theorem q799 : (Jvm.Cond.selects "java/lang/String" ({ cls := "java/lang/String", name := "charAt", desc := "(I)C" } : Jvm.MethodName) ({ cls := "java/lang/String", name := "charAt", desc := "(I)C" } : Jvm.MethodName)) ∈ lw_all := lw_g (lw_at lw_m3 209 rfl) rfl
theorem q800 : (Jvm.Cond.code ({ cls := "java/lang/String", name := "charAt", desc := "(I)C" } : Jvm.MethodName) prog_31_method_56_code (2 : Nat) (Option.some Jvm.ClassFile.FieldType.char)) ∈ lw_all := lw_g (lw_at lw_m3 210 rfl) rfl
theorem q801 : (Jvm.Cond.methodLink "java/lang/String" (492 : Nat) ({ cls := "java/lang/String", name := "isLatin1", desc := "()Z" } : Jvm.MethodName)) ∈ lw_all := lw_g (lw_at lw_m3 211 rfl) rfl
theorem q802 : (Jvm.Cond.instanceMethod ({ cls := "java/lang/String", name := "isLatin1", desc := "()Z" } : Jvm.MethodName)) ∈ lw_all := lw_g (lw_at lw_m3 212 rfl) rfl
theorem q803 : (Jvm.Cond.selects "java/lang/String" ({ cls := "java/lang/String", name := "isLatin1", desc := "()Z" } : Jvm.MethodName) ({ cls := "java/lang/String", name := "isLatin1", desc := "()Z" } : Jvm.MethodName)) ∈ lw_all := lw_g (lw_at lw_m3 213 rfl) rfl
theorem q804 : (Jvm.Cond.code ({ cls := "java/lang/String", name := "isLatin1", desc := "()Z" } : Jvm.MethodName) prog_31_method_154_code (1 : Nat) (Option.some Jvm.ClassFile.FieldType.boolean)) ∈ lw_all := lw_g (lw_at lw_m3 214 rfl) rfl
theorem q805 : (Jvm.Cond.methodLink "java/lang/String" (495 : Nat) ({ cls := "java/lang/StringLatin1", name := "charAt", desc := "([BI)C" } : Jvm.MethodName)) ∈ lw_all := lw_g (lw_at lw_m3 215 rfl) rfl
theorem q809 : (Jvm.Cond.static ({ cls := "java/lang/String", name := "checkIndex", desc := "(II)V" } : Jvm.MethodName)) ∈ lw_all := lw_g (lw_at lw_m3 219 rfl) rfl
theorem q810 : (Jvm.Cond.code ({ cls := "java/lang/String", name := "checkIndex", desc := "(II)V" } : Jvm.MethodName) prog_31_method_155_code (2 : Nat) (Option.none : Option Jvm.ClassFile.FieldType)) ∈ lw_all := lw_g (lw_at lw_m3 220 rfl) rfl
theorem q811 : (Jvm.Cond.fieldLink "java/lang/String" (1053 : Nat) "jdk/internal/util/Preconditions" "SIOOBE_FORMATTER" "Ljava/util/function/BiFunction;") ∈ lw_all := lw_g (lw_at lw_m3 221 rfl) rfl
theorem q813 : (Jvm.Cond.methodLink "java/lang/String" (1059 : Nat) ({ cls := "jdk/internal/util/Preconditions", name := "checkIndex", desc := "(IILjava/util/function/BiFunction;)I" } : Jvm.MethodName)) ∈ lw_all := lw_g (lw_at lw_m3 223 rfl) rfl
theorem q814 : (Jvm.Cond.methodLink "java/lang/String" (498 : Nat) ({ cls := "java/lang/StringUTF16", name := "charAt", desc := "([BI)C" } : Jvm.MethodName)) ∈ lw_all := lw_g (lw_at lw_m3 224 rfl) rfl
theorem q2261 : (Jvm.Cond.castable "java/lang/String" "java/lang/Object") ∈ lw_tbl := lw_at lw_m9 231 rfl
theorem q2272 : (Jvm.Cond.fieldLink "java/lang/String" (9 : Nat) "java/lang/String" "value" "[B") ∈ lw_all := lw_g (lw_at lw_m10 2 rfl) rfl
theorem q2273 : (Jvm.Cond.fieldLink "java/lang/String" (15 : Nat) "java/lang/String" "coder" "B") ∈ lw_all := lw_g (lw_at lw_m10 3 rfl) rfl
/-! java/lang/StringLatin1 -/
set_option maxRecDepth 100000
def RJ9 : String := "java/lang/StringLatin1"
abbrev cJ9_charAt : ByteArray := prog_32_method_2_code
def yJ9_charAt : MethodName := ⟨RJ9, "charAt", "([BI)C"⟩
def dkwJ9_charAt_0 : List UInt8 := [27, 42, 190, 184, 0, 9, 42, 27, 51, 17, 0, 255, 126, 146, 172]
abbrev dktJ9_charAt_0 : List UInt8 := dkwJ9_charAt_0 ++ []
theorem dksJ9_charAt_0 : cJ9_charAt.data.toList.drop 0 = dktJ9_charAt_0 := by decide +kernel
theorem dJ9_charAt_0 : decode cJ9_charAt 0 = .ok (.iload_n 1, 1) := dk_27 (dk_at dksJ9_charAt_0 0 rfl rfl)
theorem dJ9_charAt_1 : decode cJ9_charAt 1 = .ok (.aload_n 0, 1) := dk_42 (dk_at dksJ9_charAt_0 1 rfl rfl)
theorem dJ9_charAt_2 : decode cJ9_charAt 2 = .ok (.arraylength, 1) := dk_190 (dk_at dksJ9_charAt_0 2 rfl rfl)
theorem dJ9_charAt_3 : decode cJ9_charAt 3 = .ok (.invokestatic 9, 3) := dk_184 0 9 (dk_at dksJ9_charAt_0 3 rfl rfl)
theorem dJ9_charAt_6 : decode cJ9_charAt 6 = .ok (.aload_n 0, 1) := dk_42 (dk_at dksJ9_charAt_0 6 rfl rfl)
theorem dJ9_charAt_7 : decode cJ9_charAt 7 = .ok (.iload_n 1, 1) := dk_27 (dk_at dksJ9_charAt_0 7 rfl rfl)
theorem dJ9_charAt_8 : decode cJ9_charAt 8 = .ok (.baload, 1) := dk_51 (dk_at dksJ9_charAt_0 8 rfl rfl)
theorem dJ9_charAt_9 : decode cJ9_charAt 9 = .ok (.sipush 255, 3) := dk_17 0 255 (dk_at dksJ9_charAt_0 9 rfl rfl)
theorem dJ9_charAt_12 : decode cJ9_charAt 12 = .ok (.iand, 1) := dk_126 (dk_at dksJ9_charAt_0 12 rfl rfl)
theorem dJ9_charAt_13 : decode cJ9_charAt 13 = .ok (.i2c, 1) := dk_146 (dk_at dksJ9_charAt_0 13 rfl rfl)
theorem dJ9_charAt_14 : decode cJ9_charAt 14 = .ok (.ireturn, 1) := dk_172 (dk_at dksJ9_charAt_0 14 rfl rfl)
theorem q128 : (Jvm.Cond.initialized "java/lang/StringLatin1") ∈ lw_all := lw_g (lw_at lw_m1 18 rfl) rfl
theorem q806 : (Jvm.Cond.static ({ cls := "java/lang/StringLatin1", name := "charAt", desc := "([BI)C" } : Jvm.MethodName)) ∈ lw_all := lw_g (lw_at lw_m3 216 rfl) rfl
theorem q807 : (Jvm.Cond.code ({ cls := "java/lang/StringLatin1", name := "charAt", desc := "([BI)C" } : Jvm.MethodName) prog_32_method_2_code (2 : Nat) (Option.some Jvm.ClassFile.FieldType.char)) ∈ lw_all := lw_g (lw_at lw_m3 217 rfl) rfl
theorem q808 : (Jvm.Cond.methodLink "java/lang/StringLatin1" (9 : Nat) ({ cls := "java/lang/String", name := "checkIndex", desc := "(II)V" } : Jvm.MethodName)) ∈ lw_all := lw_g (lw_at lw_m3 218 rfl) rfl
/-! ForestRooms$State -/
set_option maxRecDepth 100000
def RX1 : String := "ForestRooms$State"
def TX1 : u_T := fun k => match k with
  | 0 => ("ForestRooms$State", "table", "LForestRooms$Table;", true)
  | 1 => ("ForestRooms$State", "light", "[I", true)
  | 2 => ("ForestRooms$State", "wet", "[I", true)
  | 3 => ("ForestRooms$State", "size", "[I", true)
  | 4 => ("ForestRooms$State", "needs", "[I", true)
  | 5 => ("ForestRooms$State", "drinks", "[I", true)
  | 6 => ("ForestRooms$State", "sights", "[I", true)
  | 7 => ("ForestRooms$State", "terms", "[I", true)
  | 8 => ("ForestRooms$State", "laws", "Ljava/util/ArrayList;", true)
  | 9 => ("ForestRooms$State", "seen", "I", false)
  | 10 => ("ForestRooms$State", "coming", "I", false)
  | _ => ("ForestRooms$State", "force", "I", false)
def tyX1 : Nat → FieldType := fun k => match k with
  | 0 => .object "ForestRooms$Table"
  | 1 => .array .int
  | 2 => .array .int
  | 3 => .array .int
  | 4 => .array .int
  | 5 => .array .int
  | 6 => .array .int
  | 7 => .array .int
  | 8 => .object "java/util/ArrayList"
  | 9 => .int
  | 10 => .int
  | _ => .int
abbrev wsX10 : List Cond := u_ws RX1 TX1 12
theorem nmX1 : ∀ a, a < 12 → ∀ b, b < 12 → a ≠ b → (TX1 a).2.1 ≠ (TX1 b).2.1 := by decide +kernel
theorem tyX1_ok : ∀ k, k < 12 → parseFieldDescriptor (TX1 k).2.2.1 = some (tyX1 k) := by decide +kernel
abbrev cX1_init : ByteArray := prog_15_method_1_code
def yX1_init : MethodName := ⟨RX1, "<init>", "()V"⟩
def dkwX1_init_7 : List UInt8 := [79, 132, 1, 1, 167, 255, 233, 177]
abbrev dktX1_init_7 : List UInt8 := dkwX1_init_7 ++ []
def dkwX1_init_6 : List UInt8 := [167, 255, 226, 3, 60, 27, 16, 6, 162, 0, 23, 42, 180, 0, 28, 27, 6, 79, 42, 180, 0, 31, 27, 6]
abbrev dktX1_init_6 : List UInt8 := dkwX1_init_6 ++ dktX1_init_7
def dkwX1_init_5 : List UInt8 := [180, 0, 18, 27, 8, 79, 42, 180, 0, 22, 27, 8, 79, 42, 180, 0, 25, 27, 6, 79, 132, 1, 1]
abbrev dktX1_init_5 : List UInt8 := dkwX1_init_5 ++ dktX1_init_6
def dkwX1_init_4 : List UInt8 := [89, 5, 183, 0, 42, 181, 0, 45, 42, 2, 181, 0, 49, 3, 60, 27, 16, 16, 162, 0, 30, 42]
abbrev dktX1_init_4 : List UInt8 := dkwX1_init_4 ++ dktX1_init_5
def dkwX1_init_3 : List UInt8 := [4, 16, 10, 79, 89, 5, 16, 30, 79, 89, 6, 6, 79, 89, 7, 3, 79, 181, 0, 37, 42, 187, 0, 40]
abbrev dktX1_init_3 : List UInt8 := dkwX1_init_3 ++ dktX1_init_4
def dkwX1_init_2 : List UInt8 := [16, 6, 188, 10, 181, 0, 31, 42, 16, 24, 188, 10, 181, 0, 34, 42, 8, 188, 10, 89, 3, 3, 79, 89]
abbrev dktX1_init_2 : List UInt8 := dkwX1_init_2 ++ dktX1_init_3
def dkwX1_init_1 : List UInt8 := [16, 16, 188, 10, 181, 0, 22, 42, 16, 16, 188, 10, 181, 0, 25, 42, 16, 6, 188, 10, 181, 0, 28, 42]
abbrev dktX1_init_1 : List UInt8 := dkwX1_init_1 ++ dktX1_init_2
def dkwX1_init_0 : List UInt8 := [42, 183, 0, 3, 42, 187, 0, 9, 89, 183, 0, 11, 181, 0, 12, 42, 16, 16, 188, 10, 181, 0, 18, 42]
abbrev dktX1_init_0 : List UInt8 := dkwX1_init_0 ++ dktX1_init_1
theorem dksX1_init_0 : cX1_init.data.toList.drop 0 = dktX1_init_0 := by decide +kernel
theorem dksX1_init_1 : cX1_init.data.toList.drop 24 = dktX1_init_1 := dk_seg dksX1_init_0 24 rfl rfl
theorem dksX1_init_2 : cX1_init.data.toList.drop 48 = dktX1_init_2 := dk_seg dksX1_init_1 24 rfl rfl
theorem dksX1_init_3 : cX1_init.data.toList.drop 72 = dktX1_init_3 := dk_seg dksX1_init_2 24 rfl rfl
theorem dksX1_init_4 : cX1_init.data.toList.drop 96 = dktX1_init_4 := dk_seg dksX1_init_3 24 rfl rfl
theorem dksX1_init_5 : cX1_init.data.toList.drop 118 = dktX1_init_5 := dk_seg dksX1_init_4 22 rfl rfl
theorem dksX1_init_6 : cX1_init.data.toList.drop 141 = dktX1_init_6 := dk_seg dksX1_init_5 23 rfl rfl
theorem dksX1_init_7 : cX1_init.data.toList.drop 165 = dktX1_init_7 := dk_seg dksX1_init_6 24 rfl rfl
theorem dX1_init_0 : decode cX1_init 0 = .ok (.aload_n 0, 1) := dk_42 (dk_at dksX1_init_0 0 rfl rfl)
theorem dX1_init_1 : decode cX1_init 1 = .ok (.invokespecial 3, 3) := dk_183 0 3 (dk_at dksX1_init_0 1 rfl rfl)
theorem dX1_init_4 : decode cX1_init 4 = .ok (.aload_n 0, 1) := dk_42 (dk_at dksX1_init_0 4 rfl rfl)
theorem dX1_init_5 : decode cX1_init 5 = .ok (.new 9, 3) := dk_187 0 9 (dk_at dksX1_init_0 5 rfl rfl)
theorem dX1_init_8 : decode cX1_init 8 = .ok (.dup, 1) := dk_89 (dk_at dksX1_init_0 8 rfl rfl)
theorem dX1_init_9 : decode cX1_init 9 = .ok (.invokespecial 11, 3) := dk_183 0 11 (dk_at dksX1_init_0 9 rfl rfl)
theorem dX1_init_12 : decode cX1_init 12 = .ok (.putfield 12, 3) := dk_181 0 12 (dk_at dksX1_init_0 12 rfl rfl)
theorem dX1_init_15 : decode cX1_init 15 = .ok (.aload_n 0, 1) := dk_42 (dk_at dksX1_init_0 15 rfl rfl)
theorem dX1_init_16 : decode cX1_init 16 = .ok (.bipush 16, 2) := dk_16 16 (dk_at dksX1_init_0 16 rfl rfl)
theorem dX1_init_18 : decode cX1_init 18 = .ok (.newarray .int, 2) := dk_188_10 (dk_at dksX1_init_0 18 rfl rfl)
theorem dX1_init_20 : decode cX1_init 20 = .ok (.putfield 18, 3) := dk_181 0 18 (dk_at dksX1_init_0 20 rfl rfl)
theorem dX1_init_23 : decode cX1_init 23 = .ok (.aload_n 0, 1) := dk_42 (dk_at dksX1_init_0 23 rfl rfl)
theorem dX1_init_24 : decode cX1_init 24 = .ok (.bipush 16, 2) := dk_16 16 (dk_at dksX1_init_1 0 rfl rfl)
theorem dX1_init_26 : decode cX1_init 26 = .ok (.newarray .int, 2) := dk_188_10 (dk_at dksX1_init_1 2 rfl rfl)
theorem dX1_init_28 : decode cX1_init 28 = .ok (.putfield 22, 3) := dk_181 0 22 (dk_at dksX1_init_1 4 rfl rfl)
theorem dX1_init_31 : decode cX1_init 31 = .ok (.aload_n 0, 1) := dk_42 (dk_at dksX1_init_1 7 rfl rfl)
theorem dX1_init_32 : decode cX1_init 32 = .ok (.bipush 16, 2) := dk_16 16 (dk_at dksX1_init_1 8 rfl rfl)
theorem dX1_init_34 : decode cX1_init 34 = .ok (.newarray .int, 2) := dk_188_10 (dk_at dksX1_init_1 10 rfl rfl)
theorem dX1_init_36 : decode cX1_init 36 = .ok (.putfield 25, 3) := dk_181 0 25 (dk_at dksX1_init_1 12 rfl rfl)
theorem dX1_init_39 : decode cX1_init 39 = .ok (.aload_n 0, 1) := dk_42 (dk_at dksX1_init_1 15 rfl rfl)
theorem dX1_init_40 : decode cX1_init 40 = .ok (.bipush 6, 2) := dk_16 6 (dk_at dksX1_init_1 16 rfl rfl)
theorem dX1_init_42 : decode cX1_init 42 = .ok (.newarray .int, 2) := dk_188_10 (dk_at dksX1_init_1 18 rfl rfl)
theorem dX1_init_44 : decode cX1_init 44 = .ok (.putfield 28, 3) := dk_181 0 28 (dk_at dksX1_init_1 20 rfl rfl)
theorem dX1_init_47 : decode cX1_init 47 = .ok (.aload_n 0, 1) := dk_42 (dk_at dksX1_init_1 23 rfl rfl)
theorem dX1_init_48 : decode cX1_init 48 = .ok (.bipush 6, 2) := dk_16 6 (dk_at dksX1_init_2 0 rfl rfl)
theorem dX1_init_50 : decode cX1_init 50 = .ok (.newarray .int, 2) := dk_188_10 (dk_at dksX1_init_2 2 rfl rfl)
theorem dX1_init_52 : decode cX1_init 52 = .ok (.putfield 31, 3) := dk_181 0 31 (dk_at dksX1_init_2 4 rfl rfl)
theorem dX1_init_55 : decode cX1_init 55 = .ok (.aload_n 0, 1) := dk_42 (dk_at dksX1_init_2 7 rfl rfl)
theorem dX1_init_56 : decode cX1_init 56 = .ok (.bipush 24, 2) := dk_16 24 (dk_at dksX1_init_2 8 rfl rfl)
theorem dX1_init_58 : decode cX1_init 58 = .ok (.newarray .int, 2) := dk_188_10 (dk_at dksX1_init_2 10 rfl rfl)
theorem dX1_init_60 : decode cX1_init 60 = .ok (.putfield 34, 3) := dk_181 0 34 (dk_at dksX1_init_2 12 rfl rfl)
theorem dX1_init_63 : decode cX1_init 63 = .ok (.aload_n 0, 1) := dk_42 (dk_at dksX1_init_2 15 rfl rfl)
theorem dX1_init_64 : decode cX1_init 64 = .ok (.iconst 5, 1) := dk_8 (dk_at dksX1_init_2 16 rfl rfl)
theorem dX1_init_65 : decode cX1_init 65 = .ok (.newarray .int, 2) := dk_188_10 (dk_at dksX1_init_2 17 rfl rfl)
theorem dX1_init_67 : decode cX1_init 67 = .ok (.dup, 1) := dk_89 (dk_at dksX1_init_2 19 rfl rfl)
theorem dX1_init_68 : decode cX1_init 68 = .ok (.iconst 0, 1) := dk_3 (dk_at dksX1_init_2 20 rfl rfl)
theorem dX1_init_69 : decode cX1_init 69 = .ok (.iconst 0, 1) := dk_3 (dk_at dksX1_init_2 21 rfl rfl)
theorem dX1_init_70 : decode cX1_init 70 = .ok (.iastore, 1) := dk_79 (dk_at dksX1_init_2 22 rfl rfl)
theorem dX1_init_71 : decode cX1_init 71 = .ok (.dup, 1) := dk_89 (dk_at dksX1_init_2 23 rfl rfl)
theorem dX1_init_72 : decode cX1_init 72 = .ok (.iconst 1, 1) := dk_4 (dk_at dksX1_init_3 0 rfl rfl)
theorem dX1_init_73 : decode cX1_init 73 = .ok (.bipush 10, 2) := dk_16 10 (dk_at dksX1_init_3 1 rfl rfl)
theorem dX1_init_75 : decode cX1_init 75 = .ok (.iastore, 1) := dk_79 (dk_at dksX1_init_3 3 rfl rfl)
theorem dX1_init_76 : decode cX1_init 76 = .ok (.dup, 1) := dk_89 (dk_at dksX1_init_3 4 rfl rfl)
theorem dX1_init_77 : decode cX1_init 77 = .ok (.iconst 2, 1) := dk_5 (dk_at dksX1_init_3 5 rfl rfl)
theorem dX1_init_78 : decode cX1_init 78 = .ok (.bipush 30, 2) := dk_16 30 (dk_at dksX1_init_3 6 rfl rfl)
theorem dX1_init_80 : decode cX1_init 80 = .ok (.iastore, 1) := dk_79 (dk_at dksX1_init_3 8 rfl rfl)
theorem dX1_init_81 : decode cX1_init 81 = .ok (.dup, 1) := dk_89 (dk_at dksX1_init_3 9 rfl rfl)
theorem dX1_init_82 : decode cX1_init 82 = .ok (.iconst 3, 1) := dk_6 (dk_at dksX1_init_3 10 rfl rfl)
theorem dX1_init_83 : decode cX1_init 83 = .ok (.iconst 3, 1) := dk_6 (dk_at dksX1_init_3 11 rfl rfl)
theorem dX1_init_84 : decode cX1_init 84 = .ok (.iastore, 1) := dk_79 (dk_at dksX1_init_3 12 rfl rfl)
theorem dX1_init_85 : decode cX1_init 85 = .ok (.dup, 1) := dk_89 (dk_at dksX1_init_3 13 rfl rfl)
theorem dX1_init_86 : decode cX1_init 86 = .ok (.iconst 4, 1) := dk_7 (dk_at dksX1_init_3 14 rfl rfl)
theorem dX1_init_87 : decode cX1_init 87 = .ok (.iconst 0, 1) := dk_3 (dk_at dksX1_init_3 15 rfl rfl)
theorem dX1_init_88 : decode cX1_init 88 = .ok (.iastore, 1) := dk_79 (dk_at dksX1_init_3 16 rfl rfl)
theorem dX1_init_89 : decode cX1_init 89 = .ok (.putfield 37, 3) := dk_181 0 37 (dk_at dksX1_init_3 17 rfl rfl)
theorem dX1_init_92 : decode cX1_init 92 = .ok (.aload_n 0, 1) := dk_42 (dk_at dksX1_init_3 20 rfl rfl)
theorem dX1_init_93 : decode cX1_init 93 = .ok (.new 40, 3) := dk_187 0 40 (dk_at dksX1_init_3 21 rfl rfl)
theorem dX1_init_96 : decode cX1_init 96 = .ok (.dup, 1) := dk_89 (dk_at dksX1_init_4 0 rfl rfl)
theorem dX1_init_97 : decode cX1_init 97 = .ok (.iconst 2, 1) := dk_5 (dk_at dksX1_init_4 1 rfl rfl)
theorem dX1_init_98 : decode cX1_init 98 = .ok (.invokespecial 42, 3) := dk_183 0 42 (dk_at dksX1_init_4 2 rfl rfl)
theorem dX1_init_101 : decode cX1_init 101 = .ok (.putfield 45, 3) := dk_181 0 45 (dk_at dksX1_init_4 5 rfl rfl)
theorem dX1_init_104 : decode cX1_init 104 = .ok (.aload_n 0, 1) := dk_42 (dk_at dksX1_init_4 8 rfl rfl)
theorem dX1_init_105 : decode cX1_init 105 = .ok (.iconst (-1), 1) := dk_2 (dk_at dksX1_init_4 9 rfl rfl)
theorem dX1_init_106 : decode cX1_init 106 = .ok (.putfield 49, 3) := dk_181 0 49 (dk_at dksX1_init_4 10 rfl rfl)
theorem dX1_init_109 : decode cX1_init 109 = .ok (.iconst 0, 1) := dk_3 (dk_at dksX1_init_4 13 rfl rfl)
theorem dX1_init_110 : decode cX1_init 110 = .ok (.istore_n 1, 1) := dk_60 (dk_at dksX1_init_4 14 rfl rfl)
theorem dX1_init_111 : decode cX1_init 111 = .ok (.iload_n 1, 1) := dk_27 (dk_at dksX1_init_4 15 rfl rfl)
theorem dX1_init_112 : decode cX1_init 112 = .ok (.bipush 16, 2) := dk_16 16 (dk_at dksX1_init_4 16 rfl rfl)
theorem dX1_init_114 : decode cX1_init 114 = .ok (.if_icmp .ge 30, 3) := dk_162 0 30 (dk_at dksX1_init_4 18 rfl rfl)
theorem dX1_init_117 : decode cX1_init 117 = .ok (.aload_n 0, 1) := dk_42 (dk_at dksX1_init_4 21 rfl rfl)
theorem dX1_init_118 : decode cX1_init 118 = .ok (.getfield 18, 3) := dk_180 0 18 (dk_at dksX1_init_5 0 rfl rfl)
theorem dX1_init_121 : decode cX1_init 121 = .ok (.iload_n 1, 1) := dk_27 (dk_at dksX1_init_5 3 rfl rfl)
theorem dX1_init_122 : decode cX1_init 122 = .ok (.iconst 5, 1) := dk_8 (dk_at dksX1_init_5 4 rfl rfl)
theorem dX1_init_123 : decode cX1_init 123 = .ok (.iastore, 1) := dk_79 (dk_at dksX1_init_5 5 rfl rfl)
theorem dX1_init_124 : decode cX1_init 124 = .ok (.aload_n 0, 1) := dk_42 (dk_at dksX1_init_5 6 rfl rfl)
theorem dX1_init_125 : decode cX1_init 125 = .ok (.getfield 22, 3) := dk_180 0 22 (dk_at dksX1_init_5 7 rfl rfl)
theorem dX1_init_128 : decode cX1_init 128 = .ok (.iload_n 1, 1) := dk_27 (dk_at dksX1_init_5 10 rfl rfl)
theorem dX1_init_129 : decode cX1_init 129 = .ok (.iconst 5, 1) := dk_8 (dk_at dksX1_init_5 11 rfl rfl)
theorem dX1_init_130 : decode cX1_init 130 = .ok (.iastore, 1) := dk_79 (dk_at dksX1_init_5 12 rfl rfl)
theorem dX1_init_131 : decode cX1_init 131 = .ok (.aload_n 0, 1) := dk_42 (dk_at dksX1_init_5 13 rfl rfl)
theorem dX1_init_132 : decode cX1_init 132 = .ok (.getfield 25, 3) := dk_180 0 25 (dk_at dksX1_init_5 14 rfl rfl)
theorem dX1_init_135 : decode cX1_init 135 = .ok (.iload_n 1, 1) := dk_27 (dk_at dksX1_init_5 17 rfl rfl)
theorem dX1_init_136 : decode cX1_init 136 = .ok (.iconst 3, 1) := dk_6 (dk_at dksX1_init_5 18 rfl rfl)
theorem dX1_init_137 : decode cX1_init 137 = .ok (.iastore, 1) := dk_79 (dk_at dksX1_init_5 19 rfl rfl)
theorem dX1_init_138 : decode cX1_init 138 = .ok (.iinc 1 1, 3) := dk_132 1 1 (dk_at dksX1_init_5 20 rfl rfl)
theorem dX1_init_141 : decode cX1_init 141 = .ok (.goto (-30), 3) := dk_167 255 226 (dk_at dksX1_init_6 0 rfl rfl)
theorem dX1_init_144 : decode cX1_init 144 = .ok (.iconst 0, 1) := dk_3 (dk_at dksX1_init_6 3 rfl rfl)
theorem dX1_init_145 : decode cX1_init 145 = .ok (.istore_n 1, 1) := dk_60 (dk_at dksX1_init_6 4 rfl rfl)
theorem dX1_init_146 : decode cX1_init 146 = .ok (.iload_n 1, 1) := dk_27 (dk_at dksX1_init_6 5 rfl rfl)
theorem dX1_init_147 : decode cX1_init 147 = .ok (.bipush 6, 2) := dk_16 6 (dk_at dksX1_init_6 6 rfl rfl)
theorem dX1_init_149 : decode cX1_init 149 = .ok (.if_icmp .ge 23, 3) := dk_162 0 23 (dk_at dksX1_init_6 8 rfl rfl)
theorem dX1_init_152 : decode cX1_init 152 = .ok (.aload_n 0, 1) := dk_42 (dk_at dksX1_init_6 11 rfl rfl)
theorem dX1_init_153 : decode cX1_init 153 = .ok (.getfield 28, 3) := dk_180 0 28 (dk_at dksX1_init_6 12 rfl rfl)
theorem dX1_init_156 : decode cX1_init 156 = .ok (.iload_n 1, 1) := dk_27 (dk_at dksX1_init_6 15 rfl rfl)
theorem dX1_init_157 : decode cX1_init 157 = .ok (.iconst 3, 1) := dk_6 (dk_at dksX1_init_6 16 rfl rfl)
theorem dX1_init_158 : decode cX1_init 158 = .ok (.iastore, 1) := dk_79 (dk_at dksX1_init_6 17 rfl rfl)
theorem dX1_init_159 : decode cX1_init 159 = .ok (.aload_n 0, 1) := dk_42 (dk_at dksX1_init_6 18 rfl rfl)
theorem dX1_init_160 : decode cX1_init 160 = .ok (.getfield 31, 3) := dk_180 0 31 (dk_at dksX1_init_6 19 rfl rfl)
theorem dX1_init_163 : decode cX1_init 163 = .ok (.iload_n 1, 1) := dk_27 (dk_at dksX1_init_6 22 rfl rfl)
theorem dX1_init_164 : decode cX1_init 164 = .ok (.iconst 3, 1) := dk_6 (dk_at dksX1_init_6 23 rfl rfl)
theorem dX1_init_165 : decode cX1_init 165 = .ok (.iastore, 1) := dk_79 (dk_at dksX1_init_7 0 rfl rfl)
theorem dX1_init_166 : decode cX1_init 166 = .ok (.iinc 1 1, 3) := dk_132 1 1 (dk_at dksX1_init_7 1 rfl rfl)
theorem dX1_init_169 : decode cX1_init 169 = .ok (.goto (-23), 3) := dk_167 255 233 (dk_at dksX1_init_7 4 rfl rfl)
theorem dX1_init_172 : decode cX1_init 172 = .ok (.return_, 1) := dk_177 (dk_at dksX1_init_7 7 rfl rfl)
abbrev cX1_takes : ByteArray := prog_15_method_2_code
def yX1_takes : MethodName := ⟨RX1, "takes", "(LForestRooms$State;)V"⟩
def dkwX1_takes_5 : List UInt8 := [181, 0, 68, 42, 43, 180, 0, 71, 181, 0, 71, 42, 43, 180, 0, 49, 181, 0, 49, 177]
abbrev dktX1_takes_5 : List UInt8 := dkwX1_takes_5 ++ []
def dkwX1_takes_4 : List UInt8 := [180, 0, 45, 182, 0, 61, 42, 180, 0, 45, 43, 180, 0, 45, 182, 0, 64, 87, 42, 43, 180, 0, 68]
abbrev dktX1_takes_4 : List UInt8 := dkwX1_takes_4 ++ dktX1_takes_5
def dkwX1_takes_3 : List UInt8 := [180, 0, 34, 43, 180, 0, 34, 184, 0, 57, 42, 180, 0, 37, 43, 180, 0, 37, 184, 0, 57, 42]
abbrev dktX1_takes_3 : List UInt8 := dkwX1_takes_3 ++ dktX1_takes_4
def dkwX1_takes_2 : List UInt8 := [180, 0, 28, 43, 180, 0, 28, 184, 0, 57, 42, 180, 0, 31, 43, 180, 0, 31, 184, 0, 57, 42]
abbrev dktX1_takes_2 : List UInt8 := dkwX1_takes_2 ++ dktX1_takes_3
def dkwX1_takes_1 : List UInt8 := [180, 0, 22, 43, 180, 0, 22, 184, 0, 57, 42, 180, 0, 25, 43, 180, 0, 25, 184, 0, 57, 42]
abbrev dktX1_takes_1 : List UInt8 := dkwX1_takes_1 ++ dktX1_takes_2
def dkwX1_takes_0 : List UInt8 := [42, 180, 0, 12, 43, 180, 0, 12, 182, 0, 53, 42, 180, 0, 18, 43, 180, 0, 18, 184, 0, 57, 42]
abbrev dktX1_takes_0 : List UInt8 := dkwX1_takes_0 ++ dktX1_takes_1
theorem dksX1_takes_0 : cX1_takes.data.toList.drop 0 = dktX1_takes_0 := by decide +kernel
theorem dksX1_takes_1 : cX1_takes.data.toList.drop 23 = dktX1_takes_1 := dk_seg dksX1_takes_0 23 rfl rfl
theorem dksX1_takes_2 : cX1_takes.data.toList.drop 45 = dktX1_takes_2 := dk_seg dksX1_takes_1 22 rfl rfl
theorem dksX1_takes_3 : cX1_takes.data.toList.drop 67 = dktX1_takes_3 := dk_seg dksX1_takes_2 22 rfl rfl
theorem dksX1_takes_4 : cX1_takes.data.toList.drop 89 = dktX1_takes_4 := dk_seg dksX1_takes_3 22 rfl rfl
theorem dksX1_takes_5 : cX1_takes.data.toList.drop 112 = dktX1_takes_5 := dk_seg dksX1_takes_4 23 rfl rfl
theorem dX1_takes_0 : decode cX1_takes 0 = .ok (.aload_n 0, 1) := dk_42 (dk_at dksX1_takes_0 0 rfl rfl)
theorem dX1_takes_1 : decode cX1_takes 1 = .ok (.getfield 12, 3) := dk_180 0 12 (dk_at dksX1_takes_0 1 rfl rfl)
theorem dX1_takes_4 : decode cX1_takes 4 = .ok (.aload_n 1, 1) := dk_43 (dk_at dksX1_takes_0 4 rfl rfl)
theorem dX1_takes_5 : decode cX1_takes 5 = .ok (.getfield 12, 3) := dk_180 0 12 (dk_at dksX1_takes_0 5 rfl rfl)
theorem dX1_takes_8 : decode cX1_takes 8 = .ok (.invokevirtual 53, 3) := dk_182 0 53 (dk_at dksX1_takes_0 8 rfl rfl)
theorem dX1_takes_11 : decode cX1_takes 11 = .ok (.aload_n 0, 1) := dk_42 (dk_at dksX1_takes_0 11 rfl rfl)
theorem dX1_takes_12 : decode cX1_takes 12 = .ok (.getfield 18, 3) := dk_180 0 18 (dk_at dksX1_takes_0 12 rfl rfl)
theorem dX1_takes_15 : decode cX1_takes 15 = .ok (.aload_n 1, 1) := dk_43 (dk_at dksX1_takes_0 15 rfl rfl)
theorem dX1_takes_16 : decode cX1_takes 16 = .ok (.getfield 18, 3) := dk_180 0 18 (dk_at dksX1_takes_0 16 rfl rfl)
theorem dX1_takes_19 : decode cX1_takes 19 = .ok (.invokestatic 57, 3) := dk_184 0 57 (dk_at dksX1_takes_0 19 rfl rfl)
theorem dX1_takes_22 : decode cX1_takes 22 = .ok (.aload_n 0, 1) := dk_42 (dk_at dksX1_takes_0 22 rfl rfl)
theorem dX1_takes_23 : decode cX1_takes 23 = .ok (.getfield 22, 3) := dk_180 0 22 (dk_at dksX1_takes_1 0 rfl rfl)
theorem dX1_takes_26 : decode cX1_takes 26 = .ok (.aload_n 1, 1) := dk_43 (dk_at dksX1_takes_1 3 rfl rfl)
theorem dX1_takes_27 : decode cX1_takes 27 = .ok (.getfield 22, 3) := dk_180 0 22 (dk_at dksX1_takes_1 4 rfl rfl)
theorem dX1_takes_30 : decode cX1_takes 30 = .ok (.invokestatic 57, 3) := dk_184 0 57 (dk_at dksX1_takes_1 7 rfl rfl)
theorem dX1_takes_33 : decode cX1_takes 33 = .ok (.aload_n 0, 1) := dk_42 (dk_at dksX1_takes_1 10 rfl rfl)
theorem dX1_takes_34 : decode cX1_takes 34 = .ok (.getfield 25, 3) := dk_180 0 25 (dk_at dksX1_takes_1 11 rfl rfl)
theorem dX1_takes_37 : decode cX1_takes 37 = .ok (.aload_n 1, 1) := dk_43 (dk_at dksX1_takes_1 14 rfl rfl)
theorem dX1_takes_38 : decode cX1_takes 38 = .ok (.getfield 25, 3) := dk_180 0 25 (dk_at dksX1_takes_1 15 rfl rfl)
theorem dX1_takes_41 : decode cX1_takes 41 = .ok (.invokestatic 57, 3) := dk_184 0 57 (dk_at dksX1_takes_1 18 rfl rfl)
theorem dX1_takes_44 : decode cX1_takes 44 = .ok (.aload_n 0, 1) := dk_42 (dk_at dksX1_takes_1 21 rfl rfl)
theorem dX1_takes_45 : decode cX1_takes 45 = .ok (.getfield 28, 3) := dk_180 0 28 (dk_at dksX1_takes_2 0 rfl rfl)
theorem dX1_takes_48 : decode cX1_takes 48 = .ok (.aload_n 1, 1) := dk_43 (dk_at dksX1_takes_2 3 rfl rfl)
theorem dX1_takes_49 : decode cX1_takes 49 = .ok (.getfield 28, 3) := dk_180 0 28 (dk_at dksX1_takes_2 4 rfl rfl)
theorem dX1_takes_52 : decode cX1_takes 52 = .ok (.invokestatic 57, 3) := dk_184 0 57 (dk_at dksX1_takes_2 7 rfl rfl)
theorem dX1_takes_55 : decode cX1_takes 55 = .ok (.aload_n 0, 1) := dk_42 (dk_at dksX1_takes_2 10 rfl rfl)
theorem dX1_takes_56 : decode cX1_takes 56 = .ok (.getfield 31, 3) := dk_180 0 31 (dk_at dksX1_takes_2 11 rfl rfl)
theorem dX1_takes_59 : decode cX1_takes 59 = .ok (.aload_n 1, 1) := dk_43 (dk_at dksX1_takes_2 14 rfl rfl)
theorem dX1_takes_60 : decode cX1_takes 60 = .ok (.getfield 31, 3) := dk_180 0 31 (dk_at dksX1_takes_2 15 rfl rfl)
theorem dX1_takes_63 : decode cX1_takes 63 = .ok (.invokestatic 57, 3) := dk_184 0 57 (dk_at dksX1_takes_2 18 rfl rfl)
theorem dX1_takes_66 : decode cX1_takes 66 = .ok (.aload_n 0, 1) := dk_42 (dk_at dksX1_takes_2 21 rfl rfl)
theorem dX1_takes_67 : decode cX1_takes 67 = .ok (.getfield 34, 3) := dk_180 0 34 (dk_at dksX1_takes_3 0 rfl rfl)
theorem dX1_takes_70 : decode cX1_takes 70 = .ok (.aload_n 1, 1) := dk_43 (dk_at dksX1_takes_3 3 rfl rfl)
theorem dX1_takes_71 : decode cX1_takes 71 = .ok (.getfield 34, 3) := dk_180 0 34 (dk_at dksX1_takes_3 4 rfl rfl)
theorem dX1_takes_74 : decode cX1_takes 74 = .ok (.invokestatic 57, 3) := dk_184 0 57 (dk_at dksX1_takes_3 7 rfl rfl)
theorem dX1_takes_77 : decode cX1_takes 77 = .ok (.aload_n 0, 1) := dk_42 (dk_at dksX1_takes_3 10 rfl rfl)
theorem dX1_takes_78 : decode cX1_takes 78 = .ok (.getfield 37, 3) := dk_180 0 37 (dk_at dksX1_takes_3 11 rfl rfl)
theorem dX1_takes_81 : decode cX1_takes 81 = .ok (.aload_n 1, 1) := dk_43 (dk_at dksX1_takes_3 14 rfl rfl)
theorem dX1_takes_82 : decode cX1_takes 82 = .ok (.getfield 37, 3) := dk_180 0 37 (dk_at dksX1_takes_3 15 rfl rfl)
theorem dX1_takes_85 : decode cX1_takes 85 = .ok (.invokestatic 57, 3) := dk_184 0 57 (dk_at dksX1_takes_3 18 rfl rfl)
theorem dX1_takes_88 : decode cX1_takes 88 = .ok (.aload_n 0, 1) := dk_42 (dk_at dksX1_takes_3 21 rfl rfl)
theorem dX1_takes_89 : decode cX1_takes 89 = .ok (.getfield 45, 3) := dk_180 0 45 (dk_at dksX1_takes_4 0 rfl rfl)
theorem dX1_takes_92 : decode cX1_takes 92 = .ok (.invokevirtual 61, 3) := dk_182 0 61 (dk_at dksX1_takes_4 3 rfl rfl)
theorem dX1_takes_95 : decode cX1_takes 95 = .ok (.aload_n 0, 1) := dk_42 (dk_at dksX1_takes_4 6 rfl rfl)
theorem dX1_takes_96 : decode cX1_takes 96 = .ok (.getfield 45, 3) := dk_180 0 45 (dk_at dksX1_takes_4 7 rfl rfl)
theorem dX1_takes_99 : decode cX1_takes 99 = .ok (.aload_n 1, 1) := dk_43 (dk_at dksX1_takes_4 10 rfl rfl)
theorem dX1_takes_100 : decode cX1_takes 100 = .ok (.getfield 45, 3) := dk_180 0 45 (dk_at dksX1_takes_4 11 rfl rfl)
theorem dX1_takes_103 : decode cX1_takes 103 = .ok (.invokevirtual 64, 3) := dk_182 0 64 (dk_at dksX1_takes_4 14 rfl rfl)
theorem dX1_takes_106 : decode cX1_takes 106 = .ok (.pop, 1) := dk_87 (dk_at dksX1_takes_4 17 rfl rfl)
theorem dX1_takes_107 : decode cX1_takes 107 = .ok (.aload_n 0, 1) := dk_42 (dk_at dksX1_takes_4 18 rfl rfl)
theorem dX1_takes_108 : decode cX1_takes 108 = .ok (.aload_n 1, 1) := dk_43 (dk_at dksX1_takes_4 19 rfl rfl)
theorem dX1_takes_109 : decode cX1_takes 109 = .ok (.getfield 68, 3) := dk_180 0 68 (dk_at dksX1_takes_4 20 rfl rfl)
theorem dX1_takes_112 : decode cX1_takes 112 = .ok (.putfield 68, 3) := dk_181 0 68 (dk_at dksX1_takes_5 0 rfl rfl)
theorem dX1_takes_115 : decode cX1_takes 115 = .ok (.aload_n 0, 1) := dk_42 (dk_at dksX1_takes_5 3 rfl rfl)
theorem dX1_takes_116 : decode cX1_takes 116 = .ok (.aload_n 1, 1) := dk_43 (dk_at dksX1_takes_5 4 rfl rfl)
theorem dX1_takes_117 : decode cX1_takes 117 = .ok (.getfield 71, 3) := dk_180 0 71 (dk_at dksX1_takes_5 5 rfl rfl)
theorem dX1_takes_120 : decode cX1_takes 120 = .ok (.putfield 71, 3) := dk_181 0 71 (dk_at dksX1_takes_5 8 rfl rfl)
theorem dX1_takes_123 : decode cX1_takes 123 = .ok (.aload_n 0, 1) := dk_42 (dk_at dksX1_takes_5 11 rfl rfl)
theorem dX1_takes_124 : decode cX1_takes 124 = .ok (.aload_n 1, 1) := dk_43 (dk_at dksX1_takes_5 12 rfl rfl)
theorem dX1_takes_125 : decode cX1_takes 125 = .ok (.getfield 49, 3) := dk_180 0 49 (dk_at dksX1_takes_5 13 rfl rfl)
theorem dX1_takes_128 : decode cX1_takes 128 = .ok (.putfield 49, 3) := dk_181 0 49 (dk_at dksX1_takes_5 16 rfl rfl)
theorem dX1_takes_131 : decode cX1_takes 131 = .ok (.return_, 1) := dk_177 (dk_at dksX1_takes_5 19 rfl rfl)
abbrev cX1_isLost : ByteArray := prog_15_method_3_code
def yX1_isLost : MethodName := ⟨RX1, "isLost", "(LForestRooms$Table;I)Z"⟩
def dkwX1_isLost_0 : List UInt8 := [43, 180, 0, 74, 28, 46, 16, 10, 42, 180, 0, 25, 28, 46, 104, 164, 0, 7, 4, 167, 0, 4, 3, 172]
abbrev dktX1_isLost_0 : List UInt8 := dkwX1_isLost_0 ++ []
theorem dksX1_isLost_0 : cX1_isLost.data.toList.drop 0 = dktX1_isLost_0 := by decide +kernel
theorem dX1_isLost_0 : decode cX1_isLost 0 = .ok (.aload_n 1, 1) := dk_43 (dk_at dksX1_isLost_0 0 rfl rfl)
theorem dX1_isLost_1 : decode cX1_isLost 1 = .ok (.getfield 74, 3) := dk_180 0 74 (dk_at dksX1_isLost_0 1 rfl rfl)
theorem dX1_isLost_4 : decode cX1_isLost 4 = .ok (.iload_n 2, 1) := dk_28 (dk_at dksX1_isLost_0 4 rfl rfl)
theorem dX1_isLost_5 : decode cX1_isLost 5 = .ok (.iaload, 1) := dk_46 (dk_at dksX1_isLost_0 5 rfl rfl)
theorem dX1_isLost_6 : decode cX1_isLost 6 = .ok (.bipush 10, 2) := dk_16 10 (dk_at dksX1_isLost_0 6 rfl rfl)
theorem dX1_isLost_8 : decode cX1_isLost 8 = .ok (.aload_n 0, 1) := dk_42 (dk_at dksX1_isLost_0 8 rfl rfl)
theorem dX1_isLost_9 : decode cX1_isLost 9 = .ok (.getfield 25, 3) := dk_180 0 25 (dk_at dksX1_isLost_0 9 rfl rfl)
theorem dX1_isLost_12 : decode cX1_isLost 12 = .ok (.iload_n 2, 1) := dk_28 (dk_at dksX1_isLost_0 12 rfl rfl)
theorem dX1_isLost_13 : decode cX1_isLost 13 = .ok (.iaload, 1) := dk_46 (dk_at dksX1_isLost_0 13 rfl rfl)
theorem dX1_isLost_14 : decode cX1_isLost 14 = .ok (.imul, 1) := dk_104 (dk_at dksX1_isLost_0 14 rfl rfl)
theorem dX1_isLost_15 : decode cX1_isLost 15 = .ok (.if_icmp .le 7, 3) := dk_164 0 7 (dk_at dksX1_isLost_0 15 rfl rfl)
theorem dX1_isLost_18 : decode cX1_isLost 18 = .ok (.iconst 1, 1) := dk_4 (dk_at dksX1_isLost_0 18 rfl rfl)
theorem dX1_isLost_19 : decode cX1_isLost 19 = .ok (.goto 4, 3) := dk_167 0 4 (dk_at dksX1_isLost_0 19 rfl rfl)
theorem dX1_isLost_22 : decode cX1_isLost 22 = .ok (.iconst 0, 1) := dk_3 (dk_at dksX1_isLost_0 22 rfl rfl)
theorem dX1_isLost_23 : decode cX1_isLost 23 = .ok (.ireturn, 1) := dk_172 (dk_at dksX1_isLost_0 23 rfl rfl)
abbrev cX1_feeds : ByteArray := prog_15_method_4_code
def yX1_feeds : MethodName := ⟨RX1, "feeds", "(II)Z"⟩
def dkwX1_feeds_1 : List UInt8 := [180, 0, 31, 28, 46, 161, 0, 7, 4, 167, 0, 4, 3, 172]
abbrev dktX1_feeds_1 : List UInt8 := dkwX1_feeds_1 ++ []
def dkwX1_feeds_0 : List UInt8 := [42, 180, 0, 18, 27, 46, 42, 180, 0, 28, 28, 46, 161, 0, 22, 42, 180, 0, 22, 27, 46, 42]
abbrev dktX1_feeds_0 : List UInt8 := dkwX1_feeds_0 ++ dktX1_feeds_1
theorem dksX1_feeds_0 : cX1_feeds.data.toList.drop 0 = dktX1_feeds_0 := by decide +kernel
theorem dksX1_feeds_1 : cX1_feeds.data.toList.drop 22 = dktX1_feeds_1 := dk_seg dksX1_feeds_0 22 rfl rfl
theorem dX1_feeds_0 : decode cX1_feeds 0 = .ok (.aload_n 0, 1) := dk_42 (dk_at dksX1_feeds_0 0 rfl rfl)
theorem dX1_feeds_1 : decode cX1_feeds 1 = .ok (.getfield 18, 3) := dk_180 0 18 (dk_at dksX1_feeds_0 1 rfl rfl)
theorem dX1_feeds_4 : decode cX1_feeds 4 = .ok (.iload_n 1, 1) := dk_27 (dk_at dksX1_feeds_0 4 rfl rfl)
theorem dX1_feeds_5 : decode cX1_feeds 5 = .ok (.iaload, 1) := dk_46 (dk_at dksX1_feeds_0 5 rfl rfl)
theorem dX1_feeds_6 : decode cX1_feeds 6 = .ok (.aload_n 0, 1) := dk_42 (dk_at dksX1_feeds_0 6 rfl rfl)
theorem dX1_feeds_7 : decode cX1_feeds 7 = .ok (.getfield 28, 3) := dk_180 0 28 (dk_at dksX1_feeds_0 7 rfl rfl)
theorem dX1_feeds_10 : decode cX1_feeds 10 = .ok (.iload_n 2, 1) := dk_28 (dk_at dksX1_feeds_0 10 rfl rfl)
theorem dX1_feeds_11 : decode cX1_feeds 11 = .ok (.iaload, 1) := dk_46 (dk_at dksX1_feeds_0 11 rfl rfl)
theorem dX1_feeds_12 : decode cX1_feeds 12 = .ok (.if_icmp .lt 22, 3) := dk_161 0 22 (dk_at dksX1_feeds_0 12 rfl rfl)
theorem dX1_feeds_15 : decode cX1_feeds 15 = .ok (.aload_n 0, 1) := dk_42 (dk_at dksX1_feeds_0 15 rfl rfl)
theorem dX1_feeds_16 : decode cX1_feeds 16 = .ok (.getfield 22, 3) := dk_180 0 22 (dk_at dksX1_feeds_0 16 rfl rfl)
theorem dX1_feeds_19 : decode cX1_feeds 19 = .ok (.iload_n 1, 1) := dk_27 (dk_at dksX1_feeds_0 19 rfl rfl)
theorem dX1_feeds_20 : decode cX1_feeds 20 = .ok (.iaload, 1) := dk_46 (dk_at dksX1_feeds_0 20 rfl rfl)
theorem dX1_feeds_21 : decode cX1_feeds 21 = .ok (.aload_n 0, 1) := dk_42 (dk_at dksX1_feeds_0 21 rfl rfl)
theorem dX1_feeds_22 : decode cX1_feeds 22 = .ok (.getfield 31, 3) := dk_180 0 31 (dk_at dksX1_feeds_1 0 rfl rfl)
theorem dX1_feeds_25 : decode cX1_feeds 25 = .ok (.iload_n 2, 1) := dk_28 (dk_at dksX1_feeds_1 3 rfl rfl)
theorem dX1_feeds_26 : decode cX1_feeds 26 = .ok (.iaload, 1) := dk_46 (dk_at dksX1_feeds_1 4 rfl rfl)
theorem dX1_feeds_27 : decode cX1_feeds 27 = .ok (.if_icmp .lt 7, 3) := dk_161 0 7 (dk_at dksX1_feeds_1 5 rfl rfl)
theorem dX1_feeds_30 : decode cX1_feeds 30 = .ok (.iconst 1, 1) := dk_4 (dk_at dksX1_feeds_1 8 rfl rfl)
theorem dX1_feeds_31 : decode cX1_feeds 31 = .ok (.goto 4, 3) := dk_167 0 4 (dk_at dksX1_feeds_1 9 rfl rfl)
theorem dX1_feeds_34 : decode cX1_feeds 34 = .ok (.iconst 0, 1) := dk_3 (dk_at dksX1_feeds_1 12 rfl rfl)
theorem dX1_feeds_35 : decode cX1_feeds 35 = .ok (.ireturn, 1) := dk_172 (dk_at dksX1_feeds_1 13 rfl rfl)
theorem q112 : (Jvm.Cond.initialized "ForestRooms$State") ∈ lw_all := lw_g (lw_at lw_m1 2 rfl) rfl
theorem q156 : (Jvm.Cond.instantiable "ForestRooms$State" (12 : Nat)) ∈ lw_all := lw_g (lw_at lw_m1 46 rfl) rfl
theorem q158 : (Jvm.Cond.instanceMethod ({ cls := "ForestRooms$State", name := "<init>", desc := "()V" } : Jvm.MethodName)) ∈ lw_all := lw_g (lw_at lw_m1 48 rfl) rfl
theorem q159 : (Jvm.Cond.code ({ cls := "ForestRooms$State", name := "<init>", desc := "()V" } : Jvm.MethodName) prog_15_method_1_code (2 : Nat) (Option.none : Option Jvm.ClassFile.FieldType)) ∈ lw_all := lw_g (lw_at lw_m1 49 rfl) rfl
theorem q160 : (Jvm.Cond.methodLink "ForestRooms$State" (3 : Nat) ({ cls := "java/lang/Object", name := "<init>", desc := "()V" } : Jvm.MethodName)) ∈ lw_all := lw_g (lw_at lw_m1 50 rfl) rfl
theorem q161 : (Jvm.Cond.classLink "ForestRooms$State" (9 : Nat) "ForestRooms$Table") ∈ lw_all := lw_g (lw_at lw_m1 51 rfl) rfl
theorem q163 : (Jvm.Cond.methodLink "ForestRooms$State" (11 : Nat) ({ cls := "ForestRooms$Table", name := "<init>", desc := "()V" } : Jvm.MethodName)) ∈ lw_all := lw_g (lw_at lw_m1 53 rfl) rfl
theorem q170 : (Jvm.Cond.fieldLinkNest "ForestRooms$State" (74 : Nat) "ForestRooms$Table" "grown" "[I" "ForestRooms") ∈ lw_tbl := lw_at lw_m1 60 rfl
theorem q186 : (Jvm.Cond.classLink "ForestRooms$State" (40 : Nat) "java/util/ArrayList") ∈ lw_all := lw_g (lw_at lw_m1 76 rfl) rfl
theorem q188 : (Jvm.Cond.methodLink "ForestRooms$State" (42 : Nat) ({ cls := "java/util/ArrayList", name := "<init>", desc := "(I)V" } : Jvm.MethodName)) ∈ lw_all := lw_g (lw_at lw_m1 78 rfl) rfl
theorem q214 : (Jvm.Cond.fieldLink "ForestRooms$State" (12 : Nat) "ForestRooms$State" "table" "LForestRooms$Table;") ∈ lw_all := lw_g (lw_at lw_m1 104 rfl) rfl
theorem q216 : (Jvm.Cond.fieldLink "ForestRooms$State" (18 : Nat) "ForestRooms$State" "light" "[I") ∈ lw_all := lw_g (lw_at lw_m1 106 rfl) rfl
theorem q218 : (Jvm.Cond.fieldLink "ForestRooms$State" (22 : Nat) "ForestRooms$State" "wet" "[I") ∈ lw_all := lw_g (lw_at lw_m1 108 rfl) rfl
theorem q220 : (Jvm.Cond.fieldLink "ForestRooms$State" (25 : Nat) "ForestRooms$State" "size" "[I") ∈ lw_all := lw_g (lw_at lw_m1 110 rfl) rfl
theorem q222 : (Jvm.Cond.fieldLink "ForestRooms$State" (28 : Nat) "ForestRooms$State" "needs" "[I") ∈ lw_all := lw_g (lw_at lw_m1 112 rfl) rfl
theorem q224 : (Jvm.Cond.fieldLink "ForestRooms$State" (31 : Nat) "ForestRooms$State" "drinks" "[I") ∈ lw_all := lw_g (lw_at lw_m1 114 rfl) rfl
theorem q226 : (Jvm.Cond.fieldLink "ForestRooms$State" (34 : Nat) "ForestRooms$State" "sights" "[I") ∈ lw_all := lw_g (lw_at lw_m1 116 rfl) rfl
theorem q228 : (Jvm.Cond.fieldLink "ForestRooms$State" (37 : Nat) "ForestRooms$State" "terms" "[I") ∈ lw_all := lw_g (lw_at lw_m1 118 rfl) rfl
theorem q230 : (Jvm.Cond.fieldLink "ForestRooms$State" (45 : Nat) "ForestRooms$State" "laws" "Ljava/util/ArrayList;") ∈ lw_all := lw_g (lw_at lw_m1 120 rfl) rfl
theorem q232 : (Jvm.Cond.fieldLink "ForestRooms$State" (68 : Nat) "ForestRooms$State" "seen" "I") ∈ lw_all := lw_g (lw_at lw_m1 122 rfl) rfl
theorem q234 : (Jvm.Cond.fieldLink "ForestRooms$State" (71 : Nat) "ForestRooms$State" "coming" "I") ∈ lw_all := lw_g (lw_at lw_m1 124 rfl) rfl
theorem q236 : (Jvm.Cond.fieldLink "ForestRooms$State" (49 : Nat) "ForestRooms$State" "force" "I") ∈ lw_all := lw_g (lw_at lw_m1 126 rfl) rfl
theorem q238 : (Jvm.Cond.laysFinal "ForestRooms$State" "ForestRooms$State" "table" "LForestRooms$Table;") ∈ lw_all := lw_g (lw_at lw_m1 128 rfl) rfl
theorem q239 : (Jvm.Cond.soleField "ForestRooms$State" "table") ∈ lw_all := lw_g (lw_at lw_m1 129 rfl) rfl
theorem q240 : (Jvm.Cond.laysFinal "ForestRooms$State" "ForestRooms$State" "light" "[I") ∈ lw_all := lw_g (lw_at lw_m1 130 rfl) rfl
theorem q241 : (Jvm.Cond.soleField "ForestRooms$State" "light") ∈ lw_all := lw_g (lw_at lw_m1 131 rfl) rfl
theorem q242 : (Jvm.Cond.laysFinal "ForestRooms$State" "ForestRooms$State" "wet" "[I") ∈ lw_all := lw_g (lw_at lw_m1 132 rfl) rfl
theorem q243 : (Jvm.Cond.soleField "ForestRooms$State" "wet") ∈ lw_all := lw_g (lw_at lw_m1 133 rfl) rfl
theorem q244 : (Jvm.Cond.laysFinal "ForestRooms$State" "ForestRooms$State" "size" "[I") ∈ lw_all := lw_g (lw_at lw_m1 134 rfl) rfl
theorem q245 : (Jvm.Cond.soleField "ForestRooms$State" "size") ∈ lw_all := lw_g (lw_at lw_m1 135 rfl) rfl
theorem q246 : (Jvm.Cond.laysFinal "ForestRooms$State" "ForestRooms$State" "needs" "[I") ∈ lw_all := lw_g (lw_at lw_m1 136 rfl) rfl
theorem q247 : (Jvm.Cond.soleField "ForestRooms$State" "needs") ∈ lw_all := lw_g (lw_at lw_m1 137 rfl) rfl
theorem q248 : (Jvm.Cond.laysFinal "ForestRooms$State" "ForestRooms$State" "drinks" "[I") ∈ lw_all := lw_g (lw_at lw_m1 138 rfl) rfl
theorem q249 : (Jvm.Cond.soleField "ForestRooms$State" "drinks") ∈ lw_all := lw_g (lw_at lw_m1 139 rfl) rfl
theorem q250 : (Jvm.Cond.laysFinal "ForestRooms$State" "ForestRooms$State" "sights" "[I") ∈ lw_all := lw_g (lw_at lw_m1 140 rfl) rfl
theorem q251 : (Jvm.Cond.soleField "ForestRooms$State" "sights") ∈ lw_all := lw_g (lw_at lw_m1 141 rfl) rfl
theorem q252 : (Jvm.Cond.laysFinal "ForestRooms$State" "ForestRooms$State" "terms" "[I") ∈ lw_all := lw_g (lw_at lw_m1 142 rfl) rfl
theorem q253 : (Jvm.Cond.soleField "ForestRooms$State" "terms") ∈ lw_all := lw_g (lw_at lw_m1 143 rfl) rfl
theorem q254 : (Jvm.Cond.laysFinal "ForestRooms$State" "ForestRooms$State" "laws" "Ljava/util/ArrayList;") ∈ lw_all := lw_g (lw_at lw_m1 144 rfl) rfl
theorem q255 : (Jvm.Cond.soleField "ForestRooms$State" "laws") ∈ lw_all := lw_g (lw_at lw_m1 145 rfl) rfl
theorem q256 : (Jvm.Cond.lays "ForestRooms$State" "ForestRooms$State" "seen" "I") ∈ lw_all := lw_g (lw_at lw_m1 146 rfl) rfl
theorem q257 : (Jvm.Cond.soleField "ForestRooms$State" "seen") ∈ lw_all := lw_g (lw_at lw_m1 147 rfl) rfl
theorem q258 : (Jvm.Cond.lays "ForestRooms$State" "ForestRooms$State" "coming" "I") ∈ lw_all := lw_g (lw_at lw_m1 148 rfl) rfl
theorem q259 : (Jvm.Cond.soleField "ForestRooms$State" "coming") ∈ lw_all := lw_g (lw_at lw_m1 149 rfl) rfl
theorem q260 : (Jvm.Cond.lays "ForestRooms$State" "ForestRooms$State" "force" "I") ∈ lw_all := lw_g (lw_at lw_m1 150 rfl) rfl
theorem q261 : (Jvm.Cond.soleField "ForestRooms$State" "force") ∈ lw_all := lw_g (lw_at lw_m1 151 rfl) rfl
theorem q262 : (Jvm.Cond.superclass "ForestRooms$State" "java/lang/Object") ∈ lw_all := lw_g (lw_at lw_m1 152 rfl) rfl
theorem q445 : (Jvm.Cond.instanceMethod ({ cls := "ForestRooms$State", name := "takes", desc := "(LForestRooms$State;)V" } : Jvm.MethodName)) ∈ lw_all := lw_g (lw_at lw_m2 95 rfl) rfl
theorem q446 : (Jvm.Cond.selects "ForestRooms$State" ({ cls := "ForestRooms$State", name := "takes", desc := "(LForestRooms$State;)V" } : Jvm.MethodName) ({ cls := "ForestRooms$State", name := "takes", desc := "(LForestRooms$State;)V" } : Jvm.MethodName)) ∈ lw_all := lw_g (lw_at lw_m2 96 rfl) rfl
theorem q447 : (Jvm.Cond.code ({ cls := "ForestRooms$State", name := "takes", desc := "(LForestRooms$State;)V" } : Jvm.MethodName) prog_15_method_2_code (2 : Nat) (Option.none : Option Jvm.ClassFile.FieldType)) ∈ lw_all := lw_g (lw_at lw_m2 97 rfl) rfl
theorem q448 : (Jvm.Cond.methodLink "ForestRooms$State" (53 : Nat) ({ cls := "ForestRooms$Table", name := "takes", desc := "(LForestRooms$Table;)V" } : Jvm.MethodName)) ∈ lw_all := lw_g (lw_at lw_m2 98 rfl) rfl
theorem q458 : (Jvm.Cond.methodLink "ForestRooms$State" (57 : Nat) ({ cls := "ForestRooms$Table", name := "rows", desc := "([I[I)V" } : Jvm.MethodName)) ∈ lw_all := lw_g (lw_at lw_m2 108 rfl) rfl
theorem q459 : (Jvm.Cond.methodLink "ForestRooms$State" (61 : Nat) ({ cls := "java/util/ArrayList", name := "clear", desc := "()V" } : Jvm.MethodName)) ∈ lw_all := lw_g (lw_at lw_m2 109 rfl) rfl
theorem q463 : (Jvm.Cond.methodLink "ForestRooms$State" (64 : Nat) ({ cls := "java/util/ArrayList", name := "addAll", desc := "(Ljava/util/Collection;)Z" } : Jvm.MethodName)) ∈ lw_all := lw_g (lw_at lw_m2 113 rfl) rfl
theorem q496 : (Jvm.Cond.selects "ForestRooms$State" ({ cls := "java/lang/Object", name := "getClass", desc := "()Ljava/lang/Class;" } : Jvm.MethodName) ({ cls := "java/lang/Object", name := "getClass", desc := "()Ljava/lang/Class;" } : Jvm.MethodName)) ∈ lw_all := lw_g (lw_at lw_m2 146 rfl) rfl
theorem q565 : (Jvm.Cond.instanceMethod ({ cls := "ForestRooms$State", name := "isLost", desc := "(LForestRooms$Table;I)Z" } : Jvm.MethodName)) ∈ lw_all := lw_g (lw_at lw_m2 215 rfl) rfl
theorem q566 : (Jvm.Cond.selects "ForestRooms$State" ({ cls := "ForestRooms$State", name := "isLost", desc := "(LForestRooms$Table;I)Z" } : Jvm.MethodName) ({ cls := "ForestRooms$State", name := "isLost", desc := "(LForestRooms$Table;I)Z" } : Jvm.MethodName)) ∈ lw_all := lw_g (lw_at lw_m2 216 rfl) rfl
theorem q567 : (Jvm.Cond.code ({ cls := "ForestRooms$State", name := "isLost", desc := "(LForestRooms$Table;I)Z" } : Jvm.MethodName) prog_15_method_3_code (3 : Nat) (Option.some Jvm.ClassFile.FieldType.boolean)) ∈ lw_all := lw_g (lw_at lw_m2 217 rfl) rfl
theorem q652 : (Jvm.Cond.instanceMethod ({ cls := "ForestRooms$State", name := "feeds", desc := "(II)Z" } : Jvm.MethodName)) ∈ lw_all := lw_g (lw_at lw_m3 62 rfl) rfl
theorem q653 : (Jvm.Cond.selects "ForestRooms$State" ({ cls := "ForestRooms$State", name := "feeds", desc := "(II)Z" } : Jvm.MethodName) ({ cls := "ForestRooms$State", name := "feeds", desc := "(II)Z" } : Jvm.MethodName)) ∈ lw_all := lw_g (lw_at lw_m3 63 rfl) rfl
theorem q654 : (Jvm.Cond.code ({ cls := "ForestRooms$State", name := "feeds", desc := "(II)Z" } : Jvm.MethodName) prog_15_method_4_code (3 : Nat) (Option.some Jvm.ClassFile.FieldType.boolean)) ∈ lw_all := lw_g (lw_at lw_m3 64 rfl) rfl
theorem q2241 : (Jvm.Cond.castable "ForestRooms$State" "java/lang/Object") ∈ lw_tbl := lw_at lw_m9 211 rfl
theorem in_X1 : ∀ w ∈ wsX10, w ∈ lw_all := lw_in wsX10 [238, 240, 242, 244, 246, 248, 250, 252, 254, 256, 258, 260] (by decide +kernel) (by decide +kernel)
/-! ForestRooms$Table -/
set_option maxRecDepth 100000
def RX2 : String := "ForestRooms$Table"
def TX2 : u_T := fun k => match k with
  | 0 => ("ForestRooms$Table", "kind", "[I", true)
  | 1 => ("ForestRooms$Table", "grown", "[I", true)
  | 2 => ("ForestRooms$Table", "family", "[I", true)
  | _ => ("ForestRooms$Table", "season", "I", false)
def tyX2 : Nat → FieldType := fun k => match k with
  | 0 => .array .int
  | 1 => .array .int
  | 2 => .array .int
  | _ => .int
abbrev wsX20 : List Cond := u_ws RX2 TX2 4
theorem nmX2 : ∀ a, a < 4 → ∀ b, b < 4 → a ≠ b → (TX2 a).2.1 ≠ (TX2 b).2.1 := by decide +kernel
theorem tyX2_ok : ∀ k, k < 4 → parseFieldDescriptor (TX2 k).2.2.1 = some (tyX2 k) := by decide +kernel
abbrev cX2_init : ByteArray := prog_17_method_1_code
def yX2_init : MethodName := ⟨RX2, "<init>", "()V"⟩
def dkwX2_init_2 : List UInt8 := [27, 2, 79, 132, 1, 1, 167, 255, 233, 177]
abbrev dktX2_init_2 : List UInt8 := dkwX2_init_2 ++ []
def dkwX2_init_1 : List UInt8 := [188, 10, 181, 0, 18, 3, 60, 27, 16, 16, 162, 0, 23, 42, 180, 0, 9, 27, 2, 79, 42, 180, 0, 18]
abbrev dktX2_init_1 : List UInt8 := dkwX2_init_1 ++ dktX2_init_2
def dkwX2_init_0 : List UInt8 := [42, 183, 0, 3, 42, 16, 16, 188, 10, 181, 0, 9, 42, 16, 16, 188, 10, 181, 0, 15, 42, 16, 16]
abbrev dktX2_init_0 : List UInt8 := dkwX2_init_0 ++ dktX2_init_1
theorem dksX2_init_0 : cX2_init.data.toList.drop 0 = dktX2_init_0 := by decide +kernel
theorem dksX2_init_1 : cX2_init.data.toList.drop 23 = dktX2_init_1 := dk_seg dksX2_init_0 23 rfl rfl
theorem dksX2_init_2 : cX2_init.data.toList.drop 47 = dktX2_init_2 := dk_seg dksX2_init_1 24 rfl rfl
theorem dX2_init_0 : decode cX2_init 0 = .ok (.aload_n 0, 1) := dk_42 (dk_at dksX2_init_0 0 rfl rfl)
theorem dX2_init_1 : decode cX2_init 1 = .ok (.invokespecial 3, 3) := dk_183 0 3 (dk_at dksX2_init_0 1 rfl rfl)
theorem dX2_init_4 : decode cX2_init 4 = .ok (.aload_n 0, 1) := dk_42 (dk_at dksX2_init_0 4 rfl rfl)
theorem dX2_init_5 : decode cX2_init 5 = .ok (.bipush 16, 2) := dk_16 16 (dk_at dksX2_init_0 5 rfl rfl)
theorem dX2_init_7 : decode cX2_init 7 = .ok (.newarray .int, 2) := dk_188_10 (dk_at dksX2_init_0 7 rfl rfl)
theorem dX2_init_9 : decode cX2_init 9 = .ok (.putfield 9, 3) := dk_181 0 9 (dk_at dksX2_init_0 9 rfl rfl)
theorem dX2_init_12 : decode cX2_init 12 = .ok (.aload_n 0, 1) := dk_42 (dk_at dksX2_init_0 12 rfl rfl)
theorem dX2_init_13 : decode cX2_init 13 = .ok (.bipush 16, 2) := dk_16 16 (dk_at dksX2_init_0 13 rfl rfl)
theorem dX2_init_15 : decode cX2_init 15 = .ok (.newarray .int, 2) := dk_188_10 (dk_at dksX2_init_0 15 rfl rfl)
theorem dX2_init_17 : decode cX2_init 17 = .ok (.putfield 15, 3) := dk_181 0 15 (dk_at dksX2_init_0 17 rfl rfl)
theorem dX2_init_20 : decode cX2_init 20 = .ok (.aload_n 0, 1) := dk_42 (dk_at dksX2_init_0 20 rfl rfl)
theorem dX2_init_21 : decode cX2_init 21 = .ok (.bipush 16, 2) := dk_16 16 (dk_at dksX2_init_0 21 rfl rfl)
theorem dX2_init_23 : decode cX2_init 23 = .ok (.newarray .int, 2) := dk_188_10 (dk_at dksX2_init_1 0 rfl rfl)
theorem dX2_init_25 : decode cX2_init 25 = .ok (.putfield 18, 3) := dk_181 0 18 (dk_at dksX2_init_1 2 rfl rfl)
theorem dX2_init_28 : decode cX2_init 28 = .ok (.iconst 0, 1) := dk_3 (dk_at dksX2_init_1 5 rfl rfl)
theorem dX2_init_29 : decode cX2_init 29 = .ok (.istore_n 1, 1) := dk_60 (dk_at dksX2_init_1 6 rfl rfl)
theorem dX2_init_30 : decode cX2_init 30 = .ok (.iload_n 1, 1) := dk_27 (dk_at dksX2_init_1 7 rfl rfl)
theorem dX2_init_31 : decode cX2_init 31 = .ok (.bipush 16, 2) := dk_16 16 (dk_at dksX2_init_1 8 rfl rfl)
theorem dX2_init_33 : decode cX2_init 33 = .ok (.if_icmp .ge 23, 3) := dk_162 0 23 (dk_at dksX2_init_1 10 rfl rfl)
theorem dX2_init_36 : decode cX2_init 36 = .ok (.aload_n 0, 1) := dk_42 (dk_at dksX2_init_1 13 rfl rfl)
theorem dX2_init_37 : decode cX2_init 37 = .ok (.getfield 9, 3) := dk_180 0 9 (dk_at dksX2_init_1 14 rfl rfl)
theorem dX2_init_40 : decode cX2_init 40 = .ok (.iload_n 1, 1) := dk_27 (dk_at dksX2_init_1 17 rfl rfl)
theorem dX2_init_41 : decode cX2_init 41 = .ok (.iconst (-1), 1) := dk_2 (dk_at dksX2_init_1 18 rfl rfl)
theorem dX2_init_42 : decode cX2_init 42 = .ok (.iastore, 1) := dk_79 (dk_at dksX2_init_1 19 rfl rfl)
theorem dX2_init_43 : decode cX2_init 43 = .ok (.aload_n 0, 1) := dk_42 (dk_at dksX2_init_1 20 rfl rfl)
theorem dX2_init_44 : decode cX2_init 44 = .ok (.getfield 18, 3) := dk_180 0 18 (dk_at dksX2_init_1 21 rfl rfl)
theorem dX2_init_47 : decode cX2_init 47 = .ok (.iload_n 1, 1) := dk_27 (dk_at dksX2_init_2 0 rfl rfl)
theorem dX2_init_48 : decode cX2_init 48 = .ok (.iconst (-1), 1) := dk_2 (dk_at dksX2_init_2 1 rfl rfl)
theorem dX2_init_49 : decode cX2_init 49 = .ok (.iastore, 1) := dk_79 (dk_at dksX2_init_2 2 rfl rfl)
theorem dX2_init_50 : decode cX2_init 50 = .ok (.iinc 1 1, 3) := dk_132 1 1 (dk_at dksX2_init_2 3 rfl rfl)
theorem dX2_init_53 : decode cX2_init 53 = .ok (.goto (-23), 3) := dk_167 255 233 (dk_at dksX2_init_2 6 rfl rfl)
theorem dX2_init_56 : decode cX2_init 56 = .ok (.return_, 1) := dk_177 (dk_at dksX2_init_2 9 rfl rfl)
abbrev cX2_takes : ByteArray := prog_17_method_3_code
def yX2_takes : MethodName := ⟨RX2, "takes", "(LForestRooms$Table;)V"⟩
def dkwX2_takes_1 : List UInt8 := [180, 0, 18, 43, 180, 0, 18, 184, 0, 27, 42, 43, 180, 0, 31, 181, 0, 31, 177]
abbrev dktX2_takes_1 : List UInt8 := dkwX2_takes_1 ++ []
def dkwX2_takes_0 : List UInt8 := [42, 180, 0, 9, 43, 180, 0, 9, 184, 0, 27, 42, 180, 0, 15, 43, 180, 0, 15, 184, 0, 27, 42]
abbrev dktX2_takes_0 : List UInt8 := dkwX2_takes_0 ++ dktX2_takes_1
theorem dksX2_takes_0 : cX2_takes.data.toList.drop 0 = dktX2_takes_0 := by decide +kernel
theorem dksX2_takes_1 : cX2_takes.data.toList.drop 23 = dktX2_takes_1 := dk_seg dksX2_takes_0 23 rfl rfl
theorem dX2_takes_0 : decode cX2_takes 0 = .ok (.aload_n 0, 1) := dk_42 (dk_at dksX2_takes_0 0 rfl rfl)
theorem dX2_takes_1 : decode cX2_takes 1 = .ok (.getfield 9, 3) := dk_180 0 9 (dk_at dksX2_takes_0 1 rfl rfl)
theorem dX2_takes_4 : decode cX2_takes 4 = .ok (.aload_n 1, 1) := dk_43 (dk_at dksX2_takes_0 4 rfl rfl)
theorem dX2_takes_5 : decode cX2_takes 5 = .ok (.getfield 9, 3) := dk_180 0 9 (dk_at dksX2_takes_0 5 rfl rfl)
theorem dX2_takes_8 : decode cX2_takes 8 = .ok (.invokestatic 27, 3) := dk_184 0 27 (dk_at dksX2_takes_0 8 rfl rfl)
theorem dX2_takes_11 : decode cX2_takes 11 = .ok (.aload_n 0, 1) := dk_42 (dk_at dksX2_takes_0 11 rfl rfl)
theorem dX2_takes_12 : decode cX2_takes 12 = .ok (.getfield 15, 3) := dk_180 0 15 (dk_at dksX2_takes_0 12 rfl rfl)
theorem dX2_takes_15 : decode cX2_takes 15 = .ok (.aload_n 1, 1) := dk_43 (dk_at dksX2_takes_0 15 rfl rfl)
theorem dX2_takes_16 : decode cX2_takes 16 = .ok (.getfield 15, 3) := dk_180 0 15 (dk_at dksX2_takes_0 16 rfl rfl)
theorem dX2_takes_19 : decode cX2_takes 19 = .ok (.invokestatic 27, 3) := dk_184 0 27 (dk_at dksX2_takes_0 19 rfl rfl)
theorem dX2_takes_22 : decode cX2_takes 22 = .ok (.aload_n 0, 1) := dk_42 (dk_at dksX2_takes_0 22 rfl rfl)
theorem dX2_takes_23 : decode cX2_takes 23 = .ok (.getfield 18, 3) := dk_180 0 18 (dk_at dksX2_takes_1 0 rfl rfl)
theorem dX2_takes_26 : decode cX2_takes 26 = .ok (.aload_n 1, 1) := dk_43 (dk_at dksX2_takes_1 3 rfl rfl)
theorem dX2_takes_27 : decode cX2_takes 27 = .ok (.getfield 18, 3) := dk_180 0 18 (dk_at dksX2_takes_1 4 rfl rfl)
theorem dX2_takes_30 : decode cX2_takes 30 = .ok (.invokestatic 27, 3) := dk_184 0 27 (dk_at dksX2_takes_1 7 rfl rfl)
theorem dX2_takes_33 : decode cX2_takes 33 = .ok (.aload_n 0, 1) := dk_42 (dk_at dksX2_takes_1 10 rfl rfl)
theorem dX2_takes_34 : decode cX2_takes 34 = .ok (.aload_n 1, 1) := dk_43 (dk_at dksX2_takes_1 11 rfl rfl)
theorem dX2_takes_35 : decode cX2_takes 35 = .ok (.getfield 31, 3) := dk_180 0 31 (dk_at dksX2_takes_1 12 rfl rfl)
theorem dX2_takes_38 : decode cX2_takes 38 = .ok (.putfield 31, 3) := dk_181 0 31 (dk_at dksX2_takes_1 15 rfl rfl)
theorem dX2_takes_41 : decode cX2_takes 41 = .ok (.return_, 1) := dk_177 (dk_at dksX2_takes_1 18 rfl rfl)
abbrev cX2_rows : ByteArray := prog_17_method_2_code
def yX2_rows : MethodName := ⟨RX2, "rows", "([I[I)V"⟩
def dkwX2_rows_0 : List UInt8 := [43, 3, 42, 3, 42, 190, 184, 0, 21, 177]
abbrev dktX2_rows_0 : List UInt8 := dkwX2_rows_0 ++ []
theorem dksX2_rows_0 : cX2_rows.data.toList.drop 0 = dktX2_rows_0 := by decide +kernel
theorem dX2_rows_0 : decode cX2_rows 0 = .ok (.aload_n 1, 1) := dk_43 (dk_at dksX2_rows_0 0 rfl rfl)
theorem dX2_rows_1 : decode cX2_rows 1 = .ok (.iconst 0, 1) := dk_3 (dk_at dksX2_rows_0 1 rfl rfl)
theorem dX2_rows_2 : decode cX2_rows 2 = .ok (.aload_n 0, 1) := dk_42 (dk_at dksX2_rows_0 2 rfl rfl)
theorem dX2_rows_3 : decode cX2_rows 3 = .ok (.iconst 0, 1) := dk_3 (dk_at dksX2_rows_0 3 rfl rfl)
theorem dX2_rows_4 : decode cX2_rows 4 = .ok (.aload_n 0, 1) := dk_42 (dk_at dksX2_rows_0 4 rfl rfl)
theorem dX2_rows_5 : decode cX2_rows 5 = .ok (.arraylength, 1) := dk_190 (dk_at dksX2_rows_0 5 rfl rfl)
theorem dX2_rows_6 : decode cX2_rows 6 = .ok (.invokestatic 21, 3) := dk_184 0 21 (dk_at dksX2_rows_0 6 rfl rfl)
theorem dX2_rows_9 : decode cX2_rows 9 = .ok (.return_, 1) := dk_177 (dk_at dksX2_rows_0 9 rfl rfl)
abbrev cX2_isTree : ByteArray := prog_17_method_4_code
def yX2_isTree : MethodName := ⟨RX2, "isTree", "(I)Z"⟩
def dkwX2_isTree_0 : List UInt8 := [42, 180, 0, 9, 27, 46, 2, 159, 0, 7, 4, 167, 0, 4, 3, 172]
abbrev dktX2_isTree_0 : List UInt8 := dkwX2_isTree_0 ++ []
theorem dksX2_isTree_0 : cX2_isTree.data.toList.drop 0 = dktX2_isTree_0 := by decide +kernel
theorem dX2_isTree_0 : decode cX2_isTree 0 = .ok (.aload_n 0, 1) := dk_42 (dk_at dksX2_isTree_0 0 rfl rfl)
theorem dX2_isTree_1 : decode cX2_isTree 1 = .ok (.getfield 9, 3) := dk_180 0 9 (dk_at dksX2_isTree_0 1 rfl rfl)
theorem dX2_isTree_4 : decode cX2_isTree 4 = .ok (.iload_n 1, 1) := dk_27 (dk_at dksX2_isTree_0 4 rfl rfl)
theorem dX2_isTree_5 : decode cX2_isTree 5 = .ok (.iaload, 1) := dk_46 (dk_at dksX2_isTree_0 5 rfl rfl)
theorem dX2_isTree_6 : decode cX2_isTree 6 = .ok (.iconst (-1), 1) := dk_2 (dk_at dksX2_isTree_0 6 rfl rfl)
theorem dX2_isTree_7 : decode cX2_isTree 7 = .ok (.if_icmp .eq 7, 3) := dk_159 0 7 (dk_at dksX2_isTree_0 7 rfl rfl)
theorem dX2_isTree_10 : decode cX2_isTree 10 = .ok (.iconst 1, 1) := dk_4 (dk_at dksX2_isTree_0 10 rfl rfl)
theorem dX2_isTree_11 : decode cX2_isTree 11 = .ok (.goto 4, 3) := dk_167 0 4 (dk_at dksX2_isTree_0 11 rfl rfl)
theorem dX2_isTree_14 : decode cX2_isTree 14 = .ok (.iconst 0, 1) := dk_3 (dk_at dksX2_isTree_0 14 rfl rfl)
theorem dX2_isTree_15 : decode cX2_isTree 15 = .ok (.ireturn, 1) := dk_172 (dk_at dksX2_isTree_0 15 rfl rfl)
abbrev cX2_roomOf : ByteArray := prog_17_method_7_code
def yX2_roomOf : MethodName := ⟨RX2, "roomOf", "(I)I"⟩
def dkwX2_roomOf_1 : List UInt8 := [167, 255, 235, 2, 172]
abbrev dktX2_roomOf_1 : List UInt8 := dkwX2_roomOf_1 ++ []
def dkwX2_roomOf_0 : List UInt8 := [3, 61, 28, 16, 16, 162, 0, 21, 42, 180, 0, 18, 28, 46, 27, 160, 0, 5, 28, 172, 132, 2, 1]
abbrev dktX2_roomOf_0 : List UInt8 := dkwX2_roomOf_0 ++ dktX2_roomOf_1
theorem dksX2_roomOf_0 : cX2_roomOf.data.toList.drop 0 = dktX2_roomOf_0 := by decide +kernel
theorem dksX2_roomOf_1 : cX2_roomOf.data.toList.drop 23 = dktX2_roomOf_1 := dk_seg dksX2_roomOf_0 23 rfl rfl
theorem dX2_roomOf_0 : decode cX2_roomOf 0 = .ok (.iconst 0, 1) := dk_3 (dk_at dksX2_roomOf_0 0 rfl rfl)
theorem dX2_roomOf_1 : decode cX2_roomOf 1 = .ok (.istore_n 2, 1) := dk_61 (dk_at dksX2_roomOf_0 1 rfl rfl)
theorem dX2_roomOf_2 : decode cX2_roomOf 2 = .ok (.iload_n 2, 1) := dk_28 (dk_at dksX2_roomOf_0 2 rfl rfl)
theorem dX2_roomOf_3 : decode cX2_roomOf 3 = .ok (.bipush 16, 2) := dk_16 16 (dk_at dksX2_roomOf_0 3 rfl rfl)
theorem dX2_roomOf_5 : decode cX2_roomOf 5 = .ok (.if_icmp .ge 21, 3) := dk_162 0 21 (dk_at dksX2_roomOf_0 5 rfl rfl)
theorem dX2_roomOf_8 : decode cX2_roomOf 8 = .ok (.aload_n 0, 1) := dk_42 (dk_at dksX2_roomOf_0 8 rfl rfl)
theorem dX2_roomOf_9 : decode cX2_roomOf 9 = .ok (.getfield 18, 3) := dk_180 0 18 (dk_at dksX2_roomOf_0 9 rfl rfl)
theorem dX2_roomOf_12 : decode cX2_roomOf 12 = .ok (.iload_n 2, 1) := dk_28 (dk_at dksX2_roomOf_0 12 rfl rfl)
theorem dX2_roomOf_13 : decode cX2_roomOf 13 = .ok (.iaload, 1) := dk_46 (dk_at dksX2_roomOf_0 13 rfl rfl)
theorem dX2_roomOf_14 : decode cX2_roomOf 14 = .ok (.iload_n 1, 1) := dk_27 (dk_at dksX2_roomOf_0 14 rfl rfl)
theorem dX2_roomOf_15 : decode cX2_roomOf 15 = .ok (.if_icmp .ne 5, 3) := dk_160 0 5 (dk_at dksX2_roomOf_0 15 rfl rfl)
theorem dX2_roomOf_18 : decode cX2_roomOf 18 = .ok (.iload_n 2, 1) := dk_28 (dk_at dksX2_roomOf_0 18 rfl rfl)
theorem dX2_roomOf_19 : decode cX2_roomOf 19 = .ok (.ireturn, 1) := dk_172 (dk_at dksX2_roomOf_0 19 rfl rfl)
theorem dX2_roomOf_20 : decode cX2_roomOf 20 = .ok (.iinc 2 1, 3) := dk_132 2 1 (dk_at dksX2_roomOf_0 20 rfl rfl)
theorem dX2_roomOf_23 : decode cX2_roomOf 23 = .ok (.goto (-21), 3) := dk_167 255 235 (dk_at dksX2_roomOf_1 0 rfl rfl)
theorem dX2_roomOf_26 : decode cX2_roomOf 26 = .ok (.iconst (-1), 1) := dk_2 (dk_at dksX2_roomOf_1 3 rfl rfl)
theorem dX2_roomOf_27 : decode cX2_roomOf 27 = .ok (.ireturn, 1) := dk_172 (dk_at dksX2_roomOf_1 4 rfl rfl)
abbrev cX2_plants : ByteArray := prog_17_method_5_code
def yX2_plants : MethodName := ⟨RX2, "plants", "(II)V"⟩
def dkwX2_plants_0 : List UInt8 := [42, 180, 0, 9, 27, 28, 79, 42, 180, 0, 15, 27, 4, 79, 177]
abbrev dktX2_plants_0 : List UInt8 := dkwX2_plants_0 ++ []
theorem dksX2_plants_0 : cX2_plants.data.toList.drop 0 = dktX2_plants_0 := by decide +kernel
theorem dX2_plants_0 : decode cX2_plants 0 = .ok (.aload_n 0, 1) := dk_42 (dk_at dksX2_plants_0 0 rfl rfl)
theorem dX2_plants_1 : decode cX2_plants 1 = .ok (.getfield 9, 3) := dk_180 0 9 (dk_at dksX2_plants_0 1 rfl rfl)
theorem dX2_plants_4 : decode cX2_plants 4 = .ok (.iload_n 1, 1) := dk_27 (dk_at dksX2_plants_0 4 rfl rfl)
theorem dX2_plants_5 : decode cX2_plants 5 = .ok (.iload_n 2, 1) := dk_28 (dk_at dksX2_plants_0 5 rfl rfl)
theorem dX2_plants_6 : decode cX2_plants 6 = .ok (.iastore, 1) := dk_79 (dk_at dksX2_plants_0 6 rfl rfl)
theorem dX2_plants_7 : decode cX2_plants 7 = .ok (.aload_n 0, 1) := dk_42 (dk_at dksX2_plants_0 7 rfl rfl)
theorem dX2_plants_8 : decode cX2_plants 8 = .ok (.getfield 15, 3) := dk_180 0 15 (dk_at dksX2_plants_0 8 rfl rfl)
theorem dX2_plants_11 : decode cX2_plants 11 = .ok (.iload_n 1, 1) := dk_27 (dk_at dksX2_plants_0 11 rfl rfl)
theorem dX2_plants_12 : decode cX2_plants 12 = .ok (.iconst 1, 1) := dk_4 (dk_at dksX2_plants_0 12 rfl rfl)
theorem dX2_plants_13 : decode cX2_plants 13 = .ok (.iastore, 1) := dk_79 (dk_at dksX2_plants_0 13 rfl rfl)
theorem dX2_plants_14 : decode cX2_plants 14 = .ok (.return_, 1) := dk_177 (dk_at dksX2_plants_0 14 rfl rfl)
abbrev cX2_falls : ByteArray := prog_17_method_6_code
def yX2_falls : MethodName := ⟨RX2, "falls", "(I)V"⟩
def dkwX2_falls_0 : List UInt8 := [42, 180, 0, 9, 27, 2, 79, 42, 180, 0, 15, 27, 3, 79, 177]
abbrev dktX2_falls_0 : List UInt8 := dkwX2_falls_0 ++ []
theorem dksX2_falls_0 : cX2_falls.data.toList.drop 0 = dktX2_falls_0 := by decide +kernel
theorem dX2_falls_0 : decode cX2_falls 0 = .ok (.aload_n 0, 1) := dk_42 (dk_at dksX2_falls_0 0 rfl rfl)
theorem dX2_falls_1 : decode cX2_falls 1 = .ok (.getfield 9, 3) := dk_180 0 9 (dk_at dksX2_falls_0 1 rfl rfl)
theorem dX2_falls_4 : decode cX2_falls 4 = .ok (.iload_n 1, 1) := dk_27 (dk_at dksX2_falls_0 4 rfl rfl)
theorem dX2_falls_5 : decode cX2_falls 5 = .ok (.iconst (-1), 1) := dk_2 (dk_at dksX2_falls_0 5 rfl rfl)
theorem dX2_falls_6 : decode cX2_falls 6 = .ok (.iastore, 1) := dk_79 (dk_at dksX2_falls_0 6 rfl rfl)
theorem dX2_falls_7 : decode cX2_falls 7 = .ok (.aload_n 0, 1) := dk_42 (dk_at dksX2_falls_0 7 rfl rfl)
theorem dX2_falls_8 : decode cX2_falls 8 = .ok (.getfield 15, 3) := dk_180 0 15 (dk_at dksX2_falls_0 8 rfl rfl)
theorem dX2_falls_11 : decode cX2_falls 11 = .ok (.iload_n 1, 1) := dk_27 (dk_at dksX2_falls_0 11 rfl rfl)
theorem dX2_falls_12 : decode cX2_falls 12 = .ok (.iconst 0, 1) := dk_3 (dk_at dksX2_falls_0 12 rfl rfl)
theorem dX2_falls_13 : decode cX2_falls 13 = .ok (.iastore, 1) := dk_79 (dk_at dksX2_falls_0 13 rfl rfl)
theorem dX2_falls_14 : decode cX2_falls 14 = .ok (.return_, 1) := dk_177 (dk_at dksX2_falls_0 14 rfl rfl)
abbrev cX2_families : ByteArray := prog_17_method_9_code
def yX2_families : MethodName := ⟨RX2, "families", "()I"⟩
def dkwX2_families_1 : List UInt8 := [167, 0, 4, 4, 96, 60, 132, 2, 1, 167, 255, 229, 27, 172]
abbrev dktX2_families_1 : List UInt8 := dkwX2_families_1 ++ []
def dkwX2_families_0 : List UInt8 := [3, 60, 3, 61, 28, 16, 16, 162, 0, 27, 27, 42, 180, 0, 18, 28, 46, 2, 160, 0, 7, 3]
abbrev dktX2_families_0 : List UInt8 := dkwX2_families_0 ++ dktX2_families_1
theorem dksX2_families_0 : cX2_families.data.toList.drop 0 = dktX2_families_0 := by decide +kernel
theorem dksX2_families_1 : cX2_families.data.toList.drop 22 = dktX2_families_1 := dk_seg dksX2_families_0 22 rfl rfl
theorem dX2_families_0 : decode cX2_families 0 = .ok (.iconst 0, 1) := dk_3 (dk_at dksX2_families_0 0 rfl rfl)
theorem dX2_families_1 : decode cX2_families 1 = .ok (.istore_n 1, 1) := dk_60 (dk_at dksX2_families_0 1 rfl rfl)
theorem dX2_families_2 : decode cX2_families 2 = .ok (.iconst 0, 1) := dk_3 (dk_at dksX2_families_0 2 rfl rfl)
theorem dX2_families_3 : decode cX2_families 3 = .ok (.istore_n 2, 1) := dk_61 (dk_at dksX2_families_0 3 rfl rfl)
theorem dX2_families_4 : decode cX2_families 4 = .ok (.iload_n 2, 1) := dk_28 (dk_at dksX2_families_0 4 rfl rfl)
theorem dX2_families_5 : decode cX2_families 5 = .ok (.bipush 16, 2) := dk_16 16 (dk_at dksX2_families_0 5 rfl rfl)
theorem dX2_families_7 : decode cX2_families 7 = .ok (.if_icmp .ge 27, 3) := dk_162 0 27 (dk_at dksX2_families_0 7 rfl rfl)
theorem dX2_families_10 : decode cX2_families 10 = .ok (.iload_n 1, 1) := dk_27 (dk_at dksX2_families_0 10 rfl rfl)
theorem dX2_families_11 : decode cX2_families 11 = .ok (.aload_n 0, 1) := dk_42 (dk_at dksX2_families_0 11 rfl rfl)
theorem dX2_families_12 : decode cX2_families 12 = .ok (.getfield 18, 3) := dk_180 0 18 (dk_at dksX2_families_0 12 rfl rfl)
theorem dX2_families_15 : decode cX2_families 15 = .ok (.iload_n 2, 1) := dk_28 (dk_at dksX2_families_0 15 rfl rfl)
theorem dX2_families_16 : decode cX2_families 16 = .ok (.iaload, 1) := dk_46 (dk_at dksX2_families_0 16 rfl rfl)
theorem dX2_families_17 : decode cX2_families 17 = .ok (.iconst (-1), 1) := dk_2 (dk_at dksX2_families_0 17 rfl rfl)
theorem dX2_families_18 : decode cX2_families 18 = .ok (.if_icmp .ne 7, 3) := dk_160 0 7 (dk_at dksX2_families_0 18 rfl rfl)
theorem dX2_families_21 : decode cX2_families 21 = .ok (.iconst 0, 1) := dk_3 (dk_at dksX2_families_0 21 rfl rfl)
theorem dX2_families_22 : decode cX2_families 22 = .ok (.goto 4, 3) := dk_167 0 4 (dk_at dksX2_families_1 0 rfl rfl)
theorem dX2_families_25 : decode cX2_families 25 = .ok (.iconst 1, 1) := dk_4 (dk_at dksX2_families_1 3 rfl rfl)
theorem dX2_families_26 : decode cX2_families 26 = .ok (.iadd, 1) := dk_96 (dk_at dksX2_families_1 4 rfl rfl)
theorem dX2_families_27 : decode cX2_families 27 = .ok (.istore_n 1, 1) := dk_60 (dk_at dksX2_families_1 5 rfl rfl)
theorem dX2_families_28 : decode cX2_families 28 = .ok (.iinc 2 1, 3) := dk_132 2 1 (dk_at dksX2_families_1 6 rfl rfl)
theorem dX2_families_31 : decode cX2_families 31 = .ok (.goto (-27), 3) := dk_167 255 229 (dk_at dksX2_families_1 9 rfl rfl)
theorem dX2_families_34 : decode cX2_families 34 = .ok (.iload_n 1, 1) := dk_27 (dk_at dksX2_families_1 12 rfl rfl)
theorem dX2_families_35 : decode cX2_families 35 = .ok (.ireturn, 1) := dk_172 (dk_at dksX2_families_1 13 rfl rfl)
abbrev cX2_trees : ByteArray := prog_17_method_8_code
def yX2_trees : MethodName := ⟨RX2, "trees", "()I"⟩
def dkwX2_trees_1 : List UInt8 := [96, 60, 132, 2, 1, 167, 255, 231, 27, 172]
abbrev dktX2_trees_1 : List UInt8 := dkwX2_trees_1 ++ []
def dkwX2_trees_0 : List UInt8 := [3, 60, 3, 61, 28, 16, 16, 162, 0, 25, 27, 42, 28, 182, 0, 35, 153, 0, 7, 4, 167, 0, 4, 3]
abbrev dktX2_trees_0 : List UInt8 := dkwX2_trees_0 ++ dktX2_trees_1
theorem dksX2_trees_0 : cX2_trees.data.toList.drop 0 = dktX2_trees_0 := by decide +kernel
theorem dksX2_trees_1 : cX2_trees.data.toList.drop 24 = dktX2_trees_1 := dk_seg dksX2_trees_0 24 rfl rfl
theorem dX2_trees_0 : decode cX2_trees 0 = .ok (.iconst 0, 1) := dk_3 (dk_at dksX2_trees_0 0 rfl rfl)
theorem dX2_trees_1 : decode cX2_trees 1 = .ok (.istore_n 1, 1) := dk_60 (dk_at dksX2_trees_0 1 rfl rfl)
theorem dX2_trees_2 : decode cX2_trees 2 = .ok (.iconst 0, 1) := dk_3 (dk_at dksX2_trees_0 2 rfl rfl)
theorem dX2_trees_3 : decode cX2_trees 3 = .ok (.istore_n 2, 1) := dk_61 (dk_at dksX2_trees_0 3 rfl rfl)
theorem dX2_trees_4 : decode cX2_trees 4 = .ok (.iload_n 2, 1) := dk_28 (dk_at dksX2_trees_0 4 rfl rfl)
theorem dX2_trees_5 : decode cX2_trees 5 = .ok (.bipush 16, 2) := dk_16 16 (dk_at dksX2_trees_0 5 rfl rfl)
theorem dX2_trees_7 : decode cX2_trees 7 = .ok (.if_icmp .ge 25, 3) := dk_162 0 25 (dk_at dksX2_trees_0 7 rfl rfl)
theorem dX2_trees_10 : decode cX2_trees 10 = .ok (.iload_n 1, 1) := dk_27 (dk_at dksX2_trees_0 10 rfl rfl)
theorem dX2_trees_11 : decode cX2_trees 11 = .ok (.aload_n 0, 1) := dk_42 (dk_at dksX2_trees_0 11 rfl rfl)
theorem dX2_trees_12 : decode cX2_trees 12 = .ok (.iload_n 2, 1) := dk_28 (dk_at dksX2_trees_0 12 rfl rfl)
theorem dX2_trees_13 : decode cX2_trees 13 = .ok (.invokevirtual 35, 3) := dk_182 0 35 (dk_at dksX2_trees_0 13 rfl rfl)
theorem dX2_trees_16 : decode cX2_trees 16 = .ok (.ifCond .eq 7, 3) := dk_153 0 7 (dk_at dksX2_trees_0 16 rfl rfl)
theorem dX2_trees_19 : decode cX2_trees 19 = .ok (.iconst 1, 1) := dk_4 (dk_at dksX2_trees_0 19 rfl rfl)
theorem dX2_trees_20 : decode cX2_trees 20 = .ok (.goto 4, 3) := dk_167 0 4 (dk_at dksX2_trees_0 20 rfl rfl)
theorem dX2_trees_23 : decode cX2_trees 23 = .ok (.iconst 0, 1) := dk_3 (dk_at dksX2_trees_0 23 rfl rfl)
theorem dX2_trees_24 : decode cX2_trees 24 = .ok (.iadd, 1) := dk_96 (dk_at dksX2_trees_1 0 rfl rfl)
theorem dX2_trees_25 : decode cX2_trees 25 = .ok (.istore_n 1, 1) := dk_60 (dk_at dksX2_trees_1 1 rfl rfl)
theorem dX2_trees_26 : decode cX2_trees 26 = .ok (.iinc 2 1, 3) := dk_132 2 1 (dk_at dksX2_trees_1 2 rfl rfl)
theorem dX2_trees_29 : decode cX2_trees 29 = .ok (.goto (-25), 3) := dk_167 255 231 (dk_at dksX2_trees_1 5 rfl rfl)
theorem dX2_trees_32 : decode cX2_trees 32 = .ok (.iload_n 1, 1) := dk_27 (dk_at dksX2_trees_1 8 rfl rfl)
theorem dX2_trees_33 : decode cX2_trees 33 = .ok (.ireturn, 1) := dk_172 (dk_at dksX2_trees_1 9 rfl rfl)
theorem q113 : (Jvm.Cond.initialized "ForestRooms$Table") ∈ lw_all := lw_g (lw_at lw_m1 3 rfl) rfl
theorem q162 : (Jvm.Cond.instantiable "ForestRooms$Table" (4 : Nat)) ∈ lw_all := lw_g (lw_at lw_m1 52 rfl) rfl
theorem q164 : (Jvm.Cond.instanceMethod ({ cls := "ForestRooms$Table", name := "<init>", desc := "()V" } : Jvm.MethodName)) ∈ lw_all := lw_g (lw_at lw_m1 54 rfl) rfl
theorem q165 : (Jvm.Cond.code ({ cls := "ForestRooms$Table", name := "<init>", desc := "()V" } : Jvm.MethodName) prog_17_method_1_code (2 : Nat) (Option.none : Option Jvm.ClassFile.FieldType)) ∈ lw_all := lw_g (lw_at lw_m1 55 rfl) rfl
theorem q166 : (Jvm.Cond.methodLink "ForestRooms$Table" (3 : Nat) ({ cls := "java/lang/Object", name := "<init>", desc := "()V" } : Jvm.MethodName)) ∈ lw_all := lw_g (lw_at lw_m1 56 rfl) rfl
theorem q167 : (Jvm.Cond.fieldLink "ForestRooms$Table" (9 : Nat) "ForestRooms$Table" "kind" "[I") ∈ lw_all := lw_g (lw_at lw_m1 57 rfl) rfl
theorem q169 : (Jvm.Cond.fieldLink "ForestRooms$Table" (15 : Nat) "ForestRooms$Table" "grown" "[I") ∈ lw_all := lw_g (lw_at lw_m1 59 rfl) rfl
theorem q172 : (Jvm.Cond.fieldLink "ForestRooms$Table" (18 : Nat) "ForestRooms$Table" "family" "[I") ∈ lw_all := lw_g (lw_at lw_m1 62 rfl) rfl
theorem q174 : (Jvm.Cond.fieldLink "ForestRooms$Table" (31 : Nat) "ForestRooms$Table" "season" "I") ∈ lw_all := lw_g (lw_at lw_m1 64 rfl) rfl
theorem q176 : (Jvm.Cond.laysFinal "ForestRooms$Table" "ForestRooms$Table" "kind" "[I") ∈ lw_all := lw_g (lw_at lw_m1 66 rfl) rfl
theorem q177 : (Jvm.Cond.soleField "ForestRooms$Table" "kind") ∈ lw_all := lw_g (lw_at lw_m1 67 rfl) rfl
theorem q178 : (Jvm.Cond.laysFinal "ForestRooms$Table" "ForestRooms$Table" "grown" "[I") ∈ lw_all := lw_g (lw_at lw_m1 68 rfl) rfl
theorem q179 : (Jvm.Cond.soleField "ForestRooms$Table" "grown") ∈ lw_all := lw_g (lw_at lw_m1 69 rfl) rfl
theorem q180 : (Jvm.Cond.laysFinal "ForestRooms$Table" "ForestRooms$Table" "family" "[I") ∈ lw_all := lw_g (lw_at lw_m1 70 rfl) rfl
theorem q181 : (Jvm.Cond.soleField "ForestRooms$Table" "family") ∈ lw_all := lw_g (lw_at lw_m1 71 rfl) rfl
theorem q182 : (Jvm.Cond.lays "ForestRooms$Table" "ForestRooms$Table" "season" "I") ∈ lw_all := lw_g (lw_at lw_m1 72 rfl) rfl
theorem q183 : (Jvm.Cond.soleField "ForestRooms$Table" "season") ∈ lw_all := lw_g (lw_at lw_m1 73 rfl) rfl
theorem q184 : (Jvm.Cond.superclass "ForestRooms$Table" "java/lang/Object") ∈ lw_all := lw_g (lw_at lw_m1 74 rfl) rfl
theorem q449 : (Jvm.Cond.instanceMethod ({ cls := "ForestRooms$Table", name := "takes", desc := "(LForestRooms$Table;)V" } : Jvm.MethodName)) ∈ lw_all := lw_g (lw_at lw_m2 99 rfl) rfl
theorem q450 : (Jvm.Cond.selects "ForestRooms$Table" ({ cls := "ForestRooms$Table", name := "takes", desc := "(LForestRooms$Table;)V" } : Jvm.MethodName) ({ cls := "ForestRooms$Table", name := "takes", desc := "(LForestRooms$Table;)V" } : Jvm.MethodName)) ∈ lw_all := lw_g (lw_at lw_m2 100 rfl) rfl
theorem q451 : (Jvm.Cond.code ({ cls := "ForestRooms$Table", name := "takes", desc := "(LForestRooms$Table;)V" } : Jvm.MethodName) prog_17_method_3_code (2 : Nat) (Option.none : Option Jvm.ClassFile.FieldType)) ∈ lw_all := lw_g (lw_at lw_m2 101 rfl) rfl
theorem q452 : (Jvm.Cond.methodLink "ForestRooms$Table" (27 : Nat) ({ cls := "ForestRooms$Table", name := "rows", desc := "([I[I)V" } : Jvm.MethodName)) ∈ lw_all := lw_g (lw_at lw_m2 102 rfl) rfl
theorem q453 : (Jvm.Cond.static ({ cls := "ForestRooms$Table", name := "rows", desc := "([I[I)V" } : Jvm.MethodName)) ∈ lw_all := lw_g (lw_at lw_m2 103 rfl) rfl
theorem q454 : (Jvm.Cond.code ({ cls := "ForestRooms$Table", name := "rows", desc := "([I[I)V" } : Jvm.MethodName) prog_17_method_2_code (2 : Nat) (Option.none : Option Jvm.ClassFile.FieldType)) ∈ lw_all := lw_g (lw_at lw_m2 104 rfl) rfl
theorem q455 : (Jvm.Cond.methodLink "ForestRooms$Table" (21 : Nat) ({ cls := "java/lang/System", name := "arraycopy", desc := "(Ljava/lang/Object;ILjava/lang/Object;II)V" } : Jvm.MethodName)) ∈ lw_all := lw_g (lw_at lw_m2 105 rfl) rfl
theorem q497 : (Jvm.Cond.selects "ForestRooms$Table" ({ cls := "java/lang/Object", name := "getClass", desc := "()Ljava/lang/Class;" } : Jvm.MethodName) ({ cls := "java/lang/Object", name := "getClass", desc := "()Ljava/lang/Class;" } : Jvm.MethodName)) ∈ lw_all := lw_g (lw_at lw_m2 147 rfl) rfl
theorem q569 : (Jvm.Cond.instanceMethod ({ cls := "ForestRooms$Table", name := "isTree", desc := "(I)Z" } : Jvm.MethodName)) ∈ lw_all := lw_g (lw_at lw_m2 219 rfl) rfl
theorem q570 : (Jvm.Cond.selects "ForestRooms$Table" ({ cls := "ForestRooms$Table", name := "isTree", desc := "(I)Z" } : Jvm.MethodName) ({ cls := "ForestRooms$Table", name := "isTree", desc := "(I)Z" } : Jvm.MethodName)) ∈ lw_all := lw_g (lw_at lw_m2 220 rfl) rfl
theorem q571 : (Jvm.Cond.code ({ cls := "ForestRooms$Table", name := "isTree", desc := "(I)Z" } : Jvm.MethodName) prog_17_method_4_code (2 : Nat) (Option.some Jvm.ClassFile.FieldType.boolean)) ∈ lw_all := lw_g (lw_at lw_m2 221 rfl) rfl
theorem q1220 : (Jvm.Cond.instanceMethod ({ cls := "ForestRooms$Table", name := "roomOf", desc := "(I)I" } : Jvm.MethodName)) ∈ lw_all := lw_g (lw_at lw_m5 150 rfl) rfl
theorem q1221 : (Jvm.Cond.selects "ForestRooms$Table" ({ cls := "ForestRooms$Table", name := "roomOf", desc := "(I)I" } : Jvm.MethodName) ({ cls := "ForestRooms$Table", name := "roomOf", desc := "(I)I" } : Jvm.MethodName)) ∈ lw_all := lw_g (lw_at lw_m5 151 rfl) rfl
theorem q1222 : (Jvm.Cond.code ({ cls := "ForestRooms$Table", name := "roomOf", desc := "(I)I" } : Jvm.MethodName) prog_17_method_7_code (3 : Nat) (Option.some Jvm.ClassFile.FieldType.int)) ∈ lw_all := lw_g (lw_at lw_m5 152 rfl) rfl
theorem q1248 : (Jvm.Cond.instanceMethod ({ cls := "ForestRooms$Table", name := "plants", desc := "(II)V" } : Jvm.MethodName)) ∈ lw_all := lw_g (lw_at lw_m5 178 rfl) rfl
theorem q1249 : (Jvm.Cond.selects "ForestRooms$Table" ({ cls := "ForestRooms$Table", name := "plants", desc := "(II)V" } : Jvm.MethodName) ({ cls := "ForestRooms$Table", name := "plants", desc := "(II)V" } : Jvm.MethodName)) ∈ lw_all := lw_g (lw_at lw_m5 179 rfl) rfl
theorem q1250 : (Jvm.Cond.code ({ cls := "ForestRooms$Table", name := "plants", desc := "(II)V" } : Jvm.MethodName) prog_17_method_5_code (3 : Nat) (Option.none : Option Jvm.ClassFile.FieldType)) ∈ lw_all := lw_g (lw_at lw_m5 180 rfl) rfl
theorem q1264 : (Jvm.Cond.instanceMethod ({ cls := "ForestRooms$Table", name := "falls", desc := "(I)V" } : Jvm.MethodName)) ∈ lw_all := lw_g (lw_at lw_m5 194 rfl) rfl
theorem q1265 : (Jvm.Cond.selects "ForestRooms$Table" ({ cls := "ForestRooms$Table", name := "falls", desc := "(I)V" } : Jvm.MethodName) ({ cls := "ForestRooms$Table", name := "falls", desc := "(I)V" } : Jvm.MethodName)) ∈ lw_all := lw_g (lw_at lw_m5 195 rfl) rfl
theorem q1266 : (Jvm.Cond.code ({ cls := "ForestRooms$Table", name := "falls", desc := "(I)V" } : Jvm.MethodName) prog_17_method_6_code (2 : Nat) (Option.none : Option Jvm.ClassFile.FieldType)) ∈ lw_all := lw_g (lw_at lw_m5 196 rfl) rfl
theorem q1313 : (Jvm.Cond.instanceMethod ({ cls := "ForestRooms$Table", name := "families", desc := "()I" } : Jvm.MethodName)) ∈ lw_all := lw_g (lw_at lw_m6 3 rfl) rfl
theorem q1314 : (Jvm.Cond.selects "ForestRooms$Table" ({ cls := "ForestRooms$Table", name := "families", desc := "()I" } : Jvm.MethodName) ({ cls := "ForestRooms$Table", name := "families", desc := "()I" } : Jvm.MethodName)) ∈ lw_all := lw_g (lw_at lw_m6 4 rfl) rfl
theorem q1315 : (Jvm.Cond.code ({ cls := "ForestRooms$Table", name := "families", desc := "()I" } : Jvm.MethodName) prog_17_method_9_code (3 : Nat) (Option.some Jvm.ClassFile.FieldType.int)) ∈ lw_all := lw_g (lw_at lw_m6 5 rfl) rfl
theorem q1441 : (Jvm.Cond.instanceMethod ({ cls := "ForestRooms$Table", name := "trees", desc := "()I" } : Jvm.MethodName)) ∈ lw_all := lw_g (lw_at lw_m6 131 rfl) rfl
theorem q1442 : (Jvm.Cond.selects "ForestRooms$Table" ({ cls := "ForestRooms$Table", name := "trees", desc := "()I" } : Jvm.MethodName) ({ cls := "ForestRooms$Table", name := "trees", desc := "()I" } : Jvm.MethodName)) ∈ lw_all := lw_g (lw_at lw_m6 132 rfl) rfl
theorem q1443 : (Jvm.Cond.code ({ cls := "ForestRooms$Table", name := "trees", desc := "()I" } : Jvm.MethodName) prog_17_method_8_code (3 : Nat) (Option.some Jvm.ClassFile.FieldType.int)) ∈ lw_all := lw_g (lw_at lw_m6 133 rfl) rfl
theorem q1444 : (Jvm.Cond.methodLink "ForestRooms$Table" (35 : Nat) ({ cls := "ForestRooms$Table", name := "isTree", desc := "(I)Z" } : Jvm.MethodName)) ∈ lw_all := lw_g (lw_at lw_m6 134 rfl) rfl
theorem q2242 : (Jvm.Cond.castable "ForestRooms$Table" "java/lang/Object") ∈ lw_tbl := lw_at lw_m9 212 rfl
theorem in_X2 : ∀ w ∈ wsX20, w ∈ lw_all := lw_in wsX20 [176, 178, 180, 182] (by decide +kernel) (by decide +kernel)
/-! ForestRooms$Setting -/
set_option maxRecDepth 100000
def RX3 : String := "ForestRooms$Setting"
def TX3 : u_T := fun k => match k with
  | 0 => ("ForestRooms$Setting", "broken", "LForestRooms$Broken;", true)
  | _ => ("ForestRooms$Setting", "values", "[J", true)
def tyX3 : Nat → FieldType := fun k => match k with
  | 0 => .object "ForestRooms$Broken"
  | _ => .array .long
abbrev wsX30 : List Cond := u_ws RX3 TX3 2
theorem nmX3 : ∀ a, a < 2 → ∀ b, b < 2 → a ≠ b → (TX3 a).2.1 ≠ (TX3 b).2.1 := by decide +kernel
theorem tyX3_ok : ∀ k, k < 2 → parseFieldDescriptor (TX3 k).2.2.1 = some (tyX3 k) := by decide +kernel
abbrev cX3_init : ByteArray := prog_13_method_1_code
def yX3_init : MethodName := ⟨RX3, "<init>", "()V"⟩
def dkwX3_init_0 : List UInt8 := [42, 183, 0, 3, 42, 187, 0, 9, 89, 183, 0, 11, 181, 0, 12, 42, 16, 52, 188, 11, 181, 0, 18, 177]
abbrev dktX3_init_0 : List UInt8 := dkwX3_init_0 ++ []
theorem dksX3_init_0 : cX3_init.data.toList.drop 0 = dktX3_init_0 := by decide +kernel
theorem dX3_init_0 : decode cX3_init 0 = .ok (.aload_n 0, 1) := dk_42 (dk_at dksX3_init_0 0 rfl rfl)
theorem dX3_init_1 : decode cX3_init 1 = .ok (.invokespecial 3, 3) := dk_183 0 3 (dk_at dksX3_init_0 1 rfl rfl)
theorem dX3_init_4 : decode cX3_init 4 = .ok (.aload_n 0, 1) := dk_42 (dk_at dksX3_init_0 4 rfl rfl)
theorem dX3_init_5 : decode cX3_init 5 = .ok (.new 9, 3) := dk_187 0 9 (dk_at dksX3_init_0 5 rfl rfl)
theorem dX3_init_8 : decode cX3_init 8 = .ok (.dup, 1) := dk_89 (dk_at dksX3_init_0 8 rfl rfl)
theorem dX3_init_9 : decode cX3_init 9 = .ok (.invokespecial 11, 3) := dk_183 0 11 (dk_at dksX3_init_0 9 rfl rfl)
theorem dX3_init_12 : decode cX3_init 12 = .ok (.putfield 12, 3) := dk_181 0 12 (dk_at dksX3_init_0 12 rfl rfl)
theorem dX3_init_15 : decode cX3_init 15 = .ok (.aload_n 0, 1) := dk_42 (dk_at dksX3_init_0 15 rfl rfl)
theorem dX3_init_16 : decode cX3_init 16 = .ok (.bipush 52, 2) := dk_16 52 (dk_at dksX3_init_0 16 rfl rfl)
theorem dX3_init_18 : decode cX3_init 18 = .ok (.newarray .long, 2) := dk_188_11 (dk_at dksX3_init_0 18 rfl rfl)
theorem dX3_init_20 : decode cX3_init 20 = .ok (.putfield 18, 3) := dk_181 0 18 (dk_at dksX3_init_0 20 rfl rfl)
theorem dX3_init_23 : decode cX3_init 23 = .ok (.return_, 1) := dk_177 (dk_at dksX3_init_0 23 rfl rfl)
theorem q117 : (Jvm.Cond.initialized "ForestRooms$Setting") ∈ lw_all := lw_g (lw_at lw_m1 7 rfl) rfl
theorem q268 : (Jvm.Cond.instantiable "ForestRooms$Setting" (2 : Nat)) ∈ lw_all := lw_g (lw_at lw_m1 158 rfl) rfl
theorem q270 : (Jvm.Cond.instanceMethod ({ cls := "ForestRooms$Setting", name := "<init>", desc := "()V" } : Jvm.MethodName)) ∈ lw_all := lw_g (lw_at lw_m1 160 rfl) rfl
theorem q271 : (Jvm.Cond.code ({ cls := "ForestRooms$Setting", name := "<init>", desc := "()V" } : Jvm.MethodName) prog_13_method_1_code (1 : Nat) (Option.none : Option Jvm.ClassFile.FieldType)) ∈ lw_all := lw_g (lw_at lw_m1 161 rfl) rfl
theorem q272 : (Jvm.Cond.methodLink "ForestRooms$Setting" (3 : Nat) ({ cls := "java/lang/Object", name := "<init>", desc := "()V" } : Jvm.MethodName)) ∈ lw_all := lw_g (lw_at lw_m1 162 rfl) rfl
theorem q273 : (Jvm.Cond.classLink "ForestRooms$Setting" (9 : Nat) "ForestRooms$Broken") ∈ lw_all := lw_g (lw_at lw_m1 163 rfl) rfl
theorem q311 : (Jvm.Cond.methodLink "ForestRooms$Setting" (11 : Nat) ({ cls := "ForestRooms$Broken", name := "<init>", desc := "()V" } : Jvm.MethodName)) ∈ lw_all := lw_g (lw_at lw_m1 201 rfl) rfl
theorem q334 : (Jvm.Cond.fieldLink "ForestRooms$Setting" (12 : Nat) "ForestRooms$Setting" "broken" "LForestRooms$Broken;") ∈ lw_all := lw_g (lw_at lw_m1 224 rfl) rfl
theorem q336 : (Jvm.Cond.fieldLink "ForestRooms$Setting" (18 : Nat) "ForestRooms$Setting" "values" "[J") ∈ lw_all := lw_g (lw_at lw_m1 226 rfl) rfl
theorem q339 : (Jvm.Cond.laysFinal "ForestRooms$Setting" "ForestRooms$Setting" "broken" "LForestRooms$Broken;") ∈ lw_all := lw_g (lw_at lw_m1 229 rfl) rfl
theorem q340 : (Jvm.Cond.soleField "ForestRooms$Setting" "broken") ∈ lw_all := lw_g (lw_at lw_m1 230 rfl) rfl
theorem q341 : (Jvm.Cond.laysFinal "ForestRooms$Setting" "ForestRooms$Setting" "values" "[J") ∈ lw_all := lw_g (lw_at lw_m1 231 rfl) rfl
theorem q342 : (Jvm.Cond.soleField "ForestRooms$Setting" "values") ∈ lw_all := lw_g (lw_at lw_m1 232 rfl) rfl
theorem q343 : (Jvm.Cond.superclass "ForestRooms$Setting" "java/lang/Object") ∈ lw_all := lw_g (lw_at lw_m1 233 rfl) rfl
theorem q494 : (Jvm.Cond.selects "ForestRooms$Setting" ({ cls := "java/lang/Object", name := "getClass", desc := "()Ljava/lang/Class;" } : Jvm.MethodName) ({ cls := "java/lang/Object", name := "getClass", desc := "()Ljava/lang/Class;" } : Jvm.MethodName)) ∈ lw_all := lw_g (lw_at lw_m2 144 rfl) rfl
theorem q2245 : (Jvm.Cond.castable "ForestRooms$Setting" "java/lang/Object") ∈ lw_tbl := lw_at lw_m9 215 rfl
theorem in_X3 : ∀ w ∈ wsX30, w ∈ lw_all := lw_in wsX30 [339, 341] (by decide +kernel) (by decide +kernel)
/-! ForestRooms$Broken -/
set_option maxRecDepth 100000
def RX4 : String := "ForestRooms$Broken"
def TX4 : u_T := fun k => match k with
  | 0 => ("java/lang/Throwable", "cause", "Ljava/lang/Throwable;", false)
  | 1 => ("java/lang/Throwable", "stackTrace", "[Ljava/lang/StackTraceElement;", false)
  | 2 => ("java/lang/Throwable", "suppressedExceptions", "Ljava/util/List;", false)
  | 3 => ("java/lang/Throwable", "detailMessage", "Ljava/lang/String;", false)
  | 4 => ("java/lang/Throwable", "backtrace", "Ljava/lang/Object;", false)
  | _ => ("java/lang/Throwable", "depth", "I", false)
def tyX4 : Nat → FieldType := fun k => match k with
  | 0 => .object "java/lang/Throwable"
  | 1 => .array (.object "java/lang/StackTraceElement")
  | 2 => .object "java/util/List"
  | 3 => .object "java/lang/String"
  | 4 => .object "java/lang/Object"
  | _ => .int
abbrev wsX40 : List Cond := u_ws RX4 TX4 6
theorem nmX4 : ∀ a, a < 6 → ∀ b, b < 6 → a ≠ b → (TX4 a).2.1 ≠ (TX4 b).2.1 := by decide +kernel
theorem tyX4_ok : ∀ k, k < 6 → parseFieldDescriptor (TX4 k).2.2.1 = some (tyX4 k) := by decide +kernel
abbrev cX4_init : ByteArray := prog_2_method_1_code
def yX4_init : MethodName := ⟨RX4, "<init>", "()V"⟩
def dkwX4_init_0 : List UInt8 := [42, 1, 1, 3, 3, 183, 0, 1, 177]
abbrev dktX4_init_0 : List UInt8 := dkwX4_init_0 ++ []
theorem dksX4_init_0 : cX4_init.data.toList.drop 0 = dktX4_init_0 := by decide +kernel
theorem dX4_init_0 : decode cX4_init 0 = .ok (.aload_n 0, 1) := dk_42 (dk_at dksX4_init_0 0 rfl rfl)
theorem dX4_init_1 : decode cX4_init 1 = .ok (.aconst_null, 1) := dk_1 (dk_at dksX4_init_0 1 rfl rfl)
theorem dX4_init_2 : decode cX4_init 2 = .ok (.aconst_null, 1) := dk_1 (dk_at dksX4_init_0 2 rfl rfl)
theorem dX4_init_3 : decode cX4_init 3 = .ok (.iconst 0, 1) := dk_3 (dk_at dksX4_init_0 3 rfl rfl)
theorem dX4_init_4 : decode cX4_init 4 = .ok (.iconst 0, 1) := dk_3 (dk_at dksX4_init_0 4 rfl rfl)
theorem dX4_init_5 : decode cX4_init 5 = .ok (.invokespecial 1, 3) := dk_183 0 1 (dk_at dksX4_init_0 5 rfl rfl)
theorem dX4_init_8 : decode cX4_init 8 = .ok (.return_, 1) := dk_177 (dk_at dksX4_init_0 8 rfl rfl)
theorem q120 : (Jvm.Cond.initialized "ForestRooms$Broken") ∈ lw_all := lw_g (lw_at lw_m1 10 rfl) rfl
theorem q274 : (Jvm.Cond.instantiable "ForestRooms$Broken" (6 : Nat)) ∈ lw_all := lw_g (lw_at lw_m1 164 rfl) rfl
theorem q275 : (Jvm.Cond.castable "ForestRooms$Broken" "ForestRooms$Broken") ∈ lw_tbl := lw_at lw_m1 165 rfl
theorem q280 : (Jvm.Cond.selects "ForestRooms$Broken" ({ cls := "java/lang/Throwable", name := "fillInStackTrace", desc := "(I)Ljava/lang/Throwable;" } : Jvm.MethodName) ({ cls := "java/lang/Throwable", name := "fillInStackTrace", desc := "(I)Ljava/lang/Throwable;" } : Jvm.MethodName)) ∈ lw_all := lw_g (lw_at lw_m1 170 rfl) rfl
theorem q281 : (Jvm.Cond.selects "ForestRooms$Broken" ({ cls := "java/lang/Throwable", name := "fillInStackTrace", desc := "()Ljava/lang/Throwable;" } : Jvm.MethodName) ({ cls := "java/lang/Throwable", name := "fillInStackTrace", desc := "()Ljava/lang/Throwable;" } : Jvm.MethodName)) ∈ lw_all := lw_g (lw_at lw_m1 171 rfl) rfl
theorem q282 : (Jvm.Cond.lays "ForestRooms$Broken" "java/lang/Throwable" "cause" "Ljava/lang/Throwable;") ∈ lw_all := lw_g (lw_at lw_m1 172 rfl) rfl
theorem q284 : (Jvm.Cond.lays "ForestRooms$Broken" "java/lang/Throwable" "stackTrace" "[Ljava/lang/StackTraceElement;") ∈ lw_all := lw_g (lw_at lw_m1 174 rfl) rfl
theorem q286 : (Jvm.Cond.lays "ForestRooms$Broken" "java/lang/Throwable" "suppressedExceptions" "Ljava/util/List;") ∈ lw_all := lw_g (lw_at lw_m1 176 rfl) rfl
theorem q288 : (Jvm.Cond.lays "ForestRooms$Broken" "java/lang/Throwable" "detailMessage" "Ljava/lang/String;") ∈ lw_all := lw_g (lw_at lw_m1 178 rfl) rfl
theorem q290 : (Jvm.Cond.lays "ForestRooms$Broken" "java/lang/Throwable" "backtrace" "Ljava/lang/Object;") ∈ lw_all := lw_g (lw_at lw_m1 180 rfl) rfl
theorem q312 : (Jvm.Cond.instanceMethod ({ cls := "ForestRooms$Broken", name := "<init>", desc := "()V" } : Jvm.MethodName)) ∈ lw_all := lw_g (lw_at lw_m1 202 rfl) rfl
theorem q313 : (Jvm.Cond.code ({ cls := "ForestRooms$Broken", name := "<init>", desc := "()V" } : Jvm.MethodName) prog_2_method_1_code (1 : Nat) (Option.none : Option Jvm.ClassFile.FieldType)) ∈ lw_all := lw_g (lw_at lw_m1 203 rfl) rfl
theorem q314 : (Jvm.Cond.methodLink "ForestRooms$Broken" (1 : Nat) ({ cls := "java/lang/Exception", name := "<init>", desc := "(Ljava/lang/String;Ljava/lang/Throwable;ZZ)V" } : Jvm.MethodName)) ∈ lw_all := lw_g (lw_at lw_m1 204 rfl) rfl
theorem q329 : (Jvm.Cond.lays "ForestRooms$Broken" "java/lang/Throwable" "depth" "I") ∈ lw_all := lw_g (lw_at lw_m1 219 rfl) rfl
theorem q332 : (Jvm.Cond.superclass "ForestRooms$Broken" "java/lang/Exception") ∈ lw_all := lw_g (lw_at lw_m1 222 rfl) rfl
theorem q484 : (Jvm.Cond.selects "ForestRooms$Broken" ({ cls := "java/lang/Object", name := "getClass", desc := "()Ljava/lang/Class;" } : Jvm.MethodName) ({ cls := "java/lang/Object", name := "getClass", desc := "()Ljava/lang/Class;" } : Jvm.MethodName)) ∈ lw_all := lw_g (lw_at lw_m2 134 rfl) rfl
theorem q2246 : (Jvm.Cond.castable "ForestRooms$Broken" "java/lang/Object") ∈ lw_tbl := lw_at lw_m9 216 rfl
theorem in_X4 : ∀ w ∈ wsX40, w ∈ lw_all := lw_in wsX40 [282, 284, 286, 288, 290, 329] (by decide +kernel) (by decide +kernel)
/-! ForestRooms$Reader -/
set_option maxRecDepth 100000
def RX6 : String := "ForestRooms$Reader"
abbrev cX6_init : ByteArray := prog_12_method_1_code
def yX6_init : MethodName := ⟨RX6, "<init>", "([BI)V"⟩
def dkwX6_init_0 : List UInt8 := [42, 183, 0, 3, 42, 43, 181, 0, 9, 42, 28, 181, 0, 15, 177]
abbrev dktX6_init_0 : List UInt8 := dkwX6_init_0 ++ []
theorem dksX6_init_0 : cX6_init.data.toList.drop 0 = dktX6_init_0 := by decide +kernel
theorem dX6_init_0 : decode cX6_init 0 = .ok (.aload_n 0, 1) := dk_42 (dk_at dksX6_init_0 0 rfl rfl)
theorem dX6_init_1 : decode cX6_init 1 = .ok (.invokespecial 3, 3) := dk_183 0 3 (dk_at dksX6_init_0 1 rfl rfl)
theorem dX6_init_4 : decode cX6_init 4 = .ok (.aload_n 0, 1) := dk_42 (dk_at dksX6_init_0 4 rfl rfl)
theorem dX6_init_5 : decode cX6_init 5 = .ok (.aload_n 1, 1) := dk_43 (dk_at dksX6_init_0 5 rfl rfl)
theorem dX6_init_6 : decode cX6_init 6 = .ok (.putfield 9, 3) := dk_181 0 9 (dk_at dksX6_init_0 6 rfl rfl)
theorem dX6_init_9 : decode cX6_init 9 = .ok (.aload_n 0, 1) := dk_42 (dk_at dksX6_init_0 9 rfl rfl)
theorem dX6_init_10 : decode cX6_init 10 = .ok (.iload_n 2, 1) := dk_28 (dk_at dksX6_init_0 10 rfl rfl)
theorem dX6_init_11 : decode cX6_init 11 = .ok (.putfield 15, 3) := dk_181 0 15 (dk_at dksX6_init_0 11 rfl rfl)
theorem dX6_init_14 : decode cX6_init 14 = .ok (.return_, 1) := dk_177 (dk_at dksX6_init_0 14 rfl rfl)
abbrev cX6_read : ByteArray := prog_12_method_10_code
def yX6_read : MethodName := ⟨RX6, "read", "()V"⟩
def dkwX6_read_1 : List UInt8 := [42, 180, 0, 22, 42, 180, 0, 15, 162, 0, 15, 187, 0, 49, 89, 42, 180, 0, 22, 183, 0, 51, 191, 177]
abbrev dktX6_read_1 : List UInt8 := dkwX6_read_1 ++ []
def dkwX6_read_0 : List UInt8 := [42, 182, 0, 43, 42, 182, 0, 54, 42, 18, 57, 182, 0, 46, 153, 0, 10, 42, 182, 0, 54, 167, 255, 243]
abbrev dktX6_read_0 : List UInt8 := dkwX6_read_0 ++ dktX6_read_1
theorem dksX6_read_0 : cX6_read.data.toList.drop 0 = dktX6_read_0 := by decide +kernel
theorem dksX6_read_1 : cX6_read.data.toList.drop 24 = dktX6_read_1 := dk_seg dksX6_read_0 24 rfl rfl
theorem dX6_read_0 : decode cX6_read 0 = .ok (.aload_n 0, 1) := dk_42 (dk_at dksX6_read_0 0 rfl rfl)
theorem dX6_read_1 : decode cX6_read 1 = .ok (.invokevirtual 43, 3) := dk_182 0 43 (dk_at dksX6_read_0 1 rfl rfl)
theorem dX6_read_4 : decode cX6_read 4 = .ok (.aload_n 0, 1) := dk_42 (dk_at dksX6_read_0 4 rfl rfl)
theorem dX6_read_5 : decode cX6_read 5 = .ok (.invokevirtual 54, 3) := dk_182 0 54 (dk_at dksX6_read_0 5 rfl rfl)
theorem dX6_read_8 : decode cX6_read 8 = .ok (.aload_n 0, 1) := dk_42 (dk_at dksX6_read_0 8 rfl rfl)
theorem dX6_read_9 : decode cX6_read 9 = .ok (.ldc 57, 2) := dk_18 57 (dk_at dksX6_read_0 9 rfl rfl)
theorem dX6_read_11 : decode cX6_read 11 = .ok (.invokevirtual 46, 3) := dk_182 0 46 (dk_at dksX6_read_0 11 rfl rfl)
theorem dX6_read_14 : decode cX6_read 14 = .ok (.ifCond .eq 10, 3) := dk_153 0 10 (dk_at dksX6_read_0 14 rfl rfl)
theorem dX6_read_17 : decode cX6_read 17 = .ok (.aload_n 0, 1) := dk_42 (dk_at dksX6_read_0 17 rfl rfl)
theorem dX6_read_18 : decode cX6_read 18 = .ok (.invokevirtual 54, 3) := dk_182 0 54 (dk_at dksX6_read_0 18 rfl rfl)
theorem dX6_read_21 : decode cX6_read 21 = .ok (.goto (-13), 3) := dk_167 255 243 (dk_at dksX6_read_0 21 rfl rfl)
theorem dX6_read_24 : decode cX6_read 24 = .ok (.aload_n 0, 1) := dk_42 (dk_at dksX6_read_1 0 rfl rfl)
theorem dX6_read_25 : decode cX6_read 25 = .ok (.getfield 22, 3) := dk_180 0 22 (dk_at dksX6_read_1 1 rfl rfl)
theorem dX6_read_28 : decode cX6_read 28 = .ok (.aload_n 0, 1) := dk_42 (dk_at dksX6_read_1 4 rfl rfl)
theorem dX6_read_29 : decode cX6_read 29 = .ok (.getfield 15, 3) := dk_180 0 15 (dk_at dksX6_read_1 5 rfl rfl)
theorem dX6_read_32 : decode cX6_read 32 = .ok (.if_icmp .ge 15, 3) := dk_162 0 15 (dk_at dksX6_read_1 8 rfl rfl)
theorem dX6_read_35 : decode cX6_read 35 = .ok (.new 49, 3) := dk_187 0 49 (dk_at dksX6_read_1 11 rfl rfl)
theorem dX6_read_38 : decode cX6_read 38 = .ok (.dup, 1) := dk_89 (dk_at dksX6_read_1 14 rfl rfl)
theorem dX6_read_39 : decode cX6_read 39 = .ok (.aload_n 0, 1) := dk_42 (dk_at dksX6_read_1 15 rfl rfl)
theorem dX6_read_40 : decode cX6_read 40 = .ok (.getfield 22, 3) := dk_180 0 22 (dk_at dksX6_read_1 16 rfl rfl)
theorem dX6_read_43 : decode cX6_read 43 = .ok (.invokespecial 51, 3) := dk_183 0 51 (dk_at dksX6_read_1 19 rfl rfl)
theorem dX6_read_46 : decode cX6_read 46 = .ok (.athrow, 1) := dk_191 (dk_at dksX6_read_1 22 rfl rfl)
theorem dX6_read_47 : decode cX6_read 47 = .ok (.return_, 1) := dk_177 (dk_at dksX6_read_1 23 rfl rfl)
abbrev cX6_next : ByteArray := prog_12_method_3_code
def yX6_next : MethodName := ⟨RX6, "next", "()V"⟩
def dkwX6_next_6 : List UInt8 := [162, 0, 13, 42, 89, 180, 0, 19, 4, 96, 181, 0, 19, 177]
abbrev dktX6_next_6 : List UInt8 := dkwX6_next_6 ++ []
def dkwX6_next_5 : List UInt8 := [153, 0, 37, 42, 89, 180, 0, 19, 4, 96, 181, 0, 19, 167, 255, 231, 42, 180, 0, 22, 42, 180, 0, 15]
abbrev dktX6_next_5 : List UInt8 := dkwX6_next_5 ++ dktX6_next_6
def dkwX6_next_4 : List UInt8 := [16, 48, 16, 57, 182, 0, 25, 153, 0, 31, 42, 42, 180, 0, 19, 16, 48, 16, 57, 182, 0, 25]
abbrev dktX6_next_4 : List UInt8 := dkwX6_next_4 ++ dktX6_next_5
def dkwX6_next_3 : List UInt8 := [182, 0, 25, 153, 0, 80, 42, 89, 180, 0, 19, 4, 96, 181, 0, 19, 167, 255, 231, 42, 42, 180, 0, 22]
abbrev dktX6_next_3 : List UInt8 := dkwX6_next_3 ++ dktX6_next_4
def dkwX6_next_2 : List UInt8 := [180, 0, 22, 16, 97, 16, 122, 182, 0, 25, 153, 0, 31, 42, 42, 180, 0, 19, 16, 97, 16, 122]
abbrev dktX6_next_2 : List UInt8 := dkwX6_next_2 ++ dktX6_next_3
def dkwX6_next_1 : List UInt8 := [89, 180, 0, 22, 4, 96, 181, 0, 22, 167, 255, 231, 42, 42, 180, 0, 22, 181, 0, 19, 42, 42]
abbrev dktX6_next_1 : List UInt8 := dkwX6_next_1 ++ dktX6_next_2
def dkwX6_next_0 : List UInt8 := [42, 42, 180, 0, 19, 181, 0, 22, 42, 42, 180, 0, 22, 16, 32, 16, 32, 182, 0, 25, 153, 0, 16, 42]
abbrev dktX6_next_0 : List UInt8 := dkwX6_next_0 ++ dktX6_next_1
theorem dksX6_next_0 : cX6_next.data.toList.drop 0 = dktX6_next_0 := by decide +kernel
theorem dksX6_next_1 : cX6_next.data.toList.drop 24 = dktX6_next_1 := dk_seg dksX6_next_0 24 rfl rfl
theorem dksX6_next_2 : cX6_next.data.toList.drop 46 = dktX6_next_2 := dk_seg dksX6_next_1 22 rfl rfl
theorem dksX6_next_3 : cX6_next.data.toList.drop 68 = dktX6_next_3 := dk_seg dksX6_next_2 22 rfl rfl
theorem dksX6_next_4 : cX6_next.data.toList.drop 92 = dktX6_next_4 := dk_seg dksX6_next_3 24 rfl rfl
theorem dksX6_next_5 : cX6_next.data.toList.drop 114 = dktX6_next_5 := dk_seg dksX6_next_4 22 rfl rfl
theorem dksX6_next_6 : cX6_next.data.toList.drop 138 = dktX6_next_6 := dk_seg dksX6_next_5 24 rfl rfl
theorem dX6_next_0 : decode cX6_next 0 = .ok (.aload_n 0, 1) := dk_42 (dk_at dksX6_next_0 0 rfl rfl)
theorem dX6_next_1 : decode cX6_next 1 = .ok (.aload_n 0, 1) := dk_42 (dk_at dksX6_next_0 1 rfl rfl)
theorem dX6_next_2 : decode cX6_next 2 = .ok (.getfield 19, 3) := dk_180 0 19 (dk_at dksX6_next_0 2 rfl rfl)
theorem dX6_next_5 : decode cX6_next 5 = .ok (.putfield 22, 3) := dk_181 0 22 (dk_at dksX6_next_0 5 rfl rfl)
theorem dX6_next_8 : decode cX6_next 8 = .ok (.aload_n 0, 1) := dk_42 (dk_at dksX6_next_0 8 rfl rfl)
theorem dX6_next_9 : decode cX6_next 9 = .ok (.aload_n 0, 1) := dk_42 (dk_at dksX6_next_0 9 rfl rfl)
theorem dX6_next_10 : decode cX6_next 10 = .ok (.getfield 22, 3) := dk_180 0 22 (dk_at dksX6_next_0 10 rfl rfl)
theorem dX6_next_13 : decode cX6_next 13 = .ok (.bipush 32, 2) := dk_16 32 (dk_at dksX6_next_0 13 rfl rfl)
theorem dX6_next_15 : decode cX6_next 15 = .ok (.bipush 32, 2) := dk_16 32 (dk_at dksX6_next_0 15 rfl rfl)
theorem dX6_next_17 : decode cX6_next 17 = .ok (.invokevirtual 25, 3) := dk_182 0 25 (dk_at dksX6_next_0 17 rfl rfl)
theorem dX6_next_20 : decode cX6_next 20 = .ok (.ifCond .eq 16, 3) := dk_153 0 16 (dk_at dksX6_next_0 20 rfl rfl)
theorem dX6_next_23 : decode cX6_next 23 = .ok (.aload_n 0, 1) := dk_42 (dk_at dksX6_next_0 23 rfl rfl)
theorem dX6_next_24 : decode cX6_next 24 = .ok (.dup, 1) := dk_89 (dk_at dksX6_next_1 0 rfl rfl)
theorem dX6_next_25 : decode cX6_next 25 = .ok (.getfield 22, 3) := dk_180 0 22 (dk_at dksX6_next_1 1 rfl rfl)
theorem dX6_next_28 : decode cX6_next 28 = .ok (.iconst 1, 1) := dk_4 (dk_at dksX6_next_1 4 rfl rfl)
theorem dX6_next_29 : decode cX6_next 29 = .ok (.iadd, 1) := dk_96 (dk_at dksX6_next_1 5 rfl rfl)
theorem dX6_next_30 : decode cX6_next 30 = .ok (.putfield 22, 3) := dk_181 0 22 (dk_at dksX6_next_1 6 rfl rfl)
theorem dX6_next_33 : decode cX6_next 33 = .ok (.goto (-25), 3) := dk_167 255 231 (dk_at dksX6_next_1 9 rfl rfl)
theorem dX6_next_36 : decode cX6_next 36 = .ok (.aload_n 0, 1) := dk_42 (dk_at dksX6_next_1 12 rfl rfl)
theorem dX6_next_37 : decode cX6_next 37 = .ok (.aload_n 0, 1) := dk_42 (dk_at dksX6_next_1 13 rfl rfl)
theorem dX6_next_38 : decode cX6_next 38 = .ok (.getfield 22, 3) := dk_180 0 22 (dk_at dksX6_next_1 14 rfl rfl)
theorem dX6_next_41 : decode cX6_next 41 = .ok (.putfield 19, 3) := dk_181 0 19 (dk_at dksX6_next_1 17 rfl rfl)
theorem dX6_next_44 : decode cX6_next 44 = .ok (.aload_n 0, 1) := dk_42 (dk_at dksX6_next_1 20 rfl rfl)
theorem dX6_next_45 : decode cX6_next 45 = .ok (.aload_n 0, 1) := dk_42 (dk_at dksX6_next_1 21 rfl rfl)
theorem dX6_next_46 : decode cX6_next 46 = .ok (.getfield 22, 3) := dk_180 0 22 (dk_at dksX6_next_2 0 rfl rfl)
theorem dX6_next_49 : decode cX6_next 49 = .ok (.bipush 97, 2) := dk_16 97 (dk_at dksX6_next_2 3 rfl rfl)
theorem dX6_next_51 : decode cX6_next 51 = .ok (.bipush 122, 2) := dk_16 122 (dk_at dksX6_next_2 5 rfl rfl)
theorem dX6_next_53 : decode cX6_next 53 = .ok (.invokevirtual 25, 3) := dk_182 0 25 (dk_at dksX6_next_2 7 rfl rfl)
theorem dX6_next_56 : decode cX6_next 56 = .ok (.ifCond .eq 31, 3) := dk_153 0 31 (dk_at dksX6_next_2 10 rfl rfl)
theorem dX6_next_59 : decode cX6_next 59 = .ok (.aload_n 0, 1) := dk_42 (dk_at dksX6_next_2 13 rfl rfl)
theorem dX6_next_60 : decode cX6_next 60 = .ok (.aload_n 0, 1) := dk_42 (dk_at dksX6_next_2 14 rfl rfl)
theorem dX6_next_61 : decode cX6_next 61 = .ok (.getfield 19, 3) := dk_180 0 19 (dk_at dksX6_next_2 15 rfl rfl)
theorem dX6_next_64 : decode cX6_next 64 = .ok (.bipush 97, 2) := dk_16 97 (dk_at dksX6_next_2 18 rfl rfl)
theorem dX6_next_66 : decode cX6_next 66 = .ok (.bipush 122, 2) := dk_16 122 (dk_at dksX6_next_2 20 rfl rfl)
theorem dX6_next_68 : decode cX6_next 68 = .ok (.invokevirtual 25, 3) := dk_182 0 25 (dk_at dksX6_next_3 0 rfl rfl)
theorem dX6_next_71 : decode cX6_next 71 = .ok (.ifCond .eq 80, 3) := dk_153 0 80 (dk_at dksX6_next_3 3 rfl rfl)
theorem dX6_next_74 : decode cX6_next 74 = .ok (.aload_n 0, 1) := dk_42 (dk_at dksX6_next_3 6 rfl rfl)
theorem dX6_next_75 : decode cX6_next 75 = .ok (.dup, 1) := dk_89 (dk_at dksX6_next_3 7 rfl rfl)
theorem dX6_next_76 : decode cX6_next 76 = .ok (.getfield 19, 3) := dk_180 0 19 (dk_at dksX6_next_3 8 rfl rfl)
theorem dX6_next_79 : decode cX6_next 79 = .ok (.iconst 1, 1) := dk_4 (dk_at dksX6_next_3 11 rfl rfl)
theorem dX6_next_80 : decode cX6_next 80 = .ok (.iadd, 1) := dk_96 (dk_at dksX6_next_3 12 rfl rfl)
theorem dX6_next_81 : decode cX6_next 81 = .ok (.putfield 19, 3) := dk_181 0 19 (dk_at dksX6_next_3 13 rfl rfl)
theorem dX6_next_84 : decode cX6_next 84 = .ok (.goto (-25), 3) := dk_167 255 231 (dk_at dksX6_next_3 16 rfl rfl)
theorem dX6_next_87 : decode cX6_next 87 = .ok (.aload_n 0, 1) := dk_42 (dk_at dksX6_next_3 19 rfl rfl)
theorem dX6_next_88 : decode cX6_next 88 = .ok (.aload_n 0, 1) := dk_42 (dk_at dksX6_next_3 20 rfl rfl)
theorem dX6_next_89 : decode cX6_next 89 = .ok (.getfield 22, 3) := dk_180 0 22 (dk_at dksX6_next_3 21 rfl rfl)
theorem dX6_next_92 : decode cX6_next 92 = .ok (.bipush 48, 2) := dk_16 48 (dk_at dksX6_next_4 0 rfl rfl)
theorem dX6_next_94 : decode cX6_next 94 = .ok (.bipush 57, 2) := dk_16 57 (dk_at dksX6_next_4 2 rfl rfl)
theorem dX6_next_96 : decode cX6_next 96 = .ok (.invokevirtual 25, 3) := dk_182 0 25 (dk_at dksX6_next_4 4 rfl rfl)
theorem dX6_next_99 : decode cX6_next 99 = .ok (.ifCond .eq 31, 3) := dk_153 0 31 (dk_at dksX6_next_4 7 rfl rfl)
theorem dX6_next_102 : decode cX6_next 102 = .ok (.aload_n 0, 1) := dk_42 (dk_at dksX6_next_4 10 rfl rfl)
theorem dX6_next_103 : decode cX6_next 103 = .ok (.aload_n 0, 1) := dk_42 (dk_at dksX6_next_4 11 rfl rfl)
theorem dX6_next_104 : decode cX6_next 104 = .ok (.getfield 19, 3) := dk_180 0 19 (dk_at dksX6_next_4 12 rfl rfl)
theorem dX6_next_107 : decode cX6_next 107 = .ok (.bipush 48, 2) := dk_16 48 (dk_at dksX6_next_4 15 rfl rfl)
theorem dX6_next_109 : decode cX6_next 109 = .ok (.bipush 57, 2) := dk_16 57 (dk_at dksX6_next_4 17 rfl rfl)
theorem dX6_next_111 : decode cX6_next 111 = .ok (.invokevirtual 25, 3) := dk_182 0 25 (dk_at dksX6_next_4 19 rfl rfl)
theorem dX6_next_114 : decode cX6_next 114 = .ok (.ifCond .eq 37, 3) := dk_153 0 37 (dk_at dksX6_next_5 0 rfl rfl)
theorem dX6_next_117 : decode cX6_next 117 = .ok (.aload_n 0, 1) := dk_42 (dk_at dksX6_next_5 3 rfl rfl)
theorem dX6_next_118 : decode cX6_next 118 = .ok (.dup, 1) := dk_89 (dk_at dksX6_next_5 4 rfl rfl)
theorem dX6_next_119 : decode cX6_next 119 = .ok (.getfield 19, 3) := dk_180 0 19 (dk_at dksX6_next_5 5 rfl rfl)
theorem dX6_next_122 : decode cX6_next 122 = .ok (.iconst 1, 1) := dk_4 (dk_at dksX6_next_5 8 rfl rfl)
theorem dX6_next_123 : decode cX6_next 123 = .ok (.iadd, 1) := dk_96 (dk_at dksX6_next_5 9 rfl rfl)
theorem dX6_next_124 : decode cX6_next 124 = .ok (.putfield 19, 3) := dk_181 0 19 (dk_at dksX6_next_5 10 rfl rfl)
theorem dX6_next_127 : decode cX6_next 127 = .ok (.goto (-25), 3) := dk_167 255 231 (dk_at dksX6_next_5 13 rfl rfl)
theorem dX6_next_130 : decode cX6_next 130 = .ok (.aload_n 0, 1) := dk_42 (dk_at dksX6_next_5 16 rfl rfl)
theorem dX6_next_131 : decode cX6_next 131 = .ok (.getfield 22, 3) := dk_180 0 22 (dk_at dksX6_next_5 17 rfl rfl)
theorem dX6_next_134 : decode cX6_next 134 = .ok (.aload_n 0, 1) := dk_42 (dk_at dksX6_next_5 20 rfl rfl)
theorem dX6_next_135 : decode cX6_next 135 = .ok (.getfield 15, 3) := dk_180 0 15 (dk_at dksX6_next_5 21 rfl rfl)
theorem dX6_next_138 : decode cX6_next 138 = .ok (.if_icmp .ge 13, 3) := dk_162 0 13 (dk_at dksX6_next_6 0 rfl rfl)
theorem dX6_next_141 : decode cX6_next 141 = .ok (.aload_n 0, 1) := dk_42 (dk_at dksX6_next_6 3 rfl rfl)
theorem dX6_next_142 : decode cX6_next 142 = .ok (.dup, 1) := dk_89 (dk_at dksX6_next_6 4 rfl rfl)
theorem dX6_next_143 : decode cX6_next 143 = .ok (.getfield 19, 3) := dk_180 0 19 (dk_at dksX6_next_6 5 rfl rfl)
theorem dX6_next_146 : decode cX6_next 146 = .ok (.iconst 1, 1) := dk_4 (dk_at dksX6_next_6 8 rfl rfl)
theorem dX6_next_147 : decode cX6_next 147 = .ok (.iadd, 1) := dk_96 (dk_at dksX6_next_6 9 rfl rfl)
theorem dX6_next_148 : decode cX6_next 148 = .ok (.putfield 19, 3) := dk_181 0 19 (dk_at dksX6_next_6 10 rfl rfl)
theorem dX6_next_151 : decode cX6_next 151 = .ok (.return_, 1) := dk_177 (dk_at dksX6_next_6 13 rfl rfl)
abbrev cX6_isIn : ByteArray := prog_12_method_2_code
def yX6_isIn : MethodName := ⟨RX6, "isIn", "(III)Z"⟩
def dkwX6_isIn_1 : List UInt8 := [29, 163, 0, 7, 4, 167, 0, 4, 3, 172]
abbrev dktX6_isIn_1 : List UInt8 := dkwX6_isIn_1 ++ []
def dkwX6_isIn_0 : List UInt8 := [27, 42, 180, 0, 15, 162, 0, 27, 42, 180, 0, 9, 27, 51, 28, 161, 0, 17, 42, 180, 0, 9, 27, 51]
abbrev dktX6_isIn_0 : List UInt8 := dkwX6_isIn_0 ++ dktX6_isIn_1
theorem dksX6_isIn_0 : cX6_isIn.data.toList.drop 0 = dktX6_isIn_0 := by decide +kernel
theorem dksX6_isIn_1 : cX6_isIn.data.toList.drop 24 = dktX6_isIn_1 := dk_seg dksX6_isIn_0 24 rfl rfl
theorem dX6_isIn_0 : decode cX6_isIn 0 = .ok (.iload_n 1, 1) := dk_27 (dk_at dksX6_isIn_0 0 rfl rfl)
theorem dX6_isIn_1 : decode cX6_isIn 1 = .ok (.aload_n 0, 1) := dk_42 (dk_at dksX6_isIn_0 1 rfl rfl)
theorem dX6_isIn_2 : decode cX6_isIn 2 = .ok (.getfield 15, 3) := dk_180 0 15 (dk_at dksX6_isIn_0 2 rfl rfl)
theorem dX6_isIn_5 : decode cX6_isIn 5 = .ok (.if_icmp .ge 27, 3) := dk_162 0 27 (dk_at dksX6_isIn_0 5 rfl rfl)
theorem dX6_isIn_8 : decode cX6_isIn 8 = .ok (.aload_n 0, 1) := dk_42 (dk_at dksX6_isIn_0 8 rfl rfl)
theorem dX6_isIn_9 : decode cX6_isIn 9 = .ok (.getfield 9, 3) := dk_180 0 9 (dk_at dksX6_isIn_0 9 rfl rfl)
theorem dX6_isIn_12 : decode cX6_isIn 12 = .ok (.iload_n 1, 1) := dk_27 (dk_at dksX6_isIn_0 12 rfl rfl)
theorem dX6_isIn_13 : decode cX6_isIn 13 = .ok (.baload, 1) := dk_51 (dk_at dksX6_isIn_0 13 rfl rfl)
theorem dX6_isIn_14 : decode cX6_isIn 14 = .ok (.iload_n 2, 1) := dk_28 (dk_at dksX6_isIn_0 14 rfl rfl)
theorem dX6_isIn_15 : decode cX6_isIn 15 = .ok (.if_icmp .lt 17, 3) := dk_161 0 17 (dk_at dksX6_isIn_0 15 rfl rfl)
theorem dX6_isIn_18 : decode cX6_isIn 18 = .ok (.aload_n 0, 1) := dk_42 (dk_at dksX6_isIn_0 18 rfl rfl)
theorem dX6_isIn_19 : decode cX6_isIn 19 = .ok (.getfield 9, 3) := dk_180 0 9 (dk_at dksX6_isIn_0 19 rfl rfl)
theorem dX6_isIn_22 : decode cX6_isIn 22 = .ok (.iload_n 1, 1) := dk_27 (dk_at dksX6_isIn_0 22 rfl rfl)
theorem dX6_isIn_23 : decode cX6_isIn 23 = .ok (.baload, 1) := dk_51 (dk_at dksX6_isIn_0 23 rfl rfl)
theorem dX6_isIn_24 : decode cX6_isIn 24 = .ok (.iload_n 3, 1) := dk_29 (dk_at dksX6_isIn_1 0 rfl rfl)
theorem dX6_isIn_25 : decode cX6_isIn 25 = .ok (.if_icmp .gt 7, 3) := dk_163 0 7 (dk_at dksX6_isIn_1 1 rfl rfl)
theorem dX6_isIn_28 : decode cX6_isIn 28 = .ok (.iconst 1, 1) := dk_4 (dk_at dksX6_isIn_1 4 rfl rfl)
theorem dX6_isIn_29 : decode cX6_isIn 29 = .ok (.goto 4, 3) := dk_167 0 4 (dk_at dksX6_isIn_1 5 rfl rfl)
theorem dX6_isIn_32 : decode cX6_isIn 32 = .ok (.iconst 0, 1) := dk_3 (dk_at dksX6_isIn_1 8 rfl rfl)
theorem dX6_isIn_33 : decode cX6_isIn 33 = .ok (.ireturn, 1) := dk_172 (dk_at dksX6_isIn_1 9 rfl rfl)
abbrev cX6_is : ByteArray := prog_12_method_4_code
def yX6_is : MethodName := ⟨RX6, "is", "(Ljava/lang/String;)Z"⟩
def dkwX6_is_2 : List UInt8 := [159, 0, 5, 3, 172, 132, 2, 1, 167, 255, 224, 4, 172]
abbrev dktX6_is_2 : List UInt8 := dkwX6_is_2 ++ []
def dkwX6_is_1 : List UInt8 := [182, 0, 29, 162, 0, 30, 42, 180, 0, 9, 42, 180, 0, 22, 28, 96, 51, 43, 28, 182, 0, 35]
abbrev dktX6_is_1 : List UInt8 := dkwX6_is_1 ++ dktX6_is_2
def dkwX6_is_0 : List UInt8 := [42, 180, 0, 19, 42, 180, 0, 22, 100, 43, 182, 0, 29, 159, 0, 5, 3, 172, 3, 61, 28, 43]
abbrev dktX6_is_0 : List UInt8 := dkwX6_is_0 ++ dktX6_is_1
theorem dksX6_is_0 : cX6_is.data.toList.drop 0 = dktX6_is_0 := by decide +kernel
theorem dksX6_is_1 : cX6_is.data.toList.drop 22 = dktX6_is_1 := dk_seg dksX6_is_0 22 rfl rfl
theorem dksX6_is_2 : cX6_is.data.toList.drop 44 = dktX6_is_2 := dk_seg dksX6_is_1 22 rfl rfl
theorem dX6_is_0 : decode cX6_is 0 = .ok (.aload_n 0, 1) := dk_42 (dk_at dksX6_is_0 0 rfl rfl)
theorem dX6_is_1 : decode cX6_is 1 = .ok (.getfield 19, 3) := dk_180 0 19 (dk_at dksX6_is_0 1 rfl rfl)
theorem dX6_is_4 : decode cX6_is 4 = .ok (.aload_n 0, 1) := dk_42 (dk_at dksX6_is_0 4 rfl rfl)
theorem dX6_is_5 : decode cX6_is 5 = .ok (.getfield 22, 3) := dk_180 0 22 (dk_at dksX6_is_0 5 rfl rfl)
theorem dX6_is_8 : decode cX6_is 8 = .ok (.isub, 1) := dk_100 (dk_at dksX6_is_0 8 rfl rfl)
theorem dX6_is_9 : decode cX6_is 9 = .ok (.aload_n 1, 1) := dk_43 (dk_at dksX6_is_0 9 rfl rfl)
theorem dX6_is_10 : decode cX6_is 10 = .ok (.invokevirtual 29, 3) := dk_182 0 29 (dk_at dksX6_is_0 10 rfl rfl)
theorem dX6_is_13 : decode cX6_is 13 = .ok (.if_icmp .eq 5, 3) := dk_159 0 5 (dk_at dksX6_is_0 13 rfl rfl)
theorem dX6_is_16 : decode cX6_is 16 = .ok (.iconst 0, 1) := dk_3 (dk_at dksX6_is_0 16 rfl rfl)
theorem dX6_is_17 : decode cX6_is 17 = .ok (.ireturn, 1) := dk_172 (dk_at dksX6_is_0 17 rfl rfl)
theorem dX6_is_18 : decode cX6_is 18 = .ok (.iconst 0, 1) := dk_3 (dk_at dksX6_is_0 18 rfl rfl)
theorem dX6_is_19 : decode cX6_is 19 = .ok (.istore_n 2, 1) := dk_61 (dk_at dksX6_is_0 19 rfl rfl)
theorem dX6_is_20 : decode cX6_is 20 = .ok (.iload_n 2, 1) := dk_28 (dk_at dksX6_is_0 20 rfl rfl)
theorem dX6_is_21 : decode cX6_is 21 = .ok (.aload_n 1, 1) := dk_43 (dk_at dksX6_is_0 21 rfl rfl)
theorem dX6_is_22 : decode cX6_is 22 = .ok (.invokevirtual 29, 3) := dk_182 0 29 (dk_at dksX6_is_1 0 rfl rfl)
theorem dX6_is_25 : decode cX6_is 25 = .ok (.if_icmp .ge 30, 3) := dk_162 0 30 (dk_at dksX6_is_1 3 rfl rfl)
theorem dX6_is_28 : decode cX6_is 28 = .ok (.aload_n 0, 1) := dk_42 (dk_at dksX6_is_1 6 rfl rfl)
theorem dX6_is_29 : decode cX6_is 29 = .ok (.getfield 9, 3) := dk_180 0 9 (dk_at dksX6_is_1 7 rfl rfl)
theorem dX6_is_32 : decode cX6_is 32 = .ok (.aload_n 0, 1) := dk_42 (dk_at dksX6_is_1 10 rfl rfl)
theorem dX6_is_33 : decode cX6_is 33 = .ok (.getfield 22, 3) := dk_180 0 22 (dk_at dksX6_is_1 11 rfl rfl)
theorem dX6_is_36 : decode cX6_is 36 = .ok (.iload_n 2, 1) := dk_28 (dk_at dksX6_is_1 14 rfl rfl)
theorem dX6_is_37 : decode cX6_is 37 = .ok (.iadd, 1) := dk_96 (dk_at dksX6_is_1 15 rfl rfl)
theorem dX6_is_38 : decode cX6_is 38 = .ok (.baload, 1) := dk_51 (dk_at dksX6_is_1 16 rfl rfl)
theorem dX6_is_39 : decode cX6_is 39 = .ok (.aload_n 1, 1) := dk_43 (dk_at dksX6_is_1 17 rfl rfl)
theorem dX6_is_40 : decode cX6_is 40 = .ok (.iload_n 2, 1) := dk_28 (dk_at dksX6_is_1 18 rfl rfl)
theorem dX6_is_41 : decode cX6_is 41 = .ok (.invokevirtual 35, 3) := dk_182 0 35 (dk_at dksX6_is_1 19 rfl rfl)
theorem dX6_is_44 : decode cX6_is 44 = .ok (.if_icmp .eq 5, 3) := dk_159 0 5 (dk_at dksX6_is_2 0 rfl rfl)
theorem dX6_is_47 : decode cX6_is 47 = .ok (.iconst 0, 1) := dk_3 (dk_at dksX6_is_2 3 rfl rfl)
theorem dX6_is_48 : decode cX6_is 48 = .ok (.ireturn, 1) := dk_172 (dk_at dksX6_is_2 4 rfl rfl)
theorem dX6_is_49 : decode cX6_is 49 = .ok (.iinc 2 1, 3) := dk_132 2 1 (dk_at dksX6_is_2 5 rfl rfl)
theorem dX6_is_52 : decode cX6_is 52 = .ok (.goto (-32), 3) := dk_167 255 224 (dk_at dksX6_is_2 8 rfl rfl)
theorem dX6_is_55 : decode cX6_is 55 = .ok (.iconst 1, 1) := dk_4 (dk_at dksX6_is_2 11 rfl rfl)
theorem dX6_is_56 : decode cX6_is 56 = .ok (.ireturn, 1) := dk_172 (dk_at dksX6_is_2 12 rfl rfl)
abbrev cX6_begins : ByteArray := prog_12_method_11_code
def yX6_begins : MethodName := ⟨RX6, "begins", "(Z)V"⟩
def dkwX6_begins_1 : List UInt8 := [191, 42, 89, 180, 0, 59, 4, 96, 181, 0, 59, 177]
abbrev dktX6_begins_1 : List UInt8 := dkwX6_begins_1 ++ []
def dkwX6_begins_0 : List UInt8 := [42, 180, 0, 59, 16, 12, 159, 0, 7, 27, 154, 0, 15, 187, 0, 49, 89, 42, 180, 0, 22, 183, 0, 51]
abbrev dktX6_begins_0 : List UInt8 := dkwX6_begins_0 ++ dktX6_begins_1
theorem dksX6_begins_0 : cX6_begins.data.toList.drop 0 = dktX6_begins_0 := by decide +kernel
theorem dksX6_begins_1 : cX6_begins.data.toList.drop 24 = dktX6_begins_1 := dk_seg dksX6_begins_0 24 rfl rfl
theorem dX6_begins_0 : decode cX6_begins 0 = .ok (.aload_n 0, 1) := dk_42 (dk_at dksX6_begins_0 0 rfl rfl)
theorem dX6_begins_1 : decode cX6_begins 1 = .ok (.getfield 59, 3) := dk_180 0 59 (dk_at dksX6_begins_0 1 rfl rfl)
theorem dX6_begins_4 : decode cX6_begins 4 = .ok (.bipush 12, 2) := dk_16 12 (dk_at dksX6_begins_0 4 rfl rfl)
theorem dX6_begins_6 : decode cX6_begins 6 = .ok (.if_icmp .eq 7, 3) := dk_159 0 7 (dk_at dksX6_begins_0 6 rfl rfl)
theorem dX6_begins_9 : decode cX6_begins 9 = .ok (.iload_n 1, 1) := dk_27 (dk_at dksX6_begins_0 9 rfl rfl)
theorem dX6_begins_10 : decode cX6_begins 10 = .ok (.ifCond .ne 15, 3) := dk_154 0 15 (dk_at dksX6_begins_0 10 rfl rfl)
theorem dX6_begins_13 : decode cX6_begins 13 = .ok (.new 49, 3) := dk_187 0 49 (dk_at dksX6_begins_0 13 rfl rfl)
theorem dX6_begins_16 : decode cX6_begins 16 = .ok (.dup, 1) := dk_89 (dk_at dksX6_begins_0 16 rfl rfl)
theorem dX6_begins_17 : decode cX6_begins 17 = .ok (.aload_n 0, 1) := dk_42 (dk_at dksX6_begins_0 17 rfl rfl)
theorem dX6_begins_18 : decode cX6_begins 18 = .ok (.getfield 22, 3) := dk_180 0 22 (dk_at dksX6_begins_0 18 rfl rfl)
theorem dX6_begins_21 : decode cX6_begins 21 = .ok (.invokespecial 51, 3) := dk_183 0 51 (dk_at dksX6_begins_0 21 rfl rfl)
theorem dX6_begins_24 : decode cX6_begins 24 = .ok (.athrow, 1) := dk_191 (dk_at dksX6_begins_1 0 rfl rfl)
theorem dX6_begins_25 : decode cX6_begins 25 = .ok (.aload_n 0, 1) := dk_42 (dk_at dksX6_begins_1 1 rfl rfl)
theorem dX6_begins_26 : decode cX6_begins 26 = .ok (.dup, 1) := dk_89 (dk_at dksX6_begins_1 2 rfl rfl)
theorem dX6_begins_27 : decode cX6_begins 27 = .ok (.getfield 59, 3) := dk_180 0 59 (dk_at dksX6_begins_1 3 rfl rfl)
theorem dX6_begins_30 : decode cX6_begins 30 = .ok (.iconst 1, 1) := dk_4 (dk_at dksX6_begins_1 6 rfl rfl)
theorem dX6_begins_31 : decode cX6_begins 31 = .ok (.iadd, 1) := dk_96 (dk_at dksX6_begins_1 7 rfl rfl)
theorem dX6_begins_32 : decode cX6_begins 32 = .ok (.putfield 59, 3) := dk_181 0 59 (dk_at dksX6_begins_1 8 rfl rfl)
theorem dX6_begins_35 : decode cX6_begins 35 = .ok (.return_, 1) := dk_177 (dk_at dksX6_begins_1 11 rfl rfl)
abbrev cX6_sum : ByteArray := prog_12_method_17_code
def yX6_sum : MethodName := ⟨RX6, "sum", "()LForestRooms$Sum;"⟩
def dkwX6_sum_2 : List UInt8 := [183, 0, 139, 76, 167, 255, 209, 43, 176]
abbrev dktX6_sum_2 : List UInt8 := dkwX6_sum_2 ++ []
def dkwX6_sum_1 : List UInt8 := [180, 0, 9, 42, 180, 0, 22, 51, 146, 61, 42, 182, 0, 43, 187, 0, 137, 89, 28, 43, 42, 182, 0, 130]
abbrev dktX6_sum_1 : List UInt8 := dkwX6_sum_1 ++ dktX6_sum_2
def dkwX6_sum_0 : List UInt8 := [42, 182, 0, 130, 76, 42, 18, 133, 182, 0, 39, 154, 0, 12, 42, 18, 135, 182, 0, 39, 153, 0, 35, 42]
abbrev dktX6_sum_0 : List UInt8 := dkwX6_sum_0 ++ dktX6_sum_1
theorem dksX6_sum_0 : cX6_sum.data.toList.drop 0 = dktX6_sum_0 := by decide +kernel
theorem dksX6_sum_1 : cX6_sum.data.toList.drop 24 = dktX6_sum_1 := dk_seg dksX6_sum_0 24 rfl rfl
theorem dksX6_sum_2 : cX6_sum.data.toList.drop 48 = dktX6_sum_2 := dk_seg dksX6_sum_1 24 rfl rfl
theorem dX6_sum_0 : decode cX6_sum 0 = .ok (.aload_n 0, 1) := dk_42 (dk_at dksX6_sum_0 0 rfl rfl)
theorem dX6_sum_1 : decode cX6_sum 1 = .ok (.invokevirtual 130, 3) := dk_182 0 130 (dk_at dksX6_sum_0 1 rfl rfl)
theorem dX6_sum_4 : decode cX6_sum 4 = .ok (.astore_n 1, 1) := dk_76 (dk_at dksX6_sum_0 4 rfl rfl)
theorem dX6_sum_5 : decode cX6_sum 5 = .ok (.aload_n 0, 1) := dk_42 (dk_at dksX6_sum_0 5 rfl rfl)
theorem dX6_sum_6 : decode cX6_sum 6 = .ok (.ldc 133, 2) := dk_18 133 (dk_at dksX6_sum_0 6 rfl rfl)
theorem dX6_sum_8 : decode cX6_sum 8 = .ok (.invokevirtual 39, 3) := dk_182 0 39 (dk_at dksX6_sum_0 8 rfl rfl)
theorem dX6_sum_11 : decode cX6_sum 11 = .ok (.ifCond .ne 12, 3) := dk_154 0 12 (dk_at dksX6_sum_0 11 rfl rfl)
theorem dX6_sum_14 : decode cX6_sum 14 = .ok (.aload_n 0, 1) := dk_42 (dk_at dksX6_sum_0 14 rfl rfl)
theorem dX6_sum_15 : decode cX6_sum 15 = .ok (.ldc 135, 2) := dk_18 135 (dk_at dksX6_sum_0 15 rfl rfl)
theorem dX6_sum_17 : decode cX6_sum 17 = .ok (.invokevirtual 39, 3) := dk_182 0 39 (dk_at dksX6_sum_0 17 rfl rfl)
theorem dX6_sum_20 : decode cX6_sum 20 = .ok (.ifCond .eq 35, 3) := dk_153 0 35 (dk_at dksX6_sum_0 20 rfl rfl)
theorem dX6_sum_23 : decode cX6_sum 23 = .ok (.aload_n 0, 1) := dk_42 (dk_at dksX6_sum_0 23 rfl rfl)
theorem dX6_sum_24 : decode cX6_sum 24 = .ok (.getfield 9, 3) := dk_180 0 9 (dk_at dksX6_sum_1 0 rfl rfl)
theorem dX6_sum_27 : decode cX6_sum 27 = .ok (.aload_n 0, 1) := dk_42 (dk_at dksX6_sum_1 3 rfl rfl)
theorem dX6_sum_28 : decode cX6_sum 28 = .ok (.getfield 22, 3) := dk_180 0 22 (dk_at dksX6_sum_1 4 rfl rfl)
theorem dX6_sum_31 : decode cX6_sum 31 = .ok (.baload, 1) := dk_51 (dk_at dksX6_sum_1 7 rfl rfl)
theorem dX6_sum_32 : decode cX6_sum 32 = .ok (.i2c, 1) := dk_146 (dk_at dksX6_sum_1 8 rfl rfl)
theorem dX6_sum_33 : decode cX6_sum 33 = .ok (.istore_n 2, 1) := dk_61 (dk_at dksX6_sum_1 9 rfl rfl)
theorem dX6_sum_34 : decode cX6_sum 34 = .ok (.aload_n 0, 1) := dk_42 (dk_at dksX6_sum_1 10 rfl rfl)
theorem dX6_sum_35 : decode cX6_sum 35 = .ok (.invokevirtual 43, 3) := dk_182 0 43 (dk_at dksX6_sum_1 11 rfl rfl)
theorem dX6_sum_38 : decode cX6_sum 38 = .ok (.new 137, 3) := dk_187 0 137 (dk_at dksX6_sum_1 14 rfl rfl)
theorem dX6_sum_41 : decode cX6_sum 41 = .ok (.dup, 1) := dk_89 (dk_at dksX6_sum_1 17 rfl rfl)
theorem dX6_sum_42 : decode cX6_sum 42 = .ok (.iload_n 2, 1) := dk_28 (dk_at dksX6_sum_1 18 rfl rfl)
theorem dX6_sum_43 : decode cX6_sum 43 = .ok (.aload_n 1, 1) := dk_43 (dk_at dksX6_sum_1 19 rfl rfl)
theorem dX6_sum_44 : decode cX6_sum 44 = .ok (.aload_n 0, 1) := dk_42 (dk_at dksX6_sum_1 20 rfl rfl)
theorem dX6_sum_45 : decode cX6_sum 45 = .ok (.invokevirtual 130, 3) := dk_182 0 130 (dk_at dksX6_sum_1 21 rfl rfl)
theorem dX6_sum_48 : decode cX6_sum 48 = .ok (.invokespecial 139, 3) := dk_183 0 139 (dk_at dksX6_sum_2 0 rfl rfl)
theorem dX6_sum_51 : decode cX6_sum 51 = .ok (.astore_n 1, 1) := dk_76 (dk_at dksX6_sum_2 3 rfl rfl)
theorem dX6_sum_52 : decode cX6_sum 52 = .ok (.goto (-47), 3) := dk_167 255 209 (dk_at dksX6_sum_2 4 rfl rfl)
theorem dX6_sum_55 : decode cX6_sum 55 = .ok (.aload_n 1, 1) := dk_43 (dk_at dksX6_sum_2 7 rfl rfl)
theorem dX6_sum_56 : decode cX6_sum 56 = .ok (.areturn, 1) := dk_176 (dk_at dksX6_sum_2 8 rfl rfl)
abbrev cX6_term : ByteArray := prog_12_method_18_code
def yX6_term : MethodName := ⟨RX6, "term", "()LForestRooms$Sum;"⟩
def dkwX6_term_2 : List UInt8 := [187, 0, 137, 89, 28, 43, 42, 182, 0, 140, 183, 0, 139, 76, 167, 255, 200, 43, 176]
abbrev dktX6_term_2 : List UInt8 := dkwX6_term_2 ++ []
def dkwX6_term_1 : List UInt8 := [18, 147, 182, 0, 39, 153, 0, 35, 42, 180, 0, 9, 42, 180, 0, 22, 51, 146, 61, 42, 182, 0, 43]
abbrev dktX6_term_1 : List UInt8 := dkwX6_term_1 ++ dktX6_term_2
def dkwX6_term_0 : List UInt8 := [42, 182, 0, 140, 76, 42, 18, 143, 182, 0, 39, 154, 0, 21, 42, 18, 145, 182, 0, 39, 154, 0, 12, 42]
abbrev dktX6_term_0 : List UInt8 := dkwX6_term_0 ++ dktX6_term_1
theorem dksX6_term_0 : cX6_term.data.toList.drop 0 = dktX6_term_0 := by decide +kernel
theorem dksX6_term_1 : cX6_term.data.toList.drop 24 = dktX6_term_1 := dk_seg dksX6_term_0 24 rfl rfl
theorem dksX6_term_2 : cX6_term.data.toList.drop 47 = dktX6_term_2 := dk_seg dksX6_term_1 23 rfl rfl
theorem dX6_term_0 : decode cX6_term 0 = .ok (.aload_n 0, 1) := dk_42 (dk_at dksX6_term_0 0 rfl rfl)
theorem dX6_term_1 : decode cX6_term 1 = .ok (.invokevirtual 140, 3) := dk_182 0 140 (dk_at dksX6_term_0 1 rfl rfl)
theorem dX6_term_4 : decode cX6_term 4 = .ok (.astore_n 1, 1) := dk_76 (dk_at dksX6_term_0 4 rfl rfl)
theorem dX6_term_5 : decode cX6_term 5 = .ok (.aload_n 0, 1) := dk_42 (dk_at dksX6_term_0 5 rfl rfl)
theorem dX6_term_6 : decode cX6_term 6 = .ok (.ldc 143, 2) := dk_18 143 (dk_at dksX6_term_0 6 rfl rfl)
theorem dX6_term_8 : decode cX6_term 8 = .ok (.invokevirtual 39, 3) := dk_182 0 39 (dk_at dksX6_term_0 8 rfl rfl)
theorem dX6_term_11 : decode cX6_term 11 = .ok (.ifCond .ne 21, 3) := dk_154 0 21 (dk_at dksX6_term_0 11 rfl rfl)
theorem dX6_term_14 : decode cX6_term 14 = .ok (.aload_n 0, 1) := dk_42 (dk_at dksX6_term_0 14 rfl rfl)
theorem dX6_term_15 : decode cX6_term 15 = .ok (.ldc 145, 2) := dk_18 145 (dk_at dksX6_term_0 15 rfl rfl)
theorem dX6_term_17 : decode cX6_term 17 = .ok (.invokevirtual 39, 3) := dk_182 0 39 (dk_at dksX6_term_0 17 rfl rfl)
theorem dX6_term_20 : decode cX6_term 20 = .ok (.ifCond .ne 12, 3) := dk_154 0 12 (dk_at dksX6_term_0 20 rfl rfl)
theorem dX6_term_23 : decode cX6_term 23 = .ok (.aload_n 0, 1) := dk_42 (dk_at dksX6_term_0 23 rfl rfl)
theorem dX6_term_24 : decode cX6_term 24 = .ok (.ldc 147, 2) := dk_18 147 (dk_at dksX6_term_1 0 rfl rfl)
theorem dX6_term_26 : decode cX6_term 26 = .ok (.invokevirtual 39, 3) := dk_182 0 39 (dk_at dksX6_term_1 2 rfl rfl)
theorem dX6_term_29 : decode cX6_term 29 = .ok (.ifCond .eq 35, 3) := dk_153 0 35 (dk_at dksX6_term_1 5 rfl rfl)
theorem dX6_term_32 : decode cX6_term 32 = .ok (.aload_n 0, 1) := dk_42 (dk_at dksX6_term_1 8 rfl rfl)
theorem dX6_term_33 : decode cX6_term 33 = .ok (.getfield 9, 3) := dk_180 0 9 (dk_at dksX6_term_1 9 rfl rfl)
theorem dX6_term_36 : decode cX6_term 36 = .ok (.aload_n 0, 1) := dk_42 (dk_at dksX6_term_1 12 rfl rfl)
theorem dX6_term_37 : decode cX6_term 37 = .ok (.getfield 22, 3) := dk_180 0 22 (dk_at dksX6_term_1 13 rfl rfl)
theorem dX6_term_40 : decode cX6_term 40 = .ok (.baload, 1) := dk_51 (dk_at dksX6_term_1 16 rfl rfl)
theorem dX6_term_41 : decode cX6_term 41 = .ok (.i2c, 1) := dk_146 (dk_at dksX6_term_1 17 rfl rfl)
theorem dX6_term_42 : decode cX6_term 42 = .ok (.istore_n 2, 1) := dk_61 (dk_at dksX6_term_1 18 rfl rfl)
theorem dX6_term_43 : decode cX6_term 43 = .ok (.aload_n 0, 1) := dk_42 (dk_at dksX6_term_1 19 rfl rfl)
theorem dX6_term_44 : decode cX6_term 44 = .ok (.invokevirtual 43, 3) := dk_182 0 43 (dk_at dksX6_term_1 20 rfl rfl)
theorem dX6_term_47 : decode cX6_term 47 = .ok (.new 137, 3) := dk_187 0 137 (dk_at dksX6_term_2 0 rfl rfl)
theorem dX6_term_50 : decode cX6_term 50 = .ok (.dup, 1) := dk_89 (dk_at dksX6_term_2 3 rfl rfl)
theorem dX6_term_51 : decode cX6_term 51 = .ok (.iload_n 2, 1) := dk_28 (dk_at dksX6_term_2 4 rfl rfl)
theorem dX6_term_52 : decode cX6_term 52 = .ok (.aload_n 1, 1) := dk_43 (dk_at dksX6_term_2 5 rfl rfl)
theorem dX6_term_53 : decode cX6_term 53 = .ok (.aload_n 0, 1) := dk_42 (dk_at dksX6_term_2 6 rfl rfl)
theorem dX6_term_54 : decode cX6_term 54 = .ok (.invokevirtual 140, 3) := dk_182 0 140 (dk_at dksX6_term_2 7 rfl rfl)
theorem dX6_term_57 : decode cX6_term 57 = .ok (.invokespecial 139, 3) := dk_183 0 139 (dk_at dksX6_term_2 10 rfl rfl)
theorem dX6_term_60 : decode cX6_term 60 = .ok (.astore_n 1, 1) := dk_76 (dk_at dksX6_term_2 13 rfl rfl)
theorem dX6_term_61 : decode cX6_term 61 = .ok (.goto (-56), 3) := dk_167 255 200 (dk_at dksX6_term_2 14 rfl rfl)
theorem dX6_term_64 : decode cX6_term 64 = .ok (.aload_n 1, 1) := dk_43 (dk_at dksX6_term_2 17 rfl rfl)
theorem dX6_term_65 : decode cX6_term 65 = .ok (.areturn, 1) := dk_176 (dk_at dksX6_term_2 18 rfl rfl)
abbrev cX6_part : ByteArray := prog_12_method_20_code
def yX6_part : MethodName := ⟨RX6, "part", "()LForestRooms$Sum;"⟩
def dkwX6_part_4 : List UInt8 := [89, 27, 183, 0, 171, 176]
abbrev dktX6_part_4 : List UInt8 := dkwX6_part_4 ++ []
def dkwX6_part_3 : List UInt8 := [182, 0, 166, 60, 27, 2, 160, 0, 15, 187, 0, 49, 89, 42, 180, 0, 22, 183, 0, 51, 191, 187, 0, 169]
abbrev dktX6_part_3 : List UInt8 := dkwX6_part_3 ++ dktX6_part_4
def dkwX6_part_2 : List UInt8 := [153, 0, 23, 42, 182, 0, 156, 187, 0, 159, 89, 42, 3, 17, 3, 232, 182, 0, 161, 183, 0, 165, 176, 42]
abbrev dktX6_part_2 : List UInt8 := dkwX6_part_2 ++ dktX6_part_3
def dkwX6_part_1 : List UInt8 := [42, 89, 180, 0, 88, 4, 100, 181, 0, 88, 43, 176, 42, 42, 180, 0, 22, 16, 48, 16, 57, 182, 0, 25]
abbrev dktX6_part_1 : List UInt8 := dkwX6_part_1 ++ dktX6_part_2
def dkwX6_part_0 : List UInt8 := [42, 18, 152, 182, 0, 39, 153, 0, 30, 42, 182, 0, 103, 42, 182, 0, 115, 76, 42, 18, 154, 182, 0, 111]
abbrev dktX6_part_0 : List UInt8 := dkwX6_part_0 ++ dktX6_part_1
theorem dksX6_part_0 : cX6_part.data.toList.drop 0 = dktX6_part_0 := by decide +kernel
theorem dksX6_part_1 : cX6_part.data.toList.drop 24 = dktX6_part_1 := dk_seg dksX6_part_0 24 rfl rfl
theorem dksX6_part_2 : cX6_part.data.toList.drop 48 = dktX6_part_2 := dk_seg dksX6_part_1 24 rfl rfl
theorem dksX6_part_3 : cX6_part.data.toList.drop 72 = dktX6_part_3 := dk_seg dksX6_part_2 24 rfl rfl
theorem dksX6_part_4 : cX6_part.data.toList.drop 96 = dktX6_part_4 := dk_seg dksX6_part_3 24 rfl rfl
theorem dX6_part_0 : decode cX6_part 0 = .ok (.aload_n 0, 1) := dk_42 (dk_at dksX6_part_0 0 rfl rfl)
theorem dX6_part_1 : decode cX6_part 1 = .ok (.ldc 152, 2) := dk_18 152 (dk_at dksX6_part_0 1 rfl rfl)
theorem dX6_part_3 : decode cX6_part 3 = .ok (.invokevirtual 39, 3) := dk_182 0 39 (dk_at dksX6_part_0 3 rfl rfl)
theorem dX6_part_6 : decode cX6_part 6 = .ok (.ifCond .eq 30, 3) := dk_153 0 30 (dk_at dksX6_part_0 6 rfl rfl)
theorem dX6_part_9 : decode cX6_part 9 = .ok (.aload_n 0, 1) := dk_42 (dk_at dksX6_part_0 9 rfl rfl)
theorem dX6_part_10 : decode cX6_part 10 = .ok (.invokevirtual 103, 3) := dk_182 0 103 (dk_at dksX6_part_0 10 rfl rfl)
theorem dX6_part_13 : decode cX6_part 13 = .ok (.aload_n 0, 1) := dk_42 (dk_at dksX6_part_0 13 rfl rfl)
theorem dX6_part_14 : decode cX6_part 14 = .ok (.invokevirtual 115, 3) := dk_182 0 115 (dk_at dksX6_part_0 14 rfl rfl)
theorem dX6_part_17 : decode cX6_part 17 = .ok (.astore_n 1, 1) := dk_76 (dk_at dksX6_part_0 17 rfl rfl)
theorem dX6_part_18 : decode cX6_part 18 = .ok (.aload_n 0, 1) := dk_42 (dk_at dksX6_part_0 18 rfl rfl)
theorem dX6_part_19 : decode cX6_part 19 = .ok (.ldc 154, 2) := dk_18 154 (dk_at dksX6_part_0 19 rfl rfl)
theorem dX6_part_21 : decode cX6_part 21 = .ok (.invokevirtual 111, 3) := dk_182 0 111 (dk_at dksX6_part_0 21 rfl rfl)
theorem dX6_part_24 : decode cX6_part 24 = .ok (.aload_n 0, 1) := dk_42 (dk_at dksX6_part_1 0 rfl rfl)
theorem dX6_part_25 : decode cX6_part 25 = .ok (.dup, 1) := dk_89 (dk_at dksX6_part_1 1 rfl rfl)
theorem dX6_part_26 : decode cX6_part 26 = .ok (.getfield 88, 3) := dk_180 0 88 (dk_at dksX6_part_1 2 rfl rfl)
theorem dX6_part_29 : decode cX6_part 29 = .ok (.iconst 1, 1) := dk_4 (dk_at dksX6_part_1 5 rfl rfl)
theorem dX6_part_30 : decode cX6_part 30 = .ok (.isub, 1) := dk_100 (dk_at dksX6_part_1 6 rfl rfl)
theorem dX6_part_31 : decode cX6_part 31 = .ok (.putfield 88, 3) := dk_181 0 88 (dk_at dksX6_part_1 7 rfl rfl)
theorem dX6_part_34 : decode cX6_part 34 = .ok (.aload_n 1, 1) := dk_43 (dk_at dksX6_part_1 10 rfl rfl)
theorem dX6_part_35 : decode cX6_part 35 = .ok (.areturn, 1) := dk_176 (dk_at dksX6_part_1 11 rfl rfl)
theorem dX6_part_36 : decode cX6_part 36 = .ok (.aload_n 0, 1) := dk_42 (dk_at dksX6_part_1 12 rfl rfl)
theorem dX6_part_37 : decode cX6_part 37 = .ok (.aload_n 0, 1) := dk_42 (dk_at dksX6_part_1 13 rfl rfl)
theorem dX6_part_38 : decode cX6_part 38 = .ok (.getfield 22, 3) := dk_180 0 22 (dk_at dksX6_part_1 14 rfl rfl)
theorem dX6_part_41 : decode cX6_part 41 = .ok (.bipush 48, 2) := dk_16 48 (dk_at dksX6_part_1 17 rfl rfl)
theorem dX6_part_43 : decode cX6_part 43 = .ok (.bipush 57, 2) := dk_16 57 (dk_at dksX6_part_1 19 rfl rfl)
theorem dX6_part_45 : decode cX6_part 45 = .ok (.invokevirtual 25, 3) := dk_182 0 25 (dk_at dksX6_part_1 21 rfl rfl)
theorem dX6_part_48 : decode cX6_part 48 = .ok (.ifCond .eq 23, 3) := dk_153 0 23 (dk_at dksX6_part_2 0 rfl rfl)
theorem dX6_part_51 : decode cX6_part 51 = .ok (.aload_n 0, 1) := dk_42 (dk_at dksX6_part_2 3 rfl rfl)
theorem dX6_part_52 : decode cX6_part 52 = .ok (.invokevirtual 156, 3) := dk_182 0 156 (dk_at dksX6_part_2 4 rfl rfl)
theorem dX6_part_55 : decode cX6_part 55 = .ok (.new 159, 3) := dk_187 0 159 (dk_at dksX6_part_2 7 rfl rfl)
theorem dX6_part_58 : decode cX6_part 58 = .ok (.dup, 1) := dk_89 (dk_at dksX6_part_2 10 rfl rfl)
theorem dX6_part_59 : decode cX6_part 59 = .ok (.aload_n 0, 1) := dk_42 (dk_at dksX6_part_2 11 rfl rfl)
theorem dX6_part_60 : decode cX6_part 60 = .ok (.iconst 0, 1) := dk_3 (dk_at dksX6_part_2 12 rfl rfl)
theorem dX6_part_61 : decode cX6_part 61 = .ok (.sipush 1000, 3) := dk_17 3 232 (dk_at dksX6_part_2 13 rfl rfl)
theorem dX6_part_64 : decode cX6_part 64 = .ok (.invokevirtual 161, 3) := dk_182 0 161 (dk_at dksX6_part_2 16 rfl rfl)
theorem dX6_part_67 : decode cX6_part 67 = .ok (.invokespecial 165, 3) := dk_183 0 165 (dk_at dksX6_part_2 19 rfl rfl)
theorem dX6_part_70 : decode cX6_part 70 = .ok (.areturn, 1) := dk_176 (dk_at dksX6_part_2 22 rfl rfl)
theorem dX6_part_71 : decode cX6_part 71 = .ok (.aload_n 0, 1) := dk_42 (dk_at dksX6_part_2 23 rfl rfl)
theorem dX6_part_72 : decode cX6_part 72 = .ok (.invokevirtual 166, 3) := dk_182 0 166 (dk_at dksX6_part_3 0 rfl rfl)
theorem dX6_part_75 : decode cX6_part 75 = .ok (.istore_n 1, 1) := dk_60 (dk_at dksX6_part_3 3 rfl rfl)
theorem dX6_part_76 : decode cX6_part 76 = .ok (.iload_n 1, 1) := dk_27 (dk_at dksX6_part_3 4 rfl rfl)
theorem dX6_part_77 : decode cX6_part 77 = .ok (.iconst (-1), 1) := dk_2 (dk_at dksX6_part_3 5 rfl rfl)
theorem dX6_part_78 : decode cX6_part 78 = .ok (.if_icmp .ne 15, 3) := dk_160 0 15 (dk_at dksX6_part_3 6 rfl rfl)
theorem dX6_part_81 : decode cX6_part 81 = .ok (.new 49, 3) := dk_187 0 49 (dk_at dksX6_part_3 9 rfl rfl)
theorem dX6_part_84 : decode cX6_part 84 = .ok (.dup, 1) := dk_89 (dk_at dksX6_part_3 12 rfl rfl)
theorem dX6_part_85 : decode cX6_part 85 = .ok (.aload_n 0, 1) := dk_42 (dk_at dksX6_part_3 13 rfl rfl)
theorem dX6_part_86 : decode cX6_part 86 = .ok (.getfield 22, 3) := dk_180 0 22 (dk_at dksX6_part_3 14 rfl rfl)
theorem dX6_part_89 : decode cX6_part 89 = .ok (.invokespecial 51, 3) := dk_183 0 51 (dk_at dksX6_part_3 17 rfl rfl)
theorem dX6_part_92 : decode cX6_part 92 = .ok (.athrow, 1) := dk_191 (dk_at dksX6_part_3 20 rfl rfl)
theorem dX6_part_93 : decode cX6_part 93 = .ok (.new 169, 3) := dk_187 0 169 (dk_at dksX6_part_3 21 rfl rfl)
theorem dX6_part_96 : decode cX6_part 96 = .ok (.dup, 1) := dk_89 (dk_at dksX6_part_4 0 rfl rfl)
theorem dX6_part_97 : decode cX6_part 97 = .ok (.iload_n 1, 1) := dk_27 (dk_at dksX6_part_4 1 rfl rfl)
theorem dX6_part_98 : decode cX6_part 98 = .ok (.invokespecial 171, 3) := dk_183 0 171 (dk_at dksX6_part_4 2 rfl rfl)
theorem dX6_part_101 : decode cX6_part 101 = .ok (.areturn, 1) := dk_176 (dk_at dksX6_part_4 5 rfl rfl)
abbrev cX6_opens : ByteArray := prog_12_method_14_code
def yX6_opens : MethodName := ⟨RX6, "opens", "()V"⟩
def dkwX6_opens_1 : List UInt8 := [180, 0, 88, 4, 96, 181, 0, 88, 42, 182, 0, 43, 177]
abbrev dktX6_opens_1 : List UInt8 := dkwX6_opens_1 ++ []
def dkwX6_opens_0 : List UInt8 := [42, 180, 0, 88, 16, 8, 160, 0, 15, 187, 0, 49, 89, 42, 180, 0, 22, 183, 0, 51, 191, 42, 89]
abbrev dktX6_opens_0 : List UInt8 := dkwX6_opens_0 ++ dktX6_opens_1
theorem dksX6_opens_0 : cX6_opens.data.toList.drop 0 = dktX6_opens_0 := by decide +kernel
theorem dksX6_opens_1 : cX6_opens.data.toList.drop 23 = dktX6_opens_1 := dk_seg dksX6_opens_0 23 rfl rfl
theorem dX6_opens_0 : decode cX6_opens 0 = .ok (.aload_n 0, 1) := dk_42 (dk_at dksX6_opens_0 0 rfl rfl)
theorem dX6_opens_1 : decode cX6_opens 1 = .ok (.getfield 88, 3) := dk_180 0 88 (dk_at dksX6_opens_0 1 rfl rfl)
theorem dX6_opens_4 : decode cX6_opens 4 = .ok (.bipush 8, 2) := dk_16 8 (dk_at dksX6_opens_0 4 rfl rfl)
theorem dX6_opens_6 : decode cX6_opens 6 = .ok (.if_icmp .ne 15, 3) := dk_160 0 15 (dk_at dksX6_opens_0 6 rfl rfl)
theorem dX6_opens_9 : decode cX6_opens 9 = .ok (.new 49, 3) := dk_187 0 49 (dk_at dksX6_opens_0 9 rfl rfl)
theorem dX6_opens_12 : decode cX6_opens 12 = .ok (.dup, 1) := dk_89 (dk_at dksX6_opens_0 12 rfl rfl)
theorem dX6_opens_13 : decode cX6_opens 13 = .ok (.aload_n 0, 1) := dk_42 (dk_at dksX6_opens_0 13 rfl rfl)
theorem dX6_opens_14 : decode cX6_opens 14 = .ok (.getfield 22, 3) := dk_180 0 22 (dk_at dksX6_opens_0 14 rfl rfl)
theorem dX6_opens_17 : decode cX6_opens 17 = .ok (.invokespecial 51, 3) := dk_183 0 51 (dk_at dksX6_opens_0 17 rfl rfl)
theorem dX6_opens_20 : decode cX6_opens 20 = .ok (.athrow, 1) := dk_191 (dk_at dksX6_opens_0 20 rfl rfl)
theorem dX6_opens_21 : decode cX6_opens 21 = .ok (.aload_n 0, 1) := dk_42 (dk_at dksX6_opens_0 21 rfl rfl)
theorem dX6_opens_22 : decode cX6_opens 22 = .ok (.dup, 1) := dk_89 (dk_at dksX6_opens_0 22 rfl rfl)
theorem dX6_opens_23 : decode cX6_opens 23 = .ok (.getfield 88, 3) := dk_180 0 88 (dk_at dksX6_opens_1 0 rfl rfl)
theorem dX6_opens_26 : decode cX6_opens 26 = .ok (.iconst 1, 1) := dk_4 (dk_at dksX6_opens_1 3 rfl rfl)
theorem dX6_opens_27 : decode cX6_opens 27 = .ok (.iadd, 1) := dk_96 (dk_at dksX6_opens_1 4 rfl rfl)
theorem dX6_opens_28 : decode cX6_opens 28 = .ok (.putfield 88, 3) := dk_181 0 88 (dk_at dksX6_opens_1 5 rfl rfl)
theorem dX6_opens_31 : decode cX6_opens 31 = .ok (.aload_n 0, 1) := dk_42 (dk_at dksX6_opens_1 8 rfl rfl)
theorem dX6_opens_32 : decode cX6_opens 32 = .ok (.invokevirtual 43, 3) := dk_182 0 43 (dk_at dksX6_opens_1 9 rfl rfl)
theorem dX6_opens_35 : decode cX6_opens 35 = .ok (.return_, 1) := dk_177 (dk_at dksX6_opens_1 12 rfl rfl)
abbrev cX6_need : ByteArray := prog_12_method_6_code
def yX6_need : MethodName := ⟨RX6, "need", "(Ljava/lang/String;)V"⟩
def dkwX6_need_0 : List UInt8 := [42, 43, 182, 0, 46, 154, 0, 15, 187, 0, 49, 89, 42, 180, 0, 22, 183, 0, 51, 191, 177]
abbrev dktX6_need_0 : List UInt8 := dkwX6_need_0 ++ []
theorem dksX6_need_0 : cX6_need.data.toList.drop 0 = dktX6_need_0 := by decide +kernel
theorem dX6_need_0 : decode cX6_need 0 = .ok (.aload_n 0, 1) := dk_42 (dk_at dksX6_need_0 0 rfl rfl)
theorem dX6_need_1 : decode cX6_need 1 = .ok (.aload_n 1, 1) := dk_43 (dk_at dksX6_need_0 1 rfl rfl)
theorem dX6_need_2 : decode cX6_need 2 = .ok (.invokevirtual 46, 3) := dk_182 0 46 (dk_at dksX6_need_0 2 rfl rfl)
theorem dX6_need_5 : decode cX6_need 5 = .ok (.ifCond .ne 15, 3) := dk_154 0 15 (dk_at dksX6_need_0 5 rfl rfl)
theorem dX6_need_8 : decode cX6_need 8 = .ok (.new 49, 3) := dk_187 0 49 (dk_at dksX6_need_0 8 rfl rfl)
theorem dX6_need_11 : decode cX6_need 11 = .ok (.dup, 1) := dk_89 (dk_at dksX6_need_0 11 rfl rfl)
theorem dX6_need_12 : decode cX6_need 12 = .ok (.aload_n 0, 1) := dk_42 (dk_at dksX6_need_0 12 rfl rfl)
theorem dX6_need_13 : decode cX6_need 13 = .ok (.getfield 22, 3) := dk_180 0 22 (dk_at dksX6_need_0 13 rfl rfl)
theorem dX6_need_16 : decode cX6_need 16 = .ok (.invokespecial 51, 3) := dk_183 0 51 (dk_at dksX6_need_0 16 rfl rfl)
theorem dX6_need_19 : decode cX6_need 19 = .ok (.athrow, 1) := dk_191 (dk_at dksX6_need_0 19 rfl rfl)
theorem dX6_need_20 : decode cX6_need 20 = .ok (.return_, 1) := dk_177 (dk_at dksX6_need_0 20 rfl rfl)
abbrev cX6_takes : ByteArray := prog_12_method_5_code
def yX6_takes : MethodName := ⟨RX6, "takes", "(Ljava/lang/String;)Z"⟩
def dkwX6_takes_0 : List UInt8 := [42, 43, 182, 0, 39, 61, 28, 153, 0, 7, 42, 182, 0, 43, 28, 172]
abbrev dktX6_takes_0 : List UInt8 := dkwX6_takes_0 ++ []
theorem dksX6_takes_0 : cX6_takes.data.toList.drop 0 = dktX6_takes_0 := by decide +kernel
theorem dX6_takes_0 : decode cX6_takes 0 = .ok (.aload_n 0, 1) := dk_42 (dk_at dksX6_takes_0 0 rfl rfl)
theorem dX6_takes_1 : decode cX6_takes 1 = .ok (.aload_n 1, 1) := dk_43 (dk_at dksX6_takes_0 1 rfl rfl)
theorem dX6_takes_2 : decode cX6_takes 2 = .ok (.invokevirtual 39, 3) := dk_182 0 39 (dk_at dksX6_takes_0 2 rfl rfl)
theorem dX6_takes_5 : decode cX6_takes 5 = .ok (.istore_n 2, 1) := dk_61 (dk_at dksX6_takes_0 5 rfl rfl)
theorem dX6_takes_6 : decode cX6_takes 6 = .ok (.iload_n 2, 1) := dk_28 (dk_at dksX6_takes_0 6 rfl rfl)
theorem dX6_takes_7 : decode cX6_takes 7 = .ok (.ifCond .eq 7, 3) := dk_153 0 7 (dk_at dksX6_takes_0 7 rfl rfl)
theorem dX6_takes_10 : decode cX6_takes 10 = .ok (.aload_n 0, 1) := dk_42 (dk_at dksX6_takes_0 10 rfl rfl)
theorem dX6_takes_11 : decode cX6_takes 11 = .ok (.invokevirtual 43, 3) := dk_182 0 43 (dk_at dksX6_takes_0 11 rfl rfl)
theorem dX6_takes_14 : decode cX6_takes 14 = .ok (.iload_n 2, 1) := dk_28 (dk_at dksX6_takes_0 14 rfl rfl)
theorem dX6_takes_15 : decode cX6_takes 15 = .ok (.ireturn, 1) := dk_172 (dk_at dksX6_takes_0 15 rfl rfl)
abbrev cX6_leaf : ByteArray := prog_12_method_19_code
def yX6_leaf : MethodName := ⟨RX6, "leaf", "()V"⟩
def dkwX6_leaf_1 : List UInt8 := [180, 0, 149, 4, 96, 181, 0, 149, 177]
abbrev dktX6_leaf_1 : List UInt8 := dkwX6_leaf_1 ++ []
def dkwX6_leaf_0 : List UInt8 := [42, 180, 0, 149, 16, 50, 160, 0, 15, 187, 0, 49, 89, 42, 180, 0, 22, 183, 0, 51, 191, 42, 89]
abbrev dktX6_leaf_0 : List UInt8 := dkwX6_leaf_0 ++ dktX6_leaf_1
theorem dksX6_leaf_0 : cX6_leaf.data.toList.drop 0 = dktX6_leaf_0 := by decide +kernel
theorem dksX6_leaf_1 : cX6_leaf.data.toList.drop 23 = dktX6_leaf_1 := dk_seg dksX6_leaf_0 23 rfl rfl
theorem dX6_leaf_0 : decode cX6_leaf 0 = .ok (.aload_n 0, 1) := dk_42 (dk_at dksX6_leaf_0 0 rfl rfl)
theorem dX6_leaf_1 : decode cX6_leaf 1 = .ok (.getfield 149, 3) := dk_180 0 149 (dk_at dksX6_leaf_0 1 rfl rfl)
theorem dX6_leaf_4 : decode cX6_leaf 4 = .ok (.bipush 50, 2) := dk_16 50 (dk_at dksX6_leaf_0 4 rfl rfl)
theorem dX6_leaf_6 : decode cX6_leaf 6 = .ok (.if_icmp .ne 15, 3) := dk_160 0 15 (dk_at dksX6_leaf_0 6 rfl rfl)
theorem dX6_leaf_9 : decode cX6_leaf 9 = .ok (.new 49, 3) := dk_187 0 49 (dk_at dksX6_leaf_0 9 rfl rfl)
theorem dX6_leaf_12 : decode cX6_leaf 12 = .ok (.dup, 1) := dk_89 (dk_at dksX6_leaf_0 12 rfl rfl)
theorem dX6_leaf_13 : decode cX6_leaf 13 = .ok (.aload_n 0, 1) := dk_42 (dk_at dksX6_leaf_0 13 rfl rfl)
theorem dX6_leaf_14 : decode cX6_leaf 14 = .ok (.getfield 22, 3) := dk_180 0 22 (dk_at dksX6_leaf_0 14 rfl rfl)
theorem dX6_leaf_17 : decode cX6_leaf 17 = .ok (.invokespecial 51, 3) := dk_183 0 51 (dk_at dksX6_leaf_0 17 rfl rfl)
theorem dX6_leaf_20 : decode cX6_leaf 20 = .ok (.athrow, 1) := dk_191 (dk_at dksX6_leaf_0 20 rfl rfl)
theorem dX6_leaf_21 : decode cX6_leaf 21 = .ok (.aload_n 0, 1) := dk_42 (dk_at dksX6_leaf_0 21 rfl rfl)
theorem dX6_leaf_22 : decode cX6_leaf 22 = .ok (.dup, 1) := dk_89 (dk_at dksX6_leaf_0 22 rfl rfl)
theorem dX6_leaf_23 : decode cX6_leaf 23 = .ok (.getfield 149, 3) := dk_180 0 149 (dk_at dksX6_leaf_1 0 rfl rfl)
theorem dX6_leaf_26 : decode cX6_leaf 26 = .ok (.iconst 1, 1) := dk_4 (dk_at dksX6_leaf_1 3 rfl rfl)
theorem dX6_leaf_27 : decode cX6_leaf 27 = .ok (.iadd, 1) := dk_96 (dk_at dksX6_leaf_1 4 rfl rfl)
theorem dX6_leaf_28 : decode cX6_leaf 28 = .ok (.putfield 149, 3) := dk_181 0 149 (dk_at dksX6_leaf_1 5 rfl rfl)
theorem dX6_leaf_31 : decode cX6_leaf 31 = .ok (.return_, 1) := dk_177 (dk_at dksX6_leaf_1 8 rfl rfl)
abbrev cX6_number : ByteArray := prog_12_method_7_code
def yX6_number : MethodName := ⟨RX6, "number", "(II)I"⟩
def dkwX6_number_4 : List UInt8 := [191, 42, 182, 0, 43, 29, 172]
abbrev dktX6_number_4 : List UInt8 := dkwX6_number_4 ++ []
def dkwX6_number_3 : List UInt8 := [167, 255, 223, 29, 27, 161, 0, 8, 29, 28, 164, 0, 15, 187, 0, 49, 89, 42, 180, 0, 22, 183, 0, 51]
abbrev dktX6_number_3 : List UInt8 := dkwX6_number_3 ++ dktX6_number_4
def dkwX6_number_2 : List UInt8 := [163, 0, 25, 16, 10, 29, 104, 42, 180, 0, 9, 21, 4, 51, 96, 16, 48, 100, 62, 132, 4, 1]
abbrev dktX6_number_2 : List UInt8 := dkwX6_number_2 ++ dktX6_number_3
def dkwX6_number_1 : List UInt8 := [183, 0, 51, 191, 3, 62, 42, 180, 0, 22, 54, 4, 21, 4, 42, 180, 0, 19, 162, 0, 30, 29, 28]
abbrev dktX6_number_1 : List UInt8 := dkwX6_number_1 ++ dktX6_number_2
def dkwX6_number_0 : List UInt8 := [42, 42, 180, 0, 22, 16, 48, 16, 57, 182, 0, 25, 154, 0, 15, 187, 0, 49, 89, 42, 180, 0, 22]
abbrev dktX6_number_0 : List UInt8 := dkwX6_number_0 ++ dktX6_number_1
theorem dksX6_number_0 : cX6_number.data.toList.drop 0 = dktX6_number_0 := by decide +kernel
theorem dksX6_number_1 : cX6_number.data.toList.drop 23 = dktX6_number_1 := dk_seg dksX6_number_0 23 rfl rfl
theorem dksX6_number_2 : cX6_number.data.toList.drop 46 = dktX6_number_2 := dk_seg dksX6_number_1 23 rfl rfl
theorem dksX6_number_3 : cX6_number.data.toList.drop 68 = dktX6_number_3 := dk_seg dksX6_number_2 22 rfl rfl
theorem dksX6_number_4 : cX6_number.data.toList.drop 92 = dktX6_number_4 := dk_seg dksX6_number_3 24 rfl rfl
theorem dX6_number_0 : decode cX6_number 0 = .ok (.aload_n 0, 1) := dk_42 (dk_at dksX6_number_0 0 rfl rfl)
theorem dX6_number_1 : decode cX6_number 1 = .ok (.aload_n 0, 1) := dk_42 (dk_at dksX6_number_0 1 rfl rfl)
theorem dX6_number_2 : decode cX6_number 2 = .ok (.getfield 22, 3) := dk_180 0 22 (dk_at dksX6_number_0 2 rfl rfl)
theorem dX6_number_5 : decode cX6_number 5 = .ok (.bipush 48, 2) := dk_16 48 (dk_at dksX6_number_0 5 rfl rfl)
theorem dX6_number_7 : decode cX6_number 7 = .ok (.bipush 57, 2) := dk_16 57 (dk_at dksX6_number_0 7 rfl rfl)
theorem dX6_number_9 : decode cX6_number 9 = .ok (.invokevirtual 25, 3) := dk_182 0 25 (dk_at dksX6_number_0 9 rfl rfl)
theorem dX6_number_12 : decode cX6_number 12 = .ok (.ifCond .ne 15, 3) := dk_154 0 15 (dk_at dksX6_number_0 12 rfl rfl)
theorem dX6_number_15 : decode cX6_number 15 = .ok (.new 49, 3) := dk_187 0 49 (dk_at dksX6_number_0 15 rfl rfl)
theorem dX6_number_18 : decode cX6_number 18 = .ok (.dup, 1) := dk_89 (dk_at dksX6_number_0 18 rfl rfl)
theorem dX6_number_19 : decode cX6_number 19 = .ok (.aload_n 0, 1) := dk_42 (dk_at dksX6_number_0 19 rfl rfl)
theorem dX6_number_20 : decode cX6_number 20 = .ok (.getfield 22, 3) := dk_180 0 22 (dk_at dksX6_number_0 20 rfl rfl)
theorem dX6_number_23 : decode cX6_number 23 = .ok (.invokespecial 51, 3) := dk_183 0 51 (dk_at dksX6_number_1 0 rfl rfl)
theorem dX6_number_26 : decode cX6_number 26 = .ok (.athrow, 1) := dk_191 (dk_at dksX6_number_1 3 rfl rfl)
theorem dX6_number_27 : decode cX6_number 27 = .ok (.iconst 0, 1) := dk_3 (dk_at dksX6_number_1 4 rfl rfl)
theorem dX6_number_28 : decode cX6_number 28 = .ok (.istore_n 3, 1) := dk_62 (dk_at dksX6_number_1 5 rfl rfl)
theorem dX6_number_29 : decode cX6_number 29 = .ok (.aload_n 0, 1) := dk_42 (dk_at dksX6_number_1 6 rfl rfl)
theorem dX6_number_30 : decode cX6_number 30 = .ok (.getfield 22, 3) := dk_180 0 22 (dk_at dksX6_number_1 7 rfl rfl)
theorem dX6_number_33 : decode cX6_number 33 = .ok (.istore 4, 2) := dk_54 4 (dk_at dksX6_number_1 10 rfl rfl)
theorem dX6_number_35 : decode cX6_number 35 = .ok (.iload 4, 2) := dk_21 4 (dk_at dksX6_number_1 12 rfl rfl)
theorem dX6_number_37 : decode cX6_number 37 = .ok (.aload_n 0, 1) := dk_42 (dk_at dksX6_number_1 14 rfl rfl)
theorem dX6_number_38 : decode cX6_number 38 = .ok (.getfield 19, 3) := dk_180 0 19 (dk_at dksX6_number_1 15 rfl rfl)
theorem dX6_number_41 : decode cX6_number 41 = .ok (.if_icmp .ge 30, 3) := dk_162 0 30 (dk_at dksX6_number_1 18 rfl rfl)
theorem dX6_number_44 : decode cX6_number 44 = .ok (.iload_n 3, 1) := dk_29 (dk_at dksX6_number_1 21 rfl rfl)
theorem dX6_number_45 : decode cX6_number 45 = .ok (.iload_n 2, 1) := dk_28 (dk_at dksX6_number_1 22 rfl rfl)
theorem dX6_number_46 : decode cX6_number 46 = .ok (.if_icmp .gt 25, 3) := dk_163 0 25 (dk_at dksX6_number_2 0 rfl rfl)
theorem dX6_number_49 : decode cX6_number 49 = .ok (.bipush 10, 2) := dk_16 10 (dk_at dksX6_number_2 3 rfl rfl)
theorem dX6_number_51 : decode cX6_number 51 = .ok (.iload_n 3, 1) := dk_29 (dk_at dksX6_number_2 5 rfl rfl)
theorem dX6_number_52 : decode cX6_number 52 = .ok (.imul, 1) := dk_104 (dk_at dksX6_number_2 6 rfl rfl)
theorem dX6_number_53 : decode cX6_number 53 = .ok (.aload_n 0, 1) := dk_42 (dk_at dksX6_number_2 7 rfl rfl)
theorem dX6_number_54 : decode cX6_number 54 = .ok (.getfield 9, 3) := dk_180 0 9 (dk_at dksX6_number_2 8 rfl rfl)
theorem dX6_number_57 : decode cX6_number 57 = .ok (.iload 4, 2) := dk_21 4 (dk_at dksX6_number_2 11 rfl rfl)
theorem dX6_number_59 : decode cX6_number 59 = .ok (.baload, 1) := dk_51 (dk_at dksX6_number_2 13 rfl rfl)
theorem dX6_number_60 : decode cX6_number 60 = .ok (.iadd, 1) := dk_96 (dk_at dksX6_number_2 14 rfl rfl)
theorem dX6_number_61 : decode cX6_number 61 = .ok (.bipush 48, 2) := dk_16 48 (dk_at dksX6_number_2 15 rfl rfl)
theorem dX6_number_63 : decode cX6_number 63 = .ok (.isub, 1) := dk_100 (dk_at dksX6_number_2 17 rfl rfl)
theorem dX6_number_64 : decode cX6_number 64 = .ok (.istore_n 3, 1) := dk_62 (dk_at dksX6_number_2 18 rfl rfl)
theorem dX6_number_65 : decode cX6_number 65 = .ok (.iinc 4 1, 3) := dk_132 4 1 (dk_at dksX6_number_2 19 rfl rfl)
theorem dX6_number_68 : decode cX6_number 68 = .ok (.goto (-33), 3) := dk_167 255 223 (dk_at dksX6_number_3 0 rfl rfl)
theorem dX6_number_71 : decode cX6_number 71 = .ok (.iload_n 3, 1) := dk_29 (dk_at dksX6_number_3 3 rfl rfl)
theorem dX6_number_72 : decode cX6_number 72 = .ok (.iload_n 1, 1) := dk_27 (dk_at dksX6_number_3 4 rfl rfl)
theorem dX6_number_73 : decode cX6_number 73 = .ok (.if_icmp .lt 8, 3) := dk_161 0 8 (dk_at dksX6_number_3 5 rfl rfl)
theorem dX6_number_76 : decode cX6_number 76 = .ok (.iload_n 3, 1) := dk_29 (dk_at dksX6_number_3 8 rfl rfl)
theorem dX6_number_77 : decode cX6_number 77 = .ok (.iload_n 2, 1) := dk_28 (dk_at dksX6_number_3 9 rfl rfl)
theorem dX6_number_78 : decode cX6_number 78 = .ok (.if_icmp .le 15, 3) := dk_164 0 15 (dk_at dksX6_number_3 10 rfl rfl)
theorem dX6_number_81 : decode cX6_number 81 = .ok (.new 49, 3) := dk_187 0 49 (dk_at dksX6_number_3 13 rfl rfl)
theorem dX6_number_84 : decode cX6_number 84 = .ok (.dup, 1) := dk_89 (dk_at dksX6_number_3 16 rfl rfl)
theorem dX6_number_85 : decode cX6_number 85 = .ok (.aload_n 0, 1) := dk_42 (dk_at dksX6_number_3 17 rfl rfl)
theorem dX6_number_86 : decode cX6_number 86 = .ok (.getfield 22, 3) := dk_180 0 22 (dk_at dksX6_number_3 18 rfl rfl)
theorem dX6_number_89 : decode cX6_number 89 = .ok (.invokespecial 51, 3) := dk_183 0 51 (dk_at dksX6_number_3 21 rfl rfl)
theorem dX6_number_92 : decode cX6_number 92 = .ok (.athrow, 1) := dk_191 (dk_at dksX6_number_4 0 rfl rfl)
theorem dX6_number_93 : decode cX6_number 93 = .ok (.aload_n 0, 1) := dk_42 (dk_at dksX6_number_4 1 rfl rfl)
theorem dX6_number_94 : decode cX6_number 94 = .ok (.invokevirtual 43, 3) := dk_182 0 43 (dk_at dksX6_number_4 2 rfl rfl)
theorem dX6_number_97 : decode cX6_number 97 = .ok (.iload_n 3, 1) := dk_29 (dk_at dksX6_number_4 5 rfl rfl)
theorem dX6_number_98 : decode cX6_number 98 = .ok (.ireturn, 1) := dk_172 (dk_at dksX6_number_4 6 rfl rfl)
abbrev cX6_isValue : ByteArray := prog_12_method_21_code
def yX6_isValue : MethodName := ⟨RX6, "isValue", "(Ljava/lang/String;)Z"⟩
def dkwX6_isValue_0 : List UInt8 := [42, 43, 182, 0, 39, 154, 0, 5, 3, 172, 42, 182, 0, 156, 42, 182, 0, 43, 4, 172]
abbrev dktX6_isValue_0 : List UInt8 := dkwX6_isValue_0 ++ []
theorem dksX6_isValue_0 : cX6_isValue.data.toList.drop 0 = dktX6_isValue_0 := by decide +kernel
theorem dX6_isValue_0 : decode cX6_isValue 0 = .ok (.aload_n 0, 1) := dk_42 (dk_at dksX6_isValue_0 0 rfl rfl)
theorem dX6_isValue_1 : decode cX6_isValue 1 = .ok (.aload_n 1, 1) := dk_43 (dk_at dksX6_isValue_0 1 rfl rfl)
theorem dX6_isValue_2 : decode cX6_isValue 2 = .ok (.invokevirtual 39, 3) := dk_182 0 39 (dk_at dksX6_isValue_0 2 rfl rfl)
theorem dX6_isValue_5 : decode cX6_isValue 5 = .ok (.ifCond .ne 5, 3) := dk_154 0 5 (dk_at dksX6_isValue_0 5 rfl rfl)
theorem dX6_isValue_8 : decode cX6_isValue 8 = .ok (.iconst 0, 1) := dk_3 (dk_at dksX6_isValue_0 8 rfl rfl)
theorem dX6_isValue_9 : decode cX6_isValue 9 = .ok (.ireturn, 1) := dk_172 (dk_at dksX6_isValue_0 9 rfl rfl)
theorem dX6_isValue_10 : decode cX6_isValue 10 = .ok (.aload_n 0, 1) := dk_42 (dk_at dksX6_isValue_0 10 rfl rfl)
theorem dX6_isValue_11 : decode cX6_isValue 11 = .ok (.invokevirtual 156, 3) := dk_182 0 156 (dk_at dksX6_isValue_0 11 rfl rfl)
theorem dX6_isValue_14 : decode cX6_isValue 14 = .ok (.aload_n 0, 1) := dk_42 (dk_at dksX6_isValue_0 14 rfl rfl)
theorem dX6_isValue_15 : decode cX6_isValue 15 = .ok (.invokevirtual 43, 3) := dk_182 0 43 (dk_at dksX6_isValue_0 15 rfl rfl)
theorem dX6_isValue_18 : decode cX6_isValue 18 = .ok (.iconst 1, 1) := dk_4 (dk_at dksX6_isValue_0 18 rfl rfl)
theorem dX6_isValue_19 : decode cX6_isValue 19 = .ok (.ireturn, 1) := dk_172 (dk_at dksX6_isValue_0 19 rfl rfl)
abbrev cX6_test : ByteArray := prog_12_method_12_code
def yX6_test : MethodName := ⟨RX6, "test", "()LForestRooms$Test;"⟩
def dkwX6_test_2 : List UInt8 := [182, 0, 62, 182, 0, 77, 87, 167, 255, 235, 44, 176]
abbrev dktX6_test_2 : List UInt8 := dkwX6_test_2 ++ []
def dkwX6_test_1 : List UInt8 := [77, 44, 180, 0, 73, 43, 182, 0, 77, 87, 42, 18, 66, 182, 0, 46, 153, 0, 18, 44, 180, 0, 73, 42]
abbrev dktX6_test_1 : List UInt8 := dkwX6_test_1 ++ dktX6_test_2
def dkwX6_test_0 : List UInt8 := [42, 182, 0, 62, 76, 42, 18, 66, 182, 0, 39, 154, 0, 5, 43, 176, 187, 0, 68, 89, 3, 183, 0, 70]
abbrev dktX6_test_0 : List UInt8 := dkwX6_test_0 ++ dktX6_test_1
theorem dksX6_test_0 : cX6_test.data.toList.drop 0 = dktX6_test_0 := by decide +kernel
theorem dksX6_test_1 : cX6_test.data.toList.drop 24 = dktX6_test_1 := dk_seg dksX6_test_0 24 rfl rfl
theorem dksX6_test_2 : cX6_test.data.toList.drop 48 = dktX6_test_2 := dk_seg dksX6_test_1 24 rfl rfl
theorem dX6_test_0 : decode cX6_test 0 = .ok (.aload_n 0, 1) := dk_42 (dk_at dksX6_test_0 0 rfl rfl)
theorem dX6_test_1 : decode cX6_test 1 = .ok (.invokevirtual 62, 3) := dk_182 0 62 (dk_at dksX6_test_0 1 rfl rfl)
theorem dX6_test_4 : decode cX6_test 4 = .ok (.astore_n 1, 1) := dk_76 (dk_at dksX6_test_0 4 rfl rfl)
theorem dX6_test_5 : decode cX6_test 5 = .ok (.aload_n 0, 1) := dk_42 (dk_at dksX6_test_0 5 rfl rfl)
theorem dX6_test_6 : decode cX6_test 6 = .ok (.ldc 66, 2) := dk_18 66 (dk_at dksX6_test_0 6 rfl rfl)
theorem dX6_test_8 : decode cX6_test 8 = .ok (.invokevirtual 39, 3) := dk_182 0 39 (dk_at dksX6_test_0 8 rfl rfl)
theorem dX6_test_11 : decode cX6_test 11 = .ok (.ifCond .ne 5, 3) := dk_154 0 5 (dk_at dksX6_test_0 11 rfl rfl)
theorem dX6_test_14 : decode cX6_test 14 = .ok (.aload_n 1, 1) := dk_43 (dk_at dksX6_test_0 14 rfl rfl)
theorem dX6_test_15 : decode cX6_test 15 = .ok (.areturn, 1) := dk_176 (dk_at dksX6_test_0 15 rfl rfl)
theorem dX6_test_16 : decode cX6_test 16 = .ok (.new 68, 3) := dk_187 0 68 (dk_at dksX6_test_0 16 rfl rfl)
theorem dX6_test_19 : decode cX6_test 19 = .ok (.dup, 1) := dk_89 (dk_at dksX6_test_0 19 rfl rfl)
theorem dX6_test_20 : decode cX6_test 20 = .ok (.iconst 0, 1) := dk_3 (dk_at dksX6_test_0 20 rfl rfl)
theorem dX6_test_21 : decode cX6_test 21 = .ok (.invokespecial 70, 3) := dk_183 0 70 (dk_at dksX6_test_0 21 rfl rfl)
theorem dX6_test_24 : decode cX6_test 24 = .ok (.astore_n 2, 1) := dk_77 (dk_at dksX6_test_1 0 rfl rfl)
theorem dX6_test_25 : decode cX6_test 25 = .ok (.aload_n 2, 1) := dk_44 (dk_at dksX6_test_1 1 rfl rfl)
theorem dX6_test_26 : decode cX6_test 26 = .ok (.getfield 73, 3) := dk_180 0 73 (dk_at dksX6_test_1 2 rfl rfl)
theorem dX6_test_29 : decode cX6_test 29 = .ok (.aload_n 1, 1) := dk_43 (dk_at dksX6_test_1 5 rfl rfl)
theorem dX6_test_30 : decode cX6_test 30 = .ok (.invokevirtual 77, 3) := dk_182 0 77 (dk_at dksX6_test_1 6 rfl rfl)
theorem dX6_test_33 : decode cX6_test 33 = .ok (.pop, 1) := dk_87 (dk_at dksX6_test_1 9 rfl rfl)
theorem dX6_test_34 : decode cX6_test 34 = .ok (.aload_n 0, 1) := dk_42 (dk_at dksX6_test_1 10 rfl rfl)
theorem dX6_test_35 : decode cX6_test 35 = .ok (.ldc 66, 2) := dk_18 66 (dk_at dksX6_test_1 11 rfl rfl)
theorem dX6_test_37 : decode cX6_test 37 = .ok (.invokevirtual 46, 3) := dk_182 0 46 (dk_at dksX6_test_1 13 rfl rfl)
theorem dX6_test_40 : decode cX6_test 40 = .ok (.ifCond .eq 18, 3) := dk_153 0 18 (dk_at dksX6_test_1 16 rfl rfl)
theorem dX6_test_43 : decode cX6_test 43 = .ok (.aload_n 2, 1) := dk_44 (dk_at dksX6_test_1 19 rfl rfl)
theorem dX6_test_44 : decode cX6_test 44 = .ok (.getfield 73, 3) := dk_180 0 73 (dk_at dksX6_test_1 20 rfl rfl)
theorem dX6_test_47 : decode cX6_test 47 = .ok (.aload_n 0, 1) := dk_42 (dk_at dksX6_test_1 23 rfl rfl)
theorem dX6_test_48 : decode cX6_test 48 = .ok (.invokevirtual 62, 3) := dk_182 0 62 (dk_at dksX6_test_2 0 rfl rfl)
theorem dX6_test_51 : decode cX6_test 51 = .ok (.invokevirtual 77, 3) := dk_182 0 77 (dk_at dksX6_test_2 3 rfl rfl)
theorem dX6_test_54 : decode cX6_test 54 = .ok (.pop, 1) := dk_87 (dk_at dksX6_test_2 6 rfl rfl)
theorem dX6_test_55 : decode cX6_test 55 = .ok (.goto (-21), 3) := dk_167 255 235 (dk_at dksX6_test_2 7 rfl rfl)
theorem dX6_test_58 : decode cX6_test 58 = .ok (.aload_n 2, 1) := dk_44 (dk_at dksX6_test_2 10 rfl rfl)
theorem dX6_test_59 : decode cX6_test 59 = .ok (.areturn, 1) := dk_176 (dk_at dksX6_test_2 11 rfl rfl)
abbrev cX6_both : ByteArray := prog_12_method_13_code
def yX6_both : MethodName := ⟨RX6, "both", "()LForestRooms$Test;"⟩
def dkwX6_both_2 : List UInt8 := [182, 0, 83, 182, 0, 77, 87, 167, 255, 235, 44, 176]
abbrev dktX6_both_2 : List UInt8 := dkwX6_both_2 ++ []
def dkwX6_both_1 : List UInt8 := [77, 44, 180, 0, 73, 43, 182, 0, 77, 87, 42, 18, 86, 182, 0, 46, 153, 0, 18, 44, 180, 0, 73, 42]
abbrev dktX6_both_1 : List UInt8 := dkwX6_both_1 ++ dktX6_both_2
def dkwX6_both_0 : List UInt8 := [42, 182, 0, 83, 76, 42, 18, 86, 182, 0, 39, 154, 0, 5, 43, 176, 187, 0, 68, 89, 4, 183, 0, 70]
abbrev dktX6_both_0 : List UInt8 := dkwX6_both_0 ++ dktX6_both_1
theorem dksX6_both_0 : cX6_both.data.toList.drop 0 = dktX6_both_0 := by decide +kernel
theorem dksX6_both_1 : cX6_both.data.toList.drop 24 = dktX6_both_1 := dk_seg dksX6_both_0 24 rfl rfl
theorem dksX6_both_2 : cX6_both.data.toList.drop 48 = dktX6_both_2 := dk_seg dksX6_both_1 24 rfl rfl
theorem dX6_both_0 : decode cX6_both 0 = .ok (.aload_n 0, 1) := dk_42 (dk_at dksX6_both_0 0 rfl rfl)
theorem dX6_both_1 : decode cX6_both 1 = .ok (.invokevirtual 83, 3) := dk_182 0 83 (dk_at dksX6_both_0 1 rfl rfl)
theorem dX6_both_4 : decode cX6_both 4 = .ok (.astore_n 1, 1) := dk_76 (dk_at dksX6_both_0 4 rfl rfl)
theorem dX6_both_5 : decode cX6_both 5 = .ok (.aload_n 0, 1) := dk_42 (dk_at dksX6_both_0 5 rfl rfl)
theorem dX6_both_6 : decode cX6_both 6 = .ok (.ldc 86, 2) := dk_18 86 (dk_at dksX6_both_0 6 rfl rfl)
theorem dX6_both_8 : decode cX6_both 8 = .ok (.invokevirtual 39, 3) := dk_182 0 39 (dk_at dksX6_both_0 8 rfl rfl)
theorem dX6_both_11 : decode cX6_both 11 = .ok (.ifCond .ne 5, 3) := dk_154 0 5 (dk_at dksX6_both_0 11 rfl rfl)
theorem dX6_both_14 : decode cX6_both 14 = .ok (.aload_n 1, 1) := dk_43 (dk_at dksX6_both_0 14 rfl rfl)
theorem dX6_both_15 : decode cX6_both 15 = .ok (.areturn, 1) := dk_176 (dk_at dksX6_both_0 15 rfl rfl)
theorem dX6_both_16 : decode cX6_both 16 = .ok (.new 68, 3) := dk_187 0 68 (dk_at dksX6_both_0 16 rfl rfl)
theorem dX6_both_19 : decode cX6_both 19 = .ok (.dup, 1) := dk_89 (dk_at dksX6_both_0 19 rfl rfl)
theorem dX6_both_20 : decode cX6_both 20 = .ok (.iconst 1, 1) := dk_4 (dk_at dksX6_both_0 20 rfl rfl)
theorem dX6_both_21 : decode cX6_both 21 = .ok (.invokespecial 70, 3) := dk_183 0 70 (dk_at dksX6_both_0 21 rfl rfl)
theorem dX6_both_24 : decode cX6_both 24 = .ok (.astore_n 2, 1) := dk_77 (dk_at dksX6_both_1 0 rfl rfl)
theorem dX6_both_25 : decode cX6_both 25 = .ok (.aload_n 2, 1) := dk_44 (dk_at dksX6_both_1 1 rfl rfl)
theorem dX6_both_26 : decode cX6_both 26 = .ok (.getfield 73, 3) := dk_180 0 73 (dk_at dksX6_both_1 2 rfl rfl)
theorem dX6_both_29 : decode cX6_both 29 = .ok (.aload_n 1, 1) := dk_43 (dk_at dksX6_both_1 5 rfl rfl)
theorem dX6_both_30 : decode cX6_both 30 = .ok (.invokevirtual 77, 3) := dk_182 0 77 (dk_at dksX6_both_1 6 rfl rfl)
theorem dX6_both_33 : decode cX6_both 33 = .ok (.pop, 1) := dk_87 (dk_at dksX6_both_1 9 rfl rfl)
theorem dX6_both_34 : decode cX6_both 34 = .ok (.aload_n 0, 1) := dk_42 (dk_at dksX6_both_1 10 rfl rfl)
theorem dX6_both_35 : decode cX6_both 35 = .ok (.ldc 86, 2) := dk_18 86 (dk_at dksX6_both_1 11 rfl rfl)
theorem dX6_both_37 : decode cX6_both 37 = .ok (.invokevirtual 46, 3) := dk_182 0 46 (dk_at dksX6_both_1 13 rfl rfl)
theorem dX6_both_40 : decode cX6_both 40 = .ok (.ifCond .eq 18, 3) := dk_153 0 18 (dk_at dksX6_both_1 16 rfl rfl)
theorem dX6_both_43 : decode cX6_both 43 = .ok (.aload_n 2, 1) := dk_44 (dk_at dksX6_both_1 19 rfl rfl)
theorem dX6_both_44 : decode cX6_both 44 = .ok (.getfield 73, 3) := dk_180 0 73 (dk_at dksX6_both_1 20 rfl rfl)
theorem dX6_both_47 : decode cX6_both 47 = .ok (.aload_n 0, 1) := dk_42 (dk_at dksX6_both_1 23 rfl rfl)
theorem dX6_both_48 : decode cX6_both 48 = .ok (.invokevirtual 83, 3) := dk_182 0 83 (dk_at dksX6_both_2 0 rfl rfl)
theorem dX6_both_51 : decode cX6_both 51 = .ok (.invokevirtual 77, 3) := dk_182 0 77 (dk_at dksX6_both_2 3 rfl rfl)
theorem dX6_both_54 : decode cX6_both 54 = .ok (.pop, 1) := dk_87 (dk_at dksX6_both_2 6 rfl rfl)
theorem dX6_both_55 : decode cX6_both 55 = .ok (.goto (-21), 3) := dk_167 255 235 (dk_at dksX6_both_2 7 rfl rfl)
theorem dX6_both_58 : decode cX6_both 58 = .ok (.aload_n 2, 1) := dk_44 (dk_at dksX6_both_2 10 rfl rfl)
theorem dX6_both_59 : decode cX6_both 59 = .ok (.areturn, 1) := dk_176 (dk_at dksX6_both_2 11 rfl rfl)
abbrev cX6_plain : ByteArray := prog_12_method_15_code
def yX6_plain : MethodName := ⟨RX6, "plain", "()LForestRooms$Test;"⟩
def dkwX6_plain_1 : List UInt8 := [42, 182, 0, 93, 77, 27, 153, 0, 14, 187, 0, 96, 89, 44, 183, 0, 98, 167, 0, 4, 44, 176]
abbrev dktX6_plain_1 : List UInt8 := dkwX6_plain_1 ++ []
def dkwX6_plain_0 : List UInt8 := [3, 60, 42, 18, 91, 182, 0, 46, 153, 0, 16, 27, 154, 0, 7, 4, 167, 0, 4, 3, 60, 167, 255, 237]
abbrev dktX6_plain_0 : List UInt8 := dkwX6_plain_0 ++ dktX6_plain_1
theorem dksX6_plain_0 : cX6_plain.data.toList.drop 0 = dktX6_plain_0 := by decide +kernel
theorem dksX6_plain_1 : cX6_plain.data.toList.drop 24 = dktX6_plain_1 := dk_seg dksX6_plain_0 24 rfl rfl
theorem dX6_plain_0 : decode cX6_plain 0 = .ok (.iconst 0, 1) := dk_3 (dk_at dksX6_plain_0 0 rfl rfl)
theorem dX6_plain_1 : decode cX6_plain 1 = .ok (.istore_n 1, 1) := dk_60 (dk_at dksX6_plain_0 1 rfl rfl)
theorem dX6_plain_2 : decode cX6_plain 2 = .ok (.aload_n 0, 1) := dk_42 (dk_at dksX6_plain_0 2 rfl rfl)
theorem dX6_plain_3 : decode cX6_plain 3 = .ok (.ldc 91, 2) := dk_18 91 (dk_at dksX6_plain_0 3 rfl rfl)
theorem dX6_plain_5 : decode cX6_plain 5 = .ok (.invokevirtual 46, 3) := dk_182 0 46 (dk_at dksX6_plain_0 5 rfl rfl)
theorem dX6_plain_8 : decode cX6_plain 8 = .ok (.ifCond .eq 16, 3) := dk_153 0 16 (dk_at dksX6_plain_0 8 rfl rfl)
theorem dX6_plain_11 : decode cX6_plain 11 = .ok (.iload_n 1, 1) := dk_27 (dk_at dksX6_plain_0 11 rfl rfl)
theorem dX6_plain_12 : decode cX6_plain 12 = .ok (.ifCond .ne 7, 3) := dk_154 0 7 (dk_at dksX6_plain_0 12 rfl rfl)
theorem dX6_plain_15 : decode cX6_plain 15 = .ok (.iconst 1, 1) := dk_4 (dk_at dksX6_plain_0 15 rfl rfl)
theorem dX6_plain_16 : decode cX6_plain 16 = .ok (.goto 4, 3) := dk_167 0 4 (dk_at dksX6_plain_0 16 rfl rfl)
theorem dX6_plain_19 : decode cX6_plain 19 = .ok (.iconst 0, 1) := dk_3 (dk_at dksX6_plain_0 19 rfl rfl)
theorem dX6_plain_20 : decode cX6_plain 20 = .ok (.istore_n 1, 1) := dk_60 (dk_at dksX6_plain_0 20 rfl rfl)
theorem dX6_plain_21 : decode cX6_plain 21 = .ok (.goto (-19), 3) := dk_167 255 237 (dk_at dksX6_plain_0 21 rfl rfl)
theorem dX6_plain_24 : decode cX6_plain 24 = .ok (.aload_n 0, 1) := dk_42 (dk_at dksX6_plain_1 0 rfl rfl)
theorem dX6_plain_25 : decode cX6_plain 25 = .ok (.invokevirtual 93, 3) := dk_182 0 93 (dk_at dksX6_plain_1 1 rfl rfl)
theorem dX6_plain_28 : decode cX6_plain 28 = .ok (.astore_n 2, 1) := dk_77 (dk_at dksX6_plain_1 4 rfl rfl)
theorem dX6_plain_29 : decode cX6_plain 29 = .ok (.iload_n 1, 1) := dk_27 (dk_at dksX6_plain_1 5 rfl rfl)
theorem dX6_plain_30 : decode cX6_plain 30 = .ok (.ifCond .eq 14, 3) := dk_153 0 14 (dk_at dksX6_plain_1 6 rfl rfl)
theorem dX6_plain_33 : decode cX6_plain 33 = .ok (.new 96, 3) := dk_187 0 96 (dk_at dksX6_plain_1 9 rfl rfl)
theorem dX6_plain_36 : decode cX6_plain 36 = .ok (.dup, 1) := dk_89 (dk_at dksX6_plain_1 12 rfl rfl)
theorem dX6_plain_37 : decode cX6_plain 37 = .ok (.aload_n 2, 1) := dk_44 (dk_at dksX6_plain_1 13 rfl rfl)
theorem dX6_plain_38 : decode cX6_plain 38 = .ok (.invokespecial 98, 3) := dk_183 0 98 (dk_at dksX6_plain_1 14 rfl rfl)
theorem dX6_plain_41 : decode cX6_plain 41 = .ok (.goto 4, 3) := dk_167 0 4 (dk_at dksX6_plain_1 17 rfl rfl)
theorem dX6_plain_44 : decode cX6_plain 44 = .ok (.aload_n 2, 1) := dk_44 (dk_at dksX6_plain_1 20 rfl rfl)
theorem dX6_plain_45 : decode cX6_plain 45 = .ok (.areturn, 1) := dk_176 (dk_at dksX6_plain_1 21 rfl rfl)
abbrev cX6_positive : ByteArray := prog_12_method_16_code
def yX6_positive : MethodName := ⟨RX6, "positive", "()LForestRooms$Test;"⟩
def dkwX6_positive_4 : List UInt8 := [187, 0, 125, 89, 28, 43, 42, 182, 0, 115, 183, 0, 127, 176]
abbrev dktX6_positive_4 : List UInt8 := dkwX6_positive_4 ++ []
def dkwX6_positive_3 : List UInt8 := [89, 42, 180, 0, 22, 183, 0, 51, 191, 42, 180, 0, 9, 42, 180, 0, 22, 51, 146, 61, 42, 182, 0, 43]
abbrev dktX6_positive_3 : List UInt8 := dkwX6_positive_3 ++ dktX6_positive_4
def dkwX6_positive_2 : List UInt8 := [154, 0, 33, 42, 18, 121, 182, 0, 39, 154, 0, 24, 42, 18, 123, 182, 0, 39, 154, 0, 15, 187, 0, 49]
abbrev dktX6_positive_2 : List UInt8 := dkwX6_positive_2 ++ dktX6_positive_3
def dkwX6_positive_1 : List UInt8 := [42, 89, 180, 0, 88, 4, 100, 181, 0, 88, 43, 176, 42, 182, 0, 115, 76, 42, 18, 119, 182, 0, 39]
abbrev dktX6_positive_1 : List UInt8 := dkwX6_positive_1 ++ dktX6_positive_2
def dkwX6_positive_0 : List UInt8 := [42, 18, 101, 182, 0, 39, 153, 0, 30, 42, 182, 0, 103, 42, 182, 0, 106, 76, 42, 18, 109, 182, 0, 111]
abbrev dktX6_positive_0 : List UInt8 := dkwX6_positive_0 ++ dktX6_positive_1
theorem dksX6_positive_0 : cX6_positive.data.toList.drop 0 = dktX6_positive_0 := by decide +kernel
theorem dksX6_positive_1 : cX6_positive.data.toList.drop 24 = dktX6_positive_1 := dk_seg dksX6_positive_0 24 rfl rfl
theorem dksX6_positive_2 : cX6_positive.data.toList.drop 47 = dktX6_positive_2 := dk_seg dksX6_positive_1 23 rfl rfl
theorem dksX6_positive_3 : cX6_positive.data.toList.drop 71 = dktX6_positive_3 := dk_seg dksX6_positive_2 24 rfl rfl
theorem dksX6_positive_4 : cX6_positive.data.toList.drop 95 = dktX6_positive_4 := dk_seg dksX6_positive_3 24 rfl rfl
theorem dX6_positive_0 : decode cX6_positive 0 = .ok (.aload_n 0, 1) := dk_42 (dk_at dksX6_positive_0 0 rfl rfl)
theorem dX6_positive_1 : decode cX6_positive 1 = .ok (.ldc 101, 2) := dk_18 101 (dk_at dksX6_positive_0 1 rfl rfl)
theorem dX6_positive_3 : decode cX6_positive 3 = .ok (.invokevirtual 39, 3) := dk_182 0 39 (dk_at dksX6_positive_0 3 rfl rfl)
theorem dX6_positive_6 : decode cX6_positive 6 = .ok (.ifCond .eq 30, 3) := dk_153 0 30 (dk_at dksX6_positive_0 6 rfl rfl)
theorem dX6_positive_9 : decode cX6_positive 9 = .ok (.aload_n 0, 1) := dk_42 (dk_at dksX6_positive_0 9 rfl rfl)
theorem dX6_positive_10 : decode cX6_positive 10 = .ok (.invokevirtual 103, 3) := dk_182 0 103 (dk_at dksX6_positive_0 10 rfl rfl)
theorem dX6_positive_13 : decode cX6_positive 13 = .ok (.aload_n 0, 1) := dk_42 (dk_at dksX6_positive_0 13 rfl rfl)
theorem dX6_positive_14 : decode cX6_positive 14 = .ok (.invokevirtual 106, 3) := dk_182 0 106 (dk_at dksX6_positive_0 14 rfl rfl)
theorem dX6_positive_17 : decode cX6_positive 17 = .ok (.astore_n 1, 1) := dk_76 (dk_at dksX6_positive_0 17 rfl rfl)
theorem dX6_positive_18 : decode cX6_positive 18 = .ok (.aload_n 0, 1) := dk_42 (dk_at dksX6_positive_0 18 rfl rfl)
theorem dX6_positive_19 : decode cX6_positive 19 = .ok (.ldc 109, 2) := dk_18 109 (dk_at dksX6_positive_0 19 rfl rfl)
theorem dX6_positive_21 : decode cX6_positive 21 = .ok (.invokevirtual 111, 3) := dk_182 0 111 (dk_at dksX6_positive_0 21 rfl rfl)
theorem dX6_positive_24 : decode cX6_positive 24 = .ok (.aload_n 0, 1) := dk_42 (dk_at dksX6_positive_1 0 rfl rfl)
theorem dX6_positive_25 : decode cX6_positive 25 = .ok (.dup, 1) := dk_89 (dk_at dksX6_positive_1 1 rfl rfl)
theorem dX6_positive_26 : decode cX6_positive 26 = .ok (.getfield 88, 3) := dk_180 0 88 (dk_at dksX6_positive_1 2 rfl rfl)
theorem dX6_positive_29 : decode cX6_positive 29 = .ok (.iconst 1, 1) := dk_4 (dk_at dksX6_positive_1 5 rfl rfl)
theorem dX6_positive_30 : decode cX6_positive 30 = .ok (.isub, 1) := dk_100 (dk_at dksX6_positive_1 6 rfl rfl)
theorem dX6_positive_31 : decode cX6_positive 31 = .ok (.putfield 88, 3) := dk_181 0 88 (dk_at dksX6_positive_1 7 rfl rfl)
theorem dX6_positive_34 : decode cX6_positive 34 = .ok (.aload_n 1, 1) := dk_43 (dk_at dksX6_positive_1 10 rfl rfl)
theorem dX6_positive_35 : decode cX6_positive 35 = .ok (.areturn, 1) := dk_176 (dk_at dksX6_positive_1 11 rfl rfl)
theorem dX6_positive_36 : decode cX6_positive 36 = .ok (.aload_n 0, 1) := dk_42 (dk_at dksX6_positive_1 12 rfl rfl)
theorem dX6_positive_37 : decode cX6_positive 37 = .ok (.invokevirtual 115, 3) := dk_182 0 115 (dk_at dksX6_positive_1 13 rfl rfl)
theorem dX6_positive_40 : decode cX6_positive 40 = .ok (.astore_n 1, 1) := dk_76 (dk_at dksX6_positive_1 16 rfl rfl)
theorem dX6_positive_41 : decode cX6_positive 41 = .ok (.aload_n 0, 1) := dk_42 (dk_at dksX6_positive_1 17 rfl rfl)
theorem dX6_positive_42 : decode cX6_positive 42 = .ok (.ldc 119, 2) := dk_18 119 (dk_at dksX6_positive_1 18 rfl rfl)
theorem dX6_positive_44 : decode cX6_positive 44 = .ok (.invokevirtual 39, 3) := dk_182 0 39 (dk_at dksX6_positive_1 20 rfl rfl)
theorem dX6_positive_47 : decode cX6_positive 47 = .ok (.ifCond .ne 33, 3) := dk_154 0 33 (dk_at dksX6_positive_2 0 rfl rfl)
theorem dX6_positive_50 : decode cX6_positive 50 = .ok (.aload_n 0, 1) := dk_42 (dk_at dksX6_positive_2 3 rfl rfl)
theorem dX6_positive_51 : decode cX6_positive 51 = .ok (.ldc 121, 2) := dk_18 121 (dk_at dksX6_positive_2 4 rfl rfl)
theorem dX6_positive_53 : decode cX6_positive 53 = .ok (.invokevirtual 39, 3) := dk_182 0 39 (dk_at dksX6_positive_2 6 rfl rfl)
theorem dX6_positive_56 : decode cX6_positive 56 = .ok (.ifCond .ne 24, 3) := dk_154 0 24 (dk_at dksX6_positive_2 9 rfl rfl)
theorem dX6_positive_59 : decode cX6_positive 59 = .ok (.aload_n 0, 1) := dk_42 (dk_at dksX6_positive_2 12 rfl rfl)
theorem dX6_positive_60 : decode cX6_positive 60 = .ok (.ldc 123, 2) := dk_18 123 (dk_at dksX6_positive_2 13 rfl rfl)
theorem dX6_positive_62 : decode cX6_positive 62 = .ok (.invokevirtual 39, 3) := dk_182 0 39 (dk_at dksX6_positive_2 15 rfl rfl)
theorem dX6_positive_65 : decode cX6_positive 65 = .ok (.ifCond .ne 15, 3) := dk_154 0 15 (dk_at dksX6_positive_2 18 rfl rfl)
theorem dX6_positive_68 : decode cX6_positive 68 = .ok (.new 49, 3) := dk_187 0 49 (dk_at dksX6_positive_2 21 rfl rfl)
theorem dX6_positive_71 : decode cX6_positive 71 = .ok (.dup, 1) := dk_89 (dk_at dksX6_positive_3 0 rfl rfl)
theorem dX6_positive_72 : decode cX6_positive 72 = .ok (.aload_n 0, 1) := dk_42 (dk_at dksX6_positive_3 1 rfl rfl)
theorem dX6_positive_73 : decode cX6_positive 73 = .ok (.getfield 22, 3) := dk_180 0 22 (dk_at dksX6_positive_3 2 rfl rfl)
theorem dX6_positive_76 : decode cX6_positive 76 = .ok (.invokespecial 51, 3) := dk_183 0 51 (dk_at dksX6_positive_3 5 rfl rfl)
theorem dX6_positive_79 : decode cX6_positive 79 = .ok (.athrow, 1) := dk_191 (dk_at dksX6_positive_3 8 rfl rfl)
theorem dX6_positive_80 : decode cX6_positive 80 = .ok (.aload_n 0, 1) := dk_42 (dk_at dksX6_positive_3 9 rfl rfl)
theorem dX6_positive_81 : decode cX6_positive 81 = .ok (.getfield 9, 3) := dk_180 0 9 (dk_at dksX6_positive_3 10 rfl rfl)
theorem dX6_positive_84 : decode cX6_positive 84 = .ok (.aload_n 0, 1) := dk_42 (dk_at dksX6_positive_3 13 rfl rfl)
theorem dX6_positive_85 : decode cX6_positive 85 = .ok (.getfield 22, 3) := dk_180 0 22 (dk_at dksX6_positive_3 14 rfl rfl)
theorem dX6_positive_88 : decode cX6_positive 88 = .ok (.baload, 1) := dk_51 (dk_at dksX6_positive_3 17 rfl rfl)
theorem dX6_positive_89 : decode cX6_positive 89 = .ok (.i2c, 1) := dk_146 (dk_at dksX6_positive_3 18 rfl rfl)
theorem dX6_positive_90 : decode cX6_positive 90 = .ok (.istore_n 2, 1) := dk_61 (dk_at dksX6_positive_3 19 rfl rfl)
theorem dX6_positive_91 : decode cX6_positive 91 = .ok (.aload_n 0, 1) := dk_42 (dk_at dksX6_positive_3 20 rfl rfl)
theorem dX6_positive_92 : decode cX6_positive 92 = .ok (.invokevirtual 43, 3) := dk_182 0 43 (dk_at dksX6_positive_3 21 rfl rfl)
theorem dX6_positive_95 : decode cX6_positive 95 = .ok (.new 125, 3) := dk_187 0 125 (dk_at dksX6_positive_4 0 rfl rfl)
theorem dX6_positive_98 : decode cX6_positive 98 = .ok (.dup, 1) := dk_89 (dk_at dksX6_positive_4 3 rfl rfl)
theorem dX6_positive_99 : decode cX6_positive 99 = .ok (.iload_n 2, 1) := dk_28 (dk_at dksX6_positive_4 4 rfl rfl)
theorem dX6_positive_100 : decode cX6_positive 100 = .ok (.aload_n 1, 1) := dk_43 (dk_at dksX6_positive_4 5 rfl rfl)
theorem dX6_positive_101 : decode cX6_positive 101 = .ok (.aload_n 0, 1) := dk_42 (dk_at dksX6_positive_4 6 rfl rfl)
theorem dX6_positive_102 : decode cX6_positive 102 = .ok (.invokevirtual 115, 3) := dk_182 0 115 (dk_at dksX6_positive_4 7 rfl rfl)
theorem dX6_positive_105 : decode cX6_positive 105 = .ok (.invokespecial 127, 3) := dk_183 0 127 (dk_at dksX6_positive_4 10 rfl rfl)
theorem dX6_positive_108 : decode cX6_positive 108 = .ok (.areturn, 1) := dk_176 (dk_at dksX6_positive_4 13 rfl rfl)
theorem q125 : (Jvm.Cond.initialized "ForestRooms$Reader") ∈ lw_all := lw_g (lw_at lw_m1 15 rfl) rfl
theorem q716 : (Jvm.Cond.instanceMethod ({ cls := "ForestRooms$Reader", name := "<init>", desc := "([BI)V" } : Jvm.MethodName)) ∈ lw_all := lw_g (lw_at lw_m3 126 rfl) rfl
theorem q717 : (Jvm.Cond.code ({ cls := "ForestRooms$Reader", name := "<init>", desc := "([BI)V" } : Jvm.MethodName) prog_12_method_1_code (3 : Nat) (Option.none : Option Jvm.ClassFile.FieldType)) ∈ lw_all := lw_g (lw_at lw_m3 127 rfl) rfl
theorem q718 : (Jvm.Cond.methodLink "ForestRooms$Reader" (3 : Nat) ({ cls := "java/lang/Object", name := "<init>", desc := "()V" } : Jvm.MethodName)) ∈ lw_all := lw_g (lw_at lw_m3 128 rfl) rfl
theorem q725 : (Jvm.Cond.fieldLink "ForestRooms$Reader" (9 : Nat) "ForestRooms$Reader" "tape" "[B") ∈ lw_all := lw_g (lw_at lw_m3 135 rfl) rfl
theorem q726 : (Jvm.Cond.fieldLink "ForestRooms$Reader" (15 : Nat) "ForestRooms$Reader" "size" "I") ∈ lw_all := lw_g (lw_at lw_m3 136 rfl) rfl
theorem q727 : (Jvm.Cond.fieldLink "ForestRooms$Reader" (59 : Nat) "ForestRooms$Reader" "made" "I") ∈ lw_all := lw_g (lw_at lw_m3 137 rfl) rfl
theorem q728 : (Jvm.Cond.fieldLink "ForestRooms$Reader" (22 : Nat) "ForestRooms$Reader" "from" "I") ∈ lw_all := lw_g (lw_at lw_m3 138 rfl) rfl
theorem q729 : (Jvm.Cond.fieldLink "ForestRooms$Reader" (19 : Nat) "ForestRooms$Reader" "to" "I") ∈ lw_all := lw_g (lw_at lw_m3 139 rfl) rfl
theorem q730 : (Jvm.Cond.fieldLink "ForestRooms$Reader" (149 : Nat) "ForestRooms$Reader" "leaves" "I") ∈ lw_all := lw_g (lw_at lw_m3 140 rfl) rfl
theorem q731 : (Jvm.Cond.fieldLink "ForestRooms$Reader" (88 : Nat) "ForestRooms$Reader" "deep" "I") ∈ lw_all := lw_g (lw_at lw_m3 141 rfl) rfl
theorem q737 : (Jvm.Cond.soleField "ForestRooms$Reader" "tape") ∈ lw_all := lw_g (lw_at lw_m3 147 rfl) rfl
theorem q739 : (Jvm.Cond.soleField "ForestRooms$Reader" "size") ∈ lw_all := lw_g (lw_at lw_m3 149 rfl) rfl
theorem q741 : (Jvm.Cond.soleField "ForestRooms$Reader" "made") ∈ lw_all := lw_g (lw_at lw_m3 151 rfl) rfl
theorem q743 : (Jvm.Cond.soleField "ForestRooms$Reader" "from") ∈ lw_all := lw_g (lw_at lw_m3 153 rfl) rfl
theorem q745 : (Jvm.Cond.soleField "ForestRooms$Reader" "to") ∈ lw_all := lw_g (lw_at lw_m3 155 rfl) rfl
theorem q747 : (Jvm.Cond.soleField "ForestRooms$Reader" "leaves") ∈ lw_all := lw_g (lw_at lw_m3 157 rfl) rfl
theorem q749 : (Jvm.Cond.soleField "ForestRooms$Reader" "deep") ∈ lw_all := lw_g (lw_at lw_m3 159 rfl) rfl
theorem q757 : (Jvm.Cond.instanceMethod ({ cls := "ForestRooms$Reader", name := "read", desc := "()V" } : Jvm.MethodName)) ∈ lw_all := lw_g (lw_at lw_m3 167 rfl) rfl
theorem q758 : (Jvm.Cond.sameMethod "ForestRooms$Reader" "ForestRooms$Reader" "read" "()V") ∈ lw_all := lw_g (lw_at lw_m3 168 rfl) rfl
theorem q761 : (Jvm.Cond.code ({ cls := "ForestRooms$Reader", name := "read", desc := "()V" } : Jvm.MethodName) prog_12_method_10_code (1 : Nat) (Option.none : Option Jvm.ClassFile.FieldType)) ∈ lw_all := lw_g (lw_at lw_m3 171 rfl) rfl
theorem q762 : (Jvm.Cond.methodLink "ForestRooms$Reader" (43 : Nat) ({ cls := "ForestRooms$Reader", name := "next", desc := "()V" } : Jvm.MethodName)) ∈ lw_all := lw_g (lw_at lw_m3 172 rfl) rfl
theorem q763 : (Jvm.Cond.instanceMethod ({ cls := "ForestRooms$Reader", name := "next", desc := "()V" } : Jvm.MethodName)) ∈ lw_all := lw_g (lw_at lw_m3 173 rfl) rfl
theorem q764 : (Jvm.Cond.sameMethod "ForestRooms$Reader" "ForestRooms$Reader" "next" "()V") ∈ lw_all := lw_g (lw_at lw_m3 174 rfl) rfl
theorem q767 : (Jvm.Cond.code ({ cls := "ForestRooms$Reader", name := "next", desc := "()V" } : Jvm.MethodName) prog_12_method_3_code (1 : Nat) (Option.none : Option Jvm.ClassFile.FieldType)) ∈ lw_all := lw_g (lw_at lw_m3 177 rfl) rfl
theorem q768 : (Jvm.Cond.methodLink "ForestRooms$Reader" (25 : Nat) ({ cls := "ForestRooms$Reader", name := "isIn", desc := "(III)Z" } : Jvm.MethodName)) ∈ lw_all := lw_g (lw_at lw_m3 178 rfl) rfl
theorem q769 : (Jvm.Cond.instanceMethod ({ cls := "ForestRooms$Reader", name := "isIn", desc := "(III)Z" } : Jvm.MethodName)) ∈ lw_all := lw_g (lw_at lw_m3 179 rfl) rfl
theorem q770 : (Jvm.Cond.sameMethod "ForestRooms$Reader" "ForestRooms$Reader" "isIn" "(III)Z") ∈ lw_all := lw_g (lw_at lw_m3 180 rfl) rfl
theorem q773 : (Jvm.Cond.code ({ cls := "ForestRooms$Reader", name := "isIn", desc := "(III)Z" } : Jvm.MethodName) prog_12_method_2_code (4 : Nat) (Option.some Jvm.ClassFile.FieldType.boolean)) ∈ lw_all := lw_g (lw_at lw_m3 183 rfl) rfl
theorem q774 : (Jvm.Cond.methodLink "ForestRooms$Reader" (54 : Nat) ({ cls := "ForestRooms$Reader", name := "clause", desc := "()V" } : Jvm.MethodName)) ∈ lw_all := lw_g (lw_at lw_m3 184 rfl) rfl
theorem q775 : (Jvm.Cond.declares ({ cls := "ForestRooms$Reader", name := "clause", desc := "()V" } : Jvm.MethodName)) ∈ lw_tbl := lw_at lw_m3 185 rfl
theorem q776 : (Jvm.Cond.sameMethod "ForestRooms$Reader" "ForestRooms$Reader" "clause" "()V") ∈ lw_all := lw_g (lw_at lw_m3 186 rfl) rfl
theorem q783 : (Jvm.Cond.declares ({ cls := "ForestRooms$Reader", name := "is", desc := "(Ljava/lang/String;)Z" } : Jvm.MethodName)) ∈ lw_tbl := lw_at lw_m3 193 rfl
theorem q785 : (Jvm.Cond.instanceMethod ({ cls := "ForestRooms$Reader", name := "is", desc := "(Ljava/lang/String;)Z" } : Jvm.MethodName)) ∈ lw_all := lw_g (lw_at lw_m3 195 rfl) rfl
theorem q786 : (Jvm.Cond.code ({ cls := "ForestRooms$Reader", name := "is", desc := "(Ljava/lang/String;)Z" } : Jvm.MethodName) prog_12_method_4_code (3 : Nat) (Option.some Jvm.ClassFile.FieldType.boolean)) ∈ lw_all := lw_g (lw_at lw_m3 196 rfl) rfl
theorem q787 : (Jvm.Cond.methodLink "ForestRooms$Reader" (29 : Nat) ({ cls := "java/lang/String", name := "length", desc := "()I" } : Jvm.MethodName)) ∈ lw_all := lw_g (lw_at lw_m3 197 rfl) rfl
theorem q797 : (Jvm.Cond.methodLink "ForestRooms$Reader" (35 : Nat) ({ cls := "java/lang/String", name := "charAt", desc := "(I)C" } : Jvm.MethodName)) ∈ lw_all := lw_g (lw_at lw_m3 207 rfl) rfl
theorem q839 : (Jvm.Cond.declares ({ cls := "ForestRooms$Reader", name := "begins", desc := "(Z)V" } : Jvm.MethodName)) ∈ lw_tbl := lw_at lw_m4 9 rfl
theorem q841 : (Jvm.Cond.instanceMethod ({ cls := "ForestRooms$Reader", name := "begins", desc := "(Z)V" } : Jvm.MethodName)) ∈ lw_all := lw_g (lw_at lw_m4 11 rfl) rfl
theorem q842 : (Jvm.Cond.code ({ cls := "ForestRooms$Reader", name := "begins", desc := "(Z)V" } : Jvm.MethodName) prog_12_method_11_code (2 : Nat) (Option.none : Option Jvm.ClassFile.FieldType)) ∈ lw_all := lw_g (lw_at lw_m4 12 rfl) rfl
theorem q843 : (Jvm.Cond.classLink "ForestRooms$Reader" (49 : Nat) "ForestRooms$Fault") ∈ lw_all := lw_g (lw_at lw_m4 13 rfl) rfl
theorem q852 : (Jvm.Cond.methodLink "ForestRooms$Reader" (51 : Nat) ({ cls := "ForestRooms$Fault", name := "<init>", desc := "(I)V" } : Jvm.MethodName)) ∈ lw_all := lw_g (lw_at lw_m4 22 rfl) rfl
theorem q864 : (Jvm.Cond.declares ({ cls := "ForestRooms$Reader", name := "next", desc := "()V" } : Jvm.MethodName)) ∈ lw_tbl := lw_at lw_m4 34 rfl
theorem q887 : (Jvm.Cond.declares ({ cls := "ForestRooms$Reader", name := "sum", desc := "()LForestRooms$Sum;" } : Jvm.MethodName)) ∈ lw_tbl := lw_at lw_m4 57 rfl
theorem q889 : (Jvm.Cond.instanceMethod ({ cls := "ForestRooms$Reader", name := "sum", desc := "()LForestRooms$Sum;" } : Jvm.MethodName)) ∈ lw_all := lw_g (lw_at lw_m4 59 rfl) rfl
theorem q890 : (Jvm.Cond.code ({ cls := "ForestRooms$Reader", name := "sum", desc := "()LForestRooms$Sum;" } : Jvm.MethodName) prog_12_method_17_code (3 : Nat) (Option.some (Jvm.ClassFile.FieldType.object "ForestRooms$Sum"))) ∈ lw_all := lw_g (lw_at lw_m4 60 rfl) rfl
theorem q891 : (Jvm.Cond.methodLink "ForestRooms$Reader" (130 : Nat) ({ cls := "ForestRooms$Reader", name := "term", desc := "()LForestRooms$Sum;" } : Jvm.MethodName)) ∈ lw_all := lw_g (lw_at lw_m4 61 rfl) rfl
theorem q892 : (Jvm.Cond.instanceMethod ({ cls := "ForestRooms$Reader", name := "term", desc := "()LForestRooms$Sum;" } : Jvm.MethodName)) ∈ lw_all := lw_g (lw_at lw_m4 62 rfl) rfl
theorem q893 : (Jvm.Cond.sameMethod "ForestRooms$Reader" "ForestRooms$Reader" "term" "()LForestRooms$Sum;") ∈ lw_all := lw_g (lw_at lw_m4 63 rfl) rfl
theorem q896 : (Jvm.Cond.code ({ cls := "ForestRooms$Reader", name := "term", desc := "()LForestRooms$Sum;" } : Jvm.MethodName) prog_12_method_18_code (3 : Nat) (Option.some (Jvm.ClassFile.FieldType.object "ForestRooms$Sum"))) ∈ lw_all := lw_g (lw_at lw_m4 66 rfl) rfl
theorem q897 : (Jvm.Cond.methodLink "ForestRooms$Reader" (140 : Nat) ({ cls := "ForestRooms$Reader", name := "part", desc := "()LForestRooms$Sum;" } : Jvm.MethodName)) ∈ lw_all := lw_g (lw_at lw_m4 67 rfl) rfl
theorem q898 : (Jvm.Cond.instanceMethod ({ cls := "ForestRooms$Reader", name := "part", desc := "()LForestRooms$Sum;" } : Jvm.MethodName)) ∈ lw_all := lw_g (lw_at lw_m4 68 rfl) rfl
theorem q899 : (Jvm.Cond.sameMethod "ForestRooms$Reader" "ForestRooms$Reader" "part" "()LForestRooms$Sum;") ∈ lw_all := lw_g (lw_at lw_m4 69 rfl) rfl
theorem q902 : (Jvm.Cond.code ({ cls := "ForestRooms$Reader", name := "part", desc := "()LForestRooms$Sum;" } : Jvm.MethodName) prog_12_method_20_code (2 : Nat) (Option.some (Jvm.ClassFile.FieldType.object "ForestRooms$Sum"))) ∈ lw_all := lw_g (lw_at lw_m4 72 rfl) rfl
theorem q903 : (Jvm.Cond.stringRef "ForestRooms$Reader" (152 : Nat) "[") ∈ lw_tbl := lw_at lw_m4 73 rfl
theorem q904 : (Jvm.Cond.methodLink "ForestRooms$Reader" (39 : Nat) ({ cls := "ForestRooms$Reader", name := "is", desc := "(Ljava/lang/String;)Z" } : Jvm.MethodName)) ∈ lw_all := lw_g (lw_at lw_m4 74 rfl) rfl
theorem q905 : (Jvm.Cond.methodLink "ForestRooms$Reader" (103 : Nat) ({ cls := "ForestRooms$Reader", name := "opens", desc := "()V" } : Jvm.MethodName)) ∈ lw_all := lw_g (lw_at lw_m4 75 rfl) rfl
theorem q906 : (Jvm.Cond.instanceMethod ({ cls := "ForestRooms$Reader", name := "opens", desc := "()V" } : Jvm.MethodName)) ∈ lw_all := lw_g (lw_at lw_m4 76 rfl) rfl
theorem q907 : (Jvm.Cond.sameMethod "ForestRooms$Reader" "ForestRooms$Reader" "opens" "()V") ∈ lw_all := lw_g (lw_at lw_m4 77 rfl) rfl
theorem q910 : (Jvm.Cond.code ({ cls := "ForestRooms$Reader", name := "opens", desc := "()V" } : Jvm.MethodName) prog_12_method_14_code (1 : Nat) (Option.none : Option Jvm.ClassFile.FieldType)) ∈ lw_all := lw_g (lw_at lw_m4 80 rfl) rfl
theorem q911 : (Jvm.Cond.methodLink "ForestRooms$Reader" (115 : Nat) ({ cls := "ForestRooms$Reader", name := "sum", desc := "()LForestRooms$Sum;" } : Jvm.MethodName)) ∈ lw_all := lw_g (lw_at lw_m4 81 rfl) rfl
theorem q912 : (Jvm.Cond.stringRef "ForestRooms$Reader" (154 : Nat) "]") ∈ lw_tbl := lw_at lw_m4 82 rfl
theorem q913 : (Jvm.Cond.methodLink "ForestRooms$Reader" (111 : Nat) ({ cls := "ForestRooms$Reader", name := "need", desc := "(Ljava/lang/String;)V" } : Jvm.MethodName)) ∈ lw_all := lw_g (lw_at lw_m4 83 rfl) rfl
theorem q914 : (Jvm.Cond.instanceMethod ({ cls := "ForestRooms$Reader", name := "need", desc := "(Ljava/lang/String;)V" } : Jvm.MethodName)) ∈ lw_all := lw_g (lw_at lw_m4 84 rfl) rfl
theorem q915 : (Jvm.Cond.sameMethod "ForestRooms$Reader" "ForestRooms$Reader" "need" "(Ljava/lang/String;)V") ∈ lw_all := lw_g (lw_at lw_m4 85 rfl) rfl
theorem q918 : (Jvm.Cond.code ({ cls := "ForestRooms$Reader", name := "need", desc := "(Ljava/lang/String;)V" } : Jvm.MethodName) prog_12_method_6_code (2 : Nat) (Option.none : Option Jvm.ClassFile.FieldType)) ∈ lw_all := lw_g (lw_at lw_m4 88 rfl) rfl
theorem q919 : (Jvm.Cond.methodLink "ForestRooms$Reader" (46 : Nat) ({ cls := "ForestRooms$Reader", name := "takes", desc := "(Ljava/lang/String;)Z" } : Jvm.MethodName)) ∈ lw_all := lw_g (lw_at lw_m4 89 rfl) rfl
theorem q920 : (Jvm.Cond.instanceMethod ({ cls := "ForestRooms$Reader", name := "takes", desc := "(Ljava/lang/String;)Z" } : Jvm.MethodName)) ∈ lw_all := lw_g (lw_at lw_m4 90 rfl) rfl
theorem q921 : (Jvm.Cond.sameMethod "ForestRooms$Reader" "ForestRooms$Reader" "takes" "(Ljava/lang/String;)Z") ∈ lw_all := lw_g (lw_at lw_m4 91 rfl) rfl
theorem q924 : (Jvm.Cond.code ({ cls := "ForestRooms$Reader", name := "takes", desc := "(Ljava/lang/String;)Z" } : Jvm.MethodName) prog_12_method_5_code (3 : Nat) (Option.some Jvm.ClassFile.FieldType.boolean)) ∈ lw_all := lw_g (lw_at lw_m4 94 rfl) rfl
theorem q925 : (Jvm.Cond.methodLink "ForestRooms$Reader" (156 : Nat) ({ cls := "ForestRooms$Reader", name := "leaf", desc := "()V" } : Jvm.MethodName)) ∈ lw_all := lw_g (lw_at lw_m4 95 rfl) rfl
theorem q926 : (Jvm.Cond.instanceMethod ({ cls := "ForestRooms$Reader", name := "leaf", desc := "()V" } : Jvm.MethodName)) ∈ lw_all := lw_g (lw_at lw_m4 96 rfl) rfl
theorem q927 : (Jvm.Cond.sameMethod "ForestRooms$Reader" "ForestRooms$Reader" "leaf" "()V") ∈ lw_all := lw_g (lw_at lw_m4 97 rfl) rfl
theorem q930 : (Jvm.Cond.code ({ cls := "ForestRooms$Reader", name := "leaf", desc := "()V" } : Jvm.MethodName) prog_12_method_19_code (1 : Nat) (Option.none : Option Jvm.ClassFile.FieldType)) ∈ lw_all := lw_g (lw_at lw_m4 100 rfl) rfl
theorem q931 : (Jvm.Cond.classLink "ForestRooms$Reader" (159 : Nat) "ForestRooms$Number") ∈ lw_all := lw_g (lw_at lw_m4 101 rfl) rfl
theorem q933 : (Jvm.Cond.methodLink "ForestRooms$Reader" (161 : Nat) ({ cls := "ForestRooms$Reader", name := "number", desc := "(II)I" } : Jvm.MethodName)) ∈ lw_all := lw_g (lw_at lw_m4 103 rfl) rfl
theorem q934 : (Jvm.Cond.instanceMethod ({ cls := "ForestRooms$Reader", name := "number", desc := "(II)I" } : Jvm.MethodName)) ∈ lw_all := lw_g (lw_at lw_m4 104 rfl) rfl
theorem q935 : (Jvm.Cond.sameMethod "ForestRooms$Reader" "ForestRooms$Reader" "number" "(II)I") ∈ lw_all := lw_g (lw_at lw_m4 105 rfl) rfl
theorem q938 : (Jvm.Cond.code ({ cls := "ForestRooms$Reader", name := "number", desc := "(II)I" } : Jvm.MethodName) prog_12_method_7_code (5 : Nat) (Option.some Jvm.ClassFile.FieldType.int)) ∈ lw_all := lw_g (lw_at lw_m4 108 rfl) rfl
theorem q939 : (Jvm.Cond.methodLink "ForestRooms$Reader" (165 : Nat) ({ cls := "ForestRooms$Number", name := "<init>", desc := "(I)V" } : Jvm.MethodName)) ∈ lw_all := lw_g (lw_at lw_m4 109 rfl) rfl
theorem q950 : (Jvm.Cond.methodLink "ForestRooms$Reader" (166 : Nat) ({ cls := "ForestRooms$Reader", name := "value", desc := "()I" } : Jvm.MethodName)) ∈ lw_all := lw_g (lw_at lw_m4 120 rfl) rfl
theorem q951 : (Jvm.Cond.declares ({ cls := "ForestRooms$Reader", name := "value", desc := "()I" } : Jvm.MethodName)) ∈ lw_tbl := lw_at lw_m4 121 rfl
theorem q952 : (Jvm.Cond.sameMethod "ForestRooms$Reader" "ForestRooms$Reader" "value" "()I") ∈ lw_all := lw_g (lw_at lw_m4 122 rfl) rfl
theorem q959 : (Jvm.Cond.declares ({ cls := "ForestRooms$Reader", name := "isValue", desc := "(Ljava/lang/String;)Z" } : Jvm.MethodName)) ∈ lw_tbl := lw_at lw_m4 129 rfl
theorem q961 : (Jvm.Cond.instanceMethod ({ cls := "ForestRooms$Reader", name := "isValue", desc := "(Ljava/lang/String;)Z" } : Jvm.MethodName)) ∈ lw_all := lw_g (lw_at lw_m4 131 rfl) rfl
theorem q962 : (Jvm.Cond.code ({ cls := "ForestRooms$Reader", name := "isValue", desc := "(Ljava/lang/String;)Z" } : Jvm.MethodName) prog_12_method_21_code (2 : Nat) (Option.some Jvm.ClassFile.FieldType.boolean)) ∈ lw_all := lw_g (lw_at lw_m4 132 rfl) rfl
theorem q986 : (Jvm.Cond.declares ({ cls := "ForestRooms$Reader", name := "number", desc := "(II)I" } : Jvm.MethodName)) ∈ lw_tbl := lw_at lw_m4 156 rfl
theorem q990 : (Jvm.Cond.classLink "ForestRooms$Reader" (169 : Nat) "ForestRooms$Value") ∈ lw_all := lw_g (lw_at lw_m4 160 rfl) rfl
theorem q992 : (Jvm.Cond.methodLink "ForestRooms$Reader" (171 : Nat) ({ cls := "ForestRooms$Value", name := "<init>", desc := "(I)V" } : Jvm.MethodName)) ∈ lw_all := lw_g (lw_at lw_m4 162 rfl) rfl
theorem q1000 : (Jvm.Cond.stringRef "ForestRooms$Reader" (143 : Nat) "*") ∈ lw_tbl := lw_at lw_m4 170 rfl
theorem q1001 : (Jvm.Cond.stringRef "ForestRooms$Reader" (145 : Nat) "/") ∈ lw_tbl := lw_at lw_m4 171 rfl
theorem q1002 : (Jvm.Cond.stringRef "ForestRooms$Reader" (147 : Nat) "%") ∈ lw_tbl := lw_at lw_m4 172 rfl
theorem q1003 : (Jvm.Cond.classLink "ForestRooms$Reader" (137 : Nat) "ForestRooms$Two") ∈ lw_all := lw_g (lw_at lw_m4 173 rfl) rfl
theorem q1005 : (Jvm.Cond.methodLink "ForestRooms$Reader" (139 : Nat) ({ cls := "ForestRooms$Two", name := "<init>", desc := "(CLForestRooms$Sum;LForestRooms$Sum;)V" } : Jvm.MethodName)) ∈ lw_all := lw_g (lw_at lw_m4 175 rfl) rfl
theorem q1019 : (Jvm.Cond.stringRef "ForestRooms$Reader" (133 : Nat) "+") ∈ lw_tbl := lw_at lw_m4 189 rfl
theorem q1020 : (Jvm.Cond.stringRef "ForestRooms$Reader" (135 : Nat) "-") ∈ lw_tbl := lw_at lw_m4 190 rfl
theorem q1024 : (Jvm.Cond.declares ({ cls := "ForestRooms$Reader", name := "takes", desc := "(Ljava/lang/String;)Z" } : Jvm.MethodName)) ∈ lw_tbl := lw_at lw_m4 194 rfl
theorem q1028 : (Jvm.Cond.declares ({ cls := "ForestRooms$Reader", name := "test", desc := "()LForestRooms$Test;" } : Jvm.MethodName)) ∈ lw_tbl := lw_at lw_m4 198 rfl
theorem q1030 : (Jvm.Cond.instanceMethod ({ cls := "ForestRooms$Reader", name := "test", desc := "()LForestRooms$Test;" } : Jvm.MethodName)) ∈ lw_all := lw_g (lw_at lw_m4 200 rfl) rfl
theorem q1031 : (Jvm.Cond.code ({ cls := "ForestRooms$Reader", name := "test", desc := "()LForestRooms$Test;" } : Jvm.MethodName) prog_12_method_12_code (3 : Nat) (Option.some (Jvm.ClassFile.FieldType.object "ForestRooms$Test"))) ∈ lw_all := lw_g (lw_at lw_m4 201 rfl) rfl
theorem q1032 : (Jvm.Cond.methodLink "ForestRooms$Reader" (62 : Nat) ({ cls := "ForestRooms$Reader", name := "both", desc := "()LForestRooms$Test;" } : Jvm.MethodName)) ∈ lw_all := lw_g (lw_at lw_m4 202 rfl) rfl
theorem q1033 : (Jvm.Cond.instanceMethod ({ cls := "ForestRooms$Reader", name := "both", desc := "()LForestRooms$Test;" } : Jvm.MethodName)) ∈ lw_all := lw_g (lw_at lw_m4 203 rfl) rfl
theorem q1034 : (Jvm.Cond.sameMethod "ForestRooms$Reader" "ForestRooms$Reader" "both" "()LForestRooms$Test;") ∈ lw_all := lw_g (lw_at lw_m4 204 rfl) rfl
theorem q1037 : (Jvm.Cond.code ({ cls := "ForestRooms$Reader", name := "both", desc := "()LForestRooms$Test;" } : Jvm.MethodName) prog_12_method_13_code (3 : Nat) (Option.some (Jvm.ClassFile.FieldType.object "ForestRooms$Test"))) ∈ lw_all := lw_g (lw_at lw_m4 207 rfl) rfl
theorem q1038 : (Jvm.Cond.methodLink "ForestRooms$Reader" (83 : Nat) ({ cls := "ForestRooms$Reader", name := "plain", desc := "()LForestRooms$Test;" } : Jvm.MethodName)) ∈ lw_all := lw_g (lw_at lw_m4 208 rfl) rfl
theorem q1039 : (Jvm.Cond.instanceMethod ({ cls := "ForestRooms$Reader", name := "plain", desc := "()LForestRooms$Test;" } : Jvm.MethodName)) ∈ lw_all := lw_g (lw_at lw_m4 209 rfl) rfl
theorem q1040 : (Jvm.Cond.sameMethod "ForestRooms$Reader" "ForestRooms$Reader" "plain" "()LForestRooms$Test;") ∈ lw_all := lw_g (lw_at lw_m4 210 rfl) rfl
theorem q1043 : (Jvm.Cond.code ({ cls := "ForestRooms$Reader", name := "plain", desc := "()LForestRooms$Test;" } : Jvm.MethodName) prog_12_method_15_code (3 : Nat) (Option.some (Jvm.ClassFile.FieldType.object "ForestRooms$Test"))) ∈ lw_all := lw_g (lw_at lw_m4 213 rfl) rfl
theorem q1044 : (Jvm.Cond.stringRef "ForestRooms$Reader" (91 : Nat) "not") ∈ lw_tbl := lw_at lw_m4 214 rfl
theorem q1045 : (Jvm.Cond.methodLink "ForestRooms$Reader" (93 : Nat) ({ cls := "ForestRooms$Reader", name := "positive", desc := "()LForestRooms$Test;" } : Jvm.MethodName)) ∈ lw_all := lw_g (lw_at lw_m4 215 rfl) rfl
theorem q1046 : (Jvm.Cond.instanceMethod ({ cls := "ForestRooms$Reader", name := "positive", desc := "()LForestRooms$Test;" } : Jvm.MethodName)) ∈ lw_all := lw_g (lw_at lw_m4 216 rfl) rfl
theorem q1047 : (Jvm.Cond.sameMethod "ForestRooms$Reader" "ForestRooms$Reader" "positive" "()LForestRooms$Test;") ∈ lw_all := lw_g (lw_at lw_m4 217 rfl) rfl
theorem q1050 : (Jvm.Cond.code ({ cls := "ForestRooms$Reader", name := "positive", desc := "()LForestRooms$Test;" } : Jvm.MethodName) prog_12_method_16_code (3 : Nat) (Option.some (Jvm.ClassFile.FieldType.object "ForestRooms$Test"))) ∈ lw_all := lw_g (lw_at lw_m4 220 rfl) rfl
theorem q1051 : (Jvm.Cond.stringRef "ForestRooms$Reader" (101 : Nat) "(") ∈ lw_tbl := lw_at lw_m4 221 rfl
theorem q1052 : (Jvm.Cond.methodLink "ForestRooms$Reader" (106 : Nat) ({ cls := "ForestRooms$Reader", name := "test", desc := "()LForestRooms$Test;" } : Jvm.MethodName)) ∈ lw_all := lw_g (lw_at lw_m4 222 rfl) rfl
theorem q1053 : (Jvm.Cond.stringRef "ForestRooms$Reader" (109 : Nat) ")") ∈ lw_tbl := lw_at lw_m4 223 rfl
theorem q1054 : (Jvm.Cond.stringRef "ForestRooms$Reader" (119 : Nat) "<") ∈ lw_tbl := lw_at lw_m4 224 rfl
theorem q1055 : (Jvm.Cond.stringRef "ForestRooms$Reader" (121 : Nat) ">") ∈ lw_tbl := lw_at lw_m4 225 rfl
theorem q1056 : (Jvm.Cond.stringRef "ForestRooms$Reader" (123 : Nat) "=") ∈ lw_tbl := lw_at lw_m4 226 rfl
theorem q1057 : (Jvm.Cond.classLink "ForestRooms$Reader" (125 : Nat) "ForestRooms$Compare") ∈ lw_all := lw_g (lw_at lw_m4 227 rfl) rfl
theorem q1059 : (Jvm.Cond.methodLink "ForestRooms$Reader" (127 : Nat) ({ cls := "ForestRooms$Compare", name := "<init>", desc := "(CLForestRooms$Sum;LForestRooms$Sum;)V" } : Jvm.MethodName)) ∈ lw_all := lw_g (lw_at lw_m4 229 rfl) rfl
theorem q1076 : (Jvm.Cond.classLink "ForestRooms$Reader" (96 : Nat) "ForestRooms$Not") ∈ lw_all := lw_g (lw_at lw_m5 6 rfl) rfl
theorem q1078 : (Jvm.Cond.methodLink "ForestRooms$Reader" (98 : Nat) ({ cls := "ForestRooms$Not", name := "<init>", desc := "(LForestRooms$Test;)V" } : Jvm.MethodName)) ∈ lw_all := lw_g (lw_at lw_m5 8 rfl) rfl
theorem q1086 : (Jvm.Cond.stringRef "ForestRooms$Reader" (86 : Nat) "and") ∈ lw_tbl := lw_at lw_m5 16 rfl
theorem q1087 : (Jvm.Cond.classLink "ForestRooms$Reader" (68 : Nat) "ForestRooms$Several") ∈ lw_all := lw_g (lw_at lw_m5 17 rfl) rfl
theorem q1089 : (Jvm.Cond.methodLink "ForestRooms$Reader" (70 : Nat) ({ cls := "ForestRooms$Several", name := "<init>", desc := "(Z)V" } : Jvm.MethodName)) ∈ lw_all := lw_g (lw_at lw_m5 19 rfl) rfl
theorem q1097 : (Jvm.Cond.fieldLinkNest "ForestRooms$Reader" (73 : Nat) "ForestRooms$Several" "of" "Ljava/util/ArrayList;" "ForestRooms") ∈ lw_tbl := lw_at lw_m5 27 rfl
theorem q1103 : (Jvm.Cond.methodLink "ForestRooms$Reader" (77 : Nat) ({ cls := "java/util/ArrayList", name := "add", desc := "(Ljava/lang/Object;)Z" } : Jvm.MethodName)) ∈ lw_all := lw_g (lw_at lw_m5 33 rfl) rfl
theorem q1115 : (Jvm.Cond.stringRef "ForestRooms$Reader" (66 : Nat) "or") ∈ lw_tbl := lw_at lw_m5 45 rfl
theorem q1170 : (Jvm.Cond.declares ({ cls := "ForestRooms$Reader", name := "need", desc := "(Ljava/lang/String;)V" } : Jvm.MethodName)) ∈ lw_tbl := lw_at lw_m5 100 rfl
theorem q1181 : (Jvm.Cond.stringRef "ForestRooms$Reader" (57 : Nat) ";") ∈ lw_tbl := lw_at lw_m5 111 rfl
theorem q2228 : (Jvm.Cond.sameMethod "ForestRooms$Reader" "ForestRooms$Reader" "is" "(Ljava/lang/String;)Z") ∈ lw_all := lw_g (lw_at lw_m9 198 rfl) rfl
theorem q2231 : (Jvm.Cond.sameMethod "ForestRooms$Reader" "ForestRooms$Reader" "sum" "()LForestRooms$Sum;") ∈ lw_all := lw_g (lw_at lw_m9 201 rfl) rfl
theorem q2234 : (Jvm.Cond.sameMethod "ForestRooms$Reader" "ForestRooms$Reader" "test" "()LForestRooms$Test;") ∈ lw_all := lw_g (lw_at lw_m9 204 rfl) rfl
/-! ForestRooms$LawReader -/
set_option maxRecDepth 100000
def RX7 : String := "ForestRooms$LawReader"
def TX7 : u_T := fun k => match k with
  | 0 => ("ForestRooms$Reader", "tape", "[B", true)
  | 1 => ("ForestRooms$Reader", "size", "I", true)
  | 2 => ("ForestRooms$Reader", "made", "I", false)
  | 3 => ("ForestRooms$Reader", "from", "I", false)
  | 4 => ("ForestRooms$Reader", "to", "I", false)
  | 5 => ("ForestRooms$Reader", "leaves", "I", false)
  | 6 => ("ForestRooms$Reader", "deep", "I", false)
  | 7 => ("ForestRooms$LawReader", "clauses", "Ljava/util/ArrayList;", true)
  | _ => ("ForestRooms$LawReader", "comes", "Z", false)
def tyX7 : Nat → FieldType := fun k => match k with
  | 0 => .array .byte
  | 1 => .int
  | 2 => .int
  | 3 => .int
  | 4 => .int
  | 5 => .int
  | 6 => .int
  | 7 => .object "java/util/ArrayList"
  | _ => .boolean
abbrev wsX70 : List Cond := u_ws RX7 TX7 9
theorem nmX7 : ∀ a, a < 9 → ∀ b, b < 9 → a ≠ b → (TX7 a).2.1 ≠ (TX7 b).2.1 := by decide +kernel
theorem tyX7_ok : ∀ k, k < 9 → parseFieldDescriptor (TX7 k).2.2.1 = some (tyX7 k) := by decide +kernel
abbrev cX7_init : ByteArray := prog_7_method_1_code
def yX7_init : MethodName := ⟨RX7, "<init>", "([BI)V"⟩
def dkwX7_init_0 : List UInt8 := [42, 43, 28, 183, 0, 3, 42, 187, 0, 9, 89, 5, 183, 0, 11, 181, 0, 14, 177]
abbrev dktX7_init_0 : List UInt8 := dkwX7_init_0 ++ []
theorem dksX7_init_0 : cX7_init.data.toList.drop 0 = dktX7_init_0 := by decide +kernel
theorem dX7_init_0 : decode cX7_init 0 = .ok (.aload_n 0, 1) := dk_42 (dk_at dksX7_init_0 0 rfl rfl)
theorem dX7_init_1 : decode cX7_init 1 = .ok (.aload_n 1, 1) := dk_43 (dk_at dksX7_init_0 1 rfl rfl)
theorem dX7_init_2 : decode cX7_init 2 = .ok (.iload_n 2, 1) := dk_28 (dk_at dksX7_init_0 2 rfl rfl)
theorem dX7_init_3 : decode cX7_init 3 = .ok (.invokespecial 3, 3) := dk_183 0 3 (dk_at dksX7_init_0 3 rfl rfl)
theorem dX7_init_6 : decode cX7_init 6 = .ok (.aload_n 0, 1) := dk_42 (dk_at dksX7_init_0 6 rfl rfl)
theorem dX7_init_7 : decode cX7_init 7 = .ok (.new 9, 3) := dk_187 0 9 (dk_at dksX7_init_0 7 rfl rfl)
theorem dX7_init_10 : decode cX7_init 10 = .ok (.dup, 1) := dk_89 (dk_at dksX7_init_0 10 rfl rfl)
theorem dX7_init_11 : decode cX7_init 11 = .ok (.iconst 2, 1) := dk_5 (dk_at dksX7_init_0 11 rfl rfl)
theorem dX7_init_12 : decode cX7_init 12 = .ok (.invokespecial 11, 3) := dk_183 0 11 (dk_at dksX7_init_0 12 rfl rfl)
theorem dX7_init_15 : decode cX7_init 15 = .ok (.putfield 14, 3) := dk_181 0 14 (dk_at dksX7_init_0 15 rfl rfl)
theorem dX7_init_18 : decode cX7_init 18 = .ok (.return_, 1) := dk_177 (dk_at dksX7_init_0 18 rfl rfl)
abbrev cX7_clause : ByteArray := prog_7_method_2_code
def yX7_clause : MethodName := ⟨RX7, "clause", "()V"⟩
def dkwX7_clause_6 : List UInt8 := [3, 181, 0, 65, 42, 180, 0, 14, 44, 182, 0, 68, 87, 177]
abbrev dktX7_clause_6 : List UInt8 := dkwX7_clause_6 ++ []
def dkwX7_clause_5 : List UInt8 := [42, 182, 0, 57, 181, 0, 61, 42, 42, 180, 0, 65, 154, 0, 8, 27, 6, 160, 0, 7, 4, 167, 0, 4]
abbrev dktX7_clause_5 : List UInt8 := dkwX7_clause_5 ++ dktX7_clause_6
def dkwX7_clause_4 : List UInt8 := [77, 27, 6, 162, 0, 11, 44, 42, 182, 0, 45, 181, 0, 49, 42, 18, 52, 182, 0, 54, 153, 0, 11, 44]
abbrev dktX7_clause_4 : List UInt8 := dkwX7_clause_4 ++ dktX7_clause_5
def dkwX7_clause_3 : List UInt8 := [2, 159, 0, 7, 4, 167, 0, 4, 3, 182, 0, 34, 42, 182, 0, 38, 187, 0, 42, 89, 27, 183, 0, 44]
abbrev dktX7_clause_3 : List UInt8 := dkwX7_clause_3 ++ dktX7_clause_4
def dkwX7_clause_2 : List UInt8 := [153, 0, 7, 6, 167, 0, 17, 42, 18, 32, 182, 0, 22, 153, 0, 7, 7, 167, 0, 4, 2, 60, 42, 27]
abbrev dktX7_clause_2 : List UInt8 := dkwX7_clause_2 ++ dktX7_clause_3
def dkwX7_clause_1 : List UInt8 := [167, 0, 43, 42, 18, 28, 182, 0, 22, 153, 0, 7, 5, 167, 0, 30, 42, 18, 30, 182, 0, 22]
abbrev dktX7_clause_1 : List UInt8 := dkwX7_clause_1 ++ dktX7_clause_2
def dkwX7_clause_0 : List UInt8 := [42, 18, 20, 182, 0, 22, 153, 0, 7, 3, 167, 0, 56, 42, 18, 26, 182, 0, 22, 153, 0, 7, 4]
abbrev dktX7_clause_0 : List UInt8 := dkwX7_clause_0 ++ dktX7_clause_1
theorem dksX7_clause_0 : cX7_clause.data.toList.drop 0 = dktX7_clause_0 := by decide +kernel
theorem dksX7_clause_1 : cX7_clause.data.toList.drop 23 = dktX7_clause_1 := dk_seg dksX7_clause_0 23 rfl rfl
theorem dksX7_clause_2 : cX7_clause.data.toList.drop 45 = dktX7_clause_2 := dk_seg dksX7_clause_1 22 rfl rfl
theorem dksX7_clause_3 : cX7_clause.data.toList.drop 69 = dktX7_clause_3 := dk_seg dksX7_clause_2 24 rfl rfl
theorem dksX7_clause_4 : cX7_clause.data.toList.drop 93 = dktX7_clause_4 := dk_seg dksX7_clause_3 24 rfl rfl
theorem dksX7_clause_5 : cX7_clause.data.toList.drop 117 = dktX7_clause_5 := dk_seg dksX7_clause_4 24 rfl rfl
theorem dksX7_clause_6 : cX7_clause.data.toList.drop 141 = dktX7_clause_6 := dk_seg dksX7_clause_5 24 rfl rfl
theorem dX7_clause_0 : decode cX7_clause 0 = .ok (.aload_n 0, 1) := dk_42 (dk_at dksX7_clause_0 0 rfl rfl)
theorem dX7_clause_1 : decode cX7_clause 1 = .ok (.ldc 20, 2) := dk_18 20 (dk_at dksX7_clause_0 1 rfl rfl)
theorem dX7_clause_3 : decode cX7_clause 3 = .ok (.invokevirtual 22, 3) := dk_182 0 22 (dk_at dksX7_clause_0 3 rfl rfl)
theorem dX7_clause_6 : decode cX7_clause 6 = .ok (.ifCond .eq 7, 3) := dk_153 0 7 (dk_at dksX7_clause_0 6 rfl rfl)
theorem dX7_clause_9 : decode cX7_clause 9 = .ok (.iconst 0, 1) := dk_3 (dk_at dksX7_clause_0 9 rfl rfl)
theorem dX7_clause_10 : decode cX7_clause 10 = .ok (.goto 56, 3) := dk_167 0 56 (dk_at dksX7_clause_0 10 rfl rfl)
theorem dX7_clause_13 : decode cX7_clause 13 = .ok (.aload_n 0, 1) := dk_42 (dk_at dksX7_clause_0 13 rfl rfl)
theorem dX7_clause_14 : decode cX7_clause 14 = .ok (.ldc 26, 2) := dk_18 26 (dk_at dksX7_clause_0 14 rfl rfl)
theorem dX7_clause_16 : decode cX7_clause 16 = .ok (.invokevirtual 22, 3) := dk_182 0 22 (dk_at dksX7_clause_0 16 rfl rfl)
theorem dX7_clause_19 : decode cX7_clause 19 = .ok (.ifCond .eq 7, 3) := dk_153 0 7 (dk_at dksX7_clause_0 19 rfl rfl)
theorem dX7_clause_22 : decode cX7_clause 22 = .ok (.iconst 1, 1) := dk_4 (dk_at dksX7_clause_0 22 rfl rfl)
theorem dX7_clause_23 : decode cX7_clause 23 = .ok (.goto 43, 3) := dk_167 0 43 (dk_at dksX7_clause_1 0 rfl rfl)
theorem dX7_clause_26 : decode cX7_clause 26 = .ok (.aload_n 0, 1) := dk_42 (dk_at dksX7_clause_1 3 rfl rfl)
theorem dX7_clause_27 : decode cX7_clause 27 = .ok (.ldc 28, 2) := dk_18 28 (dk_at dksX7_clause_1 4 rfl rfl)
theorem dX7_clause_29 : decode cX7_clause 29 = .ok (.invokevirtual 22, 3) := dk_182 0 22 (dk_at dksX7_clause_1 6 rfl rfl)
theorem dX7_clause_32 : decode cX7_clause 32 = .ok (.ifCond .eq 7, 3) := dk_153 0 7 (dk_at dksX7_clause_1 9 rfl rfl)
theorem dX7_clause_35 : decode cX7_clause 35 = .ok (.iconst 2, 1) := dk_5 (dk_at dksX7_clause_1 12 rfl rfl)
theorem dX7_clause_36 : decode cX7_clause 36 = .ok (.goto 30, 3) := dk_167 0 30 (dk_at dksX7_clause_1 13 rfl rfl)
theorem dX7_clause_39 : decode cX7_clause 39 = .ok (.aload_n 0, 1) := dk_42 (dk_at dksX7_clause_1 16 rfl rfl)
theorem dX7_clause_40 : decode cX7_clause 40 = .ok (.ldc 30, 2) := dk_18 30 (dk_at dksX7_clause_1 17 rfl rfl)
theorem dX7_clause_42 : decode cX7_clause 42 = .ok (.invokevirtual 22, 3) := dk_182 0 22 (dk_at dksX7_clause_1 19 rfl rfl)
theorem dX7_clause_45 : decode cX7_clause 45 = .ok (.ifCond .eq 7, 3) := dk_153 0 7 (dk_at dksX7_clause_2 0 rfl rfl)
theorem dX7_clause_48 : decode cX7_clause 48 = .ok (.iconst 3, 1) := dk_6 (dk_at dksX7_clause_2 3 rfl rfl)
theorem dX7_clause_49 : decode cX7_clause 49 = .ok (.goto 17, 3) := dk_167 0 17 (dk_at dksX7_clause_2 4 rfl rfl)
theorem dX7_clause_52 : decode cX7_clause 52 = .ok (.aload_n 0, 1) := dk_42 (dk_at dksX7_clause_2 7 rfl rfl)
theorem dX7_clause_53 : decode cX7_clause 53 = .ok (.ldc 32, 2) := dk_18 32 (dk_at dksX7_clause_2 8 rfl rfl)
theorem dX7_clause_55 : decode cX7_clause 55 = .ok (.invokevirtual 22, 3) := dk_182 0 22 (dk_at dksX7_clause_2 10 rfl rfl)
theorem dX7_clause_58 : decode cX7_clause 58 = .ok (.ifCond .eq 7, 3) := dk_153 0 7 (dk_at dksX7_clause_2 13 rfl rfl)
theorem dX7_clause_61 : decode cX7_clause 61 = .ok (.iconst 4, 1) := dk_7 (dk_at dksX7_clause_2 16 rfl rfl)
theorem dX7_clause_62 : decode cX7_clause 62 = .ok (.goto 4, 3) := dk_167 0 4 (dk_at dksX7_clause_2 17 rfl rfl)
theorem dX7_clause_65 : decode cX7_clause 65 = .ok (.iconst (-1), 1) := dk_2 (dk_at dksX7_clause_2 20 rfl rfl)
theorem dX7_clause_66 : decode cX7_clause 66 = .ok (.istore_n 1, 1) := dk_60 (dk_at dksX7_clause_2 21 rfl rfl)
theorem dX7_clause_67 : decode cX7_clause 67 = .ok (.aload_n 0, 1) := dk_42 (dk_at dksX7_clause_2 22 rfl rfl)
theorem dX7_clause_68 : decode cX7_clause 68 = .ok (.iload_n 1, 1) := dk_27 (dk_at dksX7_clause_2 23 rfl rfl)
theorem dX7_clause_69 : decode cX7_clause 69 = .ok (.iconst (-1), 1) := dk_2 (dk_at dksX7_clause_3 0 rfl rfl)
theorem dX7_clause_70 : decode cX7_clause 70 = .ok (.if_icmp .eq 7, 3) := dk_159 0 7 (dk_at dksX7_clause_3 1 rfl rfl)
theorem dX7_clause_73 : decode cX7_clause 73 = .ok (.iconst 1, 1) := dk_4 (dk_at dksX7_clause_3 4 rfl rfl)
theorem dX7_clause_74 : decode cX7_clause 74 = .ok (.goto 4, 3) := dk_167 0 4 (dk_at dksX7_clause_3 5 rfl rfl)
theorem dX7_clause_77 : decode cX7_clause 77 = .ok (.iconst 0, 1) := dk_3 (dk_at dksX7_clause_3 8 rfl rfl)
theorem dX7_clause_78 : decode cX7_clause 78 = .ok (.invokevirtual 34, 3) := dk_182 0 34 (dk_at dksX7_clause_3 9 rfl rfl)
theorem dX7_clause_81 : decode cX7_clause 81 = .ok (.aload_n 0, 1) := dk_42 (dk_at dksX7_clause_3 12 rfl rfl)
theorem dX7_clause_82 : decode cX7_clause 82 = .ok (.invokevirtual 38, 3) := dk_182 0 38 (dk_at dksX7_clause_3 13 rfl rfl)
theorem dX7_clause_85 : decode cX7_clause 85 = .ok (.new 42, 3) := dk_187 0 42 (dk_at dksX7_clause_3 16 rfl rfl)
theorem dX7_clause_88 : decode cX7_clause 88 = .ok (.dup, 1) := dk_89 (dk_at dksX7_clause_3 19 rfl rfl)
theorem dX7_clause_89 : decode cX7_clause 89 = .ok (.iload_n 1, 1) := dk_27 (dk_at dksX7_clause_3 20 rfl rfl)
theorem dX7_clause_90 : decode cX7_clause 90 = .ok (.invokespecial 44, 3) := dk_183 0 44 (dk_at dksX7_clause_3 21 rfl rfl)
theorem dX7_clause_93 : decode cX7_clause 93 = .ok (.astore_n 2, 1) := dk_77 (dk_at dksX7_clause_4 0 rfl rfl)
theorem dX7_clause_94 : decode cX7_clause 94 = .ok (.iload_n 1, 1) := dk_27 (dk_at dksX7_clause_4 1 rfl rfl)
theorem dX7_clause_95 : decode cX7_clause 95 = .ok (.iconst 3, 1) := dk_6 (dk_at dksX7_clause_4 2 rfl rfl)
theorem dX7_clause_96 : decode cX7_clause 96 = .ok (.if_icmp .ge 11, 3) := dk_162 0 11 (dk_at dksX7_clause_4 3 rfl rfl)
theorem dX7_clause_99 : decode cX7_clause 99 = .ok (.aload_n 2, 1) := dk_44 (dk_at dksX7_clause_4 6 rfl rfl)
theorem dX7_clause_100 : decode cX7_clause 100 = .ok (.aload_n 0, 1) := dk_42 (dk_at dksX7_clause_4 7 rfl rfl)
theorem dX7_clause_101 : decode cX7_clause 101 = .ok (.invokevirtual 45, 3) := dk_182 0 45 (dk_at dksX7_clause_4 8 rfl rfl)
theorem dX7_clause_104 : decode cX7_clause 104 = .ok (.putfield 49, 3) := dk_181 0 49 (dk_at dksX7_clause_4 11 rfl rfl)
theorem dX7_clause_107 : decode cX7_clause 107 = .ok (.aload_n 0, 1) := dk_42 (dk_at dksX7_clause_4 14 rfl rfl)
theorem dX7_clause_108 : decode cX7_clause 108 = .ok (.ldc 52, 2) := dk_18 52 (dk_at dksX7_clause_4 15 rfl rfl)
theorem dX7_clause_110 : decode cX7_clause 110 = .ok (.invokevirtual 54, 3) := dk_182 0 54 (dk_at dksX7_clause_4 17 rfl rfl)
theorem dX7_clause_113 : decode cX7_clause 113 = .ok (.ifCond .eq 11, 3) := dk_153 0 11 (dk_at dksX7_clause_4 20 rfl rfl)
theorem dX7_clause_116 : decode cX7_clause 116 = .ok (.aload_n 2, 1) := dk_44 (dk_at dksX7_clause_4 23 rfl rfl)
theorem dX7_clause_117 : decode cX7_clause 117 = .ok (.aload_n 0, 1) := dk_42 (dk_at dksX7_clause_5 0 rfl rfl)
theorem dX7_clause_118 : decode cX7_clause 118 = .ok (.invokevirtual 57, 3) := dk_182 0 57 (dk_at dksX7_clause_5 1 rfl rfl)
theorem dX7_clause_121 : decode cX7_clause 121 = .ok (.putfield 61, 3) := dk_181 0 61 (dk_at dksX7_clause_5 4 rfl rfl)
theorem dX7_clause_124 : decode cX7_clause 124 = .ok (.aload_n 0, 1) := dk_42 (dk_at dksX7_clause_5 7 rfl rfl)
theorem dX7_clause_125 : decode cX7_clause 125 = .ok (.aload_n 0, 1) := dk_42 (dk_at dksX7_clause_5 8 rfl rfl)
theorem dX7_clause_126 : decode cX7_clause 126 = .ok (.getfield 65, 3) := dk_180 0 65 (dk_at dksX7_clause_5 9 rfl rfl)
theorem dX7_clause_129 : decode cX7_clause 129 = .ok (.ifCond .ne 8, 3) := dk_154 0 8 (dk_at dksX7_clause_5 12 rfl rfl)
theorem dX7_clause_132 : decode cX7_clause 132 = .ok (.iload_n 1, 1) := dk_27 (dk_at dksX7_clause_5 15 rfl rfl)
theorem dX7_clause_133 : decode cX7_clause 133 = .ok (.iconst 3, 1) := dk_6 (dk_at dksX7_clause_5 16 rfl rfl)
theorem dX7_clause_134 : decode cX7_clause 134 = .ok (.if_icmp .ne 7, 3) := dk_160 0 7 (dk_at dksX7_clause_5 17 rfl rfl)
theorem dX7_clause_137 : decode cX7_clause 137 = .ok (.iconst 1, 1) := dk_4 (dk_at dksX7_clause_5 20 rfl rfl)
theorem dX7_clause_138 : decode cX7_clause 138 = .ok (.goto 4, 3) := dk_167 0 4 (dk_at dksX7_clause_5 21 rfl rfl)
theorem dX7_clause_141 : decode cX7_clause 141 = .ok (.iconst 0, 1) := dk_3 (dk_at dksX7_clause_6 0 rfl rfl)
theorem dX7_clause_142 : decode cX7_clause 142 = .ok (.putfield 65, 3) := dk_181 0 65 (dk_at dksX7_clause_6 1 rfl rfl)
theorem dX7_clause_145 : decode cX7_clause 145 = .ok (.aload_n 0, 1) := dk_42 (dk_at dksX7_clause_6 4 rfl rfl)
theorem dX7_clause_146 : decode cX7_clause 146 = .ok (.getfield 14, 3) := dk_180 0 14 (dk_at dksX7_clause_6 5 rfl rfl)
theorem dX7_clause_149 : decode cX7_clause 149 = .ok (.aload_n 2, 1) := dk_44 (dk_at dksX7_clause_6 8 rfl rfl)
theorem dX7_clause_150 : decode cX7_clause 150 = .ok (.invokevirtual 68, 3) := dk_182 0 68 (dk_at dksX7_clause_6 9 rfl rfl)
theorem dX7_clause_153 : decode cX7_clause 153 = .ok (.pop, 1) := dk_87 (dk_at dksX7_clause_6 12 rfl rfl)
theorem dX7_clause_154 : decode cX7_clause 154 = .ok (.return_, 1) := dk_177 (dk_at dksX7_clause_6 13 rfl rfl)
abbrev cX7_value : ByteArray := prog_7_method_3_code
def yX7_value : MethodName := ⟨RX7, "value", "()I"⟩
def dkwX7_value_5 : List UInt8 := [182, 0, 74, 153, 0, 8, 16, 10, 167, 0, 4, 2, 172]
abbrev dktX7_value_5 : List UInt8 := dkwX7_value_5 ++ []
def dkwX7_value_4 : List UInt8 := [182, 0, 74, 153, 0, 6, 16, 8, 172, 42, 18, 93, 182, 0, 74, 153, 0, 6, 16, 9, 172, 42, 18, 95]
abbrev dktX7_value_4 : List UInt8 := dkwX7_value_4 ++ dktX7_value_5
def dkwX7_value_3 : List UInt8 := [182, 0, 74, 153, 0, 6, 16, 6, 172, 42, 18, 89, 182, 0, 74, 153, 0, 6, 16, 7, 172, 42, 18, 91]
abbrev dktX7_value_3 : List UInt8 := dkwX7_value_3 ++ dktX7_value_4
def dkwX7_value_2 : List UInt8 := [182, 0, 74, 153, 0, 5, 7, 172, 42, 18, 85, 182, 0, 74, 153, 0, 5, 8, 172, 42, 18, 87]
abbrev dktX7_value_2 : List UInt8 := dkwX7_value_2 ++ dktX7_value_3
def dkwX7_value_1 : List UInt8 := [18, 79, 182, 0, 74, 153, 0, 5, 5, 172, 42, 18, 81, 182, 0, 74, 153, 0, 5, 6, 172, 42, 18, 83]
abbrev dktX7_value_1 : List UInt8 := dkwX7_value_1 ++ dktX7_value_2
def dkwX7_value_0 : List UInt8 := [42, 18, 72, 182, 0, 74, 153, 0, 5, 3, 172, 42, 18, 77, 182, 0, 74, 153, 0, 5, 4, 172, 42]
abbrev dktX7_value_0 : List UInt8 := dkwX7_value_0 ++ dktX7_value_1
theorem dksX7_value_0 : cX7_value.data.toList.drop 0 = dktX7_value_0 := by decide +kernel
theorem dksX7_value_1 : cX7_value.data.toList.drop 23 = dktX7_value_1 := dk_seg dksX7_value_0 23 rfl rfl
theorem dksX7_value_2 : cX7_value.data.toList.drop 47 = dktX7_value_2 := dk_seg dksX7_value_1 24 rfl rfl
theorem dksX7_value_3 : cX7_value.data.toList.drop 69 = dktX7_value_3 := dk_seg dksX7_value_2 22 rfl rfl
theorem dksX7_value_4 : cX7_value.data.toList.drop 93 = dktX7_value_4 := dk_seg dksX7_value_3 24 rfl rfl
theorem dksX7_value_5 : cX7_value.data.toList.drop 117 = dktX7_value_5 := dk_seg dksX7_value_4 24 rfl rfl
theorem dX7_value_0 : decode cX7_value 0 = .ok (.aload_n 0, 1) := dk_42 (dk_at dksX7_value_0 0 rfl rfl)
theorem dX7_value_1 : decode cX7_value 1 = .ok (.ldc 72, 2) := dk_18 72 (dk_at dksX7_value_0 1 rfl rfl)
theorem dX7_value_3 : decode cX7_value 3 = .ok (.invokevirtual 74, 3) := dk_182 0 74 (dk_at dksX7_value_0 3 rfl rfl)
theorem dX7_value_6 : decode cX7_value 6 = .ok (.ifCond .eq 5, 3) := dk_153 0 5 (dk_at dksX7_value_0 6 rfl rfl)
theorem dX7_value_9 : decode cX7_value 9 = .ok (.iconst 0, 1) := dk_3 (dk_at dksX7_value_0 9 rfl rfl)
theorem dX7_value_10 : decode cX7_value 10 = .ok (.ireturn, 1) := dk_172 (dk_at dksX7_value_0 10 rfl rfl)
theorem dX7_value_11 : decode cX7_value 11 = .ok (.aload_n 0, 1) := dk_42 (dk_at dksX7_value_0 11 rfl rfl)
theorem dX7_value_12 : decode cX7_value 12 = .ok (.ldc 77, 2) := dk_18 77 (dk_at dksX7_value_0 12 rfl rfl)
theorem dX7_value_14 : decode cX7_value 14 = .ok (.invokevirtual 74, 3) := dk_182 0 74 (dk_at dksX7_value_0 14 rfl rfl)
theorem dX7_value_17 : decode cX7_value 17 = .ok (.ifCond .eq 5, 3) := dk_153 0 5 (dk_at dksX7_value_0 17 rfl rfl)
theorem dX7_value_20 : decode cX7_value 20 = .ok (.iconst 1, 1) := dk_4 (dk_at dksX7_value_0 20 rfl rfl)
theorem dX7_value_21 : decode cX7_value 21 = .ok (.ireturn, 1) := dk_172 (dk_at dksX7_value_0 21 rfl rfl)
theorem dX7_value_22 : decode cX7_value 22 = .ok (.aload_n 0, 1) := dk_42 (dk_at dksX7_value_0 22 rfl rfl)
theorem dX7_value_23 : decode cX7_value 23 = .ok (.ldc 79, 2) := dk_18 79 (dk_at dksX7_value_1 0 rfl rfl)
theorem dX7_value_25 : decode cX7_value 25 = .ok (.invokevirtual 74, 3) := dk_182 0 74 (dk_at dksX7_value_1 2 rfl rfl)
theorem dX7_value_28 : decode cX7_value 28 = .ok (.ifCond .eq 5, 3) := dk_153 0 5 (dk_at dksX7_value_1 5 rfl rfl)
theorem dX7_value_31 : decode cX7_value 31 = .ok (.iconst 2, 1) := dk_5 (dk_at dksX7_value_1 8 rfl rfl)
theorem dX7_value_32 : decode cX7_value 32 = .ok (.ireturn, 1) := dk_172 (dk_at dksX7_value_1 9 rfl rfl)
theorem dX7_value_33 : decode cX7_value 33 = .ok (.aload_n 0, 1) := dk_42 (dk_at dksX7_value_1 10 rfl rfl)
theorem dX7_value_34 : decode cX7_value 34 = .ok (.ldc 81, 2) := dk_18 81 (dk_at dksX7_value_1 11 rfl rfl)
theorem dX7_value_36 : decode cX7_value 36 = .ok (.invokevirtual 74, 3) := dk_182 0 74 (dk_at dksX7_value_1 13 rfl rfl)
theorem dX7_value_39 : decode cX7_value 39 = .ok (.ifCond .eq 5, 3) := dk_153 0 5 (dk_at dksX7_value_1 16 rfl rfl)
theorem dX7_value_42 : decode cX7_value 42 = .ok (.iconst 3, 1) := dk_6 (dk_at dksX7_value_1 19 rfl rfl)
theorem dX7_value_43 : decode cX7_value 43 = .ok (.ireturn, 1) := dk_172 (dk_at dksX7_value_1 20 rfl rfl)
theorem dX7_value_44 : decode cX7_value 44 = .ok (.aload_n 0, 1) := dk_42 (dk_at dksX7_value_1 21 rfl rfl)
theorem dX7_value_45 : decode cX7_value 45 = .ok (.ldc 83, 2) := dk_18 83 (dk_at dksX7_value_1 22 rfl rfl)
theorem dX7_value_47 : decode cX7_value 47 = .ok (.invokevirtual 74, 3) := dk_182 0 74 (dk_at dksX7_value_2 0 rfl rfl)
theorem dX7_value_50 : decode cX7_value 50 = .ok (.ifCond .eq 5, 3) := dk_153 0 5 (dk_at dksX7_value_2 3 rfl rfl)
theorem dX7_value_53 : decode cX7_value 53 = .ok (.iconst 4, 1) := dk_7 (dk_at dksX7_value_2 6 rfl rfl)
theorem dX7_value_54 : decode cX7_value 54 = .ok (.ireturn, 1) := dk_172 (dk_at dksX7_value_2 7 rfl rfl)
theorem dX7_value_55 : decode cX7_value 55 = .ok (.aload_n 0, 1) := dk_42 (dk_at dksX7_value_2 8 rfl rfl)
theorem dX7_value_56 : decode cX7_value 56 = .ok (.ldc 85, 2) := dk_18 85 (dk_at dksX7_value_2 9 rfl rfl)
theorem dX7_value_58 : decode cX7_value 58 = .ok (.invokevirtual 74, 3) := dk_182 0 74 (dk_at dksX7_value_2 11 rfl rfl)
theorem dX7_value_61 : decode cX7_value 61 = .ok (.ifCond .eq 5, 3) := dk_153 0 5 (dk_at dksX7_value_2 14 rfl rfl)
theorem dX7_value_64 : decode cX7_value 64 = .ok (.iconst 5, 1) := dk_8 (dk_at dksX7_value_2 17 rfl rfl)
theorem dX7_value_65 : decode cX7_value 65 = .ok (.ireturn, 1) := dk_172 (dk_at dksX7_value_2 18 rfl rfl)
theorem dX7_value_66 : decode cX7_value 66 = .ok (.aload_n 0, 1) := dk_42 (dk_at dksX7_value_2 19 rfl rfl)
theorem dX7_value_67 : decode cX7_value 67 = .ok (.ldc 87, 2) := dk_18 87 (dk_at dksX7_value_2 20 rfl rfl)
theorem dX7_value_69 : decode cX7_value 69 = .ok (.invokevirtual 74, 3) := dk_182 0 74 (dk_at dksX7_value_3 0 rfl rfl)
theorem dX7_value_72 : decode cX7_value 72 = .ok (.ifCond .eq 6, 3) := dk_153 0 6 (dk_at dksX7_value_3 3 rfl rfl)
theorem dX7_value_75 : decode cX7_value 75 = .ok (.bipush 6, 2) := dk_16 6 (dk_at dksX7_value_3 6 rfl rfl)
theorem dX7_value_77 : decode cX7_value 77 = .ok (.ireturn, 1) := dk_172 (dk_at dksX7_value_3 8 rfl rfl)
theorem dX7_value_78 : decode cX7_value 78 = .ok (.aload_n 0, 1) := dk_42 (dk_at dksX7_value_3 9 rfl rfl)
theorem dX7_value_79 : decode cX7_value 79 = .ok (.ldc 89, 2) := dk_18 89 (dk_at dksX7_value_3 10 rfl rfl)
theorem dX7_value_81 : decode cX7_value 81 = .ok (.invokevirtual 74, 3) := dk_182 0 74 (dk_at dksX7_value_3 12 rfl rfl)
theorem dX7_value_84 : decode cX7_value 84 = .ok (.ifCond .eq 6, 3) := dk_153 0 6 (dk_at dksX7_value_3 15 rfl rfl)
theorem dX7_value_87 : decode cX7_value 87 = .ok (.bipush 7, 2) := dk_16 7 (dk_at dksX7_value_3 18 rfl rfl)
theorem dX7_value_89 : decode cX7_value 89 = .ok (.ireturn, 1) := dk_172 (dk_at dksX7_value_3 20 rfl rfl)
theorem dX7_value_90 : decode cX7_value 90 = .ok (.aload_n 0, 1) := dk_42 (dk_at dksX7_value_3 21 rfl rfl)
theorem dX7_value_91 : decode cX7_value 91 = .ok (.ldc 91, 2) := dk_18 91 (dk_at dksX7_value_3 22 rfl rfl)
theorem dX7_value_93 : decode cX7_value 93 = .ok (.invokevirtual 74, 3) := dk_182 0 74 (dk_at dksX7_value_4 0 rfl rfl)
theorem dX7_value_96 : decode cX7_value 96 = .ok (.ifCond .eq 6, 3) := dk_153 0 6 (dk_at dksX7_value_4 3 rfl rfl)
theorem dX7_value_99 : decode cX7_value 99 = .ok (.bipush 8, 2) := dk_16 8 (dk_at dksX7_value_4 6 rfl rfl)
theorem dX7_value_101 : decode cX7_value 101 = .ok (.ireturn, 1) := dk_172 (dk_at dksX7_value_4 8 rfl rfl)
theorem dX7_value_102 : decode cX7_value 102 = .ok (.aload_n 0, 1) := dk_42 (dk_at dksX7_value_4 9 rfl rfl)
theorem dX7_value_103 : decode cX7_value 103 = .ok (.ldc 93, 2) := dk_18 93 (dk_at dksX7_value_4 10 rfl rfl)
theorem dX7_value_105 : decode cX7_value 105 = .ok (.invokevirtual 74, 3) := dk_182 0 74 (dk_at dksX7_value_4 12 rfl rfl)
theorem dX7_value_108 : decode cX7_value 108 = .ok (.ifCond .eq 6, 3) := dk_153 0 6 (dk_at dksX7_value_4 15 rfl rfl)
theorem dX7_value_111 : decode cX7_value 111 = .ok (.bipush 9, 2) := dk_16 9 (dk_at dksX7_value_4 18 rfl rfl)
theorem dX7_value_113 : decode cX7_value 113 = .ok (.ireturn, 1) := dk_172 (dk_at dksX7_value_4 20 rfl rfl)
theorem dX7_value_114 : decode cX7_value 114 = .ok (.aload_n 0, 1) := dk_42 (dk_at dksX7_value_4 21 rfl rfl)
theorem dX7_value_115 : decode cX7_value 115 = .ok (.ldc 95, 2) := dk_18 95 (dk_at dksX7_value_4 22 rfl rfl)
theorem dX7_value_117 : decode cX7_value 117 = .ok (.invokevirtual 74, 3) := dk_182 0 74 (dk_at dksX7_value_5 0 rfl rfl)
theorem dX7_value_120 : decode cX7_value 120 = .ok (.ifCond .eq 8, 3) := dk_153 0 8 (dk_at dksX7_value_5 3 rfl rfl)
theorem dX7_value_123 : decode cX7_value 123 = .ok (.bipush 10, 2) := dk_16 10 (dk_at dksX7_value_5 6 rfl rfl)
theorem dX7_value_125 : decode cX7_value 125 = .ok (.goto 4, 3) := dk_167 0 4 (dk_at dksX7_value_5 8 rfl rfl)
theorem dX7_value_128 : decode cX7_value 128 = .ok (.iconst (-1), 1) := dk_2 (dk_at dksX7_value_5 11 rfl rfl)
theorem dX7_value_129 : decode cX7_value 129 = .ok (.ireturn, 1) := dk_172 (dk_at dksX7_value_5 12 rfl rfl)
theorem q126 : (Jvm.Cond.initialized "ForestRooms$LawReader") ∈ lw_all := lw_g (lw_at lw_m1 16 rfl) rfl
theorem q489 : (Jvm.Cond.selects "ForestRooms$LawReader" ({ cls := "java/lang/Object", name := "getClass", desc := "()Ljava/lang/Class;" } : Jvm.MethodName) ({ cls := "java/lang/Object", name := "getClass", desc := "()Ljava/lang/Class;" } : Jvm.MethodName)) ∈ lw_all := lw_g (lw_at lw_m2 139 rfl) rfl
theorem q711 : (Jvm.Cond.instantiable "ForestRooms$LawReader" (9 : Nat)) ∈ lw_all := lw_g (lw_at lw_m3 121 rfl) rfl
theorem q713 : (Jvm.Cond.instanceMethod ({ cls := "ForestRooms$LawReader", name := "<init>", desc := "([BI)V" } : Jvm.MethodName)) ∈ lw_all := lw_g (lw_at lw_m3 123 rfl) rfl
theorem q714 : (Jvm.Cond.code ({ cls := "ForestRooms$LawReader", name := "<init>", desc := "([BI)V" } : Jvm.MethodName) prog_7_method_1_code (3 : Nat) (Option.none : Option Jvm.ClassFile.FieldType)) ∈ lw_all := lw_g (lw_at lw_m3 124 rfl) rfl
theorem q715 : (Jvm.Cond.methodLink "ForestRooms$LawReader" (3 : Nat) ({ cls := "ForestRooms$Reader", name := "<init>", desc := "([BI)V" } : Jvm.MethodName)) ∈ lw_all := lw_g (lw_at lw_m3 125 rfl) rfl
theorem q719 : (Jvm.Cond.classLink "ForestRooms$LawReader" (9 : Nat) "java/util/ArrayList") ∈ lw_all := lw_g (lw_at lw_m3 129 rfl) rfl
theorem q720 : (Jvm.Cond.methodLink "ForestRooms$LawReader" (11 : Nat) ({ cls := "java/util/ArrayList", name := "<init>", desc := "(I)V" } : Jvm.MethodName)) ∈ lw_all := lw_g (lw_at lw_m3 130 rfl) rfl
theorem q721 : (Jvm.Cond.fieldLink "ForestRooms$LawReader" (14 : Nat) "ForestRooms$LawReader" "clauses" "Ljava/util/ArrayList;") ∈ lw_all := lw_g (lw_at lw_m3 131 rfl) rfl
theorem q723 : (Jvm.Cond.fieldLink "ForestRooms$LawReader" (65 : Nat) "ForestRooms$LawReader" "comes" "Z") ∈ lw_all := lw_g (lw_at lw_m3 133 rfl) rfl
theorem q732 : (Jvm.Cond.laysFinal "ForestRooms$LawReader" "ForestRooms$LawReader" "clauses" "Ljava/util/ArrayList;") ∈ lw_all := lw_g (lw_at lw_m3 142 rfl) rfl
theorem q733 : (Jvm.Cond.soleField "ForestRooms$LawReader" "clauses") ∈ lw_all := lw_g (lw_at lw_m3 143 rfl) rfl
theorem q734 : (Jvm.Cond.lays "ForestRooms$LawReader" "ForestRooms$LawReader" "comes" "Z") ∈ lw_all := lw_g (lw_at lw_m3 144 rfl) rfl
theorem q735 : (Jvm.Cond.soleField "ForestRooms$LawReader" "comes") ∈ lw_all := lw_g (lw_at lw_m3 145 rfl) rfl
theorem q736 : (Jvm.Cond.laysFinal "ForestRooms$LawReader" "ForestRooms$Reader" "tape" "[B") ∈ lw_all := lw_g (lw_at lw_m3 146 rfl) rfl
theorem q738 : (Jvm.Cond.laysFinal "ForestRooms$LawReader" "ForestRooms$Reader" "size" "I") ∈ lw_all := lw_g (lw_at lw_m3 148 rfl) rfl
theorem q740 : (Jvm.Cond.lays "ForestRooms$LawReader" "ForestRooms$Reader" "made" "I") ∈ lw_all := lw_g (lw_at lw_m3 150 rfl) rfl
theorem q742 : (Jvm.Cond.lays "ForestRooms$LawReader" "ForestRooms$Reader" "from" "I") ∈ lw_all := lw_g (lw_at lw_m3 152 rfl) rfl
theorem q744 : (Jvm.Cond.lays "ForestRooms$LawReader" "ForestRooms$Reader" "to" "I") ∈ lw_all := lw_g (lw_at lw_m3 154 rfl) rfl
theorem q746 : (Jvm.Cond.lays "ForestRooms$LawReader" "ForestRooms$Reader" "leaves" "I") ∈ lw_all := lw_g (lw_at lw_m3 156 rfl) rfl
theorem q748 : (Jvm.Cond.lays "ForestRooms$LawReader" "ForestRooms$Reader" "deep" "I") ∈ lw_all := lw_g (lw_at lw_m3 158 rfl) rfl
theorem q750 : (Jvm.Cond.superclass "ForestRooms$LawReader" "ForestRooms$Reader") ∈ lw_all := lw_g (lw_at lw_m3 160 rfl) rfl
theorem q759 : (Jvm.Cond.selects "ForestRooms$LawReader" ({ cls := "ForestRooms$Reader", name := "read", desc := "()V" } : Jvm.MethodName) ({ cls := "ForestRooms$Reader", name := "read", desc := "()V" } : Jvm.MethodName)) ∈ lw_all := lw_g (lw_at lw_m3 169 rfl) rfl
theorem q765 : (Jvm.Cond.selects "ForestRooms$LawReader" ({ cls := "ForestRooms$Reader", name := "next", desc := "()V" } : Jvm.MethodName) ({ cls := "ForestRooms$Reader", name := "next", desc := "()V" } : Jvm.MethodName)) ∈ lw_all := lw_g (lw_at lw_m3 175 rfl) rfl
theorem q771 : (Jvm.Cond.selects "ForestRooms$LawReader" ({ cls := "ForestRooms$Reader", name := "isIn", desc := "(III)Z" } : Jvm.MethodName) ({ cls := "ForestRooms$Reader", name := "isIn", desc := "(III)Z" } : Jvm.MethodName)) ∈ lw_all := lw_g (lw_at lw_m3 181 rfl) rfl
theorem q777 : (Jvm.Cond.selects "ForestRooms$LawReader" ({ cls := "ForestRooms$Reader", name := "clause", desc := "()V" } : Jvm.MethodName) ({ cls := "ForestRooms$LawReader", name := "clause", desc := "()V" } : Jvm.MethodName)) ∈ lw_all := lw_g (lw_at lw_m3 187 rfl) rfl
theorem q778 : (Jvm.Cond.instanceMethod ({ cls := "ForestRooms$LawReader", name := "clause", desc := "()V" } : Jvm.MethodName)) ∈ lw_all := lw_g (lw_at lw_m3 188 rfl) rfl
theorem q779 : (Jvm.Cond.code ({ cls := "ForestRooms$LawReader", name := "clause", desc := "()V" } : Jvm.MethodName) prog_7_method_2_code (3 : Nat) (Option.none : Option Jvm.ClassFile.FieldType)) ∈ lw_all := lw_g (lw_at lw_m3 189 rfl) rfl
theorem q780 : (Jvm.Cond.stringRef "ForestRooms$LawReader" (20 : Nat) "grows") ∈ lw_tbl := lw_at lw_m3 190 rfl
theorem q781 : (Jvm.Cond.methodLink "ForestRooms$LawReader" (22 : Nat) ({ cls := "ForestRooms$LawReader", name := "is", desc := "(Ljava/lang/String;)Z" } : Jvm.MethodName)) ∈ lw_all := lw_g (lw_at lw_m3 191 rfl) rfl
theorem q782 : (Jvm.Cond.sameMethod "ForestRooms$LawReader" "ForestRooms$Reader" "is" "(Ljava/lang/String;)Z") ∈ lw_all := lw_g (lw_at lw_m3 192 rfl) rfl
theorem q784 : (Jvm.Cond.selects "ForestRooms$LawReader" ({ cls := "ForestRooms$LawReader", name := "is", desc := "(Ljava/lang/String;)Z" } : Jvm.MethodName) ({ cls := "ForestRooms$Reader", name := "is", desc := "(Ljava/lang/String;)Z" } : Jvm.MethodName)) ∈ lw_all := lw_g (lw_at lw_m3 194 rfl) rfl
theorem q833 : (Jvm.Cond.stringRef "ForestRooms$LawReader" (26 : Nat) "suits") ∈ lw_tbl := lw_at lw_m4 3 rfl
theorem q834 : (Jvm.Cond.stringRef "ForestRooms$LawReader" (28 : Nat) "leaves") ∈ lw_tbl := lw_at lw_m4 4 rfl
theorem q835 : (Jvm.Cond.stringRef "ForestRooms$LawReader" (30 : Nat) "comes") ∈ lw_tbl := lw_at lw_m4 5 rfl
theorem q836 : (Jvm.Cond.stringRef "ForestRooms$LawReader" (32 : Nat) "bars") ∈ lw_tbl := lw_at lw_m4 6 rfl
theorem q837 : (Jvm.Cond.methodLink "ForestRooms$LawReader" (34 : Nat) ({ cls := "ForestRooms$LawReader", name := "begins", desc := "(Z)V" } : Jvm.MethodName)) ∈ lw_all := lw_g (lw_at lw_m4 7 rfl) rfl
theorem q838 : (Jvm.Cond.sameMethod "ForestRooms$LawReader" "ForestRooms$Reader" "begins" "(Z)V") ∈ lw_all := lw_g (lw_at lw_m4 8 rfl) rfl
theorem q840 : (Jvm.Cond.selects "ForestRooms$LawReader" ({ cls := "ForestRooms$LawReader", name := "begins", desc := "(Z)V" } : Jvm.MethodName) ({ cls := "ForestRooms$Reader", name := "begins", desc := "(Z)V" } : Jvm.MethodName)) ∈ lw_all := lw_g (lw_at lw_m4 10 rfl) rfl
theorem q862 : (Jvm.Cond.methodLink "ForestRooms$LawReader" (38 : Nat) ({ cls := "ForestRooms$LawReader", name := "next", desc := "()V" } : Jvm.MethodName)) ∈ lw_all := lw_g (lw_at lw_m4 32 rfl) rfl
theorem q863 : (Jvm.Cond.sameMethod "ForestRooms$LawReader" "ForestRooms$Reader" "next" "()V") ∈ lw_all := lw_g (lw_at lw_m4 33 rfl) rfl
theorem q865 : (Jvm.Cond.selects "ForestRooms$LawReader" ({ cls := "ForestRooms$LawReader", name := "next", desc := "()V" } : Jvm.MethodName) ({ cls := "ForestRooms$Reader", name := "next", desc := "()V" } : Jvm.MethodName)) ∈ lw_all := lw_g (lw_at lw_m4 35 rfl) rfl
theorem q866 : (Jvm.Cond.classLink "ForestRooms$LawReader" (42 : Nat) "ForestRooms$Clause") ∈ lw_all := lw_g (lw_at lw_m4 36 rfl) rfl
theorem q868 : (Jvm.Cond.methodLink "ForestRooms$LawReader" (44 : Nat) ({ cls := "ForestRooms$Clause", name := "<init>", desc := "(I)V" } : Jvm.MethodName)) ∈ lw_all := lw_g (lw_at lw_m4 38 rfl) rfl
theorem q875 : (Jvm.Cond.fieldLinkNest "ForestRooms$LawReader" (49 : Nat) "ForestRooms$Clause" "sum" "LForestRooms$Sum;" "ForestRooms") ∈ lw_tbl := lw_at lw_m4 45 rfl
theorem q877 : (Jvm.Cond.fieldLinkNest "ForestRooms$LawReader" (61 : Nat) "ForestRooms$Clause" "when" "LForestRooms$Test;" "ForestRooms") ∈ lw_tbl := lw_at lw_m4 47 rfl
theorem q885 : (Jvm.Cond.methodLink "ForestRooms$LawReader" (45 : Nat) ({ cls := "ForestRooms$LawReader", name := "sum", desc := "()LForestRooms$Sum;" } : Jvm.MethodName)) ∈ lw_all := lw_g (lw_at lw_m4 55 rfl) rfl
theorem q886 : (Jvm.Cond.sameMethod "ForestRooms$LawReader" "ForestRooms$Reader" "sum" "()LForestRooms$Sum;") ∈ lw_all := lw_g (lw_at lw_m4 56 rfl) rfl
theorem q888 : (Jvm.Cond.selects "ForestRooms$LawReader" ({ cls := "ForestRooms$LawReader", name := "sum", desc := "()LForestRooms$Sum;" } : Jvm.MethodName) ({ cls := "ForestRooms$Reader", name := "sum", desc := "()LForestRooms$Sum;" } : Jvm.MethodName)) ∈ lw_all := lw_g (lw_at lw_m4 58 rfl) rfl
theorem q894 : (Jvm.Cond.selects "ForestRooms$LawReader" ({ cls := "ForestRooms$Reader", name := "term", desc := "()LForestRooms$Sum;" } : Jvm.MethodName) ({ cls := "ForestRooms$Reader", name := "term", desc := "()LForestRooms$Sum;" } : Jvm.MethodName)) ∈ lw_all := lw_g (lw_at lw_m4 64 rfl) rfl
theorem q900 : (Jvm.Cond.selects "ForestRooms$LawReader" ({ cls := "ForestRooms$Reader", name := "part", desc := "()LForestRooms$Sum;" } : Jvm.MethodName) ({ cls := "ForestRooms$Reader", name := "part", desc := "()LForestRooms$Sum;" } : Jvm.MethodName)) ∈ lw_all := lw_g (lw_at lw_m4 70 rfl) rfl
theorem q908 : (Jvm.Cond.selects "ForestRooms$LawReader" ({ cls := "ForestRooms$Reader", name := "opens", desc := "()V" } : Jvm.MethodName) ({ cls := "ForestRooms$Reader", name := "opens", desc := "()V" } : Jvm.MethodName)) ∈ lw_all := lw_g (lw_at lw_m4 78 rfl) rfl
theorem q916 : (Jvm.Cond.selects "ForestRooms$LawReader" ({ cls := "ForestRooms$Reader", name := "need", desc := "(Ljava/lang/String;)V" } : Jvm.MethodName) ({ cls := "ForestRooms$Reader", name := "need", desc := "(Ljava/lang/String;)V" } : Jvm.MethodName)) ∈ lw_all := lw_g (lw_at lw_m4 86 rfl) rfl
theorem q922 : (Jvm.Cond.selects "ForestRooms$LawReader" ({ cls := "ForestRooms$Reader", name := "takes", desc := "(Ljava/lang/String;)Z" } : Jvm.MethodName) ({ cls := "ForestRooms$Reader", name := "takes", desc := "(Ljava/lang/String;)Z" } : Jvm.MethodName)) ∈ lw_all := lw_g (lw_at lw_m4 92 rfl) rfl
theorem q928 : (Jvm.Cond.selects "ForestRooms$LawReader" ({ cls := "ForestRooms$Reader", name := "leaf", desc := "()V" } : Jvm.MethodName) ({ cls := "ForestRooms$Reader", name := "leaf", desc := "()V" } : Jvm.MethodName)) ∈ lw_all := lw_g (lw_at lw_m4 98 rfl) rfl
theorem q936 : (Jvm.Cond.selects "ForestRooms$LawReader" ({ cls := "ForestRooms$Reader", name := "number", desc := "(II)I" } : Jvm.MethodName) ({ cls := "ForestRooms$Reader", name := "number", desc := "(II)I" } : Jvm.MethodName)) ∈ lw_all := lw_g (lw_at lw_m4 106 rfl) rfl
theorem q953 : (Jvm.Cond.selects "ForestRooms$LawReader" ({ cls := "ForestRooms$Reader", name := "value", desc := "()I" } : Jvm.MethodName) ({ cls := "ForestRooms$LawReader", name := "value", desc := "()I" } : Jvm.MethodName)) ∈ lw_all := lw_g (lw_at lw_m4 123 rfl) rfl
theorem q954 : (Jvm.Cond.instanceMethod ({ cls := "ForestRooms$LawReader", name := "value", desc := "()I" } : Jvm.MethodName)) ∈ lw_all := lw_g (lw_at lw_m4 124 rfl) rfl
theorem q955 : (Jvm.Cond.code ({ cls := "ForestRooms$LawReader", name := "value", desc := "()I" } : Jvm.MethodName) prog_7_method_3_code (1 : Nat) (Option.some Jvm.ClassFile.FieldType.int)) ∈ lw_all := lw_g (lw_at lw_m4 125 rfl) rfl
theorem q956 : (Jvm.Cond.stringRef "ForestRooms$LawReader" (72 : Nat) "room") ∈ lw_tbl := lw_at lw_m4 126 rfl
theorem q957 : (Jvm.Cond.methodLink "ForestRooms$LawReader" (74 : Nat) ({ cls := "ForestRooms$LawReader", name := "isValue", desc := "(Ljava/lang/String;)Z" } : Jvm.MethodName)) ∈ lw_all := lw_g (lw_at lw_m4 127 rfl) rfl
theorem q958 : (Jvm.Cond.sameMethod "ForestRooms$LawReader" "ForestRooms$Reader" "isValue" "(Ljava/lang/String;)Z") ∈ lw_all := lw_g (lw_at lw_m4 128 rfl) rfl
theorem q960 : (Jvm.Cond.selects "ForestRooms$LawReader" ({ cls := "ForestRooms$LawReader", name := "isValue", desc := "(Ljava/lang/String;)Z" } : Jvm.MethodName) ({ cls := "ForestRooms$Reader", name := "isValue", desc := "(Ljava/lang/String;)Z" } : Jvm.MethodName)) ∈ lw_all := lw_g (lw_at lw_m4 130 rfl) rfl
theorem q963 : (Jvm.Cond.stringRef "ForestRooms$LawReader" (77 : Nat) "light") ∈ lw_tbl := lw_at lw_m4 133 rfl
theorem q964 : (Jvm.Cond.stringRef "ForestRooms$LawReader" (79 : Nat) "wet") ∈ lw_tbl := lw_at lw_m4 134 rfl
theorem q965 : (Jvm.Cond.stringRef "ForestRooms$LawReader" (81 : Nat) "size") ∈ lw_tbl := lw_at lw_m4 135 rfl
theorem q966 : (Jvm.Cond.stringRef "ForestRooms$LawReader" (83 : Nat) "kind") ∈ lw_tbl := lw_at lw_m4 136 rfl
theorem q967 : (Jvm.Cond.stringRef "ForestRooms$LawReader" (85 : Nat) "grown") ∈ lw_tbl := lw_at lw_m4 137 rfl
theorem q968 : (Jvm.Cond.stringRef "ForestRooms$LawReader" (87 : Nat) "family") ∈ lw_tbl := lw_at lw_m4 138 rfl
theorem q969 : (Jvm.Cond.stringRef "ForestRooms$LawReader" (89 : Nat) "season") ∈ lw_tbl := lw_at lw_m4 139 rfl
theorem q970 : (Jvm.Cond.stringRef "ForestRooms$LawReader" (91 : Nat) "mood") ∈ lw_tbl := lw_at lw_m4 140 rfl
theorem q971 : (Jvm.Cond.stringRef "ForestRooms$LawReader" (93 : Nat) "needs") ∈ lw_tbl := lw_at lw_m4 141 rfl
theorem q972 : (Jvm.Cond.stringRef "ForestRooms$LawReader" (95 : Nat) "drinks") ∈ lw_tbl := lw_at lw_m4 142 rfl
theorem q1021 : (Jvm.Cond.stringRef "ForestRooms$LawReader" (52 : Nat) "if") ∈ lw_tbl := lw_at lw_m4 191 rfl
theorem q1022 : (Jvm.Cond.methodLink "ForestRooms$LawReader" (54 : Nat) ({ cls := "ForestRooms$LawReader", name := "takes", desc := "(Ljava/lang/String;)Z" } : Jvm.MethodName)) ∈ lw_all := lw_g (lw_at lw_m4 192 rfl) rfl
theorem q1023 : (Jvm.Cond.sameMethod "ForestRooms$LawReader" "ForestRooms$Reader" "takes" "(Ljava/lang/String;)Z") ∈ lw_all := lw_g (lw_at lw_m4 193 rfl) rfl
theorem q1025 : (Jvm.Cond.selects "ForestRooms$LawReader" ({ cls := "ForestRooms$LawReader", name := "takes", desc := "(Ljava/lang/String;)Z" } : Jvm.MethodName) ({ cls := "ForestRooms$Reader", name := "takes", desc := "(Ljava/lang/String;)Z" } : Jvm.MethodName)) ∈ lw_all := lw_g (lw_at lw_m4 195 rfl) rfl
theorem q1026 : (Jvm.Cond.methodLink "ForestRooms$LawReader" (57 : Nat) ({ cls := "ForestRooms$LawReader", name := "test", desc := "()LForestRooms$Test;" } : Jvm.MethodName)) ∈ lw_all := lw_g (lw_at lw_m4 196 rfl) rfl
theorem q1027 : (Jvm.Cond.sameMethod "ForestRooms$LawReader" "ForestRooms$Reader" "test" "()LForestRooms$Test;") ∈ lw_all := lw_g (lw_at lw_m4 197 rfl) rfl
theorem q1029 : (Jvm.Cond.selects "ForestRooms$LawReader" ({ cls := "ForestRooms$LawReader", name := "test", desc := "()LForestRooms$Test;" } : Jvm.MethodName) ({ cls := "ForestRooms$Reader", name := "test", desc := "()LForestRooms$Test;" } : Jvm.MethodName)) ∈ lw_all := lw_g (lw_at lw_m4 199 rfl) rfl
theorem q1035 : (Jvm.Cond.selects "ForestRooms$LawReader" ({ cls := "ForestRooms$Reader", name := "both", desc := "()LForestRooms$Test;" } : Jvm.MethodName) ({ cls := "ForestRooms$Reader", name := "both", desc := "()LForestRooms$Test;" } : Jvm.MethodName)) ∈ lw_all := lw_g (lw_at lw_m4 205 rfl) rfl
theorem q1041 : (Jvm.Cond.selects "ForestRooms$LawReader" ({ cls := "ForestRooms$Reader", name := "plain", desc := "()LForestRooms$Test;" } : Jvm.MethodName) ({ cls := "ForestRooms$Reader", name := "plain", desc := "()LForestRooms$Test;" } : Jvm.MethodName)) ∈ lw_all := lw_g (lw_at lw_m4 211 rfl) rfl
theorem q1048 : (Jvm.Cond.selects "ForestRooms$LawReader" ({ cls := "ForestRooms$Reader", name := "positive", desc := "()LForestRooms$Test;" } : Jvm.MethodName) ({ cls := "ForestRooms$Reader", name := "positive", desc := "()LForestRooms$Test;" } : Jvm.MethodName)) ∈ lw_all := lw_g (lw_at lw_m4 218 rfl) rfl
theorem q1116 : (Jvm.Cond.methodLink "ForestRooms$LawReader" (68 : Nat) ({ cls := "java/util/ArrayList", name := "add", desc := "(Ljava/lang/Object;)Z" } : Jvm.MethodName)) ∈ lw_all := lw_g (lw_at lw_m5 46 rfl) rfl
theorem q2229 : (Jvm.Cond.selects "ForestRooms$LawReader" ({ cls := "ForestRooms$Reader", name := "is", desc := "(Ljava/lang/String;)Z" } : Jvm.MethodName) ({ cls := "ForestRooms$Reader", name := "is", desc := "(Ljava/lang/String;)Z" } : Jvm.MethodName)) ∈ lw_all := lw_g (lw_at lw_m9 199 rfl) rfl
theorem q2232 : (Jvm.Cond.selects "ForestRooms$LawReader" ({ cls := "ForestRooms$Reader", name := "sum", desc := "()LForestRooms$Sum;" } : Jvm.MethodName) ({ cls := "ForestRooms$Reader", name := "sum", desc := "()LForestRooms$Sum;" } : Jvm.MethodName)) ∈ lw_all := lw_g (lw_at lw_m9 202 rfl) rfl
theorem q2235 : (Jvm.Cond.selects "ForestRooms$LawReader" ({ cls := "ForestRooms$Reader", name := "test", desc := "()LForestRooms$Test;" } : Jvm.MethodName) ({ cls := "ForestRooms$Reader", name := "test", desc := "()LForestRooms$Test;" } : Jvm.MethodName)) ∈ lw_all := lw_g (lw_at lw_m9 205 rfl) rfl
theorem q2248 : (Jvm.Cond.castable "ForestRooms$LawReader" "java/lang/Object") ∈ lw_tbl := lw_at lw_m9 218 rfl
theorem in_X7 : ∀ w ∈ wsX70, w ∈ lw_all := lw_in wsX70 [736, 738, 740, 742, 744, 746, 748, 732, 734] (by decide +kernel) (by decide +kernel)
/-! ForestRooms$Fault -/
set_option maxRecDepth 100000
def RX8 : String := "ForestRooms$Fault"
def TX8 : u_T := fun k => match k with
  | 0 => ("java/lang/Throwable", "cause", "Ljava/lang/Throwable;", false)
  | 1 => ("java/lang/Throwable", "stackTrace", "[Ljava/lang/StackTraceElement;", false)
  | 2 => ("java/lang/Throwable", "suppressedExceptions", "Ljava/util/List;", false)
  | 3 => ("java/lang/Throwable", "detailMessage", "Ljava/lang/String;", false)
  | 4 => ("java/lang/Throwable", "backtrace", "Ljava/lang/Object;", false)
  | 5 => ("java/lang/Throwable", "depth", "I", false)
  | _ => ("ForestRooms$Fault", "place", "I", true)
def tyX8 : Nat → FieldType := fun k => match k with
  | 0 => .object "java/lang/Throwable"
  | 1 => .array (.object "java/lang/StackTraceElement")
  | 2 => .object "java/util/List"
  | 3 => .object "java/lang/String"
  | 4 => .object "java/lang/Object"
  | 5 => .int
  | _ => .int
abbrev wsX80 : List Cond := u_ws RX8 TX8 7
theorem nmX8 : ∀ a, a < 7 → ∀ b, b < 7 → a ≠ b → (TX8 a).2.1 ≠ (TX8 b).2.1 := by decide +kernel
theorem tyX8_ok : ∀ k, k < 7 → parseFieldDescriptor (TX8 k).2.2.1 = some (tyX8 k) := by decide +kernel
abbrev cX8_init : ByteArray := prog_5_method_1_code
def yX8_init : MethodName := ⟨RX8, "<init>", "(I)V"⟩
def dkwX8_init_0 : List UInt8 := [42, 1, 1, 3, 3, 183, 0, 1, 42, 27, 181, 0, 7, 177]
abbrev dktX8_init_0 : List UInt8 := dkwX8_init_0 ++ []
theorem dksX8_init_0 : cX8_init.data.toList.drop 0 = dktX8_init_0 := by decide +kernel
theorem dX8_init_0 : decode cX8_init 0 = .ok (.aload_n 0, 1) := dk_42 (dk_at dksX8_init_0 0 rfl rfl)
theorem dX8_init_1 : decode cX8_init 1 = .ok (.aconst_null, 1) := dk_1 (dk_at dksX8_init_0 1 rfl rfl)
theorem dX8_init_2 : decode cX8_init 2 = .ok (.aconst_null, 1) := dk_1 (dk_at dksX8_init_0 2 rfl rfl)
theorem dX8_init_3 : decode cX8_init 3 = .ok (.iconst 0, 1) := dk_3 (dk_at dksX8_init_0 3 rfl rfl)
theorem dX8_init_4 : decode cX8_init 4 = .ok (.iconst 0, 1) := dk_3 (dk_at dksX8_init_0 4 rfl rfl)
theorem dX8_init_5 : decode cX8_init 5 = .ok (.invokespecial 1, 3) := dk_183 0 1 (dk_at dksX8_init_0 5 rfl rfl)
theorem dX8_init_8 : decode cX8_init 8 = .ok (.aload_n 0, 1) := dk_42 (dk_at dksX8_init_0 8 rfl rfl)
theorem dX8_init_9 : decode cX8_init 9 = .ok (.iload_n 1, 1) := dk_27 (dk_at dksX8_init_0 9 rfl rfl)
theorem dX8_init_10 : decode cX8_init 10 = .ok (.putfield 7, 3) := dk_181 0 7 (dk_at dksX8_init_0 10 rfl rfl)
theorem dX8_init_13 : decode cX8_init 13 = .ok (.return_, 1) := dk_177 (dk_at dksX8_init_0 13 rfl rfl)
theorem q130 : (Jvm.Cond.initialized "ForestRooms$Fault") ∈ lw_all := lw_g (lw_at lw_m1 20 rfl) rfl
theorem q304 : (Jvm.Cond.selects "ForestRooms$Fault" ({ cls := "java/lang/Throwable", name := "fillInStackTrace", desc := "()Ljava/lang/Throwable;" } : Jvm.MethodName) ({ cls := "java/lang/Throwable", name := "fillInStackTrace", desc := "()Ljava/lang/Throwable;" } : Jvm.MethodName)) ∈ lw_all := lw_g (lw_at lw_m1 194 rfl) rfl
theorem q487 : (Jvm.Cond.selects "ForestRooms$Fault" ({ cls := "java/lang/Object", name := "getClass", desc := "()Ljava/lang/Class;" } : Jvm.MethodName) ({ cls := "java/lang/Object", name := "getClass", desc := "()Ljava/lang/Class;" } : Jvm.MethodName)) ∈ lw_all := lw_g (lw_at lw_m2 137 rfl) rfl
theorem q844 : (Jvm.Cond.instantiable "ForestRooms$Fault" (7 : Nat)) ∈ lw_all := lw_g (lw_at lw_m4 14 rfl) rfl
theorem q845 : (Jvm.Cond.castable "ForestRooms$Fault" "ForestRooms$Fault") ∈ lw_tbl := lw_at lw_m4 15 rfl
theorem q846 : (Jvm.Cond.selects "ForestRooms$Fault" ({ cls := "java/lang/Throwable", name := "fillInStackTrace", desc := "(I)Ljava/lang/Throwable;" } : Jvm.MethodName) ({ cls := "java/lang/Throwable", name := "fillInStackTrace", desc := "(I)Ljava/lang/Throwable;" } : Jvm.MethodName)) ∈ lw_all := lw_g (lw_at lw_m4 16 rfl) rfl
theorem q847 : (Jvm.Cond.lays "ForestRooms$Fault" "java/lang/Throwable" "cause" "Ljava/lang/Throwable;") ∈ lw_all := lw_g (lw_at lw_m4 17 rfl) rfl
theorem q848 : (Jvm.Cond.lays "ForestRooms$Fault" "java/lang/Throwable" "stackTrace" "[Ljava/lang/StackTraceElement;") ∈ lw_all := lw_g (lw_at lw_m4 18 rfl) rfl
theorem q849 : (Jvm.Cond.lays "ForestRooms$Fault" "java/lang/Throwable" "suppressedExceptions" "Ljava/util/List;") ∈ lw_all := lw_g (lw_at lw_m4 19 rfl) rfl
theorem q850 : (Jvm.Cond.lays "ForestRooms$Fault" "java/lang/Throwable" "detailMessage" "Ljava/lang/String;") ∈ lw_all := lw_g (lw_at lw_m4 20 rfl) rfl
theorem q851 : (Jvm.Cond.lays "ForestRooms$Fault" "java/lang/Throwable" "backtrace" "Ljava/lang/Object;") ∈ lw_all := lw_g (lw_at lw_m4 21 rfl) rfl
theorem q853 : (Jvm.Cond.instanceMethod ({ cls := "ForestRooms$Fault", name := "<init>", desc := "(I)V" } : Jvm.MethodName)) ∈ lw_all := lw_g (lw_at lw_m4 23 rfl) rfl
theorem q854 : (Jvm.Cond.code ({ cls := "ForestRooms$Fault", name := "<init>", desc := "(I)V" } : Jvm.MethodName) prog_5_method_1_code (2 : Nat) (Option.none : Option Jvm.ClassFile.FieldType)) ∈ lw_all := lw_g (lw_at lw_m4 24 rfl) rfl
theorem q855 : (Jvm.Cond.methodLink "ForestRooms$Fault" (1 : Nat) ({ cls := "java/lang/Exception", name := "<init>", desc := "(Ljava/lang/String;Ljava/lang/Throwable;ZZ)V" } : Jvm.MethodName)) ∈ lw_all := lw_g (lw_at lw_m4 25 rfl) rfl
theorem q856 : (Jvm.Cond.fieldLink "ForestRooms$Fault" (7 : Nat) "ForestRooms$Fault" "place" "I") ∈ lw_all := lw_g (lw_at lw_m4 26 rfl) rfl
theorem q858 : (Jvm.Cond.laysFinal "ForestRooms$Fault" "ForestRooms$Fault" "place" "I") ∈ lw_all := lw_g (lw_at lw_m4 28 rfl) rfl
theorem q859 : (Jvm.Cond.soleField "ForestRooms$Fault" "place") ∈ lw_all := lw_g (lw_at lw_m4 29 rfl) rfl
theorem q860 : (Jvm.Cond.lays "ForestRooms$Fault" "java/lang/Throwable" "depth" "I") ∈ lw_all := lw_g (lw_at lw_m4 30 rfl) rfl
theorem q861 : (Jvm.Cond.superclass "ForestRooms$Fault" "java/lang/Exception") ∈ lw_all := lw_g (lw_at lw_m4 31 rfl) rfl
theorem q2249 : (Jvm.Cond.castable "ForestRooms$Fault" "java/lang/Object") ∈ lw_tbl := lw_at lw_m9 219 rfl
theorem in_X8 : ∀ w ∈ wsX80, w ∈ lw_all := lw_in wsX80 [847, 848, 849, 850, 851, 860, 858] (by decide +kernel) (by decide +kernel)
/-! ForestRooms$Clause -/
set_option maxRecDepth 100000
def RX9 : String := "ForestRooms$Clause"
def TX9 : u_T := fun k => match k with
  | 0 => ("ForestRooms$Clause", "head", "I", true)
  | 1 => ("ForestRooms$Clause", "sum", "LForestRooms$Sum;", false)
  | _ => ("ForestRooms$Clause", "when", "LForestRooms$Test;", false)
def tyX9 : Nat → FieldType := fun k => match k with
  | 0 => .int
  | 1 => .object "ForestRooms$Sum"
  | _ => .object "ForestRooms$Test"
abbrev wsX90 : List Cond := u_ws RX9 TX9 3
theorem nmX9 : ∀ a, a < 3 → ∀ b, b < 3 → a ≠ b → (TX9 a).2.1 ≠ (TX9 b).2.1 := by decide +kernel
theorem tyX9_ok : ∀ k, k < 3 → parseFieldDescriptor (TX9 k).2.2.1 = some (tyX9 k) := by decide +kernel
abbrev cX9_tells : ByteArray := prog_3_method_2_code
def yX9_tells : MethodName := ⟨RX9, "tells", "(LForestRooms$Setting;)J"⟩
def dkwX9_tells_1 : List UInt8 := [180, 0, 27, 199, 0, 7, 10, 167, 0, 11, 42, 180, 0, 27, 43, 182, 0, 31, 173, 77, 20, 0, 25, 173]
abbrev dktX9_tells_1 : List UInt8 := dkwX9_tells_1 ++ []
def dkwX9_tells_0 : List UInt8 := [42, 180, 0, 15, 198, 0, 18, 42, 180, 0, 15, 43, 182, 0, 19, 154, 0, 7, 20, 0, 25, 173, 42]
abbrev dktX9_tells_0 : List UInt8 := dkwX9_tells_0 ++ dktX9_tells_1
theorem dksX9_tells_0 : cX9_tells.data.toList.drop 0 = dktX9_tells_0 := by decide +kernel
theorem dksX9_tells_1 : cX9_tells.data.toList.drop 23 = dktX9_tells_1 := dk_seg dksX9_tells_0 23 rfl rfl
theorem dX9_tells_0 : decode cX9_tells 0 = .ok (.aload_n 0, 1) := dk_42 (dk_at dksX9_tells_0 0 rfl rfl)
theorem dX9_tells_1 : decode cX9_tells 1 = .ok (.getfield 15, 3) := dk_180 0 15 (dk_at dksX9_tells_0 1 rfl rfl)
theorem dX9_tells_4 : decode cX9_tells 4 = .ok (.ifnull 18, 3) := dk_198 0 18 (dk_at dksX9_tells_0 4 rfl rfl)
theorem dX9_tells_7 : decode cX9_tells 7 = .ok (.aload_n 0, 1) := dk_42 (dk_at dksX9_tells_0 7 rfl rfl)
theorem dX9_tells_8 : decode cX9_tells 8 = .ok (.getfield 15, 3) := dk_180 0 15 (dk_at dksX9_tells_0 8 rfl rfl)
theorem dX9_tells_11 : decode cX9_tells 11 = .ok (.aload_n 1, 1) := dk_43 (dk_at dksX9_tells_0 11 rfl rfl)
theorem dX9_tells_12 : decode cX9_tells 12 = .ok (.invokevirtual 19, 3) := dk_182 0 19 (dk_at dksX9_tells_0 12 rfl rfl)
theorem dX9_tells_15 : decode cX9_tells 15 = .ok (.ifCond .ne 7, 3) := dk_154 0 7 (dk_at dksX9_tells_0 15 rfl rfl)
theorem dX9_tells_18 : decode cX9_tells 18 = .ok (.ldc2_w 25, 3) := dk_20 0 25 (dk_at dksX9_tells_0 18 rfl rfl)
theorem dX9_tells_21 : decode cX9_tells 21 = .ok (.lreturn, 1) := dk_173 (dk_at dksX9_tells_0 21 rfl rfl)
theorem dX9_tells_22 : decode cX9_tells 22 = .ok (.aload_n 0, 1) := dk_42 (dk_at dksX9_tells_0 22 rfl rfl)
theorem dX9_tells_23 : decode cX9_tells 23 = .ok (.getfield 27, 3) := dk_180 0 27 (dk_at dksX9_tells_1 0 rfl rfl)
theorem dX9_tells_26 : decode cX9_tells 26 = .ok (.ifnonnull 7, 3) := dk_199 0 7 (dk_at dksX9_tells_1 3 rfl rfl)
theorem dX9_tells_29 : decode cX9_tells 29 = .ok (.lconst 1, 1) := dk_10 (dk_at dksX9_tells_1 6 rfl rfl)
theorem dX9_tells_30 : decode cX9_tells 30 = .ok (.goto 11, 3) := dk_167 0 11 (dk_at dksX9_tells_1 7 rfl rfl)
theorem dX9_tells_33 : decode cX9_tells 33 = .ok (.aload_n 0, 1) := dk_42 (dk_at dksX9_tells_1 10 rfl rfl)
theorem dX9_tells_34 : decode cX9_tells 34 = .ok (.getfield 27, 3) := dk_180 0 27 (dk_at dksX9_tells_1 11 rfl rfl)
theorem dX9_tells_37 : decode cX9_tells 37 = .ok (.aload_n 1, 1) := dk_43 (dk_at dksX9_tells_1 14 rfl rfl)
theorem dX9_tells_38 : decode cX9_tells 38 = .ok (.invokevirtual 31, 3) := dk_182 0 31 (dk_at dksX9_tells_1 15 rfl rfl)
theorem dX9_tells_41 : decode cX9_tells 41 = .ok (.lreturn, 1) := dk_173 (dk_at dksX9_tells_1 18 rfl rfl)
theorem dX9_tells_42 : decode cX9_tells 42 = .ok (.astore_n 2, 1) := dk_77 (dk_at dksX9_tells_1 19 rfl rfl)
theorem dX9_tells_43 : decode cX9_tells 43 = .ok (.ldc2_w 25, 3) := dk_20 0 25 (dk_at dksX9_tells_1 20 rfl rfl)
theorem dX9_tells_46 : decode cX9_tells 46 = .ok (.lreturn, 1) := dk_173 (dk_at dksX9_tells_1 23 rfl rfl)
abbrev cX9_init : ByteArray := prog_3_method_1_code
def yX9_init : MethodName := ⟨RX9, "<init>", "(I)V"⟩
def dkwX9_init_0 : List UInt8 := [42, 183, 0, 3, 42, 27, 181, 0, 9, 177]
abbrev dktX9_init_0 : List UInt8 := dkwX9_init_0 ++ []
theorem dksX9_init_0 : cX9_init.data.toList.drop 0 = dktX9_init_0 := by decide +kernel
theorem dX9_init_0 : decode cX9_init 0 = .ok (.aload_n 0, 1) := dk_42 (dk_at dksX9_init_0 0 rfl rfl)
theorem dX9_init_1 : decode cX9_init 1 = .ok (.invokespecial 3, 3) := dk_183 0 3 (dk_at dksX9_init_0 1 rfl rfl)
theorem dX9_init_4 : decode cX9_init 4 = .ok (.aload_n 0, 1) := dk_42 (dk_at dksX9_init_0 4 rfl rfl)
theorem dX9_init_5 : decode cX9_init 5 = .ok (.iload_n 1, 1) := dk_27 (dk_at dksX9_init_0 5 rfl rfl)
theorem dX9_init_6 : decode cX9_init 6 = .ok (.putfield 9, 3) := dk_181 0 9 (dk_at dksX9_init_0 6 rfl rfl)
theorem dX9_init_9 : decode cX9_init 9 = .ok (.return_, 1) := dk_177 (dk_at dksX9_init_0 9 rfl rfl)
theorem q131 : (Jvm.Cond.initialized "ForestRooms$Clause") ∈ lw_all := lw_g (lw_at lw_m1 21 rfl) rfl
theorem q485 : (Jvm.Cond.selects "ForestRooms$Clause" ({ cls := "java/lang/Object", name := "getClass", desc := "()Ljava/lang/Class;" } : Jvm.MethodName) ({ cls := "java/lang/Object", name := "getClass", desc := "()Ljava/lang/Class;" } : Jvm.MethodName)) ∈ lw_all := lw_g (lw_at lw_m2 135 rfl) rfl
theorem q613 : (Jvm.Cond.instanceMethod ({ cls := "ForestRooms$Clause", name := "tells", desc := "(LForestRooms$Setting;)J" } : Jvm.MethodName)) ∈ lw_all := lw_g (lw_at lw_m3 23 rfl) rfl
theorem q614 : (Jvm.Cond.selects "ForestRooms$Clause" ({ cls := "ForestRooms$Clause", name := "tells", desc := "(LForestRooms$Setting;)J" } : Jvm.MethodName) ({ cls := "ForestRooms$Clause", name := "tells", desc := "(LForestRooms$Setting;)J" } : Jvm.MethodName)) ∈ lw_all := lw_g (lw_at lw_m3 24 rfl) rfl
theorem q615 : (Jvm.Cond.codeWith ({ cls := "ForestRooms$Clause", name := "tells", desc := "(LForestRooms$Setting;)J" } : Jvm.MethodName) prog_3_method_2_code (3 : Nat) (Option.some Jvm.ClassFile.FieldType.long) [((0 : Nat), (21 : Nat), (42 : Nat), (37 : Nat)), ((22 : Nat), (41 : Nat), (42 : Nat), (37 : Nat))]) ∈ lw_all := lw_g (lw_at lw_m3 25 rfl) rfl
theorem q616 : (Jvm.Cond.classLink "ForestRooms$Clause" (37 : Nat) "ForestRooms$Broken") ∈ lw_all := lw_g (lw_at lw_m3 26 rfl) rfl
theorem q617 : (Jvm.Cond.methodLink "ForestRooms$Clause" (19 : Nat) ({ cls := "ForestRooms$Test", name := "is", desc := "(LForestRooms$Setting;)Z" } : Jvm.MethodName)) ∈ lw_all := lw_g (lw_at lw_m3 27 rfl) rfl
theorem q649 : (Jvm.Cond.constantLong "ForestRooms$Clause" (25 : Nat) (-4000000000 : Int64)) ∈ lw_all := lw_g (lw_at lw_m3 59 rfl) rfl
theorem q650 : (Jvm.Cond.methodLink "ForestRooms$Clause" (31 : Nat) ({ cls := "ForestRooms$Sum", name := "of", desc := "(LForestRooms$Setting;)J" } : Jvm.MethodName)) ∈ lw_all := lw_g (lw_at lw_m3 60 rfl) rfl
theorem q867 : (Jvm.Cond.instantiable "ForestRooms$Clause" (3 : Nat)) ∈ lw_all := lw_g (lw_at lw_m4 37 rfl) rfl
theorem q869 : (Jvm.Cond.instanceMethod ({ cls := "ForestRooms$Clause", name := "<init>", desc := "(I)V" } : Jvm.MethodName)) ∈ lw_all := lw_g (lw_at lw_m4 39 rfl) rfl
theorem q870 : (Jvm.Cond.code ({ cls := "ForestRooms$Clause", name := "<init>", desc := "(I)V" } : Jvm.MethodName) prog_3_method_1_code (2 : Nat) (Option.none : Option Jvm.ClassFile.FieldType)) ∈ lw_all := lw_g (lw_at lw_m4 40 rfl) rfl
theorem q871 : (Jvm.Cond.methodLink "ForestRooms$Clause" (3 : Nat) ({ cls := "java/lang/Object", name := "<init>", desc := "()V" } : Jvm.MethodName)) ∈ lw_all := lw_g (lw_at lw_m4 41 rfl) rfl
theorem q872 : (Jvm.Cond.fieldLink "ForestRooms$Clause" (9 : Nat) "ForestRooms$Clause" "head" "I") ∈ lw_all := lw_g (lw_at lw_m4 42 rfl) rfl
theorem q874 : (Jvm.Cond.fieldLink "ForestRooms$Clause" (27 : Nat) "ForestRooms$Clause" "sum" "LForestRooms$Sum;") ∈ lw_all := lw_g (lw_at lw_m4 44 rfl) rfl
theorem q876 : (Jvm.Cond.fieldLink "ForestRooms$Clause" (15 : Nat) "ForestRooms$Clause" "when" "LForestRooms$Test;") ∈ lw_all := lw_g (lw_at lw_m4 46 rfl) rfl
theorem q878 : (Jvm.Cond.laysFinal "ForestRooms$Clause" "ForestRooms$Clause" "head" "I") ∈ lw_all := lw_g (lw_at lw_m4 48 rfl) rfl
theorem q879 : (Jvm.Cond.soleField "ForestRooms$Clause" "head") ∈ lw_all := lw_g (lw_at lw_m4 49 rfl) rfl
theorem q880 : (Jvm.Cond.lays "ForestRooms$Clause" "ForestRooms$Clause" "sum" "LForestRooms$Sum;") ∈ lw_all := lw_g (lw_at lw_m4 50 rfl) rfl
theorem q881 : (Jvm.Cond.soleField "ForestRooms$Clause" "sum") ∈ lw_all := lw_g (lw_at lw_m4 51 rfl) rfl
theorem q882 : (Jvm.Cond.lays "ForestRooms$Clause" "ForestRooms$Clause" "when" "LForestRooms$Test;") ∈ lw_all := lw_g (lw_at lw_m4 52 rfl) rfl
theorem q883 : (Jvm.Cond.soleField "ForestRooms$Clause" "when") ∈ lw_all := lw_g (lw_at lw_m4 53 rfl) rfl
theorem q884 : (Jvm.Cond.superclass "ForestRooms$Clause" "java/lang/Object") ∈ lw_all := lw_g (lw_at lw_m4 54 rfl) rfl
theorem q2250 : (Jvm.Cond.castable "ForestRooms$Clause" "java/lang/Object") ∈ lw_tbl := lw_at lw_m9 220 rfl
theorem in_X9 : ∀ w ∈ wsX90, w ∈ lw_all := lw_in wsX90 [878, 880, 882] (by decide +kernel) (by decide +kernel)
/-! ForestRooms$Sum -/
set_option maxRecDepth 100000
def RX10 : String := "ForestRooms$Sum"
abbrev cX10_init : ByteArray := prog_16_method_1_code
def yX10_init : MethodName := ⟨RX10, "<init>", "()V"⟩
theorem dX10_init_0 : decode cX10_init 0 = .ok (.aload_n 0, 1) := by decide +kernel
theorem dX10_init_1 : decode cX10_init 1 = .ok (.invokespecial 1, 3) := by decide +kernel
theorem dX10_init_4 : decode cX10_init 4 = .ok (.return_, 1) := by decide +kernel
theorem q132 : (Jvm.Cond.initialized "ForestRooms$Sum") ∈ lw_all := lw_g (lw_at lw_m1 22 rfl) rfl
theorem q624 : (Jvm.Cond.declares ({ cls := "ForestRooms$Sum", name := "of", desc := "(LForestRooms$Setting;)J" } : Jvm.MethodName)) ∈ lw_tbl := lw_at lw_m3 34 rfl
theorem q625 : (Jvm.Cond.sameMethod "ForestRooms$Sum" "ForestRooms$Sum" "of" "(LForestRooms$Setting;)J") ∈ lw_all := lw_g (lw_at lw_m3 35 rfl) rfl
theorem q943 : (Jvm.Cond.instanceMethod ({ cls := "ForestRooms$Sum", name := "<init>", desc := "()V" } : Jvm.MethodName)) ∈ lw_all := lw_g (lw_at lw_m4 113 rfl) rfl
theorem q944 : (Jvm.Cond.code ({ cls := "ForestRooms$Sum", name := "<init>", desc := "()V" } : Jvm.MethodName) prog_16_method_1_code (1 : Nat) (Option.none : Option Jvm.ClassFile.FieldType)) ∈ lw_all := lw_g (lw_at lw_m4 114 rfl) rfl
theorem q945 : (Jvm.Cond.methodLink "ForestRooms$Sum" (1 : Nat) ({ cls := "java/lang/Object", name := "<init>", desc := "()V" } : Jvm.MethodName)) ∈ lw_all := lw_g (lw_at lw_m4 115 rfl) rfl
/-! ForestRooms$Number -/
set_option maxRecDepth 100000
def RX11 : String := "ForestRooms$Number"
def TX11 : u_T := fun k => match k with
  | _ => ("ForestRooms$Number", "number", "I", true)
def tyX11 : Nat → FieldType := fun k => match k with
  | _ => .int
abbrev wsX110 : List Cond := u_ws RX11 TX11 1
theorem nmX11 : ∀ a, a < 1 → ∀ b, b < 1 → a ≠ b → (TX11 a).2.1 ≠ (TX11 b).2.1 := by decide +kernel
theorem tyX11_ok : ∀ k, k < 1 → parseFieldDescriptor (TX11 k).2.2.1 = some (tyX11 k) := by decide +kernel
abbrev cX11_of : ByteArray := prog_9_method_2_code
def yX11_of : MethodName := ⟨RX11, "of", "(LForestRooms$Setting;)J"⟩
def dkwX11_of_0 : List UInt8 := [42, 180, 0, 7, 133, 173]
abbrev dktX11_of_0 : List UInt8 := dkwX11_of_0 ++ []
theorem dksX11_of_0 : cX11_of.data.toList.drop 0 = dktX11_of_0 := by decide +kernel
theorem dX11_of_0 : decode cX11_of 0 = .ok (.aload_n 0, 1) := dk_42 (dk_at dksX11_of_0 0 rfl rfl)
theorem dX11_of_1 : decode cX11_of 1 = .ok (.getfield 7, 3) := dk_180 0 7 (dk_at dksX11_of_0 1 rfl rfl)
theorem dX11_of_4 : decode cX11_of 4 = .ok (.i2l, 1) := dk_133 (dk_at dksX11_of_0 4 rfl rfl)
theorem dX11_of_5 : decode cX11_of 5 = .ok (.lreturn, 1) := dk_173 (dk_at dksX11_of_0 5 rfl rfl)
abbrev cX11_init : ByteArray := prog_9_method_1_code
def yX11_init : MethodName := ⟨RX11, "<init>", "(I)V"⟩
def dkwX11_init_0 : List UInt8 := [42, 183, 0, 1, 42, 27, 181, 0, 7, 177]
abbrev dktX11_init_0 : List UInt8 := dkwX11_init_0 ++ []
theorem dksX11_init_0 : cX11_init.data.toList.drop 0 = dktX11_init_0 := by decide +kernel
theorem dX11_init_0 : decode cX11_init 0 = .ok (.aload_n 0, 1) := dk_42 (dk_at dksX11_init_0 0 rfl rfl)
theorem dX11_init_1 : decode cX11_init 1 = .ok (.invokespecial 1, 3) := dk_183 0 1 (dk_at dksX11_init_0 1 rfl rfl)
theorem dX11_init_4 : decode cX11_init 4 = .ok (.aload_n 0, 1) := dk_42 (dk_at dksX11_init_0 4 rfl rfl)
theorem dX11_init_5 : decode cX11_init 5 = .ok (.iload_n 1, 1) := dk_27 (dk_at dksX11_init_0 5 rfl rfl)
theorem dX11_init_6 : decode cX11_init 6 = .ok (.putfield 7, 3) := dk_181 0 7 (dk_at dksX11_init_0 6 rfl rfl)
theorem dX11_init_9 : decode cX11_init 9 = .ok (.return_, 1) := dk_177 (dk_at dksX11_init_0 9 rfl rfl)
theorem q133 : (Jvm.Cond.initialized "ForestRooms$Number") ∈ lw_all := lw_g (lw_at lw_m1 23 rfl) rfl
theorem q491 : (Jvm.Cond.selects "ForestRooms$Number" ({ cls := "java/lang/Object", name := "getClass", desc := "()Ljava/lang/Class;" } : Jvm.MethodName) ({ cls := "java/lang/Object", name := "getClass", desc := "()Ljava/lang/Class;" } : Jvm.MethodName)) ∈ lw_all := lw_g (lw_at lw_m2 141 rfl) rfl
theorem q626 : (Jvm.Cond.selects "ForestRooms$Number" ({ cls := "ForestRooms$Sum", name := "of", desc := "(LForestRooms$Setting;)J" } : Jvm.MethodName) ({ cls := "ForestRooms$Number", name := "of", desc := "(LForestRooms$Setting;)J" } : Jvm.MethodName)) ∈ lw_all := lw_g (lw_at lw_m3 36 rfl) rfl
theorem q627 : (Jvm.Cond.instanceMethod ({ cls := "ForestRooms$Number", name := "of", desc := "(LForestRooms$Setting;)J" } : Jvm.MethodName)) ∈ lw_all := lw_g (lw_at lw_m3 37 rfl) rfl
theorem q628 : (Jvm.Cond.code ({ cls := "ForestRooms$Number", name := "of", desc := "(LForestRooms$Setting;)J" } : Jvm.MethodName) prog_9_method_2_code (2 : Nat) (Option.some Jvm.ClassFile.FieldType.long)) ∈ lw_all := lw_g (lw_at lw_m3 38 rfl) rfl
theorem q932 : (Jvm.Cond.instantiable "ForestRooms$Number" (1 : Nat)) ∈ lw_all := lw_g (lw_at lw_m4 102 rfl) rfl
theorem q940 : (Jvm.Cond.instanceMethod ({ cls := "ForestRooms$Number", name := "<init>", desc := "(I)V" } : Jvm.MethodName)) ∈ lw_all := lw_g (lw_at lw_m4 110 rfl) rfl
theorem q941 : (Jvm.Cond.code ({ cls := "ForestRooms$Number", name := "<init>", desc := "(I)V" } : Jvm.MethodName) prog_9_method_1_code (2 : Nat) (Option.none : Option Jvm.ClassFile.FieldType)) ∈ lw_all := lw_g (lw_at lw_m4 111 rfl) rfl
theorem q942 : (Jvm.Cond.methodLinkNest "ForestRooms$Number" (1 : Nat) ({ cls := "ForestRooms$Sum", name := "<init>", desc := "()V" } : Jvm.MethodName) "ForestRooms") ∈ lw_tbl := lw_at lw_m4 112 rfl
theorem q946 : (Jvm.Cond.fieldLink "ForestRooms$Number" (7 : Nat) "ForestRooms$Number" "number" "I") ∈ lw_all := lw_g (lw_at lw_m4 116 rfl) rfl
theorem q947 : (Jvm.Cond.laysFinal "ForestRooms$Number" "ForestRooms$Number" "number" "I") ∈ lw_all := lw_g (lw_at lw_m4 117 rfl) rfl
theorem q948 : (Jvm.Cond.soleField "ForestRooms$Number" "number") ∈ lw_all := lw_g (lw_at lw_m4 118 rfl) rfl
theorem q949 : (Jvm.Cond.superclass "ForestRooms$Number" "ForestRooms$Sum") ∈ lw_all := lw_g (lw_at lw_m4 119 rfl) rfl
theorem q2251 : (Jvm.Cond.castable "ForestRooms$Number" "java/lang/Object") ∈ lw_tbl := lw_at lw_m9 221 rfl
theorem in_X11 : ∀ w ∈ wsX110, w ∈ lw_all := lw_in wsX110 [947] (by decide +kernel) (by decide +kernel)
/-! ForestRooms$Value -/
set_option maxRecDepth 100000
def RX12 : String := "ForestRooms$Value"
def TX12 : u_T := fun k => match k with
  | _ => ("ForestRooms$Value", "which", "I", true)
def tyX12 : Nat → FieldType := fun k => match k with
  | _ => .int
abbrev wsX120 : List Cond := u_ws RX12 TX12 1
theorem nmX12 : ∀ a, a < 1 → ∀ b, b < 1 → a ≠ b → (TX12 a).2.1 ≠ (TX12 b).2.1 := by decide +kernel
theorem tyX12_ok : ∀ k, k < 1 → parseFieldDescriptor (TX12 k).2.2.1 = some (tyX12 k) := by decide +kernel
abbrev cX12_of : ByteArray := prog_20_method_2_code
def yX12_of : MethodName := ⟨RX12, "of", "(LForestRooms$Setting;)J"⟩
def dkwX12_of_0 : List UInt8 := [43, 180, 0, 13, 42, 180, 0, 7, 47, 173]
abbrev dktX12_of_0 : List UInt8 := dkwX12_of_0 ++ []
theorem dksX12_of_0 : cX12_of.data.toList.drop 0 = dktX12_of_0 := by decide +kernel
theorem dX12_of_0 : decode cX12_of 0 = .ok (.aload_n 1, 1) := dk_43 (dk_at dksX12_of_0 0 rfl rfl)
theorem dX12_of_1 : decode cX12_of 1 = .ok (.getfield 13, 3) := dk_180 0 13 (dk_at dksX12_of_0 1 rfl rfl)
theorem dX12_of_4 : decode cX12_of 4 = .ok (.aload_n 0, 1) := dk_42 (dk_at dksX12_of_0 4 rfl rfl)
theorem dX12_of_5 : decode cX12_of 5 = .ok (.getfield 7, 3) := dk_180 0 7 (dk_at dksX12_of_0 5 rfl rfl)
theorem dX12_of_8 : decode cX12_of 8 = .ok (.laload, 1) := dk_47 (dk_at dksX12_of_0 8 rfl rfl)
theorem dX12_of_9 : decode cX12_of 9 = .ok (.lreturn, 1) := dk_173 (dk_at dksX12_of_0 9 rfl rfl)
abbrev cX12_init : ByteArray := prog_20_method_1_code
def yX12_init : MethodName := ⟨RX12, "<init>", "(I)V"⟩
def dkwX12_init_0 : List UInt8 := [42, 183, 0, 1, 42, 27, 181, 0, 7, 177]
abbrev dktX12_init_0 : List UInt8 := dkwX12_init_0 ++ []
theorem dksX12_init_0 : cX12_init.data.toList.drop 0 = dktX12_init_0 := by decide +kernel
theorem dX12_init_0 : decode cX12_init 0 = .ok (.aload_n 0, 1) := dk_42 (dk_at dksX12_init_0 0 rfl rfl)
theorem dX12_init_1 : decode cX12_init 1 = .ok (.invokespecial 1, 3) := dk_183 0 1 (dk_at dksX12_init_0 1 rfl rfl)
theorem dX12_init_4 : decode cX12_init 4 = .ok (.aload_n 0, 1) := dk_42 (dk_at dksX12_init_0 4 rfl rfl)
theorem dX12_init_5 : decode cX12_init 5 = .ok (.iload_n 1, 1) := dk_27 (dk_at dksX12_init_0 5 rfl rfl)
theorem dX12_init_6 : decode cX12_init 6 = .ok (.putfield 7, 3) := dk_181 0 7 (dk_at dksX12_init_0 6 rfl rfl)
theorem dX12_init_9 : decode cX12_init 9 = .ok (.return_, 1) := dk_177 (dk_at dksX12_init_0 9 rfl rfl)
theorem q134 : (Jvm.Cond.initialized "ForestRooms$Value") ∈ lw_all := lw_g (lw_at lw_m1 24 rfl) rfl
theorem q337 : (Jvm.Cond.fieldLinkNest "ForestRooms$Value" (13 : Nat) "ForestRooms$Setting" "values" "[J" "ForestRooms") ∈ lw_tbl := lw_at lw_m1 227 rfl
theorem q499 : (Jvm.Cond.selects "ForestRooms$Value" ({ cls := "java/lang/Object", name := "getClass", desc := "()Ljava/lang/Class;" } : Jvm.MethodName) ({ cls := "java/lang/Object", name := "getClass", desc := "()Ljava/lang/Class;" } : Jvm.MethodName)) ∈ lw_all := lw_g (lw_at lw_m2 149 rfl) rfl
theorem q633 : (Jvm.Cond.instanceMethod ({ cls := "ForestRooms$Value", name := "of", desc := "(LForestRooms$Setting;)J" } : Jvm.MethodName)) ∈ lw_all := lw_g (lw_at lw_m3 43 rfl) rfl
theorem q634 : (Jvm.Cond.code ({ cls := "ForestRooms$Value", name := "of", desc := "(LForestRooms$Setting;)J" } : Jvm.MethodName) prog_20_method_2_code (2 : Nat) (Option.some Jvm.ClassFile.FieldType.long)) ∈ lw_all := lw_g (lw_at lw_m3 44 rfl) rfl
theorem q637 : (Jvm.Cond.selects "ForestRooms$Value" ({ cls := "ForestRooms$Sum", name := "of", desc := "(LForestRooms$Setting;)J" } : Jvm.MethodName) ({ cls := "ForestRooms$Value", name := "of", desc := "(LForestRooms$Setting;)J" } : Jvm.MethodName)) ∈ lw_all := lw_g (lw_at lw_m3 47 rfl) rfl
theorem q991 : (Jvm.Cond.instantiable "ForestRooms$Value" (1 : Nat)) ∈ lw_all := lw_g (lw_at lw_m4 161 rfl) rfl
theorem q993 : (Jvm.Cond.instanceMethod ({ cls := "ForestRooms$Value", name := "<init>", desc := "(I)V" } : Jvm.MethodName)) ∈ lw_all := lw_g (lw_at lw_m4 163 rfl) rfl
theorem q994 : (Jvm.Cond.code ({ cls := "ForestRooms$Value", name := "<init>", desc := "(I)V" } : Jvm.MethodName) prog_20_method_1_code (2 : Nat) (Option.none : Option Jvm.ClassFile.FieldType)) ∈ lw_all := lw_g (lw_at lw_m4 164 rfl) rfl
theorem q995 : (Jvm.Cond.methodLinkNest "ForestRooms$Value" (1 : Nat) ({ cls := "ForestRooms$Sum", name := "<init>", desc := "()V" } : Jvm.MethodName) "ForestRooms") ∈ lw_tbl := lw_at lw_m4 165 rfl
theorem q996 : (Jvm.Cond.fieldLink "ForestRooms$Value" (7 : Nat) "ForestRooms$Value" "which" "I") ∈ lw_all := lw_g (lw_at lw_m4 166 rfl) rfl
theorem q997 : (Jvm.Cond.laysFinal "ForestRooms$Value" "ForestRooms$Value" "which" "I") ∈ lw_all := lw_g (lw_at lw_m4 167 rfl) rfl
theorem q998 : (Jvm.Cond.soleField "ForestRooms$Value" "which") ∈ lw_all := lw_g (lw_at lw_m4 168 rfl) rfl
theorem q999 : (Jvm.Cond.superclass "ForestRooms$Value" "ForestRooms$Sum") ∈ lw_all := lw_g (lw_at lw_m4 169 rfl) rfl
theorem q2252 : (Jvm.Cond.castable "ForestRooms$Value" "java/lang/Object") ∈ lw_tbl := lw_at lw_m9 222 rfl
theorem in_X12 : ∀ w ∈ wsX120, w ∈ lw_all := lw_in wsX120 [997] (by decide +kernel) (by decide +kernel)
/-! ForestRooms$Two -/
set_option maxRecDepth 100000
def RX13 : String := "ForestRooms$Two"
def TX13 : u_T := fun k => match k with
  | 0 => ("ForestRooms$Two", "sign", "C", true)
  | 1 => ("ForestRooms$Two", "left", "LForestRooms$Sum;", true)
  | _ => ("ForestRooms$Two", "right", "LForestRooms$Sum;", true)
def tyX13 : Nat → FieldType := fun k => match k with
  | 0 => .char
  | 1 => .object "ForestRooms$Sum"
  | _ => .object "ForestRooms$Sum"
abbrev wsX130 : List Cond := u_ws RX13 TX13 3
theorem nmX13 : ∀ a, a < 3 → ∀ b, b < 3 → a ≠ b → (TX13 a).2.1 ≠ (TX13 b).2.1 := by decide +kernel
theorem tyX13_ok : ∀ k, k < 3 → parseFieldDescriptor (TX13 k).2.2.1 = some (tyX13 k) := by decide +kernel
abbrev cX13_of : ByteArray := prog_19_method_2_code
def yX13_of : MethodName := ⟨RX13, "of", "(LForestRooms$Setting;)J"⟩
def dkwX13_of_6 : List UInt8 := [191, 22, 6, 173]
abbrev dktX13_of_6 : List UInt8 := dkwX13_of_6 ++ []
def dkwX13_of_5 : List UInt8 := [55, 6, 22, 6, 20, 0, 32, 148, 157, 0, 12, 22, 6, 20, 0, 34, 148, 156, 0, 8, 43, 180, 0, 26]
abbrev dktX13_of_5 : List UInt8 := dkwX13_of_5 ++ dktX13_of_6
def dkwX13_of_4 : List UInt8 := [105, 167, 0, 23, 42, 180, 0, 9, 16, 47, 160, 0, 10, 32, 22, 4, 109, 167, 0, 7, 32, 22, 4, 113]
abbrev dktX13_of_4 : List UInt8 := dkwX13_of_4 ++ dktX13_of_5
def dkwX13_of_3 : List UInt8 := [16, 45, 160, 0, 10, 32, 22, 4, 101, 167, 0, 39, 42, 180, 0, 9, 16, 42, 160, 0, 10, 32, 22, 4]
abbrev dktX13_of_3 : List UInt8 := dkwX13_of_3 ++ dktX13_of_4
def dkwX13_of_2 : List UInt8 := [180, 0, 26, 191, 42, 180, 0, 9, 16, 43, 160, 0, 10, 32, 22, 4, 97, 167, 0, 55, 42, 180, 0, 9]
abbrev dktX13_of_2 : List UInt8 := dkwX13_of_2 ++ dktX13_of_3
def dkwX13_of_1 : List UInt8 := [16, 47, 159, 0, 12, 42, 180, 0, 9, 16, 37, 160, 0, 15, 22, 4, 9, 148, 154, 0, 8, 43]
abbrev dktX13_of_1 : List UInt8 := dkwX13_of_1 ++ dktX13_of_2
def dkwX13_of_0 : List UInt8 := [42, 180, 0, 15, 43, 182, 0, 22, 65, 42, 180, 0, 19, 43, 182, 0, 22, 55, 4, 42, 180, 0, 9]
abbrev dktX13_of_0 : List UInt8 := dkwX13_of_0 ++ dktX13_of_1
theorem dksX13_of_0 : cX13_of.data.toList.drop 0 = dktX13_of_0 := by decide +kernel
theorem dksX13_of_1 : cX13_of.data.toList.drop 23 = dktX13_of_1 := dk_seg dksX13_of_0 23 rfl rfl
theorem dksX13_of_2 : cX13_of.data.toList.drop 45 = dktX13_of_2 := dk_seg dksX13_of_1 22 rfl rfl
theorem dksX13_of_3 : cX13_of.data.toList.drop 69 = dktX13_of_3 := dk_seg dksX13_of_2 24 rfl rfl
theorem dksX13_of_4 : cX13_of.data.toList.drop 93 = dktX13_of_4 := dk_seg dksX13_of_3 24 rfl rfl
theorem dksX13_of_5 : cX13_of.data.toList.drop 117 = dktX13_of_5 := dk_seg dksX13_of_4 24 rfl rfl
theorem dksX13_of_6 : cX13_of.data.toList.drop 141 = dktX13_of_6 := dk_seg dksX13_of_5 24 rfl rfl
theorem dX13_of_0 : decode cX13_of 0 = .ok (.aload_n 0, 1) := dk_42 (dk_at dksX13_of_0 0 rfl rfl)
theorem dX13_of_1 : decode cX13_of 1 = .ok (.getfield 15, 3) := dk_180 0 15 (dk_at dksX13_of_0 1 rfl rfl)
theorem dX13_of_4 : decode cX13_of 4 = .ok (.aload_n 1, 1) := dk_43 (dk_at dksX13_of_0 4 rfl rfl)
theorem dX13_of_5 : decode cX13_of 5 = .ok (.invokevirtual 22, 3) := dk_182 0 22 (dk_at dksX13_of_0 5 rfl rfl)
theorem dX13_of_8 : decode cX13_of 8 = .ok (.lstore_n 2, 1) := dk_65 (dk_at dksX13_of_0 8 rfl rfl)
theorem dX13_of_9 : decode cX13_of 9 = .ok (.aload_n 0, 1) := dk_42 (dk_at dksX13_of_0 9 rfl rfl)
theorem dX13_of_10 : decode cX13_of 10 = .ok (.getfield 19, 3) := dk_180 0 19 (dk_at dksX13_of_0 10 rfl rfl)
theorem dX13_of_13 : decode cX13_of 13 = .ok (.aload_n 1, 1) := dk_43 (dk_at dksX13_of_0 13 rfl rfl)
theorem dX13_of_14 : decode cX13_of 14 = .ok (.invokevirtual 22, 3) := dk_182 0 22 (dk_at dksX13_of_0 14 rfl rfl)
theorem dX13_of_17 : decode cX13_of 17 = .ok (.lstore 4, 2) := dk_55 4 (dk_at dksX13_of_0 17 rfl rfl)
theorem dX13_of_19 : decode cX13_of 19 = .ok (.aload_n 0, 1) := dk_42 (dk_at dksX13_of_0 19 rfl rfl)
theorem dX13_of_20 : decode cX13_of 20 = .ok (.getfield 9, 3) := dk_180 0 9 (dk_at dksX13_of_0 20 rfl rfl)
theorem dX13_of_23 : decode cX13_of 23 = .ok (.bipush 47, 2) := dk_16 47 (dk_at dksX13_of_1 0 rfl rfl)
theorem dX13_of_25 : decode cX13_of 25 = .ok (.if_icmp .eq 12, 3) := dk_159 0 12 (dk_at dksX13_of_1 2 rfl rfl)
theorem dX13_of_28 : decode cX13_of 28 = .ok (.aload_n 0, 1) := dk_42 (dk_at dksX13_of_1 5 rfl rfl)
theorem dX13_of_29 : decode cX13_of 29 = .ok (.getfield 9, 3) := dk_180 0 9 (dk_at dksX13_of_1 6 rfl rfl)
theorem dX13_of_32 : decode cX13_of 32 = .ok (.bipush 37, 2) := dk_16 37 (dk_at dksX13_of_1 9 rfl rfl)
theorem dX13_of_34 : decode cX13_of 34 = .ok (.if_icmp .ne 15, 3) := dk_160 0 15 (dk_at dksX13_of_1 11 rfl rfl)
theorem dX13_of_37 : decode cX13_of 37 = .ok (.lload 4, 2) := dk_22 4 (dk_at dksX13_of_1 14 rfl rfl)
theorem dX13_of_39 : decode cX13_of 39 = .ok (.lconst 0, 1) := dk_9 (dk_at dksX13_of_1 16 rfl rfl)
theorem dX13_of_40 : decode cX13_of 40 = .ok (.lcmp, 1) := dk_148 (dk_at dksX13_of_1 17 rfl rfl)
theorem dX13_of_41 : decode cX13_of 41 = .ok (.ifCond .ne 8, 3) := dk_154 0 8 (dk_at dksX13_of_1 18 rfl rfl)
theorem dX13_of_44 : decode cX13_of 44 = .ok (.aload_n 1, 1) := dk_43 (dk_at dksX13_of_1 21 rfl rfl)
theorem dX13_of_45 : decode cX13_of 45 = .ok (.getfield 26, 3) := dk_180 0 26 (dk_at dksX13_of_2 0 rfl rfl)
theorem dX13_of_48 : decode cX13_of 48 = .ok (.athrow, 1) := dk_191 (dk_at dksX13_of_2 3 rfl rfl)
theorem dX13_of_49 : decode cX13_of 49 = .ok (.aload_n 0, 1) := dk_42 (dk_at dksX13_of_2 4 rfl rfl)
theorem dX13_of_50 : decode cX13_of 50 = .ok (.getfield 9, 3) := dk_180 0 9 (dk_at dksX13_of_2 5 rfl rfl)
theorem dX13_of_53 : decode cX13_of 53 = .ok (.bipush 43, 2) := dk_16 43 (dk_at dksX13_of_2 8 rfl rfl)
theorem dX13_of_55 : decode cX13_of 55 = .ok (.if_icmp .ne 10, 3) := dk_160 0 10 (dk_at dksX13_of_2 10 rfl rfl)
theorem dX13_of_58 : decode cX13_of 58 = .ok (.lload_n 2, 1) := dk_32 (dk_at dksX13_of_2 13 rfl rfl)
theorem dX13_of_59 : decode cX13_of 59 = .ok (.lload 4, 2) := dk_22 4 (dk_at dksX13_of_2 14 rfl rfl)
theorem dX13_of_61 : decode cX13_of 61 = .ok (.ladd, 1) := dk_97 (dk_at dksX13_of_2 16 rfl rfl)
theorem dX13_of_62 : decode cX13_of 62 = .ok (.goto 55, 3) := dk_167 0 55 (dk_at dksX13_of_2 17 rfl rfl)
theorem dX13_of_65 : decode cX13_of 65 = .ok (.aload_n 0, 1) := dk_42 (dk_at dksX13_of_2 20 rfl rfl)
theorem dX13_of_66 : decode cX13_of 66 = .ok (.getfield 9, 3) := dk_180 0 9 (dk_at dksX13_of_2 21 rfl rfl)
theorem dX13_of_69 : decode cX13_of 69 = .ok (.bipush 45, 2) := dk_16 45 (dk_at dksX13_of_3 0 rfl rfl)
theorem dX13_of_71 : decode cX13_of 71 = .ok (.if_icmp .ne 10, 3) := dk_160 0 10 (dk_at dksX13_of_3 2 rfl rfl)
theorem dX13_of_74 : decode cX13_of 74 = .ok (.lload_n 2, 1) := dk_32 (dk_at dksX13_of_3 5 rfl rfl)
theorem dX13_of_75 : decode cX13_of 75 = .ok (.lload 4, 2) := dk_22 4 (dk_at dksX13_of_3 6 rfl rfl)
theorem dX13_of_77 : decode cX13_of 77 = .ok (.lsub, 1) := dk_101 (dk_at dksX13_of_3 8 rfl rfl)
theorem dX13_of_78 : decode cX13_of 78 = .ok (.goto 39, 3) := dk_167 0 39 (dk_at dksX13_of_3 9 rfl rfl)
theorem dX13_of_81 : decode cX13_of 81 = .ok (.aload_n 0, 1) := dk_42 (dk_at dksX13_of_3 12 rfl rfl)
theorem dX13_of_82 : decode cX13_of 82 = .ok (.getfield 9, 3) := dk_180 0 9 (dk_at dksX13_of_3 13 rfl rfl)
theorem dX13_of_85 : decode cX13_of 85 = .ok (.bipush 42, 2) := dk_16 42 (dk_at dksX13_of_3 16 rfl rfl)
theorem dX13_of_87 : decode cX13_of 87 = .ok (.if_icmp .ne 10, 3) := dk_160 0 10 (dk_at dksX13_of_3 18 rfl rfl)
theorem dX13_of_90 : decode cX13_of 90 = .ok (.lload_n 2, 1) := dk_32 (dk_at dksX13_of_3 21 rfl rfl)
theorem dX13_of_91 : decode cX13_of 91 = .ok (.lload 4, 2) := dk_22 4 (dk_at dksX13_of_3 22 rfl rfl)
theorem dX13_of_93 : decode cX13_of 93 = .ok (.lmul, 1) := dk_105 (dk_at dksX13_of_4 0 rfl rfl)
theorem dX13_of_94 : decode cX13_of 94 = .ok (.goto 23, 3) := dk_167 0 23 (dk_at dksX13_of_4 1 rfl rfl)
theorem dX13_of_97 : decode cX13_of 97 = .ok (.aload_n 0, 1) := dk_42 (dk_at dksX13_of_4 4 rfl rfl)
theorem dX13_of_98 : decode cX13_of 98 = .ok (.getfield 9, 3) := dk_180 0 9 (dk_at dksX13_of_4 5 rfl rfl)
theorem dX13_of_101 : decode cX13_of 101 = .ok (.bipush 47, 2) := dk_16 47 (dk_at dksX13_of_4 8 rfl rfl)
theorem dX13_of_103 : decode cX13_of 103 = .ok (.if_icmp .ne 10, 3) := dk_160 0 10 (dk_at dksX13_of_4 10 rfl rfl)
theorem dX13_of_106 : decode cX13_of 106 = .ok (.lload_n 2, 1) := dk_32 (dk_at dksX13_of_4 13 rfl rfl)
theorem dX13_of_107 : decode cX13_of 107 = .ok (.lload 4, 2) := dk_22 4 (dk_at dksX13_of_4 14 rfl rfl)
theorem dX13_of_109 : decode cX13_of 109 = .ok (.ldiv, 1) := dk_109 (dk_at dksX13_of_4 16 rfl rfl)
theorem dX13_of_110 : decode cX13_of 110 = .ok (.goto 7, 3) := dk_167 0 7 (dk_at dksX13_of_4 17 rfl rfl)
theorem dX13_of_113 : decode cX13_of 113 = .ok (.lload_n 2, 1) := dk_32 (dk_at dksX13_of_4 20 rfl rfl)
theorem dX13_of_114 : decode cX13_of 114 = .ok (.lload 4, 2) := dk_22 4 (dk_at dksX13_of_4 21 rfl rfl)
theorem dX13_of_116 : decode cX13_of 116 = .ok (.lrem, 1) := dk_113 (dk_at dksX13_of_4 23 rfl rfl)
theorem dX13_of_117 : decode cX13_of 117 = .ok (.lstore 6, 2) := dk_55 6 (dk_at dksX13_of_5 0 rfl rfl)
theorem dX13_of_119 : decode cX13_of 119 = .ok (.lload 6, 2) := dk_22 6 (dk_at dksX13_of_5 2 rfl rfl)
theorem dX13_of_121 : decode cX13_of 121 = .ok (.ldc2_w 32, 3) := dk_20 0 32 (dk_at dksX13_of_5 4 rfl rfl)
theorem dX13_of_124 : decode cX13_of 124 = .ok (.lcmp, 1) := dk_148 (dk_at dksX13_of_5 7 rfl rfl)
theorem dX13_of_125 : decode cX13_of 125 = .ok (.ifCond .gt 12, 3) := dk_157 0 12 (dk_at dksX13_of_5 8 rfl rfl)
theorem dX13_of_128 : decode cX13_of 128 = .ok (.lload 6, 2) := dk_22 6 (dk_at dksX13_of_5 11 rfl rfl)
theorem dX13_of_130 : decode cX13_of 130 = .ok (.ldc2_w 34, 3) := dk_20 0 34 (dk_at dksX13_of_5 13 rfl rfl)
theorem dX13_of_133 : decode cX13_of 133 = .ok (.lcmp, 1) := dk_148 (dk_at dksX13_of_5 16 rfl rfl)
theorem dX13_of_134 : decode cX13_of 134 = .ok (.ifCond .ge 8, 3) := dk_156 0 8 (dk_at dksX13_of_5 17 rfl rfl)
theorem dX13_of_137 : decode cX13_of 137 = .ok (.aload_n 1, 1) := dk_43 (dk_at dksX13_of_5 20 rfl rfl)
theorem dX13_of_138 : decode cX13_of 138 = .ok (.getfield 26, 3) := dk_180 0 26 (dk_at dksX13_of_5 21 rfl rfl)
theorem dX13_of_141 : decode cX13_of 141 = .ok (.athrow, 1) := dk_191 (dk_at dksX13_of_6 0 rfl rfl)
theorem dX13_of_142 : decode cX13_of 142 = .ok (.lload 6, 2) := dk_22 6 (dk_at dksX13_of_6 1 rfl rfl)
theorem dX13_of_144 : decode cX13_of 144 = .ok (.lreturn, 1) := dk_173 (dk_at dksX13_of_6 3 rfl rfl)
abbrev cX13_init : ByteArray := prog_19_method_1_code
def yX13_init : MethodName := ⟨RX13, "<init>", "(CLForestRooms$Sum;LForestRooms$Sum;)V"⟩
def dkwX13_init_0 : List UInt8 := [42, 183, 0, 3, 42, 27, 181, 0, 9, 42, 44, 181, 0, 15, 42, 45, 181, 0, 19, 177]
abbrev dktX13_init_0 : List UInt8 := dkwX13_init_0 ++ []
theorem dksX13_init_0 : cX13_init.data.toList.drop 0 = dktX13_init_0 := by decide +kernel
theorem dX13_init_0 : decode cX13_init 0 = .ok (.aload_n 0, 1) := dk_42 (dk_at dksX13_init_0 0 rfl rfl)
theorem dX13_init_1 : decode cX13_init 1 = .ok (.invokespecial 3, 3) := dk_183 0 3 (dk_at dksX13_init_0 1 rfl rfl)
theorem dX13_init_4 : decode cX13_init 4 = .ok (.aload_n 0, 1) := dk_42 (dk_at dksX13_init_0 4 rfl rfl)
theorem dX13_init_5 : decode cX13_init 5 = .ok (.iload_n 1, 1) := dk_27 (dk_at dksX13_init_0 5 rfl rfl)
theorem dX13_init_6 : decode cX13_init 6 = .ok (.putfield 9, 3) := dk_181 0 9 (dk_at dksX13_init_0 6 rfl rfl)
theorem dX13_init_9 : decode cX13_init 9 = .ok (.aload_n 0, 1) := dk_42 (dk_at dksX13_init_0 9 rfl rfl)
theorem dX13_init_10 : decode cX13_init 10 = .ok (.aload_n 2, 1) := dk_44 (dk_at dksX13_init_0 10 rfl rfl)
theorem dX13_init_11 : decode cX13_init 11 = .ok (.putfield 15, 3) := dk_181 0 15 (dk_at dksX13_init_0 11 rfl rfl)
theorem dX13_init_14 : decode cX13_init 14 = .ok (.aload_n 0, 1) := dk_42 (dk_at dksX13_init_0 14 rfl rfl)
theorem dX13_init_15 : decode cX13_init 15 = .ok (.aload_n 3, 1) := dk_45 (dk_at dksX13_init_0 15 rfl rfl)
theorem dX13_init_16 : decode cX13_init 16 = .ok (.putfield 19, 3) := dk_181 0 19 (dk_at dksX13_init_0 16 rfl rfl)
theorem dX13_init_19 : decode cX13_init 19 = .ok (.return_, 1) := dk_177 (dk_at dksX13_init_0 19 rfl rfl)
theorem q135 : (Jvm.Cond.initialized "ForestRooms$Two") ∈ lw_all := lw_g (lw_at lw_m1 25 rfl) rfl
theorem q335 : (Jvm.Cond.fieldLinkNest "ForestRooms$Two" (26 : Nat) "ForestRooms$Setting" "broken" "LForestRooms$Broken;" "ForestRooms") ∈ lw_tbl := lw_at lw_m1 225 rfl
theorem q498 : (Jvm.Cond.selects "ForestRooms$Two" ({ cls := "java/lang/Object", name := "getClass", desc := "()Ljava/lang/Class;" } : Jvm.MethodName) ({ cls := "java/lang/Object", name := "getClass", desc := "()Ljava/lang/Class;" } : Jvm.MethodName)) ∈ lw_all := lw_g (lw_at lw_m2 148 rfl) rfl
theorem q629 : (Jvm.Cond.selects "ForestRooms$Two" ({ cls := "ForestRooms$Sum", name := "of", desc := "(LForestRooms$Setting;)J" } : Jvm.MethodName) ({ cls := "ForestRooms$Two", name := "of", desc := "(LForestRooms$Setting;)J" } : Jvm.MethodName)) ∈ lw_all := lw_g (lw_at lw_m3 39 rfl) rfl
theorem q630 : (Jvm.Cond.instanceMethod ({ cls := "ForestRooms$Two", name := "of", desc := "(LForestRooms$Setting;)J" } : Jvm.MethodName)) ∈ lw_all := lw_g (lw_at lw_m3 40 rfl) rfl
theorem q631 : (Jvm.Cond.code ({ cls := "ForestRooms$Two", name := "of", desc := "(LForestRooms$Setting;)J" } : Jvm.MethodName) prog_19_method_2_code (8 : Nat) (Option.some Jvm.ClassFile.FieldType.long)) ∈ lw_all := lw_g (lw_at lw_m3 41 rfl) rfl
theorem q632 : (Jvm.Cond.methodLink "ForestRooms$Two" (22 : Nat) ({ cls := "ForestRooms$Sum", name := "of", desc := "(LForestRooms$Setting;)J" } : Jvm.MethodName)) ∈ lw_all := lw_g (lw_at lw_m3 42 rfl) rfl
theorem q635 : (Jvm.Cond.constantLong "ForestRooms$Two" (32 : Nat) (1000000000 : Int64)) ∈ lw_all := lw_g (lw_at lw_m3 45 rfl) rfl
theorem q636 : (Jvm.Cond.constantLong "ForestRooms$Two" (34 : Nat) (-1000000000 : Int64)) ∈ lw_all := lw_g (lw_at lw_m3 46 rfl) rfl
theorem q1004 : (Jvm.Cond.instantiable "ForestRooms$Two" (3 : Nat)) ∈ lw_all := lw_g (lw_at lw_m4 174 rfl) rfl
theorem q1006 : (Jvm.Cond.instanceMethod ({ cls := "ForestRooms$Two", name := "<init>", desc := "(CLForestRooms$Sum;LForestRooms$Sum;)V" } : Jvm.MethodName)) ∈ lw_all := lw_g (lw_at lw_m4 176 rfl) rfl
theorem q1007 : (Jvm.Cond.code ({ cls := "ForestRooms$Two", name := "<init>", desc := "(CLForestRooms$Sum;LForestRooms$Sum;)V" } : Jvm.MethodName) prog_19_method_1_code (4 : Nat) (Option.none : Option Jvm.ClassFile.FieldType)) ∈ lw_all := lw_g (lw_at lw_m4 177 rfl) rfl
theorem q1008 : (Jvm.Cond.methodLinkNest "ForestRooms$Two" (3 : Nat) ({ cls := "ForestRooms$Sum", name := "<init>", desc := "()V" } : Jvm.MethodName) "ForestRooms") ∈ lw_tbl := lw_at lw_m4 178 rfl
theorem q1009 : (Jvm.Cond.fieldLink "ForestRooms$Two" (9 : Nat) "ForestRooms$Two" "sign" "C") ∈ lw_all := lw_g (lw_at lw_m4 179 rfl) rfl
theorem q1010 : (Jvm.Cond.fieldLink "ForestRooms$Two" (15 : Nat) "ForestRooms$Two" "left" "LForestRooms$Sum;") ∈ lw_all := lw_g (lw_at lw_m4 180 rfl) rfl
theorem q1011 : (Jvm.Cond.fieldLink "ForestRooms$Two" (19 : Nat) "ForestRooms$Two" "right" "LForestRooms$Sum;") ∈ lw_all := lw_g (lw_at lw_m4 181 rfl) rfl
theorem q1012 : (Jvm.Cond.laysFinal "ForestRooms$Two" "ForestRooms$Two" "sign" "C") ∈ lw_all := lw_g (lw_at lw_m4 182 rfl) rfl
theorem q1013 : (Jvm.Cond.soleField "ForestRooms$Two" "sign") ∈ lw_all := lw_g (lw_at lw_m4 183 rfl) rfl
theorem q1014 : (Jvm.Cond.laysFinal "ForestRooms$Two" "ForestRooms$Two" "left" "LForestRooms$Sum;") ∈ lw_all := lw_g (lw_at lw_m4 184 rfl) rfl
theorem q1015 : (Jvm.Cond.soleField "ForestRooms$Two" "left") ∈ lw_all := lw_g (lw_at lw_m4 185 rfl) rfl
theorem q1016 : (Jvm.Cond.laysFinal "ForestRooms$Two" "ForestRooms$Two" "right" "LForestRooms$Sum;") ∈ lw_all := lw_g (lw_at lw_m4 186 rfl) rfl
theorem q1017 : (Jvm.Cond.soleField "ForestRooms$Two" "right") ∈ lw_all := lw_g (lw_at lw_m4 187 rfl) rfl
theorem q1018 : (Jvm.Cond.superclass "ForestRooms$Two" "ForestRooms$Sum") ∈ lw_all := lw_g (lw_at lw_m4 188 rfl) rfl
theorem q2253 : (Jvm.Cond.castable "ForestRooms$Two" "java/lang/Object") ∈ lw_tbl := lw_at lw_m9 223 rfl
theorem in_X13 : ∀ w ∈ wsX130, w ∈ lw_all := lw_in wsX130 [1012, 1014, 1016] (by decide +kernel) (by decide +kernel)
/-! ForestRooms$Test -/
set_option maxRecDepth 100000
def RX14 : String := "ForestRooms$Test"
abbrev cX14_init : ByteArray := prog_18_method_1_code
def yX14_init : MethodName := ⟨RX14, "<init>", "()V"⟩
theorem dX14_init_0 : decode cX14_init 0 = .ok (.aload_n 0, 1) := by decide +kernel
theorem dX14_init_1 : decode cX14_init 1 = .ok (.invokespecial 1, 3) := by decide +kernel
theorem dX14_init_4 : decode cX14_init 4 = .ok (.return_, 1) := by decide +kernel
theorem q136 : (Jvm.Cond.initialized "ForestRooms$Test") ∈ lw_all := lw_g (lw_at lw_m1 26 rfl) rfl
theorem q618 : (Jvm.Cond.declares ({ cls := "ForestRooms$Test", name := "is", desc := "(LForestRooms$Setting;)Z" } : Jvm.MethodName)) ∈ lw_tbl := lw_at lw_m3 28 rfl
theorem q619 : (Jvm.Cond.sameMethod "ForestRooms$Test" "ForestRooms$Test" "is" "(LForestRooms$Setting;)Z") ∈ lw_all := lw_g (lw_at lw_m3 29 rfl) rfl
theorem q1063 : (Jvm.Cond.instanceMethod ({ cls := "ForestRooms$Test", name := "<init>", desc := "()V" } : Jvm.MethodName)) ∈ lw_all := lw_g (lw_at lw_m4 233 rfl) rfl
theorem q1064 : (Jvm.Cond.code ({ cls := "ForestRooms$Test", name := "<init>", desc := "()V" } : Jvm.MethodName) prog_18_method_1_code (1 : Nat) (Option.none : Option Jvm.ClassFile.FieldType)) ∈ lw_all := lw_g (lw_at lw_m4 234 rfl) rfl
theorem q1065 : (Jvm.Cond.methodLink "ForestRooms$Test" (1 : Nat) ({ cls := "java/lang/Object", name := "<init>", desc := "()V" } : Jvm.MethodName)) ∈ lw_all := lw_g (lw_at lw_m4 235 rfl) rfl
/-! ForestRooms$Compare -/
set_option maxRecDepth 100000
def RX15 : String := "ForestRooms$Compare"
def TX15 : u_T := fun k => match k with
  | 0 => ("ForestRooms$Compare", "sign", "C", true)
  | 1 => ("ForestRooms$Compare", "left", "LForestRooms$Sum;", true)
  | _ => ("ForestRooms$Compare", "right", "LForestRooms$Sum;", true)
def tyX15 : Nat → FieldType := fun k => match k with
  | 0 => .char
  | 1 => .object "ForestRooms$Sum"
  | _ => .object "ForestRooms$Sum"
abbrev wsX150 : List Cond := u_ws RX15 TX15 3
theorem nmX15 : ∀ a, a < 3 → ∀ b, b < 3 → a ≠ b → (TX15 a).2.1 ≠ (TX15 b).2.1 := by decide +kernel
theorem tyX15_ok : ∀ k, k < 3 → parseFieldDescriptor (TX15 k).2.2.1 = some (tyX15 k) := by decide +kernel
abbrev cX15_is : ByteArray := prog_4_method_2_code
def yX15_is : MethodName := ⟨RX15, "is", "(LForestRooms$Setting;)Z"⟩
def dkwX15_is_3 : List UInt8 := [154, 0, 7, 4, 167, 0, 4, 3, 172]
abbrev dktX15_is_3 : List UInt8 := dkwX15_is_3 ++ []
def dkwX15_is_2 : List UInt8 := [16, 62, 160, 0, 18, 32, 22, 4, 148, 158, 0, 7, 4, 167, 0, 19, 3, 167, 0, 15, 32, 22, 4, 148]
abbrev dktX15_is_2 : List UInt8 := dkwX15_is_2 ++ dktX15_is_3
def dkwX15_is_1 : List UInt8 := [16, 60, 160, 0, 18, 32, 22, 4, 148, 156, 0, 7, 4, 167, 0, 43, 3, 167, 0, 39, 42, 180, 0, 7]
abbrev dktX15_is_1 : List UInt8 := dkwX15_is_1 ++ dktX15_is_2
def dkwX15_is_0 : List UInt8 := [42, 180, 0, 13, 43, 182, 0, 20, 65, 42, 180, 0, 17, 43, 182, 0, 20, 55, 4, 42, 180, 0, 7]
abbrev dktX15_is_0 : List UInt8 := dkwX15_is_0 ++ dktX15_is_1
theorem dksX15_is_0 : cX15_is.data.toList.drop 0 = dktX15_is_0 := by decide +kernel
theorem dksX15_is_1 : cX15_is.data.toList.drop 23 = dktX15_is_1 := dk_seg dksX15_is_0 23 rfl rfl
theorem dksX15_is_2 : cX15_is.data.toList.drop 47 = dktX15_is_2 := dk_seg dksX15_is_1 24 rfl rfl
theorem dksX15_is_3 : cX15_is.data.toList.drop 71 = dktX15_is_3 := dk_seg dksX15_is_2 24 rfl rfl
theorem dX15_is_0 : decode cX15_is 0 = .ok (.aload_n 0, 1) := dk_42 (dk_at dksX15_is_0 0 rfl rfl)
theorem dX15_is_1 : decode cX15_is 1 = .ok (.getfield 13, 3) := dk_180 0 13 (dk_at dksX15_is_0 1 rfl rfl)
theorem dX15_is_4 : decode cX15_is 4 = .ok (.aload_n 1, 1) := dk_43 (dk_at dksX15_is_0 4 rfl rfl)
theorem dX15_is_5 : decode cX15_is 5 = .ok (.invokevirtual 20, 3) := dk_182 0 20 (dk_at dksX15_is_0 5 rfl rfl)
theorem dX15_is_8 : decode cX15_is 8 = .ok (.lstore_n 2, 1) := dk_65 (dk_at dksX15_is_0 8 rfl rfl)
theorem dX15_is_9 : decode cX15_is 9 = .ok (.aload_n 0, 1) := dk_42 (dk_at dksX15_is_0 9 rfl rfl)
theorem dX15_is_10 : decode cX15_is 10 = .ok (.getfield 17, 3) := dk_180 0 17 (dk_at dksX15_is_0 10 rfl rfl)
theorem dX15_is_13 : decode cX15_is 13 = .ok (.aload_n 1, 1) := dk_43 (dk_at dksX15_is_0 13 rfl rfl)
theorem dX15_is_14 : decode cX15_is 14 = .ok (.invokevirtual 20, 3) := dk_182 0 20 (dk_at dksX15_is_0 14 rfl rfl)
theorem dX15_is_17 : decode cX15_is 17 = .ok (.lstore 4, 2) := dk_55 4 (dk_at dksX15_is_0 17 rfl rfl)
theorem dX15_is_19 : decode cX15_is 19 = .ok (.aload_n 0, 1) := dk_42 (dk_at dksX15_is_0 19 rfl rfl)
theorem dX15_is_20 : decode cX15_is 20 = .ok (.getfield 7, 3) := dk_180 0 7 (dk_at dksX15_is_0 20 rfl rfl)
theorem dX15_is_23 : decode cX15_is 23 = .ok (.bipush 60, 2) := dk_16 60 (dk_at dksX15_is_1 0 rfl rfl)
theorem dX15_is_25 : decode cX15_is 25 = .ok (.if_icmp .ne 18, 3) := dk_160 0 18 (dk_at dksX15_is_1 2 rfl rfl)
theorem dX15_is_28 : decode cX15_is 28 = .ok (.lload_n 2, 1) := dk_32 (dk_at dksX15_is_1 5 rfl rfl)
theorem dX15_is_29 : decode cX15_is 29 = .ok (.lload 4, 2) := dk_22 4 (dk_at dksX15_is_1 6 rfl rfl)
theorem dX15_is_31 : decode cX15_is 31 = .ok (.lcmp, 1) := dk_148 (dk_at dksX15_is_1 8 rfl rfl)
theorem dX15_is_32 : decode cX15_is 32 = .ok (.ifCond .ge 7, 3) := dk_156 0 7 (dk_at dksX15_is_1 9 rfl rfl)
theorem dX15_is_35 : decode cX15_is 35 = .ok (.iconst 1, 1) := dk_4 (dk_at dksX15_is_1 12 rfl rfl)
theorem dX15_is_36 : decode cX15_is 36 = .ok (.goto 43, 3) := dk_167 0 43 (dk_at dksX15_is_1 13 rfl rfl)
theorem dX15_is_39 : decode cX15_is 39 = .ok (.iconst 0, 1) := dk_3 (dk_at dksX15_is_1 16 rfl rfl)
theorem dX15_is_40 : decode cX15_is 40 = .ok (.goto 39, 3) := dk_167 0 39 (dk_at dksX15_is_1 17 rfl rfl)
theorem dX15_is_43 : decode cX15_is 43 = .ok (.aload_n 0, 1) := dk_42 (dk_at dksX15_is_1 20 rfl rfl)
theorem dX15_is_44 : decode cX15_is 44 = .ok (.getfield 7, 3) := dk_180 0 7 (dk_at dksX15_is_1 21 rfl rfl)
theorem dX15_is_47 : decode cX15_is 47 = .ok (.bipush 62, 2) := dk_16 62 (dk_at dksX15_is_2 0 rfl rfl)
theorem dX15_is_49 : decode cX15_is 49 = .ok (.if_icmp .ne 18, 3) := dk_160 0 18 (dk_at dksX15_is_2 2 rfl rfl)
theorem dX15_is_52 : decode cX15_is 52 = .ok (.lload_n 2, 1) := dk_32 (dk_at dksX15_is_2 5 rfl rfl)
theorem dX15_is_53 : decode cX15_is 53 = .ok (.lload 4, 2) := dk_22 4 (dk_at dksX15_is_2 6 rfl rfl)
theorem dX15_is_55 : decode cX15_is 55 = .ok (.lcmp, 1) := dk_148 (dk_at dksX15_is_2 8 rfl rfl)
theorem dX15_is_56 : decode cX15_is 56 = .ok (.ifCond .le 7, 3) := dk_158 0 7 (dk_at dksX15_is_2 9 rfl rfl)
theorem dX15_is_59 : decode cX15_is 59 = .ok (.iconst 1, 1) := dk_4 (dk_at dksX15_is_2 12 rfl rfl)
theorem dX15_is_60 : decode cX15_is 60 = .ok (.goto 19, 3) := dk_167 0 19 (dk_at dksX15_is_2 13 rfl rfl)
theorem dX15_is_63 : decode cX15_is 63 = .ok (.iconst 0, 1) := dk_3 (dk_at dksX15_is_2 16 rfl rfl)
theorem dX15_is_64 : decode cX15_is 64 = .ok (.goto 15, 3) := dk_167 0 15 (dk_at dksX15_is_2 17 rfl rfl)
theorem dX15_is_67 : decode cX15_is 67 = .ok (.lload_n 2, 1) := dk_32 (dk_at dksX15_is_2 20 rfl rfl)
theorem dX15_is_68 : decode cX15_is 68 = .ok (.lload 4, 2) := dk_22 4 (dk_at dksX15_is_2 21 rfl rfl)
theorem dX15_is_70 : decode cX15_is 70 = .ok (.lcmp, 1) := dk_148 (dk_at dksX15_is_2 23 rfl rfl)
theorem dX15_is_71 : decode cX15_is 71 = .ok (.ifCond .ne 7, 3) := dk_154 0 7 (dk_at dksX15_is_3 0 rfl rfl)
theorem dX15_is_74 : decode cX15_is 74 = .ok (.iconst 1, 1) := dk_4 (dk_at dksX15_is_3 3 rfl rfl)
theorem dX15_is_75 : decode cX15_is 75 = .ok (.goto 4, 3) := dk_167 0 4 (dk_at dksX15_is_3 4 rfl rfl)
theorem dX15_is_78 : decode cX15_is 78 = .ok (.iconst 0, 1) := dk_3 (dk_at dksX15_is_3 7 rfl rfl)
theorem dX15_is_79 : decode cX15_is 79 = .ok (.ireturn, 1) := dk_172 (dk_at dksX15_is_3 8 rfl rfl)
abbrev cX15_init : ByteArray := prog_4_method_1_code
def yX15_init : MethodName := ⟨RX15, "<init>", "(CLForestRooms$Sum;LForestRooms$Sum;)V"⟩
def dkwX15_init_0 : List UInt8 := [42, 183, 0, 1, 42, 27, 181, 0, 7, 42, 44, 181, 0, 13, 42, 45, 181, 0, 17, 177]
abbrev dktX15_init_0 : List UInt8 := dkwX15_init_0 ++ []
theorem dksX15_init_0 : cX15_init.data.toList.drop 0 = dktX15_init_0 := by decide +kernel
theorem dX15_init_0 : decode cX15_init 0 = .ok (.aload_n 0, 1) := dk_42 (dk_at dksX15_init_0 0 rfl rfl)
theorem dX15_init_1 : decode cX15_init 1 = .ok (.invokespecial 1, 3) := dk_183 0 1 (dk_at dksX15_init_0 1 rfl rfl)
theorem dX15_init_4 : decode cX15_init 4 = .ok (.aload_n 0, 1) := dk_42 (dk_at dksX15_init_0 4 rfl rfl)
theorem dX15_init_5 : decode cX15_init 5 = .ok (.iload_n 1, 1) := dk_27 (dk_at dksX15_init_0 5 rfl rfl)
theorem dX15_init_6 : decode cX15_init 6 = .ok (.putfield 7, 3) := dk_181 0 7 (dk_at dksX15_init_0 6 rfl rfl)
theorem dX15_init_9 : decode cX15_init 9 = .ok (.aload_n 0, 1) := dk_42 (dk_at dksX15_init_0 9 rfl rfl)
theorem dX15_init_10 : decode cX15_init 10 = .ok (.aload_n 2, 1) := dk_44 (dk_at dksX15_init_0 10 rfl rfl)
theorem dX15_init_11 : decode cX15_init 11 = .ok (.putfield 13, 3) := dk_181 0 13 (dk_at dksX15_init_0 11 rfl rfl)
theorem dX15_init_14 : decode cX15_init 14 = .ok (.aload_n 0, 1) := dk_42 (dk_at dksX15_init_0 14 rfl rfl)
theorem dX15_init_15 : decode cX15_init 15 = .ok (.aload_n 3, 1) := dk_45 (dk_at dksX15_init_0 15 rfl rfl)
theorem dX15_init_16 : decode cX15_init 16 = .ok (.putfield 17, 3) := dk_181 0 17 (dk_at dksX15_init_0 16 rfl rfl)
theorem dX15_init_19 : decode cX15_init 19 = .ok (.return_, 1) := dk_177 (dk_at dksX15_init_0 19 rfl rfl)
theorem q137 : (Jvm.Cond.initialized "ForestRooms$Compare") ∈ lw_all := lw_g (lw_at lw_m1 27 rfl) rfl
theorem q486 : (Jvm.Cond.selects "ForestRooms$Compare" ({ cls := "java/lang/Object", name := "getClass", desc := "()Ljava/lang/Class;" } : Jvm.MethodName) ({ cls := "java/lang/Object", name := "getClass", desc := "()Ljava/lang/Class;" } : Jvm.MethodName)) ∈ lw_all := lw_g (lw_at lw_m2 136 rfl) rfl
theorem q620 : (Jvm.Cond.selects "ForestRooms$Compare" ({ cls := "ForestRooms$Test", name := "is", desc := "(LForestRooms$Setting;)Z" } : Jvm.MethodName) ({ cls := "ForestRooms$Compare", name := "is", desc := "(LForestRooms$Setting;)Z" } : Jvm.MethodName)) ∈ lw_all := lw_g (lw_at lw_m3 30 rfl) rfl
theorem q621 : (Jvm.Cond.instanceMethod ({ cls := "ForestRooms$Compare", name := "is", desc := "(LForestRooms$Setting;)Z" } : Jvm.MethodName)) ∈ lw_all := lw_g (lw_at lw_m3 31 rfl) rfl
theorem q622 : (Jvm.Cond.code ({ cls := "ForestRooms$Compare", name := "is", desc := "(LForestRooms$Setting;)Z" } : Jvm.MethodName) prog_4_method_2_code (6 : Nat) (Option.some Jvm.ClassFile.FieldType.boolean)) ∈ lw_all := lw_g (lw_at lw_m3 32 rfl) rfl
theorem q623 : (Jvm.Cond.methodLink "ForestRooms$Compare" (20 : Nat) ({ cls := "ForestRooms$Sum", name := "of", desc := "(LForestRooms$Setting;)J" } : Jvm.MethodName)) ∈ lw_all := lw_g (lw_at lw_m3 33 rfl) rfl
theorem q1058 : (Jvm.Cond.instantiable "ForestRooms$Compare" (3 : Nat)) ∈ lw_all := lw_g (lw_at lw_m4 228 rfl) rfl
theorem q1060 : (Jvm.Cond.instanceMethod ({ cls := "ForestRooms$Compare", name := "<init>", desc := "(CLForestRooms$Sum;LForestRooms$Sum;)V" } : Jvm.MethodName)) ∈ lw_all := lw_g (lw_at lw_m4 230 rfl) rfl
theorem q1061 : (Jvm.Cond.code ({ cls := "ForestRooms$Compare", name := "<init>", desc := "(CLForestRooms$Sum;LForestRooms$Sum;)V" } : Jvm.MethodName) prog_4_method_1_code (4 : Nat) (Option.none : Option Jvm.ClassFile.FieldType)) ∈ lw_all := lw_g (lw_at lw_m4 231 rfl) rfl
theorem q1062 : (Jvm.Cond.methodLinkNest "ForestRooms$Compare" (1 : Nat) ({ cls := "ForestRooms$Test", name := "<init>", desc := "()V" } : Jvm.MethodName) "ForestRooms") ∈ lw_tbl := lw_at lw_m4 232 rfl
theorem q1066 : (Jvm.Cond.fieldLink "ForestRooms$Compare" (7 : Nat) "ForestRooms$Compare" "sign" "C") ∈ lw_all := lw_g (lw_at lw_m4 236 rfl) rfl
theorem q1067 : (Jvm.Cond.fieldLink "ForestRooms$Compare" (13 : Nat) "ForestRooms$Compare" "left" "LForestRooms$Sum;") ∈ lw_all := lw_g (lw_at lw_m4 237 rfl) rfl
theorem q1068 : (Jvm.Cond.fieldLink "ForestRooms$Compare" (17 : Nat) "ForestRooms$Compare" "right" "LForestRooms$Sum;") ∈ lw_all := lw_g (lw_at lw_m4 238 rfl) rfl
theorem q1069 : (Jvm.Cond.laysFinal "ForestRooms$Compare" "ForestRooms$Compare" "sign" "C") ∈ lw_all := lw_g (lw_at lw_m4 239 rfl) rfl
theorem q1070 : (Jvm.Cond.soleField "ForestRooms$Compare" "sign") ∈ lw_all := lw_g (lw_at lw_m5 0 rfl) rfl
theorem q1071 : (Jvm.Cond.laysFinal "ForestRooms$Compare" "ForestRooms$Compare" "left" "LForestRooms$Sum;") ∈ lw_all := lw_g (lw_at lw_m5 1 rfl) rfl
theorem q1072 : (Jvm.Cond.soleField "ForestRooms$Compare" "left") ∈ lw_all := lw_g (lw_at lw_m5 2 rfl) rfl
theorem q1073 : (Jvm.Cond.laysFinal "ForestRooms$Compare" "ForestRooms$Compare" "right" "LForestRooms$Sum;") ∈ lw_all := lw_g (lw_at lw_m5 3 rfl) rfl
theorem q1074 : (Jvm.Cond.soleField "ForestRooms$Compare" "right") ∈ lw_all := lw_g (lw_at lw_m5 4 rfl) rfl
theorem q1075 : (Jvm.Cond.superclass "ForestRooms$Compare" "ForestRooms$Test") ∈ lw_all := lw_g (lw_at lw_m5 5 rfl) rfl
theorem q2238 : (Jvm.Cond.castable "ForestRooms$Compare" "ForestRooms$Test") ∈ lw_tbl := lw_at lw_m9 208 rfl
theorem q2254 : (Jvm.Cond.castable "ForestRooms$Compare" "java/lang/Object") ∈ lw_tbl := lw_at lw_m9 224 rfl
theorem in_X15 : ∀ w ∈ wsX150, w ∈ lw_all := lw_in wsX150 [1069, 1071, 1073] (by decide +kernel) (by decide +kernel)
/-! ForestRooms$Not -/
set_option maxRecDepth 100000
def RX16 : String := "ForestRooms$Not"
def TX16 : u_T := fun k => match k with
  | _ => ("ForestRooms$Not", "of", "LForestRooms$Test;", true)
def tyX16 : Nat → FieldType := fun k => match k with
  | _ => .object "ForestRooms$Test"
abbrev wsX160 : List Cond := u_ws RX16 TX16 1
theorem nmX16 : ∀ a, a < 1 → ∀ b, b < 1 → a ≠ b → (TX16 a).2.1 ≠ (TX16 b).2.1 := by decide +kernel
theorem tyX16_ok : ∀ k, k < 1 → parseFieldDescriptor (TX16 k).2.2.1 = some (tyX16 k) := by decide +kernel
abbrev cX16_is : ByteArray := prog_8_method_2_code
def yX16_is : MethodName := ⟨RX16, "is", "(LForestRooms$Setting;)Z"⟩
def dkwX16_is_0 : List UInt8 := [42, 180, 0, 7, 43, 182, 0, 13, 154, 0, 7, 4, 167, 0, 4, 3, 172]
abbrev dktX16_is_0 : List UInt8 := dkwX16_is_0 ++ []
theorem dksX16_is_0 : cX16_is.data.toList.drop 0 = dktX16_is_0 := by decide +kernel
theorem dX16_is_0 : decode cX16_is 0 = .ok (.aload_n 0, 1) := dk_42 (dk_at dksX16_is_0 0 rfl rfl)
theorem dX16_is_1 : decode cX16_is 1 = .ok (.getfield 7, 3) := dk_180 0 7 (dk_at dksX16_is_0 1 rfl rfl)
theorem dX16_is_4 : decode cX16_is 4 = .ok (.aload_n 1, 1) := dk_43 (dk_at dksX16_is_0 4 rfl rfl)
theorem dX16_is_5 : decode cX16_is 5 = .ok (.invokevirtual 13, 3) := dk_182 0 13 (dk_at dksX16_is_0 5 rfl rfl)
theorem dX16_is_8 : decode cX16_is 8 = .ok (.ifCond .ne 7, 3) := dk_154 0 7 (dk_at dksX16_is_0 8 rfl rfl)
theorem dX16_is_11 : decode cX16_is 11 = .ok (.iconst 1, 1) := dk_4 (dk_at dksX16_is_0 11 rfl rfl)
theorem dX16_is_12 : decode cX16_is 12 = .ok (.goto 4, 3) := dk_167 0 4 (dk_at dksX16_is_0 12 rfl rfl)
theorem dX16_is_15 : decode cX16_is 15 = .ok (.iconst 0, 1) := dk_3 (dk_at dksX16_is_0 15 rfl rfl)
theorem dX16_is_16 : decode cX16_is 16 = .ok (.ireturn, 1) := dk_172 (dk_at dksX16_is_0 16 rfl rfl)
abbrev cX16_init : ByteArray := prog_8_method_1_code
def yX16_init : MethodName := ⟨RX16, "<init>", "(LForestRooms$Test;)V"⟩
def dkwX16_init_0 : List UInt8 := [42, 183, 0, 1, 42, 43, 181, 0, 7, 177]
abbrev dktX16_init_0 : List UInt8 := dkwX16_init_0 ++ []
theorem dksX16_init_0 : cX16_init.data.toList.drop 0 = dktX16_init_0 := by decide +kernel
theorem dX16_init_0 : decode cX16_init 0 = .ok (.aload_n 0, 1) := dk_42 (dk_at dksX16_init_0 0 rfl rfl)
theorem dX16_init_1 : decode cX16_init 1 = .ok (.invokespecial 1, 3) := dk_183 0 1 (dk_at dksX16_init_0 1 rfl rfl)
theorem dX16_init_4 : decode cX16_init 4 = .ok (.aload_n 0, 1) := dk_42 (dk_at dksX16_init_0 4 rfl rfl)
theorem dX16_init_5 : decode cX16_init 5 = .ok (.aload_n 1, 1) := dk_43 (dk_at dksX16_init_0 5 rfl rfl)
theorem dX16_init_6 : decode cX16_init 6 = .ok (.putfield 7, 3) := dk_181 0 7 (dk_at dksX16_init_0 6 rfl rfl)
theorem dX16_init_9 : decode cX16_init 9 = .ok (.return_, 1) := dk_177 (dk_at dksX16_init_0 9 rfl rfl)
theorem q138 : (Jvm.Cond.initialized "ForestRooms$Not") ∈ lw_all := lw_g (lw_at lw_m1 28 rfl) rfl
theorem q490 : (Jvm.Cond.selects "ForestRooms$Not" ({ cls := "java/lang/Object", name := "getClass", desc := "()Ljava/lang/Class;" } : Jvm.MethodName) ({ cls := "java/lang/Object", name := "getClass", desc := "()Ljava/lang/Class;" } : Jvm.MethodName)) ∈ lw_all := lw_g (lw_at lw_m2 140 rfl) rfl
theorem q638 : (Jvm.Cond.selects "ForestRooms$Not" ({ cls := "ForestRooms$Test", name := "is", desc := "(LForestRooms$Setting;)Z" } : Jvm.MethodName) ({ cls := "ForestRooms$Not", name := "is", desc := "(LForestRooms$Setting;)Z" } : Jvm.MethodName)) ∈ lw_all := lw_g (lw_at lw_m3 48 rfl) rfl
theorem q639 : (Jvm.Cond.instanceMethod ({ cls := "ForestRooms$Not", name := "is", desc := "(LForestRooms$Setting;)Z" } : Jvm.MethodName)) ∈ lw_all := lw_g (lw_at lw_m3 49 rfl) rfl
theorem q640 : (Jvm.Cond.code ({ cls := "ForestRooms$Not", name := "is", desc := "(LForestRooms$Setting;)Z" } : Jvm.MethodName) prog_8_method_2_code (2 : Nat) (Option.some Jvm.ClassFile.FieldType.boolean)) ∈ lw_all := lw_g (lw_at lw_m3 50 rfl) rfl
theorem q641 : (Jvm.Cond.methodLink "ForestRooms$Not" (13 : Nat) ({ cls := "ForestRooms$Test", name := "is", desc := "(LForestRooms$Setting;)Z" } : Jvm.MethodName)) ∈ lw_all := lw_g (lw_at lw_m3 51 rfl) rfl
theorem q1077 : (Jvm.Cond.instantiable "ForestRooms$Not" (1 : Nat)) ∈ lw_all := lw_g (lw_at lw_m5 7 rfl) rfl
theorem q1079 : (Jvm.Cond.instanceMethod ({ cls := "ForestRooms$Not", name := "<init>", desc := "(LForestRooms$Test;)V" } : Jvm.MethodName)) ∈ lw_all := lw_g (lw_at lw_m5 9 rfl) rfl
theorem q1080 : (Jvm.Cond.code ({ cls := "ForestRooms$Not", name := "<init>", desc := "(LForestRooms$Test;)V" } : Jvm.MethodName) prog_8_method_1_code (2 : Nat) (Option.none : Option Jvm.ClassFile.FieldType)) ∈ lw_all := lw_g (lw_at lw_m5 10 rfl) rfl
theorem q1081 : (Jvm.Cond.methodLinkNest "ForestRooms$Not" (1 : Nat) ({ cls := "ForestRooms$Test", name := "<init>", desc := "()V" } : Jvm.MethodName) "ForestRooms") ∈ lw_tbl := lw_at lw_m5 11 rfl
theorem q1082 : (Jvm.Cond.fieldLink "ForestRooms$Not" (7 : Nat) "ForestRooms$Not" "of" "LForestRooms$Test;") ∈ lw_all := lw_g (lw_at lw_m5 12 rfl) rfl
theorem q1083 : (Jvm.Cond.laysFinal "ForestRooms$Not" "ForestRooms$Not" "of" "LForestRooms$Test;") ∈ lw_all := lw_g (lw_at lw_m5 13 rfl) rfl
theorem q1084 : (Jvm.Cond.soleField "ForestRooms$Not" "of") ∈ lw_all := lw_g (lw_at lw_m5 14 rfl) rfl
theorem q1085 : (Jvm.Cond.superclass "ForestRooms$Not" "ForestRooms$Test") ∈ lw_all := lw_g (lw_at lw_m5 15 rfl) rfl
theorem q2239 : (Jvm.Cond.castable "ForestRooms$Not" "ForestRooms$Test") ∈ lw_tbl := lw_at lw_m9 209 rfl
theorem q2255 : (Jvm.Cond.castable "ForestRooms$Not" "java/lang/Object") ∈ lw_tbl := lw_at lw_m9 225 rfl
theorem in_X16 : ∀ w ∈ wsX160, w ∈ lw_all := lw_in wsX160 [1083] (by decide +kernel) (by decide +kernel)
/-! ForestRooms$Several -/
set_option maxRecDepth 100000
def RX17 : String := "ForestRooms$Several"
def TX17 : u_T := fun k => match k with
  | 0 => ("ForestRooms$Several", "all", "Z", true)
  | _ => ("ForestRooms$Several", "of", "Ljava/util/ArrayList;", true)
def tyX17 : Nat → FieldType := fun k => match k with
  | 0 => .boolean
  | _ => .object "java/util/ArrayList"
abbrev wsX170 : List Cond := u_ws RX17 TX17 2
theorem nmX17 : ∀ a, a < 2 → ∀ b, b < 2 → a ≠ b → (TX17 a).2.1 ≠ (TX17 b).2.1 := by decide +kernel
theorem tyX17_ok : ∀ k, k < 2 → parseFieldDescriptor (TX17 k).2.2.1 = some (tyX17 k) := by decide +kernel
abbrev cX17_is : ByteArray := prog_14_method_2_code
def yX17_is : MethodName := ⟨RX17, "is", "(LForestRooms$Setting;)Z"⟩
def dkwX17_is_2 : List UInt8 := [132, 2, 1, 167, 255, 207, 42, 180, 0, 18, 172]
abbrev dktX17_is_2 : List UInt8 := dkwX17_is_2 ++ []
def dkwX17_is_1 : List UInt8 := [43, 182, 0, 30, 42, 180, 0, 18, 159, 0, 16, 42, 180, 0, 18, 154, 0, 7, 4, 167, 0, 4, 3, 172]
abbrev dktX17_is_1 : List UInt8 := dkwX17_is_1 ++ dktX17_is_2
def dkwX17_is_0 : List UInt8 := [3, 61, 28, 42, 180, 0, 12, 182, 0, 22, 162, 0, 44, 42, 180, 0, 12, 28, 182, 0, 26, 192, 0, 2]
abbrev dktX17_is_0 : List UInt8 := dkwX17_is_0 ++ dktX17_is_1
theorem dksX17_is_0 : cX17_is.data.toList.drop 0 = dktX17_is_0 := by decide +kernel
theorem dksX17_is_1 : cX17_is.data.toList.drop 24 = dktX17_is_1 := dk_seg dksX17_is_0 24 rfl rfl
theorem dksX17_is_2 : cX17_is.data.toList.drop 48 = dktX17_is_2 := dk_seg dksX17_is_1 24 rfl rfl
theorem dX17_is_0 : decode cX17_is 0 = .ok (.iconst 0, 1) := dk_3 (dk_at dksX17_is_0 0 rfl rfl)
theorem dX17_is_1 : decode cX17_is 1 = .ok (.istore_n 2, 1) := dk_61 (dk_at dksX17_is_0 1 rfl rfl)
theorem dX17_is_2 : decode cX17_is 2 = .ok (.iload_n 2, 1) := dk_28 (dk_at dksX17_is_0 2 rfl rfl)
theorem dX17_is_3 : decode cX17_is 3 = .ok (.aload_n 0, 1) := dk_42 (dk_at dksX17_is_0 3 rfl rfl)
theorem dX17_is_4 : decode cX17_is 4 = .ok (.getfield 12, 3) := dk_180 0 12 (dk_at dksX17_is_0 4 rfl rfl)
theorem dX17_is_7 : decode cX17_is 7 = .ok (.invokevirtual 22, 3) := dk_182 0 22 (dk_at dksX17_is_0 7 rfl rfl)
theorem dX17_is_10 : decode cX17_is 10 = .ok (.if_icmp .ge 44, 3) := dk_162 0 44 (dk_at dksX17_is_0 10 rfl rfl)
theorem dX17_is_13 : decode cX17_is 13 = .ok (.aload_n 0, 1) := dk_42 (dk_at dksX17_is_0 13 rfl rfl)
theorem dX17_is_14 : decode cX17_is 14 = .ok (.getfield 12, 3) := dk_180 0 12 (dk_at dksX17_is_0 14 rfl rfl)
theorem dX17_is_17 : decode cX17_is 17 = .ok (.iload_n 2, 1) := dk_28 (dk_at dksX17_is_0 17 rfl rfl)
theorem dX17_is_18 : decode cX17_is 18 = .ok (.invokevirtual 26, 3) := dk_182 0 26 (dk_at dksX17_is_0 18 rfl rfl)
theorem dX17_is_21 : decode cX17_is 21 = .ok (.checkcast 2, 3) := dk_192 0 2 (dk_at dksX17_is_0 21 rfl rfl)
theorem dX17_is_24 : decode cX17_is 24 = .ok (.aload_n 1, 1) := dk_43 (dk_at dksX17_is_1 0 rfl rfl)
theorem dX17_is_25 : decode cX17_is 25 = .ok (.invokevirtual 30, 3) := dk_182 0 30 (dk_at dksX17_is_1 1 rfl rfl)
theorem dX17_is_28 : decode cX17_is 28 = .ok (.aload_n 0, 1) := dk_42 (dk_at dksX17_is_1 4 rfl rfl)
theorem dX17_is_29 : decode cX17_is 29 = .ok (.getfield 18, 3) := dk_180 0 18 (dk_at dksX17_is_1 5 rfl rfl)
theorem dX17_is_32 : decode cX17_is 32 = .ok (.if_icmp .eq 16, 3) := dk_159 0 16 (dk_at dksX17_is_1 8 rfl rfl)
theorem dX17_is_35 : decode cX17_is 35 = .ok (.aload_n 0, 1) := dk_42 (dk_at dksX17_is_1 11 rfl rfl)
theorem dX17_is_36 : decode cX17_is 36 = .ok (.getfield 18, 3) := dk_180 0 18 (dk_at dksX17_is_1 12 rfl rfl)
theorem dX17_is_39 : decode cX17_is 39 = .ok (.ifCond .ne 7, 3) := dk_154 0 7 (dk_at dksX17_is_1 15 rfl rfl)
theorem dX17_is_42 : decode cX17_is 42 = .ok (.iconst 1, 1) := dk_4 (dk_at dksX17_is_1 18 rfl rfl)
theorem dX17_is_43 : decode cX17_is 43 = .ok (.goto 4, 3) := dk_167 0 4 (dk_at dksX17_is_1 19 rfl rfl)
theorem dX17_is_46 : decode cX17_is 46 = .ok (.iconst 0, 1) := dk_3 (dk_at dksX17_is_1 22 rfl rfl)
theorem dX17_is_47 : decode cX17_is 47 = .ok (.ireturn, 1) := dk_172 (dk_at dksX17_is_1 23 rfl rfl)
theorem dX17_is_48 : decode cX17_is 48 = .ok (.iinc 2 1, 3) := dk_132 2 1 (dk_at dksX17_is_2 0 rfl rfl)
theorem dX17_is_51 : decode cX17_is 51 = .ok (.goto (-49), 3) := dk_167 255 207 (dk_at dksX17_is_2 3 rfl rfl)
theorem dX17_is_54 : decode cX17_is 54 = .ok (.aload_n 0, 1) := dk_42 (dk_at dksX17_is_2 6 rfl rfl)
theorem dX17_is_55 : decode cX17_is 55 = .ok (.getfield 18, 3) := dk_180 0 18 (dk_at dksX17_is_2 7 rfl rfl)
theorem dX17_is_58 : decode cX17_is 58 = .ok (.ireturn, 1) := dk_172 (dk_at dksX17_is_2 10 rfl rfl)
abbrev cX17_init : ByteArray := prog_14_method_1_code
def yX17_init : MethodName := ⟨RX17, "<init>", "(Z)V"⟩
def dkwX17_init_0 : List UInt8 := [42, 183, 0, 1, 42, 187, 0, 7, 89, 5, 183, 0, 9, 181, 0, 12, 42, 27, 181, 0, 18, 177]
abbrev dktX17_init_0 : List UInt8 := dkwX17_init_0 ++ []
theorem dksX17_init_0 : cX17_init.data.toList.drop 0 = dktX17_init_0 := by decide +kernel
theorem dX17_init_0 : decode cX17_init 0 = .ok (.aload_n 0, 1) := dk_42 (dk_at dksX17_init_0 0 rfl rfl)
theorem dX17_init_1 : decode cX17_init 1 = .ok (.invokespecial 1, 3) := dk_183 0 1 (dk_at dksX17_init_0 1 rfl rfl)
theorem dX17_init_4 : decode cX17_init 4 = .ok (.aload_n 0, 1) := dk_42 (dk_at dksX17_init_0 4 rfl rfl)
theorem dX17_init_5 : decode cX17_init 5 = .ok (.new 7, 3) := dk_187 0 7 (dk_at dksX17_init_0 5 rfl rfl)
theorem dX17_init_8 : decode cX17_init 8 = .ok (.dup, 1) := dk_89 (dk_at dksX17_init_0 8 rfl rfl)
theorem dX17_init_9 : decode cX17_init 9 = .ok (.iconst 2, 1) := dk_5 (dk_at dksX17_init_0 9 rfl rfl)
theorem dX17_init_10 : decode cX17_init 10 = .ok (.invokespecial 9, 3) := dk_183 0 9 (dk_at dksX17_init_0 10 rfl rfl)
theorem dX17_init_13 : decode cX17_init 13 = .ok (.putfield 12, 3) := dk_181 0 12 (dk_at dksX17_init_0 13 rfl rfl)
theorem dX17_init_16 : decode cX17_init 16 = .ok (.aload_n 0, 1) := dk_42 (dk_at dksX17_init_0 16 rfl rfl)
theorem dX17_init_17 : decode cX17_init 17 = .ok (.iload_n 1, 1) := dk_27 (dk_at dksX17_init_0 17 rfl rfl)
theorem dX17_init_18 : decode cX17_init 18 = .ok (.putfield 18, 3) := dk_181 0 18 (dk_at dksX17_init_0 18 rfl rfl)
theorem dX17_init_21 : decode cX17_init 21 = .ok (.return_, 1) := dk_177 (dk_at dksX17_init_0 21 rfl rfl)
theorem q139 : (Jvm.Cond.initialized "ForestRooms$Several") ∈ lw_all := lw_g (lw_at lw_m1 29 rfl) rfl
theorem q495 : (Jvm.Cond.selects "ForestRooms$Several" ({ cls := "java/lang/Object", name := "getClass", desc := "()Ljava/lang/Class;" } : Jvm.MethodName) ({ cls := "java/lang/Object", name := "getClass", desc := "()Ljava/lang/Class;" } : Jvm.MethodName)) ∈ lw_all := lw_g (lw_at lw_m2 145 rfl) rfl
theorem q642 : (Jvm.Cond.instanceMethod ({ cls := "ForestRooms$Several", name := "is", desc := "(LForestRooms$Setting;)Z" } : Jvm.MethodName)) ∈ lw_all := lw_g (lw_at lw_m3 52 rfl) rfl
theorem q643 : (Jvm.Cond.code ({ cls := "ForestRooms$Several", name := "is", desc := "(LForestRooms$Setting;)Z" } : Jvm.MethodName) prog_14_method_2_code (3 : Nat) (Option.some Jvm.ClassFile.FieldType.boolean)) ∈ lw_all := lw_g (lw_at lw_m3 53 rfl) rfl
theorem q644 : (Jvm.Cond.methodLink "ForestRooms$Several" (22 : Nat) ({ cls := "java/util/ArrayList", name := "size", desc := "()I" } : Jvm.MethodName)) ∈ lw_all := lw_g (lw_at lw_m3 54 rfl) rfl
theorem q645 : (Jvm.Cond.methodLink "ForestRooms$Several" (26 : Nat) ({ cls := "java/util/ArrayList", name := "get", desc := "(I)Ljava/lang/Object;" } : Jvm.MethodName)) ∈ lw_all := lw_g (lw_at lw_m3 55 rfl) rfl
theorem q646 : (Jvm.Cond.classLink "ForestRooms$Several" (2 : Nat) "ForestRooms$Test") ∈ lw_all := lw_g (lw_at lw_m3 56 rfl) rfl
theorem q647 : (Jvm.Cond.methodLink "ForestRooms$Several" (30 : Nat) ({ cls := "ForestRooms$Test", name := "is", desc := "(LForestRooms$Setting;)Z" } : Jvm.MethodName)) ∈ lw_all := lw_g (lw_at lw_m3 57 rfl) rfl
theorem q648 : (Jvm.Cond.selects "ForestRooms$Several" ({ cls := "ForestRooms$Test", name := "is", desc := "(LForestRooms$Setting;)Z" } : Jvm.MethodName) ({ cls := "ForestRooms$Several", name := "is", desc := "(LForestRooms$Setting;)Z" } : Jvm.MethodName)) ∈ lw_all := lw_g (lw_at lw_m3 58 rfl) rfl
theorem q1088 : (Jvm.Cond.instantiable "ForestRooms$Several" (2 : Nat)) ∈ lw_all := lw_g (lw_at lw_m5 18 rfl) rfl
theorem q1090 : (Jvm.Cond.instanceMethod ({ cls := "ForestRooms$Several", name := "<init>", desc := "(Z)V" } : Jvm.MethodName)) ∈ lw_all := lw_g (lw_at lw_m5 20 rfl) rfl
theorem q1091 : (Jvm.Cond.code ({ cls := "ForestRooms$Several", name := "<init>", desc := "(Z)V" } : Jvm.MethodName) prog_14_method_1_code (2 : Nat) (Option.none : Option Jvm.ClassFile.FieldType)) ∈ lw_all := lw_g (lw_at lw_m5 21 rfl) rfl
theorem q1092 : (Jvm.Cond.methodLinkNest "ForestRooms$Several" (1 : Nat) ({ cls := "ForestRooms$Test", name := "<init>", desc := "()V" } : Jvm.MethodName) "ForestRooms") ∈ lw_tbl := lw_at lw_m5 22 rfl
theorem q1093 : (Jvm.Cond.classLink "ForestRooms$Several" (7 : Nat) "java/util/ArrayList") ∈ lw_all := lw_g (lw_at lw_m5 23 rfl) rfl
theorem q1094 : (Jvm.Cond.methodLink "ForestRooms$Several" (9 : Nat) ({ cls := "java/util/ArrayList", name := "<init>", desc := "(I)V" } : Jvm.MethodName)) ∈ lw_all := lw_g (lw_at lw_m5 24 rfl) rfl
theorem q1095 : (Jvm.Cond.fieldLink "ForestRooms$Several" (18 : Nat) "ForestRooms$Several" "all" "Z") ∈ lw_all := lw_g (lw_at lw_m5 25 rfl) rfl
theorem q1096 : (Jvm.Cond.fieldLink "ForestRooms$Several" (12 : Nat) "ForestRooms$Several" "of" "Ljava/util/ArrayList;") ∈ lw_all := lw_g (lw_at lw_m5 26 rfl) rfl
theorem q1098 : (Jvm.Cond.laysFinal "ForestRooms$Several" "ForestRooms$Several" "all" "Z") ∈ lw_all := lw_g (lw_at lw_m5 28 rfl) rfl
theorem q1099 : (Jvm.Cond.soleField "ForestRooms$Several" "all") ∈ lw_all := lw_g (lw_at lw_m5 29 rfl) rfl
theorem q1100 : (Jvm.Cond.laysFinal "ForestRooms$Several" "ForestRooms$Several" "of" "Ljava/util/ArrayList;") ∈ lw_all := lw_g (lw_at lw_m5 30 rfl) rfl
theorem q1101 : (Jvm.Cond.soleField "ForestRooms$Several" "of") ∈ lw_all := lw_g (lw_at lw_m5 31 rfl) rfl
theorem q1102 : (Jvm.Cond.superclass "ForestRooms$Several" "ForestRooms$Test") ∈ lw_all := lw_g (lw_at lw_m5 32 rfl) rfl
theorem q2240 : (Jvm.Cond.castable "ForestRooms$Several" "ForestRooms$Test") ∈ lw_tbl := lw_at lw_m9 210 rfl
theorem q2256 : (Jvm.Cond.castable "ForestRooms$Several" "java/lang/Object") ∈ lw_tbl := lw_at lw_m9 226 rfl
theorem in_X17 : ∀ w ∈ wsX170, w ∈ lw_all := lw_in wsX170 [1098, 1100] (by decide +kernel) (by decide +kernel)
/-! ForestRooms$Order -/
set_option maxRecDepth 100000
def RX18 : String := "ForestRooms$Order"
def TX18 : u_T := fun k => match k with
  | 0 => ("ForestRooms$Order", "head", "I", true)
  | 1 => ("ForestRooms$Order", "one", "LForestRooms$Sum;", false)
  | 2 => ("ForestRooms$Order", "other", "LForestRooms$Sum;", false)
  | 3 => ("ForestRooms$Order", "times", "I", false)
  | _ => ("ForestRooms$Order", "when", "LForestRooms$Test;", false)
def tyX18 : Nat → FieldType := fun k => match k with
  | 0 => .int
  | 1 => .object "ForestRooms$Sum"
  | 2 => .object "ForestRooms$Sum"
  | 3 => .int
  | _ => .object "ForestRooms$Test"
abbrev wsX180 : List Cond := u_ws RX18 TX18 5
theorem nmX18 : ∀ a, a < 5 → ∀ b, b < 5 → a ≠ b → (TX18 a).2.1 ≠ (TX18 b).2.1 := by decide +kernel
theorem tyX18_ok : ∀ k, k < 5 → parseFieldDescriptor (TX18 k).2.2.1 = some (tyX18 k) := by decide +kernel
abbrev cX18_init : ByteArray := prog_10_method_1_code
def yX18_init : MethodName := ⟨RX18, "<init>", "(I)V"⟩
def dkwX18_init_0 : List UInt8 := [42, 183, 0, 3, 42, 4, 181, 0, 9, 42, 27, 181, 0, 15, 177]
abbrev dktX18_init_0 : List UInt8 := dkwX18_init_0 ++ []
theorem dksX18_init_0 : cX18_init.data.toList.drop 0 = dktX18_init_0 := by decide +kernel
theorem dX18_init_0 : decode cX18_init 0 = .ok (.aload_n 0, 1) := dk_42 (dk_at dksX18_init_0 0 rfl rfl)
theorem dX18_init_1 : decode cX18_init 1 = .ok (.invokespecial 3, 3) := dk_183 0 3 (dk_at dksX18_init_0 1 rfl rfl)
theorem dX18_init_4 : decode cX18_init 4 = .ok (.aload_n 0, 1) := dk_42 (dk_at dksX18_init_0 4 rfl rfl)
theorem dX18_init_5 : decode cX18_init 5 = .ok (.iconst 1, 1) := dk_4 (dk_at dksX18_init_0 5 rfl rfl)
theorem dX18_init_6 : decode cX18_init 6 = .ok (.putfield 9, 3) := dk_181 0 9 (dk_at dksX18_init_0 6 rfl rfl)
theorem dX18_init_9 : decode cX18_init 9 = .ok (.aload_n 0, 1) := dk_42 (dk_at dksX18_init_0 9 rfl rfl)
theorem dX18_init_10 : decode cX18_init 10 = .ok (.iload_n 1, 1) := dk_27 (dk_at dksX18_init_0 10 rfl rfl)
theorem dX18_init_11 : decode cX18_init 11 = .ok (.putfield 15, 3) := dk_181 0 15 (dk_at dksX18_init_0 11 rfl rfl)
theorem dX18_init_14 : decode cX18_init 14 = .ok (.return_, 1) := dk_177 (dk_at dksX18_init_0 14 rfl rfl)
abbrev cX18_isNow : ByteArray := prog_10_method_2_code
def yX18_isNow : MethodName := ⟨RX18, "isNow", "(LForestRooms$Setting;)Z"⟩
def dkwX18_isNow_1 : List UInt8 := [77, 3, 172]
abbrev dktX18_isNow_1 : List UInt8 := dkwX18_isNow_1 ++ []
def dkwX18_isNow_0 : List UInt8 := [42, 180, 0, 18, 198, 0, 14, 42, 180, 0, 18, 43, 182, 0, 22, 153, 0, 7, 4, 167, 0, 4, 3, 172]
abbrev dktX18_isNow_0 : List UInt8 := dkwX18_isNow_0 ++ dktX18_isNow_1
theorem dksX18_isNow_0 : cX18_isNow.data.toList.drop 0 = dktX18_isNow_0 := by decide +kernel
theorem dksX18_isNow_1 : cX18_isNow.data.toList.drop 24 = dktX18_isNow_1 := dk_seg dksX18_isNow_0 24 rfl rfl
theorem dX18_isNow_0 : decode cX18_isNow 0 = .ok (.aload_n 0, 1) := dk_42 (dk_at dksX18_isNow_0 0 rfl rfl)
theorem dX18_isNow_1 : decode cX18_isNow 1 = .ok (.getfield 18, 3) := dk_180 0 18 (dk_at dksX18_isNow_0 1 rfl rfl)
theorem dX18_isNow_4 : decode cX18_isNow 4 = .ok (.ifnull 14, 3) := dk_198 0 14 (dk_at dksX18_isNow_0 4 rfl rfl)
theorem dX18_isNow_7 : decode cX18_isNow 7 = .ok (.aload_n 0, 1) := dk_42 (dk_at dksX18_isNow_0 7 rfl rfl)
theorem dX18_isNow_8 : decode cX18_isNow 8 = .ok (.getfield 18, 3) := dk_180 0 18 (dk_at dksX18_isNow_0 8 rfl rfl)
theorem dX18_isNow_11 : decode cX18_isNow 11 = .ok (.aload_n 1, 1) := dk_43 (dk_at dksX18_isNow_0 11 rfl rfl)
theorem dX18_isNow_12 : decode cX18_isNow 12 = .ok (.invokevirtual 22, 3) := dk_182 0 22 (dk_at dksX18_isNow_0 12 rfl rfl)
theorem dX18_isNow_15 : decode cX18_isNow 15 = .ok (.ifCond .eq 7, 3) := dk_153 0 7 (dk_at dksX18_isNow_0 15 rfl rfl)
theorem dX18_isNow_18 : decode cX18_isNow 18 = .ok (.iconst 1, 1) := dk_4 (dk_at dksX18_isNow_0 18 rfl rfl)
theorem dX18_isNow_19 : decode cX18_isNow 19 = .ok (.goto 4, 3) := dk_167 0 4 (dk_at dksX18_isNow_0 19 rfl rfl)
theorem dX18_isNow_22 : decode cX18_isNow 22 = .ok (.iconst 0, 1) := dk_3 (dk_at dksX18_isNow_0 22 rfl rfl)
theorem dX18_isNow_23 : decode cX18_isNow 23 = .ok (.ireturn, 1) := dk_172 (dk_at dksX18_isNow_0 23 rfl rfl)
theorem dX18_isNow_24 : decode cX18_isNow 24 = .ok (.astore_n 2, 1) := dk_77 (dk_at dksX18_isNow_1 0 rfl rfl)
theorem dX18_isNow_25 : decode cX18_isNow 25 = .ok (.iconst 0, 1) := dk_3 (dk_at dksX18_isNow_1 1 rfl rfl)
theorem dX18_isNow_26 : decode cX18_isNow 26 = .ok (.ireturn, 1) := dk_172 (dk_at dksX18_isNow_1 2 rfl rfl)
abbrev cX18_told : ByteArray := prog_10_method_3_code
def yX18_told : MethodName := ⟨RX18, "told", "(LForestRooms$Sum;LForestRooms$Setting;)I"⟩
def dkwX18_told_1 : List UInt8 := [32, 136, 172, 77, 2, 172]
abbrev dktX18_told_1 : List UInt8 := dkwX18_told_1 ++ []
def dkwX18_told_0 : List UInt8 := [42, 43, 182, 0, 30, 65, 32, 9, 148, 155, 0, 11, 32, 20, 0, 36, 148, 155, 0, 7, 2, 167, 0, 5]
abbrev dktX18_told_0 : List UInt8 := dkwX18_told_0 ++ dktX18_told_1
theorem dksX18_told_0 : cX18_told.data.toList.drop 0 = dktX18_told_0 := by decide +kernel
theorem dksX18_told_1 : cX18_told.data.toList.drop 24 = dktX18_told_1 := dk_seg dksX18_told_0 24 rfl rfl
theorem dX18_told_0 : decode cX18_told 0 = .ok (.aload_n 0, 1) := dk_42 (dk_at dksX18_told_0 0 rfl rfl)
theorem dX18_told_1 : decode cX18_told 1 = .ok (.aload_n 1, 1) := dk_43 (dk_at dksX18_told_0 1 rfl rfl)
theorem dX18_told_2 : decode cX18_told 2 = .ok (.invokevirtual 30, 3) := dk_182 0 30 (dk_at dksX18_told_0 2 rfl rfl)
theorem dX18_told_5 : decode cX18_told 5 = .ok (.lstore_n 2, 1) := dk_65 (dk_at dksX18_told_0 5 rfl rfl)
theorem dX18_told_6 : decode cX18_told 6 = .ok (.lload_n 2, 1) := dk_32 (dk_at dksX18_told_0 6 rfl rfl)
theorem dX18_told_7 : decode cX18_told 7 = .ok (.lconst 0, 1) := dk_9 (dk_at dksX18_told_0 7 rfl rfl)
theorem dX18_told_8 : decode cX18_told 8 = .ok (.lcmp, 1) := dk_148 (dk_at dksX18_told_0 8 rfl rfl)
theorem dX18_told_9 : decode cX18_told 9 = .ok (.ifCond .lt 11, 3) := dk_155 0 11 (dk_at dksX18_told_0 9 rfl rfl)
theorem dX18_told_12 : decode cX18_told 12 = .ok (.lload_n 2, 1) := dk_32 (dk_at dksX18_told_0 12 rfl rfl)
theorem dX18_told_13 : decode cX18_told 13 = .ok (.ldc2_w 36, 3) := dk_20 0 36 (dk_at dksX18_told_0 13 rfl rfl)
theorem dX18_told_16 : decode cX18_told 16 = .ok (.lcmp, 1) := dk_148 (dk_at dksX18_told_0 16 rfl rfl)
theorem dX18_told_17 : decode cX18_told 17 = .ok (.ifCond .lt 7, 3) := dk_155 0 7 (dk_at dksX18_told_0 17 rfl rfl)
theorem dX18_told_20 : decode cX18_told 20 = .ok (.iconst (-1), 1) := dk_2 (dk_at dksX18_told_0 20 rfl rfl)
theorem dX18_told_21 : decode cX18_told 21 = .ok (.goto 5, 3) := dk_167 0 5 (dk_at dksX18_told_0 21 rfl rfl)
theorem dX18_told_24 : decode cX18_told 24 = .ok (.lload_n 2, 1) := dk_32 (dk_at dksX18_told_1 0 rfl rfl)
theorem dX18_told_25 : decode cX18_told 25 = .ok (.l2i, 1) := dk_136 (dk_at dksX18_told_1 1 rfl rfl)
theorem dX18_told_26 : decode cX18_told 26 = .ok (.ireturn, 1) := dk_172 (dk_at dksX18_told_1 2 rfl rfl)
theorem dX18_told_27 : decode cX18_told 27 = .ok (.astore_n 2, 1) := dk_77 (dk_at dksX18_told_1 3 rfl rfl)
theorem dX18_told_28 : decode cX18_told 28 = .ok (.iconst (-1), 1) := dk_2 (dk_at dksX18_told_1 4 rfl rfl)
theorem dX18_told_29 : decode cX18_told 29 = .ok (.ireturn, 1) := dk_172 (dk_at dksX18_told_1 5 rfl rfl)
theorem q143 : (Jvm.Cond.initialized "ForestRooms$Order") ∈ lw_all := lw_g (lw_at lw_m1 33 rfl) rfl
theorem q492 : (Jvm.Cond.selects "ForestRooms$Order" ({ cls := "java/lang/Object", name := "getClass", desc := "()Ljava/lang/Class;" } : Jvm.MethodName) ({ cls := "java/lang/Object", name := "getClass", desc := "()Ljava/lang/Class;" } : Jvm.MethodName)) ∈ lw_all := lw_g (lw_at lw_m2 142 rfl) rfl
theorem q1135 : (Jvm.Cond.instantiable "ForestRooms$Order" (5 : Nat)) ∈ lw_all := lw_g (lw_at lw_m5 65 rfl) rfl
theorem q1137 : (Jvm.Cond.instanceMethod ({ cls := "ForestRooms$Order", name := "<init>", desc := "(I)V" } : Jvm.MethodName)) ∈ lw_all := lw_g (lw_at lw_m5 67 rfl) rfl
theorem q1138 : (Jvm.Cond.code ({ cls := "ForestRooms$Order", name := "<init>", desc := "(I)V" } : Jvm.MethodName) prog_10_method_1_code (2 : Nat) (Option.none : Option Jvm.ClassFile.FieldType)) ∈ lw_all := lw_g (lw_at lw_m5 68 rfl) rfl
theorem q1139 : (Jvm.Cond.methodLink "ForestRooms$Order" (3 : Nat) ({ cls := "java/lang/Object", name := "<init>", desc := "()V" } : Jvm.MethodName)) ∈ lw_all := lw_g (lw_at lw_m5 69 rfl) rfl
theorem q1140 : (Jvm.Cond.fieldLink "ForestRooms$Order" (15 : Nat) "ForestRooms$Order" "head" "I") ∈ lw_all := lw_g (lw_at lw_m5 70 rfl) rfl
theorem q1146 : (Jvm.Cond.fieldLink "ForestRooms$Order" (9 : Nat) "ForestRooms$Order" "times" "I") ∈ lw_all := lw_g (lw_at lw_m5 76 rfl) rfl
theorem q1149 : (Jvm.Cond.fieldLink "ForestRooms$Order" (18 : Nat) "ForestRooms$Order" "when" "LForestRooms$Test;") ∈ lw_all := lw_g (lw_at lw_m5 79 rfl) rfl
theorem q1151 : (Jvm.Cond.laysFinal "ForestRooms$Order" "ForestRooms$Order" "head" "I") ∈ lw_all := lw_g (lw_at lw_m5 81 rfl) rfl
theorem q1152 : (Jvm.Cond.soleField "ForestRooms$Order" "head") ∈ lw_all := lw_g (lw_at lw_m5 82 rfl) rfl
theorem q1153 : (Jvm.Cond.lays "ForestRooms$Order" "ForestRooms$Order" "one" "LForestRooms$Sum;") ∈ lw_all := lw_g (lw_at lw_m5 83 rfl) rfl
theorem q1154 : (Jvm.Cond.soleField "ForestRooms$Order" "one") ∈ lw_all := lw_g (lw_at lw_m5 84 rfl) rfl
theorem q1155 : (Jvm.Cond.lays "ForestRooms$Order" "ForestRooms$Order" "other" "LForestRooms$Sum;") ∈ lw_all := lw_g (lw_at lw_m5 85 rfl) rfl
theorem q1156 : (Jvm.Cond.soleField "ForestRooms$Order" "other") ∈ lw_all := lw_g (lw_at lw_m5 86 rfl) rfl
theorem q1157 : (Jvm.Cond.lays "ForestRooms$Order" "ForestRooms$Order" "times" "I") ∈ lw_all := lw_g (lw_at lw_m5 87 rfl) rfl
theorem q1158 : (Jvm.Cond.soleField "ForestRooms$Order" "times") ∈ lw_all := lw_g (lw_at lw_m5 88 rfl) rfl
theorem q1159 : (Jvm.Cond.lays "ForestRooms$Order" "ForestRooms$Order" "when" "LForestRooms$Test;") ∈ lw_all := lw_g (lw_at lw_m5 89 rfl) rfl
theorem q1160 : (Jvm.Cond.soleField "ForestRooms$Order" "when") ∈ lw_all := lw_g (lw_at lw_m5 90 rfl) rfl
theorem q1161 : (Jvm.Cond.superclass "ForestRooms$Order" "java/lang/Object") ∈ lw_all := lw_g (lw_at lw_m5 91 rfl) rfl
theorem q1446 : (Jvm.Cond.instanceMethod ({ cls := "ForestRooms$Order", name := "isNow", desc := "(LForestRooms$Setting;)Z" } : Jvm.MethodName)) ∈ lw_all := lw_g (lw_at lw_m6 136 rfl) rfl
theorem q1447 : (Jvm.Cond.selects "ForestRooms$Order" ({ cls := "ForestRooms$Order", name := "isNow", desc := "(LForestRooms$Setting;)Z" } : Jvm.MethodName) ({ cls := "ForestRooms$Order", name := "isNow", desc := "(LForestRooms$Setting;)Z" } : Jvm.MethodName)) ∈ lw_all := lw_g (lw_at lw_m6 137 rfl) rfl
theorem q1448 : (Jvm.Cond.codeWith ({ cls := "ForestRooms$Order", name := "isNow", desc := "(LForestRooms$Setting;)Z" } : Jvm.MethodName) prog_10_method_2_code (3 : Nat) (Option.some Jvm.ClassFile.FieldType.boolean) [((0 : Nat), (23 : Nat), (24 : Nat), (28 : Nat))]) ∈ lw_all := lw_g (lw_at lw_m6 138 rfl) rfl
theorem q1449 : (Jvm.Cond.classLink "ForestRooms$Order" (28 : Nat) "ForestRooms$Broken") ∈ lw_all := lw_g (lw_at lw_m6 139 rfl) rfl
theorem q1450 : (Jvm.Cond.methodLink "ForestRooms$Order" (22 : Nat) ({ cls := "ForestRooms$Test", name := "is", desc := "(LForestRooms$Setting;)Z" } : Jvm.MethodName)) ∈ lw_all := lw_g (lw_at lw_m6 140 rfl) rfl
theorem q1456 : (Jvm.Cond.static ({ cls := "ForestRooms$Order", name := "told", desc := "(LForestRooms$Sum;LForestRooms$Setting;)I" } : Jvm.MethodName)) ∈ lw_all := lw_g (lw_at lw_m6 146 rfl) rfl
theorem q1457 : (Jvm.Cond.codeWith ({ cls := "ForestRooms$Order", name := "told", desc := "(LForestRooms$Sum;LForestRooms$Setting;)I" } : Jvm.MethodName) prog_10_method_3_code (4 : Nat) (Option.some Jvm.ClassFile.FieldType.int) [((0 : Nat), (26 : Nat), (27 : Nat), (28 : Nat))]) ∈ lw_all := lw_g (lw_at lw_m6 147 rfl) rfl
theorem q1458 : (Jvm.Cond.methodLink "ForestRooms$Order" (30 : Nat) ({ cls := "ForestRooms$Sum", name := "of", desc := "(LForestRooms$Setting;)J" } : Jvm.MethodName)) ∈ lw_all := lw_g (lw_at lw_m6 148 rfl) rfl
theorem q1459 : (Jvm.Cond.constantLong "ForestRooms$Order" (36 : Nat) (1000000 : Int64)) ∈ lw_all := lw_g (lw_at lw_m6 149 rfl) rfl
theorem q2259 : (Jvm.Cond.castable "ForestRooms$Order" "java/lang/Object") ∈ lw_tbl := lw_at lw_m9 229 rfl
theorem in_X18 : ∀ w ∈ wsX180, w ∈ lw_all := lw_in wsX180 [1151, 1153, 1155, 1157, 1159] (by decide +kernel) (by decide +kernel)
/-! ForestRooms$Law -/
set_option maxRecDepth 100000
def RX19 : String := "ForestRooms$Law"
def TX19 : u_T := fun k => match k with
  | _ => ("ForestRooms$Law", "clauses", "Ljava/util/ArrayList;", true)
def tyX19 : Nat → FieldType := fun k => match k with
  | _ => .object "java/util/ArrayList"
abbrev wsX190 : List Cond := u_ws RX19 TX19 1
theorem nmX19 : ∀ a, a < 1 → ∀ b, b < 1 → a ≠ b → (TX19 a).2.1 ≠ (TX19 b).2.1 := by decide +kernel
theorem tyX19_ok : ∀ k, k < 1 → parseFieldDescriptor (TX19 k).2.2.1 = some (tyX19 k) := by decide +kernel
abbrev cX19_told : ByteArray := prog_6_method_2_code
def yX19_told : MethodName := ⟨RX19, "told", "(ILForestRooms$Setting;)J"⟩
def dkwX19_told_3 : List UInt8 := [132, 5, 1, 167, 255, 189, 33, 173]
abbrev dktX19_told_3 : List UInt8 := dkwX19_told_3 ++ []
def dkwX19_told_2 : List UInt8 := [182, 0, 23, 192, 0, 27, 44, 182, 0, 33, 55, 6, 22, 6, 20, 0, 15, 148, 153, 0, 6, 22, 6, 66]
abbrev dktX19_told_2 : List UInt8 := dkwX19_told_2 ++ dktX19_told_3
def dkwX19_told_1 : List UInt8 := [21, 5, 182, 0, 23, 192, 0, 27, 180, 0, 29, 27, 159, 0, 6, 167, 0, 33, 42, 180, 0, 9, 21, 5]
abbrev dktX19_told_1 : List UInt8 := dkwX19_told_1 ++ dktX19_told_2
def dkwX19_told_0 : List UInt8 := [20, 0, 15, 66, 3, 54, 5, 21, 5, 42, 180, 0, 9, 182, 0, 17, 162, 0, 61, 42, 180, 0, 9]
abbrev dktX19_told_0 : List UInt8 := dkwX19_told_0 ++ dktX19_told_1
theorem dksX19_told_0 : cX19_told.data.toList.drop 0 = dktX19_told_0 := by decide +kernel
theorem dksX19_told_1 : cX19_told.data.toList.drop 23 = dktX19_told_1 := dk_seg dksX19_told_0 23 rfl rfl
theorem dksX19_told_2 : cX19_told.data.toList.drop 47 = dktX19_told_2 := dk_seg dksX19_told_1 24 rfl rfl
theorem dksX19_told_3 : cX19_told.data.toList.drop 71 = dktX19_told_3 := dk_seg dksX19_told_2 24 rfl rfl
theorem dX19_told_0 : decode cX19_told 0 = .ok (.ldc2_w 15, 3) := dk_20 0 15 (dk_at dksX19_told_0 0 rfl rfl)
theorem dX19_told_3 : decode cX19_told 3 = .ok (.lstore_n 3, 1) := dk_66 (dk_at dksX19_told_0 3 rfl rfl)
theorem dX19_told_4 : decode cX19_told 4 = .ok (.iconst 0, 1) := dk_3 (dk_at dksX19_told_0 4 rfl rfl)
theorem dX19_told_5 : decode cX19_told 5 = .ok (.istore 5, 2) := dk_54 5 (dk_at dksX19_told_0 5 rfl rfl)
theorem dX19_told_7 : decode cX19_told 7 = .ok (.iload 5, 2) := dk_21 5 (dk_at dksX19_told_0 7 rfl rfl)
theorem dX19_told_9 : decode cX19_told 9 = .ok (.aload_n 0, 1) := dk_42 (dk_at dksX19_told_0 9 rfl rfl)
theorem dX19_told_10 : decode cX19_told 10 = .ok (.getfield 9, 3) := dk_180 0 9 (dk_at dksX19_told_0 10 rfl rfl)
theorem dX19_told_13 : decode cX19_told 13 = .ok (.invokevirtual 17, 3) := dk_182 0 17 (dk_at dksX19_told_0 13 rfl rfl)
theorem dX19_told_16 : decode cX19_told 16 = .ok (.if_icmp .ge 61, 3) := dk_162 0 61 (dk_at dksX19_told_0 16 rfl rfl)
theorem dX19_told_19 : decode cX19_told 19 = .ok (.aload_n 0, 1) := dk_42 (dk_at dksX19_told_0 19 rfl rfl)
theorem dX19_told_20 : decode cX19_told 20 = .ok (.getfield 9, 3) := dk_180 0 9 (dk_at dksX19_told_0 20 rfl rfl)
theorem dX19_told_23 : decode cX19_told 23 = .ok (.iload 5, 2) := dk_21 5 (dk_at dksX19_told_1 0 rfl rfl)
theorem dX19_told_25 : decode cX19_told 25 = .ok (.invokevirtual 23, 3) := dk_182 0 23 (dk_at dksX19_told_1 2 rfl rfl)
theorem dX19_told_28 : decode cX19_told 28 = .ok (.checkcast 27, 3) := dk_192 0 27 (dk_at dksX19_told_1 5 rfl rfl)
theorem dX19_told_31 : decode cX19_told 31 = .ok (.getfield 29, 3) := dk_180 0 29 (dk_at dksX19_told_1 8 rfl rfl)
theorem dX19_told_34 : decode cX19_told 34 = .ok (.iload_n 1, 1) := dk_27 (dk_at dksX19_told_1 11 rfl rfl)
theorem dX19_told_35 : decode cX19_told 35 = .ok (.if_icmp .eq 6, 3) := dk_159 0 6 (dk_at dksX19_told_1 12 rfl rfl)
theorem dX19_told_38 : decode cX19_told 38 = .ok (.goto 33, 3) := dk_167 0 33 (dk_at dksX19_told_1 15 rfl rfl)
theorem dX19_told_41 : decode cX19_told 41 = .ok (.aload_n 0, 1) := dk_42 (dk_at dksX19_told_1 18 rfl rfl)
theorem dX19_told_42 : decode cX19_told 42 = .ok (.getfield 9, 3) := dk_180 0 9 (dk_at dksX19_told_1 19 rfl rfl)
theorem dX19_told_45 : decode cX19_told 45 = .ok (.iload 5, 2) := dk_21 5 (dk_at dksX19_told_1 22 rfl rfl)
theorem dX19_told_47 : decode cX19_told 47 = .ok (.invokevirtual 23, 3) := dk_182 0 23 (dk_at dksX19_told_2 0 rfl rfl)
theorem dX19_told_50 : decode cX19_told 50 = .ok (.checkcast 27, 3) := dk_192 0 27 (dk_at dksX19_told_2 3 rfl rfl)
theorem dX19_told_53 : decode cX19_told 53 = .ok (.aload_n 2, 1) := dk_44 (dk_at dksX19_told_2 6 rfl rfl)
theorem dX19_told_54 : decode cX19_told 54 = .ok (.invokevirtual 33, 3) := dk_182 0 33 (dk_at dksX19_told_2 7 rfl rfl)
theorem dX19_told_57 : decode cX19_told 57 = .ok (.lstore 6, 2) := dk_55 6 (dk_at dksX19_told_2 10 rfl rfl)
theorem dX19_told_59 : decode cX19_told 59 = .ok (.lload 6, 2) := dk_22 6 (dk_at dksX19_told_2 12 rfl rfl)
theorem dX19_told_61 : decode cX19_told 61 = .ok (.ldc2_w 15, 3) := dk_20 0 15 (dk_at dksX19_told_2 14 rfl rfl)
theorem dX19_told_64 : decode cX19_told 64 = .ok (.lcmp, 1) := dk_148 (dk_at dksX19_told_2 17 rfl rfl)
theorem dX19_told_65 : decode cX19_told 65 = .ok (.ifCond .eq 6, 3) := dk_153 0 6 (dk_at dksX19_told_2 18 rfl rfl)
theorem dX19_told_68 : decode cX19_told 68 = .ok (.lload 6, 2) := dk_22 6 (dk_at dksX19_told_2 21 rfl rfl)
theorem dX19_told_70 : decode cX19_told 70 = .ok (.lstore_n 3, 1) := dk_66 (dk_at dksX19_told_2 23 rfl rfl)
theorem dX19_told_71 : decode cX19_told 71 = .ok (.iinc 5 1, 3) := dk_132 5 1 (dk_at dksX19_told_3 0 rfl rfl)
theorem dX19_told_74 : decode cX19_told 74 = .ok (.goto (-67), 3) := dk_167 255 189 (dk_at dksX19_told_3 3 rfl rfl)
theorem dX19_told_77 : decode cX19_told 77 = .ok (.lload_n 3, 1) := dk_33 (dk_at dksX19_told_3 6 rfl rfl)
theorem dX19_told_78 : decode cX19_told 78 = .ok (.lreturn, 1) := dk_173 (dk_at dksX19_told_3 7 rfl rfl)
abbrev cX19_init : ByteArray := prog_6_method_1_code
def yX19_init : MethodName := ⟨RX19, "<init>", "(Ljava/util/ArrayList;)V"⟩
def dkwX19_init_0 : List UInt8 := [42, 183, 0, 3, 42, 43, 181, 0, 9, 177]
abbrev dktX19_init_0 : List UInt8 := dkwX19_init_0 ++ []
theorem dksX19_init_0 : cX19_init.data.toList.drop 0 = dktX19_init_0 := by decide +kernel
theorem dX19_init_0 : decode cX19_init 0 = .ok (.aload_n 0, 1) := dk_42 (dk_at dksX19_init_0 0 rfl rfl)
theorem dX19_init_1 : decode cX19_init 1 = .ok (.invokespecial 3, 3) := dk_183 0 3 (dk_at dksX19_init_0 1 rfl rfl)
theorem dX19_init_4 : decode cX19_init 4 = .ok (.aload_n 0, 1) := dk_42 (dk_at dksX19_init_0 4 rfl rfl)
theorem dX19_init_5 : decode cX19_init 5 = .ok (.aload_n 1, 1) := dk_43 (dk_at dksX19_init_0 5 rfl rfl)
theorem dX19_init_6 : decode cX19_init 6 = .ok (.putfield 9, 3) := dk_181 0 9 (dk_at dksX19_init_0 6 rfl rfl)
theorem dX19_init_9 : decode cX19_init 9 = .ok (.return_, 1) := dk_177 (dk_at dksX19_init_0 9 rfl rfl)
theorem q144 : (Jvm.Cond.initialized "ForestRooms$Law") ∈ lw_all := lw_g (lw_at lw_m1 34 rfl) rfl
theorem q488 : (Jvm.Cond.selects "ForestRooms$Law" ({ cls := "java/lang/Object", name := "getClass", desc := "()Ljava/lang/Class;" } : Jvm.MethodName) ({ cls := "java/lang/Object", name := "getClass", desc := "()Ljava/lang/Class;" } : Jvm.MethodName)) ∈ lw_all := lw_g (lw_at lw_m2 138 rfl) rfl
theorem q602 : (Jvm.Cond.instanceMethod ({ cls := "ForestRooms$Law", name := "told", desc := "(ILForestRooms$Setting;)J" } : Jvm.MethodName)) ∈ lw_all := lw_g (lw_at lw_m3 12 rfl) rfl
theorem q603 : (Jvm.Cond.selects "ForestRooms$Law" ({ cls := "ForestRooms$Law", name := "told", desc := "(ILForestRooms$Setting;)J" } : Jvm.MethodName) ({ cls := "ForestRooms$Law", name := "told", desc := "(ILForestRooms$Setting;)J" } : Jvm.MethodName)) ∈ lw_all := lw_g (lw_at lw_m3 13 rfl) rfl
theorem q604 : (Jvm.Cond.code ({ cls := "ForestRooms$Law", name := "told", desc := "(ILForestRooms$Setting;)J" } : Jvm.MethodName) prog_6_method_2_code (8 : Nat) (Option.some Jvm.ClassFile.FieldType.long)) ∈ lw_all := lw_g (lw_at lw_m3 14 rfl) rfl
theorem q605 : (Jvm.Cond.constantLong "ForestRooms$Law" (15 : Nat) (-4000000000 : Int64)) ∈ lw_all := lw_g (lw_at lw_m3 15 rfl) rfl
theorem q606 : (Jvm.Cond.methodLink "ForestRooms$Law" (17 : Nat) ({ cls := "java/util/ArrayList", name := "size", desc := "()I" } : Jvm.MethodName)) ∈ lw_all := lw_g (lw_at lw_m3 16 rfl) rfl
theorem q610 : (Jvm.Cond.methodLink "ForestRooms$Law" (23 : Nat) ({ cls := "java/util/ArrayList", name := "get", desc := "(I)Ljava/lang/Object;" } : Jvm.MethodName)) ∈ lw_all := lw_g (lw_at lw_m3 20 rfl) rfl
theorem q611 : (Jvm.Cond.classLink "ForestRooms$Law" (27 : Nat) "ForestRooms$Clause") ∈ lw_all := lw_g (lw_at lw_m3 21 rfl) rfl
theorem q612 : (Jvm.Cond.methodLink "ForestRooms$Law" (33 : Nat) ({ cls := "ForestRooms$Clause", name := "tells", desc := "(LForestRooms$Setting;)J" } : Jvm.MethodName)) ∈ lw_all := lw_g (lw_at lw_m3 22 rfl) rfl
theorem q873 : (Jvm.Cond.fieldLinkNest "ForestRooms$Law" (29 : Nat) "ForestRooms$Clause" "head" "I" "ForestRooms") ∈ lw_tbl := lw_at lw_m4 43 rfl
theorem q1182 : (Jvm.Cond.instantiable "ForestRooms$Law" (1 : Nat)) ∈ lw_all := lw_g (lw_at lw_m5 112 rfl) rfl
theorem q1184 : (Jvm.Cond.instanceMethod ({ cls := "ForestRooms$Law", name := "<init>", desc := "(Ljava/util/ArrayList;)V" } : Jvm.MethodName)) ∈ lw_all := lw_g (lw_at lw_m5 114 rfl) rfl
theorem q1185 : (Jvm.Cond.code ({ cls := "ForestRooms$Law", name := "<init>", desc := "(Ljava/util/ArrayList;)V" } : Jvm.MethodName) prog_6_method_1_code (2 : Nat) (Option.none : Option Jvm.ClassFile.FieldType)) ∈ lw_all := lw_g (lw_at lw_m5 115 rfl) rfl
theorem q1186 : (Jvm.Cond.methodLink "ForestRooms$Law" (3 : Nat) ({ cls := "java/lang/Object", name := "<init>", desc := "()V" } : Jvm.MethodName)) ∈ lw_all := lw_g (lw_at lw_m5 116 rfl) rfl
theorem q1187 : (Jvm.Cond.fieldLink "ForestRooms$Law" (9 : Nat) "ForestRooms$Law" "clauses" "Ljava/util/ArrayList;") ∈ lw_all := lw_g (lw_at lw_m5 117 rfl) rfl
theorem q1188 : (Jvm.Cond.laysFinal "ForestRooms$Law" "ForestRooms$Law" "clauses" "Ljava/util/ArrayList;") ∈ lw_all := lw_g (lw_at lw_m5 118 rfl) rfl
theorem q1189 : (Jvm.Cond.soleField "ForestRooms$Law" "clauses") ∈ lw_all := lw_g (lw_at lw_m5 119 rfl) rfl
theorem q1190 : (Jvm.Cond.superclass "ForestRooms$Law" "java/lang/Object") ∈ lw_all := lw_g (lw_at lw_m5 120 rfl) rfl
theorem q2257 : (Jvm.Cond.castable "ForestRooms$Law" "java/lang/Object") ∈ lw_tbl := lw_at lw_m9 227 rfl
theorem in_X19 : ∀ w ∈ wsX190, w ∈ lw_all := lw_in wsX190 [1188] (by decide +kernel) (by decide +kernel)
/-! ForestRooms$OrderReader -/
set_option maxRecDepth 100000
def RX20 : String := "ForestRooms$OrderReader"
def TX20 : u_T := fun k => match k with
  | 0 => ("ForestRooms$Reader", "tape", "[B", true)
  | 1 => ("ForestRooms$Reader", "size", "I", true)
  | 2 => ("ForestRooms$Reader", "made", "I", false)
  | 3 => ("ForestRooms$Reader", "from", "I", false)
  | 4 => ("ForestRooms$Reader", "to", "I", false)
  | 5 => ("ForestRooms$Reader", "leaves", "I", false)
  | 6 => ("ForestRooms$Reader", "deep", "I", false)
  | _ => ("ForestRooms$OrderReader", "orders", "Ljava/util/ArrayList;", true)
def tyX20 : Nat → FieldType := fun k => match k with
  | 0 => .array .byte
  | 1 => .int
  | 2 => .int
  | 3 => .int
  | 4 => .int
  | 5 => .int
  | 6 => .int
  | _ => .object "java/util/ArrayList"
abbrev wsX200 : List Cond := u_ws RX20 TX20 8
theorem nmX20 : ∀ a, a < 8 → ∀ b, b < 8 → a ≠ b → (TX20 a).2.1 ≠ (TX20 b).2.1 := by decide +kernel
theorem tyX20_ok : ∀ k, k < 8 → parseFieldDescriptor (TX20 k).2.2.1 = some (tyX20 k) := by decide +kernel
abbrev cX20_value : ByteArray := prog_11_method_3_code
def yX20_value : MethodName := ⟨RX20, "value", "()I"⟩
def dkwX20_value_4 : List UInt8 := [16, 36, 42, 3, 16, 15, 182, 0, 71, 96, 167, 0, 4, 2, 172]
abbrev dktX20_value_4 : List UInt8 := dkwX20_value_4 ++ []
def dkwX20_value_3 : List UInt8 := [153, 0, 14, 16, 20, 42, 3, 16, 15, 182, 0, 71, 96, 172, 42, 18, 107, 182, 0, 94, 153, 0, 16]
abbrev dktX20_value_3 : List UInt8 := dkwX20_value_3 ++ dktX20_value_4
def dkwX20_value_2 : List UInt8 := [182, 0, 94, 153, 0, 13, 7, 42, 3, 16, 15, 182, 0, 71, 96, 172, 42, 18, 105, 182, 0, 94]
abbrev dktX20_value_2 : List UInt8 := dkwX20_value_2 ++ dktX20_value_3
def dkwX20_value_1 : List UInt8 := [18, 99, 182, 0, 94, 153, 0, 5, 5, 172, 42, 18, 101, 182, 0, 94, 153, 0, 5, 6, 172, 42, 18, 103]
abbrev dktX20_value_1 : List UInt8 := dkwX20_value_1 ++ dktX20_value_2
def dkwX20_value_0 : List UInt8 := [42, 18, 92, 182, 0, 94, 153, 0, 5, 3, 172, 42, 18, 97, 182, 0, 94, 153, 0, 5, 4, 172, 42]
abbrev dktX20_value_0 : List UInt8 := dkwX20_value_0 ++ dktX20_value_1
theorem dksX20_value_0 : cX20_value.data.toList.drop 0 = dktX20_value_0 := by decide +kernel
theorem dksX20_value_1 : cX20_value.data.toList.drop 23 = dktX20_value_1 := dk_seg dksX20_value_0 23 rfl rfl
theorem dksX20_value_2 : cX20_value.data.toList.drop 47 = dktX20_value_2 := dk_seg dksX20_value_1 24 rfl rfl
theorem dksX20_value_3 : cX20_value.data.toList.drop 69 = dktX20_value_3 := dk_seg dksX20_value_2 22 rfl rfl
theorem dksX20_value_4 : cX20_value.data.toList.drop 92 = dktX20_value_4 := dk_seg dksX20_value_3 23 rfl rfl
theorem dX20_value_0 : decode cX20_value 0 = .ok (.aload_n 0, 1) := dk_42 (dk_at dksX20_value_0 0 rfl rfl)
theorem dX20_value_1 : decode cX20_value 1 = .ok (.ldc 92, 2) := dk_18 92 (dk_at dksX20_value_0 1 rfl rfl)
theorem dX20_value_3 : decode cX20_value 3 = .ok (.invokevirtual 94, 3) := dk_182 0 94 (dk_at dksX20_value_0 3 rfl rfl)
theorem dX20_value_6 : decode cX20_value 6 = .ok (.ifCond .eq 5, 3) := dk_153 0 5 (dk_at dksX20_value_0 6 rfl rfl)
theorem dX20_value_9 : decode cX20_value 9 = .ok (.iconst 0, 1) := dk_3 (dk_at dksX20_value_0 9 rfl rfl)
theorem dX20_value_10 : decode cX20_value 10 = .ok (.ireturn, 1) := dk_172 (dk_at dksX20_value_0 10 rfl rfl)
theorem dX20_value_11 : decode cX20_value 11 = .ok (.aload_n 0, 1) := dk_42 (dk_at dksX20_value_0 11 rfl rfl)
theorem dX20_value_12 : decode cX20_value 12 = .ok (.ldc 97, 2) := dk_18 97 (dk_at dksX20_value_0 12 rfl rfl)
theorem dX20_value_14 : decode cX20_value 14 = .ok (.invokevirtual 94, 3) := dk_182 0 94 (dk_at dksX20_value_0 14 rfl rfl)
theorem dX20_value_17 : decode cX20_value 17 = .ok (.ifCond .eq 5, 3) := dk_153 0 5 (dk_at dksX20_value_0 17 rfl rfl)
theorem dX20_value_20 : decode cX20_value 20 = .ok (.iconst 1, 1) := dk_4 (dk_at dksX20_value_0 20 rfl rfl)
theorem dX20_value_21 : decode cX20_value 21 = .ok (.ireturn, 1) := dk_172 (dk_at dksX20_value_0 21 rfl rfl)
theorem dX20_value_22 : decode cX20_value 22 = .ok (.aload_n 0, 1) := dk_42 (dk_at dksX20_value_0 22 rfl rfl)
theorem dX20_value_23 : decode cX20_value 23 = .ok (.ldc 99, 2) := dk_18 99 (dk_at dksX20_value_1 0 rfl rfl)
theorem dX20_value_25 : decode cX20_value 25 = .ok (.invokevirtual 94, 3) := dk_182 0 94 (dk_at dksX20_value_1 2 rfl rfl)
theorem dX20_value_28 : decode cX20_value 28 = .ok (.ifCond .eq 5, 3) := dk_153 0 5 (dk_at dksX20_value_1 5 rfl rfl)
theorem dX20_value_31 : decode cX20_value 31 = .ok (.iconst 2, 1) := dk_5 (dk_at dksX20_value_1 8 rfl rfl)
theorem dX20_value_32 : decode cX20_value 32 = .ok (.ireturn, 1) := dk_172 (dk_at dksX20_value_1 9 rfl rfl)
theorem dX20_value_33 : decode cX20_value 33 = .ok (.aload_n 0, 1) := dk_42 (dk_at dksX20_value_1 10 rfl rfl)
theorem dX20_value_34 : decode cX20_value 34 = .ok (.ldc 101, 2) := dk_18 101 (dk_at dksX20_value_1 11 rfl rfl)
theorem dX20_value_36 : decode cX20_value 36 = .ok (.invokevirtual 94, 3) := dk_182 0 94 (dk_at dksX20_value_1 13 rfl rfl)
theorem dX20_value_39 : decode cX20_value 39 = .ok (.ifCond .eq 5, 3) := dk_153 0 5 (dk_at dksX20_value_1 16 rfl rfl)
theorem dX20_value_42 : decode cX20_value 42 = .ok (.iconst 3, 1) := dk_6 (dk_at dksX20_value_1 19 rfl rfl)
theorem dX20_value_43 : decode cX20_value 43 = .ok (.ireturn, 1) := dk_172 (dk_at dksX20_value_1 20 rfl rfl)
theorem dX20_value_44 : decode cX20_value 44 = .ok (.aload_n 0, 1) := dk_42 (dk_at dksX20_value_1 21 rfl rfl)
theorem dX20_value_45 : decode cX20_value 45 = .ok (.ldc 103, 2) := dk_18 103 (dk_at dksX20_value_1 22 rfl rfl)
theorem dX20_value_47 : decode cX20_value 47 = .ok (.invokevirtual 94, 3) := dk_182 0 94 (dk_at dksX20_value_2 0 rfl rfl)
theorem dX20_value_50 : decode cX20_value 50 = .ok (.ifCond .eq 13, 3) := dk_153 0 13 (dk_at dksX20_value_2 3 rfl rfl)
theorem dX20_value_53 : decode cX20_value 53 = .ok (.iconst 4, 1) := dk_7 (dk_at dksX20_value_2 6 rfl rfl)
theorem dX20_value_54 : decode cX20_value 54 = .ok (.aload_n 0, 1) := dk_42 (dk_at dksX20_value_2 7 rfl rfl)
theorem dX20_value_55 : decode cX20_value 55 = .ok (.iconst 0, 1) := dk_3 (dk_at dksX20_value_2 8 rfl rfl)
theorem dX20_value_56 : decode cX20_value 56 = .ok (.bipush 15, 2) := dk_16 15 (dk_at dksX20_value_2 9 rfl rfl)
theorem dX20_value_58 : decode cX20_value 58 = .ok (.invokevirtual 71, 3) := dk_182 0 71 (dk_at dksX20_value_2 11 rfl rfl)
theorem dX20_value_61 : decode cX20_value 61 = .ok (.iadd, 1) := dk_96 (dk_at dksX20_value_2 14 rfl rfl)
theorem dX20_value_62 : decode cX20_value 62 = .ok (.ireturn, 1) := dk_172 (dk_at dksX20_value_2 15 rfl rfl)
theorem dX20_value_63 : decode cX20_value 63 = .ok (.aload_n 0, 1) := dk_42 (dk_at dksX20_value_2 16 rfl rfl)
theorem dX20_value_64 : decode cX20_value 64 = .ok (.ldc 105, 2) := dk_18 105 (dk_at dksX20_value_2 17 rfl rfl)
theorem dX20_value_66 : decode cX20_value 66 = .ok (.invokevirtual 94, 3) := dk_182 0 94 (dk_at dksX20_value_2 19 rfl rfl)
theorem dX20_value_69 : decode cX20_value 69 = .ok (.ifCond .eq 14, 3) := dk_153 0 14 (dk_at dksX20_value_3 0 rfl rfl)
theorem dX20_value_72 : decode cX20_value 72 = .ok (.bipush 20, 2) := dk_16 20 (dk_at dksX20_value_3 3 rfl rfl)
theorem dX20_value_74 : decode cX20_value 74 = .ok (.aload_n 0, 1) := dk_42 (dk_at dksX20_value_3 5 rfl rfl)
theorem dX20_value_75 : decode cX20_value 75 = .ok (.iconst 0, 1) := dk_3 (dk_at dksX20_value_3 6 rfl rfl)
theorem dX20_value_76 : decode cX20_value 76 = .ok (.bipush 15, 2) := dk_16 15 (dk_at dksX20_value_3 7 rfl rfl)
theorem dX20_value_78 : decode cX20_value 78 = .ok (.invokevirtual 71, 3) := dk_182 0 71 (dk_at dksX20_value_3 9 rfl rfl)
theorem dX20_value_81 : decode cX20_value 81 = .ok (.iadd, 1) := dk_96 (dk_at dksX20_value_3 12 rfl rfl)
theorem dX20_value_82 : decode cX20_value 82 = .ok (.ireturn, 1) := dk_172 (dk_at dksX20_value_3 13 rfl rfl)
theorem dX20_value_83 : decode cX20_value 83 = .ok (.aload_n 0, 1) := dk_42 (dk_at dksX20_value_3 14 rfl rfl)
theorem dX20_value_84 : decode cX20_value 84 = .ok (.ldc 107, 2) := dk_18 107 (dk_at dksX20_value_3 15 rfl rfl)
theorem dX20_value_86 : decode cX20_value 86 = .ok (.invokevirtual 94, 3) := dk_182 0 94 (dk_at dksX20_value_3 17 rfl rfl)
theorem dX20_value_89 : decode cX20_value 89 = .ok (.ifCond .eq 16, 3) := dk_153 0 16 (dk_at dksX20_value_3 20 rfl rfl)
theorem dX20_value_92 : decode cX20_value 92 = .ok (.bipush 36, 2) := dk_16 36 (dk_at dksX20_value_4 0 rfl rfl)
theorem dX20_value_94 : decode cX20_value 94 = .ok (.aload_n 0, 1) := dk_42 (dk_at dksX20_value_4 2 rfl rfl)
theorem dX20_value_95 : decode cX20_value 95 = .ok (.iconst 0, 1) := dk_3 (dk_at dksX20_value_4 3 rfl rfl)
theorem dX20_value_96 : decode cX20_value 96 = .ok (.bipush 15, 2) := dk_16 15 (dk_at dksX20_value_4 4 rfl rfl)
theorem dX20_value_98 : decode cX20_value 98 = .ok (.invokevirtual 71, 3) := dk_182 0 71 (dk_at dksX20_value_4 6 rfl rfl)
theorem dX20_value_101 : decode cX20_value 101 = .ok (.iadd, 1) := dk_96 (dk_at dksX20_value_4 9 rfl rfl)
theorem dX20_value_102 : decode cX20_value 102 = .ok (.goto 4, 3) := dk_167 0 4 (dk_at dksX20_value_4 10 rfl rfl)
theorem dX20_value_105 : decode cX20_value 105 = .ok (.iconst (-1), 1) := dk_2 (dk_at dksX20_value_4 13 rfl rfl)
theorem dX20_value_106 : decode cX20_value 106 = .ok (.ireturn, 1) := dk_172 (dk_at dksX20_value_4 14 rfl rfl)
abbrev cX20_clause : ByteArray := prog_11_method_2_code
def yX20_clause : MethodName := ⟨RX20, "clause", "()V"⟩
def dkwX20_clause_8 : List UInt8 := [44, 182, 0, 88, 87, 177]
abbrev dktX20_clause_8 : List UInt8 := dkwX20_clause_8 ++ []
def dkwX20_clause_7 : List UInt8 := [181, 0, 75, 42, 18, 78, 182, 0, 68, 153, 0, 11, 44, 42, 182, 0, 80, 181, 0, 84, 42, 180, 0, 14]
abbrev dktX20_clause_7 : List UInt8 := dkwX20_clause_7 ++ dktX20_clause_8
def dkwX20_clause_6 : List UInt8 := [182, 0, 45, 181, 0, 63, 42, 18, 66, 182, 0, 68, 153, 0, 14, 44, 42, 4, 16, 20, 182, 0, 71]
abbrev dktX20_clause_6 : List UInt8 := dkwX20_clause_6 ++ dktX20_clause_7
def dkwX20_clause_5 : List UInt8 := [18, 53, 167, 0, 15, 27, 4, 160, 0, 8, 18, 55, 167, 0, 5, 18, 57, 182, 0, 59, 44, 42]
abbrev dktX20_clause_5 : List UInt8 := dkwX20_clause_5 ++ dktX20_clause_6
def dkwX20_clause_4 : List UInt8 := [77, 27, 7, 159, 0, 11, 44, 42, 182, 0, 45, 181, 0, 49, 27, 6, 162, 0, 36, 42, 27, 154, 0, 8]
abbrev dktX20_clause_4 : List UInt8 := dkwX20_clause_4 ++ dktX20_clause_5
def dkwX20_clause_3 : List UInt8 := [2, 159, 0, 7, 4, 167, 0, 4, 3, 182, 0, 34, 42, 182, 0, 38, 187, 0, 42, 89, 27, 183, 0, 44]
abbrev dktX20_clause_3 : List UInt8 := dkwX20_clause_3 ++ dktX20_clause_4
def dkwX20_clause_2 : List UInt8 := [153, 0, 7, 6, 167, 0, 17, 42, 18, 32, 182, 0, 22, 153, 0, 7, 7, 167, 0, 4, 2, 60, 42, 27]
abbrev dktX20_clause_2 : List UInt8 := dkwX20_clause_2 ++ dktX20_clause_3
def dkwX20_clause_1 : List UInt8 := [167, 0, 43, 42, 18, 28, 182, 0, 22, 153, 0, 7, 5, 167, 0, 30, 42, 18, 30, 182, 0, 22]
abbrev dktX20_clause_1 : List UInt8 := dkwX20_clause_1 ++ dktX20_clause_2
def dkwX20_clause_0 : List UInt8 := [42, 18, 20, 182, 0, 22, 153, 0, 7, 3, 167, 0, 56, 42, 18, 26, 182, 0, 22, 153, 0, 7, 4]
abbrev dktX20_clause_0 : List UInt8 := dkwX20_clause_0 ++ dktX20_clause_1
theorem dksX20_clause_0 : cX20_clause.data.toList.drop 0 = dktX20_clause_0 := by decide +kernel
theorem dksX20_clause_1 : cX20_clause.data.toList.drop 23 = dktX20_clause_1 := dk_seg dksX20_clause_0 23 rfl rfl
theorem dksX20_clause_2 : cX20_clause.data.toList.drop 45 = dktX20_clause_2 := dk_seg dksX20_clause_1 22 rfl rfl
theorem dksX20_clause_3 : cX20_clause.data.toList.drop 69 = dktX20_clause_3 := dk_seg dksX20_clause_2 24 rfl rfl
theorem dksX20_clause_4 : cX20_clause.data.toList.drop 93 = dktX20_clause_4 := dk_seg dksX20_clause_3 24 rfl rfl
theorem dksX20_clause_5 : cX20_clause.data.toList.drop 117 = dktX20_clause_5 := dk_seg dksX20_clause_4 24 rfl rfl
theorem dksX20_clause_6 : cX20_clause.data.toList.drop 139 = dktX20_clause_6 := dk_seg dksX20_clause_5 22 rfl rfl
theorem dksX20_clause_7 : cX20_clause.data.toList.drop 162 = dktX20_clause_7 := dk_seg dksX20_clause_6 23 rfl rfl
theorem dksX20_clause_8 : cX20_clause.data.toList.drop 186 = dktX20_clause_8 := dk_seg dksX20_clause_7 24 rfl rfl
theorem dX20_clause_0 : decode cX20_clause 0 = .ok (.aload_n 0, 1) := dk_42 (dk_at dksX20_clause_0 0 rfl rfl)
theorem dX20_clause_1 : decode cX20_clause 1 = .ok (.ldc 20, 2) := dk_18 20 (dk_at dksX20_clause_0 1 rfl rfl)
theorem dX20_clause_3 : decode cX20_clause 3 = .ok (.invokevirtual 22, 3) := dk_182 0 22 (dk_at dksX20_clause_0 3 rfl rfl)
theorem dX20_clause_6 : decode cX20_clause 6 = .ok (.ifCond .eq 7, 3) := dk_153 0 7 (dk_at dksX20_clause_0 6 rfl rfl)
theorem dX20_clause_9 : decode cX20_clause 9 = .ok (.iconst 0, 1) := dk_3 (dk_at dksX20_clause_0 9 rfl rfl)
theorem dX20_clause_10 : decode cX20_clause 10 = .ok (.goto 56, 3) := dk_167 0 56 (dk_at dksX20_clause_0 10 rfl rfl)
theorem dX20_clause_13 : decode cX20_clause 13 = .ok (.aload_n 0, 1) := dk_42 (dk_at dksX20_clause_0 13 rfl rfl)
theorem dX20_clause_14 : decode cX20_clause 14 = .ok (.ldc 26, 2) := dk_18 26 (dk_at dksX20_clause_0 14 rfl rfl)
theorem dX20_clause_16 : decode cX20_clause 16 = .ok (.invokevirtual 22, 3) := dk_182 0 22 (dk_at dksX20_clause_0 16 rfl rfl)
theorem dX20_clause_19 : decode cX20_clause 19 = .ok (.ifCond .eq 7, 3) := dk_153 0 7 (dk_at dksX20_clause_0 19 rfl rfl)
theorem dX20_clause_22 : decode cX20_clause 22 = .ok (.iconst 1, 1) := dk_4 (dk_at dksX20_clause_0 22 rfl rfl)
theorem dX20_clause_23 : decode cX20_clause 23 = .ok (.goto 43, 3) := dk_167 0 43 (dk_at dksX20_clause_1 0 rfl rfl)
theorem dX20_clause_26 : decode cX20_clause 26 = .ok (.aload_n 0, 1) := dk_42 (dk_at dksX20_clause_1 3 rfl rfl)
theorem dX20_clause_27 : decode cX20_clause 27 = .ok (.ldc 28, 2) := dk_18 28 (dk_at dksX20_clause_1 4 rfl rfl)
theorem dX20_clause_29 : decode cX20_clause 29 = .ok (.invokevirtual 22, 3) := dk_182 0 22 (dk_at dksX20_clause_1 6 rfl rfl)
theorem dX20_clause_32 : decode cX20_clause 32 = .ok (.ifCond .eq 7, 3) := dk_153 0 7 (dk_at dksX20_clause_1 9 rfl rfl)
theorem dX20_clause_35 : decode cX20_clause 35 = .ok (.iconst 2, 1) := dk_5 (dk_at dksX20_clause_1 12 rfl rfl)
theorem dX20_clause_36 : decode cX20_clause 36 = .ok (.goto 30, 3) := dk_167 0 30 (dk_at dksX20_clause_1 13 rfl rfl)
theorem dX20_clause_39 : decode cX20_clause 39 = .ok (.aload_n 0, 1) := dk_42 (dk_at dksX20_clause_1 16 rfl rfl)
theorem dX20_clause_40 : decode cX20_clause 40 = .ok (.ldc 30, 2) := dk_18 30 (dk_at dksX20_clause_1 17 rfl rfl)
theorem dX20_clause_42 : decode cX20_clause 42 = .ok (.invokevirtual 22, 3) := dk_182 0 22 (dk_at dksX20_clause_1 19 rfl rfl)
theorem dX20_clause_45 : decode cX20_clause 45 = .ok (.ifCond .eq 7, 3) := dk_153 0 7 (dk_at dksX20_clause_2 0 rfl rfl)
theorem dX20_clause_48 : decode cX20_clause 48 = .ok (.iconst 3, 1) := dk_6 (dk_at dksX20_clause_2 3 rfl rfl)
theorem dX20_clause_49 : decode cX20_clause 49 = .ok (.goto 17, 3) := dk_167 0 17 (dk_at dksX20_clause_2 4 rfl rfl)
theorem dX20_clause_52 : decode cX20_clause 52 = .ok (.aload_n 0, 1) := dk_42 (dk_at dksX20_clause_2 7 rfl rfl)
theorem dX20_clause_53 : decode cX20_clause 53 = .ok (.ldc 32, 2) := dk_18 32 (dk_at dksX20_clause_2 8 rfl rfl)
theorem dX20_clause_55 : decode cX20_clause 55 = .ok (.invokevirtual 22, 3) := dk_182 0 22 (dk_at dksX20_clause_2 10 rfl rfl)
theorem dX20_clause_58 : decode cX20_clause 58 = .ok (.ifCond .eq 7, 3) := dk_153 0 7 (dk_at dksX20_clause_2 13 rfl rfl)
theorem dX20_clause_61 : decode cX20_clause 61 = .ok (.iconst 4, 1) := dk_7 (dk_at dksX20_clause_2 16 rfl rfl)
theorem dX20_clause_62 : decode cX20_clause 62 = .ok (.goto 4, 3) := dk_167 0 4 (dk_at dksX20_clause_2 17 rfl rfl)
theorem dX20_clause_65 : decode cX20_clause 65 = .ok (.iconst (-1), 1) := dk_2 (dk_at dksX20_clause_2 20 rfl rfl)
theorem dX20_clause_66 : decode cX20_clause 66 = .ok (.istore_n 1, 1) := dk_60 (dk_at dksX20_clause_2 21 rfl rfl)
theorem dX20_clause_67 : decode cX20_clause 67 = .ok (.aload_n 0, 1) := dk_42 (dk_at dksX20_clause_2 22 rfl rfl)
theorem dX20_clause_68 : decode cX20_clause 68 = .ok (.iload_n 1, 1) := dk_27 (dk_at dksX20_clause_2 23 rfl rfl)
theorem dX20_clause_69 : decode cX20_clause 69 = .ok (.iconst (-1), 1) := dk_2 (dk_at dksX20_clause_3 0 rfl rfl)
theorem dX20_clause_70 : decode cX20_clause 70 = .ok (.if_icmp .eq 7, 3) := dk_159 0 7 (dk_at dksX20_clause_3 1 rfl rfl)
theorem dX20_clause_73 : decode cX20_clause 73 = .ok (.iconst 1, 1) := dk_4 (dk_at dksX20_clause_3 4 rfl rfl)
theorem dX20_clause_74 : decode cX20_clause 74 = .ok (.goto 4, 3) := dk_167 0 4 (dk_at dksX20_clause_3 5 rfl rfl)
theorem dX20_clause_77 : decode cX20_clause 77 = .ok (.iconst 0, 1) := dk_3 (dk_at dksX20_clause_3 8 rfl rfl)
theorem dX20_clause_78 : decode cX20_clause 78 = .ok (.invokevirtual 34, 3) := dk_182 0 34 (dk_at dksX20_clause_3 9 rfl rfl)
theorem dX20_clause_81 : decode cX20_clause 81 = .ok (.aload_n 0, 1) := dk_42 (dk_at dksX20_clause_3 12 rfl rfl)
theorem dX20_clause_82 : decode cX20_clause 82 = .ok (.invokevirtual 38, 3) := dk_182 0 38 (dk_at dksX20_clause_3 13 rfl rfl)
theorem dX20_clause_85 : decode cX20_clause 85 = .ok (.new 42, 3) := dk_187 0 42 (dk_at dksX20_clause_3 16 rfl rfl)
theorem dX20_clause_88 : decode cX20_clause 88 = .ok (.dup, 1) := dk_89 (dk_at dksX20_clause_3 19 rfl rfl)
theorem dX20_clause_89 : decode cX20_clause 89 = .ok (.iload_n 1, 1) := dk_27 (dk_at dksX20_clause_3 20 rfl rfl)
theorem dX20_clause_90 : decode cX20_clause 90 = .ok (.invokespecial 44, 3) := dk_183 0 44 (dk_at dksX20_clause_3 21 rfl rfl)
theorem dX20_clause_93 : decode cX20_clause 93 = .ok (.astore_n 2, 1) := dk_77 (dk_at dksX20_clause_4 0 rfl rfl)
theorem dX20_clause_94 : decode cX20_clause 94 = .ok (.iload_n 1, 1) := dk_27 (dk_at dksX20_clause_4 1 rfl rfl)
theorem dX20_clause_95 : decode cX20_clause 95 = .ok (.iconst 4, 1) := dk_7 (dk_at dksX20_clause_4 2 rfl rfl)
theorem dX20_clause_96 : decode cX20_clause 96 = .ok (.if_icmp .eq 11, 3) := dk_159 0 11 (dk_at dksX20_clause_4 3 rfl rfl)
theorem dX20_clause_99 : decode cX20_clause 99 = .ok (.aload_n 2, 1) := dk_44 (dk_at dksX20_clause_4 6 rfl rfl)
theorem dX20_clause_100 : decode cX20_clause 100 = .ok (.aload_n 0, 1) := dk_42 (dk_at dksX20_clause_4 7 rfl rfl)
theorem dX20_clause_101 : decode cX20_clause 101 = .ok (.invokevirtual 45, 3) := dk_182 0 45 (dk_at dksX20_clause_4 8 rfl rfl)
theorem dX20_clause_104 : decode cX20_clause 104 = .ok (.putfield 49, 3) := dk_181 0 49 (dk_at dksX20_clause_4 11 rfl rfl)
theorem dX20_clause_107 : decode cX20_clause 107 = .ok (.iload_n 1, 1) := dk_27 (dk_at dksX20_clause_4 14 rfl rfl)
theorem dX20_clause_108 : decode cX20_clause 108 = .ok (.iconst 3, 1) := dk_6 (dk_at dksX20_clause_4 15 rfl rfl)
theorem dX20_clause_109 : decode cX20_clause 109 = .ok (.if_icmp .ge 36, 3) := dk_162 0 36 (dk_at dksX20_clause_4 16 rfl rfl)
theorem dX20_clause_112 : decode cX20_clause 112 = .ok (.aload_n 0, 1) := dk_42 (dk_at dksX20_clause_4 19 rfl rfl)
theorem dX20_clause_113 : decode cX20_clause 113 = .ok (.iload_n 1, 1) := dk_27 (dk_at dksX20_clause_4 20 rfl rfl)
theorem dX20_clause_114 : decode cX20_clause 114 = .ok (.ifCond .ne 8, 3) := dk_154 0 8 (dk_at dksX20_clause_4 21 rfl rfl)
theorem dX20_clause_117 : decode cX20_clause 117 = .ok (.ldc 53, 2) := dk_18 53 (dk_at dksX20_clause_5 0 rfl rfl)
theorem dX20_clause_119 : decode cX20_clause 119 = .ok (.goto 15, 3) := dk_167 0 15 (dk_at dksX20_clause_5 2 rfl rfl)
theorem dX20_clause_122 : decode cX20_clause 122 = .ok (.iload_n 1, 1) := dk_27 (dk_at dksX20_clause_5 5 rfl rfl)
theorem dX20_clause_123 : decode cX20_clause 123 = .ok (.iconst 1, 1) := dk_4 (dk_at dksX20_clause_5 6 rfl rfl)
theorem dX20_clause_124 : decode cX20_clause 124 = .ok (.if_icmp .ne 8, 3) := dk_160 0 8 (dk_at dksX20_clause_5 7 rfl rfl)
theorem dX20_clause_127 : decode cX20_clause 127 = .ok (.ldc 55, 2) := dk_18 55 (dk_at dksX20_clause_5 10 rfl rfl)
theorem dX20_clause_129 : decode cX20_clause 129 = .ok (.goto 5, 3) := dk_167 0 5 (dk_at dksX20_clause_5 12 rfl rfl)
theorem dX20_clause_132 : decode cX20_clause 132 = .ok (.ldc 57, 2) := dk_18 57 (dk_at dksX20_clause_5 15 rfl rfl)
theorem dX20_clause_134 : decode cX20_clause 134 = .ok (.invokevirtual 59, 3) := dk_182 0 59 (dk_at dksX20_clause_5 17 rfl rfl)
theorem dX20_clause_137 : decode cX20_clause 137 = .ok (.aload_n 2, 1) := dk_44 (dk_at dksX20_clause_5 20 rfl rfl)
theorem dX20_clause_138 : decode cX20_clause 138 = .ok (.aload_n 0, 1) := dk_42 (dk_at dksX20_clause_5 21 rfl rfl)
theorem dX20_clause_139 : decode cX20_clause 139 = .ok (.invokevirtual 45, 3) := dk_182 0 45 (dk_at dksX20_clause_6 0 rfl rfl)
theorem dX20_clause_142 : decode cX20_clause 142 = .ok (.putfield 63, 3) := dk_181 0 63 (dk_at dksX20_clause_6 3 rfl rfl)
theorem dX20_clause_145 : decode cX20_clause 145 = .ok (.aload_n 0, 1) := dk_42 (dk_at dksX20_clause_6 6 rfl rfl)
theorem dX20_clause_146 : decode cX20_clause 146 = .ok (.ldc 66, 2) := dk_18 66 (dk_at dksX20_clause_6 7 rfl rfl)
theorem dX20_clause_148 : decode cX20_clause 148 = .ok (.invokevirtual 68, 3) := dk_182 0 68 (dk_at dksX20_clause_6 9 rfl rfl)
theorem dX20_clause_151 : decode cX20_clause 151 = .ok (.ifCond .eq 14, 3) := dk_153 0 14 (dk_at dksX20_clause_6 12 rfl rfl)
theorem dX20_clause_154 : decode cX20_clause 154 = .ok (.aload_n 2, 1) := dk_44 (dk_at dksX20_clause_6 15 rfl rfl)
theorem dX20_clause_155 : decode cX20_clause 155 = .ok (.aload_n 0, 1) := dk_42 (dk_at dksX20_clause_6 16 rfl rfl)
theorem dX20_clause_156 : decode cX20_clause 156 = .ok (.iconst 1, 1) := dk_4 (dk_at dksX20_clause_6 17 rfl rfl)
theorem dX20_clause_157 : decode cX20_clause 157 = .ok (.bipush 20, 2) := dk_16 20 (dk_at dksX20_clause_6 18 rfl rfl)
theorem dX20_clause_159 : decode cX20_clause 159 = .ok (.invokevirtual 71, 3) := dk_182 0 71 (dk_at dksX20_clause_6 20 rfl rfl)
theorem dX20_clause_162 : decode cX20_clause 162 = .ok (.putfield 75, 3) := dk_181 0 75 (dk_at dksX20_clause_7 0 rfl rfl)
theorem dX20_clause_165 : decode cX20_clause 165 = .ok (.aload_n 0, 1) := dk_42 (dk_at dksX20_clause_7 3 rfl rfl)
theorem dX20_clause_166 : decode cX20_clause 166 = .ok (.ldc 78, 2) := dk_18 78 (dk_at dksX20_clause_7 4 rfl rfl)
theorem dX20_clause_168 : decode cX20_clause 168 = .ok (.invokevirtual 68, 3) := dk_182 0 68 (dk_at dksX20_clause_7 6 rfl rfl)
theorem dX20_clause_171 : decode cX20_clause 171 = .ok (.ifCond .eq 11, 3) := dk_153 0 11 (dk_at dksX20_clause_7 9 rfl rfl)
theorem dX20_clause_174 : decode cX20_clause 174 = .ok (.aload_n 2, 1) := dk_44 (dk_at dksX20_clause_7 12 rfl rfl)
theorem dX20_clause_175 : decode cX20_clause 175 = .ok (.aload_n 0, 1) := dk_42 (dk_at dksX20_clause_7 13 rfl rfl)
theorem dX20_clause_176 : decode cX20_clause 176 = .ok (.invokevirtual 80, 3) := dk_182 0 80 (dk_at dksX20_clause_7 14 rfl rfl)
theorem dX20_clause_179 : decode cX20_clause 179 = .ok (.putfield 84, 3) := dk_181 0 84 (dk_at dksX20_clause_7 17 rfl rfl)
theorem dX20_clause_182 : decode cX20_clause 182 = .ok (.aload_n 0, 1) := dk_42 (dk_at dksX20_clause_7 20 rfl rfl)
theorem dX20_clause_183 : decode cX20_clause 183 = .ok (.getfield 14, 3) := dk_180 0 14 (dk_at dksX20_clause_7 21 rfl rfl)
theorem dX20_clause_186 : decode cX20_clause 186 = .ok (.aload_n 2, 1) := dk_44 (dk_at dksX20_clause_8 0 rfl rfl)
theorem dX20_clause_187 : decode cX20_clause 187 = .ok (.invokevirtual 88, 3) := dk_182 0 88 (dk_at dksX20_clause_8 1 rfl rfl)
theorem dX20_clause_190 : decode cX20_clause 190 = .ok (.pop, 1) := dk_87 (dk_at dksX20_clause_8 4 rfl rfl)
theorem dX20_clause_191 : decode cX20_clause 191 = .ok (.return_, 1) := dk_177 (dk_at dksX20_clause_8 5 rfl rfl)
abbrev cX20_init : ByteArray := prog_11_method_1_code
def yX20_init : MethodName := ⟨RX20, "<init>", "([BI)V"⟩
def dkwX20_init_0 : List UInt8 := [42, 43, 28, 183, 0, 3, 42, 187, 0, 9, 89, 5, 183, 0, 11, 181, 0, 14, 177]
abbrev dktX20_init_0 : List UInt8 := dkwX20_init_0 ++ []
theorem dksX20_init_0 : cX20_init.data.toList.drop 0 = dktX20_init_0 := by decide +kernel
theorem dX20_init_0 : decode cX20_init 0 = .ok (.aload_n 0, 1) := dk_42 (dk_at dksX20_init_0 0 rfl rfl)
theorem dX20_init_1 : decode cX20_init 1 = .ok (.aload_n 1, 1) := dk_43 (dk_at dksX20_init_0 1 rfl rfl)
theorem dX20_init_2 : decode cX20_init 2 = .ok (.iload_n 2, 1) := dk_28 (dk_at dksX20_init_0 2 rfl rfl)
theorem dX20_init_3 : decode cX20_init 3 = .ok (.invokespecial 3, 3) := dk_183 0 3 (dk_at dksX20_init_0 3 rfl rfl)
theorem dX20_init_6 : decode cX20_init 6 = .ok (.aload_n 0, 1) := dk_42 (dk_at dksX20_init_0 6 rfl rfl)
theorem dX20_init_7 : decode cX20_init 7 = .ok (.new 9, 3) := dk_187 0 9 (dk_at dksX20_init_0 7 rfl rfl)
theorem dX20_init_10 : decode cX20_init 10 = .ok (.dup, 1) := dk_89 (dk_at dksX20_init_0 10 rfl rfl)
theorem dX20_init_11 : decode cX20_init 11 = .ok (.iconst 2, 1) := dk_5 (dk_at dksX20_init_0 11 rfl rfl)
theorem dX20_init_12 : decode cX20_init 12 = .ok (.invokespecial 11, 3) := dk_183 0 11 (dk_at dksX20_init_0 12 rfl rfl)
theorem dX20_init_15 : decode cX20_init 15 = .ok (.putfield 14, 3) := dk_181 0 14 (dk_at dksX20_init_0 15 rfl rfl)
theorem dX20_init_18 : decode cX20_init 18 = .ok (.return_, 1) := dk_177 (dk_at dksX20_init_0 18 rfl rfl)
theorem q145 : (Jvm.Cond.initialized "ForestRooms$OrderReader") ∈ lw_all := lw_g (lw_at lw_m1 35 rfl) rfl
theorem q493 : (Jvm.Cond.selects "ForestRooms$OrderReader" ({ cls := "java/lang/Object", name := "getClass", desc := "()Ljava/lang/Class;" } : Jvm.MethodName) ({ cls := "java/lang/Object", name := "getClass", desc := "()Ljava/lang/Class;" } : Jvm.MethodName)) ∈ lw_all := lw_g (lw_at lw_m2 143 rfl) rfl
theorem q760 : (Jvm.Cond.selects "ForestRooms$OrderReader" ({ cls := "ForestRooms$Reader", name := "read", desc := "()V" } : Jvm.MethodName) ({ cls := "ForestRooms$Reader", name := "read", desc := "()V" } : Jvm.MethodName)) ∈ lw_all := lw_g (lw_at lw_m3 170 rfl) rfl
theorem q766 : (Jvm.Cond.selects "ForestRooms$OrderReader" ({ cls := "ForestRooms$Reader", name := "next", desc := "()V" } : Jvm.MethodName) ({ cls := "ForestRooms$Reader", name := "next", desc := "()V" } : Jvm.MethodName)) ∈ lw_all := lw_g (lw_at lw_m3 176 rfl) rfl
theorem q772 : (Jvm.Cond.selects "ForestRooms$OrderReader" ({ cls := "ForestRooms$Reader", name := "isIn", desc := "(III)Z" } : Jvm.MethodName) ({ cls := "ForestRooms$Reader", name := "isIn", desc := "(III)Z" } : Jvm.MethodName)) ∈ lw_all := lw_g (lw_at lw_m3 182 rfl) rfl
theorem q895 : (Jvm.Cond.selects "ForestRooms$OrderReader" ({ cls := "ForestRooms$Reader", name := "term", desc := "()LForestRooms$Sum;" } : Jvm.MethodName) ({ cls := "ForestRooms$Reader", name := "term", desc := "()LForestRooms$Sum;" } : Jvm.MethodName)) ∈ lw_all := lw_g (lw_at lw_m4 65 rfl) rfl
theorem q901 : (Jvm.Cond.selects "ForestRooms$OrderReader" ({ cls := "ForestRooms$Reader", name := "part", desc := "()LForestRooms$Sum;" } : Jvm.MethodName) ({ cls := "ForestRooms$Reader", name := "part", desc := "()LForestRooms$Sum;" } : Jvm.MethodName)) ∈ lw_all := lw_g (lw_at lw_m4 71 rfl) rfl
theorem q909 : (Jvm.Cond.selects "ForestRooms$OrderReader" ({ cls := "ForestRooms$Reader", name := "opens", desc := "()V" } : Jvm.MethodName) ({ cls := "ForestRooms$Reader", name := "opens", desc := "()V" } : Jvm.MethodName)) ∈ lw_all := lw_g (lw_at lw_m4 79 rfl) rfl
theorem q917 : (Jvm.Cond.selects "ForestRooms$OrderReader" ({ cls := "ForestRooms$Reader", name := "need", desc := "(Ljava/lang/String;)V" } : Jvm.MethodName) ({ cls := "ForestRooms$Reader", name := "need", desc := "(Ljava/lang/String;)V" } : Jvm.MethodName)) ∈ lw_all := lw_g (lw_at lw_m4 87 rfl) rfl
theorem q923 : (Jvm.Cond.selects "ForestRooms$OrderReader" ({ cls := "ForestRooms$Reader", name := "takes", desc := "(Ljava/lang/String;)Z" } : Jvm.MethodName) ({ cls := "ForestRooms$Reader", name := "takes", desc := "(Ljava/lang/String;)Z" } : Jvm.MethodName)) ∈ lw_all := lw_g (lw_at lw_m4 93 rfl) rfl
theorem q929 : (Jvm.Cond.selects "ForestRooms$OrderReader" ({ cls := "ForestRooms$Reader", name := "leaf", desc := "()V" } : Jvm.MethodName) ({ cls := "ForestRooms$Reader", name := "leaf", desc := "()V" } : Jvm.MethodName)) ∈ lw_all := lw_g (lw_at lw_m4 99 rfl) rfl
theorem q937 : (Jvm.Cond.selects "ForestRooms$OrderReader" ({ cls := "ForestRooms$Reader", name := "number", desc := "(II)I" } : Jvm.MethodName) ({ cls := "ForestRooms$Reader", name := "number", desc := "(II)I" } : Jvm.MethodName)) ∈ lw_all := lw_g (lw_at lw_m4 107 rfl) rfl
theorem q973 : (Jvm.Cond.selects "ForestRooms$OrderReader" ({ cls := "ForestRooms$Reader", name := "value", desc := "()I" } : Jvm.MethodName) ({ cls := "ForestRooms$OrderReader", name := "value", desc := "()I" } : Jvm.MethodName)) ∈ lw_all := lw_g (lw_at lw_m4 143 rfl) rfl
theorem q974 : (Jvm.Cond.instanceMethod ({ cls := "ForestRooms$OrderReader", name := "value", desc := "()I" } : Jvm.MethodName)) ∈ lw_all := lw_g (lw_at lw_m4 144 rfl) rfl
theorem q975 : (Jvm.Cond.code ({ cls := "ForestRooms$OrderReader", name := "value", desc := "()I" } : Jvm.MethodName) prog_11_method_3_code (1 : Nat) (Option.some Jvm.ClassFile.FieldType.int)) ∈ lw_all := lw_g (lw_at lw_m4 145 rfl) rfl
theorem q976 : (Jvm.Cond.stringRef "ForestRooms$OrderReader" (92 : Nat) "season") ∈ lw_tbl := lw_at lw_m4 146 rfl
theorem q977 : (Jvm.Cond.methodLink "ForestRooms$OrderReader" (94 : Nat) ({ cls := "ForestRooms$OrderReader", name := "isValue", desc := "(Ljava/lang/String;)Z" } : Jvm.MethodName)) ∈ lw_all := lw_g (lw_at lw_m4 147 rfl) rfl
theorem q978 : (Jvm.Cond.sameMethod "ForestRooms$OrderReader" "ForestRooms$Reader" "isValue" "(Ljava/lang/String;)Z") ∈ lw_all := lw_g (lw_at lw_m4 148 rfl) rfl
theorem q979 : (Jvm.Cond.selects "ForestRooms$OrderReader" ({ cls := "ForestRooms$OrderReader", name := "isValue", desc := "(Ljava/lang/String;)Z" } : Jvm.MethodName) ({ cls := "ForestRooms$Reader", name := "isValue", desc := "(Ljava/lang/String;)Z" } : Jvm.MethodName)) ∈ lw_all := lw_g (lw_at lw_m4 149 rfl) rfl
theorem q980 : (Jvm.Cond.stringRef "ForestRooms$OrderReader" (97 : Nat) "trees") ∈ lw_tbl := lw_at lw_m4 150 rfl
theorem q981 : (Jvm.Cond.stringRef "ForestRooms$OrderReader" (99 : Nat) "done") ∈ lw_tbl := lw_at lw_m4 151 rfl
theorem q982 : (Jvm.Cond.stringRef "ForestRooms$OrderReader" (101 : Nat) "lost") ∈ lw_tbl := lw_at lw_m4 152 rfl
theorem q983 : (Jvm.Cond.stringRef "ForestRooms$OrderReader" (103 : Nat) "grown") ∈ lw_tbl := lw_at lw_m4 153 rfl
theorem q984 : (Jvm.Cond.methodLink "ForestRooms$OrderReader" (71 : Nat) ({ cls := "ForestRooms$OrderReader", name := "number", desc := "(II)I" } : Jvm.MethodName)) ∈ lw_all := lw_g (lw_at lw_m4 154 rfl) rfl
theorem q985 : (Jvm.Cond.sameMethod "ForestRooms$OrderReader" "ForestRooms$Reader" "number" "(II)I") ∈ lw_all := lw_g (lw_at lw_m4 155 rfl) rfl
theorem q987 : (Jvm.Cond.selects "ForestRooms$OrderReader" ({ cls := "ForestRooms$OrderReader", name := "number", desc := "(II)I" } : Jvm.MethodName) ({ cls := "ForestRooms$Reader", name := "number", desc := "(II)I" } : Jvm.MethodName)) ∈ lw_all := lw_g (lw_at lw_m4 157 rfl) rfl
theorem q988 : (Jvm.Cond.stringRef "ForestRooms$OrderReader" (105 : Nat) "kind") ∈ lw_tbl := lw_at lw_m4 158 rfl
theorem q989 : (Jvm.Cond.stringRef "ForestRooms$OrderReader" (107 : Nat) "who") ∈ lw_tbl := lw_at lw_m4 159 rfl
theorem q1036 : (Jvm.Cond.selects "ForestRooms$OrderReader" ({ cls := "ForestRooms$Reader", name := "both", desc := "()LForestRooms$Test;" } : Jvm.MethodName) ({ cls := "ForestRooms$Reader", name := "both", desc := "()LForestRooms$Test;" } : Jvm.MethodName)) ∈ lw_all := lw_g (lw_at lw_m4 206 rfl) rfl
theorem q1042 : (Jvm.Cond.selects "ForestRooms$OrderReader" ({ cls := "ForestRooms$Reader", name := "plain", desc := "()LForestRooms$Test;" } : Jvm.MethodName) ({ cls := "ForestRooms$Reader", name := "plain", desc := "()LForestRooms$Test;" } : Jvm.MethodName)) ∈ lw_all := lw_g (lw_at lw_m4 212 rfl) rfl
theorem q1049 : (Jvm.Cond.selects "ForestRooms$OrderReader" ({ cls := "ForestRooms$Reader", name := "positive", desc := "()LForestRooms$Test;" } : Jvm.MethodName) ({ cls := "ForestRooms$Reader", name := "positive", desc := "()LForestRooms$Test;" } : Jvm.MethodName)) ∈ lw_all := lw_g (lw_at lw_m4 219 rfl) rfl
theorem q1117 : (Jvm.Cond.selects "ForestRooms$OrderReader" ({ cls := "ForestRooms$Reader", name := "clause", desc := "()V" } : Jvm.MethodName) ({ cls := "ForestRooms$OrderReader", name := "clause", desc := "()V" } : Jvm.MethodName)) ∈ lw_all := lw_g (lw_at lw_m5 47 rfl) rfl
theorem q1118 : (Jvm.Cond.instanceMethod ({ cls := "ForestRooms$OrderReader", name := "clause", desc := "()V" } : Jvm.MethodName)) ∈ lw_all := lw_g (lw_at lw_m5 48 rfl) rfl
theorem q1119 : (Jvm.Cond.code ({ cls := "ForestRooms$OrderReader", name := "clause", desc := "()V" } : Jvm.MethodName) prog_11_method_2_code (3 : Nat) (Option.none : Option Jvm.ClassFile.FieldType)) ∈ lw_all := lw_g (lw_at lw_m5 49 rfl) rfl
theorem q1120 : (Jvm.Cond.stringRef "ForestRooms$OrderReader" (20 : Nat) "plant") ∈ lw_tbl := lw_at lw_m5 50 rfl
theorem q1121 : (Jvm.Cond.methodLink "ForestRooms$OrderReader" (22 : Nat) ({ cls := "ForestRooms$OrderReader", name := "is", desc := "(Ljava/lang/String;)Z" } : Jvm.MethodName)) ∈ lw_all := lw_g (lw_at lw_m5 51 rfl) rfl
theorem q1122 : (Jvm.Cond.sameMethod "ForestRooms$OrderReader" "ForestRooms$Reader" "is" "(Ljava/lang/String;)Z") ∈ lw_all := lw_g (lw_at lw_m5 52 rfl) rfl
theorem q1123 : (Jvm.Cond.selects "ForestRooms$OrderReader" ({ cls := "ForestRooms$OrderReader", name := "is", desc := "(Ljava/lang/String;)Z" } : Jvm.MethodName) ({ cls := "ForestRooms$Reader", name := "is", desc := "(Ljava/lang/String;)Z" } : Jvm.MethodName)) ∈ lw_all := lw_g (lw_at lw_m5 53 rfl) rfl
theorem q1124 : (Jvm.Cond.stringRef "ForestRooms$OrderReader" (26 : Nat) "prune") ∈ lw_tbl := lw_at lw_m5 54 rfl
theorem q1125 : (Jvm.Cond.stringRef "ForestRooms$OrderReader" (28 : Nat) "let") ∈ lw_tbl := lw_at lw_m5 55 rfl
theorem q1126 : (Jvm.Cond.stringRef "ForestRooms$OrderReader" (30 : Nat) "empty") ∈ lw_tbl := lw_at lw_m5 56 rfl
theorem q1127 : (Jvm.Cond.stringRef "ForestRooms$OrderReader" (32 : Nat) "pass") ∈ lw_tbl := lw_at lw_m5 57 rfl
theorem q1128 : (Jvm.Cond.methodLink "ForestRooms$OrderReader" (34 : Nat) ({ cls := "ForestRooms$OrderReader", name := "begins", desc := "(Z)V" } : Jvm.MethodName)) ∈ lw_all := lw_g (lw_at lw_m5 58 rfl) rfl
theorem q1129 : (Jvm.Cond.sameMethod "ForestRooms$OrderReader" "ForestRooms$Reader" "begins" "(Z)V") ∈ lw_all := lw_g (lw_at lw_m5 59 rfl) rfl
theorem q1130 : (Jvm.Cond.selects "ForestRooms$OrderReader" ({ cls := "ForestRooms$OrderReader", name := "begins", desc := "(Z)V" } : Jvm.MethodName) ({ cls := "ForestRooms$Reader", name := "begins", desc := "(Z)V" } : Jvm.MethodName)) ∈ lw_all := lw_g (lw_at lw_m5 60 rfl) rfl
theorem q1131 : (Jvm.Cond.methodLink "ForestRooms$OrderReader" (38 : Nat) ({ cls := "ForestRooms$OrderReader", name := "next", desc := "()V" } : Jvm.MethodName)) ∈ lw_all := lw_g (lw_at lw_m5 61 rfl) rfl
theorem q1132 : (Jvm.Cond.sameMethod "ForestRooms$OrderReader" "ForestRooms$Reader" "next" "()V") ∈ lw_all := lw_g (lw_at lw_m5 62 rfl) rfl
theorem q1133 : (Jvm.Cond.selects "ForestRooms$OrderReader" ({ cls := "ForestRooms$OrderReader", name := "next", desc := "()V" } : Jvm.MethodName) ({ cls := "ForestRooms$Reader", name := "next", desc := "()V" } : Jvm.MethodName)) ∈ lw_all := lw_g (lw_at lw_m5 63 rfl) rfl
theorem q1134 : (Jvm.Cond.classLink "ForestRooms$OrderReader" (42 : Nat) "ForestRooms$Order") ∈ lw_all := lw_g (lw_at lw_m5 64 rfl) rfl
theorem q1136 : (Jvm.Cond.methodLink "ForestRooms$OrderReader" (44 : Nat) ({ cls := "ForestRooms$Order", name := "<init>", desc := "(I)V" } : Jvm.MethodName)) ∈ lw_all := lw_g (lw_at lw_m5 66 rfl) rfl
theorem q1142 : (Jvm.Cond.fieldLinkNest "ForestRooms$OrderReader" (49 : Nat) "ForestRooms$Order" "one" "LForestRooms$Sum;" "ForestRooms") ∈ lw_tbl := lw_at lw_m5 72 rfl
theorem q1144 : (Jvm.Cond.fieldLinkNest "ForestRooms$OrderReader" (63 : Nat) "ForestRooms$Order" "other" "LForestRooms$Sum;" "ForestRooms") ∈ lw_tbl := lw_at lw_m5 74 rfl
theorem q1147 : (Jvm.Cond.fieldLinkNest "ForestRooms$OrderReader" (75 : Nat) "ForestRooms$Order" "times" "I" "ForestRooms") ∈ lw_tbl := lw_at lw_m5 77 rfl
theorem q1150 : (Jvm.Cond.fieldLinkNest "ForestRooms$OrderReader" (84 : Nat) "ForestRooms$Order" "when" "LForestRooms$Test;" "ForestRooms") ∈ lw_tbl := lw_at lw_m5 80 rfl
theorem q1162 : (Jvm.Cond.methodLink "ForestRooms$OrderReader" (45 : Nat) ({ cls := "ForestRooms$OrderReader", name := "sum", desc := "()LForestRooms$Sum;" } : Jvm.MethodName)) ∈ lw_all := lw_g (lw_at lw_m5 92 rfl) rfl
theorem q1163 : (Jvm.Cond.sameMethod "ForestRooms$OrderReader" "ForestRooms$Reader" "sum" "()LForestRooms$Sum;") ∈ lw_all := lw_g (lw_at lw_m5 93 rfl) rfl
theorem q1164 : (Jvm.Cond.selects "ForestRooms$OrderReader" ({ cls := "ForestRooms$OrderReader", name := "sum", desc := "()LForestRooms$Sum;" } : Jvm.MethodName) ({ cls := "ForestRooms$Reader", name := "sum", desc := "()LForestRooms$Sum;" } : Jvm.MethodName)) ∈ lw_all := lw_g (lw_at lw_m5 94 rfl) rfl
theorem q1165 : (Jvm.Cond.stringRef "ForestRooms$OrderReader" (53 : Nat) "in") ∈ lw_tbl := lw_at lw_m5 95 rfl
theorem q1166 : (Jvm.Cond.stringRef "ForestRooms$OrderReader" (55 : Nat) "by") ∈ lw_tbl := lw_at lw_m5 96 rfl
theorem q1167 : (Jvm.Cond.stringRef "ForestRooms$OrderReader" (57 : Nat) "to") ∈ lw_tbl := lw_at lw_m5 97 rfl
theorem q1168 : (Jvm.Cond.methodLink "ForestRooms$OrderReader" (59 : Nat) ({ cls := "ForestRooms$OrderReader", name := "need", desc := "(Ljava/lang/String;)V" } : Jvm.MethodName)) ∈ lw_all := lw_g (lw_at lw_m5 98 rfl) rfl
theorem q1169 : (Jvm.Cond.sameMethod "ForestRooms$OrderReader" "ForestRooms$Reader" "need" "(Ljava/lang/String;)V") ∈ lw_all := lw_g (lw_at lw_m5 99 rfl) rfl
theorem q1171 : (Jvm.Cond.selects "ForestRooms$OrderReader" ({ cls := "ForestRooms$OrderReader", name := "need", desc := "(Ljava/lang/String;)V" } : Jvm.MethodName) ({ cls := "ForestRooms$Reader", name := "need", desc := "(Ljava/lang/String;)V" } : Jvm.MethodName)) ∈ lw_all := lw_g (lw_at lw_m5 101 rfl) rfl
theorem q1172 : (Jvm.Cond.stringRef "ForestRooms$OrderReader" (66 : Nat) "times") ∈ lw_tbl := lw_at lw_m5 102 rfl
theorem q1173 : (Jvm.Cond.methodLink "ForestRooms$OrderReader" (68 : Nat) ({ cls := "ForestRooms$OrderReader", name := "takes", desc := "(Ljava/lang/String;)Z" } : Jvm.MethodName)) ∈ lw_all := lw_g (lw_at lw_m5 103 rfl) rfl
theorem q1174 : (Jvm.Cond.sameMethod "ForestRooms$OrderReader" "ForestRooms$Reader" "takes" "(Ljava/lang/String;)Z") ∈ lw_all := lw_g (lw_at lw_m5 104 rfl) rfl
theorem q1175 : (Jvm.Cond.selects "ForestRooms$OrderReader" ({ cls := "ForestRooms$OrderReader", name := "takes", desc := "(Ljava/lang/String;)Z" } : Jvm.MethodName) ({ cls := "ForestRooms$Reader", name := "takes", desc := "(Ljava/lang/String;)Z" } : Jvm.MethodName)) ∈ lw_all := lw_g (lw_at lw_m5 105 rfl) rfl
theorem q1176 : (Jvm.Cond.stringRef "ForestRooms$OrderReader" (78 : Nat) "if") ∈ lw_tbl := lw_at lw_m5 106 rfl
theorem q1177 : (Jvm.Cond.methodLink "ForestRooms$OrderReader" (80 : Nat) ({ cls := "ForestRooms$OrderReader", name := "test", desc := "()LForestRooms$Test;" } : Jvm.MethodName)) ∈ lw_all := lw_g (lw_at lw_m5 107 rfl) rfl
theorem q1178 : (Jvm.Cond.sameMethod "ForestRooms$OrderReader" "ForestRooms$Reader" "test" "()LForestRooms$Test;") ∈ lw_all := lw_g (lw_at lw_m5 108 rfl) rfl
theorem q1179 : (Jvm.Cond.selects "ForestRooms$OrderReader" ({ cls := "ForestRooms$OrderReader", name := "test", desc := "()LForestRooms$Test;" } : Jvm.MethodName) ({ cls := "ForestRooms$Reader", name := "test", desc := "()LForestRooms$Test;" } : Jvm.MethodName)) ∈ lw_all := lw_g (lw_at lw_m5 109 rfl) rfl
theorem q1180 : (Jvm.Cond.methodLink "ForestRooms$OrderReader" (88 : Nat) ({ cls := "java/util/ArrayList", name := "add", desc := "(Ljava/lang/Object;)Z" } : Jvm.MethodName)) ∈ lw_all := lw_g (lw_at lw_m5 110 rfl) rfl
theorem q1416 : (Jvm.Cond.instantiable "ForestRooms$OrderReader" (8 : Nat)) ∈ lw_all := lw_g (lw_at lw_m6 106 rfl) rfl
theorem q1418 : (Jvm.Cond.instanceMethod ({ cls := "ForestRooms$OrderReader", name := "<init>", desc := "([BI)V" } : Jvm.MethodName)) ∈ lw_all := lw_g (lw_at lw_m6 108 rfl) rfl
theorem q1419 : (Jvm.Cond.code ({ cls := "ForestRooms$OrderReader", name := "<init>", desc := "([BI)V" } : Jvm.MethodName) prog_11_method_1_code (3 : Nat) (Option.none : Option Jvm.ClassFile.FieldType)) ∈ lw_all := lw_g (lw_at lw_m6 109 rfl) rfl
theorem q1420 : (Jvm.Cond.methodLink "ForestRooms$OrderReader" (3 : Nat) ({ cls := "ForestRooms$Reader", name := "<init>", desc := "([BI)V" } : Jvm.MethodName)) ∈ lw_all := lw_g (lw_at lw_m6 110 rfl) rfl
theorem q1421 : (Jvm.Cond.classLink "ForestRooms$OrderReader" (9 : Nat) "java/util/ArrayList") ∈ lw_all := lw_g (lw_at lw_m6 111 rfl) rfl
theorem q1422 : (Jvm.Cond.methodLink "ForestRooms$OrderReader" (11 : Nat) ({ cls := "java/util/ArrayList", name := "<init>", desc := "(I)V" } : Jvm.MethodName)) ∈ lw_all := lw_g (lw_at lw_m6 112 rfl) rfl
theorem q1423 : (Jvm.Cond.fieldLink "ForestRooms$OrderReader" (14 : Nat) "ForestRooms$OrderReader" "orders" "Ljava/util/ArrayList;") ∈ lw_all := lw_g (lw_at lw_m6 113 rfl) rfl
theorem q1425 : (Jvm.Cond.laysFinal "ForestRooms$OrderReader" "ForestRooms$OrderReader" "orders" "Ljava/util/ArrayList;") ∈ lw_all := lw_g (lw_at lw_m6 115 rfl) rfl
theorem q1426 : (Jvm.Cond.soleField "ForestRooms$OrderReader" "orders") ∈ lw_all := lw_g (lw_at lw_m6 116 rfl) rfl
theorem q1427 : (Jvm.Cond.laysFinal "ForestRooms$OrderReader" "ForestRooms$Reader" "tape" "[B") ∈ lw_all := lw_g (lw_at lw_m6 117 rfl) rfl
theorem q1428 : (Jvm.Cond.laysFinal "ForestRooms$OrderReader" "ForestRooms$Reader" "size" "I") ∈ lw_all := lw_g (lw_at lw_m6 118 rfl) rfl
theorem q1429 : (Jvm.Cond.lays "ForestRooms$OrderReader" "ForestRooms$Reader" "made" "I") ∈ lw_all := lw_g (lw_at lw_m6 119 rfl) rfl
theorem q1430 : (Jvm.Cond.lays "ForestRooms$OrderReader" "ForestRooms$Reader" "from" "I") ∈ lw_all := lw_g (lw_at lw_m6 120 rfl) rfl
theorem q1431 : (Jvm.Cond.lays "ForestRooms$OrderReader" "ForestRooms$Reader" "to" "I") ∈ lw_all := lw_g (lw_at lw_m6 121 rfl) rfl
theorem q1432 : (Jvm.Cond.lays "ForestRooms$OrderReader" "ForestRooms$Reader" "leaves" "I") ∈ lw_all := lw_g (lw_at lw_m6 122 rfl) rfl
theorem q1433 : (Jvm.Cond.lays "ForestRooms$OrderReader" "ForestRooms$Reader" "deep" "I") ∈ lw_all := lw_g (lw_at lw_m6 123 rfl) rfl
theorem q1434 : (Jvm.Cond.superclass "ForestRooms$OrderReader" "ForestRooms$Reader") ∈ lw_all := lw_g (lw_at lw_m6 124 rfl) rfl
theorem q2230 : (Jvm.Cond.selects "ForestRooms$OrderReader" ({ cls := "ForestRooms$Reader", name := "is", desc := "(Ljava/lang/String;)Z" } : Jvm.MethodName) ({ cls := "ForestRooms$Reader", name := "is", desc := "(Ljava/lang/String;)Z" } : Jvm.MethodName)) ∈ lw_all := lw_g (lw_at lw_m9 200 rfl) rfl
theorem q2233 : (Jvm.Cond.selects "ForestRooms$OrderReader" ({ cls := "ForestRooms$Reader", name := "sum", desc := "()LForestRooms$Sum;" } : Jvm.MethodName) ({ cls := "ForestRooms$Reader", name := "sum", desc := "()LForestRooms$Sum;" } : Jvm.MethodName)) ∈ lw_all := lw_g (lw_at lw_m9 203 rfl) rfl
theorem q2236 : (Jvm.Cond.selects "ForestRooms$OrderReader" ({ cls := "ForestRooms$Reader", name := "test", desc := "()LForestRooms$Test;" } : Jvm.MethodName) ({ cls := "ForestRooms$Reader", name := "test", desc := "()LForestRooms$Test;" } : Jvm.MethodName)) ∈ lw_all := lw_g (lw_at lw_m9 206 rfl) rfl
theorem q2258 : (Jvm.Cond.castable "ForestRooms$OrderReader" "java/lang/Object") ∈ lw_tbl := lw_at lw_m9 228 rfl
theorem in_X20 : ∀ w ∈ wsX200, w ∈ lw_all := lw_in wsX200 [1427, 1428, 1429, 1430, 1431, 1432, 1433, 1425] (by decide +kernel) (by decide +kernel)
theorem q110 : (Jvm.Cond.initialized "ForestRoomsLaw") ∈ lw_all := lw_g (lw_at lw_m1 0 rfl) rfl
set_option maxRecDepth 100000
theorem q147 : (Jvm.Cond.classLink "ForestRoomsLaw" (7 : Nat) "ForestRooms") ∈ lw_all := lw_g (lw_at lw_m1 37 rfl) rfl
theorem q149 : (Jvm.Cond.methodLink "ForestRoomsLaw" (9 : Nat) ({ cls := "ForestRooms", name := "<init>", desc := "()V" } : Jvm.MethodName)) ∈ lw_all := lw_g (lw_at lw_m1 39 rfl) rfl
theorem q433 : (Jvm.Cond.methodLink "ForestRoomsLaw" (162 : Nat) ({ cls := "ForestRooms", name := "image", desc := "(I)I" } : Jvm.MethodName)) ∈ lw_all := lw_g (lw_at lw_m2 83 rfl) rfl
theorem q534 : (Jvm.Cond.methodLink "ForestRoomsLaw" (166 : Nat) ({ cls := "ForestRooms", name := "back", desc := "(I)I" } : Jvm.MethodName)) ∈ lw_all := lw_g (lw_at lw_m2 184 rfl) rfl
theorem q542 : (Jvm.Cond.methodLink "ForestRoomsLaw" (13 : Nat) ({ cls := "ForestRooms", name := "put", desc := "(III)I" } : Jvm.MethodName)) ∈ lw_all := lw_g (lw_at lw_m2 192 rfl) rfl
theorem q556 : (Jvm.Cond.methodLink "ForestRoomsLaw" (18 : Nat) ({ cls := "ForestRooms", name := "at", desc := "(II)I" } : Jvm.MethodName)) ∈ lw_all := lw_g (lw_at lw_m2 206 rfl) rfl
theorem q671 : (Jvm.Cond.methodLink "ForestRoomsLaw" (23 : Nat) ({ cls := "ForestRooms", name := "needs", desc := "(III)I" } : Jvm.MethodName)) ∈ lw_all := lw_g (lw_at lw_m3 81 rfl) rfl
theorem q678 : (Jvm.Cond.methodLink "ForestRoomsLaw" (27 : Nat) ({ cls := "ForestRooms", name := "terms", desc := "(II)I" } : Jvm.MethodName)) ∈ lw_all := lw_g (lw_at lw_m3 88 rfl) rfl
theorem q685 : (Jvm.Cond.methodLink "ForestRoomsLaw" (31 : Nat) ({ cls := "ForestRooms", name := "feed", desc := "(IIIII)I" } : Jvm.MethodName)) ∈ lw_all := lw_g (lw_at lw_m3 95 rfl) rfl
theorem q693 : (Jvm.Cond.methodLink "ForestRoomsLaw" (36 : Nat) ({ cls := "ForestRooms", name := "end", desc := "(I)I" } : Jvm.MethodName)) ∈ lw_all := lw_g (lw_at lw_m3 103 rfl) rfl
theorem q697 : (Jvm.Cond.methodLink "ForestRoomsLaw" (41 : Nat) ({ cls := "ForestRooms", name := "row", desc := "()I" } : Jvm.MethodName)) ∈ lw_all := lw_g (lw_at lw_m3 107 rfl) rfl
theorem q701 : (Jvm.Cond.methodLink "ForestRoomsLaw" (46 : Nat) ({ cls := "ForestRooms", name := "moss", desc := "()I" } : Jvm.MethodName)) ∈ lw_all := lw_g (lw_at lw_m3 111 rfl) rfl
theorem q705 : (Jvm.Cond.methodLink "ForestRoomsLaw" (50 : Nat) ({ cls := "ForestRooms", name := "law", desc := "()I" } : Jvm.MethodName)) ∈ lw_all := lw_g (lw_at lw_m3 115 rfl) rfl
theorem q1192 : (Jvm.Cond.methodLink "ForestRoomsLaw" (58 : Nat) ({ cls := "ForestRooms", name := "fault", desc := "()I" } : Jvm.MethodName)) ∈ lw_all := lw_g (lw_at lw_m5 122 rfl) rfl
theorem q1196 : (Jvm.Cond.methodLink "ForestRoomsLaw" (62 : Nat) ({ cls := "ForestRooms", name := "stopped", desc := "()I" } : Jvm.MethodName)) ∈ lw_all := lw_g (lw_at lw_m5 126 rfl) rfl
theorem q1200 : (Jvm.Cond.methodLink "ForestRoomsLaw" (66 : Nat) ({ cls := "ForestRooms", name := "force", desc := "(I)I" } : Jvm.MethodName)) ∈ lw_all := lw_g (lw_at lw_m5 130 rfl) rfl
theorem q1204 : (Jvm.Cond.methodLink "ForestRoomsLaw" (70 : Nat) ({ cls := "ForestRooms", name := "asks", desc := "(III)I" } : Jvm.MethodName)) ∈ lw_all := lw_g (lw_at lw_m5 134 rfl) rfl
theorem q1223 : (Jvm.Cond.methodLink "ForestRoomsLaw" (74 : Nat) ({ cls := "ForestRooms", name := "comes", desc := "(III)I" } : Jvm.MethodName)) ∈ lw_all := lw_g (lw_at lw_m5 153 rfl) rfl
theorem q1234 : (Jvm.Cond.methodLink "ForestRoomsLaw" (78 : Nat) ({ cls := "ForestRooms", name := "plant", desc := "(II)I" } : Jvm.MethodName)) ∈ lw_all := lw_g (lw_at lw_m5 164 rfl) rfl
theorem q1255 : (Jvm.Cond.methodLink "ForestRoomsLaw" (82 : Nat) ({ cls := "ForestRooms", name := "prune", desc := "(II)I" } : Jvm.MethodName)) ∈ lw_all := lw_g (lw_at lw_m5 185 rfl) rfl
theorem q1267 : (Jvm.Cond.methodLink "ForestRoomsLaw" (86 : Nat) ({ cls := "ForestRooms", name := "let", desc := "(II)I" } : Jvm.MethodName)) ∈ lw_all := lw_g (lw_at lw_m5 197 rfl) rfl
theorem q1275 : (Jvm.Cond.methodLink "ForestRoomsLaw" (90 : Nat) ({ cls := "ForestRooms", name := "empty", desc := "(I)I" } : Jvm.MethodName)) ∈ lw_all := lw_g (lw_at lw_m5 205 rfl) rfl
theorem q1283 : (Jvm.Cond.methodLink "ForestRoomsLaw" (94 : Nat) ({ cls := "ForestRooms", name := "pass", desc := "()I" } : Jvm.MethodName)) ∈ lw_all := lw_g (lw_at lw_m5 213 rfl) rfl
theorem q1304 : (Jvm.Cond.methodLink "ForestRoomsLaw" (98 : Nat) ({ cls := "ForestRooms", name := "undo", desc := "()I" } : Jvm.MethodName)) ∈ lw_all := lw_g (lw_at lw_m5 234 rfl) rfl
theorem q1308 : (Jvm.Cond.methodLink "ForestRoomsLaw" (102 : Nat) ({ cls := "ForestRooms", name := "will", desc := "(III)I" } : Jvm.MethodName)) ∈ lw_all := lw_g (lw_at lw_m5 238 rfl) rfl
theorem q1316 : (Jvm.Cond.methodLink "ForestRoomsLaw" (106 : Nat) ({ cls := "ForestRooms", name := "wood", desc := "()I" } : Jvm.MethodName)) ∈ lw_all := lw_g (lw_at lw_m6 6 rfl) rfl
theorem q1324 : (Jvm.Cond.methodLink "ForestRoomsLaw" (110 : Nat) ({ cls := "ForestRooms", name := "keep", desc := "(III)I" } : Jvm.MethodName)) ∈ lw_all := lw_g (lw_at lw_m6 14 rfl) rfl
theorem q1341 : (Jvm.Cond.methodLink "ForestRoomsLaw" (114 : Nat) ({ cls := "ForestRooms", name := "homes", desc := "(II)I" } : Jvm.MethodName)) ∈ lw_all := lw_g (lw_at lw_m6 31 rfl) rfl
theorem q1351 : (Jvm.Cond.methodLink "ForestRoomsLaw" (118 : Nat) ({ cls := "ForestRooms", name := "sight", desc := "(III)I" } : Jvm.MethodName)) ∈ lw_all := lw_g (lw_at lw_m6 41 rfl) rfl
theorem q1355 : (Jvm.Cond.methodLink "ForestRoomsLaw" (122 : Nat) ({ cls := "ForestRooms", name := "forget", desc := "()I" } : Jvm.MethodName)) ∈ lw_all := lw_g (lw_at lw_m6 45 rfl) rfl
theorem q1359 : (Jvm.Cond.methodLink "ForestRoomsLaw" (126 : Nat) ({ cls := "ForestRooms", name := "hidden", desc := "(I)I" } : Jvm.MethodName)) ∈ lw_all := lw_g (lw_at lw_m6 49 rfl) rfl
theorem q1371 : (Jvm.Cond.methodLink "ForestRoomsLaw" (130 : Nat) ({ cls := "ForestRooms", name := "next", desc := "(II)I" } : Jvm.MethodName)) ∈ lw_all := lw_g (lw_at lw_m6 61 rfl) rfl
theorem q1376 : (Jvm.Cond.methodLink "ForestRoomsLaw" (134 : Nat) ({ cls := "ForestRooms", name := "roofs", desc := "(II)I" } : Jvm.MethodName)) ∈ lw_all := lw_g (lw_at lw_m6 66 rfl) rfl
theorem q1385 : (Jvm.Cond.methodLink "ForestRoomsLaw" (138 : Nat) ({ cls := "ForestRooms", name := "way", desc := "(I)I" } : Jvm.MethodName)) ∈ lw_all := lw_g (lw_at lw_m6 75 rfl) rfl
theorem q1397 : (Jvm.Cond.methodLink "ForestRoomsLaw" (142 : Nat) ({ cls := "ForestRooms", name := "cut", desc := "(II)I" } : Jvm.MethodName)) ∈ lw_all := lw_g (lw_at lw_m6 87 rfl) rfl
theorem q1401 : (Jvm.Cond.methodLink "ForestRoomsLaw" (146 : Nat) ({ cls := "ForestRooms", name := "share", desc := "(II)I" } : Jvm.MethodName)) ∈ lw_all := lw_g (lw_at lw_m6 91 rfl) rfl
theorem q1407 : (Jvm.Cond.methodLink "ForestRoomsLaw" (150 : Nat) ({ cls := "ForestRooms", name := "game", desc := "(II)I" } : Jvm.MethodName)) ∈ lw_all := lw_g (lw_at lw_m6 97 rfl) rfl
theorem q1411 : (Jvm.Cond.methodLink "ForestRoomsLaw" (54 : Nat) ({ cls := "ForestRooms", name := "orders", desc := "()I" } : Jvm.MethodName)) ∈ lw_all := lw_g (lw_at lw_m6 101 rfl) rfl
theorem q1464 : (Jvm.Cond.methodLink "ForestRoomsLaw" (154 : Nat) ({ cls := "ForestRooms", name := "decade", desc := "(II)I" } : Jvm.MethodName)) ∈ lw_all := lw_g (lw_at lw_m6 154 rfl) rfl
theorem q1475 : (Jvm.Cond.methodLink "ForestRoomsLaw" (158 : Nat) ({ cls := "ForestRooms", name := "drawn", desc := "(II)I" } : Jvm.MethodName)) ∈ lw_all := lw_g (lw_at lw_m6 165 rfl) rfl
theorem q1479 : (Jvm.Cond.methodLink "ForestRoomsLaw" (170 : Nat) ({ cls := "ForestRooms", name := "count", desc := "(I)I" } : Jvm.MethodName)) ∈ lw_all := lw_g (lw_at lw_m6 169 rfl) rfl
theorem q1483 : (Jvm.Cond.methodLink "ForestRoomsLaw" (174 : Nat) ({ cls := "ForestRooms", name := "status", desc := "()I" } : Jvm.MethodName)) ∈ lw_all := lw_g (lw_at lw_m6 173 rfl) rfl
theorem q1487 : (Jvm.Cond.classLink "ForestRoomsLaw" (10 : Nat) "ForestRoomsModel") ∈ lw_all := lw_g (lw_at lw_m6 177 rfl) rfl
theorem q1489 : (Jvm.Cond.methodLink "ForestRoomsLaw" (12 : Nat) ({ cls := "ForestRoomsModel", name := "<init>", desc := "()V" } : Jvm.MethodName)) ∈ lw_all := lw_g (lw_at lw_m6 179 rfl) rfl
theorem q1706 : (Jvm.Cond.methodLink "ForestRoomsLaw" (101 : Nat) ({ cls := "ForestRoomsModel", name := "undo", desc := "()I" } : Jvm.MethodName)) ∈ lw_all := lw_g (lw_at lw_m7 156 rfl) rfl
theorem q1718 : (Jvm.Cond.methodLink "ForestRoomsLaw" (165 : Nat) ({ cls := "ForestRoomsModel", name := "image", desc := "(I)I" } : Jvm.MethodName)) ∈ lw_all := lw_g (lw_at lw_m7 168 rfl) rfl
theorem q1725 : (Jvm.Cond.methodLink "ForestRoomsLaw" (169 : Nat) ({ cls := "ForestRoomsModel", name := "back", desc := "(I)I" } : Jvm.MethodName)) ∈ lw_all := lw_g (lw_at lw_m7 175 rfl) rfl
theorem q1733 : (Jvm.Cond.methodLink "ForestRoomsLaw" (17 : Nat) ({ cls := "ForestRoomsModel", name := "put", desc := "(III)I" } : Jvm.MethodName)) ∈ lw_all := lw_g (lw_at lw_m7 183 rfl) rfl
theorem q1749 : (Jvm.Cond.methodLink "ForestRoomsLaw" (22 : Nat) ({ cls := "ForestRoomsModel", name := "at", desc := "(II)I" } : Jvm.MethodName)) ∈ lw_all := lw_g (lw_at lw_m7 199 rfl) rfl
theorem q1800 : (Jvm.Cond.methodLink "ForestRoomsLaw" (26 : Nat) ({ cls := "ForestRoomsModel", name := "needs", desc := "(III)I" } : Jvm.MethodName)) ∈ lw_all := lw_g (lw_at lw_m8 10 rfl) rfl
theorem q1805 : (Jvm.Cond.methodLink "ForestRoomsLaw" (30 : Nat) ({ cls := "ForestRoomsModel", name := "terms", desc := "(II)I" } : Jvm.MethodName)) ∈ lw_all := lw_g (lw_at lw_m8 15 rfl) rfl
theorem q1812 : (Jvm.Cond.methodLink "ForestRoomsLaw" (45 : Nat) ({ cls := "ForestRoomsModel", name := "row", desc := "()I" } : Jvm.MethodName)) ∈ lw_all := lw_g (lw_at lw_m8 22 rfl) rfl
theorem q1816 : (Jvm.Cond.methodLink "ForestRoomsLaw" (49 : Nat) ({ cls := "ForestRoomsModel", name := "moss", desc := "()I" } : Jvm.MethodName)) ∈ lw_all := lw_g (lw_at lw_m8 26 rfl) rfl
theorem q1820 : (Jvm.Cond.methodLink "ForestRoomsLaw" (35 : Nat) ({ cls := "ForestRoomsModel", name := "feed", desc := "(IIIII)I" } : Jvm.MethodName)) ∈ lw_all := lw_g (lw_at lw_m8 30 rfl) rfl
theorem q1828 : (Jvm.Cond.methodLink "ForestRoomsLaw" (40 : Nat) ({ cls := "ForestRoomsModel", name := "end", desc := "(I)I" } : Jvm.MethodName)) ∈ lw_all := lw_g (lw_at lw_m8 38 rfl) rfl
theorem q1832 : (Jvm.Cond.methodLink "ForestRoomsLaw" (61 : Nat) ({ cls := "ForestRoomsModel", name := "fault", desc := "()I" } : Jvm.MethodName)) ∈ lw_all := lw_g (lw_at lw_m8 42 rfl) rfl
theorem q1836 : (Jvm.Cond.methodLink "ForestRoomsLaw" (53 : Nat) ({ cls := "ForestRoomsModel", name := "law", desc := "()I" } : Jvm.MethodName)) ∈ lw_all := lw_g (lw_at lw_m8 46 rfl) rfl
theorem q1954 : (Jvm.Cond.methodLink "ForestRoomsLaw" (69 : Nat) ({ cls := "ForestRoomsModel", name := "force", desc := "(I)I" } : Jvm.MethodName)) ∈ lw_all := lw_g (lw_at lw_m8 164 rfl) rfl
theorem q1958 : (Jvm.Cond.methodLink "ForestRoomsLaw" (73 : Nat) ({ cls := "ForestRoomsModel", name := "asks", desc := "(III)I" } : Jvm.MethodName)) ∈ lw_all := lw_g (lw_at lw_m8 168 rfl) rfl
theorem q1975 : (Jvm.Cond.methodLink "ForestRoomsLaw" (77 : Nat) ({ cls := "ForestRoomsModel", name := "comes", desc := "(III)I" } : Jvm.MethodName)) ∈ lw_all := lw_g (lw_at lw_m8 185 rfl) rfl
theorem q1987 : (Jvm.Cond.methodLink "ForestRoomsLaw" (81 : Nat) ({ cls := "ForestRoomsModel", name := "plant", desc := "(II)I" } : Jvm.MethodName)) ∈ lw_all := lw_g (lw_at lw_m8 197 rfl) rfl
theorem q2003 : (Jvm.Cond.methodLink "ForestRoomsLaw" (85 : Nat) ({ cls := "ForestRoomsModel", name := "prune", desc := "(II)I" } : Jvm.MethodName)) ∈ lw_all := lw_g (lw_at lw_m8 213 rfl) rfl
theorem q2015 : (Jvm.Cond.methodLink "ForestRoomsLaw" (89 : Nat) ({ cls := "ForestRoomsModel", name := "let", desc := "(II)I" } : Jvm.MethodName)) ∈ lw_all := lw_g (lw_at lw_m8 225 rfl) rfl
theorem q2023 : (Jvm.Cond.methodLink "ForestRoomsLaw" (93 : Nat) ({ cls := "ForestRoomsModel", name := "empty", desc := "(I)I" } : Jvm.MethodName)) ∈ lw_all := lw_g (lw_at lw_m8 233 rfl) rfl
theorem q2031 : (Jvm.Cond.methodLink "ForestRoomsLaw" (97 : Nat) ({ cls := "ForestRoomsModel", name := "pass", desc := "()I" } : Jvm.MethodName)) ∈ lw_all := lw_g (lw_at lw_m9 1 rfl) rfl
theorem q2050 : (Jvm.Cond.methodLink "ForestRoomsLaw" (105 : Nat) ({ cls := "ForestRoomsModel", name := "will", desc := "(III)I" } : Jvm.MethodName)) ∈ lw_all := lw_g (lw_at lw_m9 20 rfl) rfl
theorem q2059 : (Jvm.Cond.methodLink "ForestRoomsLaw" (109 : Nat) ({ cls := "ForestRoomsModel", name := "wood", desc := "()I" } : Jvm.MethodName)) ∈ lw_all := lw_g (lw_at lw_m9 29 rfl) rfl
theorem q2067 : (Jvm.Cond.methodLink "ForestRoomsLaw" (113 : Nat) ({ cls := "ForestRoomsModel", name := "keep", desc := "(III)I" } : Jvm.MethodName)) ∈ lw_all := lw_g (lw_at lw_m9 37 rfl) rfl
theorem q2082 : (Jvm.Cond.methodLink "ForestRoomsLaw" (117 : Nat) ({ cls := "ForestRoomsModel", name := "homes", desc := "(II)I" } : Jvm.MethodName)) ∈ lw_all := lw_g (lw_at lw_m9 52 rfl) rfl
theorem q2100 : (Jvm.Cond.methodLink "ForestRoomsLaw" (121 : Nat) ({ cls := "ForestRoomsModel", name := "sight", desc := "(III)I" } : Jvm.MethodName)) ∈ lw_all := lw_g (lw_at lw_m9 70 rfl) rfl
theorem q2104 : (Jvm.Cond.methodLink "ForestRoomsLaw" (125 : Nat) ({ cls := "ForestRoomsModel", name := "forget", desc := "()I" } : Jvm.MethodName)) ∈ lw_all := lw_g (lw_at lw_m9 74 rfl) rfl
theorem q2108 : (Jvm.Cond.methodLink "ForestRoomsLaw" (129 : Nat) ({ cls := "ForestRoomsModel", name := "hidden", desc := "(I)I" } : Jvm.MethodName)) ∈ lw_all := lw_g (lw_at lw_m9 78 rfl) rfl
theorem q2124 : (Jvm.Cond.methodLink "ForestRoomsLaw" (133 : Nat) ({ cls := "ForestRoomsModel", name := "next", desc := "(II)I" } : Jvm.MethodName)) ∈ lw_all := lw_g (lw_at lw_m9 94 rfl) rfl
theorem q2133 : (Jvm.Cond.methodLink "ForestRoomsLaw" (137 : Nat) ({ cls := "ForestRoomsModel", name := "roofs", desc := "(II)I" } : Jvm.MethodName)) ∈ lw_all := lw_g (lw_at lw_m9 103 rfl) rfl
theorem q2141 : (Jvm.Cond.methodLink "ForestRoomsLaw" (141 : Nat) ({ cls := "ForestRoomsModel", name := "way", desc := "(I)I" } : Jvm.MethodName)) ∈ lw_all := lw_g (lw_at lw_m9 111 rfl) rfl
theorem q2149 : (Jvm.Cond.methodLink "ForestRoomsLaw" (145 : Nat) ({ cls := "ForestRoomsModel", name := "cut", desc := "(II)I" } : Jvm.MethodName)) ∈ lw_all := lw_g (lw_at lw_m9 119 rfl) rfl
theorem q2153 : (Jvm.Cond.methodLink "ForestRoomsLaw" (149 : Nat) ({ cls := "ForestRoomsModel", name := "share", desc := "(II)I" } : Jvm.MethodName)) ∈ lw_all := lw_g (lw_at lw_m9 123 rfl) rfl
theorem q2158 : (Jvm.Cond.methodLink "ForestRoomsLaw" (153 : Nat) ({ cls := "ForestRoomsModel", name := "game", desc := "(II)I" } : Jvm.MethodName)) ∈ lw_all := lw_g (lw_at lw_m9 128 rfl) rfl
theorem q2162 : (Jvm.Cond.methodLink "ForestRoomsLaw" (57 : Nat) ({ cls := "ForestRoomsModel", name := "orders", desc := "()I" } : Jvm.MethodName)) ∈ lw_all := lw_g (lw_at lw_m9 132 rfl) rfl
theorem q2198 : (Jvm.Cond.methodLink "ForestRoomsLaw" (65 : Nat) ({ cls := "ForestRoomsModel", name := "stopped", desc := "()I" } : Jvm.MethodName)) ∈ lw_all := lw_g (lw_at lw_m9 168 rfl) rfl
theorem q2202 : (Jvm.Cond.methodLink "ForestRoomsLaw" (157 : Nat) ({ cls := "ForestRoomsModel", name := "decade", desc := "(II)I" } : Jvm.MethodName)) ∈ lw_all := lw_g (lw_at lw_m9 172 rfl) rfl
theorem q2213 : (Jvm.Cond.methodLink "ForestRoomsLaw" (161 : Nat) ({ cls := "ForestRoomsModel", name := "drawn", desc := "(II)I" } : Jvm.MethodName)) ∈ lw_all := lw_g (lw_at lw_m9 183 rfl) rfl
theorem q2217 : (Jvm.Cond.methodLink "ForestRoomsLaw" (173 : Nat) ({ cls := "ForestRoomsModel", name := "count", desc := "(I)I" } : Jvm.MethodName)) ∈ lw_all := lw_g (lw_at lw_m9 187 rfl) rfl
theorem q2223 : (Jvm.Cond.methodLink "ForestRoomsLaw" (177 : Nat) ({ cls := "ForestRoomsModel", name := "status", desc := "()I" } : Jvm.MethodName)) ∈ lw_all := lw_g (lw_at lw_m9 193 rfl) rfl
theorem q2269 : (Jvm.Cond.castable "[B" "java/lang/Object") ∈ lw_tbl := lw_at lw_m9 239 rfl
set_option maxRecDepth 100000
theorem q2265 : (Jvm.Cond.castable "[I" "java/lang/Object") ∈ lw_tbl := lw_at lw_m9 235 rfl
set_option maxRecDepth 100000
theorem q2270 : (Jvm.Cond.castable "[J" "java/lang/Object") ∈ lw_tbl := lw_at lw_m10 0 rfl
set_option maxRecDepth 100000
theorem q2267 : (Jvm.Cond.castable "[LForestRooms$State;" "java/lang/Object") ∈ lw_tbl := lw_at lw_m9 237 rfl
set_option maxRecDepth 100000
theorem q2268 : (Jvm.Cond.castable "[LForestRooms$Table;" "java/lang/Object") ∈ lw_tbl := lw_at lw_m9 238 rfl
set_option maxRecDepth 100000
theorem q2262 : (Jvm.Cond.sameMethod "[Ljava/lang/Object;" "java/lang/Object" "getClass" "()Ljava/lang/Class;") ∈ lw_all := lw_g (lw_at lw_m9 232 rfl) rfl
set_option maxRecDepth 100000
theorem q2263 : (Jvm.Cond.selects "[Ljava/lang/Object;" ({ cls := "java/lang/Object", name := "getClass", desc := "()Ljava/lang/Class;" } : Jvm.MethodName) ({ cls := "java/lang/Object", name := "getClass", desc := "()Ljava/lang/Class;" } : Jvm.MethodName)) ∈ lw_all := lw_g (lw_at lw_m9 233 rfl) rfl
theorem q2266 : (Jvm.Cond.castable "[Ljava/lang/Object;" "java/lang/Object") ∈ lw_tbl := lw_at lw_m9 236 rfl
theorem q2271 : (Jvm.Cond.castable "[Z" "java/lang/Object") ∈ lw_tbl := lw_at lw_m10 1 rfl
set_option maxRecDepth 100000
theorem q142 : (Jvm.Cond.initialized "java/lang/System") ∈ lw_all := lw_g (lw_at lw_m1 32 rfl) rfl
set_option maxRecDepth 100000
theorem q456 : (Jvm.Cond.static ({ cls := "java/lang/System", name := "arraycopy", desc := "(Ljava/lang/Object;ILjava/lang/Object;II)V" } : Jvm.MethodName)) ∈ lw_all := lw_g (lw_at lw_m2 106 rfl) rfl
theorem q457 : (Jvm.Cond.native ({ cls := "java/lang/System", name := "arraycopy", desc := "(Ljava/lang/Object;ILjava/lang/Object;II)V" } : Jvm.MethodName)) ∈ lw_all := lw_g (lw_at lw_m2 107 rfl) rfl
theorem q469 : (Jvm.Cond.interfaceMethod "java/util/Collection" "java/util/Collection" "toArray" "()[Ljava/lang/Object;") ∈ lw_tbl := lw_at lw_m2 119 rfl
set_option maxRecDepth 100000
theorem q470 : (Jvm.Cond.declares ({ cls := "java/util/Collection", name := "toArray", desc := "()[Ljava/lang/Object;" } : Jvm.MethodName)) ∈ lw_tbl := lw_at lw_m2 120 rfl
theorem q185 : (Jvm.Cond.arrayClass Jvm.ClassFile.FieldType.int) ∈ lw_all := lw_g (lw_at lw_m1 75 rfl) rfl
set_option maxRecDepth 100000
theorem q199 : (Jvm.Cond.arrayOver (Jvm.ClassFile.FieldType.object "java/lang/Object")) ∈ lw_tbl := lw_at lw_m1 89 rfl
theorem q263 : (Jvm.Cond.arrayOver (Jvm.ClassFile.FieldType.object "ForestRooms$State")) ∈ lw_tbl := lw_at lw_m1 153 rfl
theorem q265 : (Jvm.Cond.arrayOver (Jvm.ClassFile.FieldType.object "ForestRooms$Table")) ∈ lw_tbl := lw_at lw_m1 155 rfl
theorem q333 : (Jvm.Cond.arrayClass Jvm.ClassFile.FieldType.byte) ∈ lw_all := lw_g (lw_at lw_m1 223 rfl) rfl
theorem q344 : (Jvm.Cond.arrayClass Jvm.ClassFile.FieldType.long) ∈ lw_all := lw_g (lw_at lw_m1 234 rfl) rfl
theorem q1705 : (Jvm.Cond.arrayClass Jvm.ClassFile.FieldType.boolean) ∈ lw_all := lw_g (lw_at lw_m7 155 rfl) rfl
